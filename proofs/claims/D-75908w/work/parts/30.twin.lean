/-! EW: the reference: one object, its arrays behind it -/
set_option maxRecDepth 100000
abbrev tS : Type := (Nat → Int32) × (Nat → Nat → Int32)
def tI (σ : tS) (k : Nat) (x : Int32) : tS := (fun j => if j = k then x else σ.1 j, σ.2)
def tA (σ : tS) (k : Nat) (f : Nat → Int32) : tS := (σ.1, fun j => if j = k then f else σ.2 j)
theorem tA_tA (σ : tS) (k : Nat) (f f2 : Nat → Int32) : tA (tA σ k f) k f2 = tA σ k f2 := by
  simp only [tA]
  congr 1
  funext j
  by_cases hj : j = k <;> simp [hj]
theorem tA_id (σ : tS) (k : Nat) : tA σ k (σ.2 k) = σ := by
  obtain ⟨a, b⟩ := σ
  simp only [tA]
  congr 1
  funext j
  by_cases hj : j = k <;> simp [hj]
theorem tI_tI (σ : tS) (k : Nat) (x y : Int32) : tI (tI σ k x) k y = tI σ k y := by
  simp only [tI]
  congr 1
  funext j
  by_cases hj : j = k <;> simp [hj]
theorem tI_id (σ : tS) (k : Nat) : tI σ k (σ.1 k) = σ := by
  obtain ⟨a, b⟩ := σ
  simp only [tI]
  congr 1
  funext j
  by_cases hj : j = k <;> simp [hj]
def twF (t : Nat) (σ : tS) : List Value := [.int (σ.1 0), .ref (t + 1), .int (σ.1 2), .int (σ.1 3), .int (σ.1 4), .int (σ.1 5), .int (σ.1 6), .int (σ.1 7), .int (σ.1 8), .int (σ.1 9), .ref (t + 2), .ref (t + 3), .int (σ.1 12), .int (σ.1 13), .int (σ.1 14), .int (σ.1 15), .ref (t + 4), .ref (t + 5), .ref (t + 6), .ref (t + 7), .ref (t + 8), .int (σ.1 21), .int (σ.1 22), .ref (t + 9), .ref (t + 10), .ref (t + 11), .ref (t + 12), .ref (t + 13), .int (σ.1 28), .ref (t + 14), .ref (t + 15), .ref (t + 16), .ref (t + 17), .int (σ.1 33), .int (σ.1 34), .int (σ.1 35), .int (σ.1 36), .int (σ.1 37), .ref (t + 18), .int (σ.1 39), .ref (t + 19), .int (σ.1 41)]
def twC (t : Nat) (σ : tS) : Nat → ac
  | 0 => ob 1 (twF t σ)
  | 1 => aB 700 (σ.2 1)
  | 2 => aB 80 (σ.2 10)
  | 3 => aB 80 (σ.2 11)
  | 4 => aI 176 (σ.2 16)
  | 5 => aI 176 (σ.2 17)
  | 6 => aI 1408 (σ.2 18)
  | 7 => aI 352 (σ.2 19)
  | 8 => aZ 2 (σ.2 20)
  | 9 => aI 80 (σ.2 23)
  | 10 => aI 80 (σ.2 24)
  | 11 => aI 80 (σ.2 25)
  | 12 => aI 80 (σ.2 26)
  | 13 => aI 10 (σ.2 27)
  | 14 => aI 100 (σ.2 29)
  | 15 => aI 100 (σ.2 30)
  | 16 => aI 1100 (σ.2 31)
  | 17 => aI 10 (σ.2 32)
  | 18 => aI 10 (σ.2 38)
  | 19 => aB 300 (σ.2 40)
  | _ => ob 1 []
def tw (t : Nat) (σ : tS) (h : eh) : eh := (fun p => if t ≤ p ∧ p < t + 20 then some (twC t σ (p - t)) else h.1 p, h.2.1, h.2.2)
theorem tw_at (t j : Nat) (σ : tS) (h : eh) (hj : j < 20) : (tw t σ h).1 (t + j) = some (twC t σ j) := by
  simp only [tw]
  rw [if_pos ⟨Nat.le_add_right _ _, by omega⟩, Nat.add_sub_cancel_left]
theorem tw_o (t : Nat) (σ : tS) (h : eh) : (tw t σ h).1 t = some (ob 1 (twF t σ)) := tw_at t 0 σ h (by decide)
theorem tw_ro (g : eg) (t : Nat) (σ : tS) (h : eh) : rd g (tw t σ h) t = some (ob 1 (twF t σ)) := rd_of (tw_o t σ h)
theorem tw_out {t p : Nat} {σ : tS} {h : eh} (hp : p < t ∨ t + 20 ≤ p) : (tw t σ h).1 p = h.1 p := by
  simp only [tw]
  rw [if_neg (by omega)]
theorem tw_set (t j : Nat) (σ σ' : tS) (h : eh) (e : ac) (hj : j < 20) (he : twC t σ' j = e) (ho : ∀ i, i < 20 → i ≠ j → twC t σ' i = twC t σ i) : eh_set (tw t σ h) (t + j) e = tw t σ' h := by
  simp only [eh_set, tw]
  congr 1
  funext p
  by_cases h1 : p = t + j
  · subst h1
    rw [if_pos rfl, if_pos ⟨Nat.le_add_right _ _, by omega⟩, Nat.add_sub_cancel_left, he]
  · rw [if_neg h1]
    by_cases h2 : t ≤ p ∧ p < t + 20
    · rw [if_pos h2, if_pos h2, ho (p - t) (by omega) (by omega)]
    · rw [if_neg h2, if_neg h2]
theorem tw_s1 (t : Nat) (σ : tS) (h : eh) (f : Nat → Int32) : eh_set (tw t σ h) (t + 1) (aB 700 f) = tw t (tA σ 1 f) h := tw_set t 1 σ _ h _ (by decide) rfl (fun i hi hne => by
  match i, hi, hne with
  | 0, _, hne => rfl
  | 1, _, hne => exact absurd rfl hne
  | 2, _, hne => rfl
  | 3, _, hne => rfl
  | 4, _, hne => rfl
  | 5, _, hne => rfl
  | 6, _, hne => rfl
  | 7, _, hne => rfl
  | 8, _, hne => rfl
  | 9, _, hne => rfl
  | 10, _, hne => rfl
  | 11, _, hne => rfl
  | 12, _, hne => rfl
  | 13, _, hne => rfl
  | 14, _, hne => rfl
  | 15, _, hne => rfl
  | 16, _, hne => rfl
  | 17, _, hne => rfl
  | 18, _, hne => rfl
  | 19, _, hne => rfl
  | i + 20, hi, _ => exact absurd hi (by omega))
theorem tw_s10 (t : Nat) (σ : tS) (h : eh) (f : Nat → Int32) : eh_set (tw t σ h) (t + 2) (aB 80 f) = tw t (tA σ 10 f) h := tw_set t 2 σ _ h _ (by decide) rfl (fun i hi hne => by
  match i, hi, hne with
  | 0, _, hne => rfl
  | 1, _, hne => rfl
  | 2, _, hne => exact absurd rfl hne
  | 3, _, hne => rfl
  | 4, _, hne => rfl
  | 5, _, hne => rfl
  | 6, _, hne => rfl
  | 7, _, hne => rfl
  | 8, _, hne => rfl
  | 9, _, hne => rfl
  | 10, _, hne => rfl
  | 11, _, hne => rfl
  | 12, _, hne => rfl
  | 13, _, hne => rfl
  | 14, _, hne => rfl
  | 15, _, hne => rfl
  | 16, _, hne => rfl
  | 17, _, hne => rfl
  | 18, _, hne => rfl
  | 19, _, hne => rfl
  | i + 20, hi, _ => exact absurd hi (by omega))
theorem tw_s11 (t : Nat) (σ : tS) (h : eh) (f : Nat → Int32) : eh_set (tw t σ h) (t + 3) (aB 80 f) = tw t (tA σ 11 f) h := tw_set t 3 σ _ h _ (by decide) rfl (fun i hi hne => by
  match i, hi, hne with
  | 0, _, hne => rfl
  | 1, _, hne => rfl
  | 2, _, hne => rfl
  | 3, _, hne => exact absurd rfl hne
  | 4, _, hne => rfl
  | 5, _, hne => rfl
  | 6, _, hne => rfl
  | 7, _, hne => rfl
  | 8, _, hne => rfl
  | 9, _, hne => rfl
  | 10, _, hne => rfl
  | 11, _, hne => rfl
  | 12, _, hne => rfl
  | 13, _, hne => rfl
  | 14, _, hne => rfl
  | 15, _, hne => rfl
  | 16, _, hne => rfl
  | 17, _, hne => rfl
  | 18, _, hne => rfl
  | 19, _, hne => rfl
  | i + 20, hi, _ => exact absurd hi (by omega))
theorem tw_s16 (t : Nat) (σ : tS) (h : eh) (f : Nat → Int32) : eh_set (tw t σ h) (t + 4) (aI 176 f) = tw t (tA σ 16 f) h := tw_set t 4 σ _ h _ (by decide) rfl (fun i hi hne => by
  match i, hi, hne with
  | 0, _, hne => rfl
  | 1, _, hne => rfl
  | 2, _, hne => rfl
  | 3, _, hne => rfl
  | 4, _, hne => exact absurd rfl hne
  | 5, _, hne => rfl
  | 6, _, hne => rfl
  | 7, _, hne => rfl
  | 8, _, hne => rfl
  | 9, _, hne => rfl
  | 10, _, hne => rfl
  | 11, _, hne => rfl
  | 12, _, hne => rfl
  | 13, _, hne => rfl
  | 14, _, hne => rfl
  | 15, _, hne => rfl
  | 16, _, hne => rfl
  | 17, _, hne => rfl
  | 18, _, hne => rfl
  | 19, _, hne => rfl
  | i + 20, hi, _ => exact absurd hi (by omega))
theorem tw_s17 (t : Nat) (σ : tS) (h : eh) (f : Nat → Int32) : eh_set (tw t σ h) (t + 5) (aI 176 f) = tw t (tA σ 17 f) h := tw_set t 5 σ _ h _ (by decide) rfl (fun i hi hne => by
  match i, hi, hne with
  | 0, _, hne => rfl
  | 1, _, hne => rfl
  | 2, _, hne => rfl
  | 3, _, hne => rfl
  | 4, _, hne => rfl
  | 5, _, hne => exact absurd rfl hne
  | 6, _, hne => rfl
  | 7, _, hne => rfl
  | 8, _, hne => rfl
  | 9, _, hne => rfl
  | 10, _, hne => rfl
  | 11, _, hne => rfl
  | 12, _, hne => rfl
  | 13, _, hne => rfl
  | 14, _, hne => rfl
  | 15, _, hne => rfl
  | 16, _, hne => rfl
  | 17, _, hne => rfl
  | 18, _, hne => rfl
  | 19, _, hne => rfl
  | i + 20, hi, _ => exact absurd hi (by omega))
theorem tw_s18 (t : Nat) (σ : tS) (h : eh) (f : Nat → Int32) : eh_set (tw t σ h) (t + 6) (aI 1408 f) = tw t (tA σ 18 f) h := tw_set t 6 σ _ h _ (by decide) rfl (fun i hi hne => by
  match i, hi, hne with
  | 0, _, hne => rfl
  | 1, _, hne => rfl
  | 2, _, hne => rfl
  | 3, _, hne => rfl
  | 4, _, hne => rfl
  | 5, _, hne => rfl
  | 6, _, hne => exact absurd rfl hne
  | 7, _, hne => rfl
  | 8, _, hne => rfl
  | 9, _, hne => rfl
  | 10, _, hne => rfl
  | 11, _, hne => rfl
  | 12, _, hne => rfl
  | 13, _, hne => rfl
  | 14, _, hne => rfl
  | 15, _, hne => rfl
  | 16, _, hne => rfl
  | 17, _, hne => rfl
  | 18, _, hne => rfl
  | 19, _, hne => rfl
  | i + 20, hi, _ => exact absurd hi (by omega))
theorem tw_s19 (t : Nat) (σ : tS) (h : eh) (f : Nat → Int32) : eh_set (tw t σ h) (t + 7) (aI 352 f) = tw t (tA σ 19 f) h := tw_set t 7 σ _ h _ (by decide) rfl (fun i hi hne => by
  match i, hi, hne with
  | 0, _, hne => rfl
  | 1, _, hne => rfl
  | 2, _, hne => rfl
  | 3, _, hne => rfl
  | 4, _, hne => rfl
  | 5, _, hne => rfl
  | 6, _, hne => rfl
  | 7, _, hne => exact absurd rfl hne
  | 8, _, hne => rfl
  | 9, _, hne => rfl
  | 10, _, hne => rfl
  | 11, _, hne => rfl
  | 12, _, hne => rfl
  | 13, _, hne => rfl
  | 14, _, hne => rfl
  | 15, _, hne => rfl
  | 16, _, hne => rfl
  | 17, _, hne => rfl
  | 18, _, hne => rfl
  | 19, _, hne => rfl
  | i + 20, hi, _ => exact absurd hi (by omega))
theorem tw_s20 (t : Nat) (σ : tS) (h : eh) (f : Nat → Int32) : eh_set (tw t σ h) (t + 8) (aZ 2 f) = tw t (tA σ 20 f) h := tw_set t 8 σ _ h _ (by decide) rfl (fun i hi hne => by
  match i, hi, hne with
  | 0, _, hne => rfl
  | 1, _, hne => rfl
  | 2, _, hne => rfl
  | 3, _, hne => rfl
  | 4, _, hne => rfl
  | 5, _, hne => rfl
  | 6, _, hne => rfl
  | 7, _, hne => rfl
  | 8, _, hne => exact absurd rfl hne
  | 9, _, hne => rfl
  | 10, _, hne => rfl
  | 11, _, hne => rfl
  | 12, _, hne => rfl
  | 13, _, hne => rfl
  | 14, _, hne => rfl
  | 15, _, hne => rfl
  | 16, _, hne => rfl
  | 17, _, hne => rfl
  | 18, _, hne => rfl
  | 19, _, hne => rfl
  | i + 20, hi, _ => exact absurd hi (by omega))
theorem tw_s23 (t : Nat) (σ : tS) (h : eh) (f : Nat → Int32) : eh_set (tw t σ h) (t + 9) (aI 80 f) = tw t (tA σ 23 f) h := tw_set t 9 σ _ h _ (by decide) rfl (fun i hi hne => by
  match i, hi, hne with
  | 0, _, hne => rfl
  | 1, _, hne => rfl
  | 2, _, hne => rfl
  | 3, _, hne => rfl
  | 4, _, hne => rfl
  | 5, _, hne => rfl
  | 6, _, hne => rfl
  | 7, _, hne => rfl
  | 8, _, hne => rfl
  | 9, _, hne => exact absurd rfl hne
  | 10, _, hne => rfl
  | 11, _, hne => rfl
  | 12, _, hne => rfl
  | 13, _, hne => rfl
  | 14, _, hne => rfl
  | 15, _, hne => rfl
  | 16, _, hne => rfl
  | 17, _, hne => rfl
  | 18, _, hne => rfl
  | 19, _, hne => rfl
  | i + 20, hi, _ => exact absurd hi (by omega))
theorem tw_s24 (t : Nat) (σ : tS) (h : eh) (f : Nat → Int32) : eh_set (tw t σ h) (t + 10) (aI 80 f) = tw t (tA σ 24 f) h := tw_set t 10 σ _ h _ (by decide) rfl (fun i hi hne => by
  match i, hi, hne with
  | 0, _, hne => rfl
  | 1, _, hne => rfl
  | 2, _, hne => rfl
  | 3, _, hne => rfl
  | 4, _, hne => rfl
  | 5, _, hne => rfl
  | 6, _, hne => rfl
  | 7, _, hne => rfl
  | 8, _, hne => rfl
  | 9, _, hne => rfl
  | 10, _, hne => exact absurd rfl hne
  | 11, _, hne => rfl
  | 12, _, hne => rfl
  | 13, _, hne => rfl
  | 14, _, hne => rfl
  | 15, _, hne => rfl
  | 16, _, hne => rfl
  | 17, _, hne => rfl
  | 18, _, hne => rfl
  | 19, _, hne => rfl
  | i + 20, hi, _ => exact absurd hi (by omega))
theorem tw_s25 (t : Nat) (σ : tS) (h : eh) (f : Nat → Int32) : eh_set (tw t σ h) (t + 11) (aI 80 f) = tw t (tA σ 25 f) h := tw_set t 11 σ _ h _ (by decide) rfl (fun i hi hne => by
  match i, hi, hne with
  | 0, _, hne => rfl
  | 1, _, hne => rfl
  | 2, _, hne => rfl
  | 3, _, hne => rfl
  | 4, _, hne => rfl
  | 5, _, hne => rfl
  | 6, _, hne => rfl
  | 7, _, hne => rfl
  | 8, _, hne => rfl
  | 9, _, hne => rfl
  | 10, _, hne => rfl
  | 11, _, hne => exact absurd rfl hne
  | 12, _, hne => rfl
  | 13, _, hne => rfl
  | 14, _, hne => rfl
  | 15, _, hne => rfl
  | 16, _, hne => rfl
  | 17, _, hne => rfl
  | 18, _, hne => rfl
  | 19, _, hne => rfl
  | i + 20, hi, _ => exact absurd hi (by omega))
theorem tw_s26 (t : Nat) (σ : tS) (h : eh) (f : Nat → Int32) : eh_set (tw t σ h) (t + 12) (aI 80 f) = tw t (tA σ 26 f) h := tw_set t 12 σ _ h _ (by decide) rfl (fun i hi hne => by
  match i, hi, hne with
  | 0, _, hne => rfl
  | 1, _, hne => rfl
  | 2, _, hne => rfl
  | 3, _, hne => rfl
  | 4, _, hne => rfl
  | 5, _, hne => rfl
  | 6, _, hne => rfl
  | 7, _, hne => rfl
  | 8, _, hne => rfl
  | 9, _, hne => rfl
  | 10, _, hne => rfl
  | 11, _, hne => rfl
  | 12, _, hne => exact absurd rfl hne
  | 13, _, hne => rfl
  | 14, _, hne => rfl
  | 15, _, hne => rfl
  | 16, _, hne => rfl
  | 17, _, hne => rfl
  | 18, _, hne => rfl
  | 19, _, hne => rfl
  | i + 20, hi, _ => exact absurd hi (by omega))
theorem tw_s27 (t : Nat) (σ : tS) (h : eh) (f : Nat → Int32) : eh_set (tw t σ h) (t + 13) (aI 10 f) = tw t (tA σ 27 f) h := tw_set t 13 σ _ h _ (by decide) rfl (fun i hi hne => by
  match i, hi, hne with
  | 0, _, hne => rfl
  | 1, _, hne => rfl
  | 2, _, hne => rfl
  | 3, _, hne => rfl
  | 4, _, hne => rfl
  | 5, _, hne => rfl
  | 6, _, hne => rfl
  | 7, _, hne => rfl
  | 8, _, hne => rfl
  | 9, _, hne => rfl
  | 10, _, hne => rfl
  | 11, _, hne => rfl
  | 12, _, hne => rfl
  | 13, _, hne => exact absurd rfl hne
  | 14, _, hne => rfl
  | 15, _, hne => rfl
  | 16, _, hne => rfl
  | 17, _, hne => rfl
  | 18, _, hne => rfl
  | 19, _, hne => rfl
  | i + 20, hi, _ => exact absurd hi (by omega))
theorem tw_s29 (t : Nat) (σ : tS) (h : eh) (f : Nat → Int32) : eh_set (tw t σ h) (t + 14) (aI 100 f) = tw t (tA σ 29 f) h := tw_set t 14 σ _ h _ (by decide) rfl (fun i hi hne => by
  match i, hi, hne with
  | 0, _, hne => rfl
  | 1, _, hne => rfl
  | 2, _, hne => rfl
  | 3, _, hne => rfl
  | 4, _, hne => rfl
  | 5, _, hne => rfl
  | 6, _, hne => rfl
  | 7, _, hne => rfl
  | 8, _, hne => rfl
  | 9, _, hne => rfl
  | 10, _, hne => rfl
  | 11, _, hne => rfl
  | 12, _, hne => rfl
  | 13, _, hne => rfl
  | 14, _, hne => exact absurd rfl hne
  | 15, _, hne => rfl
  | 16, _, hne => rfl
  | 17, _, hne => rfl
  | 18, _, hne => rfl
  | 19, _, hne => rfl
  | i + 20, hi, _ => exact absurd hi (by omega))
theorem tw_s30 (t : Nat) (σ : tS) (h : eh) (f : Nat → Int32) : eh_set (tw t σ h) (t + 15) (aI 100 f) = tw t (tA σ 30 f) h := tw_set t 15 σ _ h _ (by decide) rfl (fun i hi hne => by
  match i, hi, hne with
  | 0, _, hne => rfl
  | 1, _, hne => rfl
  | 2, _, hne => rfl
  | 3, _, hne => rfl
  | 4, _, hne => rfl
  | 5, _, hne => rfl
  | 6, _, hne => rfl
  | 7, _, hne => rfl
  | 8, _, hne => rfl
  | 9, _, hne => rfl
  | 10, _, hne => rfl
  | 11, _, hne => rfl
  | 12, _, hne => rfl
  | 13, _, hne => rfl
  | 14, _, hne => rfl
  | 15, _, hne => exact absurd rfl hne
  | 16, _, hne => rfl
  | 17, _, hne => rfl
  | 18, _, hne => rfl
  | 19, _, hne => rfl
  | i + 20, hi, _ => exact absurd hi (by omega))
theorem tw_s31 (t : Nat) (σ : tS) (h : eh) (f : Nat → Int32) : eh_set (tw t σ h) (t + 16) (aI 1100 f) = tw t (tA σ 31 f) h := tw_set t 16 σ _ h _ (by decide) rfl (fun i hi hne => by
  match i, hi, hne with
  | 0, _, hne => rfl
  | 1, _, hne => rfl
  | 2, _, hne => rfl
  | 3, _, hne => rfl
  | 4, _, hne => rfl
  | 5, _, hne => rfl
  | 6, _, hne => rfl
  | 7, _, hne => rfl
  | 8, _, hne => rfl
  | 9, _, hne => rfl
  | 10, _, hne => rfl
  | 11, _, hne => rfl
  | 12, _, hne => rfl
  | 13, _, hne => rfl
  | 14, _, hne => rfl
  | 15, _, hne => rfl
  | 16, _, hne => exact absurd rfl hne
  | 17, _, hne => rfl
  | 18, _, hne => rfl
  | 19, _, hne => rfl
  | i + 20, hi, _ => exact absurd hi (by omega))
theorem tw_s32 (t : Nat) (σ : tS) (h : eh) (f : Nat → Int32) : eh_set (tw t σ h) (t + 17) (aI 10 f) = tw t (tA σ 32 f) h := tw_set t 17 σ _ h _ (by decide) rfl (fun i hi hne => by
  match i, hi, hne with
  | 0, _, hne => rfl
  | 1, _, hne => rfl
  | 2, _, hne => rfl
  | 3, _, hne => rfl
  | 4, _, hne => rfl
  | 5, _, hne => rfl
  | 6, _, hne => rfl
  | 7, _, hne => rfl
  | 8, _, hne => rfl
  | 9, _, hne => rfl
  | 10, _, hne => rfl
  | 11, _, hne => rfl
  | 12, _, hne => rfl
  | 13, _, hne => rfl
  | 14, _, hne => rfl
  | 15, _, hne => rfl
  | 16, _, hne => rfl
  | 17, _, hne => exact absurd rfl hne
  | 18, _, hne => rfl
  | 19, _, hne => rfl
  | i + 20, hi, _ => exact absurd hi (by omega))
theorem tw_s38 (t : Nat) (σ : tS) (h : eh) (f : Nat → Int32) : eh_set (tw t σ h) (t + 18) (aI 10 f) = tw t (tA σ 38 f) h := tw_set t 18 σ _ h _ (by decide) rfl (fun i hi hne => by
  match i, hi, hne with
  | 0, _, hne => rfl
  | 1, _, hne => rfl
  | 2, _, hne => rfl
  | 3, _, hne => rfl
  | 4, _, hne => rfl
  | 5, _, hne => rfl
  | 6, _, hne => rfl
  | 7, _, hne => rfl
  | 8, _, hne => rfl
  | 9, _, hne => rfl
  | 10, _, hne => rfl
  | 11, _, hne => rfl
  | 12, _, hne => rfl
  | 13, _, hne => rfl
  | 14, _, hne => rfl
  | 15, _, hne => rfl
  | 16, _, hne => rfl
  | 17, _, hne => rfl
  | 18, _, hne => exact absurd rfl hne
  | 19, _, hne => rfl
  | i + 20, hi, _ => exact absurd hi (by omega))
theorem tw_s40 (t : Nat) (σ : tS) (h : eh) (f : Nat → Int32) : eh_set (tw t σ h) (t + 19) (aB 300 f) = tw t (tA σ 40 f) h := tw_set t 19 σ _ h _ (by decide) rfl (fun i hi hne => by
  match i, hi, hne with
  | 0, _, hne => rfl
  | 1, _, hne => rfl
  | 2, _, hne => rfl
  | 3, _, hne => rfl
  | 4, _, hne => rfl
  | 5, _, hne => rfl
  | 6, _, hne => rfl
  | 7, _, hne => rfl
  | 8, _, hne => rfl
  | 9, _, hne => rfl
  | 10, _, hne => rfl
  | 11, _, hne => rfl
  | 12, _, hne => rfl
  | 13, _, hne => rfl
  | 14, _, hne => rfl
  | 15, _, hne => rfl
  | 16, _, hne => rfl
  | 17, _, hne => rfl
  | 18, _, hne => rfl
  | 19, _, hne => exact absurd rfl hne
  | i + 20, hi, _ => exact absurd hi (by omega))
theorem tw_p0 (t : Nat) (σ : tS) (h : eh) (x : Int32) : eh_set (tw t σ h) t (ob 1 ((twF t σ).set 0 (.int x))) = tw t (tI σ 0 x) h := tw_set t 0 σ _ h _ (by decide) rfl (fun i hi hne => by
  match i, hi, hne with
  | 0, _, hne => exact absurd rfl hne
  | 1, _, hne => rfl
  | 2, _, hne => rfl
  | 3, _, hne => rfl
  | 4, _, hne => rfl
  | 5, _, hne => rfl
  | 6, _, hne => rfl
  | 7, _, hne => rfl
  | 8, _, hne => rfl
  | 9, _, hne => rfl
  | 10, _, hne => rfl
  | 11, _, hne => rfl
  | 12, _, hne => rfl
  | 13, _, hne => rfl
  | 14, _, hne => rfl
  | 15, _, hne => rfl
  | 16, _, hne => rfl
  | 17, _, hne => rfl
  | 18, _, hne => rfl
  | 19, _, hne => rfl
  | i + 20, hi, _ => exact absurd hi (by omega))
theorem tw_p2 (t : Nat) (σ : tS) (h : eh) (x : Int32) : eh_set (tw t σ h) t (ob 1 ((twF t σ).set 2 (.int x))) = tw t (tI σ 2 x) h := tw_set t 0 σ _ h _ (by decide) rfl (fun i hi hne => by
  match i, hi, hne with
  | 0, _, hne => exact absurd rfl hne
  | 1, _, hne => rfl
  | 2, _, hne => rfl
  | 3, _, hne => rfl
  | 4, _, hne => rfl
  | 5, _, hne => rfl
  | 6, _, hne => rfl
  | 7, _, hne => rfl
  | 8, _, hne => rfl
  | 9, _, hne => rfl
  | 10, _, hne => rfl
  | 11, _, hne => rfl
  | 12, _, hne => rfl
  | 13, _, hne => rfl
  | 14, _, hne => rfl
  | 15, _, hne => rfl
  | 16, _, hne => rfl
  | 17, _, hne => rfl
  | 18, _, hne => rfl
  | 19, _, hne => rfl
  | i + 20, hi, _ => exact absurd hi (by omega))
theorem tw_p3 (t : Nat) (σ : tS) (h : eh) (x : Int32) : eh_set (tw t σ h) t (ob 1 ((twF t σ).set 3 (.int x))) = tw t (tI σ 3 x) h := tw_set t 0 σ _ h _ (by decide) rfl (fun i hi hne => by
  match i, hi, hne with
  | 0, _, hne => exact absurd rfl hne
  | 1, _, hne => rfl
  | 2, _, hne => rfl
  | 3, _, hne => rfl
  | 4, _, hne => rfl
  | 5, _, hne => rfl
  | 6, _, hne => rfl
  | 7, _, hne => rfl
  | 8, _, hne => rfl
  | 9, _, hne => rfl
  | 10, _, hne => rfl
  | 11, _, hne => rfl
  | 12, _, hne => rfl
  | 13, _, hne => rfl
  | 14, _, hne => rfl
  | 15, _, hne => rfl
  | 16, _, hne => rfl
  | 17, _, hne => rfl
  | 18, _, hne => rfl
  | 19, _, hne => rfl
  | i + 20, hi, _ => exact absurd hi (by omega))
theorem tw_p4 (t : Nat) (σ : tS) (h : eh) (x : Int32) : eh_set (tw t σ h) t (ob 1 ((twF t σ).set 4 (.int x))) = tw t (tI σ 4 x) h := tw_set t 0 σ _ h _ (by decide) rfl (fun i hi hne => by
  match i, hi, hne with
  | 0, _, hne => exact absurd rfl hne
  | 1, _, hne => rfl
  | 2, _, hne => rfl
  | 3, _, hne => rfl
  | 4, _, hne => rfl
  | 5, _, hne => rfl
  | 6, _, hne => rfl
  | 7, _, hne => rfl
  | 8, _, hne => rfl
  | 9, _, hne => rfl
  | 10, _, hne => rfl
  | 11, _, hne => rfl
  | 12, _, hne => rfl
  | 13, _, hne => rfl
  | 14, _, hne => rfl
  | 15, _, hne => rfl
  | 16, _, hne => rfl
  | 17, _, hne => rfl
  | 18, _, hne => rfl
  | 19, _, hne => rfl
  | i + 20, hi, _ => exact absurd hi (by omega))
theorem tw_p5 (t : Nat) (σ : tS) (h : eh) (x : Int32) : eh_set (tw t σ h) t (ob 1 ((twF t σ).set 5 (.int x))) = tw t (tI σ 5 x) h := tw_set t 0 σ _ h _ (by decide) rfl (fun i hi hne => by
  match i, hi, hne with
  | 0, _, hne => exact absurd rfl hne
  | 1, _, hne => rfl
  | 2, _, hne => rfl
  | 3, _, hne => rfl
  | 4, _, hne => rfl
  | 5, _, hne => rfl
  | 6, _, hne => rfl
  | 7, _, hne => rfl
  | 8, _, hne => rfl
  | 9, _, hne => rfl
  | 10, _, hne => rfl
  | 11, _, hne => rfl
  | 12, _, hne => rfl
  | 13, _, hne => rfl
  | 14, _, hne => rfl
  | 15, _, hne => rfl
  | 16, _, hne => rfl
  | 17, _, hne => rfl
  | 18, _, hne => rfl
  | 19, _, hne => rfl
  | i + 20, hi, _ => exact absurd hi (by omega))
theorem tw_p6 (t : Nat) (σ : tS) (h : eh) (x : Int32) : eh_set (tw t σ h) t (ob 1 ((twF t σ).set 6 (.int x))) = tw t (tI σ 6 x) h := tw_set t 0 σ _ h _ (by decide) rfl (fun i hi hne => by
  match i, hi, hne with
  | 0, _, hne => exact absurd rfl hne
  | 1, _, hne => rfl
  | 2, _, hne => rfl
  | 3, _, hne => rfl
  | 4, _, hne => rfl
  | 5, _, hne => rfl
  | 6, _, hne => rfl
  | 7, _, hne => rfl
  | 8, _, hne => rfl
  | 9, _, hne => rfl
  | 10, _, hne => rfl
  | 11, _, hne => rfl
  | 12, _, hne => rfl
  | 13, _, hne => rfl
  | 14, _, hne => rfl
  | 15, _, hne => rfl
  | 16, _, hne => rfl
  | 17, _, hne => rfl
  | 18, _, hne => rfl
  | 19, _, hne => rfl
  | i + 20, hi, _ => exact absurd hi (by omega))
theorem tw_p7 (t : Nat) (σ : tS) (h : eh) (x : Int32) : eh_set (tw t σ h) t (ob 1 ((twF t σ).set 7 (.int x))) = tw t (tI σ 7 x) h := tw_set t 0 σ _ h _ (by decide) rfl (fun i hi hne => by
  match i, hi, hne with
  | 0, _, hne => exact absurd rfl hne
  | 1, _, hne => rfl
  | 2, _, hne => rfl
  | 3, _, hne => rfl
  | 4, _, hne => rfl
  | 5, _, hne => rfl
  | 6, _, hne => rfl
  | 7, _, hne => rfl
  | 8, _, hne => rfl
  | 9, _, hne => rfl
  | 10, _, hne => rfl
  | 11, _, hne => rfl
  | 12, _, hne => rfl
  | 13, _, hne => rfl
  | 14, _, hne => rfl
  | 15, _, hne => rfl
  | 16, _, hne => rfl
  | 17, _, hne => rfl
  | 18, _, hne => rfl
  | 19, _, hne => rfl
  | i + 20, hi, _ => exact absurd hi (by omega))
theorem tw_p8 (t : Nat) (σ : tS) (h : eh) (x : Int32) : eh_set (tw t σ h) t (ob 1 ((twF t σ).set 8 (.int x))) = tw t (tI σ 8 x) h := tw_set t 0 σ _ h _ (by decide) rfl (fun i hi hne => by
  match i, hi, hne with
  | 0, _, hne => exact absurd rfl hne
  | 1, _, hne => rfl
  | 2, _, hne => rfl
  | 3, _, hne => rfl
  | 4, _, hne => rfl
  | 5, _, hne => rfl
  | 6, _, hne => rfl
  | 7, _, hne => rfl
  | 8, _, hne => rfl
  | 9, _, hne => rfl
  | 10, _, hne => rfl
  | 11, _, hne => rfl
  | 12, _, hne => rfl
  | 13, _, hne => rfl
  | 14, _, hne => rfl
  | 15, _, hne => rfl
  | 16, _, hne => rfl
  | 17, _, hne => rfl
  | 18, _, hne => rfl
  | 19, _, hne => rfl
  | i + 20, hi, _ => exact absurd hi (by omega))
theorem tw_p9 (t : Nat) (σ : tS) (h : eh) (x : Int32) : eh_set (tw t σ h) t (ob 1 ((twF t σ).set 9 (.int x))) = tw t (tI σ 9 x) h := tw_set t 0 σ _ h _ (by decide) rfl (fun i hi hne => by
  match i, hi, hne with
  | 0, _, hne => exact absurd rfl hne
  | 1, _, hne => rfl
  | 2, _, hne => rfl
  | 3, _, hne => rfl
  | 4, _, hne => rfl
  | 5, _, hne => rfl
  | 6, _, hne => rfl
  | 7, _, hne => rfl
  | 8, _, hne => rfl
  | 9, _, hne => rfl
  | 10, _, hne => rfl
  | 11, _, hne => rfl
  | 12, _, hne => rfl
  | 13, _, hne => rfl
  | 14, _, hne => rfl
  | 15, _, hne => rfl
  | 16, _, hne => rfl
  | 17, _, hne => rfl
  | 18, _, hne => rfl
  | 19, _, hne => rfl
  | i + 20, hi, _ => exact absurd hi (by omega))
theorem tw_p12 (t : Nat) (σ : tS) (h : eh) (x : Int32) : eh_set (tw t σ h) t (ob 1 ((twF t σ).set 12 (.int x))) = tw t (tI σ 12 x) h := tw_set t 0 σ _ h _ (by decide) rfl (fun i hi hne => by
  match i, hi, hne with
  | 0, _, hne => exact absurd rfl hne
  | 1, _, hne => rfl
  | 2, _, hne => rfl
  | 3, _, hne => rfl
  | 4, _, hne => rfl
  | 5, _, hne => rfl
  | 6, _, hne => rfl
  | 7, _, hne => rfl
  | 8, _, hne => rfl
  | 9, _, hne => rfl
  | 10, _, hne => rfl
  | 11, _, hne => rfl
  | 12, _, hne => rfl
  | 13, _, hne => rfl
  | 14, _, hne => rfl
  | 15, _, hne => rfl
  | 16, _, hne => rfl
  | 17, _, hne => rfl
  | 18, _, hne => rfl
  | 19, _, hne => rfl
  | i + 20, hi, _ => exact absurd hi (by omega))
theorem tw_p13 (t : Nat) (σ : tS) (h : eh) (x : Int32) : eh_set (tw t σ h) t (ob 1 ((twF t σ).set 13 (.int x))) = tw t (tI σ 13 x) h := tw_set t 0 σ _ h _ (by decide) rfl (fun i hi hne => by
  match i, hi, hne with
  | 0, _, hne => exact absurd rfl hne
  | 1, _, hne => rfl
  | 2, _, hne => rfl
  | 3, _, hne => rfl
  | 4, _, hne => rfl
  | 5, _, hne => rfl
  | 6, _, hne => rfl
  | 7, _, hne => rfl
  | 8, _, hne => rfl
  | 9, _, hne => rfl
  | 10, _, hne => rfl
  | 11, _, hne => rfl
  | 12, _, hne => rfl
  | 13, _, hne => rfl
  | 14, _, hne => rfl
  | 15, _, hne => rfl
  | 16, _, hne => rfl
  | 17, _, hne => rfl
  | 18, _, hne => rfl
  | 19, _, hne => rfl
  | i + 20, hi, _ => exact absurd hi (by omega))
theorem tw_p14 (t : Nat) (σ : tS) (h : eh) (x : Int32) : eh_set (tw t σ h) t (ob 1 ((twF t σ).set 14 (.int x))) = tw t (tI σ 14 x) h := tw_set t 0 σ _ h _ (by decide) rfl (fun i hi hne => by
  match i, hi, hne with
  | 0, _, hne => exact absurd rfl hne
  | 1, _, hne => rfl
  | 2, _, hne => rfl
  | 3, _, hne => rfl
  | 4, _, hne => rfl
  | 5, _, hne => rfl
  | 6, _, hne => rfl
  | 7, _, hne => rfl
  | 8, _, hne => rfl
  | 9, _, hne => rfl
  | 10, _, hne => rfl
  | 11, _, hne => rfl
  | 12, _, hne => rfl
  | 13, _, hne => rfl
  | 14, _, hne => rfl
  | 15, _, hne => rfl
  | 16, _, hne => rfl
  | 17, _, hne => rfl
  | 18, _, hne => rfl
  | 19, _, hne => rfl
  | i + 20, hi, _ => exact absurd hi (by omega))
theorem tw_p15 (t : Nat) (σ : tS) (h : eh) (x : Int32) : eh_set (tw t σ h) t (ob 1 ((twF t σ).set 15 (.int x))) = tw t (tI σ 15 x) h := tw_set t 0 σ _ h _ (by decide) rfl (fun i hi hne => by
  match i, hi, hne with
  | 0, _, hne => exact absurd rfl hne
  | 1, _, hne => rfl
  | 2, _, hne => rfl
  | 3, _, hne => rfl
  | 4, _, hne => rfl
  | 5, _, hne => rfl
  | 6, _, hne => rfl
  | 7, _, hne => rfl
  | 8, _, hne => rfl
  | 9, _, hne => rfl
  | 10, _, hne => rfl
  | 11, _, hne => rfl
  | 12, _, hne => rfl
  | 13, _, hne => rfl
  | 14, _, hne => rfl
  | 15, _, hne => rfl
  | 16, _, hne => rfl
  | 17, _, hne => rfl
  | 18, _, hne => rfl
  | 19, _, hne => rfl
  | i + 20, hi, _ => exact absurd hi (by omega))
theorem tw_p21 (t : Nat) (σ : tS) (h : eh) (x : Int32) : eh_set (tw t σ h) t (ob 1 ((twF t σ).set 21 (.int x))) = tw t (tI σ 21 x) h := tw_set t 0 σ _ h _ (by decide) rfl (fun i hi hne => by
  match i, hi, hne with
  | 0, _, hne => exact absurd rfl hne
  | 1, _, hne => rfl
  | 2, _, hne => rfl
  | 3, _, hne => rfl
  | 4, _, hne => rfl
  | 5, _, hne => rfl
  | 6, _, hne => rfl
  | 7, _, hne => rfl
  | 8, _, hne => rfl
  | 9, _, hne => rfl
  | 10, _, hne => rfl
  | 11, _, hne => rfl
  | 12, _, hne => rfl
  | 13, _, hne => rfl
  | 14, _, hne => rfl
  | 15, _, hne => rfl
  | 16, _, hne => rfl
  | 17, _, hne => rfl
  | 18, _, hne => rfl
  | 19, _, hne => rfl
  | i + 20, hi, _ => exact absurd hi (by omega))
theorem tw_p22 (t : Nat) (σ : tS) (h : eh) (x : Int32) : eh_set (tw t σ h) t (ob 1 ((twF t σ).set 22 (.int x))) = tw t (tI σ 22 x) h := tw_set t 0 σ _ h _ (by decide) rfl (fun i hi hne => by
  match i, hi, hne with
  | 0, _, hne => exact absurd rfl hne
  | 1, _, hne => rfl
  | 2, _, hne => rfl
  | 3, _, hne => rfl
  | 4, _, hne => rfl
  | 5, _, hne => rfl
  | 6, _, hne => rfl
  | 7, _, hne => rfl
  | 8, _, hne => rfl
  | 9, _, hne => rfl
  | 10, _, hne => rfl
  | 11, _, hne => rfl
  | 12, _, hne => rfl
  | 13, _, hne => rfl
  | 14, _, hne => rfl
  | 15, _, hne => rfl
  | 16, _, hne => rfl
  | 17, _, hne => rfl
  | 18, _, hne => rfl
  | 19, _, hne => rfl
  | i + 20, hi, _ => exact absurd hi (by omega))
theorem tw_p28 (t : Nat) (σ : tS) (h : eh) (x : Int32) : eh_set (tw t σ h) t (ob 1 ((twF t σ).set 28 (.int x))) = tw t (tI σ 28 x) h := tw_set t 0 σ _ h _ (by decide) rfl (fun i hi hne => by
  match i, hi, hne with
  | 0, _, hne => exact absurd rfl hne
  | 1, _, hne => rfl
  | 2, _, hne => rfl
  | 3, _, hne => rfl
  | 4, _, hne => rfl
  | 5, _, hne => rfl
  | 6, _, hne => rfl
  | 7, _, hne => rfl
  | 8, _, hne => rfl
  | 9, _, hne => rfl
  | 10, _, hne => rfl
  | 11, _, hne => rfl
  | 12, _, hne => rfl
  | 13, _, hne => rfl
  | 14, _, hne => rfl
  | 15, _, hne => rfl
  | 16, _, hne => rfl
  | 17, _, hne => rfl
  | 18, _, hne => rfl
  | 19, _, hne => rfl
  | i + 20, hi, _ => exact absurd hi (by omega))
theorem tw_p33 (t : Nat) (σ : tS) (h : eh) (x : Int32) : eh_set (tw t σ h) t (ob 1 ((twF t σ).set 33 (.int x))) = tw t (tI σ 33 x) h := tw_set t 0 σ _ h _ (by decide) rfl (fun i hi hne => by
  match i, hi, hne with
  | 0, _, hne => exact absurd rfl hne
  | 1, _, hne => rfl
  | 2, _, hne => rfl
  | 3, _, hne => rfl
  | 4, _, hne => rfl
  | 5, _, hne => rfl
  | 6, _, hne => rfl
  | 7, _, hne => rfl
  | 8, _, hne => rfl
  | 9, _, hne => rfl
  | 10, _, hne => rfl
  | 11, _, hne => rfl
  | 12, _, hne => rfl
  | 13, _, hne => rfl
  | 14, _, hne => rfl
  | 15, _, hne => rfl
  | 16, _, hne => rfl
  | 17, _, hne => rfl
  | 18, _, hne => rfl
  | 19, _, hne => rfl
  | i + 20, hi, _ => exact absurd hi (by omega))
theorem tw_p34 (t : Nat) (σ : tS) (h : eh) (x : Int32) : eh_set (tw t σ h) t (ob 1 ((twF t σ).set 34 (.int x))) = tw t (tI σ 34 x) h := tw_set t 0 σ _ h _ (by decide) rfl (fun i hi hne => by
  match i, hi, hne with
  | 0, _, hne => exact absurd rfl hne
  | 1, _, hne => rfl
  | 2, _, hne => rfl
  | 3, _, hne => rfl
  | 4, _, hne => rfl
  | 5, _, hne => rfl
  | 6, _, hne => rfl
  | 7, _, hne => rfl
  | 8, _, hne => rfl
  | 9, _, hne => rfl
  | 10, _, hne => rfl
  | 11, _, hne => rfl
  | 12, _, hne => rfl
  | 13, _, hne => rfl
  | 14, _, hne => rfl
  | 15, _, hne => rfl
  | 16, _, hne => rfl
  | 17, _, hne => rfl
  | 18, _, hne => rfl
  | 19, _, hne => rfl
  | i + 20, hi, _ => exact absurd hi (by omega))
theorem tw_p35 (t : Nat) (σ : tS) (h : eh) (x : Int32) : eh_set (tw t σ h) t (ob 1 ((twF t σ).set 35 (.int x))) = tw t (tI σ 35 x) h := tw_set t 0 σ _ h _ (by decide) rfl (fun i hi hne => by
  match i, hi, hne with
  | 0, _, hne => exact absurd rfl hne
  | 1, _, hne => rfl
  | 2, _, hne => rfl
  | 3, _, hne => rfl
  | 4, _, hne => rfl
  | 5, _, hne => rfl
  | 6, _, hne => rfl
  | 7, _, hne => rfl
  | 8, _, hne => rfl
  | 9, _, hne => rfl
  | 10, _, hne => rfl
  | 11, _, hne => rfl
  | 12, _, hne => rfl
  | 13, _, hne => rfl
  | 14, _, hne => rfl
  | 15, _, hne => rfl
  | 16, _, hne => rfl
  | 17, _, hne => rfl
  | 18, _, hne => rfl
  | 19, _, hne => rfl
  | i + 20, hi, _ => exact absurd hi (by omega))
theorem tw_p36 (t : Nat) (σ : tS) (h : eh) (x : Int32) : eh_set (tw t σ h) t (ob 1 ((twF t σ).set 36 (.int x))) = tw t (tI σ 36 x) h := tw_set t 0 σ _ h _ (by decide) rfl (fun i hi hne => by
  match i, hi, hne with
  | 0, _, hne => exact absurd rfl hne
  | 1, _, hne => rfl
  | 2, _, hne => rfl
  | 3, _, hne => rfl
  | 4, _, hne => rfl
  | 5, _, hne => rfl
  | 6, _, hne => rfl
  | 7, _, hne => rfl
  | 8, _, hne => rfl
  | 9, _, hne => rfl
  | 10, _, hne => rfl
  | 11, _, hne => rfl
  | 12, _, hne => rfl
  | 13, _, hne => rfl
  | 14, _, hne => rfl
  | 15, _, hne => rfl
  | 16, _, hne => rfl
  | 17, _, hne => rfl
  | 18, _, hne => rfl
  | 19, _, hne => rfl
  | i + 20, hi, _ => exact absurd hi (by omega))
theorem tw_p37 (t : Nat) (σ : tS) (h : eh) (x : Int32) : eh_set (tw t σ h) t (ob 1 ((twF t σ).set 37 (.int x))) = tw t (tI σ 37 x) h := tw_set t 0 σ _ h _ (by decide) rfl (fun i hi hne => by
  match i, hi, hne with
  | 0, _, hne => exact absurd rfl hne
  | 1, _, hne => rfl
  | 2, _, hne => rfl
  | 3, _, hne => rfl
  | 4, _, hne => rfl
  | 5, _, hne => rfl
  | 6, _, hne => rfl
  | 7, _, hne => rfl
  | 8, _, hne => rfl
  | 9, _, hne => rfl
  | 10, _, hne => rfl
  | 11, _, hne => rfl
  | 12, _, hne => rfl
  | 13, _, hne => rfl
  | 14, _, hne => rfl
  | 15, _, hne => rfl
  | 16, _, hne => rfl
  | 17, _, hne => rfl
  | 18, _, hne => rfl
  | 19, _, hne => rfl
  | i + 20, hi, _ => exact absurd hi (by omega))
theorem tw_p39 (t : Nat) (σ : tS) (h : eh) (x : Int32) : eh_set (tw t σ h) t (ob 1 ((twF t σ).set 39 (.int x))) = tw t (tI σ 39 x) h := tw_set t 0 σ _ h _ (by decide) rfl (fun i hi hne => by
  match i, hi, hne with
  | 0, _, hne => exact absurd rfl hne
  | 1, _, hne => rfl
  | 2, _, hne => rfl
  | 3, _, hne => rfl
  | 4, _, hne => rfl
  | 5, _, hne => rfl
  | 6, _, hne => rfl
  | 7, _, hne => rfl
  | 8, _, hne => rfl
  | 9, _, hne => rfl
  | 10, _, hne => rfl
  | 11, _, hne => rfl
  | 12, _, hne => rfl
  | 13, _, hne => rfl
  | 14, _, hne => rfl
  | 15, _, hne => rfl
  | 16, _, hne => rfl
  | 17, _, hne => rfl
  | 18, _, hne => rfl
  | 19, _, hne => rfl
  | i + 20, hi, _ => exact absurd hi (by omega))
theorem tw_p41 (t : Nat) (σ : tS) (h : eh) (x : Int32) : eh_set (tw t σ h) t (ob 1 ((twF t σ).set 41 (.int x))) = tw t (tI σ 41 x) h := tw_set t 0 σ _ h _ (by decide) rfl (fun i hi hne => by
  match i, hi, hne with
  | 0, _, hne => exact absurd rfl hne
  | 1, _, hne => rfl
  | 2, _, hne => rfl
  | 3, _, hne => rfl
  | 4, _, hne => rfl
  | 5, _, hne => rfl
  | 6, _, hne => rfl
  | 7, _, hne => rfl
  | 8, _, hne => rfl
  | 9, _, hne => rfl
  | 10, _, hne => rfl
  | 11, _, hne => rfl
  | 12, _, hne => rfl
  | 13, _, hne => rfl
  | 14, _, hne => rfl
  | 15, _, hne => rfl
  | 16, _, hne => rfl
  | 17, _, hne => rfl
  | 18, _, hne => rfl
  | 19, _, hne => rfl
  | i + 20, hi, _ => exact absurd hi (by omega))
theorem tg_g0 {g : eg} {K : ek} {d pc t : Nat} {σ : tS} {L rest : List Value} {h : eh} {Q : Outcome → eh → Prop} (ho : K.1.cls = RX2) (hdg : decode K.2.1 pc = .ok (.getfield 73, 3)) (kk : ew_G g K d (pc + 3) L (.int (σ.1 0) :: rest) (tw t σ h) Q) : ew_G g K d pc L (.ref t :: rest) (tw t σ h) Q :=
  ew_getf (by rw [ho]; exact fX2_73) (tw_ro g t σ h) rfl hdg kk
theorem tg_p0 {g : eg} {K : ek} {d pc t : Nat} {σ : tS} {L rest : List Value} {h : eh} {Q : Outcome → eh → Prop} {x : Int32} (ho : K.1.cls = RX2) (hdg : decode K.2.1 pc = .ok (.putfield 73, 3)) (kk : ew_G g K d (pc + 3) L rest (tw t (tI σ 0 x) h) Q) : ew_G g K d pc L (.int x :: .ref t :: rest) (tw t σ h) Q := by
  refine ew_putf (fin := false) (ty := .int) (by rw [ho]; exact pX2_73) (tw_o t σ h) rfl (Nat.le_of_ble_eq_true rfl) rfl rfl (fun h9 => absurd h9 Bool.false_ne_true) hdg ?_
  rw [tw_p0]
  exact kk
theorem tg_g1 {g : eg} {K : ek} {d pc t : Nat} {σ : tS} {L rest : List Value} {h : eh} {Q : Outcome → eh → Prop} (ho : K.1.cls = RX2) (hdg : decode K.2.1 pc = .ok (.getfield 9, 3)) (kk : ew_G g K d (pc + 3) L (.ref (t + 1) :: rest) (tw t σ h) Q) : ew_G g K d pc L (.ref t :: rest) (tw t σ h) Q :=
  ew_getf (by rw [ho]; exact fX2_9) (tw_ro g t σ h) rfl hdg kk
theorem tg_l1 {g : eg} {K : ek} {d pc t : Nat} {σ : tS} {L rest : List Value} {h : eh} {Q : Outcome → eh → Prop} {i : Int32} {j : Nat} (hj : i = nI j) (hlt : j < 700) (hdg : decode K.2.1 pc = .ok (.baload, 1)) (kk : ew_G g K d (pc + 1) L (.int (σ.2 1 j) :: rest) (tw t σ h) Q) : ew_G g K d pc L (.int i :: .ref (t + 1) :: rest) (tw t σ h) Q :=
  ew_baJ (rd_of (tw_at t 1 σ h (by decide))) hj hlt (by decide) hdg kk
theorem tg_s1 {g : eg} {K : ek} {d pc t : Nat} {σ : tS} {L rest : List Value} {h : eh} {Q : Outcome → eh → Prop} {i x : Int32} {j : Nat} (hj : i = nI j) (hlt : j < 700) (hdg : decode K.2.1 pc = .ok (.bastore, 1)) (kk : ew_G g K d (pc + 1) L rest (tw t (tA σ 1 (upd (σ.2 1) j (vp_nar .byte x))) h) Q) : ew_G g K d pc L (.int x :: .int i :: .ref (t + 1) :: rest) (tw t σ h) Q := by
  refine ew_baS (tw_at t 1 σ h (by decide)) hj hlt (by decide) hdg ?_
  rw [tw_s1]
  exact kk
theorem tg_n1 {g : eg} {K : ek} {d pc t : Nat} {σ : tS} {L rest : List Value} {h : eh} {Q : Outcome → eh → Prop} (hdg : decode K.2.1 pc = .ok (.arraylength, 1)) (kk : ew_G g K d (pc + 1) L (.int 700 :: rest) (tw t σ h) Q) : ew_G g K d pc L (.ref (t + 1) :: rest) (tw t σ h) Q :=
  ew_alen (rd_of (tw_at t 1 σ h (by decide))) rfl hdg kk
theorem tg_g2 {g : eg} {K : ek} {d pc t : Nat} {σ : tS} {L rest : List Value} {h : eh} {Q : Outcome → eh → Prop} (ho : K.1.cls = RX2) (hdg : decode K.2.1 pc = .ok (.getfield 76, 3)) (kk : ew_G g K d (pc + 3) L (.int (σ.1 2) :: rest) (tw t σ h) Q) : ew_G g K d pc L (.ref t :: rest) (tw t σ h) Q :=
  ew_getf (by rw [ho]; exact fX2_76) (tw_ro g t σ h) rfl hdg kk
theorem tg_p2 {g : eg} {K : ek} {d pc t : Nat} {σ : tS} {L rest : List Value} {h : eh} {Q : Outcome → eh → Prop} {x : Int32} (ho : K.1.cls = RX2) (hdg : decode K.2.1 pc = .ok (.putfield 76, 3)) (kk : ew_G g K d (pc + 3) L rest (tw t (tI σ 2 x) h) Q) : ew_G g K d pc L (.int x :: .ref t :: rest) (tw t σ h) Q := by
  refine ew_putf (fin := false) (ty := .int) (by rw [ho]; exact pX2_76) (tw_o t σ h) rfl (Nat.le_of_ble_eq_true rfl) rfl rfl (fun h9 => absurd h9 Bool.false_ne_true) hdg ?_
  rw [tw_p2]
  exact kk
theorem tg_g3 {g : eg} {K : ek} {d pc t : Nat} {σ : tS} {L rest : List Value} {h : eh} {Q : Outcome → eh → Prop} (ho : K.1.cls = RX2) (hdg : decode K.2.1 pc = .ok (.getfield 83, 3)) (kk : ew_G g K d (pc + 3) L (.int (σ.1 3) :: rest) (tw t σ h) Q) : ew_G g K d pc L (.ref t :: rest) (tw t σ h) Q :=
  ew_getf (by rw [ho]; exact fX2_83) (tw_ro g t σ h) rfl hdg kk
theorem tg_p3 {g : eg} {K : ek} {d pc t : Nat} {σ : tS} {L rest : List Value} {h : eh} {Q : Outcome → eh → Prop} {x : Int32} (ho : K.1.cls = RX2) (hdg : decode K.2.1 pc = .ok (.putfield 83, 3)) (kk : ew_G g K d (pc + 3) L rest (tw t (tI σ 3 x) h) Q) : ew_G g K d pc L (.int x :: .ref t :: rest) (tw t σ h) Q := by
  refine ew_putf (fin := false) (ty := .int) (by rw [ho]; exact pX2_83) (tw_o t σ h) rfl (Nat.le_of_ble_eq_true rfl) rfl rfl (fun h9 => absurd h9 Bool.false_ne_true) hdg ?_
  rw [tw_p3]
  exact kk
theorem tg_g4 {g : eg} {K : ek} {d pc t : Nat} {σ : tS} {L rest : List Value} {h : eh} {Q : Outcome → eh → Prop} (ho : K.1.cls = RX2) (hdg : decode K.2.1 pc = .ok (.getfield 13, 3)) (kk : ew_G g K d (pc + 3) L (.int (σ.1 4) :: rest) (tw t σ h) Q) : ew_G g K d pc L (.ref t :: rest) (tw t σ h) Q :=
  ew_getf (by rw [ho]; exact fX2_13) (tw_ro g t σ h) rfl hdg kk
theorem tg_p4 {g : eg} {K : ek} {d pc t : Nat} {σ : tS} {L rest : List Value} {h : eh} {Q : Outcome → eh → Prop} {x : Int32} (ho : K.1.cls = RX2) (hdg : decode K.2.1 pc = .ok (.putfield 13, 3)) (kk : ew_G g K d (pc + 3) L rest (tw t (tI σ 4 x) h) Q) : ew_G g K d pc L (.int x :: .ref t :: rest) (tw t σ h) Q := by
  refine ew_putf (fin := false) (ty := .int) (by rw [ho]; exact pX2_13) (tw_o t σ h) rfl (Nat.le_of_ble_eq_true rfl) rfl rfl (fun h9 => absurd h9 Bool.false_ne_true) hdg ?_
  rw [tw_p4]
  exact kk
theorem tg_g5 {g : eg} {K : ek} {d pc t : Nat} {σ : tS} {L rest : List Value} {h : eh} {Q : Outcome → eh → Prop} (ho : K.1.cls = RX2) (hdg : decode K.2.1 pc = .ok (.getfield 86, 3)) (kk : ew_G g K d (pc + 3) L (.int (σ.1 5) :: rest) (tw t σ h) Q) : ew_G g K d pc L (.ref t :: rest) (tw t σ h) Q :=
  ew_getf (by rw [ho]; exact fX2_86) (tw_ro g t σ h) rfl hdg kk
theorem tg_p5 {g : eg} {K : ek} {d pc t : Nat} {σ : tS} {L rest : List Value} {h : eh} {Q : Outcome → eh → Prop} {x : Int32} (ho : K.1.cls = RX2) (hdg : decode K.2.1 pc = .ok (.putfield 86, 3)) (kk : ew_G g K d (pc + 3) L rest (tw t (tI σ 5 x) h) Q) : ew_G g K d pc L (.int x :: .ref t :: rest) (tw t σ h) Q := by
  refine ew_putf (fin := false) (ty := .int) (by rw [ho]; exact pX2_86) (tw_o t σ h) rfl (Nat.le_of_ble_eq_true rfl) rfl rfl (fun h9 => absurd h9 Bool.false_ne_true) hdg ?_
  rw [tw_p5]
  exact kk
theorem tg_g6 {g : eg} {K : ek} {d pc t : Nat} {σ : tS} {L rest : List Value} {h : eh} {Q : Outcome → eh → Prop} (ho : K.1.cls = RX2) (hdg : decode K.2.1 pc = .ok (.getfield 96, 3)) (kk : ew_G g K d (pc + 3) L (.int (σ.1 6) :: rest) (tw t σ h) Q) : ew_G g K d pc L (.ref t :: rest) (tw t σ h) Q :=
  ew_getf (by rw [ho]; exact fX2_96) (tw_ro g t σ h) rfl hdg kk
theorem tg_p6 {g : eg} {K : ek} {d pc t : Nat} {σ : tS} {L rest : List Value} {h : eh} {Q : Outcome → eh → Prop} {x : Int32} (ho : K.1.cls = RX2) (hdg : decode K.2.1 pc = .ok (.putfield 96, 3)) (kk : ew_G g K d (pc + 3) L rest (tw t (tI σ 6 x) h) Q) : ew_G g K d pc L (.int x :: .ref t :: rest) (tw t σ h) Q := by
  refine ew_putf (fin := false) (ty := .int) (by rw [ho]; exact pX2_96) (tw_o t σ h) rfl (Nat.le_of_ble_eq_true rfl) rfl rfl (fun h9 => absurd h9 Bool.false_ne_true) hdg ?_
  rw [tw_p6]
  exact kk
theorem tg_g7 {g : eg} {K : ek} {d pc t : Nat} {σ : tS} {L rest : List Value} {h : eh} {Q : Outcome → eh → Prop} (ho : K.1.cls = RX2) (hdg : decode K.2.1 pc = .ok (.getfield 89, 3)) (kk : ew_G g K d (pc + 3) L (.int (σ.1 7) :: rest) (tw t σ h) Q) : ew_G g K d pc L (.ref t :: rest) (tw t σ h) Q :=
  ew_getf (by rw [ho]; exact fX2_89) (tw_ro g t σ h) rfl hdg kk
theorem tg_p7 {g : eg} {K : ek} {d pc t : Nat} {σ : tS} {L rest : List Value} {h : eh} {Q : Outcome → eh → Prop} {x : Int32} (ho : K.1.cls = RX2) (hdg : decode K.2.1 pc = .ok (.putfield 89, 3)) (kk : ew_G g K d (pc + 3) L rest (tw t (tI σ 7 x) h) Q) : ew_G g K d pc L (.int x :: .ref t :: rest) (tw t σ h) Q := by
  refine ew_putf (fin := false) (ty := .int) (by rw [ho]; exact pX2_89) (tw_o t σ h) rfl (Nat.le_of_ble_eq_true rfl) rfl rfl (fun h9 => absurd h9 Bool.false_ne_true) hdg ?_
  rw [tw_p7]
  exact kk
theorem tg_g8 {g : eg} {K : ek} {d pc t : Nat} {σ : tS} {L rest : List Value} {h : eh} {Q : Outcome → eh → Prop} (ho : K.1.cls = RX2) (hdg : decode K.2.1 pc = .ok (.getfield 99, 3)) (kk : ew_G g K d (pc + 3) L (.int (σ.1 8) :: rest) (tw t σ h) Q) : ew_G g K d pc L (.ref t :: rest) (tw t σ h) Q :=
  ew_getf (by rw [ho]; exact fX2_99) (tw_ro g t σ h) rfl hdg kk
theorem tg_p8 {g : eg} {K : ek} {d pc t : Nat} {σ : tS} {L rest : List Value} {h : eh} {Q : Outcome → eh → Prop} {x : Int32} (ho : K.1.cls = RX2) (hdg : decode K.2.1 pc = .ok (.putfield 99, 3)) (kk : ew_G g K d (pc + 3) L rest (tw t (tI σ 8 x) h) Q) : ew_G g K d pc L (.int x :: .ref t :: rest) (tw t σ h) Q := by
  refine ew_putf (fin := false) (ty := .int) (by rw [ho]; exact pX2_99) (tw_o t σ h) rfl (Nat.le_of_ble_eq_true rfl) rfl rfl (fun h9 => absurd h9 Bool.false_ne_true) hdg ?_
  rw [tw_p8]
  exact kk
theorem tg_g9 {g : eg} {K : ek} {d pc t : Nat} {σ : tS} {L rest : List Value} {h : eh} {Q : Outcome → eh → Prop} (ho : K.1.cls = RX2) (hdg : decode K.2.1 pc = .ok (.getfield 106, 3)) (kk : ew_G g K d (pc + 3) L (.int (σ.1 9) :: rest) (tw t σ h) Q) : ew_G g K d pc L (.ref t :: rest) (tw t σ h) Q :=
  ew_getf (by rw [ho]; exact fX2_106) (tw_ro g t σ h) rfl hdg kk
theorem tg_p9 {g : eg} {K : ek} {d pc t : Nat} {σ : tS} {L rest : List Value} {h : eh} {Q : Outcome → eh → Prop} {x : Int32} (ho : K.1.cls = RX2) (hdg : decode K.2.1 pc = .ok (.putfield 106, 3)) (kk : ew_G g K d (pc + 3) L rest (tw t (tI σ 9 x) h) Q) : ew_G g K d pc L (.int x :: .ref t :: rest) (tw t σ h) Q := by
  refine ew_putf (fin := false) (ty := .int) (by rw [ho]; exact pX2_106) (tw_o t σ h) rfl (Nat.le_of_ble_eq_true rfl) rfl rfl (fun h9 => absurd h9 Bool.false_ne_true) hdg ?_
  rw [tw_p9]
  exact kk
theorem tg_g10 {g : eg} {K : ek} {d pc t : Nat} {σ : tS} {L rest : List Value} {h : eh} {Q : Outcome → eh → Prop} (ho : K.1.cls = RX2) (hdg : decode K.2.1 pc = .ok (.getfield 17, 3)) (kk : ew_G g K d (pc + 3) L (.ref (t + 2) :: rest) (tw t σ h) Q) : ew_G g K d pc L (.ref t :: rest) (tw t σ h) Q :=
  ew_getf (by rw [ho]; exact fX2_17) (tw_ro g t σ h) rfl hdg kk
theorem tg_l10 {g : eg} {K : ek} {d pc t : Nat} {σ : tS} {L rest : List Value} {h : eh} {Q : Outcome → eh → Prop} {i : Int32} {j : Nat} (hj : i = nI j) (hlt : j < 80) (hdg : decode K.2.1 pc = .ok (.baload, 1)) (kk : ew_G g K d (pc + 1) L (.int (σ.2 10 j) :: rest) (tw t σ h) Q) : ew_G g K d pc L (.int i :: .ref (t + 2) :: rest) (tw t σ h) Q :=
  ew_baJ (rd_of (tw_at t 2 σ h (by decide))) hj hlt (by decide) hdg kk
theorem tg_s10 {g : eg} {K : ek} {d pc t : Nat} {σ : tS} {L rest : List Value} {h : eh} {Q : Outcome → eh → Prop} {i x : Int32} {j : Nat} (hj : i = nI j) (hlt : j < 80) (hdg : decode K.2.1 pc = .ok (.bastore, 1)) (kk : ew_G g K d (pc + 1) L rest (tw t (tA σ 10 (upd (σ.2 10) j (vp_nar .byte x))) h) Q) : ew_G g K d pc L (.int x :: .int i :: .ref (t + 2) :: rest) (tw t σ h) Q := by
  refine ew_baS (tw_at t 2 σ h (by decide)) hj hlt (by decide) hdg ?_
  rw [tw_s10]
  exact kk
theorem tg_n10 {g : eg} {K : ek} {d pc t : Nat} {σ : tS} {L rest : List Value} {h : eh} {Q : Outcome → eh → Prop} (hdg : decode K.2.1 pc = .ok (.arraylength, 1)) (kk : ew_G g K d (pc + 1) L (.int 80 :: rest) (tw t σ h) Q) : ew_G g K d pc L (.ref (t + 2) :: rest) (tw t σ h) Q :=
  ew_alen (rd_of (tw_at t 2 σ h (by decide))) rfl hdg kk
theorem tg_g11 {g : eg} {K : ek} {d pc t : Nat} {σ : tS} {L rest : List Value} {h : eh} {Q : Outcome → eh → Prop} (ho : K.1.cls = RX2) (hdg : decode K.2.1 pc = .ok (.getfield 20, 3)) (kk : ew_G g K d (pc + 3) L (.ref (t + 3) :: rest) (tw t σ h) Q) : ew_G g K d pc L (.ref t :: rest) (tw t σ h) Q :=
  ew_getf (by rw [ho]; exact fX2_20) (tw_ro g t σ h) rfl hdg kk
theorem tg_l11 {g : eg} {K : ek} {d pc t : Nat} {σ : tS} {L rest : List Value} {h : eh} {Q : Outcome → eh → Prop} {i : Int32} {j : Nat} (hj : i = nI j) (hlt : j < 80) (hdg : decode K.2.1 pc = .ok (.baload, 1)) (kk : ew_G g K d (pc + 1) L (.int (σ.2 11 j) :: rest) (tw t σ h) Q) : ew_G g K d pc L (.int i :: .ref (t + 3) :: rest) (tw t σ h) Q :=
  ew_baJ (rd_of (tw_at t 3 σ h (by decide))) hj hlt (by decide) hdg kk
theorem tg_s11 {g : eg} {K : ek} {d pc t : Nat} {σ : tS} {L rest : List Value} {h : eh} {Q : Outcome → eh → Prop} {i x : Int32} {j : Nat} (hj : i = nI j) (hlt : j < 80) (hdg : decode K.2.1 pc = .ok (.bastore, 1)) (kk : ew_G g K d (pc + 1) L rest (tw t (tA σ 11 (upd (σ.2 11) j (vp_nar .byte x))) h) Q) : ew_G g K d pc L (.int x :: .int i :: .ref (t + 3) :: rest) (tw t σ h) Q := by
  refine ew_baS (tw_at t 3 σ h (by decide)) hj hlt (by decide) hdg ?_
  rw [tw_s11]
  exact kk
theorem tg_n11 {g : eg} {K : ek} {d pc t : Nat} {σ : tS} {L rest : List Value} {h : eh} {Q : Outcome → eh → Prop} (hdg : decode K.2.1 pc = .ok (.arraylength, 1)) (kk : ew_G g K d (pc + 1) L (.int 80 :: rest) (tw t σ h) Q) : ew_G g K d pc L (.ref (t + 3) :: rest) (tw t σ h) Q :=
  ew_alen (rd_of (tw_at t 3 σ h (by decide))) rfl hdg kk
theorem tg_g12 {g : eg} {K : ek} {d pc t : Nat} {σ : tS} {L rest : List Value} {h : eh} {Q : Outcome → eh → Prop} (ho : K.1.cls = RX2) (hdg : decode K.2.1 pc = .ok (.getfield 165, 3)) (kk : ew_G g K d (pc + 3) L (.int (σ.1 12) :: rest) (tw t σ h) Q) : ew_G g K d pc L (.ref t :: rest) (tw t σ h) Q :=
  ew_getf (by rw [ho]; exact fX2_165) (tw_ro g t σ h) rfl hdg kk
theorem tg_p12 {g : eg} {K : ek} {d pc t : Nat} {σ : tS} {L rest : List Value} {h : eh} {Q : Outcome → eh → Prop} {x : Int32} (ho : K.1.cls = RX2) (hdg : decode K.2.1 pc = .ok (.putfield 165, 3)) (kk : ew_G g K d (pc + 3) L rest (tw t (tI σ 12 x) h) Q) : ew_G g K d pc L (.int x :: .ref t :: rest) (tw t σ h) Q := by
  refine ew_putf (fin := false) (ty := .int) (by rw [ho]; exact pX2_165) (tw_o t σ h) rfl (Nat.le_of_ble_eq_true rfl) rfl rfl (fun h9 => absurd h9 Bool.false_ne_true) hdg ?_
  rw [tw_p12]
  exact kk
theorem tg_g13 {g : eg} {K : ek} {d pc t : Nat} {σ : tS} {L rest : List Value} {h : eh} {Q : Outcome → eh → Prop} (ho : K.1.cls = RX2) (hdg : decode K.2.1 pc = .ok (.getfield 168, 3)) (kk : ew_G g K d (pc + 3) L (.int (σ.1 13) :: rest) (tw t σ h) Q) : ew_G g K d pc L (.ref t :: rest) (tw t σ h) Q :=
  ew_getf (by rw [ho]; exact fX2_168) (tw_ro g t σ h) rfl hdg kk
theorem tg_p13 {g : eg} {K : ek} {d pc t : Nat} {σ : tS} {L rest : List Value} {h : eh} {Q : Outcome → eh → Prop} {x : Int32} (ho : K.1.cls = RX2) (hdg : decode K.2.1 pc = .ok (.putfield 168, 3)) (kk : ew_G g K d (pc + 3) L rest (tw t (tI σ 13 x) h) Q) : ew_G g K d pc L (.int x :: .ref t :: rest) (tw t σ h) Q := by
  refine ew_putf (fin := false) (ty := .int) (by rw [ho]; exact pX2_168) (tw_o t σ h) rfl (Nat.le_of_ble_eq_true rfl) rfl rfl (fun h9 => absurd h9 Bool.false_ne_true) hdg ?_
  rw [tw_p13]
  exact kk
theorem tg_g14 {g : eg} {K : ek} {d pc t : Nat} {σ : tS} {L rest : List Value} {h : eh} {Q : Outcome → eh → Prop} (ho : K.1.cls = RX2) (hdg : decode K.2.1 pc = .ok (.getfield 171, 3)) (kk : ew_G g K d (pc + 3) L (.int (σ.1 14) :: rest) (tw t σ h) Q) : ew_G g K d pc L (.ref t :: rest) (tw t σ h) Q :=
  ew_getf (by rw [ho]; exact fX2_171) (tw_ro g t σ h) rfl hdg kk
theorem tg_p14 {g : eg} {K : ek} {d pc t : Nat} {σ : tS} {L rest : List Value} {h : eh} {Q : Outcome → eh → Prop} {x : Int32} (ho : K.1.cls = RX2) (hdg : decode K.2.1 pc = .ok (.putfield 171, 3)) (kk : ew_G g K d (pc + 3) L rest (tw t (tI σ 14 x) h) Q) : ew_G g K d pc L (.int x :: .ref t :: rest) (tw t σ h) Q := by
  refine ew_putf (fin := false) (ty := .int) (by rw [ho]; exact pX2_171) (tw_o t σ h) rfl (Nat.le_of_ble_eq_true rfl) rfl rfl (fun h9 => absurd h9 Bool.false_ne_true) hdg ?_
  rw [tw_p14]
  exact kk
theorem tg_g15 {g : eg} {K : ek} {d pc t : Nat} {σ : tS} {L rest : List Value} {h : eh} {Q : Outcome → eh → Prop} (ho : K.1.cls = RX2) (hdg : decode K.2.1 pc = .ok (.getfield 155, 3)) (kk : ew_G g K d (pc + 3) L (.int (σ.1 15) :: rest) (tw t σ h) Q) : ew_G g K d pc L (.ref t :: rest) (tw t σ h) Q :=
  ew_getf (by rw [ho]; exact fX2_155) (tw_ro g t σ h) rfl hdg kk
theorem tg_p15 {g : eg} {K : ek} {d pc t : Nat} {σ : tS} {L rest : List Value} {h : eh} {Q : Outcome → eh → Prop} {x : Int32} (ho : K.1.cls = RX2) (hdg : decode K.2.1 pc = .ok (.putfield 155, 3)) (kk : ew_G g K d (pc + 3) L rest (tw t (tI σ 15 x) h) Q) : ew_G g K d pc L (.int x :: .ref t :: rest) (tw t σ h) Q := by
  refine ew_putf (fin := false) (ty := .int) (by rw [ho]; exact pX2_155) (tw_o t σ h) rfl (Nat.le_of_ble_eq_true rfl) rfl rfl (fun h9 => absurd h9 Bool.false_ne_true) hdg ?_
  rw [tw_p15]
  exact kk
theorem tg_g16 {g : eg} {K : ek} {d pc t : Nat} {σ : tS} {L rest : List Value} {h : eh} {Q : Outcome → eh → Prop} (ho : K.1.cls = RX2) (hdg : decode K.2.1 pc = .ok (.getfield 23, 3)) (kk : ew_G g K d (pc + 3) L (.ref (t + 4) :: rest) (tw t σ h) Q) : ew_G g K d pc L (.ref t :: rest) (tw t σ h) Q :=
  ew_getf (by rw [ho]; exact fX2_23) (tw_ro g t σ h) rfl hdg kk
theorem tg_l16 {g : eg} {K : ek} {d pc t : Nat} {σ : tS} {L rest : List Value} {h : eh} {Q : Outcome → eh → Prop} {i : Int32} {j : Nat} (hj : i = nI j) (hlt : j < 176) (hdg : decode K.2.1 pc = .ok (.iaload, 1)) (kk : ew_G g K d (pc + 1) L (.int (σ.2 16 j) :: rest) (tw t σ h) Q) : ew_G g K d pc L (.int i :: .ref (t + 4) :: rest) (tw t σ h) Q :=
  ew_iaJ (rd_of (tw_at t 4 σ h (by decide))) hj hlt (by decide) hdg kk
theorem tg_s16 {g : eg} {K : ek} {d pc t : Nat} {σ : tS} {L rest : List Value} {h : eh} {Q : Outcome → eh → Prop} {i x : Int32} {j : Nat} (hj : i = nI j) (hlt : j < 176) (hdg : decode K.2.1 pc = .ok (.iastore, 1)) (kk : ew_G g K d (pc + 1) L rest (tw t (tA σ 16 (upd (σ.2 16) j x)) h) Q) : ew_G g K d pc L (.int x :: .int i :: .ref (t + 4) :: rest) (tw t σ h) Q := by
  refine ew_iaS (tw_at t 4 σ h (by decide)) hj hlt (by decide) hdg ?_
  rw [tw_s16]
  exact kk
theorem tg_n16 {g : eg} {K : ek} {d pc t : Nat} {σ : tS} {L rest : List Value} {h : eh} {Q : Outcome → eh → Prop} (hdg : decode K.2.1 pc = .ok (.arraylength, 1)) (kk : ew_G g K d (pc + 1) L (.int 176 :: rest) (tw t σ h) Q) : ew_G g K d pc L (.ref (t + 4) :: rest) (tw t σ h) Q :=
  ew_alen (rd_of (tw_at t 4 σ h (by decide))) rfl hdg kk
theorem tg_g17 {g : eg} {K : ek} {d pc t : Nat} {σ : tS} {L rest : List Value} {h : eh} {Q : Outcome → eh → Prop} (ho : K.1.cls = RX2) (hdg : decode K.2.1 pc = .ok (.getfield 27, 3)) (kk : ew_G g K d (pc + 3) L (.ref (t + 5) :: rest) (tw t σ h) Q) : ew_G g K d pc L (.ref t :: rest) (tw t σ h) Q :=
  ew_getf (by rw [ho]; exact fX2_27) (tw_ro g t σ h) rfl hdg kk
theorem tg_l17 {g : eg} {K : ek} {d pc t : Nat} {σ : tS} {L rest : List Value} {h : eh} {Q : Outcome → eh → Prop} {i : Int32} {j : Nat} (hj : i = nI j) (hlt : j < 176) (hdg : decode K.2.1 pc = .ok (.iaload, 1)) (kk : ew_G g K d (pc + 1) L (.int (σ.2 17 j) :: rest) (tw t σ h) Q) : ew_G g K d pc L (.int i :: .ref (t + 5) :: rest) (tw t σ h) Q :=
  ew_iaJ (rd_of (tw_at t 5 σ h (by decide))) hj hlt (by decide) hdg kk
theorem tg_s17 {g : eg} {K : ek} {d pc t : Nat} {σ : tS} {L rest : List Value} {h : eh} {Q : Outcome → eh → Prop} {i x : Int32} {j : Nat} (hj : i = nI j) (hlt : j < 176) (hdg : decode K.2.1 pc = .ok (.iastore, 1)) (kk : ew_G g K d (pc + 1) L rest (tw t (tA σ 17 (upd (σ.2 17) j x)) h) Q) : ew_G g K d pc L (.int x :: .int i :: .ref (t + 5) :: rest) (tw t σ h) Q := by
  refine ew_iaS (tw_at t 5 σ h (by decide)) hj hlt (by decide) hdg ?_
  rw [tw_s17]
  exact kk
theorem tg_n17 {g : eg} {K : ek} {d pc t : Nat} {σ : tS} {L rest : List Value} {h : eh} {Q : Outcome → eh → Prop} (hdg : decode K.2.1 pc = .ok (.arraylength, 1)) (kk : ew_G g K d (pc + 1) L (.int 176 :: rest) (tw t σ h) Q) : ew_G g K d pc L (.ref (t + 5) :: rest) (tw t σ h) Q :=
  ew_alen (rd_of (tw_at t 5 σ h (by decide))) rfl hdg kk
theorem tg_g18 {g : eg} {K : ek} {d pc t : Nat} {σ : tS} {L rest : List Value} {h : eh} {Q : Outcome → eh → Prop} (ho : K.1.cls = RX2) (hdg : decode K.2.1 pc = .ok (.getfield 30, 3)) (kk : ew_G g K d (pc + 3) L (.ref (t + 6) :: rest) (tw t σ h) Q) : ew_G g K d pc L (.ref t :: rest) (tw t σ h) Q :=
  ew_getf (by rw [ho]; exact fX2_30) (tw_ro g t σ h) rfl hdg kk
theorem tg_l18 {g : eg} {K : ek} {d pc t : Nat} {σ : tS} {L rest : List Value} {h : eh} {Q : Outcome → eh → Prop} {i : Int32} {j : Nat} (hj : i = nI j) (hlt : j < 1408) (hdg : decode K.2.1 pc = .ok (.iaload, 1)) (kk : ew_G g K d (pc + 1) L (.int (σ.2 18 j) :: rest) (tw t σ h) Q) : ew_G g K d pc L (.int i :: .ref (t + 6) :: rest) (tw t σ h) Q :=
  ew_iaJ (rd_of (tw_at t 6 σ h (by decide))) hj hlt (by decide) hdg kk
theorem tg_s18 {g : eg} {K : ek} {d pc t : Nat} {σ : tS} {L rest : List Value} {h : eh} {Q : Outcome → eh → Prop} {i x : Int32} {j : Nat} (hj : i = nI j) (hlt : j < 1408) (hdg : decode K.2.1 pc = .ok (.iastore, 1)) (kk : ew_G g K d (pc + 1) L rest (tw t (tA σ 18 (upd (σ.2 18) j x)) h) Q) : ew_G g K d pc L (.int x :: .int i :: .ref (t + 6) :: rest) (tw t σ h) Q := by
  refine ew_iaS (tw_at t 6 σ h (by decide)) hj hlt (by decide) hdg ?_
  rw [tw_s18]
  exact kk
theorem tg_n18 {g : eg} {K : ek} {d pc t : Nat} {σ : tS} {L rest : List Value} {h : eh} {Q : Outcome → eh → Prop} (hdg : decode K.2.1 pc = .ok (.arraylength, 1)) (kk : ew_G g K d (pc + 1) L (.int 1408 :: rest) (tw t σ h) Q) : ew_G g K d pc L (.ref (t + 6) :: rest) (tw t σ h) Q :=
  ew_alen (rd_of (tw_at t 6 σ h (by decide))) rfl hdg kk
theorem tg_g19 {g : eg} {K : ek} {d pc t : Nat} {σ : tS} {L rest : List Value} {h : eh} {Q : Outcome → eh → Prop} (ho : K.1.cls = RX2) (hdg : decode K.2.1 pc = .ok (.getfield 33, 3)) (kk : ew_G g K d (pc + 3) L (.ref (t + 7) :: rest) (tw t σ h) Q) : ew_G g K d pc L (.ref t :: rest) (tw t σ h) Q :=
  ew_getf (by rw [ho]; exact fX2_33) (tw_ro g t σ h) rfl hdg kk
theorem tg_l19 {g : eg} {K : ek} {d pc t : Nat} {σ : tS} {L rest : List Value} {h : eh} {Q : Outcome → eh → Prop} {i : Int32} {j : Nat} (hj : i = nI j) (hlt : j < 352) (hdg : decode K.2.1 pc = .ok (.iaload, 1)) (kk : ew_G g K d (pc + 1) L (.int (σ.2 19 j) :: rest) (tw t σ h) Q) : ew_G g K d pc L (.int i :: .ref (t + 7) :: rest) (tw t σ h) Q :=
  ew_iaJ (rd_of (tw_at t 7 σ h (by decide))) hj hlt (by decide) hdg kk
theorem tg_s19 {g : eg} {K : ek} {d pc t : Nat} {σ : tS} {L rest : List Value} {h : eh} {Q : Outcome → eh → Prop} {i x : Int32} {j : Nat} (hj : i = nI j) (hlt : j < 352) (hdg : decode K.2.1 pc = .ok (.iastore, 1)) (kk : ew_G g K d (pc + 1) L rest (tw t (tA σ 19 (upd (σ.2 19) j x)) h) Q) : ew_G g K d pc L (.int x :: .int i :: .ref (t + 7) :: rest) (tw t σ h) Q := by
  refine ew_iaS (tw_at t 7 σ h (by decide)) hj hlt (by decide) hdg ?_
  rw [tw_s19]
  exact kk
theorem tg_n19 {g : eg} {K : ek} {d pc t : Nat} {σ : tS} {L rest : List Value} {h : eh} {Q : Outcome → eh → Prop} (hdg : decode K.2.1 pc = .ok (.arraylength, 1)) (kk : ew_G g K d (pc + 1) L (.int 352 :: rest) (tw t σ h) Q) : ew_G g K d pc L (.ref (t + 7) :: rest) (tw t σ h) Q :=
  ew_alen (rd_of (tw_at t 7 σ h (by decide))) rfl hdg kk
theorem tg_g20 {g : eg} {K : ek} {d pc t : Nat} {σ : tS} {L rest : List Value} {h : eh} {Q : Outcome → eh → Prop} (ho : K.1.cls = RX2) (hdg : decode K.2.1 pc = .ok (.getfield 36, 3)) (kk : ew_G g K d (pc + 3) L (.ref (t + 8) :: rest) (tw t σ h) Q) : ew_G g K d pc L (.ref t :: rest) (tw t σ h) Q :=
  ew_getf (by rw [ho]; exact fX2_36) (tw_ro g t σ h) rfl hdg kk
theorem tg_l20 {g : eg} {K : ek} {d pc t : Nat} {σ : tS} {L rest : List Value} {h : eh} {Q : Outcome → eh → Prop} {i : Int32} {j : Nat} (hj : i = nI j) (hlt : j < 2) (hdg : decode K.2.1 pc = .ok (.baload, 1)) (kk : ew_G g K d (pc + 1) L (.int (σ.2 20 j) :: rest) (tw t σ h) Q) : ew_G g K d pc L (.int i :: .ref (t + 8) :: rest) (tw t σ h) Q :=
  ew_zaJ (rd_of (tw_at t 8 σ h (by decide))) hj hlt (by decide) hdg kk
theorem tg_s20 {g : eg} {K : ek} {d pc t : Nat} {σ : tS} {L rest : List Value} {h : eh} {Q : Outcome → eh → Prop} {i x : Int32} {j : Nat} (hj : i = nI j) (hlt : j < 2) (hdg : decode K.2.1 pc = .ok (.bastore, 1)) (kk : ew_G g K d (pc + 1) L rest (tw t (tA σ 20 (upd (σ.2 20) j (vp_nar .boolean x))) h) Q) : ew_G g K d pc L (.int x :: .int i :: .ref (t + 8) :: rest) (tw t σ h) Q := by
  refine ew_zaS (tw_at t 8 σ h (by decide)) hj hlt (by decide) hdg ?_
  rw [tw_s20]
  exact kk
theorem tg_n20 {g : eg} {K : ek} {d pc t : Nat} {σ : tS} {L rest : List Value} {h : eh} {Q : Outcome → eh → Prop} (hdg : decode K.2.1 pc = .ok (.arraylength, 1)) (kk : ew_G g K d (pc + 1) L (.int 2 :: rest) (tw t σ h) Q) : ew_G g K d pc L (.ref (t + 8) :: rest) (tw t σ h) Q :=
  ew_alen (rd_of (tw_at t 8 σ h (by decide))) rfl hdg kk
theorem tg_g21 {g : eg} {K : ek} {d pc t : Nat} {σ : tS} {L rest : List Value} {h : eh} {Q : Outcome → eh → Prop} (ho : K.1.cls = RX2) (hdg : decode K.2.1 pc = .ok (.getfield 207, 3)) (kk : ew_G g K d (pc + 3) L (.int (σ.1 21) :: rest) (tw t σ h) Q) : ew_G g K d pc L (.ref t :: rest) (tw t σ h) Q :=
  ew_getf (by rw [ho]; exact fX2_207) (tw_ro g t σ h) rfl hdg kk
theorem tg_p21 {g : eg} {K : ek} {d pc t : Nat} {σ : tS} {L rest : List Value} {h : eh} {Q : Outcome → eh → Prop} {x : Int32} (hn : narrow .boolean (.int x) = .int x) (hf9 : fits .boolean (.int x) = true) (ho : K.1.cls = RX2) (hdg : decode K.2.1 pc = .ok (.putfield 207, 3)) (kk : ew_G g K d (pc + 3) L rest (tw t (tI σ 21 x) h) Q) : ew_G g K d pc L (.int x :: .ref t :: rest) (tw t σ h) Q := by
  refine ew_putf (fin := false) (ty := .boolean) (by rw [ho]; exact pX2_207) (tw_o t σ h) rfl (Nat.le_of_ble_eq_true rfl) hn hf9 (fun h9 => absurd h9 Bool.false_ne_true) hdg ?_
  rw [tw_p21]
  exact kk
theorem tg_g22 {g : eg} {K : ek} {d pc t : Nat} {σ : tS} {L rest : List Value} {h : eh} {Q : Outcome → eh → Prop} (ho : K.1.cls = RX2) (hdg : decode K.2.1 pc = .ok (.getfield 211, 3)) (kk : ew_G g K d (pc + 3) L (.int (σ.1 22) :: rest) (tw t σ h) Q) : ew_G g K d pc L (.ref t :: rest) (tw t σ h) Q :=
  ew_getf (by rw [ho]; exact fX2_211) (tw_ro g t σ h) rfl hdg kk
theorem tg_p22 {g : eg} {K : ek} {d pc t : Nat} {σ : tS} {L rest : List Value} {h : eh} {Q : Outcome → eh → Prop} {x : Int32} (ho : K.1.cls = RX2) (hdg : decode K.2.1 pc = .ok (.putfield 211, 3)) (kk : ew_G g K d (pc + 3) L rest (tw t (tI σ 22 x) h) Q) : ew_G g K d pc L (.int x :: .ref t :: rest) (tw t σ h) Q := by
  refine ew_putf (fin := false) (ty := .int) (by rw [ho]; exact pX2_211) (tw_o t σ h) rfl (Nat.le_of_ble_eq_true rfl) rfl rfl (fun h9 => absurd h9 Bool.false_ne_true) hdg ?_
  rw [tw_p22]
  exact kk
theorem tg_g23 {g : eg} {K : ek} {d pc t : Nat} {σ : tS} {L rest : List Value} {h : eh} {Q : Outcome → eh → Prop} (ho : K.1.cls = RX2) (hdg : decode K.2.1 pc = .ok (.getfield 40, 3)) (kk : ew_G g K d (pc + 3) L (.ref (t + 9) :: rest) (tw t σ h) Q) : ew_G g K d pc L (.ref t :: rest) (tw t σ h) Q :=
  ew_getf (by rw [ho]; exact fX2_40) (tw_ro g t σ h) rfl hdg kk
theorem tg_l23 {g : eg} {K : ek} {d pc t : Nat} {σ : tS} {L rest : List Value} {h : eh} {Q : Outcome → eh → Prop} {i : Int32} {j : Nat} (hj : i = nI j) (hlt : j < 80) (hdg : decode K.2.1 pc = .ok (.iaload, 1)) (kk : ew_G g K d (pc + 1) L (.int (σ.2 23 j) :: rest) (tw t σ h) Q) : ew_G g K d pc L (.int i :: .ref (t + 9) :: rest) (tw t σ h) Q :=
  ew_iaJ (rd_of (tw_at t 9 σ h (by decide))) hj hlt (by decide) hdg kk
theorem tg_s23 {g : eg} {K : ek} {d pc t : Nat} {σ : tS} {L rest : List Value} {h : eh} {Q : Outcome → eh → Prop} {i x : Int32} {j : Nat} (hj : i = nI j) (hlt : j < 80) (hdg : decode K.2.1 pc = .ok (.iastore, 1)) (kk : ew_G g K d (pc + 1) L rest (tw t (tA σ 23 (upd (σ.2 23) j x)) h) Q) : ew_G g K d pc L (.int x :: .int i :: .ref (t + 9) :: rest) (tw t σ h) Q := by
  refine ew_iaS (tw_at t 9 σ h (by decide)) hj hlt (by decide) hdg ?_
  rw [tw_s23]
  exact kk
theorem tg_n23 {g : eg} {K : ek} {d pc t : Nat} {σ : tS} {L rest : List Value} {h : eh} {Q : Outcome → eh → Prop} (hdg : decode K.2.1 pc = .ok (.arraylength, 1)) (kk : ew_G g K d (pc + 1) L (.int 80 :: rest) (tw t σ h) Q) : ew_G g K d pc L (.ref (t + 9) :: rest) (tw t σ h) Q :=
  ew_alen (rd_of (tw_at t 9 σ h (by decide))) rfl hdg kk
theorem tg_g24 {g : eg} {K : ek} {d pc t : Nat} {σ : tS} {L rest : List Value} {h : eh} {Q : Outcome → eh → Prop} (ho : K.1.cls = RX2) (hdg : decode K.2.1 pc = .ok (.getfield 43, 3)) (kk : ew_G g K d (pc + 3) L (.ref (t + 10) :: rest) (tw t σ h) Q) : ew_G g K d pc L (.ref t :: rest) (tw t σ h) Q :=
  ew_getf (by rw [ho]; exact fX2_43) (tw_ro g t σ h) rfl hdg kk
theorem tg_l24 {g : eg} {K : ek} {d pc t : Nat} {σ : tS} {L rest : List Value} {h : eh} {Q : Outcome → eh → Prop} {i : Int32} {j : Nat} (hj : i = nI j) (hlt : j < 80) (hdg : decode K.2.1 pc = .ok (.iaload, 1)) (kk : ew_G g K d (pc + 1) L (.int (σ.2 24 j) :: rest) (tw t σ h) Q) : ew_G g K d pc L (.int i :: .ref (t + 10) :: rest) (tw t σ h) Q :=
  ew_iaJ (rd_of (tw_at t 10 σ h (by decide))) hj hlt (by decide) hdg kk
theorem tg_s24 {g : eg} {K : ek} {d pc t : Nat} {σ : tS} {L rest : List Value} {h : eh} {Q : Outcome → eh → Prop} {i x : Int32} {j : Nat} (hj : i = nI j) (hlt : j < 80) (hdg : decode K.2.1 pc = .ok (.iastore, 1)) (kk : ew_G g K d (pc + 1) L rest (tw t (tA σ 24 (upd (σ.2 24) j x)) h) Q) : ew_G g K d pc L (.int x :: .int i :: .ref (t + 10) :: rest) (tw t σ h) Q := by
  refine ew_iaS (tw_at t 10 σ h (by decide)) hj hlt (by decide) hdg ?_
  rw [tw_s24]
  exact kk
theorem tg_n24 {g : eg} {K : ek} {d pc t : Nat} {σ : tS} {L rest : List Value} {h : eh} {Q : Outcome → eh → Prop} (hdg : decode K.2.1 pc = .ok (.arraylength, 1)) (kk : ew_G g K d (pc + 1) L (.int 80 :: rest) (tw t σ h) Q) : ew_G g K d pc L (.ref (t + 10) :: rest) (tw t σ h) Q :=
  ew_alen (rd_of (tw_at t 10 σ h (by decide))) rfl hdg kk
theorem tg_g25 {g : eg} {K : ek} {d pc t : Nat} {σ : tS} {L rest : List Value} {h : eh} {Q : Outcome → eh → Prop} (ho : K.1.cls = RX2) (hdg : decode K.2.1 pc = .ok (.getfield 46, 3)) (kk : ew_G g K d (pc + 3) L (.ref (t + 11) :: rest) (tw t σ h) Q) : ew_G g K d pc L (.ref t :: rest) (tw t σ h) Q :=
  ew_getf (by rw [ho]; exact fX2_46) (tw_ro g t σ h) rfl hdg kk
theorem tg_l25 {g : eg} {K : ek} {d pc t : Nat} {σ : tS} {L rest : List Value} {h : eh} {Q : Outcome → eh → Prop} {i : Int32} {j : Nat} (hj : i = nI j) (hlt : j < 80) (hdg : decode K.2.1 pc = .ok (.iaload, 1)) (kk : ew_G g K d (pc + 1) L (.int (σ.2 25 j) :: rest) (tw t σ h) Q) : ew_G g K d pc L (.int i :: .ref (t + 11) :: rest) (tw t σ h) Q :=
  ew_iaJ (rd_of (tw_at t 11 σ h (by decide))) hj hlt (by decide) hdg kk
theorem tg_s25 {g : eg} {K : ek} {d pc t : Nat} {σ : tS} {L rest : List Value} {h : eh} {Q : Outcome → eh → Prop} {i x : Int32} {j : Nat} (hj : i = nI j) (hlt : j < 80) (hdg : decode K.2.1 pc = .ok (.iastore, 1)) (kk : ew_G g K d (pc + 1) L rest (tw t (tA σ 25 (upd (σ.2 25) j x)) h) Q) : ew_G g K d pc L (.int x :: .int i :: .ref (t + 11) :: rest) (tw t σ h) Q := by
  refine ew_iaS (tw_at t 11 σ h (by decide)) hj hlt (by decide) hdg ?_
  rw [tw_s25]
  exact kk
theorem tg_n25 {g : eg} {K : ek} {d pc t : Nat} {σ : tS} {L rest : List Value} {h : eh} {Q : Outcome → eh → Prop} (hdg : decode K.2.1 pc = .ok (.arraylength, 1)) (kk : ew_G g K d (pc + 1) L (.int 80 :: rest) (tw t σ h) Q) : ew_G g K d pc L (.ref (t + 11) :: rest) (tw t σ h) Q :=
  ew_alen (rd_of (tw_at t 11 σ h (by decide))) rfl hdg kk
theorem tg_g26 {g : eg} {K : ek} {d pc t : Nat} {σ : tS} {L rest : List Value} {h : eh} {Q : Outcome → eh → Prop} (ho : K.1.cls = RX2) (hdg : decode K.2.1 pc = .ok (.getfield 49, 3)) (kk : ew_G g K d (pc + 3) L (.ref (t + 12) :: rest) (tw t σ h) Q) : ew_G g K d pc L (.ref t :: rest) (tw t σ h) Q :=
  ew_getf (by rw [ho]; exact fX2_49) (tw_ro g t σ h) rfl hdg kk
theorem tg_l26 {g : eg} {K : ek} {d pc t : Nat} {σ : tS} {L rest : List Value} {h : eh} {Q : Outcome → eh → Prop} {i : Int32} {j : Nat} (hj : i = nI j) (hlt : j < 80) (hdg : decode K.2.1 pc = .ok (.iaload, 1)) (kk : ew_G g K d (pc + 1) L (.int (σ.2 26 j) :: rest) (tw t σ h) Q) : ew_G g K d pc L (.int i :: .ref (t + 12) :: rest) (tw t σ h) Q :=
  ew_iaJ (rd_of (tw_at t 12 σ h (by decide))) hj hlt (by decide) hdg kk
theorem tg_s26 {g : eg} {K : ek} {d pc t : Nat} {σ : tS} {L rest : List Value} {h : eh} {Q : Outcome → eh → Prop} {i x : Int32} {j : Nat} (hj : i = nI j) (hlt : j < 80) (hdg : decode K.2.1 pc = .ok (.iastore, 1)) (kk : ew_G g K d (pc + 1) L rest (tw t (tA σ 26 (upd (σ.2 26) j x)) h) Q) : ew_G g K d pc L (.int x :: .int i :: .ref (t + 12) :: rest) (tw t σ h) Q := by
  refine ew_iaS (tw_at t 12 σ h (by decide)) hj hlt (by decide) hdg ?_
  rw [tw_s26]
  exact kk
theorem tg_n26 {g : eg} {K : ek} {d pc t : Nat} {σ : tS} {L rest : List Value} {h : eh} {Q : Outcome → eh → Prop} (hdg : decode K.2.1 pc = .ok (.arraylength, 1)) (kk : ew_G g K d (pc + 1) L (.int 80 :: rest) (tw t σ h) Q) : ew_G g K d pc L (.ref (t + 12) :: rest) (tw t σ h) Q :=
  ew_alen (rd_of (tw_at t 12 σ h (by decide))) rfl hdg kk
theorem tg_g27 {g : eg} {K : ek} {d pc t : Nat} {σ : tS} {L rest : List Value} {h : eh} {Q : Outcome → eh → Prop} (ho : K.1.cls = RX2) (hdg : decode K.2.1 pc = .ok (.getfield 52, 3)) (kk : ew_G g K d (pc + 3) L (.ref (t + 13) :: rest) (tw t σ h) Q) : ew_G g K d pc L (.ref t :: rest) (tw t σ h) Q :=
  ew_getf (by rw [ho]; exact fX2_52) (tw_ro g t σ h) rfl hdg kk
theorem tg_l27 {g : eg} {K : ek} {d pc t : Nat} {σ : tS} {L rest : List Value} {h : eh} {Q : Outcome → eh → Prop} {i : Int32} {j : Nat} (hj : i = nI j) (hlt : j < 10) (hdg : decode K.2.1 pc = .ok (.iaload, 1)) (kk : ew_G g K d (pc + 1) L (.int (σ.2 27 j) :: rest) (tw t σ h) Q) : ew_G g K d pc L (.int i :: .ref (t + 13) :: rest) (tw t σ h) Q :=
  ew_iaJ (rd_of (tw_at t 13 σ h (by decide))) hj hlt (by decide) hdg kk
theorem tg_s27 {g : eg} {K : ek} {d pc t : Nat} {σ : tS} {L rest : List Value} {h : eh} {Q : Outcome → eh → Prop} {i x : Int32} {j : Nat} (hj : i = nI j) (hlt : j < 10) (hdg : decode K.2.1 pc = .ok (.iastore, 1)) (kk : ew_G g K d (pc + 1) L rest (tw t (tA σ 27 (upd (σ.2 27) j x)) h) Q) : ew_G g K d pc L (.int x :: .int i :: .ref (t + 13) :: rest) (tw t σ h) Q := by
  refine ew_iaS (tw_at t 13 σ h (by decide)) hj hlt (by decide) hdg ?_
  rw [tw_s27]
  exact kk
theorem tg_n27 {g : eg} {K : ek} {d pc t : Nat} {σ : tS} {L rest : List Value} {h : eh} {Q : Outcome → eh → Prop} (hdg : decode K.2.1 pc = .ok (.arraylength, 1)) (kk : ew_G g K d (pc + 1) L (.int 10 :: rest) (tw t σ h) Q) : ew_G g K d pc L (.ref (t + 13) :: rest) (tw t σ h) Q :=
  ew_alen (rd_of (tw_at t 13 σ h (by decide))) rfl hdg kk
theorem tg_g28 {g : eg} {K : ek} {d pc t : Nat} {σ : tS} {L rest : List Value} {h : eh} {Q : Outcome → eh → Prop} (ho : K.1.cls = RX2) (hdg : decode K.2.1 pc = .ok (.getfield 217, 3)) (kk : ew_G g K d (pc + 3) L (.int (σ.1 28) :: rest) (tw t σ h) Q) : ew_G g K d pc L (.ref t :: rest) (tw t σ h) Q :=
  ew_getf (by rw [ho]; exact fX2_217) (tw_ro g t σ h) rfl hdg kk
theorem tg_p28 {g : eg} {K : ek} {d pc t : Nat} {σ : tS} {L rest : List Value} {h : eh} {Q : Outcome → eh → Prop} {x : Int32} (ho : K.1.cls = RX2) (hdg : decode K.2.1 pc = .ok (.putfield 217, 3)) (kk : ew_G g K d (pc + 3) L rest (tw t (tI σ 28 x) h) Q) : ew_G g K d pc L (.int x :: .ref t :: rest) (tw t σ h) Q := by
  refine ew_putf (fin := false) (ty := .int) (by rw [ho]; exact pX2_217) (tw_o t σ h) rfl (Nat.le_of_ble_eq_true rfl) rfl rfl (fun h9 => absurd h9 Bool.false_ne_true) hdg ?_
  rw [tw_p28]
  exact kk
theorem tg_g29 {g : eg} {K : ek} {d pc t : Nat} {σ : tS} {L rest : List Value} {h : eh} {Q : Outcome → eh → Prop} (ho : K.1.cls = RX2) (hdg : decode K.2.1 pc = .ok (.getfield 55, 3)) (kk : ew_G g K d (pc + 3) L (.ref (t + 14) :: rest) (tw t σ h) Q) : ew_G g K d pc L (.ref t :: rest) (tw t σ h) Q :=
  ew_getf (by rw [ho]; exact fX2_55) (tw_ro g t σ h) rfl hdg kk
theorem tg_l29 {g : eg} {K : ek} {d pc t : Nat} {σ : tS} {L rest : List Value} {h : eh} {Q : Outcome → eh → Prop} {i : Int32} {j : Nat} (hj : i = nI j) (hlt : j < 100) (hdg : decode K.2.1 pc = .ok (.iaload, 1)) (kk : ew_G g K d (pc + 1) L (.int (σ.2 29 j) :: rest) (tw t σ h) Q) : ew_G g K d pc L (.int i :: .ref (t + 14) :: rest) (tw t σ h) Q :=
  ew_iaJ (rd_of (tw_at t 14 σ h (by decide))) hj hlt (by decide) hdg kk
theorem tg_s29 {g : eg} {K : ek} {d pc t : Nat} {σ : tS} {L rest : List Value} {h : eh} {Q : Outcome → eh → Prop} {i x : Int32} {j : Nat} (hj : i = nI j) (hlt : j < 100) (hdg : decode K.2.1 pc = .ok (.iastore, 1)) (kk : ew_G g K d (pc + 1) L rest (tw t (tA σ 29 (upd (σ.2 29) j x)) h) Q) : ew_G g K d pc L (.int x :: .int i :: .ref (t + 14) :: rest) (tw t σ h) Q := by
  refine ew_iaS (tw_at t 14 σ h (by decide)) hj hlt (by decide) hdg ?_
  rw [tw_s29]
  exact kk
theorem tg_n29 {g : eg} {K : ek} {d pc t : Nat} {σ : tS} {L rest : List Value} {h : eh} {Q : Outcome → eh → Prop} (hdg : decode K.2.1 pc = .ok (.arraylength, 1)) (kk : ew_G g K d (pc + 1) L (.int 100 :: rest) (tw t σ h) Q) : ew_G g K d pc L (.ref (t + 14) :: rest) (tw t σ h) Q :=
  ew_alen (rd_of (tw_at t 14 σ h (by decide))) rfl hdg kk
theorem tg_g30 {g : eg} {K : ek} {d pc t : Nat} {σ : tS} {L rest : List Value} {h : eh} {Q : Outcome → eh → Prop} (ho : K.1.cls = RX2) (hdg : decode K.2.1 pc = .ok (.getfield 58, 3)) (kk : ew_G g K d (pc + 3) L (.ref (t + 15) :: rest) (tw t σ h) Q) : ew_G g K d pc L (.ref t :: rest) (tw t σ h) Q :=
  ew_getf (by rw [ho]; exact fX2_58) (tw_ro g t σ h) rfl hdg kk
theorem tg_l30 {g : eg} {K : ek} {d pc t : Nat} {σ : tS} {L rest : List Value} {h : eh} {Q : Outcome → eh → Prop} {i : Int32} {j : Nat} (hj : i = nI j) (hlt : j < 100) (hdg : decode K.2.1 pc = .ok (.iaload, 1)) (kk : ew_G g K d (pc + 1) L (.int (σ.2 30 j) :: rest) (tw t σ h) Q) : ew_G g K d pc L (.int i :: .ref (t + 15) :: rest) (tw t σ h) Q :=
  ew_iaJ (rd_of (tw_at t 15 σ h (by decide))) hj hlt (by decide) hdg kk
theorem tg_s30 {g : eg} {K : ek} {d pc t : Nat} {σ : tS} {L rest : List Value} {h : eh} {Q : Outcome → eh → Prop} {i x : Int32} {j : Nat} (hj : i = nI j) (hlt : j < 100) (hdg : decode K.2.1 pc = .ok (.iastore, 1)) (kk : ew_G g K d (pc + 1) L rest (tw t (tA σ 30 (upd (σ.2 30) j x)) h) Q) : ew_G g K d pc L (.int x :: .int i :: .ref (t + 15) :: rest) (tw t σ h) Q := by
  refine ew_iaS (tw_at t 15 σ h (by decide)) hj hlt (by decide) hdg ?_
  rw [tw_s30]
  exact kk
theorem tg_n30 {g : eg} {K : ek} {d pc t : Nat} {σ : tS} {L rest : List Value} {h : eh} {Q : Outcome → eh → Prop} (hdg : decode K.2.1 pc = .ok (.arraylength, 1)) (kk : ew_G g K d (pc + 1) L (.int 100 :: rest) (tw t σ h) Q) : ew_G g K d pc L (.ref (t + 15) :: rest) (tw t σ h) Q :=
  ew_alen (rd_of (tw_at t 15 σ h (by decide))) rfl hdg kk
theorem tg_g31 {g : eg} {K : ek} {d pc t : Nat} {σ : tS} {L rest : List Value} {h : eh} {Q : Outcome → eh → Prop} (ho : K.1.cls = RX2) (hdg : decode K.2.1 pc = .ok (.getfield 61, 3)) (kk : ew_G g K d (pc + 3) L (.ref (t + 16) :: rest) (tw t σ h) Q) : ew_G g K d pc L (.ref t :: rest) (tw t σ h) Q :=
  ew_getf (by rw [ho]; exact fX2_61) (tw_ro g t σ h) rfl hdg kk
theorem tg_l31 {g : eg} {K : ek} {d pc t : Nat} {σ : tS} {L rest : List Value} {h : eh} {Q : Outcome → eh → Prop} {i : Int32} {j : Nat} (hj : i = nI j) (hlt : j < 1100) (hdg : decode K.2.1 pc = .ok (.iaload, 1)) (kk : ew_G g K d (pc + 1) L (.int (σ.2 31 j) :: rest) (tw t σ h) Q) : ew_G g K d pc L (.int i :: .ref (t + 16) :: rest) (tw t σ h) Q :=
  ew_iaJ (rd_of (tw_at t 16 σ h (by decide))) hj hlt (by decide) hdg kk
theorem tg_s31 {g : eg} {K : ek} {d pc t : Nat} {σ : tS} {L rest : List Value} {h : eh} {Q : Outcome → eh → Prop} {i x : Int32} {j : Nat} (hj : i = nI j) (hlt : j < 1100) (hdg : decode K.2.1 pc = .ok (.iastore, 1)) (kk : ew_G g K d (pc + 1) L rest (tw t (tA σ 31 (upd (σ.2 31) j x)) h) Q) : ew_G g K d pc L (.int x :: .int i :: .ref (t + 16) :: rest) (tw t σ h) Q := by
  refine ew_iaS (tw_at t 16 σ h (by decide)) hj hlt (by decide) hdg ?_
  rw [tw_s31]
  exact kk
theorem tg_n31 {g : eg} {K : ek} {d pc t : Nat} {σ : tS} {L rest : List Value} {h : eh} {Q : Outcome → eh → Prop} (hdg : decode K.2.1 pc = .ok (.arraylength, 1)) (kk : ew_G g K d (pc + 1) L (.int 1100 :: rest) (tw t σ h) Q) : ew_G g K d pc L (.ref (t + 16) :: rest) (tw t σ h) Q :=
  ew_alen (rd_of (tw_at t 16 σ h (by decide))) rfl hdg kk
theorem tg_g32 {g : eg} {K : ek} {d pc t : Nat} {σ : tS} {L rest : List Value} {h : eh} {Q : Outcome → eh → Prop} (ho : K.1.cls = RX2) (hdg : decode K.2.1 pc = .ok (.getfield 64, 3)) (kk : ew_G g K d (pc + 3) L (.ref (t + 17) :: rest) (tw t σ h) Q) : ew_G g K d pc L (.ref t :: rest) (tw t σ h) Q :=
  ew_getf (by rw [ho]; exact fX2_64) (tw_ro g t σ h) rfl hdg kk
theorem tg_l32 {g : eg} {K : ek} {d pc t : Nat} {σ : tS} {L rest : List Value} {h : eh} {Q : Outcome → eh → Prop} {i : Int32} {j : Nat} (hj : i = nI j) (hlt : j < 10) (hdg : decode K.2.1 pc = .ok (.iaload, 1)) (kk : ew_G g K d (pc + 1) L (.int (σ.2 32 j) :: rest) (tw t σ h) Q) : ew_G g K d pc L (.int i :: .ref (t + 17) :: rest) (tw t σ h) Q :=
  ew_iaJ (rd_of (tw_at t 17 σ h (by decide))) hj hlt (by decide) hdg kk
theorem tg_s32 {g : eg} {K : ek} {d pc t : Nat} {σ : tS} {L rest : List Value} {h : eh} {Q : Outcome → eh → Prop} {i x : Int32} {j : Nat} (hj : i = nI j) (hlt : j < 10) (hdg : decode K.2.1 pc = .ok (.iastore, 1)) (kk : ew_G g K d (pc + 1) L rest (tw t (tA σ 32 (upd (σ.2 32) j x)) h) Q) : ew_G g K d pc L (.int x :: .int i :: .ref (t + 17) :: rest) (tw t σ h) Q := by
  refine ew_iaS (tw_at t 17 σ h (by decide)) hj hlt (by decide) hdg ?_
  rw [tw_s32]
  exact kk
theorem tg_n32 {g : eg} {K : ek} {d pc t : Nat} {σ : tS} {L rest : List Value} {h : eh} {Q : Outcome → eh → Prop} (hdg : decode K.2.1 pc = .ok (.arraylength, 1)) (kk : ew_G g K d (pc + 1) L (.int 10 :: rest) (tw t σ h) Q) : ew_G g K d pc L (.ref (t + 17) :: rest) (tw t σ h) Q :=
  ew_alen (rd_of (tw_at t 17 σ h (by decide))) rfl hdg kk
theorem tg_g33 {g : eg} {K : ek} {d pc t : Nat} {σ : tS} {L rest : List Value} {h : eh} {Q : Outcome → eh → Prop} (ho : K.1.cls = RX2) (hdg : decode K.2.1 pc = .ok (.getfield 264, 3)) (kk : ew_G g K d (pc + 3) L (.int (σ.1 33) :: rest) (tw t σ h) Q) : ew_G g K d pc L (.ref t :: rest) (tw t σ h) Q :=
  ew_getf (by rw [ho]; exact fX2_264) (tw_ro g t σ h) rfl hdg kk
theorem tg_p33 {g : eg} {K : ek} {d pc t : Nat} {σ : tS} {L rest : List Value} {h : eh} {Q : Outcome → eh → Prop} {x : Int32} (ho : K.1.cls = RX2) (hdg : decode K.2.1 pc = .ok (.putfield 264, 3)) (kk : ew_G g K d (pc + 3) L rest (tw t (tI σ 33 x) h) Q) : ew_G g K d pc L (.int x :: .ref t :: rest) (tw t σ h) Q := by
  refine ew_putf (fin := false) (ty := .int) (by rw [ho]; exact pX2_264) (tw_o t σ h) rfl (Nat.le_of_ble_eq_true rfl) rfl rfl (fun h9 => absurd h9 Bool.false_ne_true) hdg ?_
  rw [tw_p33]
  exact kk
theorem tg_g34 {g : eg} {K : ek} {d pc t : Nat} {σ : tS} {L rest : List Value} {h : eh} {Q : Outcome → eh → Prop} (ho : K.1.cls = RX2) (hdg : decode K.2.1 pc = .ok (.getfield 267, 3)) (kk : ew_G g K d (pc + 3) L (.int (σ.1 34) :: rest) (tw t σ h) Q) : ew_G g K d pc L (.ref t :: rest) (tw t σ h) Q :=
  ew_getf (by rw [ho]; exact fX2_267) (tw_ro g t σ h) rfl hdg kk
theorem tg_p34 {g : eg} {K : ek} {d pc t : Nat} {σ : tS} {L rest : List Value} {h : eh} {Q : Outcome → eh → Prop} {x : Int32} (ho : K.1.cls = RX2) (hdg : decode K.2.1 pc = .ok (.putfield 267, 3)) (kk : ew_G g K d (pc + 3) L rest (tw t (tI σ 34 x) h) Q) : ew_G g K d pc L (.int x :: .ref t :: rest) (tw t σ h) Q := by
  refine ew_putf (fin := false) (ty := .int) (by rw [ho]; exact pX2_267) (tw_o t σ h) rfl (Nat.le_of_ble_eq_true rfl) rfl rfl (fun h9 => absurd h9 Bool.false_ne_true) hdg ?_
  rw [tw_p34]
  exact kk
theorem tg_g35 {g : eg} {K : ek} {d pc t : Nat} {σ : tS} {L rest : List Value} {h : eh} {Q : Outcome → eh → Prop} (ho : K.1.cls = RX2) (hdg : decode K.2.1 pc = .ok (.getfield 282, 3)) (kk : ew_G g K d (pc + 3) L (.int (σ.1 35) :: rest) (tw t σ h) Q) : ew_G g K d pc L (.ref t :: rest) (tw t σ h) Q :=
  ew_getf (by rw [ho]; exact fX2_282) (tw_ro g t σ h) rfl hdg kk
theorem tg_p35 {g : eg} {K : ek} {d pc t : Nat} {σ : tS} {L rest : List Value} {h : eh} {Q : Outcome → eh → Prop} {x : Int32} (ho : K.1.cls = RX2) (hdg : decode K.2.1 pc = .ok (.putfield 282, 3)) (kk : ew_G g K d (pc + 3) L rest (tw t (tI σ 35 x) h) Q) : ew_G g K d pc L (.int x :: .ref t :: rest) (tw t σ h) Q := by
  refine ew_putf (fin := false) (ty := .int) (by rw [ho]; exact pX2_282) (tw_o t σ h) rfl (Nat.le_of_ble_eq_true rfl) rfl rfl (fun h9 => absurd h9 Bool.false_ne_true) hdg ?_
  rw [tw_p35]
  exact kk
theorem tg_g36 {g : eg} {K : ek} {d pc t : Nat} {σ : tS} {L rest : List Value} {h : eh} {Q : Outcome → eh → Prop} (ho : K.1.cls = RX2) (hdg : decode K.2.1 pc = .ok (.getfield 345, 3)) (kk : ew_G g K d (pc + 3) L (.int (σ.1 36) :: rest) (tw t σ h) Q) : ew_G g K d pc L (.ref t :: rest) (tw t σ h) Q :=
  ew_getf (by rw [ho]; exact fX2_345) (tw_ro g t σ h) rfl hdg kk
theorem tg_p36 {g : eg} {K : ek} {d pc t : Nat} {σ : tS} {L rest : List Value} {h : eh} {Q : Outcome → eh → Prop} {x : Int32} (ho : K.1.cls = RX2) (hdg : decode K.2.1 pc = .ok (.putfield 345, 3)) (kk : ew_G g K d (pc + 3) L rest (tw t (tI σ 36 x) h) Q) : ew_G g K d pc L (.int x :: .ref t :: rest) (tw t σ h) Q := by
  refine ew_putf (fin := false) (ty := .int) (by rw [ho]; exact pX2_345) (tw_o t σ h) rfl (Nat.le_of_ble_eq_true rfl) rfl rfl (fun h9 => absurd h9 Bool.false_ne_true) hdg ?_
  rw [tw_p36]
  exact kk
theorem tg_g37 {g : eg} {K : ek} {d pc t : Nat} {σ : tS} {L rest : List Value} {h : eh} {Q : Outcome → eh → Prop} (ho : K.1.cls = RX2) (hdg : decode K.2.1 pc = .ok (.getfield 348, 3)) (kk : ew_G g K d (pc + 3) L (.int (σ.1 37) :: rest) (tw t σ h) Q) : ew_G g K d pc L (.ref t :: rest) (tw t σ h) Q :=
  ew_getf (by rw [ho]; exact fX2_348) (tw_ro g t σ h) rfl hdg kk
theorem tg_p37 {g : eg} {K : ek} {d pc t : Nat} {σ : tS} {L rest : List Value} {h : eh} {Q : Outcome → eh → Prop} {x : Int32} (ho : K.1.cls = RX2) (hdg : decode K.2.1 pc = .ok (.putfield 348, 3)) (kk : ew_G g K d (pc + 3) L rest (tw t (tI σ 37 x) h) Q) : ew_G g K d pc L (.int x :: .ref t :: rest) (tw t σ h) Q := by
  refine ew_putf (fin := false) (ty := .int) (by rw [ho]; exact pX2_348) (tw_o t σ h) rfl (Nat.le_of_ble_eq_true rfl) rfl rfl (fun h9 => absurd h9 Bool.false_ne_true) hdg ?_
  rw [tw_p37]
  exact kk
theorem tg_g38 {g : eg} {K : ek} {d pc t : Nat} {σ : tS} {L rest : List Value} {h : eh} {Q : Outcome → eh → Prop} (ho : K.1.cls = RX2) (hdg : decode K.2.1 pc = .ok (.getfield 67, 3)) (kk : ew_G g K d (pc + 3) L (.ref (t + 18) :: rest) (tw t σ h) Q) : ew_G g K d pc L (.ref t :: rest) (tw t σ h) Q :=
  ew_getf (by rw [ho]; exact fX2_67) (tw_ro g t σ h) rfl hdg kk
theorem tg_l38 {g : eg} {K : ek} {d pc t : Nat} {σ : tS} {L rest : List Value} {h : eh} {Q : Outcome → eh → Prop} {i : Int32} {j : Nat} (hj : i = nI j) (hlt : j < 10) (hdg : decode K.2.1 pc = .ok (.iaload, 1)) (kk : ew_G g K d (pc + 1) L (.int (σ.2 38 j) :: rest) (tw t σ h) Q) : ew_G g K d pc L (.int i :: .ref (t + 18) :: rest) (tw t σ h) Q :=
  ew_iaJ (rd_of (tw_at t 18 σ h (by decide))) hj hlt (by decide) hdg kk
theorem tg_s38 {g : eg} {K : ek} {d pc t : Nat} {σ : tS} {L rest : List Value} {h : eh} {Q : Outcome → eh → Prop} {i x : Int32} {j : Nat} (hj : i = nI j) (hlt : j < 10) (hdg : decode K.2.1 pc = .ok (.iastore, 1)) (kk : ew_G g K d (pc + 1) L rest (tw t (tA σ 38 (upd (σ.2 38) j x)) h) Q) : ew_G g K d pc L (.int x :: .int i :: .ref (t + 18) :: rest) (tw t σ h) Q := by
  refine ew_iaS (tw_at t 18 σ h (by decide)) hj hlt (by decide) hdg ?_
  rw [tw_s38]
  exact kk
theorem tg_n38 {g : eg} {K : ek} {d pc t : Nat} {σ : tS} {L rest : List Value} {h : eh} {Q : Outcome → eh → Prop} (hdg : decode K.2.1 pc = .ok (.arraylength, 1)) (kk : ew_G g K d (pc + 1) L (.int 10 :: rest) (tw t σ h) Q) : ew_G g K d pc L (.ref (t + 18) :: rest) (tw t σ h) Q :=
  ew_alen (rd_of (tw_at t 18 σ h (by decide))) rfl hdg kk
theorem tg_g39 {g : eg} {K : ek} {d pc t : Nat} {σ : tS} {L rest : List Value} {h : eh} {Q : Outcome → eh → Prop} (ho : K.1.cls = RX2) (hdg : decode K.2.1 pc = .ok (.getfield 377, 3)) (kk : ew_G g K d (pc + 3) L (.int (σ.1 39) :: rest) (tw t σ h) Q) : ew_G g K d pc L (.ref t :: rest) (tw t σ h) Q :=
  ew_getf (by rw [ho]; exact fX2_377) (tw_ro g t σ h) rfl hdg kk
theorem tg_p39 {g : eg} {K : ek} {d pc t : Nat} {σ : tS} {L rest : List Value} {h : eh} {Q : Outcome → eh → Prop} {x : Int32} (ho : K.1.cls = RX2) (hdg : decode K.2.1 pc = .ok (.putfield 377, 3)) (kk : ew_G g K d (pc + 3) L rest (tw t (tI σ 39 x) h) Q) : ew_G g K d pc L (.int x :: .ref t :: rest) (tw t σ h) Q := by
  refine ew_putf (fin := false) (ty := .int) (by rw [ho]; exact pX2_377) (tw_o t σ h) rfl (Nat.le_of_ble_eq_true rfl) rfl rfl (fun h9 => absurd h9 Bool.false_ne_true) hdg ?_
  rw [tw_p39]
  exact kk
theorem tg_g40 {g : eg} {K : ek} {d pc t : Nat} {σ : tS} {L rest : List Value} {h : eh} {Q : Outcome → eh → Prop} (ho : K.1.cls = RX2) (hdg : decode K.2.1 pc = .ok (.getfield 70, 3)) (kk : ew_G g K d (pc + 3) L (.ref (t + 19) :: rest) (tw t σ h) Q) : ew_G g K d pc L (.ref t :: rest) (tw t σ h) Q :=
  ew_getf (by rw [ho]; exact fX2_70) (tw_ro g t σ h) rfl hdg kk
theorem tg_l40 {g : eg} {K : ek} {d pc t : Nat} {σ : tS} {L rest : List Value} {h : eh} {Q : Outcome → eh → Prop} {i : Int32} {j : Nat} (hj : i = nI j) (hlt : j < 300) (hdg : decode K.2.1 pc = .ok (.baload, 1)) (kk : ew_G g K d (pc + 1) L (.int (σ.2 40 j) :: rest) (tw t σ h) Q) : ew_G g K d pc L (.int i :: .ref (t + 19) :: rest) (tw t σ h) Q :=
  ew_baJ (rd_of (tw_at t 19 σ h (by decide))) hj hlt (by decide) hdg kk
theorem tg_s40 {g : eg} {K : ek} {d pc t : Nat} {σ : tS} {L rest : List Value} {h : eh} {Q : Outcome → eh → Prop} {i x : Int32} {j : Nat} (hj : i = nI j) (hlt : j < 300) (hdg : decode K.2.1 pc = .ok (.bastore, 1)) (kk : ew_G g K d (pc + 1) L rest (tw t (tA σ 40 (upd (σ.2 40) j (vp_nar .byte x))) h) Q) : ew_G g K d pc L (.int x :: .int i :: .ref (t + 19) :: rest) (tw t σ h) Q := by
  refine ew_baS (tw_at t 19 σ h (by decide)) hj hlt (by decide) hdg ?_
  rw [tw_s40]
  exact kk
theorem tg_n40 {g : eg} {K : ek} {d pc t : Nat} {σ : tS} {L rest : List Value} {h : eh} {Q : Outcome → eh → Prop} (hdg : decode K.2.1 pc = .ok (.arraylength, 1)) (kk : ew_G g K d (pc + 1) L (.int 300 :: rest) (tw t σ h) Q) : ew_G g K d pc L (.ref (t + 19) :: rest) (tw t σ h) Q :=
  ew_alen (rd_of (tw_at t 19 σ h (by decide))) rfl hdg kk
theorem tg_g41 {g : eg} {K : ek} {d pc t : Nat} {σ : tS} {L rest : List Value} {h : eh} {Q : Outcome → eh → Prop} (ho : K.1.cls = RX2) (hdg : decode K.2.1 pc = .ok (.getfield 404, 3)) (kk : ew_G g K d (pc + 3) L (.int (σ.1 41) :: rest) (tw t σ h) Q) : ew_G g K d pc L (.ref t :: rest) (tw t σ h) Q :=
  ew_getf (by rw [ho]; exact fX2_404) (tw_ro g t σ h) rfl hdg kk
theorem tg_p41 {g : eg} {K : ek} {d pc t : Nat} {σ : tS} {L rest : List Value} {h : eh} {Q : Outcome → eh → Prop} {x : Int32} (ho : K.1.cls = RX2) (hdg : decode K.2.1 pc = .ok (.putfield 404, 3)) (kk : ew_G g K d (pc + 3) L rest (tw t (tI σ 41 x) h) Q) : ew_G g K d pc L (.int x :: .ref t :: rest) (tw t σ h) Q := by
  refine ew_putf (fin := false) (ty := .int) (by rw [ho]; exact pX2_404) (tw_o t σ h) rfl (Nat.le_of_ble_eq_true rfl) rfl rfl (fun h9 => absurd h9 Bool.false_ne_true) hdg ?_
  rw [tw_p41]
  exact kk
