/-! EW: runs that agree -/
set_option maxRecDepth 100000
theorem joB_ag {n fr to a : Nat} {s : Int32} {f f' : Nat → Int32} (h : agN n f f') (hf : fr < n) (ht : to < n) (ha : a < n) : ∀ b, b ≤ n → agN n (joB n f fr to s a b) (joB n f' fr to s a b)
  | 0, _ => h
  | b + 1, hb => by
    have ih := joB_ag (s := s) h hf ht ha b (by omega)
    rw [joB, joB, ih.at ht (show b < n by omega), ih.at ha hf]
    split
    · exact ih
    · exact stp_ag ih ha (by omega)
theorem joA_ag {n fr to : Nat} {s : Int32} {f f' : Nat → Int32} (h : agN n f f') (hf : fr < n) (ht : to < n) : ∀ a, a ≤ n → agN n (joA n f fr to s a) (joA n f' fr to s a)
  | 0, _ => h
  | a + 1, ha => by
    have ih := joA_ag (s := s) h hf ht a (by omega)
    rw [joA, joA, ih.at (show a < n by omega) hf]
    split
    · exact ih
    · exact joB_ag ih hf ht (by omega) n (Nat.le_refl _)
theorem sqFix_ag {n e : Nat} {t : Int32} {f f' : Nat → Int32} (h : agN n f f') (he : e < n) : agN n (sqFix n f e t) (sqFix n f' e t) := joA_ag (joA_ag h (by omega) he n (Nat.le_refl _)) he (by omega) n (Nat.le_refl _)
/-- runs that hold the same -/
def ruA (n : Nat) (ρ σ : ru) : Prop := agN n ρ.1 σ.1 ∧ (∀ e, e < n → ρ.2.1 e = σ.2.1 e) ∧ (∀ i, i < ρ.2.2.2.1 → ρ.2.2.1 i = σ.2.2.1 i) ∧ ρ.2.2.2 = σ.2.2.2
theorem nxF_ag {n : Nat} {T T' S S' : Nat → Int32} (hS : agN n S S') (hT : ∀ e, e < n → T e = T' e) : ∀ e, e ≤ n → nxF n T S e = nxF n T' S' e
  | 0, _ => rfl
  | e + 1, he => by
    have ih := nxF_ag hS hT e (by omega)
    have hb : nxB n S e (nxF n T S e) = nxB n S' e (nxF n T' S' e) := by
      rw [ih]
      cases hx : nxF n T' S' e with
      | none => rfl
      | some b =>
        have := nxF_lt _ _ _ _ _ hx
        rw [nxB, nxB, hS.atZ (show e < n by omega), hS.atZ (show b < n by omega)]
    rw [nxF, nxF, hT e (by omega), hb, ih]
theorem plC_ag {n e k : Nat} {w : Int32} {S S' : Nat → Int32} (hS : agN n S S') (he : e < n) : plC n S e k w = plC n S' e k w := by
  rw [plC, plC, hS.at0 he, hS.atZ he, sqSlack_ag hS he]
theorem gv_ag {n e : Nat} {t : Int32} {ρ σ : ru} (h : ruA n ρ σ) (S S' : Nat → Int32) (hS : agN n S S') : ruA n (S, (gv ρ e t).2) (S', (gv σ e t).2) := by
  obtain ⟨h1, h2, h3, h4⟩ := h
  have h5 : ρ.2.2.2.1 = σ.2.2.2.1 := congrArg (·.1) h4
  have h6 : ρ.2.2.2.2 = σ.2.2.2.2 := congrArg (·.2) h4
  refine ⟨hS, fun i hi => ?_, fun i hi => ?_, ?_⟩
  · show (if i = e then t else ρ.2.1 i) = (if i = e then t else σ.2.1 i)
    rw [h2 i hi]
  · show (if i = ρ.2.2.2.1 then nI e else ρ.2.2.1 i) = (if i = σ.2.2.2.1 then nI e else σ.2.2.1 i)
    rw [← h5]
    by_cases h9 : i = ρ.2.2.2.1
    · rw [if_pos h9, if_pos h9]
    · rw [if_neg h9, if_neg h9]
      have hi2 : i < ρ.2.2.2.1 + 1 := hi
      exact h3 i (by omega)
  · show (ρ.2.2.2.1 + 1, ρ.2.2.2.2) = (σ.2.2.2.1 + 1, σ.2.2.2.2)
    rw [h5, h6]
theorem fxR_ag {n : Nat} {N : Nat → Int32} {ρ σ : ru} (h : ruA n ρ σ) : ∀ e, ruA n (fxR N ρ e) (fxR N σ e)
  | 0 => h
  | e + 1 => by
    have ih := fxR_ag (N := N) h e
    rw [fxR, fxR]
    split
    · exact ih
    · exact gv_ag ih _ _ ih.1
theorem tmC_ag {n e k : Nat} {N : Nat → Int32} {oth dl : Int32} {S S' : Nat → Int32} (hS : agN n S S') (he : e < n) : tmC n N k oth dl S e = tmC n N k oth dl S' e := by rw [tmC, tmC, plC_ag hS he]
theorem go_ag {n k : Nat} {N : Nat → Int32} {oth dl : Int32} : ∀ (f : Nat) (ρ σ : ru), ruA n ρ σ → ruA n (goC n N k oth dl f ρ) (goC n N k oth dl f σ) ∧ (okRn n N k oth dl f ρ ↔ okRn n N k oth dl f σ)
  | 0, ρ, σ, h => by
    refine ⟨h, ?_⟩
    rw [okRn, okRn, nxF_ag h.1 h.2.1 n (Nat.le_refl _)]
  | f + 1, ρ, σ, h => by
    have hn := nxF_ag h.1 h.2.1 n (Nat.le_refl _)
    have h5 : ρ.2.2.2.1 = σ.2.2.2.1 := congrArg (·.1) h.2.2.2
    rw [goC, goC, okRn, okRn, hn]
    cases hx : nxF n σ.2.1 σ.1 n with
    | none => exact ⟨h, Iff.rfl⟩
    | some e =>
      have he := nxF_lt _ _ _ _ _ hx
      dsimp only
      rw [tmC_ag h.1 he, h.1.at0 he, h5]
      have ih := go_ag (k := k) (N := N) (oth := oth) (dl := dl) f _ _ (gv_ag (e := e) (t := tmC n N k oth dl σ.1 e) h _ _ (sqFix_ag (t := tmC n N k oth dl σ.1 e) h.1 he))
      refine ⟨?_, by rw [ih.2]⟩
      split
      · exact ⟨h.1, h.2.1, by rw [← h5]; exact h.2.2.1, rfl⟩
      · exact ih.1
/-- a run's start, out of the bounds -/
def rn0 (n : Nat) (F : Nat → Int32) (ρ : ru) : ru := (va_cpy F ρ.1 0 0 (n * n), mnF ρ.2.1 n, ρ.2.2.1, 0, -1)
theorem rn0_ag {n : Nat} {F F' : Nat → Int32} (hF : agN n F F') (ρ σ : ru) : ruA n (rn0 n F ρ) (rn0 n F' σ) := by
  refine ⟨fun k hk => ?_, fun e he => ?_, fun i hi => absurd hi (Nat.not_lt_zero i), rfl⟩
  · show va_cpy F ρ.1 0 0 (n * n) k = va_cpy F' σ.1 0 0 (n * n) k
    rw [sb_cpy0 hk, sb_cpy0 hk]
    exact hF k hk
  · show (if e < n then (-1 : Int32) else ρ.2.1 e) = (if e < n then (-1 : Int32) else σ.2.1 e)
    rw [if_pos he, if_pos he]
/-- a whole run -/
def rnF1 (N : Nat → Int32) (F : Nat → Int32) (ρ : ru) (k : Nat) (oth dl : Int32) : ru := goC (nE N) N k oth dl (nE N + 1) (fxR N (rn0 (nE N) F ρ) (nE N))
/-- the run as it is told: out of the net alone -/
def rnC (N : Nat → Int32) (k : Nat) (oth dl : Int32) : ru := rnF1 N (cSq N 0 (-1)) (fun _ => 0, fun _ => 0, fun _ => 0, 0, 0) k oth dl
def okRC (N : Nat → Int32) (k : Nat) (oth dl : Int32) : Prop := okRn (nE N) N k oth dl (nE N + 1) (fxR N (rn0 (nE N) (cSq N 0 (-1)) (fun _ => 0, fun _ => 0, fun _ => 0, 0, 0)) (nE N))
theorem rnF1_ag {N F : Nat → Int32} (hF : agN (nE N) F (cSq N 0 (-1))) (ρ : ru) (k : Nat) (oth dl : Int32) : ruA (nE N) (rnF1 N F ρ k oth dl) (rnC N k oth dl) ∧ (okRn (nE N) N k oth dl (nE N + 1) (fxR N (rn0 (nE N) F ρ) (nE N)) ↔ okRC N k oth dl) := go_ag _ _ _ (fxR_ag (rn0_ag hF ρ _) _)
