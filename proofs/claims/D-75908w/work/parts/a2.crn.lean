/-! EW: runs that the component tells -/
set_option maxRecDepth 100000
section
variable {g : eg} {h : eh} {a : Nat → Nat} {ws : List Nat} {N : Nat → Int32} {m pe ep : Int32} {fb ft : Nat → Int32} {ρ : ru} {Q : Outcome → eh → Prop}
abbrev RUa (a : Nat → Nat) (N : Nat → Int32) (ρ : ru) (h : eh) : eh := RU (a 9) (a 10) (a 11) (a 12) (a 13) (nE N) ρ h
theorem CV.self (C : CV g h a ws N m pe ep fb ft ρ) : RUa a N ρ h = h := by
  obtain ⟨c1, c2, c3, c4⟩ := C.c
  obtain ⟨f, n, k⟩ := h
  show ((fun b => _), n, k) = (f, n, k)
  congr 1
  funext b
  by_cases e1 : b = a 11
  · rw [if_pos e1, e1]; exact c1.symm
  · rw [if_neg e1]
    by_cases e2 : b = a 12
    · rw [if_pos e2, e2]; exact c2.symm
    · rw [if_neg e2]
      by_cases e3 : b = a 13
      · rw [if_pos e3, e3]; exact c3.symm
      · rw [if_neg e3]
        by_cases e4 : b = a 9
        · rw [if_pos e4, e4]; exact c4.symm
        · rw [if_neg e4]
theorem keR (σ : ru) : Ke [a 11, a 12, a 13, a 9] 0 0 h (RUa a N σ h) := ⟨fun b _ hb => by
  simp only [List.mem_cons, List.not_mem_nil, or_false, not_or] at hb
  exact ru_off hb.1 hb.2.1 hb.2.2.1 hb.2.2.2, Nat.le_refl _, Nat.le_refl _, Nat.le_refl _⟩
theorem keRg (σ : ru) : Ke (rgA a) 0 0 h (RUa a N σ h) := (keR σ).w (fun b h9 _ => by
  simp only [List.mem_cons, List.not_mem_nil, or_false] at h9 ⊢
  rcases h9 with e | e | e | e <;> rw [e] <;> simp) (Nat.le_refl _) (Nat.le_refl _)
theorem CV.ru (C : CV g h a ws N m pe ep fb ft ρ) (hg : gOC g) (ho : eh_ok g h) (σ : ru) : CV g (RUa a N σ h) a ws N m pe ep fb ft σ := by
  have k := keR (h := h) (a := a) (N := N) σ
  obtain ⟨c1, c2, c3, c4⟩ := C.c
  have d := C.ne
  have d1 := C.d
  have r := C.r
  have m1 : ∀ b ci fs, rd g h b = some (ob ci fs) → ci ≠ 7 → b ∉ [a 11, a 12, a 13, a 9] := fun b ci fs h9 h7 => by
    simp only [List.mem_cons, List.not_mem_nil, or_false, not_or]
    refine ⟨rd_ob h9 c1, rd_ob h9 c2, rd_ob h9 c3, fun e => ?_⟩
    rw [e, rd_of c4] at h9
    cases h9
    exact h7 rfl
  have m2 : ∀ b n f, h.1 b = some (aI n f) → b ≠ a 11 → b ≠ a 12 → b ≠ a 13 → b ∉ [a 11, a 12, a 13, a 9] := fun b n f h9 e1 e2 e3 => by
    simp only [List.mem_cons, List.not_mem_nil, or_false, not_or]
    refine ⟨e1, e2, e3, fun e => ?_⟩
    rw [e, c4] at h9
    cases h9
  have m3 : ∀ b t n f, rd g h b = some (aR t n f) → b ∉ [a 11, a 12, a 13, a 9] := fun b t n f h9 => by
    simp only [List.mem_cons, List.not_mem_nil, or_false, not_or]
    refine ⟨rd_ar h9 c1, rd_ar h9 c2, rd_ar h9 c3, fun e => ?_⟩
    rw [e, rd_of c4] at h9
    cases h9
  have dd := d.2.2
  simp only [List.mem_cons, List.not_mem_nil, or_false, not_or] at dd
  obtain ⟨⟨x1, x2, x3⟩, ⟨y1, y2, y3⟩, z1, z2, z3⟩ := dd
  obtain ⟨fn, hn⟩ := C.n.n
  obtain ⟨mc, cap, f, l1, l2, -⟩ := C.n.l
  obtain ⟨f1, hf1, -⟩ := C.n.F
  obtain ⟨f2, hf2, -⟩ := C.n.D
  obtain ⟨f3, hf3, -⟩ := C.n.W
  refine ⟨k.h ho C.o (m1 _ _ _ (rd_of C.o) (by decide)), C.n.ke k hg ho (fun b hb9 => ?_), C.b.ke k hg ho (m1 _ _ _ C.b.1 (by decide)) (m2 _ _ _ C.b.2.1 d.1.2.1 d.1.2.2.1 d.1.2.2.2.1), C.t.ke k hg ho (m1 _ _ _ C.t.1 (by decide)) (m2 _ _ _ C.t.2.1 d.2.1.1 d.2.1.2.1 d.2.1.2.2.1), ?_, ⟨ru_A, ru_T r, ru_O r, ru_Q r⟩, C.d⟩
  · rw [List.mem_cons, nO, List.mem_cons, List.mem_cons, List.mem_cons, List.mem_cons, List.mem_cons, List.mem_cons] at hb9
    rcases hb9 with e | e | e | e | e | e | e | e
    · rw [e]; exact m3 _ _ _ _ hn
    · rw [e]; exact m1 _ _ _ (rd_of C.n.o) (by decide)
    · rw [e]; exact m1 _ _ _ (rd_of l1) (by decide)
    · rw [e]; exact m3 _ _ _ _ l2
    · rw [e]; exact m2 _ _ _ hf1 (fun e => x1 e.symm) (fun e => y1 e.symm) (fun e => z1 e.symm)
    · rw [e]; exact m2 _ _ _ hf2 (fun e => x2 e.symm) (fun e => y2 e.symm) (fun e => z2 e.symm)
    · rw [e]; exact m2 _ _ _ hf3 (fun e => x3 e.symm) (fun e => y3 e.symm) (fun e => z3 e.symm)
    · obtain ⟨i, hi⟩ := List.getElem?_of_mem e
      exact m1 _ _ _ (rd_of (C.n.w i b hi)) (by decide)
  · obtain ⟨r1, r2, r3, r4, r5, r6, r7, r8⟩ := r
    exact ⟨r1, r2, r3, r4, r5, r6, k.rd hg ho r7 (m1 _ _ _ r7 (by decide)), r8⟩
/-- a run over the bounds that lie -/
theorem t_goesC {k : Nat} {oth dl : Int32} (hg : gOC g) (C : CV g h a ws N m pe ep fb ft ρ) (hf : agN (nE N) fb (cSq N 0 (-1))) (hk : k < 4) (hok : okRC N k oth dl) (hq : ∀ σ, ruA (nE N) σ (rnC N k oth dl) → CV g (RUa a N σ h) a ws N m pe ep fb ft σ → Q (.returned (some (.ref (a 9)))) (RUa a N σ h)) : ew_T g kX8_goes 5 [.ref (a 9), .ref (a 14), .ref (a 5), .int (nI k), .int oth, .int dl] h Q := by
  refine ew_okT (fun ho => ?_)
  have hag := rnF1_ag hf ρ k oth dl
  have key := t_goes (g := g) (h := h) (ρ := ρ) (Q := Q) (k := k) (oth := oth) (dl := dl) C.r (fun σ => (C.ru hg ho σ).n) (fun σ => (C.ru hg ho σ).b) hk (hag.2.mpr hok) (hq _ hag.1 (C.ru hg ho _))
  have hs : RU (a 9) (a 10) (a 11) (a 12) (a 13) (nE N) ρ h = h := C.self
  rw [hs] at key
  exact key
end
