/-! EW: nets in the component's heap -/
set_option maxRecDepth 100000
/-- window w of a net -/
def wN (N : Nat → Int32) (w : Nat) : ac := wV (N (2 + 6 * w + 0)) (N (2 + 6 * w + 1)) (N (2 + 6 * w + 2)) (N (2 + 6 * w + 3)) (N (2 + 6 * w + 4)) (N (2 + 6 * w + 5))
/-- an int array that holds n numbers of N from k on -/
def nF (h : eh) (a n : Nat) (N : Nat → Int32) (k : Nat) : Prop := ∃ f, h.1 a = some (aI n f) ∧ ∀ e, e < n → f e = N (k + e)
/-- a net at p: its names' array, list, the list's array, arrays of times, delays, wishes, windows -/
def NR (g : eg) (h : eh) (p nA L E F D W : Nat) (ws : List Nat) (N : Nat → Int32) : Prop :=
  okN N ∧ h.1 p = some (ob 5 [.ref nA, .ref L, .ref F, .ref D, .ref W]) ∧ (∃ fn, rd g h nA = some (aR 6 (nE N) fn)) ∧ AL g h L E ws ∧ ws.length = nW N ∧ (∀ i x, ws[i]? = some x → h.1 x = some (wN N i)) ∧
  nF h F (nE N) N 146 ∧ nF h D (nE N) N 156 ∧ nF h W (nE N) N 166 ∧ ws.Nodup ∧ F ≠ D ∧ F ≠ W ∧ D ≠ W
theorem NR.ok {g : eg} {h : eh} {p nA L E F D W : Nat} {ws : List Nat} {N : Nat → Int32} (r : NR g h p nA L E F D W ws N) : okN N := r.1
theorem NR.o {g : eg} {h : eh} {p nA L E F D W : Nat} {ws : List Nat} {N : Nat → Int32} (r : NR g h p nA L E F D W ws N) : h.1 p = some (ob 5 [.ref nA, .ref L, .ref F, .ref D, .ref W]) := r.2.1
theorem NR.n {g : eg} {h : eh} {p nA L E F D W : Nat} {ws : List Nat} {N : Nat → Int32} (r : NR g h p nA L E F D W ws N) : ∃ fn, rd g h nA = some (aR 6 (nE N) fn) := r.2.2.1
theorem NR.l {g : eg} {h : eh} {p nA L E F D W : Nat} {ws : List Nat} {N : Nat → Int32} (r : NR g h p nA L E F D W ws N) : AL g h L E ws := r.2.2.2.1
theorem NR.len {g : eg} {h : eh} {p nA L E F D W : Nat} {ws : List Nat} {N : Nat → Int32} (r : NR g h p nA L E F D W ws N) : ws.length = nW N := r.2.2.2.2.1
theorem NR.w {g : eg} {h : eh} {p nA L E F D W : Nat} {ws : List Nat} {N : Nat → Int32} (r : NR g h p nA L E F D W ws N) : ∀ i x, ws[i]? = some x → h.1 x = some (wN N i) := r.2.2.2.2.2.1
theorem NR.F {g : eg} {h : eh} {p nA L E F D W : Nat} {ws : List Nat} {N : Nat → Int32} (r : NR g h p nA L E F D W ws N) : nF h F (nE N) N 146 := r.2.2.2.2.2.2.1
theorem NR.D {g : eg} {h : eh} {p nA L E F D W : Nat} {ws : List Nat} {N : Nat → Int32} (r : NR g h p nA L E F D W ws N) : nF h D (nE N) N 156 := r.2.2.2.2.2.2.2.1
theorem NR.W {g : eg} {h : eh} {p nA L E F D W : Nat} {ws : List Nat} {N : Nat → Int32} (r : NR g h p nA L E F D W ws N) : nF h W (nE N) N 166 := r.2.2.2.2.2.2.2.2.1
theorem NR.at {g : eg} {h : eh} {p nA L E F D W i : Nat} {ws : List Nat} {N : Nat → Int32} (r : NR g h p nA L E F D W ws N) (hi : i < nW N) : ∃ x, ws[i]? = some x ∧ h.1 x = some (wN N i) :=
  ⟨_, List.getElem?_eq_getElem (by rw [r.len]; exact hi), r.w i _ (List.getElem?_eq_getElem (by rw [r.len]; exact hi))⟩
/-- the addresses that make up a net -/
def nO (p L E F D W : Nat) (ws : List Nat) : List Nat := p :: L :: E :: F :: D :: W :: ws
theorem nF.ke {A : List Nat} {c s a n k : Nat} {g : eg} {h h' : eh} {N : Nat → Int32} (r : nF h a n N k) (ke : Ke A c s h h') (ho : eh_ok g h) (hA : a ∉ A) : nF h' a n N k := r.elim fun f hf => ⟨f, ke.h ho hf.1 hA, hf.2⟩
theorem NR.ke {g : eg} {h h' : eh} {p nA L E F D W c s : Nat} {A ws : List Nat} {N : Nat → Int32} (r : NR g h p nA L E F D W ws N) (k : Ke A c s h h') (hg : gOC g) (ho : eh_ok g h) (hA : ∀ a, a ∈ nA :: nO p L E F D W ws → a ∉ A) : NR g h' p nA L E F D W ws N := by
  have m : ∀ a, a ∈ nO p L E F D W ws → a ∉ A := fun a h9 => hA a (List.mem_cons_of_mem _ h9)
  simp only [nO, List.mem_cons] at m
  obtain ⟨r1, r2, ⟨fn, r3⟩, r4, r5, r6, r7, r8, r9, r10⟩ := r
  refine ⟨r1, k.h ho r2 (m p (Or.inl rfl)), ⟨fn, k.rd hg ho r3 (hA nA List.mem_cons_self)⟩, r4.ke k hg ho (m L (Or.inr (Or.inl rfl))) (m E (Or.inr (Or.inr (Or.inl rfl)))), r5, fun i x hx => k.h ho (r6 i x hx) (m x (Or.inr (Or.inr (Or.inr (Or.inr (Or.inr (Or.inr (List.mem_of_getElem? hx)))))))), r7.ke k ho (m F (Or.inr (Or.inr (Or.inr (Or.inl rfl))))), r8.ke k ho (m D (Or.inr (Or.inr (Or.inr (Or.inr (Or.inl rfl)))))), r9.ke k ho (m W (Or.inr (Or.inr (Or.inr (Or.inr (Or.inr (Or.inl rfl))))))), r10⟩
/-- no object, no array of objects is the int array at a -/
theorem rd_ob {g : eg} {h : eh} {a b ci n : Nat} {fs : List Value} {f : Nat → Int32} (h1 : rd g h b = some (ob ci fs)) (h2 : h.1 a = some (aI n f)) : b ≠ a := by
  intro e
  rw [e, rd_of h2] at h1
  cases h1
theorem rd_ar {g : eg} {h : eh} {a b t n m : Nat} {fr : Nat → Option Nat} {f : Nat → Int32} (h1 : rd g h b = some (aR t m fr)) (h2 : h.1 a = some (aI n f)) : b ≠ a := by
  intro e
  rw [e, rd_of h2] at h1
  cases h1
/-- another int array changes -/
theorem NR.setI {g : eg} {h : eh} {p nA L E F D W A n : Nat} {ws : List Nat} {N f f2 : Nat → Int32} (r : NR g h p nA L E F D W ws N) (hA : h.1 A = some (aI n f)) (hF : A ∉ [F, D, W]) : NR g (eh_set h A (aI n f2)) p nA L E F D W ws N := by
  simp only [List.mem_cons, List.not_mem_nil, or_false, not_or] at hF
  obtain ⟨r1, r2, ⟨fn, r3⟩, ⟨mc, cap, fE, l1, l2, l3, l4⟩, r5, r6, ⟨f7, r7, r7'⟩, ⟨f8, r8, r8'⟩, ⟨f9, r9, r9'⟩, r10⟩ := r
  have nE := rd_ar l2 hA
  exact ⟨r1, sn_1 r2 (rd_ob (rd_of (g := g) r2) hA), ⟨fn, rd_sn r3 (rd_ar r3 hA)⟩, ⟨mc, cap, fE, sn_1 l1 (rd_ob (rd_of (g := g) l1) hA), rd_sn l2 nE, fun h9 => sn_1 (l3 h9) nE, l4⟩, r5, fun i x hx => sn_1 (r6 i x hx) (rd_ob (rd_of (g := g) (r6 i x hx)) hA), ⟨f7, sn_1 r7 (fun e => hF.1 e.symm), r7'⟩, ⟨f8, sn_1 r8 (fun e => hF.2.1 e.symm), r8'⟩, ⟨f9, sn_1 r9 (fun e => hF.2.2 e.symm), r9'⟩, r10⟩
theorem t_inC {g : eg} {h : eh} {v low high : Int32} {Q : Outcome → eh → Prop} (hq : Q (.returned (some (.int (bI (low ≤ v ∧ v ≤ high))))) h) : ew_T g kX1_in 0 [.int v, .int low, .int high] h Q := by
  refine ew_enter (by decide +kernel) (ew_a1 rfl (ew_a1 rfl (ew_a1 rfl ew_az))) (Nat.le_of_ble_eq_true rfl) ?_
  refine ew_iload_n (pc := 0) dX1_in_0 rfl ?_
  refine ew_iload_n (pc := 1) dX1_in_1 rfl ?_
  refine ew_icmp_lt (pc := 2) (tgt := 14) dX1_in_2 (by decide) (fun c2 => ?_) (fun c2 => ?_)
  · refine ew_iconst (pc := 14) (v := 0) dX1_in_14 rfl ?_
    refine ew_zret (pc := 15) (ty := .boolean) rfl rfl dX1_in_15 ?_
    first
    | rw [bI_f (show ¬ (low ≤ v ∧ v ≤ high) from fun h9 => absurd h9.1 (Int32.not_le.mpr c2))] at hq
      exact hq
    | rw [bI_f (show ¬ (low ≤ v ∧ v ≤ high) from fun h9 => absurd h9.2 (Int32.not_le.mpr c7))] at hq
      exact hq
    | rw [bI_t (show low ≤ v ∧ v ≤ high from ⟨Int32.not_lt.mp c2, Int32.not_lt.mp c7⟩)] at hq
      exact hq
  · refine ew_iload_n (pc := 5) dX1_in_5 rfl ?_
    refine ew_iload_n (pc := 6) dX1_in_6 rfl ?_
    refine ew_icmp_gt (pc := 7) (tgt := 14) dX1_in_7 (by decide) (fun c7 => ?_) (fun c7 => ?_)
    · refine ew_iconst (pc := 14) (v := 0) dX1_in_14 rfl ?_
      refine ew_zret (pc := 15) (ty := .boolean) rfl rfl dX1_in_15 ?_
      first
      | rw [bI_f (show ¬ (low ≤ v ∧ v ≤ high) from fun h9 => absurd h9.1 (Int32.not_le.mpr c2))] at hq
        exact hq
      | rw [bI_f (show ¬ (low ≤ v ∧ v ≤ high) from fun h9 => absurd h9.2 (Int32.not_le.mpr c7))] at hq
        exact hq
      | rw [bI_t (show low ≤ v ∧ v ≤ high from ⟨Int32.not_lt.mp c2, Int32.not_lt.mp c7⟩)] at hq
        exact hq
    · refine ew_iconst (pc := 10) (v := 1) dX1_in_10 rfl ?_
      refine ew_goto (pc := 11) (tgt := 15) dX1_in_11 (by decide) ?_
      refine ew_zret (pc := 15) (ty := .boolean) rfl rfl dX1_in_15 ?_
      first
      | rw [bI_f (show ¬ (low ≤ v ∧ v ≤ high) from fun h9 => absurd h9.1 (Int32.not_le.mpr c2))] at hq
        exact hq
      | rw [bI_f (show ¬ (low ≤ v ∧ v ≤ high) from fun h9 => absurd h9.2 (Int32.not_le.mpr c7))] at hq
        exact hq
      | rw [bI_t (show low ≤ v ∧ v ≤ high from ⟨Int32.not_lt.mp c2, Int32.not_lt.mp c7⟩)] at hq
        exact hq
theorem t_hasC {g : eg} {h : eh} {set k : Int32} {Q : Outcome → eh → Prop} (hq : Q (.returned (some (.int (bI (hasB set k))))) h) : ew_T g kX1_has 0 [.int set, .int k] h Q := by
  refine ew_enter (by decide +kernel) (ew_a1 rfl (ew_a1 rfl ew_az)) (Nat.le_of_ble_eq_true rfl) ?_
  refine ew_iload_n (pc := 0) dX1_has_0 rfl ?_
  refine ew_iload_n (pc := 1) dX1_has_1 rfl ?_
  refine ew_ishr (pc := 2) dX1_has_2 ?_
  refine ew_iconst (pc := 3) (v := 1) dX1_has_3 rfl ?_
  refine ew_iand (pc := 4) dX1_has_4 ?_
  refine ew_iconst (pc := 5) (v := 1) dX1_has_5 rfl ?_
  refine ew_icmp_ne (pc := 6) (tgt := 13) dX1_has_6 (by decide) (fun c6 => ?_) (fun c6 => ?_)
  · refine ew_iconst (pc := 13) (v := 0) dX1_has_13 rfl ?_
    refine ew_zret (pc := 14) (ty := .boolean) rfl rfl dX1_has_14 ?_
    first
    | rw [bI_f c6] at hq
      exact hq
    | rw [bI_t c6] at hq
      exact hq
  · refine ew_iconst (pc := 9) (v := 1) dX1_has_9 rfl ?_
    refine ew_goto (pc := 10) (tgt := 14) dX1_has_10 (by decide) ?_
    refine ew_zret (pc := 14) (ty := .boolean) rfl rfl dX1_has_14 ?_
    first
    | rw [bI_f c6] at hq
      exact hq
    | rw [bI_t c6] at hq
      exact hq
section
variable {g : eg} {h : eh} {p nA L E F D W : Nat} {ws : List Nat} {N : Nat → Int32} {Q : Outcome → eh → Prop}
theorem t_nEvents (r : NR g h p nA L E F D W ws N) (hq : Q (.returned (some (.int (nI (nE N))))) h) : ew_T g kX6_events 0 [.ref p] h Q := by
  obtain ⟨fn, hn⟩ := r.n
  refine ew_enter (by decide +kernel) (ew_a1 rfl ew_az) (Nat.le_of_ble_eq_true rfl) ?_
  refine ew_aload_n (pc := 0) dX6_events_0 rfl ?_
  refine ew_getf (pc := 1) fX6_18 (rd_of r.o) rfl dX6_events_1 ?_
  refine ew_alen (pc := 4) hn rfl dX6_events_4 ?_
  refine ew_iret (pc := 5) rfl dX6_events_5 ?_
  exact hq
theorem t_nFree {e : Nat} (r : NR g h p nA L E F D W ws N) (he : e < nE N) (hq : Q (.returned (some (.int (bI (N (146 + e) = -1))))) h) : ew_T g kX6_isFree 0 [.ref p, .int (nI e)] h Q := by
  obtain ⟨f, hf, hf2⟩ := r.F
  have hE := r.ok.e2
  rw [← hf2 e he] at hq
  refine ew_enter (by decide +kernel) (ew_a1 rfl (ew_a1 rfl ew_az)) (Nat.le_of_ble_eq_true rfl) ?_
  refine ew_aload_n (pc := 0) dX6_isFree_0 rfl ?_
  refine ew_getf (pc := 1) fX6_22 (rd_of r.o) rfl dX6_isFree_1 ?_
  refine ew_iload_n (pc := 4) dX6_isFree_4 rfl ?_
  refine ew_iaJ (pc := 5) (rd_of hf) (j := e) rfl he (by omega) dX6_isFree_5 ?_
  refine ew_iconst (pc := 6) (v := -1) dX6_isFree_6 rfl ?_
  refine ew_icmp_ne (pc := 7) (tgt := 14) dX6_isFree_7 (by decide) (fun c7 => ?_) (fun c7 => ?_)
  · refine ew_iconst (pc := 14) (v := 0) dX6_isFree_14 rfl ?_
    refine ew_zret (pc := 15) (ty := .boolean) rfl rfl dX6_isFree_15 ?_
    first
    | rw [bI_f c7] at hq
      exact hq
    | rw [bI_t c7] at hq
      exact hq
    | rw [bI_t (Decidable.not_not.mp c7)] at hq
      exact hq
  · refine ew_iconst (pc := 10) (v := 1) dX6_isFree_10 rfl ?_
    refine ew_goto (pc := 11) (tgt := 15) dX6_isFree_11 (by decide) ?_
    refine ew_zret (pc := 15) (ty := .boolean) rfl rfl dX6_isFree_15 ?_
    first
    | rw [bI_f c7] at hq
      exact hq
    | rw [bI_t c7] at hq
      exact hq
    | rw [bI_t (Decidable.not_not.mp c7)] at hq
      exact hq
theorem t_nSoft (r : NR g h p nA L E F D W ws N) (hq : Q (.returned (some (.int (nI (softC N (nW N)))))) h) : ew_T g kX6_soft 3 [.ref p] h Q := by
  have hw := r.ok.w2
  have main : ∀ m k, k + m = nW N → ew_G g kX6_soft 3 4 [.ref p, .int (nI (softC N k)), .int (nI k)] [] h Q := by
    intro m
    induction m with
    | zero =>
      intro k hk
      have e9 : k = nW N := by omega
      subst e9
      obtain ⟨mc, cap, f, h1, -⟩ := r.l
      refine ew_iload_n (pc := 4) dX6_soft_4 rfl ?_
      refine ew_aload_n (pc := 5) dX6_soft_5 rfl ?_
      refine ew_getf (pc := 6) fX6_12 (rd_of r.o) rfl dX6_soft_6 ?_
      refine ew_cF0 (d' := 0) (pc := 9) tX6_35_19 (rd_of h1) dX6_soft_9 (by decide) (ew_rm (Nat.le_of_ble_eq_true rfl)) ?_
      refine t_alSize r.l ?_
      rw [r.len]
      refine ew_Kr ?_
      refine ew_icmp_ge (pc := 14) (tgt := 50) dX6_soft_14 (by decide) (fun c14 => ?_) (fun c14 => absurd (nI_le (Nat.le_refl _) (by omega)) c14)
      refine ew_iload_n (pc := 50) dX6_soft_50 rfl ?_
      refine ew_iret (pc := 51) rfl dX6_soft_51 ?_
      exact hq
    | succ m ih =>
      intro k hk
      obtain ⟨mc, cap, f, h1, -⟩ := r.l
      obtain ⟨x, hx, hxw⟩ := r.at (i := k) (by omega)
      have hco := r.ok.co k (by omega)
      refine ew_iload_n (pc := 4) dX6_soft_4 rfl ?_
      refine ew_aload_n (pc := 5) dX6_soft_5 rfl ?_
      refine ew_getf (pc := 6) fX6_12 (rd_of r.o) rfl dX6_soft_6 ?_
      refine ew_cF0 (d' := 0) (pc := 9) tX6_35_19 (rd_of h1) dX6_soft_9 (by decide) (ew_rm (Nat.le_of_ble_eq_true rfl)) ?_
      refine t_alSize r.l ?_
      rw [r.len]
      refine ew_Kr ?_
      refine ew_icmp_ge (pc := 14) (tgt := 50) dX6_soft_14 (by decide) (fun c14 => absurd c14 (nI_ge (by omega) (by omega))) (fun c14 => ?_)
      refine ew_iload_n (pc := 17) dX6_soft_17 rfl ?_
      refine ew_aload_n (pc := 18) dX6_soft_18 rfl ?_
      refine ew_getf (pc := 19) fX6_12 (rd_of r.o) rfl dX6_soft_19 ?_
      refine ew_iload_n (pc := 22) dX6_soft_22 rfl ?_
      refine ew_cF1 (d' := 2) (pc := 23) tX6_41_19 (rd_of h1) dX6_soft_23 (by decide) (ew_rm (Nat.le_of_ble_eq_true rfl)) ?_
      refine t_alGet r.l hx ?_
      refine ew_Kr ?_
      refine ew_cast (pc := 28) rfl (rd_of hxw) (ew_q q1675) (Or.inl rfl) dX6_soft_28 ?_
      refine ew_getf (pc := 31) fX6_61 (rd_of hxw) rfl dX6_soft_31 ?_
      refine ew_if_le (pc := 34) (tgt := 41) dX6_soft_34 (by decide) (fun c34 => ?_) (fun c34 => ?_)
      · refine ew_iconst (pc := 41) (v := 0) dX6_soft_41 rfl ?_
        refine ew_iadd (pc := 42) dX6_soft_42 ?_
        refine ew_istore_n (pc := 43) dX6_soft_43 rfl (by decide) (p1_1 rfl) ?_
        refine ew_iinc (pc := 44) dX6_soft_44 rfl (nI_inc k) (by decide) (p1_2 rfl) ?_
        refine ew_goto (pc := 47) (tgt := 4) dX6_soft_47 (by decide) ?_
        first
        | have c35 : ¬ N (2 + 6 * k + 4) ≤ 0 := c34
          have e9 : softC N (k + 1) = softC N k + 1 := by
            rw [softC, if_neg (fun h9 => c35 (by rw [h9]; decide))]
          have h8 := ih (k + 1) (by omega)
          rw [e9, ← nI_1] at h8
          exact h8
        | have e9 : softC N (k + 1) = softC N k := by
            rw [softC, if_pos (Int32.le_antisymm c34 hco.1), Nat.add_zero]
          have h8 := ih (k + 1) (by omega)
          rw [e9] at h8
          rw [Int32.add_zero]
          exact h8
      · refine ew_iconst (pc := 37) (v := 1) dX6_soft_37 rfl ?_
        refine ew_goto (pc := 38) (tgt := 42) dX6_soft_38 (by decide) ?_
        refine ew_iadd (pc := 42) dX6_soft_42 ?_
        refine ew_istore_n (pc := 43) dX6_soft_43 rfl (by decide) (p1_1 rfl) ?_
        refine ew_iinc (pc := 44) dX6_soft_44 rfl (nI_inc k) (by decide) (p1_2 rfl) ?_
        refine ew_goto (pc := 47) (tgt := 4) dX6_soft_47 (by decide) ?_
        first
        | have c35 : ¬ N (2 + 6 * k + 4) ≤ 0 := c34
          have e9 : softC N (k + 1) = softC N k + 1 := by
            rw [softC, if_neg (fun h9 => c35 (by rw [h9]; decide))]
          have h8 := ih (k + 1) (by omega)
          rw [e9, ← nI_1] at h8
          exact h8
        | have e9 : softC N (k + 1) = softC N k := by
            rw [softC, if_pos (Int32.le_antisymm c34 hco.1), Nat.add_zero]
          have h8 := ih (k + 1) (by omega)
          rw [e9] at h8
          rw [Int32.add_zero]
          exact h8
  refine ew_enter (by decide +kernel) (ew_a1 rfl (ew_an (ew_an ew_az))) (Nat.le_of_ble_eq_true rfl) ?_
  refine ew_iconst (pc := 0) (v := 0) dX6_soft_0 rfl ?_
  refine ew_istore_n (pc := 1) dX6_soft_1 rfl (by decide) (p1_1 rfl) ?_
  refine ew_iconst (pc := 2) (v := 0) dX6_soft_2 rfl ?_
  refine ew_istore_n (pc := 3) dX6_soft_3 rfl (by decide) (p1_2 rfl) ?_
  exact main (nW N) 0 (by omega)
end
