/-! EW: a window, an event of the component's net changes; the state at large -/
set_option maxRecDepth 100000
theorem up_n {f : Nat → Int32} {k j : Nat} {x : Int32} (h : j ≠ k) : upd f k x j = f j := by
  show (if j = k then x else f j) = f j
  rw [if_neg h]
theorem up_e {f : Nat → Int32} {k : Nat} {x : Int32} : upd f k x k = x := by
  show (if k = k then x else f k) = x
  rw [if_pos rfl]
/-- a net of as many events and windows -/
def nLk (N N' : Nat → Int32) : Prop := nE N' = nE N ∧ nW N' = nW N
theorem nLk.up {N : Nat → Int32} {k : Nat} {v : Int32} (h : 2 ≤ k) : nLk N (upd N k v) := by
  constructor
  · unfold nE
    rw [up_n (by omega)]
  · unfold nW
    rw [up_n (by omega)]
theorem okN.uw {N : Nat → Int32} {w k : Nat} {v : Int32} (ok : okN N) (hw : w < nW N) (h2 : 2 ≤ k) (h6 : k < 6) (hv2 : k = 2 → fR 0 999 v) (hv3 : k = 3 → fR (-1) 999 v) (hv4 : k = 4 → fR 0 99 v) (hv5 : k = 5 → v = 0 ∨ v = 1) : okN (upd N (2 + 6 * w + k) v) := by
  obtain ⟨e1, e2⟩ : nLk N (upd N (2 + 6 * w + k) v) := nLk.up (by omega)
  have h24 := ok.w2
  have ne : ∀ j, j ≠ 2 + 6 * w + k → upd N (2 + 6 * w + k) v j = N j := fun j hj => up_n hj
  have ca : ∀ w' j, j < 6 → (upd N (2 + 6 * w + k) v (2 + 6 * w' + j) = N (2 + 6 * w' + j)) ∨ (w' = w ∧ j = k ∧ upd N (2 + 6 * w + k) v (2 + 6 * w' + j) = v) := fun w' j hj => by
    by_cases h9 : w' = w ∧ j = k
    · rw [h9.1, h9.2]
      exact Or.inr ⟨rfl, rfl, up_e⟩
    · exact Or.inl (ne _ (by omega))
  have fa : ∀ w', fA (upd N (2 + 6 * w + k) v) w' = fA N w' := fun w' => by
    unfold fA
    rw [ne _ (by omega)]
  have fb9 : ∀ w', fB (upd N (2 + 6 * w + k) v) w' = fB N w' := fun w' => by
    unfold fB
    rw [ne _ (by omega)]
  refine ⟨?_, ?_, ?_, ?_, ?_, fun w' h => ?_, fun w' h => ?_, fun w' h => ?_, fun w' h => ?_, fun w' h => ?_, fun w' h => ?_, fun w' h => ?_, fun w' h => ?_, fun e h => ?_, ?_, fun e h => ?_, fun e h => ?_⟩
  · rw [e1, ne _ (by omega)]; exact ok.e
  · rw [e1]; exact ok.e1
  · rw [e1]; exact ok.e2
  · rw [e2, ne _ (by omega)]; exact ok.w
  · rw [e2]; exact ok.w2
  · rw [e2] at h; rw [fa, ne _ (by omega)]; exact ok.a w' h
  · rw [e2] at h; rw [fa, e1]; exact ok.al w' h
  · rw [e2] at h; rw [fb9, ne _ (by omega)]; exact ok.b w' h
  · rw [e2] at h; rw [fb9, e1]; exact ok.bl w' h
  · rw [e2] at h
    rcases ca w' 2 (by decide) with h9 | ⟨-, h8, h9⟩
    · rw [h9]; exact ok.lo w' h
    · rw [h9]; exact hv2 h8.symm
  · rw [e2] at h
    rcases ca w' 3 (by decide) with h9 | ⟨-, h8, h9⟩
    · rw [h9]; exact ok.hi w' h
    · rw [h9]; exact hv3 h8.symm
  · rw [e2] at h
    rcases ca w' 4 (by decide) with h9 | ⟨-, h8, h9⟩
    · rw [h9]; exact ok.co w' h
    · rw [h9]; exact hv4 h8.symm
  · rw [e2] at h
    rcases ca w' 5 (by decide) with h9 | ⟨-, h8, h9⟩
    · rw [h9]; exact ok.dr w' h
    · rw [h9]; exact hv5 h8.symm
  · rw [e1] at h; rw [ne _ (by omega)]; exact ok.fx e h
  · rw [ne _ (by omega)]; exact ok.fx0
  · rw [e1] at h; rw [ne _ (by omega)]; exact ok.dl e h
  · rw [e1] at h; rw [ne _ (by omega)]; exact ok.wi e h
/-- a number of an event: k is 146, 156 or 166 -/
theorem okN.ue {N : Nat → Int32} {e k : Nat} {v : Int32} (ok : okN N) (he : e < nE N) (hk : k = 146 ∨ k = 156 ∨ k = 166) (h0 : k = 146 → fR (-1) 999 v ∧ e ≠ 0) (h1 : k = 156 → fR 0 99 v) (h2 : k = 166 → fR (-1) 999 v) : okN (upd N (k + e) v) := by
  obtain ⟨e1, e2⟩ : nLk N (upd N (k + e) v) := nLk.up (by omega)
  have h24 := ok.w2
  have h10 := ok.e2
  have ne : ∀ j, j ≠ k + e → upd N (k + e) v j = N j := fun j hj => up_n hj
  have fa : ∀ w', w' < 24 → fA (upd N (k + e) v) w' = fA N w' := fun w' h => by
    unfold fA
    rw [ne _ (by omega)]
  have fb9 : ∀ w', w' < 24 → fB (upd N (k + e) v) w' = fB N w' := fun w' h => by
    unfold fB
    rw [ne _ (by omega)]
  have ca : ∀ k' e', e' < 10 → (k' = 146 ∨ k' = 156 ∨ k' = 166) → (upd N (k + e) v (k' + e') = N (k' + e')) ∨ (e' = e ∧ k' = k ∧ upd N (k + e) v (k' + e') = v) := fun k' e' he' hk' => by
    by_cases h9 : e' = e ∧ k' = k
    · rw [h9.1, h9.2]
      exact Or.inr ⟨rfl, rfl, up_e⟩
    · exact Or.inl (ne _ (by omega))
  refine ⟨?_, ?_, ?_, ?_, ?_, fun w' h => ?_, fun w' h => ?_, fun w' h => ?_, fun w' h => ?_, fun w' h => ?_, fun w' h => ?_, fun w' h => ?_, fun w' h => ?_, fun e' h => ?_, ?_, fun e' h => ?_, fun e' h => ?_⟩
  · rw [e1, ne _ (by omega)]; exact ok.e
  · rw [e1]; exact ok.e1
  · rw [e1]; exact ok.e2
  · rw [e2, ne _ (by omega)]; exact ok.w
  · rw [e2]; exact ok.w2
  · rw [e2] at h; rw [fa _ (by omega), ne _ (by omega)]; exact ok.a w' h
  · rw [e2] at h; rw [fa _ (by omega), e1]; exact ok.al w' h
  · rw [e2] at h; rw [fb9 _ (by omega), ne _ (by omega)]; exact ok.b w' h
  · rw [e2] at h; rw [fb9 _ (by omega), e1]; exact ok.bl w' h
  · rw [e2] at h; rw [ne _ (by omega)]; exact ok.lo w' h
  · rw [e2] at h; rw [ne _ (by omega)]; exact ok.hi w' h
  · rw [e2] at h; rw [ne _ (by omega)]; exact ok.co w' h
  · rw [e2] at h; rw [ne _ (by omega)]; exact ok.dr w' h
  · rw [e1] at h
    rcases ca 146 e' (by omega) (Or.inl rfl) with h9 | ⟨-, h8, h9⟩
    · rw [h9]; exact ok.fx e' h
    · rw [h9]; exact (h0 h8.symm).1
  · rcases ca 146 0 (by omega) (Or.inl rfl) with h9 | ⟨h7, h8, h9⟩
    · rw [Nat.add_zero] at h9; rw [h9]; exact ok.fx0
    · exact absurd h7.symm (h0 h8.symm).2
  · rw [e1] at h
    rcases ca 156 e' (by omega) (Or.inr (Or.inl rfl)) with h9 | ⟨-, h8, h9⟩
    · rw [h9]; exact ok.dl e' h
    · rw [h9]; exact h1 h8.symm
  · rw [e1] at h
    rcases ca 166 e' (by omega) (Or.inr (Or.inr rfl)) with h9 | ⟨-, h8, h9⟩
    · rw [h9]; exact ok.wi e' h
    · rw [h9]; exact h2 h8.symm
theorem wN_up {N : Nat → Int32} {k i : Nat} {v : Int32} (hk : 146 ≤ k) (hi : i < 24) : wN (upd N k v) i = wN N i := by
  unfold wN
  rw [up_n (by omega), up_n (by omega), up_n (by omega), up_n (by omega), up_n (by omega), up_n (by omega)]
theorem ev_ne {k k' q q' e e' : Nat} (hk : (k = 146 ∧ q = 18) ∨ (k = 156 ∧ q = 19) ∨ (k = 166 ∧ q = 20)) (hk' : (k' = 146 ∧ q' = 18) ∨ (k' = 156 ∧ q' = 19) ∨ (k' = 166 ∧ q' = 20)) (he : e < 10) (he' : e' < 10) (hn : ¬ q' = q) : k' + e' ≠ k + e := by omega
theorem ev_eq {k k' q q' : Nat} (hk : (k = 146 ∧ q = 18) ∨ (k = 156 ∧ q = 19) ∨ (k = 166 ∧ q = 20)) (hk' : (k' = 146 ∧ q' = 18) ∨ (k' = 156 ∧ q' = 19) ∨ (k' = 166 ∧ q' = 20)) (hn : q' = q) : k' = k := by omega
theorem ev_146 {k q : Nat} (hk : (k = 146 ∧ q = 18) ∨ (k = 156 ∧ q = 19) ∨ (k = 166 ∧ q = 20)) : 146 ≤ k := by omega
theorem nodup_ix {l : List Nat} (h : l.Nodup) {i j x : Nat} (hi : l[i]? = some x) (hj : l[j]? = some x) : i = j := by
  have h1 := List.pairwise_iff_getElem.mp h
  obtain ⟨hi1, hi2⟩ := List.getElem?_eq_some_iff.mp hi
  obtain ⟨hj1, hj2⟩ := List.getElem?_eq_some_iff.mp hj
  rcases Nat.lt_trichotomy i j with h9 | h9 | h9
  · exact absurd (hi2.trans hj2.symm) (h1 i j hi1 hj1 h9)
  · exact h9
  · exact absurd (hj2.trans hi2.symm) (h1 j i hj1 hi1 h9)
section
variable {g : eg} {h h' : eh} {a : Nat → Nat} {ws : List Nat} {N N' : Nat → Int32} {m pe ep : Int32} {fb ft : Nat → Int32} {ρ : ru} {Q : Outcome → eh → Prop} {n A2 hd A4 c s : Nat} {P : List nbd} {sv : Nat → Option nbd} {tx : List Int32} {fbuf nm : Nat → Int32} {sn vn : Nat → Nat}
/-- window w becomes as N' has it -/
theorem cv_win {w x : Nat} (C : CV g h a ws N m pe ep fb ft ρ) (hx : ws[w]? = some x) (ok' : okN N') (hl : nLk N N') (h1 : ∀ i, i ≠ w → wN N' i = wN N i) (h2 : ∀ i, 146 ≤ i → i < 176 → N' i = N i) : CV g (eh_set h x (wN N' w)) a ws N' m pe ep fb ft ρ := by
  have hxw := C.n.w w x hx
  have neO : ∀ b ci fs, rd g h b = some (ob ci fs) → ci ≠ 4 → b ≠ x := fun b ci fs h9 h8 e => by
    rw [e, rd_of hxw] at h9
    cases h9
    exact h8 rfl
  have neA : ∀ b t n f, rd g h b = some (.inl (t, n, f)) → b ≠ x := fun b t n f h9 e => by
    rw [e, rd_of hxw] at h9
    cases h9
  have cc := C.c
  have hE := C.n.ok.e2
  obtain ⟨r1, r2, r3, r4, r5, r6, r7, r8⟩ := C.r
  obtain ⟨n1, n2, ⟨fn, n3⟩, ⟨mc, cap, fE, l1, l2, l3, l4⟩, n5, n6, ⟨f7, n7, n7'⟩, ⟨f8, n8, n8'⟩, ⟨f9, n9, n9'⟩, n10⟩ := C.n
  obtain ⟨b1, b2, b3⟩ := C.b
  obtain ⟨t1, t2, t3⟩ := C.t
  have hev : ∀ k, k = 146 ∨ k = 156 ∨ k = 166 → ∀ e, e < nE N → N' (k + e) = N (k + e) := fun k hk e he => h2 _ (by omega) (by omega)
  refine ⟨sn_1 C.o (neO _ _ _ (rd_of C.o) (by decide)), ⟨ok', sn_1 n2 (neO _ _ _ (rd_of n2) (by decide)), ⟨fn, ?_⟩, ⟨mc, cap, fE, sn_1 l1 (neO _ _ _ (rd_of l1) (by decide)), rd_sn l2 (neA _ _ _ _ l2), fun h9 => sn_1 (l3 h9) (neA _ _ _ _ l2), l4⟩, by rw [hl.2]; exact n5, fun i y hy => ?_, ?_, ?_, ?_, n10⟩, ?_, ?_, ?_, ?_, C.d⟩
  · rw [hl.1]; exact rd_sn n3 (neA _ _ _ _ n3)
  · by_cases hyx : y = x
    · have e9 : i = w := nodup_ix n10.1 hy (by rw [hyx]; exact hx)
      rw [e9, hyx]
      exact se_1 _ _ _
    · have e9 : i ≠ w := fun e => hyx (by rw [e, hx] at hy; exact (Option.some.inj hy).symm)
      rw [h1 i e9]
      exact sn_1 (n6 i y hy) hyx
  · refine ⟨f7, ?_, fun e he => ?_⟩
    · rw [hl.1]; exact sn_1 n7 (neA _ _ _ _ (rd_of n7))
    · rw [hl.1] at he; rw [hev 146 (Or.inl rfl) e he]; exact n7' e he
  · refine ⟨f8, ?_, fun e he => ?_⟩
    · rw [hl.1]; exact sn_1 n8 (neA _ _ _ _ (rd_of n8))
    · rw [hl.1] at he; rw [hev 156 (Or.inr (Or.inl rfl)) e he]; exact n8' e he
  · refine ⟨f9, ?_, fun e he => ?_⟩
    · rw [hl.1]; exact sn_1 n9 (neA _ _ _ _ (rd_of n9))
    · rw [hl.1] at he; rw [hev 166 (Or.inr (Or.inr rfl)) e he]; exact n9' e he
  · rw [hl.1]; exact ⟨rd_sn b1 (neO _ _ _ b1 (by decide)), sn_1 b2 (neA _ _ _ _ (rd_of b2)), b3⟩
  · rw [hl.1]; exact ⟨rd_sn t1 (neO _ _ _ t1 (by decide)), sn_1 t2 (neA _ _ _ _ (rd_of t2)), t3⟩
  · rw [hl.1]; exact ⟨r1, r2, r3, r4, r5, r6, rd_sn r7 (neO _ _ _ r7 (by decide)), r8⟩
  · rw [hl.1]; exact ⟨sn_1 cc.1 (neA _ _ _ _ (rd_of cc.1)), sn_1 cc.2.1 (neA _ _ _ _ (rd_of cc.2.1)), sn_1 cc.2.2.1 (neA _ _ _ _ (rd_of cc.2.2.1)), sn_1 cc.2.2.2 (neO _ _ _ (rd_of cc.2.2.2) (by decide))⟩
theorem cv_nq {q : Nat} (C : CV g h a ws N m pe ep fb ft ρ) (hq : q = 18 ∨ q = 19 ∨ q = 20) : ∀ b, b = a 6 ∨ b = a 8 ∨ b = a 11 ∨ b = a 12 ∨ b = a 13 → b ≠ a q := by
  have d := C.d
  simp only [List.nodup_cons, List.mem_cons, List.not_mem_nil, or_false, not_or] at d
  obtain ⟨⟨-, -, -, -, d61, d62, d63⟩, ⟨-, -, -, d81, d82, d83⟩, ⟨-, -, da1, da2, da3⟩, ⟨-, db1, db2, db3⟩, ⟨dc1, dc2, dc3⟩, -⟩ := d
  intro b hb
  rcases hq with rfl | rfl | rfl <;> rcases hb with rfl | rfl | rfl | rfl | rfl <;> assumption
theorem cv_qq {q q' : Nat} (C : CV g h a ws N m pe ep fb ft ρ) (hq' : q' = 18 ∨ q' = 19 ∨ q' = 20) (hq : q = 18 ∨ q = 19 ∨ q = 20) (hqq : ¬ q' = q) : a q' ≠ a q := by
  have d := C.d
  simp only [List.nodup_cons, List.mem_cons, List.not_mem_nil, or_false, not_or] at d
  obtain ⟨-, -, -, -, -, ⟨dd1, dd2⟩, de, -⟩ := d
  rcases hq with rfl | rfl | rfl <;> rcases hq' with rfl | rfl | rfl
  · exact absurd rfl hqq
  · exact fun e9 => dd1 e9.symm
  · exact fun e9 => dd2 e9.symm
  · exact dd1
  · exact absurd rfl hqq
  · exact fun e9 => de e9.symm
  · exact dd2
  · exact de
  · exact absurd rfl hqq
/-- an event's number becomes v: fixed, delay, wish at a 18, a 19, a 20 -/
theorem cv_ev {k q e : Nat} {v : Int32} {f : Nat → Int32} (C : CV g h a ws N m pe ep fb ft ρ) (hk : (k = 146 ∧ q = 18) ∨ (k = 156 ∧ q = 19) ∨ (k = 166 ∧ q = 20)) (he : e < nE N) (hf : h.1 (a q) = some (aI (nE N) f)) (hf2 : ∀ e, e < nE N → f e = N (k + e)) (ok' : okN (upd N (k + e) v)) : CV g (eh_set h (a q) (aI (nE N) (upd f e v))) a ws (upd N (k + e) v) m pe ep fb ft ρ := by
  have hE := C.n.ok.e2
  have hW := C.n.ok.w2
  have h146 := ev_146 hk
  have hke : 146 ≤ k + e := Nat.le_trans h146 (Nat.le_add_right _ _)
  obtain ⟨e1, e2⟩ : nLk N (upd N (k + e) v) := nLk.up (Nat.le_trans (by decide) hke)
  have he10 : ∀ e', e' < nE N → e' < 10 := fun e' h9 => Nat.lt_of_lt_of_le h9 hE
  have hq : q = 18 ∨ q = 19 ∨ q = 20 := by
    rcases hk with ⟨-, h9⟩ | ⟨-, h9⟩ | ⟨-, h9⟩
    · exact Or.inl h9
    · exact Or.inr (Or.inl h9)
    · exact Or.inr (Or.inr h9)
  have nq := cv_nq C hq
  have neO : ∀ b ci fs, rd g h b = some (ob ci fs) → b ≠ a q := fun b ci fs h9 e => by
    rw [e, rd_of hf] at h9
    cases h9
  have neR : ∀ b t n f2, rd g h b = some (aR t n f2) → b ≠ a q := fun b t n f2 h9 e => by
    rw [e, rd_of hf] at h9
    cases h9
  have cc := C.c
  obtain ⟨r1, r2, r3, r4, r5, r6, r7, r8⟩ := C.r
  obtain ⟨n1, n2, ⟨fn, n3⟩, ⟨mc, cap, fE, l1, l2, l3, l4⟩, n5, n6, ⟨f7, n7, n7'⟩, ⟨f8, n8, n8'⟩, ⟨f9, n9, n9'⟩, n10⟩ := C.n
  obtain ⟨b1, b2, b3⟩ := C.b
  obtain ⟨t1, t2, t3⟩ := C.t
  have arr : ∀ k' q' f', ((k' = 146 ∧ q' = 18) ∨ (k' = 156 ∧ q' = 19) ∨ (k' = 166 ∧ q' = 20)) → h.1 (a q') = some (aI (nE N) f') → (∀ e', e' < nE N → f' e' = N (k' + e')) → nF (eh_set h (a q) (aI (nE N) (upd f e v))) (a q') (nE N) (upd N (k + e) v) k' := by
    intro k' q' f' hk' hf' hf2'
    by_cases hqq : q' = q
    · have hkk : k' = k := ev_eq hk hk' hqq
      rw [hqq, hkk]
      refine ⟨_, se_1 _ _ _, fun e' he' => ?_⟩
      by_cases hee : e' = e
      · rw [hee, up_e, up_e]
      · rw [up_n hee, up_n (fun h9 => hee (Nat.add_left_cancel h9)), hf2 e' he']
    · have hne : a q' ≠ a q := cv_qq C (by
        rcases hk' with ⟨-, h9⟩ | ⟨-, h9⟩ | ⟨-, h9⟩
        · exact Or.inl h9
        · exact Or.inr (Or.inl h9)
        · exact Or.inr (Or.inr h9)) hq hqq
      refine ⟨f', sn_1 hf' hne, fun e' he' => ?_⟩
      rw [up_n (ev_ne hk hk' (he10 e he) (he10 e' he') hqq), hf2' e' he']
  refine ⟨sn_1 C.o (neO _ _ _ (rd_of C.o)), ⟨ok', sn_1 n2 (neO _ _ _ (rd_of n2)), ⟨fn, by rw [e1]; exact rd_sn n3 (neR _ _ _ _ n3)⟩, ⟨mc, cap, fE, sn_1 l1 (neO _ _ _ (rd_of l1)), rd_sn l2 (neR _ _ _ _ l2), fun h9 => sn_1 (l3 h9) (neR _ _ _ _ l2), l4⟩, by rw [e2]; exact n5, fun i y hy => ?_, ?_, ?_, ?_, n10⟩, ?_, ?_, ?_, ?_, C.d⟩
  · have hi : i < nW N := by rw [← n5]; exact (List.getElem?_eq_some_iff.mp hy).1
    rw [wN_up hke (Nat.lt_of_lt_of_le hi hW)]
    exact sn_1 (n6 i y hy) (neO _ _ _ (rd_of (n6 i y hy)))
  · rw [e1]; exact arr 146 18 f7 (Or.inl ⟨rfl, rfl⟩) n7 n7'
  · rw [e1]; exact arr 156 19 f8 (Or.inr (Or.inl ⟨rfl, rfl⟩)) n8 n8'
  · rw [e1]; exact arr 166 20 f9 (Or.inr (Or.inr ⟨rfl, rfl⟩)) n9 n9'
  · rw [e1]; exact ⟨rd_sn b1 (neO _ _ _ b1), sn_1 b2 (nq _ (by simp)), b3⟩
  · rw [e1]; exact ⟨rd_sn t1 (neO _ _ _ t1), sn_1 t2 (nq _ (by simp)), t3⟩
  · rw [e1]; exact ⟨r1, r2, r3, r4, r5, r6, rd_sn r7 (neO _ _ _ r7), r8⟩
  · rw [e1]; exact ⟨sn_1 cc.1 (nq _ (by simp)), sn_1 cc.2.1 (nq _ (by simp)), sn_1 cc.2.2.1 (nq _ (by simp)), sn_1 cc.2.2.2 (neO _ _ _ (rd_of cc.2.2.2))⟩
/-- a cell of the net changes -/
theorem FS.chg {x : Nat} {e e0 : ac} (hg : gOC g) (ho : eh_ok g h) (F : FS g h a ws N m pe ep nm sn vn fbuf A2 hd P sv A4 tx) (h0 : h.1 x = some e0) (hx : x ∈ cvA a ws) (h15 : x ≠ a 15) (C : CV g (eh_set h x e) a ws N' m pe ep fb ft ρ) (he : nE N' = nE N) : FS g (eh_set h x e) a ws N' m pe ep nm sn vn fbuf A2 hd P sv A4 tx :=
  F.ke hg ho (ho.set h0) Ke.set (fun b hb _ => by rw [List.mem_singleton.mp hb]; exact ⟨hx, (ho.2 _ _ h0).1⟩) (fun h9 => h15 (List.mem_singleton.mp h9).symm) C he (fun i _ => rfl) (fun b hb => Or.inl hb)
/-- what a step may make -/
def Bud (h h' : eh) : Prop := h'.2.1 ≤ h.2.1 + 25100 ∧ h'.2.2 ≤ h.2.2 + 112100
theorem Ke.bud {A : List Nat} (k : Ke A c s h h') (hc : c ≤ 25100) (hs : s ≤ 112100) : Bud h h' := ⟨by have := k.2.2.1; omega, by have := k.2.2.2; omega⟩
/-- the component at x with a net N, nets PN kept, SN saved, buffer and text -/
def CX (g : eg) (h : eh) (x : Nat) (N nm : Nat → Int32) (m pe ep : Int32) (fbuf : Nat → Int32) (PN : List (Nat → Int32)) (SN : Nat → Option (Nat → Int32)) (tx : List Int32) : Prop := ∃ a ws sn vn A2 hd P sv A4, a 0 = x ∧ FS g h a ws N m pe ep nm sn vn fbuf A2 hd P sv A4 tx ∧ P.map (fun b => b.2.2) = PN ∧ ∀ i, i < 2 → (sv i).map (fun b => b.2.2) = SN i
/-- behind a change: what was thrown; if nothing was, the value and the new state -/
def CR (cl : Int32 → Nat) (th : Int32) (val : Value) (S1 S2 : eh → Prop) (h : eh) (o : Outcome) (h' : eh) : Prop := Bud h h' ∧ (th = 0 → o = .returned (some val) ∧ S2 h') ∧ (¬ th = 0 → (∃ y, o = .threw y ∧ h'.1 y = some (ob (cl th) [])) ∧ S1 h')
theorem CR.ok {cl : Int32 → Nat} {th : Int32} {val : Value} {S1 S2 : eh → Prop} (h0 : th = 0) (hb : Bud h h') (hs : S2 h') : CR cl th val S1 S2 h (.returned (some val)) h' := ⟨hb, fun _ => ⟨rfl, hs⟩, fun h9 => absurd h0 h9⟩
theorem CR.no {cl : Int32 → Nat} {th k : Int32} {val : Value} {S1 S2 : eh → Prop} {y c : Nat} (h0 : th = k) (hk : ¬ k = 0) (hb : Bud h h') (hc : cl k = c) (hy : h'.1 y = some (ob c [])) (hs : S1 h') : CR cl th val S1 S2 h (.threw y) h' := ⟨hb, fun h9 => absurd (h0.symm.trans h9) hk, fun _ => ⟨⟨y, rfl, by rw [h0, hc]; exact hy⟩, hs⟩⟩
theorem FS.cx (F : FS g h a ws N m pe ep nm sn vn fbuf A2 hd P sv A4 tx) : CX g h (a 0) N nm m pe ep fbuf (P.map (fun b => b.2.2)) (fun i => (sv i).map (fun b => b.2.2)) tx := ⟨a, ws, sn, vn, A2, hd, P, sv, A4, rfl, F, rfl, fun _ _ => rfl⟩
theorem reD_map {b : nbd} : (reD P b).map (fun b => b.2.2) = reP (P.map (fun b => b.2.2)) b.2.2 := by
  unfold reD reP
  rw [List.map_append, List.length_map]
  split
  · rw [List.map_tail]
    rfl
  · rfl
/-- nothing happened but new cells and a question -/
theorem CQ.bud (q : CQ g a ws N m pe ep h h') : Bud h h' := by
  obtain ⟨_, _, _, -, k⟩ := q
  exact k.bud (by decide) (by decide)
end
