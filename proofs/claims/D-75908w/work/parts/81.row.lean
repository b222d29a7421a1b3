/-! EW: rows of steps -/
set_option maxRecDepth 100000
theorem t_stAdd {g : eg} {h : eh} {L E x : Nat} {xs : List Nat} {es : List ed} {e : ed} {Q : Outcome → eh → Prop} (hg : gOC g) (hM : gOM g) (S : StL g h L E xs es) (hx : h.1 x = some (eO e)) (hl : es.length < 2 ^ 17)
    (hq : ∀ h' E', StL g h' L E' (xs ++ [x]) (es ++ [e]) → (E' = E ∨ h.2.1 ≤ E') → Ke [L, E] 1 (10 + 2 * es.length) h h' → Q (.returned (some (.int 1))) h') : ew_T g kJ14_add 18 [.ref L, .ref x] h Q := by
  obtain ⟨sA, sl, sx⟩ := S
  refine ew_okT (fun ho => ?_)
  have sA2 := sA
  obtain ⟨mc, cap, f, a1, a2, -⟩ := sA2
  have hxL : x ≠ L := by
    intro e9
    rw [e9, a1] at hx
    cases hx
  rw [← sl] at hq
  refine t_alAdd hg hM sA (fun y hy => ?_) (eO_oO hx) hxL (by omega) (fun h' E' q1 q2 q3 => hq h' E' ⟨q1, ?_, ?_⟩ q2 q3)
  · obtain ⟨i, hi⟩ := List.getElem?_of_mem hy
    have hlt : i < es.length := by have := (List.getElem?_eq_some_iff.mp hi).1; omega
    exact eO_oO (sx i y _ hi (List.getElem?_eq_getElem hlt))
  · rw [List.length_append, List.length_append, sl]
    rfl
  · have key : ∀ y e', h.1 y = some (eO e') → h'.1 y = some (eO e') := fun y e' h9 => by
      refine q3.h ho h9 ?_
      rw [List.mem_cons, List.mem_singleton, not_or]
      constructor
      · intro h8
        rw [h8, a1] at h9
        cases h9
      · intro h8
        rw [h8] at h9
        rw [rd_of h9] at a2
        cases a2
    intro i y e' h1 h2
    by_cases hi : i < xs.length
    · rw [List.getElem?_append_left hi] at h1
      rw [List.getElem?_append_left (by omega)] at h2
      exact key y e' (sx i y e' h1 h2)
    · have hi2 : i = xs.length := by
        have := (List.getElem?_eq_some_iff.mp h1).1
        rw [List.length_append, List.length_singleton] at this
        omega
      rw [hi2, List.getElem?_append_right (Nat.le_refl _), Nat.sub_self] at h1
      rw [hi2, sl, List.getElem?_append_right (Nat.le_refl _), Nat.sub_self] at h2
      cases h1
      cases h2
      exact key _ _ hx
def rwP (es : List ed) (b m a : Nat) (e : ed) : Bool := decide (e.1 = a ∧ ¬ xcR es b m e.2.1 = 100000000 ∧ e.2.2.1 + xcR es b m e.2.1 = xcR es b (m + 1) a)
def rowC (es : List ed) (b : Nat) : Nat → Nat → List ed
  | 0, _ => []
  | m + 1, a => match es.find? (rwP es b m a) with
    | none => []
    | some e => e :: rowC es b m e.2.1
theorem xcP_c (r : Nat → Int32) (a : Nat) : ∀ k (L : List ed), L.length = k → xcP r L a = 100000000 ∨ ∃ e, e ∈ L ∧ e.1 = a ∧ ¬ r e.2.1 = 100000000 ∧ e.2.2.1 + r e.2.1 = xcP r L a
  | 0, L, h => Or.inl (by rw [List.length_eq_zero_iff.mp h]; rfl)
  | k + 1, L, h => by
    rcases List.eq_nil_or_concat L with e | ⟨L', e, e9⟩
    · rw [e] at h; cases h
    · rw [List.concat_eq_append] at e9
      subst e9
      rw [List.length_append, List.length_singleton] at h
      rw [xcP_snoc]
      have ih := xcP_c r a k L' (by omega)
      have up : xcP r L' a = 100000000 ∨ ∃ e', e' ∈ L' ++ [e] ∧ e'.1 = a ∧ ¬ r e'.2.1 = 100000000 ∧ e'.2.2.1 + r e'.2.1 = xcP r L' a := ih.imp id (fun ⟨e', h1, h2⟩ => ⟨e', List.mem_append_left _ h1, h2⟩)
      by_cases hc : e.1 = a ∧ ¬ r e.2.1 = 100000000
      · rw [if_pos hc, jmin]
        split
        · exact Or.inr ⟨e, List.mem_append_right _ (List.mem_singleton.mpr rfl), hc.1, hc.2, rfl⟩
        · exact up
      · rw [if_neg hc]
        exact up
theorem rwP_ex {es : List ed} {b m a : Nat} (h : ¬ xcR es b (m + 1) a = 100000000) : ∃ e, es.find? (rwP es b m a) = some e ∧ ¬ xcR es b m e.2.1 = 100000000 ∧ e ∈ es := by
  rcases xcP_c (xcR es b m) a es.length es rfl with h1 | ⟨e, h1, h2, h3, h4⟩
  · exact absurd h1 h
  · cases hf : es.find? (rwP es b m a) with
    | none => exact absurd (decide_eq_true ⟨h2, h3, h4⟩) (List.find?_eq_none.mp hf e h1)
    | some e' =>
      have h9 : rwP es b m a e' = true := List.find?_some hf
      exact ⟨e', rfl, (of_decide_eq_true h9).2.1, List.mem_of_find?_eq_some hf⟩
section
variable {g : eg} {h : eh} {w n K E A : Nat} {xs : List Nat} {es : List ed} {G : Nat → Int32} {Q : Outcome → eh → Prop}
theorem WyR.ke {c s : Nat} {B : List Nat} {h' : eh} (r : WyR g h w n K E A xs es G) (k : Ke B c s h h') (hg : gOC g) (ho : eh_ok g h) (hB : B = []) : WyR g h' w n K E A xs es G := by
  subst hB
  have nm : ∀ a : Nat, a ∉ ([] : List Nat) := fun a => List.not_mem_nil
  exact ⟨k.h ho r.1 (nm _), r.2.1.ke k hg ho (nm _) (nm _) (fun x _ => nm x), k.h ho r.2.2.1 (nm _), r.2.2.2⟩
/-- the fewest steps with which a sum is come by -/
def fwC (es : List ed) (s : Int32) (a b : Nat) : Nat → Nat → Option Nat
  | 0, _ => none
  | r + 1, m => if xcR es b m a = s then some m else fwC es s a b r (m + 1)
theorem t_wyFew {a b : Nat} {s : Int32} (r : WyR g h w n K E A xs es G) (hG : ∀ m e, m ≤ n → e < n → G (n * m + e) = xcR es b m e) (ha : a < n) (hq : Q (.returned (some (.int (oI (fwC es s a b (n + 1) 0))))) h) : ew_T g kX9_fewest 1 [.ref w, .int (nI a), .int s] h Q := by
  have hn := r.2.2.2.1
  have main : ∀ q m, m + q = n + 1 → fwC es s a b q m = fwC es s a b (n + 1) 0 → ew_G g kX9_fewest 1 2 [.ref w, .int (nI a), .int s, .int (nI m)] [] h Q := by
    intro q
    induction q with
    | zero =>
      intro m hm hf
      refine ew_iload_n (pc := 2) dX9_fewest_2 rfl ?_
      refine ew_aload_n (pc := 3) dX9_fewest_3 rfl ?_
      refine ew_getf (pc := 4) fX9_21 (rd_of r.1) rfl dX9_fewest_4 ?_
      refine ew_icmp_gt (pc := 7) (tgt := 28) dX9_fewest_7 (by decide) (fun c7 => ?_) (fun c7 => absurd (nI_lt (by omega) (by omega)) c7)
      refine ew_iconst (pc := 28) (v := -1) dX9_fewest_28 rfl ?_
      refine ew_iret (pc := 29) rfl dX9_fewest_29 ?_
      rw [← hf] at hq
      exact hq
    | succ q ih =>
      intro m hm hf
      rw [fwC] at hf
      refine ew_iload_n (pc := 2) dX9_fewest_2 rfl ?_
      refine ew_aload_n (pc := 3) dX9_fewest_3 rfl ?_
      refine ew_getf (pc := 4) fX9_21 (rd_of r.1) rfl dX9_fewest_4 ?_
      refine ew_icmp_gt (pc := 7) (tgt := 28) dX9_fewest_7 (by decide) (fun c7 => absurd c7 (nI_nlt (by omega) (by omega))) (fun c7 => ?_)
      refine ew_aload_n (pc := 10) dX9_fewest_10 rfl ?_
      refine ew_iload_n (pc := 11) dX9_fewest_11 rfl ?_
      refine ew_iload_n (pc := 12) dX9_fewest_12 rfl ?_
      refine ew_cV2 (d' := 0) (pc := 13) vX9_43 (rd_of r.1) dX9_fewest_13 (by decide) (ew_rm (Nat.le_of_ble_eq_true rfl)) ?_
      refine t_wySum r (by omega) ha ?_
      rw [hG m a (by omega) ha]
      refine ew_Kr ?_
      refine ew_iload_n (pc := 16) dX9_fewest_16 rfl ?_
      refine ew_icmp_ne (pc := 17) (tgt := 22) dX9_fewest_17 (by decide) (fun c17 => ?_) (fun c17 => ?_)
      · refine ew_iinc (pc := 22) dX9_fewest_22 rfl (nI_inc m) (by decide) (p1_3 rfl) ?_
        refine ew_goto (pc := 25) (tgt := 2) dX9_fewest_25 (by decide) ?_
        rw [if_neg c17] at hf
        exact ih (m + 1) (by omega) hf
      · refine ew_iload_n (pc := 20) dX9_fewest_20 rfl ?_
        refine ew_iret (pc := 21) rfl dX9_fewest_21 ?_
        first
        | rw [if_pos c17] at hf
          rw [← hf] at hq
          exact hq
        | rw [if_pos (Decidable.not_not.mp c17)] at hf
          rw [← hf] at hq
          exact hq
  refine ew_enter (by decide +kernel) (ew_a1 rfl (ew_a1 rfl (ew_a1 rfl (ew_an ew_az)))) (Nat.le_of_ble_eq_true rfl) ?_
  refine ew_iconst (pc := 0) (v := 0) dX9_fewest_0 rfl ?_
  refine ew_istore_n (pc := 1) dX9_fewest_1 rfl (by decide) (p1_3 rfl) ?_
  exact main (n + 1) 0 (by omega) rfl
/-- a row that is being told -/
def RwM (g : eg) (h0 h : eh) (E2 : Nat) (ys : List Nat) (ls : List ed) : Prop := StL g h h0.2.1 E2 ys ls ∧ h0.2.1 ≤ E2 ∧ Ke [] (2 + ls.length) (13 + 30 * ls.length) h0 h
theorem t_wyRow {a b m : Nat} (hg : gOC g) (hM : gOM g) (r : WyR g h w n K E A xs es G) (hG : ∀ m e, m ≤ n → e < n → G (n * m + e) = xcR es b m e) (hl : es.length < 100) (ha : a < n) (hm : m ≤ n) (hm1 : 1 ≤ m) (hx : ¬ xcR es b m a = 100000000)
    (hq : ∀ h' E2 ys, RwM g h h' E2 ys (rowC es b m a) → (rowC es b m a).length = m → Q (.returned (some (.ref h.2.1))) h') : ew_T g kX9_row 21 [.ref w, .int (nI m), .int (nI a)] h Q := by
  have hn := r.2.2.2.1
  have nm : ∀ a : Nat, a ∉ ([] : List Nat) := fun a => List.not_mem_nil
  refine ew_enter (by decide +kernel) (ew_a1 rfl (ew_a1 rfl (ew_a1 rfl (ew_an (ew_an (ew_an (ew_an (ew_an (ew_an (ew_an ew_az)))))))))) (Nat.le_of_ble_eq_true rfl) ?_
  refine ew_ok (fun ho => ?_)
  have main : ∀ q c h1 E2 ys ls x6 x7 x8 x9, RwM g h h1 E2 ys ls → ls.length + q = m → c < n → (q = 0 ∨ ¬ xcR es b q c = 100000000) → ls ++ rowC es b q c = rowC es b m a → ew_G g kX9_row 21 15 [.ref w, .int (nI m), .int (nI a), .ref h.2.1, .int (nI c), .int (nI q), x6, x7, x8, x9] [] h1 Q := by
    intro q
    induction q with
    | zero =>
      intro c h1 E2 ys ls x6 x7 x8 x9 R hk hc hx hr
      rw [rowC, List.append_nil] at hr
      refine ew_iload (pc := 15) dX9_row_15 rfl ?_
      refine ew_if_le (pc := 17) (tgt := 144) dX9_row_17 (by decide) (fun c17 => ?_) (fun c17 => absurd (by decide) c17)
      first | refine ew_aload_n (pc := 144) dX9_row_144 rfl ?_ | refine ew_aload_nq (pc := 144) dX9_row_144 rfl ?_ | refine ew_aload_nN (pc := 144) dX9_row_144 rfl ?_
      refine ew_aret (pc := 145) rfl (Or.inl ⟨_, rfl⟩) (Or.inr ⟨_, rfl⟩) dX9_row_145 ?_
      exact hq h1 E2 ys (by rw [← hr]; exact R) (by rw [← hr]; omega)
    | succ q ih =>
      intro c h1 E2 ys ls x6 x7 x8 x9 R hk hc hx hr
      have hx := hx.resolve_left (Nat.succ_ne_zero q)
      obtain ⟨e0, hf0, hx0, hm0⟩ := rwP_ex hx
      have r1 := r.ke R.2.2 hg ho rfl
      have r1l := r1.l
      obtain ⟨mcK, hKl⟩ := r1l
      have hr2 : rowC es b (q + 1) c = e0 :: rowC es b q e0.2.1 := by rw [rowC, hf0]
      have hq1 : nI (q + 1) - 1 = nI q := nI_pred q
      obtain ⟨i0, hi0⟩ := List.getElem?_of_mem hm0
      have hlt0 := (r.2.2.2.2 i0 e0 hi0).2
      have s122 : ∀ x k x8 x9, h1.1 x = some (eO e0) → ew_G g kX9_row 21 122 [.ref w, .int (nI m), .int (nI a), .ref h.2.1, .int (nI c), .int (nI (q + 1)), .ref x, k, x8, x9] [] h1 Q := by
        intro x k x8 x9 hxo
        refine ew_ok (fun ho1 => ?_)
        have RA := R.1.1
        obtain ⟨mc, cap, f, hMl, -⟩ := RA
        refine ew_aload_n (pc := 122) dX9_row_122 rfl ?_
        refine ew_aload (pc := 123) dX9_row_123 rfl ?_
        refine ew_cF1 (d' := 18) (pc := 125) tX9_62_19 (rd_of hMl) dX9_row_125 (by decide) (ew_rm (Nat.le_of_ble_eq_true rfl)) ?_
        refine t_stAdd hg hM R.1 hxo (by omega) (fun h2 E3 q1 q2 q3 => ?_)
        have hxo2 : h2.1 x = some (eO e0) := by
          refine q3.h ho1 hxo ?_
          rw [List.mem_cons, List.mem_singleton, not_or]
          have R2 := R.1.1
          obtain ⟨mc9, cap9, f9, hA9, hB9, -⟩ := R2
          exact ⟨fun e9 => (by rw [e9, hA9] at hxo; cases hxo), fun e9 => (by rw [e9] at hxo; rw [rd_of hxo] at hB9; cases hB9)⟩
        refine ew_Kr ?_
        refine ew_pop (pc := 130) dX9_row_130 rfl ?_
        refine ew_aload (pc := 131) dX9_row_131 rfl ?_
        refine ew_getf (pc := 133) fX9_40 (rd_of hxo2) rfl dX9_row_133 ?_
        refine ew_istore (pc := 136) dX9_row_136 (by decide) (p1_4 rfl) ?_
        refine ew_iinc (pc := 138) dX9_row_138 rfl (nI_dec q) (by decide) (p1_5 rfl) ?_
        refine ew_goto (pc := 141) (tgt := 15) dX9_row_141 (by decide) ?_
        refine ih e0.2.1 h2 E3 _ (ls ++ [e0]) _ _ _ _ ⟨q1, ?_, ?_⟩ ?_ hlt0 (Or.inr hx0) ?_
        · rcases q2 with q2 | q2
          · rw [q2]; exact R.2.1
          · have := R.2.2.2.1; omega
        · refine R.2.2.t q3 (fun a h9 => absurd h9 (nm a)) (fun a h9 h8 => ?_) ?_ ?_
          · have := R.2.1
            rw [List.mem_cons, List.mem_singleton] at h9
            omega
          · rw [List.length_append, List.length_singleton]; omega
          · rw [List.length_append, List.length_singleton]; omega
        · rw [List.length_append, List.length_singleton]; omega
        · rw [List.append_assoc, List.singleton_append, ← hr2]; exact hr
      have sF : ∀ k x x8 x9, h1.1 x = some (eO e0) → k ≤ es.length → ew_G g kX9_row 21 26 [.ref w, .int (nI m), .int (nI a), .ref h.2.1, .int (nI c), .int (nI (q + 1)), .ref x, .int (nI k), x8, x9] [] h1 Q := by
        intro k x x8 x9 hxo hk
        by_cases hkl : k < es.length
        · skip
          refine ew_iload (pc := 26) dX9_row_26 rfl ?_
          refine ew_aload_n (pc := 28) dX9_row_28 rfl ?_
          refine ew_getf (pc := 29) fX9_9 (rd_of r1.1) rfl dX9_row_29 ?_
          refine ew_cF0 (d' := 0) (pc := 32) tX9_29_19 (rd_of hKl) dX9_row_32 (by decide) (ew_rm (Nat.le_of_ble_eq_true rfl)) ?_
          refine t_alSize r1.2.1.1 ?_
          rw [r1.2.1.2.1]
          refine ew_Kr ?_
          refine ew_icmp_ge (pc := 37) (tgt := 122) dX9_row_37 (by decide) (fun c37 => absurd c37 (nI_ge hkl (by omega))) (fun c37 => ?_)
          refine ew_aload (pc := 40) dX9_row_40 rfl ?_
          refine ew_ifnonnull (pc := 42) (tgt := 122) dX9_row_42 (by decide) ?_
          exact s122 x _ _ _ hxo
        · skip
          refine ew_iload (pc := 26) dX9_row_26 rfl ?_
          refine ew_aload_n (pc := 28) dX9_row_28 rfl ?_
          refine ew_getf (pc := 29) fX9_9 (rd_of r1.1) rfl dX9_row_29 ?_
          refine ew_cF0 (d' := 0) (pc := 32) tX9_29_19 (rd_of hKl) dX9_row_32 (by decide) (ew_rm (Nat.le_of_ble_eq_true rfl)) ?_
          refine t_alSize r1.2.1.1 ?_
          rw [r1.2.1.2.1]
          refine ew_Kr ?_
          refine ew_icmp_ge (pc := 37) (tgt := 122) dX9_row_37 (by decide) (fun c37 => ?_) (fun c37 => absurd (nI_le (by omega) (by omega)) c37)
          exact s122 x _ _ _ hxo
      have sN : ∀ p k x8 x9, k + p = es.length → (es.drop k).find? (rwP es b q c) = some e0 → ew_G g kX9_row 21 26 [.ref w, .int (nI m), .int (nI a), .ref h.2.1, .int (nI c), .int (nI (q + 1)), .null, .int (nI k), x8, x9] [] h1 Q := by
        intro p
        induction p with
        | zero =>
          intro k x8 x9 hk hf
          have e9 : k = es.length := by omega
          rw [e9, List.drop_length] at hf
          cases hf
        | succ p ihp =>
          intro k x8 x9 hk hf
          have hkl : k < es.length := by omega
          obtain ⟨x, hxk, hxo, hfr, hto⟩ := r1.at hkl
          have hdr : es.drop k = es[k] :: es.drop (k + 1) := List.drop_eq_getElem_cons hkl
          rw [hdr, List.find?_cons] at hf
          have hb1 := hG q es[k].2.1 (by omega) hto
          have hb2 := hG (q + 1) c (by omega) hc
          refine ew_iload (pc := 26) dX9_row_26 rfl ?_
          refine ew_aload_n (pc := 28) dX9_row_28 rfl ?_
          refine ew_getf (pc := 29) fX9_9 (rd_of r1.1) rfl dX9_row_29 ?_
          refine ew_cF0 (d' := 0) (pc := 32) tX9_29_19 (rd_of hKl) dX9_row_32 (by decide) (ew_rm (Nat.le_of_ble_eq_true rfl)) ?_
          refine t_alSize r1.2.1.1 ?_
          rw [r1.2.1.2.1]
          refine ew_Kr ?_
          refine ew_icmp_ge (pc := 37) (tgt := 122) dX9_row_37 (by decide) (fun c37 => absurd c37 (nI_ge hkl (by omega))) (fun c37 => ?_)
          first | refine ew_aload (pc := 40) dX9_row_40 rfl ?_ | refine ew_aloadq (pc := 40) dX9_row_40 rfl ?_ | refine ew_aloadN (pc := 40) dX9_row_40 rfl ?_
          refine ew_ifnonnullN (pc := 42) dX9_row_42 ?_
          refine ew_aload_n (pc := 45) dX9_row_45 rfl ?_
          refine ew_getf (pc := 46) fX9_9 (rd_of r1.1) rfl dX9_row_46 ?_
          refine ew_iload (pc := 49) dX9_row_49 rfl ?_
          refine ew_cF1 (d' := 2) (pc := 51) tX9_34_19 (rd_of hKl) dX9_row_51 (by decide) (ew_rm (Nat.le_of_ble_eq_true rfl)) ?_
          refine t_alGet r1.2.1.1 hxk ?_
          refine ew_Kr ?_
          refine ew_cast (pc := 56) rfl (rd_of hxo) (ew_q q1791) (Or.inl rfl) dX9_row_56 ?_
          first | refine ew_astore (pc := 59) dX9_row_59 (by decide) (p1_8 rfl) ?_ | refine ew_astoreq (pc := 59) dX9_row_59 (by decide) (p1_8 rfl) ?_ | refine ew_astoreN (pc := 59) dX9_row_59 (by decide) (p1_8 rfl) ?_
          refine ew_aload_n (pc := 61) dX9_row_61 rfl ?_
          refine ew_iload (pc := 62) dX9_row_62 rfl ?_
          refine ew_iconst (pc := 64) (v := 1) dX9_row_64 rfl ?_
          refine ew_isub (pc := 65) dX9_row_65 ?_
          rw [hq1]
          refine ew_aload (pc := 66) dX9_row_66 rfl ?_
          refine ew_getf (pc := 68) fX9_40 (rd_of hxo) rfl dX9_row_68 ?_
          refine ew_cV2 (d' := 0) (pc := 71) vX9_43 (rd_of r1.1) dX9_row_71 (by decide) (ew_rm (Nat.le_of_ble_eq_true rfl)) ?_
          refine t_wySum r1 (by omega) hto ?_
          rw [hb1]
          refine ew_Kr ?_
          refine ew_istore (pc := 74) dX9_row_74 (by decide) (p1_9 rfl) ?_
          refine ew_aload (pc := 76) dX9_row_76 rfl ?_
          refine ew_getf (pc := 78) fX9_47 (rd_of hxo) rfl dX9_row_78 ?_
          refine ew_iload (pc := 81) dX9_row_81 rfl ?_
          refine ew_icmp_ne (pc := 83) (tgt := 116) dX9_row_83 (by decide) (fun c83 => ?_) (fun c83 => ?_)
          · refine ew_iinc (pc := 116) dX9_row_116 rfl (nI_inc k) (by decide) (p1_7 rfl) ?_
            refine ew_goto (pc := 119) (tgt := 26) dX9_row_119 (by decide) ?_
            first
            | have hp : rwP es b q c es[k] = true := decide_eq_true ⟨(nI_eq (by omega) (by omega)).mp c83, c90, c109⟩
              rw [hp] at hf
              have he := Option.some.inj hf
              rw [he] at hxo
              exact sF (k + 1) x _ _ hxo (by omega)
            | have hp : rwP es b q c es[k] = false := by
                refine decide_eq_false (fun h9 => ?_)
                first
                | exact c83 (by rw [h9.1])
                | exact h9.2.1 c90
                | exact c109 h9.2.2
              rw [hp] at hf
              exact ihp (k + 1) _ _ (by omega) hf
          · refine ew_iload (pc := 86) dX9_row_86 rfl ?_
            refine ew_ldc (pc := 88) (v := 100000000) (ew_q q1786) dX9_row_88 ?_
            refine ew_icmp_eq (pc := 90) (tgt := 116) dX9_row_90 (by decide) (fun c90 => ?_) (fun c90 => ?_)
            · refine ew_iinc (pc := 116) dX9_row_116 rfl (nI_inc k) (by decide) (p1_7 rfl) ?_
              refine ew_goto (pc := 119) (tgt := 26) dX9_row_119 (by decide) ?_
              first
              | have hp : rwP es b q c es[k] = true := decide_eq_true ⟨(nI_eq (by omega) (by omega)).mp c83, c90, c109⟩
                rw [hp] at hf
                have he := Option.some.inj hf
                rw [he] at hxo
                exact sF (k + 1) x _ _ hxo (by omega)
              | have hp : rwP es b q c es[k] = false := by
                  refine decide_eq_false (fun h9 => ?_)
                  first
                  | exact c83 (by rw [h9.1])
                  | exact h9.2.1 c90
                  | exact c109 h9.2.2
                rw [hp] at hf
                exact ihp (k + 1) _ _ (by omega) hf
            · refine ew_aload (pc := 93) dX9_row_93 rfl ?_
              refine ew_getf (pc := 95) fX9_50 (rd_of hxo) rfl dX9_row_95 ?_
              refine ew_iload (pc := 98) dX9_row_98 rfl ?_
              refine ew_iadd (pc := 100) dX9_row_100 ?_
              refine ew_aload_n (pc := 101) dX9_row_101 rfl ?_
              refine ew_iload (pc := 102) dX9_row_102 rfl ?_
              refine ew_iload (pc := 104) dX9_row_104 rfl ?_
              refine ew_cV2 (d' := 0) (pc := 106) vX9_43 (rd_of r1.1) dX9_row_106 (by decide) (ew_rm (Nat.le_of_ble_eq_true rfl)) ?_
              refine t_wySum r1 (by omega) hc ?_
              rw [hb2]
              refine ew_Kr ?_
              refine ew_icmp_ne (pc := 109) (tgt := 116) dX9_row_109 (by decide) (fun c109 => ?_) (fun c109 => ?_)
              · refine ew_iinc (pc := 116) dX9_row_116 rfl (nI_inc k) (by decide) (p1_7 rfl) ?_
                refine ew_goto (pc := 119) (tgt := 26) dX9_row_119 (by decide) ?_
                first
                | have hp : rwP es b q c es[k] = true := decide_eq_true ⟨(nI_eq (by omega) (by omega)).mp c83, c90, c109⟩
                  rw [hp] at hf
                  have he := Option.some.inj hf
                  rw [he] at hxo
                  exact sF (k + 1) x _ _ hxo (by omega)
                | have hp : rwP es b q c es[k] = false := by
                    refine decide_eq_false (fun h9 => ?_)
                    first
                    | exact c83 (by rw [h9.1])
                    | exact h9.2.1 c90
                    | exact c109 h9.2.2
                  rw [hp] at hf
                  exact ihp (k + 1) _ _ (by omega) hf
              · refine ew_aload (pc := 112) dX9_row_112 rfl ?_
                first | refine ew_astore (pc := 114) dX9_row_114 (by decide) (p1_6 rfl) ?_ | refine ew_astoreq (pc := 114) dX9_row_114 (by decide) (p1_6 rfl) ?_ | refine ew_astoreN (pc := 114) dX9_row_114 (by decide) (p1_6 rfl) ?_
                refine ew_iinc (pc := 116) dX9_row_116 rfl (nI_inc k) (by decide) (p1_7 rfl) ?_
                refine ew_goto (pc := 119) (tgt := 26) dX9_row_119 (by decide) ?_
                first
                | have hp : rwP es b q c es[k] = true := decide_eq_true ⟨(nI_eq (by omega) (by omega)).mp c83, c90, c109⟩
                  rw [hp] at hf
                  have he := Option.some.inj hf
                  rw [he] at hxo
                  exact sF (k + 1) x _ _ hxo (by omega)
                | have hp : rwP es b q c es[k] = false := by
                    refine decide_eq_false (fun h9 => ?_)
                    first
                    | exact c83 (by rw [h9.1])
                    | exact h9.2.1 c90
                    | exact c109 h9.2.2
                  rw [hp] at hf
                  exact ihp (k + 1) _ _ (by omega) hf
      refine ew_iload (pc := 15) dX9_row_15 rfl ?_
      refine ew_if_le (pc := 17) (tgt := 144) dX9_row_17 (by decide) (fun c17 => absurd c17 (nI_nle (by omega) (by omega))) (fun c17 => ?_)
      refine ew_null (pc := 20) dX9_row_20 ?_
      first | refine ew_astore (pc := 21) dX9_row_21 (by decide) (p1_6 rfl) ?_ | refine ew_astoreq (pc := 21) dX9_row_21 (by decide) (p1_6 rfl) ?_ | refine ew_astoreN (pc := 21) dX9_row_21 (by decide) (p1_6 rfl) ?_
      refine ew_iconst (pc := 23) (v := 0) dX9_row_23 rfl ?_
      refine ew_istore (pc := 24) dX9_row_24 (by decide) (p1_7 rfl) ?_
      exact sN es.length 0 _ _ (by omega) (by rw [List.drop_zero]; exact hf0)
  refine ew_new (pc := 0) nX9_57 dX9_row_0 ?_
  refine ew_dup (pc := 3) dX9_row_3 rfl ?_
  refine ew_iload_n (pc := 4) dX9_row_4 rfl ?_
  refine ew_cI1 (d' := 20) (pc := 5) iX9_59 dX9_row_5 (by decide) (ew_rm (Nat.le_of_ble_eq_true rfl)) ?_
  refine t_alInitN (ne_1 _ _ _) (n := m) (by omega) (by omega) (fun h1 q1 q2 => ?_)
  refine ew_Kv ?_
  first | refine ew_astore_n (pc := 8) dX9_row_8 rfl (by decide) (p1_3 rfl) ?_ | refine ew_astore_nq (pc := 8) dX9_row_8 rfl (by decide) (p1_3 rfl) ?_ | refine ew_astore_nN (pc := 8) dX9_row_8 rfl (by decide) (p1_3 rfl) ?_
  refine ew_iload_n (pc := 9) dX9_row_9 rfl ?_
  refine ew_istore (pc := 10) dX9_row_10 (by decide) (p1_4 rfl) ?_
  refine ew_iload_n (pc := 12) dX9_row_12 rfl ?_
  refine ew_istore (pc := 13) dX9_row_13 (by decide) (p1_5 rfl) ?_
  refine main m a h1 _ [] [] _ _ _ _ ⟨⟨q1, rfl, fun i x e h9 => by cases h9⟩, Nat.le_succ _, ?_⟩ (Nat.zero_add _) ha (Or.inr hx) (List.nil_append _)
  exact Ke.new.t q2 (fun a h9 => absurd h9 (nm a)) (fun a h9 h8 => by rw [List.mem_singleton.mp h9] at h8; omega) (by decide) (by show 3 + m ≤ 13; omega)
end
