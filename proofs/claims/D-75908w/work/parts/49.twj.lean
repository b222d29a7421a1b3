/-! EW: the reference: more changes -/
set_option maxRecDepth 100000
theorem t_windowsZ {g : eg} {h : eh} {t : Nat} {σ : tS} {N : Nat → Int32} {Q : Outcome → eh → Prop} (hN : σ.2 16 = N) (oz : ok0 N) (hq : Q (.returned (some (.int (nI (nW N))))) (tw t σ h)) : ew_T g kX2_windowsNow 0 [.ref t] (tw t σ h) Q := by
  subst hN
  rw [← oz.2.2.1] at hq
  exact t_windowsNow hq
def softC (N : Nat → Int32) : Nat → Nat
  | 0 => 0
  | w + 1 => softC N w + (if N (2 + 6 * w + 4) = 0 then 0 else 1)
theorem softC_le (N : Nat → Int32) : ∀ m, softC N m ≤ m
  | 0 => Nat.le_refl 0
  | m + 1 => by
    have := softC_le N m
    rw [softC]
    split <;> omega
theorem t_softNow {g : eg} {h : eh} {t : Nat} {σ : tS} {N : Nat → Int32} {Q : Outcome → eh → Prop} (hN : σ.2 16 = N) (oz : ok0 N) (hq : Q (.returned (some (.int (nI (softC N (nW N)))))) (tw t σ h)) : ew_T g kX2_softNow 3 [.ref t] (tw t σ h) Q := by
  have hw2 := oz.2.2.2
  have main : ∀ m w, w + m = nW N → ew_G g kX2_softNow 3 4 [.ref t, .int (nI (softC N w)), .int (nI w)] [] (tw t σ h) Q := by
    intro m
    induction m with
    | zero =>
      intro w hw
      have e9 : w = nW N := by omega
      subst e9
      refine ew_iload_n (pc := 4) dX2_softNow_4 rfl ?_
      refine ew_aload_n (pc := 5) dX2_softNow_5 rfl ?_
      refine ew_cV0 (d' := 0) (pc := 6) vX2_220 (tw_ro _ _ _ _) dX2_softNow_6 (by decide) (ew_rm (Nat.le_of_ble_eq_true rfl)) ?_
      refine t_windowsZ hN oz ?_
      refine ew_Kr ?_
      refine ew_icmp_ge (pc := 9) (tgt := 34) dX2_softNow_9 (by decide) (fun c9 => ?_) (fun c9 => absurd (nI_le (Nat.le_refl _) (by omega)) c9)
      refine ew_iload_n (pc := 34) dX2_softNow_34 rfl ?_
      refine ew_iret (pc := 35) rfl dX2_softNow_35 ?_
      exact hq
    | succ m ih =>
      intro w hw
      have ih1 := ih (w + 1) (by omega)
      rw [softC] at ih1
      refine ew_iload_n (pc := 4) dX2_softNow_4 rfl ?_
      refine ew_aload_n (pc := 5) dX2_softNow_5 rfl ?_
      refine ew_cV0 (d' := 0) (pc := 6) vX2_220 (tw_ro _ _ _ _) dX2_softNow_6 (by decide) (ew_rm (Nat.le_of_ble_eq_true rfl)) ?_
      refine t_windowsZ hN oz ?_
      refine ew_Kr ?_
      refine ew_icmp_ge (pc := 9) (tgt := 34) dX2_softNow_9 (by decide) (fun c9 => absurd c9 (nI_ge (by omega) (by omega))) (fun c9 => ?_)
      refine ew_iload_n (pc := 12) dX2_softNow_12 rfl ?_
      refine ew_aload_n (pc := 13) dX2_softNow_13 rfl ?_
      refine ew_iload_n (pc := 14) dX2_softNow_14 rfl ?_
      refine ew_cV1 (d' := 2) (pc := 15) vX2_351 (tw_ro _ _ _ _) dX2_softNow_15 (by decide) (ew_rm (Nat.le_of_ble_eq_true rfl)) ?_
      refine t_isFirmN hN (by omega) ?_
      refine ew_Kr ?_
      refine ew_if_eq (pc := 18) (tgt := 25) dX2_softNow_18 (by decide) (fun c18 => ?_) (fun c18 => ?_)
      · refine ew_iconst (pc := 25) (v := 1) dX2_softNow_25 rfl ?_
        refine ew_iadd (pc := 26) dX2_softNow_26 ?_
        refine ew_istore_n (pc := 27) dX2_softNow_27 rfl (by decide) (p1_1 rfl) ?_
        refine ew_iinc (pc := 28) dX2_softNow_28 rfl (nI_inc w) (by decide) (p1_2 rfl) ?_
        refine ew_goto (pc := 31) (tgt := 4) dX2_softNow_31 (by decide) ?_
        first
        | rw [if_pos (bI_n.mp c18), ← nI_add] at ih1
          exact ih1
        | rw [if_neg (bI_0.mp c18), ← nI_add] at ih1
          exact ih1
      · refine ew_iconst (pc := 21) (v := 0) dX2_softNow_21 rfl ?_
        refine ew_goto (pc := 22) (tgt := 26) dX2_softNow_22 (by decide) ?_
        refine ew_iadd (pc := 26) dX2_softNow_26 ?_
        refine ew_istore_n (pc := 27) dX2_softNow_27 rfl (by decide) (p1_1 rfl) ?_
        refine ew_iinc (pc := 28) dX2_softNow_28 rfl (nI_inc w) (by decide) (p1_2 rfl) ?_
        refine ew_goto (pc := 31) (tgt := 4) dX2_softNow_31 (by decide) ?_
        first
        | rw [if_pos (bI_n.mp c18), ← nI_add] at ih1
          exact ih1
        | rw [if_neg (bI_0.mp c18), ← nI_add] at ih1
          exact ih1
  refine ew_enter (by decide +kernel) (ew_a1 rfl (ew_an (ew_an ew_az))) (Nat.le_of_ble_eq_true rfl) ?_
  refine ew_iconst (pc := 0) (v := 0) dX2_softNow_0 rfl ?_
  refine ew_istore_n (pc := 1) dX2_softNow_1 rfl (by decide) (p1_1 rfl) ?_
  refine ew_iconst (pc := 2) (v := 0) dX2_softNow_2 rfl ?_
  refine ew_istore_n (pc := 3) dX2_softNow_3 rfl (by decide) (p1_2 rfl) ?_
  exact main (nW N) 0 (by omega)
abbrev fitC (N : Nat → Int32) (a v : Int32) : Prop := v = 0 ∨ (isIx (nW N) a ∧ ¬ N (2 + 6 * ix a + 4) = 0) ∨ nI (softC N (nW N)) < 10
theorem o_setCost {g : eg} {h : eh} {t : Nat} {σ : tS} {N : Nat → Int32} {P : List (Nat → Int32)} {a v : Int32} {Q : Outcome → eh → Prop} (hJ : TJ σ N) (hP : Pa σ P)
    (hq : ∀ σ' r, Ch σ (as2 (σ.1 21) (bI (isIx (nW N) a)) (bI ((0 ≤ v ∧ v ≤ 99) ∧ fitC N a v))) (N (2 + 6 * ix a + 4)) N (upd N (2 + 6 * ix a + 4) v) P σ' r → Q (.returned (some (.int r))) (tw t σ' h)) : ew_T g kX2_setCost 4 [.ref t, .int a, .int v] (tw t σ h) Q := by
  have hw : nW N ≤ 24 := hJ.z.2.2.2
  have s60 : ∀ f x3, f = bI ((0 ≤ v ∧ v ≤ 99) ∧ fitC N a v) → ew_G g kX2_setCost 4 60 [.ref t, .int a, .int v, x3] [.int f, .int (bI (isIx (nW N) a)), .ref t] (tw t σ h) Q := by
    intro f x3 hf
    rw [hf]
    refine ew_cV2 (d' := 0) (pc := 60) vX2_298 (tw_ro _ _ _ _) dX2_setCost_60 (by decide) (ew_rm (Nat.le_of_ble_eq_true rfl)) ?_
    refine t_ask2 (fun σ1 F1 h0 => ?_)
    refine ew_Kr ?_
    refine ew_if_eq (pc := 63) (tgt := 79) dX2_setCost_63 (by decide) (fun c63 => ?_) (fun c63 => ?_)
    · refine ew_iconst (pc := 79) (v := 0) dX2_setCost_79 rfl ?_
      refine ew_iret (pc := 80) rfl dX2_setCost_80 ?_
      first
      | exact hq _ _ (Ch.no F1 rfl h0 (bI_0.mp c63) hJ.n hP rfl rfl rfl)
      | exact hq _ _ ⟨(F1.w rfl).u F2 rfl, (F2.s 0 rfl).trans h0, fun _ => ⟨rfl, N2, P2⟩, fun h9 => absurd (bI_n.mp c63) h9⟩
    · have hp := as2_0.mp (bI_n.mp c63)
      have ha := (bI_n.mp hp.2.1).to (by omega)
      rw [ha.2]
      refine ew_aload_n (pc := 66) dX2_setCost_66 rfl ?_
      refine ew_iload_n (pc := 67) dX2_setCost_67 rfl ?_
      refine ew_iconst (pc := 68) (v := 4) dX2_setCost_68 rfl ?_
      refine ew_cS2 (d' := 0) (pc := 69) sX2_162 dX2_setCost_69 (by decide) (ew_rm (Nat.le_of_ble_eq_true rfl)) ?_
      refine t_atN (i := 4) ?_
      refine ew_Kr ?_
      refine ew_iload_n (pc := 72) dX2_setCost_72 rfl ?_
      refine ew_cV2 (d' := 2) (pc := 73) vX2_438 (tw_ro _ _ _ _) dX2_setCost_73 (by decide) (ew_rm (Nat.le_of_ble_eq_true rfl)) ?_
      refine t_sets ((F1.a 16 rfl).trans hJ.n) (hP.fq F1 rfl rfl) (by omega) (fun σ2 F2 N2 P2 => ?_)
      refine ew_Kr ?_
      refine ew_goto (pc := 76) (tgt := 80) dX2_setCost_76 (by decide) ?_
      refine ew_iret (pc := 80) rfl dX2_setCost_80 ?_
      first
      | exact hq _ _ (Ch.no F1 rfl h0 (bI_0.mp c63) hJ.n hP rfl rfl rfl)
      | exact hq _ _ ⟨(F1.w rfl).u F2 rfl, (F2.s 0 rfl).trans h0, fun _ => ⟨rfl, N2, P2⟩, fun h9 => absurd (bI_n.mp c63) h9⟩
  have s34 : ∀ f x3, f = bI (fitC N a v) → ew_G g kX2_setCost 4 34 [.ref t, .int a, .int v, x3] [.int f] (tw t σ h) Q := by
    intro f x3 hf
    rw [hf]
    refine ew_istore_n (pc := 34) dX2_setCost_34 rfl (by decide) (p1_3 rfl) ?_
    refine ew_aload_n (pc := 35) dX2_setCost_35 rfl ?_
    refine ew_aload_n (pc := 36) dX2_setCost_36 rfl ?_
    refine ew_iload_n (pc := 37) dX2_setCost_37 rfl ?_
    refine ew_cV1 (d' := 1) (pc := 38) vX2_295 (tw_ro _ _ _ _) dX2_setCost_38 (by decide) (ew_rm (Nat.le_of_ble_eq_true rfl)) ?_
    refine t_isWindow hJ.n hJ.z ?_
    refine ew_Kr ?_
    refine ew_iload_n (pc := 41) dX2_setCost_41 rfl ?_
    refine ew_iconst (pc := 42) (v := 0) dX2_setCost_42 rfl ?_
    refine ew_bipush (pc := 43) (v := 99) dX2_setCost_43 rfl ?_
    refine ew_cS3 (d' := 0) (pc := 45) sX2_102 dX2_setCost_45 (by decide) (ew_rm (Nat.le_of_ble_eq_true rfl)) ?_
    refine t_inT ?_
    refine ew_Kr ?_
    refine ew_if_eq (pc := 48) (tgt := 59) dX2_setCost_48 (by decide) (fun c48 => ?_) (fun c48 => ?_)
    · refine ew_iconst (pc := 59) (v := 0) dX2_setCost_59 rfl ?_
      first
      | exact s60 _ _ (bI_T ⟨bI_n.mp c48, bI_n.mp c52⟩)
      | exact s60 _ _ (bI_F (fun h9 => bI_0.mp c52 h9.2))
      | exact s60 _ _ (bI_F (fun h9 => bI_0.mp c48 h9.1))
    · refine ew_iload_n (pc := 51) dX2_setCost_51 rfl ?_
      refine ew_if_eq (pc := 52) (tgt := 59) dX2_setCost_52 (by decide) (fun c52 => ?_) (fun c52 => ?_)
      · refine ew_iconst (pc := 59) (v := 0) dX2_setCost_59 rfl ?_
        first
        | exact s60 _ _ (bI_T ⟨bI_n.mp c48, bI_n.mp c52⟩)
        | exact s60 _ _ (bI_F (fun h9 => bI_0.mp c52 h9.2))
        | exact s60 _ _ (bI_F (fun h9 => bI_0.mp c48 h9.1))
      · refine ew_iconst (pc := 55) (v := 1) dX2_setCost_55 rfl ?_
        refine ew_goto (pc := 56) (tgt := 60) dX2_setCost_56 (by decide) ?_
        first
        | exact s60 _ _ (bI_T ⟨bI_n.mp c48, bI_n.mp c52⟩)
        | exact s60 _ _ (bI_F (fun h9 => bI_0.mp c52 h9.2))
        | exact s60 _ _ (bI_F (fun h9 => bI_0.mp c48 h9.1))
  refine ew_enter (by decide +kernel) (ew_a1 rfl (ew_a1 rfl (ew_a1 rfl (ew_an ew_az)))) (Nat.le_of_ble_eq_true rfl) ?_
  refine ew_iload_n (pc := 0) dX2_setCost_0 rfl ?_
  refine ew_if_eq (pc := 1) (tgt := 29) dX2_setCost_1 (by decide) (fun c1 => ?_) (fun c1 => ?_)
  · refine ew_iconst (pc := 29) (v := 1) dX2_setCost_29 rfl ?_
    refine ew_goto (pc := 30) (tgt := 34) dX2_setCost_30 (by decide) ?_
    first
    | exact s34 _ _ (bI_T (Or.inl c1))
    | exact s34 _ _ (bI_T (Or.inr (Or.inl ⟨bI_n.mp c9, bI_0.mp c17⟩)))
    | exact s34 _ _ (bI_T (Or.inr (Or.inr (Int32.not_le.mp c26))))
    | exact s34 _ _ (bI_F (fun h9 => h9.elim c1 (fun h8 => h8.elim (fun h7 => h7.2 (bI_n.mp c17)) (fun h7 => absurd h7 (Int32.not_lt.mpr c26)))))
    | exact s34 _ _ (bI_F (fun h9 => h9.elim c1 (fun h8 => h8.elim (fun h7 => bI_0.mp c9 h7.1) (fun h7 => absurd h7 (Int32.not_lt.mpr c26)))))
  · refine ew_aload_n (pc := 4) dX2_setCost_4 rfl ?_
    refine ew_iload_n (pc := 5) dX2_setCost_5 rfl ?_
    refine ew_cV1 (d' := 1) (pc := 6) vX2_295 (tw_ro _ _ _ _) dX2_setCost_6 (by decide) (ew_rm (Nat.le_of_ble_eq_true rfl)) ?_
    refine t_isWindow hJ.n hJ.z ?_
    refine ew_Kr ?_
    refine ew_if_eq (pc := 9) (tgt := 20) dX2_setCost_9 (by decide) (fun c9 => ?_) (fun c9 => ?_)
    · refine ew_aload_n (pc := 20) dX2_setCost_20 rfl ?_
      refine ew_cV0 (d' := 3) (pc := 21) vX2_441 (tw_ro _ _ _ _) dX2_setCost_21 (by decide) (ew_rm (Nat.le_of_ble_eq_true rfl)) ?_
      refine t_softNow hJ.n hJ.z ?_
      refine ew_Kr ?_
      refine ew_bipush (pc := 24) (v := 10) dX2_setCost_24 rfl ?_
      refine ew_icmp_ge (pc := 26) (tgt := 33) dX2_setCost_26 (by decide) (fun c26 => ?_) (fun c26 => ?_)
      · refine ew_iconst (pc := 33) (v := 0) dX2_setCost_33 rfl ?_
        first
        | exact s34 _ _ (bI_T (Or.inl c1))
        | exact s34 _ _ (bI_T (Or.inr (Or.inl ⟨bI_n.mp c9, bI_0.mp c17⟩)))
        | exact s34 _ _ (bI_T (Or.inr (Or.inr (Int32.not_le.mp c26))))
        | exact s34 _ _ (bI_F (fun h9 => h9.elim c1 (fun h8 => h8.elim (fun h7 => h7.2 (bI_n.mp c17)) (fun h7 => absurd h7 (Int32.not_lt.mpr c26)))))
        | exact s34 _ _ (bI_F (fun h9 => h9.elim c1 (fun h8 => h8.elim (fun h7 => bI_0.mp c9 h7.1) (fun h7 => absurd h7 (Int32.not_lt.mpr c26)))))
      · refine ew_iconst (pc := 29) (v := 1) dX2_setCost_29 rfl ?_
        refine ew_goto (pc := 30) (tgt := 34) dX2_setCost_30 (by decide) ?_
        first
        | exact s34 _ _ (bI_T (Or.inl c1))
        | exact s34 _ _ (bI_T (Or.inr (Or.inl ⟨bI_n.mp c9, bI_0.mp c17⟩)))
        | exact s34 _ _ (bI_T (Or.inr (Or.inr (Int32.not_le.mp c26))))
        | exact s34 _ _ (bI_F (fun h9 => h9.elim c1 (fun h8 => h8.elim (fun h7 => h7.2 (bI_n.mp c17)) (fun h7 => absurd h7 (Int32.not_lt.mpr c26)))))
        | exact s34 _ _ (bI_F (fun h9 => h9.elim c1 (fun h8 => h8.elim (fun h7 => bI_0.mp c9 h7.1) (fun h7 => absurd h7 (Int32.not_lt.mpr c26)))))
    · have ha := (bI_n.mp c9).to (by omega)
      refine ew_aload_n (pc := 12) dX2_setCost_12 rfl ?_
      refine ew_iload_n (pc := 13) dX2_setCost_13 rfl ?_
      refine ew_cV1 (d' := 2) (pc := 14) vX2_351 (tw_ro _ _ _ _) dX2_setCost_14 (by decide) (ew_rm (Nat.le_of_ble_eq_true rfl)) ?_
      rw [ha.2]
      refine t_isFirmN hJ.n (by omega) ?_
      rw [← ha.2]
      refine ew_Kr ?_
      refine ew_if_eq (pc := 17) (tgt := 29) dX2_setCost_17 (by decide) (fun c17 => ?_) (fun c17 => ?_)
      · refine ew_iconst (pc := 29) (v := 1) dX2_setCost_29 rfl ?_
        refine ew_goto (pc := 30) (tgt := 34) dX2_setCost_30 (by decide) ?_
        first
        | exact s34 _ _ (bI_T (Or.inl c1))
        | exact s34 _ _ (bI_T (Or.inr (Or.inl ⟨bI_n.mp c9, bI_0.mp c17⟩)))
        | exact s34 _ _ (bI_T (Or.inr (Or.inr (Int32.not_le.mp c26))))
        | exact s34 _ _ (bI_F (fun h9 => h9.elim c1 (fun h8 => h8.elim (fun h7 => h7.2 (bI_n.mp c17)) (fun h7 => absurd h7 (Int32.not_lt.mpr c26)))))
        | exact s34 _ _ (bI_F (fun h9 => h9.elim c1 (fun h8 => h8.elim (fun h7 => bI_0.mp c9 h7.1) (fun h7 => absurd h7 (Int32.not_lt.mpr c26)))))
      · refine ew_aload_n (pc := 20) dX2_setCost_20 rfl ?_
        refine ew_cV0 (d' := 3) (pc := 21) vX2_441 (tw_ro _ _ _ _) dX2_setCost_21 (by decide) (ew_rm (Nat.le_of_ble_eq_true rfl)) ?_
        refine t_softNow hJ.n hJ.z ?_
        refine ew_Kr ?_
        refine ew_bipush (pc := 24) (v := 10) dX2_setCost_24 rfl ?_
        refine ew_icmp_ge (pc := 26) (tgt := 33) dX2_setCost_26 (by decide) (fun c26 => ?_) (fun c26 => ?_)
        · refine ew_iconst (pc := 33) (v := 0) dX2_setCost_33 rfl ?_
          first
          | exact s34 _ _ (bI_T (Or.inl c1))
          | exact s34 _ _ (bI_T (Or.inr (Or.inl ⟨bI_n.mp c9, bI_0.mp c17⟩)))
          | exact s34 _ _ (bI_T (Or.inr (Or.inr (Int32.not_le.mp c26))))
          | exact s34 _ _ (bI_F (fun h9 => h9.elim c1 (fun h8 => h8.elim (fun h7 => h7.2 (bI_n.mp c17)) (fun h7 => absurd h7 (Int32.not_lt.mpr c26)))))
          | exact s34 _ _ (bI_F (fun h9 => h9.elim c1 (fun h8 => h8.elim (fun h7 => bI_0.mp c9 h7.1) (fun h7 => absurd h7 (Int32.not_lt.mpr c26)))))
        · refine ew_iconst (pc := 29) (v := 1) dX2_setCost_29 rfl ?_
          refine ew_goto (pc := 30) (tgt := 34) dX2_setCost_30 (by decide) ?_
          first
          | exact s34 _ _ (bI_T (Or.inl c1))
          | exact s34 _ _ (bI_T (Or.inr (Or.inl ⟨bI_n.mp c9, bI_0.mp c17⟩)))
          | exact s34 _ _ (bI_T (Or.inr (Or.inr (Int32.not_le.mp c26))))
          | exact s34 _ _ (bI_F (fun h9 => h9.elim c1 (fun h8 => h8.elim (fun h7 => h7.2 (bI_n.mp c17)) (fun h7 => absurd h7 (Int32.not_lt.mpr c26)))))
          | exact s34 _ _ (bI_F (fun h9 => h9.elim c1 (fun h8 => h8.elim (fun h7 => bI_0.mp c9 h7.1) (fun h7 => absurd h7 (Int32.not_lt.mpr c26)))))
theorem o_turn {g : eg} {h : eh} {t : Nat} {σ : tS} {N : Nat → Int32} {P : List (Nat → Int32)} {a : Int32} {Q : Outcome → eh → Prop} (hJ : TJ σ N) (hP : Pa σ P)
    (hq : ∀ σ' r, Ch σ (as1 (σ.1 21) (bI (isIx (nW N) a))) (bI (N (2 + 6 * ix a + 5) = 0)) N (upd N (2 + 6 * ix a + 5) (1 - N (2 + 6 * ix a + 5))) P σ' r → Q (.returned (some (.int r))) (tw t σ' h)) : ew_T g kX2_turn 3 [.ref t, .int a] (tw t σ h) Q := by
  have hw : nW N ≤ 24 := hJ.z.2.2.2
  refine ew_enter (by decide +kernel) (ew_a1 rfl (ew_a1 rfl ew_az)) (Nat.le_of_ble_eq_true rfl) ?_
  refine ew_aload_n (pc := 0) dX2_turn_0 rfl ?_
  refine ew_aload_n (pc := 1) dX2_turn_1 rfl ?_
  refine ew_iload_n (pc := 2) dX2_turn_2 rfl ?_
  refine ew_cV1 (d' := 1) (pc := 3) vX2_295 (tw_ro _ _ _ _) dX2_turn_3 (by decide) (ew_rm (Nat.le_of_ble_eq_true rfl)) ?_
  refine t_isWindow hJ.n hJ.z ?_
  refine ew_Kr ?_
  refine ew_cV1 (d' := 0) (pc := 6) vX2_291 (tw_ro _ _ _ _) dX2_turn_6 (by decide) (ew_rm (Nat.le_of_ble_eq_true rfl)) ?_
  refine t_ask1 (fun σ1 F1 h0 => ?_)
  refine ew_Kr ?_
  refine ew_if_ne (pc := 9) (tgt := 14) dX2_turn_9 (by decide) (fun c9 => ?_) (fun c9 => ?_)
  · have hp := as1_0.mp (bI_n.mp c9)
    have ha := (bI_n.mp hp.2).to (by omega)
    rw [ha.2]
    refine ew_aload_n (pc := 14) dX2_turn_14 rfl ?_
    refine ew_iload_n (pc := 15) dX2_turn_15 rfl ?_
    refine ew_iconst (pc := 16) (v := 5) dX2_turn_16 rfl ?_
    refine ew_cS2 (d' := 0) (pc := 17) sX2_162 dX2_turn_17 (by decide) (ew_rm (Nat.le_of_ble_eq_true rfl)) ?_
    refine t_atN (i := 5) ?_
    refine ew_Kr ?_
    refine ew_iconst (pc := 20) (v := 1) dX2_turn_20 rfl ?_
    refine ew_aload_n (pc := 21) dX2_turn_21 rfl ?_
    refine ew_iload_n (pc := 22) dX2_turn_22 rfl ?_
    refine ew_iconst (pc := 23) (v := 5) dX2_turn_23 rfl ?_
    refine ew_cV2 (d' := 1) (pc := 24) vX2_214 (tw_ro _ _ _ _) dX2_turn_24 (by decide) (ew_rm (Nat.le_of_ble_eq_true rfl)) ?_
    refine t_ofN (i := 5) ((F1.a 16 rfl).trans hJ.n) (by omega) (by decide) ?_
    refine ew_Kr ?_
    refine ew_isub (pc := 27) dX2_turn_27 ?_
    refine ew_cV2 (d' := 2) (pc := 28) vX2_438 (tw_ro _ _ _ _) dX2_turn_28 (by decide) (ew_rm (Nat.le_of_ble_eq_true rfl)) ?_
    refine t_sets ((F1.a 16 rfl).trans hJ.n) (hP.fq F1 rfl rfl) (by omega) (fun σ2 F2 N2 P2 => ?_)
    refine ew_Kr ?_
    refine ew_if_ne (pc := 31) (tgt := 38) dX2_turn_31 (by decide) (fun c31 => ?_) (fun c31 => ?_)
    · refine ew_iconst (pc := 38) (v := 0) dX2_turn_38 rfl ?_
      refine ew_zret (pc := 39) (ty := .boolean) rfl rfl dX2_turn_39 ?_
      first
      | exact hq _ _ ⟨(F1.w rfl).u F2 rfl, (F2.s 0 rfl).trans h0, fun _ => ⟨bI_T c31, N2, P2⟩, fun h9 => absurd (bI_n.mp c9) h9⟩
      | exact hq _ _ ⟨(F1.w rfl).u F2 rfl, (F2.s 0 rfl).trans h0, fun _ => ⟨bI_F c31, N2, P2⟩, fun h9 => absurd (bI_n.mp c9) h9⟩
    · refine ew_iconst (pc := 34) (v := 1) dX2_turn_34 rfl ?_
      refine ew_goto (pc := 35) (tgt := 39) dX2_turn_35 (by decide) ?_
      refine ew_zret (pc := 39) (ty := .boolean) rfl rfl dX2_turn_39 ?_
      first
      | exact hq _ _ ⟨(F1.w rfl).u F2 rfl, (F2.s 0 rfl).trans h0, fun _ => ⟨bI_T c31, N2, P2⟩, fun h9 => absurd (bI_n.mp c9) h9⟩
      | exact hq _ _ ⟨(F1.w rfl).u F2 rfl, (F2.s 0 rfl).trans h0, fun _ => ⟨bI_F c31, N2, P2⟩, fun h9 => absurd (bI_n.mp c9) h9⟩
  · refine ew_iconst (pc := 12) (v := 0) dX2_turn_12 rfl ?_
    refine ew_zret (pc := 13) (ty := .boolean) rfl rfl dX2_turn_13 ?_
    exact hq _ _ (Ch.no F1 rfl h0 (bI_0.mp c9) hJ.n hP rfl rfl rfl)
/-- a new window -/
def layB (N : Nat → Int32) (a b lo hi co : Int32) : Nat → Int32 := upd (upd (upd (upd (upd (upd N (2 + 6 * nW N + 0) a) (2 + 6 * nW N + 1) b) (2 + 6 * nW N + 2) lo) (2 + 6 * nW N + 3) hi) (2 + 6 * nW N + 4) co) (2 + 6 * nW N + 5) 0
def layN (N : Nat → Int32) (a b lo hi co : Int32) : Nat → Int32 := upd (layB N a b lo hi co) 1 (layB N a b lo hi co 1 + 1)
theorem t_laysN {g : eg} {h : eh} {t : Nat} {σ : tS} {N : Nat → Int32} {a b lo hi co : Int32} {Q : Outcome → eh → Prop} (hN : σ.2 16 = N) (hw : nW N < 24) (h1 : N 1 = nI (nW N)) (hq : Q (.returned (some (.int (nI (nW N))))) (tw t (tA σ 16 (layN N a b lo hi co)) h)) : ew_T g kX2_lays 1 [.ref t, .int a, .int b, .int lo, .int hi, .int co] (tw t σ h) Q := by
  subst hN
  refine ew_enter (by decide +kernel) (ew_a1 rfl (ew_a1 rfl (ew_a1 rfl (ew_a1 rfl (ew_a1 rfl (ew_a1 rfl (ew_an ew_az))))))) (Nat.le_of_ble_eq_true rfl) ?_
  refine ew_aload_n (pc := 0) dX2_lays_0 rfl ?_
  refine tg_g16 (pc := 1) rfl dX2_lays_1 ?_
  refine ew_iconst (pc := 4) (v := 1) dX2_lays_4 rfl ?_
  refine tg_l16 (pc := 5) (j := 1) rfl (by decide) dX2_lays_5 ?_
  rw [h1]
  refine ew_istore (pc := 6) dX2_lays_6 (by decide) (p1_6 rfl) ?_
  refine ew_aload_n (pc := 8) dX2_lays_8 rfl ?_
  refine tg_g16 (pc := 9) rfl dX2_lays_9 ?_
  refine ew_iload (pc := 12) dX2_lays_12 rfl ?_
  refine ew_iconst (pc := 14) (v := 0) dX2_lays_14 rfl ?_
  refine ew_cS2 (d' := 0) (pc := 15) sX2_162 dX2_lays_15 (by decide) (ew_rm (Nat.le_of_ble_eq_true rfl)) ?_
  refine t_atN (i := 0) ?_
  refine ew_Kr ?_
  refine ew_iload_n (pc := 18) dX2_lays_18 rfl ?_
  refine tg_s16 (pc := 19) (j := 2 + 6 * nW (σ.2 16) + 0) rfl (by omega) dX2_lays_19 ?_
  refine ew_aload_n (pc := 20) dX2_lays_20 rfl ?_
  refine tg_g16 (pc := 21) rfl dX2_lays_21 ?_
  refine ew_iload (pc := 24) dX2_lays_24 rfl ?_
  refine ew_iconst (pc := 26) (v := 1) dX2_lays_26 rfl ?_
  refine ew_cS2 (d' := 0) (pc := 27) sX2_162 dX2_lays_27 (by decide) (ew_rm (Nat.le_of_ble_eq_true rfl)) ?_
  refine t_atN (i := 1) ?_
  refine ew_Kr ?_
  refine ew_iload_n (pc := 30) dX2_lays_30 rfl ?_
  refine tg_s16 (pc := 31) (j := 2 + 6 * nW (σ.2 16) + 1) rfl (by omega) dX2_lays_31 ?_
  refine ew_aload_n (pc := 32) dX2_lays_32 rfl ?_
  refine tg_g16 (pc := 33) rfl dX2_lays_33 ?_
  refine ew_iload (pc := 36) dX2_lays_36 rfl ?_
  refine ew_iconst (pc := 38) (v := 2) dX2_lays_38 rfl ?_
  refine ew_cS2 (d' := 0) (pc := 39) sX2_162 dX2_lays_39 (by decide) (ew_rm (Nat.le_of_ble_eq_true rfl)) ?_
  refine t_atN (i := 2) ?_
  refine ew_Kr ?_
  refine ew_iload_n (pc := 42) dX2_lays_42 rfl ?_
  refine tg_s16 (pc := 43) (j := 2 + 6 * nW (σ.2 16) + 2) rfl (by omega) dX2_lays_43 ?_
  refine ew_aload_n (pc := 44) dX2_lays_44 rfl ?_
  refine tg_g16 (pc := 45) rfl dX2_lays_45 ?_
  refine ew_iload (pc := 48) dX2_lays_48 rfl ?_
  refine ew_iconst (pc := 50) (v := 3) dX2_lays_50 rfl ?_
  refine ew_cS2 (d' := 0) (pc := 51) sX2_162 dX2_lays_51 (by decide) (ew_rm (Nat.le_of_ble_eq_true rfl)) ?_
  refine t_atN (i := 3) ?_
  refine ew_Kr ?_
  refine ew_iload (pc := 54) dX2_lays_54 rfl ?_
  refine tg_s16 (pc := 56) (j := 2 + 6 * nW (σ.2 16) + 3) rfl (by omega) dX2_lays_56 ?_
  refine ew_aload_n (pc := 57) dX2_lays_57 rfl ?_
  refine tg_g16 (pc := 58) rfl dX2_lays_58 ?_
  refine ew_iload (pc := 61) dX2_lays_61 rfl ?_
  refine ew_iconst (pc := 63) (v := 4) dX2_lays_63 rfl ?_
  refine ew_cS2 (d' := 0) (pc := 64) sX2_162 dX2_lays_64 (by decide) (ew_rm (Nat.le_of_ble_eq_true rfl)) ?_
  refine t_atN (i := 4) ?_
  refine ew_Kr ?_
  refine ew_iload (pc := 67) dX2_lays_67 rfl ?_
  refine tg_s16 (pc := 69) (j := 2 + 6 * nW (σ.2 16) + 4) rfl (by omega) dX2_lays_69 ?_
  refine ew_aload_n (pc := 70) dX2_lays_70 rfl ?_
  refine tg_g16 (pc := 71) rfl dX2_lays_71 ?_
  refine ew_iload (pc := 74) dX2_lays_74 rfl ?_
  refine ew_iconst (pc := 76) (v := 5) dX2_lays_76 rfl ?_
  refine ew_cS2 (d' := 0) (pc := 77) sX2_162 dX2_lays_77 (by decide) (ew_rm (Nat.le_of_ble_eq_true rfl)) ?_
  refine t_atN (i := 5) ?_
  refine ew_Kr ?_
  refine ew_iconst (pc := 80) (v := 0) dX2_lays_80 rfl ?_
  refine tg_s16 (pc := 81) (j := 2 + 6 * nW (σ.2 16) + 5) rfl (by omega) dX2_lays_81 ?_
  refine ew_aload_n (pc := 82) dX2_lays_82 rfl ?_
  refine tg_g16 (pc := 83) rfl dX2_lays_83 ?_
  refine ew_iconst (pc := 86) (v := 1) dX2_lays_86 rfl ?_
  refine ew_dup2_11 (pc := 87) dX2_lays_87 rfl rfl ?_
  refine tg_l16 (pc := 88) (j := 1) rfl (by decide) dX2_lays_88 ?_
  refine ew_iconst (pc := 89) (v := 1) dX2_lays_89 rfl ?_
  refine ew_iadd (pc := 90) dX2_lays_90 ?_
  refine tg_s16 (pc := 91) (j := 1) rfl (by decide) dX2_lays_91 ?_
  refine ew_iload (pc := 92) dX2_lays_92 rfl ?_
  refine ew_iret (pc := 94) rfl dX2_lays_94 ?_
  simp only [tA_tA]
  exact hq
