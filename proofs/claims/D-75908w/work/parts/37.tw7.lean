/-! EW: the reference: what may be asked -/
set_option maxRecDepth 100000
def ok0 (N : Nat → Int32) : Prop := N 0 = nI (nE N) ∧ nE N ≤ 10 ∧ N 1 = nI (nW N) ∧ nW N ≤ 24
theorem okN.z {N : Nat → Int32} (h : okN N) : ok0 N := ⟨h.e, h.e2, h.w, h.w2⟩
/-- the reference's net is N; without one there are no events -/
def TJ (σ : tS) (N : Nat → Int32) : Prop := σ.2 16 = N ∧ ok0 N ∧ ((σ.1 21 = 1 ∧ okN N) ∨ (σ.1 21 = 0 ∧ nE N = 0 ∧ nW N = 0))
theorem TJ.n {σ : tS} {N : Nat → Int32} (h : TJ σ N) : σ.2 16 = N := h.1
theorem TJ.z {σ : tS} {N : Nat → Int32} (h : TJ σ N) : ok0 N := h.2.1
theorem TJ.ok {σ : tS} {N : Nat → Int32} (h : TJ σ N) (h1 : ¬ σ.1 21 = 0) : okN N := by
  rcases h.2.2 with h2 | h2
  · exact h2.2
  · exact absurd h2.1 h1
theorem TJ.fq {S : List Nat} {σ σ' : tS} {N : Nat → Int32} (h : TJ σ N) (hF : Fq S σ σ') (h1 : S.contains 16 = false) (h2 : S.contains 21 = false) : TJ σ' N := by
  refine ⟨(hF.a 16 h1).trans h.1, h.2.1, ?_⟩
  rw [hF.s 21 h2]
  exact h.2.2
/-- an index below n -/
abbrev isIx (n : Nat) (e : Int32) : Prop := 0 ≤ e ∧ e ≤ nI n - 1
theorem isIx_iff {n : Nat} {e : Int32} (hn : n < 2 ^ 31) : isIx n e ↔ ∃ j, j < n ∧ e = nI j := by
  have h1 : (nI n - 1).toInt = (n : Int) - 1 := by
    rw [i_sub] <;> rw [nI_toInt hn, show (1 : Int32).toInt = 1 from by decide] <;> omega
  constructor
  · intro h
    have h2 := i_le.mp h.1
    have h3 := i_le.mp h.2
    rw [h1] at h3
    rw [show (0 : Int32).toInt = 0 from by decide] at h2
    refine ⟨e.toInt.toNat, by omega, ?_⟩
    apply i_inj
    rw [nI_toInt (by omega)]
    omega
  · rintro ⟨j, hj, rfl⟩
    have h4 := nI_toInt (n := j) (by omega)
    refine ⟨i_le.mpr ?_, i_le.mpr ?_⟩
    · rw [h4, show (0 : Int32).toInt = 0 from by decide]; omega
    · rw [h4, h1]; omega
theorem t_isEvent {g : eg} {h : eh} {t : Nat} {σ : tS} {N : Nat → Int32} {e : Int32} {Q : Outcome → eh → Prop} (hN : σ.2 16 = N) (oz : ok0 N) (hq : Q (.returned (some (.int (bI (isIx (nE N) e))))) (tw t σ h)) : ew_T g kX2_isEvent 1 [.ref t, .int e] (tw t σ h) Q := by
  subst hN
  refine ew_enter (by decide +kernel) (ew_a1 rfl (ew_a1 rfl ew_az)) (Nat.le_of_ble_eq_true rfl) ?_
  refine ew_iload_n (pc := 0) dX2_isEvent_0 rfl ?_
  refine ew_iconst (pc := 1) (v := 0) dX2_isEvent_1 rfl ?_
  refine ew_aload_n (pc := 2) dX2_isEvent_2 rfl ?_
  refine ew_cV0 (d' := 0) (pc := 3) vX2_230 (tw_ro _ _ _ _) dX2_isEvent_3 (by decide) (ew_rm (Nat.le_of_ble_eq_true rfl)) ?_
  refine t_eventsNow ?_
  refine ew_Kr ?_
  refine ew_iconst (pc := 6) (v := 1) dX2_isEvent_6 rfl ?_
  rw [oz.1]
  refine ew_isub (pc := 7) dX2_isEvent_7 ?_
  refine ew_cS3 (d' := 0) (pc := 8) sX2_102 dX2_isEvent_8 (by decide) (ew_rm (Nat.le_of_ble_eq_true rfl)) ?_
  refine t_inT ?_
  refine ew_Kr ?_
  refine ew_zret (pc := 11) (ty := .boolean) rfl bI_nar dX2_isEvent_11 ?_
  exact hq
theorem t_isWindow {g : eg} {h : eh} {t : Nat} {σ : tS} {N : Nat → Int32} {e : Int32} {Q : Outcome → eh → Prop} (hN : σ.2 16 = N) (oz : ok0 N) (hq : Q (.returned (some (.int (bI (isIx (nW N) e))))) (tw t σ h)) : ew_T g kX2_isWindow 1 [.ref t, .int e] (tw t σ h) Q := by
  subst hN
  refine ew_enter (by decide +kernel) (ew_a1 rfl (ew_a1 rfl ew_az)) (Nat.le_of_ble_eq_true rfl) ?_
  refine ew_iload_n (pc := 0) dX2_isWindow_0 rfl ?_
  refine ew_iconst (pc := 1) (v := 0) dX2_isWindow_1 rfl ?_
  refine ew_aload_n (pc := 2) dX2_isWindow_2 rfl ?_
  refine ew_cV0 (d' := 0) (pc := 3) vX2_220 (tw_ro _ _ _ _) dX2_isWindow_3 (by decide) (ew_rm (Nat.le_of_ble_eq_true rfl)) ?_
  refine t_windowsNow ?_
  refine ew_Kr ?_
  refine ew_iconst (pc := 6) (v := 1) dX2_isWindow_6 rfl ?_
  rw [oz.2.2.1]
  refine ew_isub (pc := 7) dX2_isWindow_7 ?_
  refine ew_cS3 (d' := 0) (pc := 8) sX2_102 dX2_isWindow_8 (by decide) (ew_rm (Nat.le_of_ble_eq_true rfl)) ?_
  refine t_inT ?_
  refine ew_Kr ?_
  refine ew_zret (pc := 11) (ty := .boolean) rfl bI_nar dX2_isWindow_11 ?_
  exact hq
theorem t_isPolicy {g : eg} {h : eh} {p : Int32} {Q : Outcome → eh → Prop} (hq : Q (.returned (some (.int (bI (isIx 4 p))))) h) : ew_T g kX2_isPolicy 1 [.int p] h Q := by
  refine ew_enter (by decide +kernel) (ew_a1 rfl ew_az) (Nat.le_of_ble_eq_true rfl) ?_
  refine ew_iload_n (pc := 0) dX2_isPolicy_0 rfl ?_
  refine ew_iconst (pc := 1) (v := 0) dX2_isPolicy_1 rfl ?_
  refine ew_iconst (pc := 2) (v := 3) dX2_isPolicy_2 rfl ?_
  refine ew_cS3 (d' := 0) (pc := 3) sX2_102 dX2_isPolicy_3 (by decide) (ew_rm (Nat.le_of_ble_eq_true rfl)) ?_
  refine t_inT ?_
  refine ew_Kr ?_
  refine ew_zret (pc := 6) (ty := .boolean) rfl bI_nar dX2_isPolicy_6 ?_
  exact hq
def as1 (x f : Int32) : Int32 := if x = 0 then 1 else if f = 0 then 2 else 0
def as2 (x i f : Int32) : Int32 := if x = 0 then 1 else if i = 0 then 2 else if f = 0 then 3 else 0
def se1 (x : Int32) (b : Bool) (f : Int32) : Int32 := if x = 0 ∨ b = false then 1 else if f = 0 then 2 else 0
def se2 (x : Int32) (b : Bool) (i f : Int32) : Int32 := if x = 0 ∨ b = false then 1 else if i = 0 then 2 else if f = 0 then 3 else 0
theorem as1_0 {x f : Int32} : as1 x f = 0 ↔ x ≠ 0 ∧ f ≠ 0 := by
  unfold as1
  by_cases h1 : x = 0 <;> by_cases h2 : f = 0 <;> simp [h1, h2]
theorem as2_0 {x i f : Int32} : as2 x i f = 0 ↔ x ≠ 0 ∧ i ≠ 0 ∧ f ≠ 0 := by
  unfold as2
  by_cases h1 : x = 0 <;> by_cases h3 : i = 0 <;> by_cases h2 : f = 0 <;> simp [h1, h2, h3]
theorem se1_0 {x f : Int32} {b : Bool} : se1 x b f = 0 ↔ x ≠ 0 ∧ b = true ∧ f ≠ 0 := by
  unfold se1
  by_cases h1 : x = 0 <;> cases b <;> by_cases h2 : f = 0 <;> simp [h1, h2]
theorem se2_0 {x i f : Int32} {b : Bool} : se2 x b i f = 0 ↔ x ≠ 0 ∧ b = true ∧ i ≠ 0 ∧ f ≠ 0 := by
  unfold se2
  by_cases h1 : x = 0 <;> cases b <;> by_cases h3 : i = 0 <;> by_cases h2 : f = 0 <;> simp [h1, h2, h3]
theorem bI10 : bI ((1 : Int32) = 0) = 0 := by decide
theorem bI20 : bI ((2 : Int32) = 0) = 0 := by decide
theorem bI30 : bI ((3 : Int32) = 0) = 0 := by decide
theorem bI00 : bI ((0 : Int32) = 0) = 1 := by decide
theorem t_mayAsk {g : eg} {h : eh} {t : Nat} {σ : tS} {f : Int32} {Q : Outcome → eh → Prop} (hq : Q (.returned (some (.int (bI (as1 (σ.1 21) f = 0))))) (tw t (tI σ 0 (as1 (σ.1 21) f)) h)) : ew_T g kX2_mayAsk 0 [.ref t, .int f] (tw t σ h) Q := by
  refine ew_enter (by decide +kernel) (ew_a1 rfl (ew_a1 rfl ew_az)) (Nat.le_of_ble_eq_true rfl) ?_
  refine ew_aload_n (pc := 0) dX2_mayAsk_0 rfl ?_
  refine ew_aload_n (pc := 1) dX2_mayAsk_1 rfl ?_
  refine tg_g21 (pc := 2) rfl dX2_mayAsk_2 ?_
  refine ew_if_ne (pc := 5) (tgt := 12) dX2_mayAsk_5 (by decide) (fun c5 => ?_) (fun c5 => ?_)
  · refine ew_iload_n (pc := 12) dX2_mayAsk_12 rfl ?_
    refine ew_if_eq (pc := 13) (tgt := 20) dX2_mayAsk_13 (by decide) (fun c13 => ?_) (fun c13 => ?_)
    · refine ew_iconst (pc := 20) (v := 2) dX2_mayAsk_20 rfl ?_
      refine tg_p0 (pc := 21) rfl dX2_mayAsk_21 ?_
      refine ew_aload_n (pc := 24) dX2_mayAsk_24 rfl ?_
      refine tg_g0 (pc := 25) rfl dX2_mayAsk_25 ?_
      refine ew_if_ne (pc := 28) (tgt := 35) dX2_mayAsk_28 (by decide) (fun c28 => ?_) (fun c28 => absurd c28 (show ¬ (2 : Int32) = (0 : Int32) by decide))
      refine ew_iconst (pc := 35) (v := 0) dX2_mayAsk_35 rfl ?_
      refine ew_zret (pc := 36) (ty := .boolean) rfl rfl dX2_mayAsk_36 ?_
      first
      | rw [show as1 (σ.1 21) f = 1 by rw [as1, if_pos c5], bI10] at hq
        exact hq
      | rw [show as1 (σ.1 21) f = 2 by rw [as1, if_neg c5, if_pos c13], bI20] at hq
        exact hq
      | rw [show as1 (σ.1 21) f = 0 by rw [as1, if_neg c5, if_neg c13], bI00] at hq
        exact hq
    · refine ew_iconst (pc := 16) (v := 0) dX2_mayAsk_16 rfl ?_
      refine ew_goto (pc := 17) (tgt := 21) dX2_mayAsk_17 (by decide) ?_
      refine tg_p0 (pc := 21) rfl dX2_mayAsk_21 ?_
      refine ew_aload_n (pc := 24) dX2_mayAsk_24 rfl ?_
      refine tg_g0 (pc := 25) rfl dX2_mayAsk_25 ?_
      refine ew_if_ne (pc := 28) (tgt := 35) dX2_mayAsk_28 (by decide) (fun c28 => absurd (show (0 : Int32) = (0 : Int32) by decide) c28) (fun c28 => ?_)
      refine ew_iconst (pc := 31) (v := 1) dX2_mayAsk_31 rfl ?_
      refine ew_goto (pc := 32) (tgt := 36) dX2_mayAsk_32 (by decide) ?_
      refine ew_zret (pc := 36) (ty := .boolean) rfl rfl dX2_mayAsk_36 ?_
      first
      | rw [show as1 (σ.1 21) f = 1 by rw [as1, if_pos c5], bI10] at hq
        exact hq
      | rw [show as1 (σ.1 21) f = 2 by rw [as1, if_neg c5, if_pos c13], bI20] at hq
        exact hq
      | rw [show as1 (σ.1 21) f = 0 by rw [as1, if_neg c5, if_neg c13], bI00] at hq
        exact hq
  · refine ew_iconst (pc := 8) (v := 1) dX2_mayAsk_8 rfl ?_
    refine ew_goto (pc := 9) (tgt := 21) dX2_mayAsk_9 (by decide) ?_
    refine tg_p0 (pc := 21) rfl dX2_mayAsk_21 ?_
    refine ew_aload_n (pc := 24) dX2_mayAsk_24 rfl ?_
    refine tg_g0 (pc := 25) rfl dX2_mayAsk_25 ?_
    refine ew_if_ne (pc := 28) (tgt := 35) dX2_mayAsk_28 (by decide) (fun c28 => ?_) (fun c28 => absurd c28 (show ¬ (1 : Int32) = (0 : Int32) by decide))
    refine ew_iconst (pc := 35) (v := 0) dX2_mayAsk_35 rfl ?_
    refine ew_zret (pc := 36) (ty := .boolean) rfl rfl dX2_mayAsk_36 ?_
    first
    | rw [show as1 (σ.1 21) f = 1 by rw [as1, if_pos c5], bI10] at hq
      exact hq
    | rw [show as1 (σ.1 21) f = 2 by rw [as1, if_neg c5, if_pos c13], bI20] at hq
      exact hq
    | rw [show as1 (σ.1 21) f = 0 by rw [as1, if_neg c5, if_neg c13], bI00] at hq
      exact hq
theorem t_mayAskFor {g : eg} {h : eh} {t : Nat} {σ : tS} {i f : Int32} {Q : Outcome → eh → Prop} (hq : Q (.returned (some (.int (bI (as2 (σ.1 21) i f = 0))))) (tw t (tI σ 0 (as2 (σ.1 21) i f)) h)) : ew_T g kX2_mayAskFor 0 [.ref t, .int i, .int f] (tw t σ h) Q := by
  refine ew_enter (by decide +kernel) (ew_a1 rfl (ew_a1 rfl (ew_a1 rfl ew_az))) (Nat.le_of_ble_eq_true rfl) ?_
  refine ew_aload_n (pc := 0) dX2_mayAskFor_0 rfl ?_
  refine ew_aload_n (pc := 1) dX2_mayAskFor_1 rfl ?_
  refine tg_g21 (pc := 2) rfl dX2_mayAskFor_2 ?_
  refine ew_if_ne (pc := 5) (tgt := 12) dX2_mayAskFor_5 (by decide) (fun c5 => ?_) (fun c5 => ?_)
  · refine ew_iload_n (pc := 12) dX2_mayAskFor_12 rfl ?_
    refine ew_if_ne (pc := 13) (tgt := 20) dX2_mayAskFor_13 (by decide) (fun c13 => ?_) (fun c13 => ?_)
    · refine ew_iload_n (pc := 20) dX2_mayAskFor_20 rfl ?_
      refine ew_if_eq (pc := 21) (tgt := 28) dX2_mayAskFor_21 (by decide) (fun c21 => ?_) (fun c21 => ?_)
      · refine ew_iconst (pc := 28) (v := 3) dX2_mayAskFor_28 rfl ?_
        refine tg_p0 (pc := 29) rfl dX2_mayAskFor_29 ?_
        refine ew_aload_n (pc := 32) dX2_mayAskFor_32 rfl ?_
        refine tg_g0 (pc := 33) rfl dX2_mayAskFor_33 ?_
        refine ew_if_ne (pc := 36) (tgt := 43) dX2_mayAskFor_36 (by decide) (fun c36 => ?_) (fun c36 => absurd c36 (show ¬ (3 : Int32) = (0 : Int32) by decide))
        refine ew_iconst (pc := 43) (v := 0) dX2_mayAskFor_43 rfl ?_
        refine ew_zret (pc := 44) (ty := .boolean) rfl rfl dX2_mayAskFor_44 ?_
        first
        | rw [show as2 (σ.1 21) i f = 1 by rw [as2, if_pos c5], bI10] at hq
          exact hq
        | rw [show as2 (σ.1 21) i f = 2 by rw [as2, if_neg c5, if_pos c13], bI20] at hq
          exact hq
        | rw [show as2 (σ.1 21) i f = 3 by rw [as2, if_neg c5, if_neg c13, if_pos c21], bI30] at hq
          exact hq
        | rw [show as2 (σ.1 21) i f = 0 by rw [as2, if_neg c5, if_neg c13, if_neg c21], bI00] at hq
          exact hq
      · refine ew_iconst (pc := 24) (v := 0) dX2_mayAskFor_24 rfl ?_
        refine ew_goto (pc := 25) (tgt := 29) dX2_mayAskFor_25 (by decide) ?_
        refine tg_p0 (pc := 29) rfl dX2_mayAskFor_29 ?_
        refine ew_aload_n (pc := 32) dX2_mayAskFor_32 rfl ?_
        refine tg_g0 (pc := 33) rfl dX2_mayAskFor_33 ?_
        refine ew_if_ne (pc := 36) (tgt := 43) dX2_mayAskFor_36 (by decide) (fun c36 => absurd (show (0 : Int32) = (0 : Int32) by decide) c36) (fun c36 => ?_)
        refine ew_iconst (pc := 39) (v := 1) dX2_mayAskFor_39 rfl ?_
        refine ew_goto (pc := 40) (tgt := 44) dX2_mayAskFor_40 (by decide) ?_
        refine ew_zret (pc := 44) (ty := .boolean) rfl rfl dX2_mayAskFor_44 ?_
        first
        | rw [show as2 (σ.1 21) i f = 1 by rw [as2, if_pos c5], bI10] at hq
          exact hq
        | rw [show as2 (σ.1 21) i f = 2 by rw [as2, if_neg c5, if_pos c13], bI20] at hq
          exact hq
        | rw [show as2 (σ.1 21) i f = 3 by rw [as2, if_neg c5, if_neg c13, if_pos c21], bI30] at hq
          exact hq
        | rw [show as2 (σ.1 21) i f = 0 by rw [as2, if_neg c5, if_neg c13, if_neg c21], bI00] at hq
          exact hq
    · refine ew_iconst (pc := 16) (v := 2) dX2_mayAskFor_16 rfl ?_
      refine ew_goto (pc := 17) (tgt := 29) dX2_mayAskFor_17 (by decide) ?_
      refine tg_p0 (pc := 29) rfl dX2_mayAskFor_29 ?_
      refine ew_aload_n (pc := 32) dX2_mayAskFor_32 rfl ?_
      refine tg_g0 (pc := 33) rfl dX2_mayAskFor_33 ?_
      refine ew_if_ne (pc := 36) (tgt := 43) dX2_mayAskFor_36 (by decide) (fun c36 => ?_) (fun c36 => absurd c36 (show ¬ (2 : Int32) = (0 : Int32) by decide))
      refine ew_iconst (pc := 43) (v := 0) dX2_mayAskFor_43 rfl ?_
      refine ew_zret (pc := 44) (ty := .boolean) rfl rfl dX2_mayAskFor_44 ?_
      first
      | rw [show as2 (σ.1 21) i f = 1 by rw [as2, if_pos c5], bI10] at hq
        exact hq
      | rw [show as2 (σ.1 21) i f = 2 by rw [as2, if_neg c5, if_pos c13], bI20] at hq
        exact hq
      | rw [show as2 (σ.1 21) i f = 3 by rw [as2, if_neg c5, if_neg c13, if_pos c21], bI30] at hq
        exact hq
      | rw [show as2 (σ.1 21) i f = 0 by rw [as2, if_neg c5, if_neg c13, if_neg c21], bI00] at hq
        exact hq
  · refine ew_iconst (pc := 8) (v := 1) dX2_mayAskFor_8 rfl ?_
    refine ew_goto (pc := 9) (tgt := 29) dX2_mayAskFor_9 (by decide) ?_
    refine tg_p0 (pc := 29) rfl dX2_mayAskFor_29 ?_
    refine ew_aload_n (pc := 32) dX2_mayAskFor_32 rfl ?_
    refine tg_g0 (pc := 33) rfl dX2_mayAskFor_33 ?_
    refine ew_if_ne (pc := 36) (tgt := 43) dX2_mayAskFor_36 (by decide) (fun c36 => ?_) (fun c36 => absurd c36 (show ¬ (1 : Int32) = (0 : Int32) by decide))
    refine ew_iconst (pc := 43) (v := 0) dX2_mayAskFor_43 rfl ?_
    refine ew_zret (pc := 44) (ty := .boolean) rfl rfl dX2_mayAskFor_44 ?_
    first
    | rw [show as2 (σ.1 21) i f = 1 by rw [as2, if_pos c5], bI10] at hq
      exact hq
    | rw [show as2 (σ.1 21) i f = 2 by rw [as2, if_neg c5, if_pos c13], bI20] at hq
      exact hq
    | rw [show as2 (σ.1 21) i f = 3 by rw [as2, if_neg c5, if_neg c13, if_pos c21], bI30] at hq
      exact hq
    | rw [show as2 (σ.1 21) i f = 0 by rw [as2, if_neg c5, if_neg c13, if_neg c21], bI00] at hq
      exact hq
/-- whether a net is sound; its bounds -/
def sB (N : Nat → Int32) : Bool := cB (nE N) (eN N 0 (-1))
def sF (N : Nat → Int32) : Nat → Int32 := cF (nE N) (eN N 0 (-1))
/-- the bounds of the net lie there -/
def Lies (N : Nat → Int32) (σ : tS) : Prop := TN N (σ.2 27) ∧ Sts σ (eN N 0 (-1)) ∧ Ag (σ.2 29) (sF N)
theorem t_sB {g : eg} {h : eh} {t : Nat} {σ : tS} {N : Nat → Int32} {Q : Outcome → eh → Prop} (hN : σ.2 16 = N) (ok : okN N)
    (hq : ∀ σ', Fq [23, 24, 25, 26, 27, 28, 29] σ σ' → Lies N σ' → Q (.returned (some (.int (bI (sB N = true))))) (tw t σ' h)) : ew_T g kX2_boundsNow 5 [.ref t] (tw t σ h) Q := by
  refine t_boundsNow hN ok (fun σ1 b F1 T1 S1 B1 => ?_)
  have hc := B1.c ok.e2 (eAll_ok ok)
  rw [hc.1]
  exact hq σ1 F1 ⟨T1, S1, hc.2⟩
theorem Lies.fq {N : Nat → Int32} {S : List Nat} {σ σ' : tS} (h : Lies N σ) (hF : Fq S σ σ') (hd : [23, 24, 25, 26, 27, 28, 29].all (fun k => !S.contains k) = true) : Lies N σ' := by
  have hd' : ∀ k, k ∈ [23, 24, 25, 26, 27, 28, 29] → S.contains k = false := by
    intro k hk
    have := List.all_eq_true.mp hd k hk
    simpa using this
  refine ⟨?_, ?_, ?_⟩
  · rw [hF.a 27 (hd' 27 (by decide))]; exact h.1
  · refine h.2.1.fq hF (List.all_eq_true.mpr (fun k hk => ?_))
    rw [hd' k (by revert hk; revert k; decide)]
    rfl
  · rw [hF.a 29 (hd' 29 (by decide))]; exact h.2.2
theorem t_maySee {g : eg} {h : eh} {t : Nat} {σ : tS} {N : Nat → Int32} {f : Int32} {Q : Outcome → eh → Prop} (hJ : TJ σ N)
    (hq : ∀ σ', Fq [0, 23, 24, 25, 26, 27, 28, 29] σ σ' → σ'.1 0 = se1 (σ.1 21) (sB N) f → (¬ σ.1 21 = 0 → Lies N σ') → Q (.returned (some (.int (bI (se1 (σ.1 21) (sB N) f = 0))))) (tw t σ' h)) : ew_T g kX2_maySee 6 [.ref t, .int f] (tw t σ h) Q := by
  refine ew_enter (by decide +kernel) (ew_a1 rfl (ew_a1 rfl ew_az)) (Nat.le_of_ble_eq_true rfl) ?_
  refine ew_aload_n (pc := 0) dX2_maySee_0 rfl ?_
  refine ew_aload_n (pc := 1) dX2_maySee_1 rfl ?_
  refine tg_g21 (pc := 2) rfl dX2_maySee_2 ?_
  refine ew_if_eq (pc := 5) (tgt := 15) dX2_maySee_5 (by decide) (fun c5 => ?_) (fun c5 => ?_)
  · refine ew_iconst (pc := 15) (v := 1) dX2_maySee_15 rfl ?_
    refine ew_goto (pc := 16) (tgt := 28) dX2_maySee_16 (by decide) ?_
    refine tg_p0 (pc := 28) rfl dX2_maySee_28 ?_
    refine ew_aload_n (pc := 31) dX2_maySee_31 rfl ?_
    refine tg_g0 (pc := 32) rfl dX2_maySee_32 ?_
    refine ew_if_ne (pc := 35) (tgt := 42) dX2_maySee_35 (by decide) (fun c35 => ?_) (fun c35 => absurd c35 (show ¬ (1 : Int32) = (0 : Int32) by decide))
    refine ew_iconst (pc := 42) (v := 0) dX2_maySee_42 rfl ?_
    refine ew_zret (pc := 43) (ty := .boolean) rfl rfl dX2_maySee_43 ?_
    first
    | rw [show se1 (σ.1 21) (sB N) f = 1 by rw [se1, if_pos (Or.inl c5)], bI10] at hq
      exact hq _ (Fq.I σ 0 _ rfl) rfl (fun h9 => absurd c5 h9)
    | rw [show se1 (σ.1 21) (sB N) f = 1 by rw [se1, if_pos (Or.inr (Bool.eq_false_iff.mpr (bI_0.mp c12)))], bI10] at hq
      exact hq _ ((F1.w rfl).xI 0 _ rfl) rfl (fun _ => L1.fq (Fq.I (S := [0]) _ 0 _ rfl) rfl)
    | rw [show se1 (σ.1 21) (sB N) f = 2 by rw [se1, if_neg (fun h9 => h9.elim c5 (fun h8 => absurd (bI_n.mp c12) (by rw [h8]; decide))), if_pos c20], bI20] at hq
      exact hq _ ((F1.w rfl).xI 0 _ rfl) rfl (fun _ => L1.fq (Fq.I (S := [0]) _ 0 _ rfl) rfl)
    | rw [show se1 (σ.1 21) (sB N) f = 0 by rw [se1, if_neg (fun h9 => h9.elim c5 (fun h8 => absurd (bI_n.mp c12) (by rw [h8]; decide))), if_neg c20], bI00] at hq
      exact hq _ ((F1.w rfl).xI 0 _ rfl) rfl (fun _ => L1.fq (Fq.I (S := [0]) _ 0 _ rfl) rfl)
  · refine ew_aload_n (pc := 8) dX2_maySee_8 rfl ?_
    refine ew_cV0 (d' := 5) (pc := 9) vX2_276 (tw_ro _ _ _ _) dX2_maySee_9 (by decide) (ew_rm (Nat.le_of_ble_eq_true rfl)) ?_
    refine t_sB hJ.n (hJ.ok c5) (fun σ1 F1 L1 => ?_)
    refine ew_Kr ?_
    refine ew_if_ne (pc := 12) (tgt := 19) dX2_maySee_12 (by decide) (fun c12 => ?_) (fun c12 => ?_)
    · refine ew_iload_n (pc := 19) dX2_maySee_19 rfl ?_
      refine ew_if_eq (pc := 20) (tgt := 27) dX2_maySee_20 (by decide) (fun c20 => ?_) (fun c20 => ?_)
      · refine ew_iconst (pc := 27) (v := 2) dX2_maySee_27 rfl ?_
        refine tg_p0 (pc := 28) rfl dX2_maySee_28 ?_
        refine ew_aload_n (pc := 31) dX2_maySee_31 rfl ?_
        refine tg_g0 (pc := 32) rfl dX2_maySee_32 ?_
        refine ew_if_ne (pc := 35) (tgt := 42) dX2_maySee_35 (by decide) (fun c35 => ?_) (fun c35 => absurd c35 (show ¬ (2 : Int32) = (0 : Int32) by decide))
        refine ew_iconst (pc := 42) (v := 0) dX2_maySee_42 rfl ?_
        refine ew_zret (pc := 43) (ty := .boolean) rfl rfl dX2_maySee_43 ?_
        first
        | rw [show se1 (σ.1 21) (sB N) f = 1 by rw [se1, if_pos (Or.inl c5)], bI10] at hq
          exact hq _ (Fq.I σ 0 _ rfl) rfl (fun h9 => absurd c5 h9)
        | rw [show se1 (σ.1 21) (sB N) f = 1 by rw [se1, if_pos (Or.inr (Bool.eq_false_iff.mpr (bI_0.mp c12)))], bI10] at hq
          exact hq _ ((F1.w rfl).xI 0 _ rfl) rfl (fun _ => L1.fq (Fq.I (S := [0]) _ 0 _ rfl) rfl)
        | rw [show se1 (σ.1 21) (sB N) f = 2 by rw [se1, if_neg (fun h9 => h9.elim c5 (fun h8 => absurd (bI_n.mp c12) (by rw [h8]; decide))), if_pos c20], bI20] at hq
          exact hq _ ((F1.w rfl).xI 0 _ rfl) rfl (fun _ => L1.fq (Fq.I (S := [0]) _ 0 _ rfl) rfl)
        | rw [show se1 (σ.1 21) (sB N) f = 0 by rw [se1, if_neg (fun h9 => h9.elim c5 (fun h8 => absurd (bI_n.mp c12) (by rw [h8]; decide))), if_neg c20], bI00] at hq
          exact hq _ ((F1.w rfl).xI 0 _ rfl) rfl (fun _ => L1.fq (Fq.I (S := [0]) _ 0 _ rfl) rfl)
      · refine ew_iconst (pc := 23) (v := 0) dX2_maySee_23 rfl ?_
        refine ew_goto (pc := 24) (tgt := 28) dX2_maySee_24 (by decide) ?_
        refine tg_p0 (pc := 28) rfl dX2_maySee_28 ?_
        refine ew_aload_n (pc := 31) dX2_maySee_31 rfl ?_
        refine tg_g0 (pc := 32) rfl dX2_maySee_32 ?_
        refine ew_if_ne (pc := 35) (tgt := 42) dX2_maySee_35 (by decide) (fun c35 => absurd (show (0 : Int32) = (0 : Int32) by decide) c35) (fun c35 => ?_)
        refine ew_iconst (pc := 38) (v := 1) dX2_maySee_38 rfl ?_
        refine ew_goto (pc := 39) (tgt := 43) dX2_maySee_39 (by decide) ?_
        refine ew_zret (pc := 43) (ty := .boolean) rfl rfl dX2_maySee_43 ?_
        first
        | rw [show se1 (σ.1 21) (sB N) f = 1 by rw [se1, if_pos (Or.inl c5)], bI10] at hq
          exact hq _ (Fq.I σ 0 _ rfl) rfl (fun h9 => absurd c5 h9)
        | rw [show se1 (σ.1 21) (sB N) f = 1 by rw [se1, if_pos (Or.inr (Bool.eq_false_iff.mpr (bI_0.mp c12)))], bI10] at hq
          exact hq _ ((F1.w rfl).xI 0 _ rfl) rfl (fun _ => L1.fq (Fq.I (S := [0]) _ 0 _ rfl) rfl)
        | rw [show se1 (σ.1 21) (sB N) f = 2 by rw [se1, if_neg (fun h9 => h9.elim c5 (fun h8 => absurd (bI_n.mp c12) (by rw [h8]; decide))), if_pos c20], bI20] at hq
          exact hq _ ((F1.w rfl).xI 0 _ rfl) rfl (fun _ => L1.fq (Fq.I (S := [0]) _ 0 _ rfl) rfl)
        | rw [show se1 (σ.1 21) (sB N) f = 0 by rw [se1, if_neg (fun h9 => h9.elim c5 (fun h8 => absurd (bI_n.mp c12) (by rw [h8]; decide))), if_neg c20], bI00] at hq
          exact hq _ ((F1.w rfl).xI 0 _ rfl) rfl (fun _ => L1.fq (Fq.I (S := [0]) _ 0 _ rfl) rfl)
    · refine ew_iconst (pc := 15) (v := 1) dX2_maySee_15 rfl ?_
      refine ew_goto (pc := 16) (tgt := 28) dX2_maySee_16 (by decide) ?_
      refine tg_p0 (pc := 28) rfl dX2_maySee_28 ?_
      refine ew_aload_n (pc := 31) dX2_maySee_31 rfl ?_
      refine tg_g0 (pc := 32) rfl dX2_maySee_32 ?_
      refine ew_if_ne (pc := 35) (tgt := 42) dX2_maySee_35 (by decide) (fun c35 => ?_) (fun c35 => absurd c35 (show ¬ (1 : Int32) = (0 : Int32) by decide))
      refine ew_iconst (pc := 42) (v := 0) dX2_maySee_42 rfl ?_
      refine ew_zret (pc := 43) (ty := .boolean) rfl rfl dX2_maySee_43 ?_
      first
      | rw [show se1 (σ.1 21) (sB N) f = 1 by rw [se1, if_pos (Or.inl c5)], bI10] at hq
        exact hq _ (Fq.I σ 0 _ rfl) rfl (fun h9 => absurd c5 h9)
      | rw [show se1 (σ.1 21) (sB N) f = 1 by rw [se1, if_pos (Or.inr (Bool.eq_false_iff.mpr (bI_0.mp c12)))], bI10] at hq
        exact hq _ ((F1.w rfl).xI 0 _ rfl) rfl (fun _ => L1.fq (Fq.I (S := [0]) _ 0 _ rfl) rfl)
      | rw [show se1 (σ.1 21) (sB N) f = 2 by rw [se1, if_neg (fun h9 => h9.elim c5 (fun h8 => absurd (bI_n.mp c12) (by rw [h8]; decide))), if_pos c20], bI20] at hq
        exact hq _ ((F1.w rfl).xI 0 _ rfl) rfl (fun _ => L1.fq (Fq.I (S := [0]) _ 0 _ rfl) rfl)
      | rw [show se1 (σ.1 21) (sB N) f = 0 by rw [se1, if_neg (fun h9 => h9.elim c5 (fun h8 => absurd (bI_n.mp c12) (by rw [h8]; decide))), if_neg c20], bI00] at hq
        exact hq _ ((F1.w rfl).xI 0 _ rfl) rfl (fun _ => L1.fq (Fq.I (S := [0]) _ 0 _ rfl) rfl)
theorem t_maySeeFor {g : eg} {h : eh} {t : Nat} {σ : tS} {N : Nat → Int32} {i f : Int32} {Q : Outcome → eh → Prop} (hJ : TJ σ N)
    (hq : ∀ σ', Fq [0, 23, 24, 25, 26, 27, 28, 29] σ σ' → σ'.1 0 = se2 (σ.1 21) (sB N) i f → (¬ σ.1 21 = 0 → Lies N σ') → Q (.returned (some (.int (bI (se2 (σ.1 21) (sB N) i f = 0))))) (tw t σ' h)) : ew_T g kX2_maySeeFor 6 [.ref t, .int i, .int f] (tw t σ h) Q := by
  refine ew_enter (by decide +kernel) (ew_a1 rfl (ew_a1 rfl (ew_a1 rfl ew_az))) (Nat.le_of_ble_eq_true rfl) ?_
  refine ew_aload_n (pc := 0) dX2_maySeeFor_0 rfl ?_
  refine ew_aload_n (pc := 1) dX2_maySeeFor_1 rfl ?_
  refine tg_g21 (pc := 2) rfl dX2_maySeeFor_2 ?_
  refine ew_if_eq (pc := 5) (tgt := 15) dX2_maySeeFor_5 (by decide) (fun c5 => ?_) (fun c5 => ?_)
  · refine ew_iconst (pc := 15) (v := 1) dX2_maySeeFor_15 rfl ?_
    refine ew_goto (pc := 16) (tgt := 36) dX2_maySeeFor_16 (by decide) ?_
    refine tg_p0 (pc := 36) rfl dX2_maySeeFor_36 ?_
    refine ew_aload_n (pc := 39) dX2_maySeeFor_39 rfl ?_
    refine tg_g0 (pc := 40) rfl dX2_maySeeFor_40 ?_
    refine ew_if_ne (pc := 43) (tgt := 50) dX2_maySeeFor_43 (by decide) (fun c43 => ?_) (fun c43 => absurd c43 (show ¬ (1 : Int32) = (0 : Int32) by decide))
    refine ew_iconst (pc := 50) (v := 0) dX2_maySeeFor_50 rfl ?_
    refine ew_zret (pc := 51) (ty := .boolean) rfl rfl dX2_maySeeFor_51 ?_
    first
    | rw [show se2 (σ.1 21) (sB N) i f = 1 by rw [se2, if_pos (Or.inl c5)], bI10] at hq
      exact hq _ (Fq.I σ 0 _ rfl) rfl (fun h9 => absurd c5 h9)
    | rw [show se2 (σ.1 21) (sB N) i f = 1 by rw [se2, if_pos (Or.inr (Bool.eq_false_iff.mpr (bI_0.mp c12)))], bI10] at hq
      exact hq _ ((F1.w rfl).xI 0 _ rfl) rfl (fun _ => L1.fq (Fq.I (S := [0]) _ 0 _ rfl) rfl)
    | rw [show se2 (σ.1 21) (sB N) i f = 2 by rw [se2, if_neg (fun h9 => h9.elim c5 (fun h8 => absurd (bI_n.mp c12) (by rw [h8]; decide))), if_pos c20], bI20] at hq
      exact hq _ ((F1.w rfl).xI 0 _ rfl) rfl (fun _ => L1.fq (Fq.I (S := [0]) _ 0 _ rfl) rfl)
    | rw [show se2 (σ.1 21) (sB N) i f = 3 by rw [se2, if_neg (fun h9 => h9.elim c5 (fun h8 => absurd (bI_n.mp c12) (by rw [h8]; decide))), if_neg c20, if_pos c28], bI30] at hq
      exact hq _ ((F1.w rfl).xI 0 _ rfl) rfl (fun _ => L1.fq (Fq.I (S := [0]) _ 0 _ rfl) rfl)
    | rw [show se2 (σ.1 21) (sB N) i f = 0 by rw [se2, if_neg (fun h9 => h9.elim c5 (fun h8 => absurd (bI_n.mp c12) (by rw [h8]; decide))), if_neg c20, if_neg c28], bI00] at hq
      exact hq _ ((F1.w rfl).xI 0 _ rfl) rfl (fun _ => L1.fq (Fq.I (S := [0]) _ 0 _ rfl) rfl)
  · refine ew_aload_n (pc := 8) dX2_maySeeFor_8 rfl ?_
    refine ew_cV0 (d' := 5) (pc := 9) vX2_276 (tw_ro _ _ _ _) dX2_maySeeFor_9 (by decide) (ew_rm (Nat.le_of_ble_eq_true rfl)) ?_
    refine t_sB hJ.n (hJ.ok c5) (fun σ1 F1 L1 => ?_)
    refine ew_Kr ?_
    refine ew_if_ne (pc := 12) (tgt := 19) dX2_maySeeFor_12 (by decide) (fun c12 => ?_) (fun c12 => ?_)
    · refine ew_iload_n (pc := 19) dX2_maySeeFor_19 rfl ?_
      refine ew_if_ne (pc := 20) (tgt := 27) dX2_maySeeFor_20 (by decide) (fun c20 => ?_) (fun c20 => ?_)
      · refine ew_iload_n (pc := 27) dX2_maySeeFor_27 rfl ?_
        refine ew_if_eq (pc := 28) (tgt := 35) dX2_maySeeFor_28 (by decide) (fun c28 => ?_) (fun c28 => ?_)
        · refine ew_iconst (pc := 35) (v := 3) dX2_maySeeFor_35 rfl ?_
          refine tg_p0 (pc := 36) rfl dX2_maySeeFor_36 ?_
          refine ew_aload_n (pc := 39) dX2_maySeeFor_39 rfl ?_
          refine tg_g0 (pc := 40) rfl dX2_maySeeFor_40 ?_
          refine ew_if_ne (pc := 43) (tgt := 50) dX2_maySeeFor_43 (by decide) (fun c43 => ?_) (fun c43 => absurd c43 (show ¬ (3 : Int32) = (0 : Int32) by decide))
          refine ew_iconst (pc := 50) (v := 0) dX2_maySeeFor_50 rfl ?_
          refine ew_zret (pc := 51) (ty := .boolean) rfl rfl dX2_maySeeFor_51 ?_
          first
          | rw [show se2 (σ.1 21) (sB N) i f = 1 by rw [se2, if_pos (Or.inl c5)], bI10] at hq
            exact hq _ (Fq.I σ 0 _ rfl) rfl (fun h9 => absurd c5 h9)
          | rw [show se2 (σ.1 21) (sB N) i f = 1 by rw [se2, if_pos (Or.inr (Bool.eq_false_iff.mpr (bI_0.mp c12)))], bI10] at hq
            exact hq _ ((F1.w rfl).xI 0 _ rfl) rfl (fun _ => L1.fq (Fq.I (S := [0]) _ 0 _ rfl) rfl)
          | rw [show se2 (σ.1 21) (sB N) i f = 2 by rw [se2, if_neg (fun h9 => h9.elim c5 (fun h8 => absurd (bI_n.mp c12) (by rw [h8]; decide))), if_pos c20], bI20] at hq
            exact hq _ ((F1.w rfl).xI 0 _ rfl) rfl (fun _ => L1.fq (Fq.I (S := [0]) _ 0 _ rfl) rfl)
          | rw [show se2 (σ.1 21) (sB N) i f = 3 by rw [se2, if_neg (fun h9 => h9.elim c5 (fun h8 => absurd (bI_n.mp c12) (by rw [h8]; decide))), if_neg c20, if_pos c28], bI30] at hq
            exact hq _ ((F1.w rfl).xI 0 _ rfl) rfl (fun _ => L1.fq (Fq.I (S := [0]) _ 0 _ rfl) rfl)
          | rw [show se2 (σ.1 21) (sB N) i f = 0 by rw [se2, if_neg (fun h9 => h9.elim c5 (fun h8 => absurd (bI_n.mp c12) (by rw [h8]; decide))), if_neg c20, if_neg c28], bI00] at hq
            exact hq _ ((F1.w rfl).xI 0 _ rfl) rfl (fun _ => L1.fq (Fq.I (S := [0]) _ 0 _ rfl) rfl)
        · refine ew_iconst (pc := 31) (v := 0) dX2_maySeeFor_31 rfl ?_
          refine ew_goto (pc := 32) (tgt := 36) dX2_maySeeFor_32 (by decide) ?_
          refine tg_p0 (pc := 36) rfl dX2_maySeeFor_36 ?_
          refine ew_aload_n (pc := 39) dX2_maySeeFor_39 rfl ?_
          refine tg_g0 (pc := 40) rfl dX2_maySeeFor_40 ?_
          refine ew_if_ne (pc := 43) (tgt := 50) dX2_maySeeFor_43 (by decide) (fun c43 => absurd (show (0 : Int32) = (0 : Int32) by decide) c43) (fun c43 => ?_)
          refine ew_iconst (pc := 46) (v := 1) dX2_maySeeFor_46 rfl ?_
          refine ew_goto (pc := 47) (tgt := 51) dX2_maySeeFor_47 (by decide) ?_
          refine ew_zret (pc := 51) (ty := .boolean) rfl rfl dX2_maySeeFor_51 ?_
          first
          | rw [show se2 (σ.1 21) (sB N) i f = 1 by rw [se2, if_pos (Or.inl c5)], bI10] at hq
            exact hq _ (Fq.I σ 0 _ rfl) rfl (fun h9 => absurd c5 h9)
          | rw [show se2 (σ.1 21) (sB N) i f = 1 by rw [se2, if_pos (Or.inr (Bool.eq_false_iff.mpr (bI_0.mp c12)))], bI10] at hq
            exact hq _ ((F1.w rfl).xI 0 _ rfl) rfl (fun _ => L1.fq (Fq.I (S := [0]) _ 0 _ rfl) rfl)
          | rw [show se2 (σ.1 21) (sB N) i f = 2 by rw [se2, if_neg (fun h9 => h9.elim c5 (fun h8 => absurd (bI_n.mp c12) (by rw [h8]; decide))), if_pos c20], bI20] at hq
            exact hq _ ((F1.w rfl).xI 0 _ rfl) rfl (fun _ => L1.fq (Fq.I (S := [0]) _ 0 _ rfl) rfl)
          | rw [show se2 (σ.1 21) (sB N) i f = 3 by rw [se2, if_neg (fun h9 => h9.elim c5 (fun h8 => absurd (bI_n.mp c12) (by rw [h8]; decide))), if_neg c20, if_pos c28], bI30] at hq
            exact hq _ ((F1.w rfl).xI 0 _ rfl) rfl (fun _ => L1.fq (Fq.I (S := [0]) _ 0 _ rfl) rfl)
          | rw [show se2 (σ.1 21) (sB N) i f = 0 by rw [se2, if_neg (fun h9 => h9.elim c5 (fun h8 => absurd (bI_n.mp c12) (by rw [h8]; decide))), if_neg c20, if_neg c28], bI00] at hq
            exact hq _ ((F1.w rfl).xI 0 _ rfl) rfl (fun _ => L1.fq (Fq.I (S := [0]) _ 0 _ rfl) rfl)
      · refine ew_iconst (pc := 23) (v := 2) dX2_maySeeFor_23 rfl ?_
        refine ew_goto (pc := 24) (tgt := 36) dX2_maySeeFor_24 (by decide) ?_
        refine tg_p0 (pc := 36) rfl dX2_maySeeFor_36 ?_
        refine ew_aload_n (pc := 39) dX2_maySeeFor_39 rfl ?_
        refine tg_g0 (pc := 40) rfl dX2_maySeeFor_40 ?_
        refine ew_if_ne (pc := 43) (tgt := 50) dX2_maySeeFor_43 (by decide) (fun c43 => ?_) (fun c43 => absurd c43 (show ¬ (2 : Int32) = (0 : Int32) by decide))
        refine ew_iconst (pc := 50) (v := 0) dX2_maySeeFor_50 rfl ?_
        refine ew_zret (pc := 51) (ty := .boolean) rfl rfl dX2_maySeeFor_51 ?_
        first
        | rw [show se2 (σ.1 21) (sB N) i f = 1 by rw [se2, if_pos (Or.inl c5)], bI10] at hq
          exact hq _ (Fq.I σ 0 _ rfl) rfl (fun h9 => absurd c5 h9)
        | rw [show se2 (σ.1 21) (sB N) i f = 1 by rw [se2, if_pos (Or.inr (Bool.eq_false_iff.mpr (bI_0.mp c12)))], bI10] at hq
          exact hq _ ((F1.w rfl).xI 0 _ rfl) rfl (fun _ => L1.fq (Fq.I (S := [0]) _ 0 _ rfl) rfl)
        | rw [show se2 (σ.1 21) (sB N) i f = 2 by rw [se2, if_neg (fun h9 => h9.elim c5 (fun h8 => absurd (bI_n.mp c12) (by rw [h8]; decide))), if_pos c20], bI20] at hq
          exact hq _ ((F1.w rfl).xI 0 _ rfl) rfl (fun _ => L1.fq (Fq.I (S := [0]) _ 0 _ rfl) rfl)
        | rw [show se2 (σ.1 21) (sB N) i f = 3 by rw [se2, if_neg (fun h9 => h9.elim c5 (fun h8 => absurd (bI_n.mp c12) (by rw [h8]; decide))), if_neg c20, if_pos c28], bI30] at hq
          exact hq _ ((F1.w rfl).xI 0 _ rfl) rfl (fun _ => L1.fq (Fq.I (S := [0]) _ 0 _ rfl) rfl)
        | rw [show se2 (σ.1 21) (sB N) i f = 0 by rw [se2, if_neg (fun h9 => h9.elim c5 (fun h8 => absurd (bI_n.mp c12) (by rw [h8]; decide))), if_neg c20, if_neg c28], bI00] at hq
          exact hq _ ((F1.w rfl).xI 0 _ rfl) rfl (fun _ => L1.fq (Fq.I (S := [0]) _ 0 _ rfl) rfl)
    · refine ew_iconst (pc := 15) (v := 1) dX2_maySeeFor_15 rfl ?_
      refine ew_goto (pc := 16) (tgt := 36) dX2_maySeeFor_16 (by decide) ?_
      refine tg_p0 (pc := 36) rfl dX2_maySeeFor_36 ?_
      refine ew_aload_n (pc := 39) dX2_maySeeFor_39 rfl ?_
      refine tg_g0 (pc := 40) rfl dX2_maySeeFor_40 ?_
      refine ew_if_ne (pc := 43) (tgt := 50) dX2_maySeeFor_43 (by decide) (fun c43 => ?_) (fun c43 => absurd c43 (show ¬ (1 : Int32) = (0 : Int32) by decide))
      refine ew_iconst (pc := 50) (v := 0) dX2_maySeeFor_50 rfl ?_
      refine ew_zret (pc := 51) (ty := .boolean) rfl rfl dX2_maySeeFor_51 ?_
      first
      | rw [show se2 (σ.1 21) (sB N) i f = 1 by rw [se2, if_pos (Or.inl c5)], bI10] at hq
        exact hq _ (Fq.I σ 0 _ rfl) rfl (fun h9 => absurd c5 h9)
      | rw [show se2 (σ.1 21) (sB N) i f = 1 by rw [se2, if_pos (Or.inr (Bool.eq_false_iff.mpr (bI_0.mp c12)))], bI10] at hq
        exact hq _ ((F1.w rfl).xI 0 _ rfl) rfl (fun _ => L1.fq (Fq.I (S := [0]) _ 0 _ rfl) rfl)
      | rw [show se2 (σ.1 21) (sB N) i f = 2 by rw [se2, if_neg (fun h9 => h9.elim c5 (fun h8 => absurd (bI_n.mp c12) (by rw [h8]; decide))), if_pos c20], bI20] at hq
        exact hq _ ((F1.w rfl).xI 0 _ rfl) rfl (fun _ => L1.fq (Fq.I (S := [0]) _ 0 _ rfl) rfl)
      | rw [show se2 (σ.1 21) (sB N) i f = 3 by rw [se2, if_neg (fun h9 => h9.elim c5 (fun h8 => absurd (bI_n.mp c12) (by rw [h8]; decide))), if_neg c20, if_pos c28], bI30] at hq
        exact hq _ ((F1.w rfl).xI 0 _ rfl) rfl (fun _ => L1.fq (Fq.I (S := [0]) _ 0 _ rfl) rfl)
      | rw [show se2 (σ.1 21) (sB N) i f = 0 by rw [se2, if_neg (fun h9 => h9.elim c5 (fun h8 => absurd (bI_n.mp c12) (by rw [h8]; decide))), if_neg c20, if_neg c28], bI00] at hq
        exact hq _ ((F1.w rfl).xI 0 _ rfl) rfl (fun _ => L1.fq (Fq.I (S := [0]) _ 0 _ rfl) rfl)
theorem t_ask1 {g : eg} {h : eh} {t : Nat} {σ : tS} {f : Int32} {Q : Outcome → eh → Prop} (hq : ∀ σ', Fq [0] σ σ' → σ'.1 0 = as1 (σ.1 21) f → Q (.returned (some (.int (bI (as1 (σ.1 21) f = 0))))) (tw t σ' h)) : ew_T g kX2_mayAsk 0 [.ref t, .int f] (tw t σ h) Q :=
  t_mayAsk (hq _ (Fq.I σ 0 _ rfl) rfl)
theorem t_ask2 {g : eg} {h : eh} {t : Nat} {σ : tS} {i f : Int32} {Q : Outcome → eh → Prop} (hq : ∀ σ', Fq [0] σ σ' → σ'.1 0 = as2 (σ.1 21) i f → Q (.returned (some (.int (bI (as2 (σ.1 21) i f = 0))))) (tw t σ' h)) : ew_T g kX2_mayAskFor 0 [.ref t, .int i, .int f] (tw t σ h) Q :=
  t_mayAskFor (hq _ (Fq.I σ 0 _ rfl) rfl)
