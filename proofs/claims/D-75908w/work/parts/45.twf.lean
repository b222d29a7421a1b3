/-! EW: the reference: runs -/
set_option maxRecDepth 100000
/-- times agree -/
def AT (f T : Nat → Int32) : Prop := ∀ e, e < 10 → f e = T e
/-- events as they got their times -/
def Ord (σ : tS) (O : List Nat) : Prop := σ.1 39 = nI O.length ∧ ∀ (i e : Nat), O[i]? = some e → σ.2 38 i = nI e
theorem Ord.fq {S : List Nat} {σ σ' : tS} {O : List Nat} (h : Ord σ O) (hF : Fq S σ σ') (h1 : S.contains 38 = false) (h2 : S.contains 39 = false) : Ord σ' O := by
  refine ⟨(hF.s 39 h2).trans h.1, ?_⟩
  rw [hF.a 38 h1]
  exact h.2
def nxT (T F : Nat → Int32) (e : Nat) : Option Nat → Option Nat
  | none => if T e = -1 then some e else none
  | some b => if T e = -1 ∧ earlV F e < earlV F b then some e else some b
def nxV (T F : Nat → Int32) : Nat → Option Nat
  | 0 => none
  | e + 1 => nxT T F e (nxV T F e)
theorem nxV_lt (T F : Nat → Int32) : ∀ n b, nxV T F n = some b → b < n ∧ T b = -1
  | 0, _, h => by cases h
  | n + 1, b, h => by
    rw [nxV] at h
    cases hr : nxV T F n with
    | none =>
      rw [hr, nxT] at h
      by_cases h1 : T n = -1
      · rw [if_pos h1] at h
        injection h with h
        subst h
        exact ⟨by omega, h1⟩
      · rw [if_neg h1] at h; cases h
    | some c =>
      rw [hr, nxT] at h
      have := nxV_lt T F n c hr
      by_cases h1 : T n = -1 ∧ earlV F n < earlV F c
      · rw [if_pos h1] at h
        injection h with h
        subst h
        exact ⟨by omega, h1.1⟩
      · rw [if_neg h1] at h
        injection h with h
        subst h
        exact ⟨by omega, this.2⟩
theorem t_nextEvent {g : eg} {h : eh} {t : Nat} {σ : tS} {N T F : Nat → Int32} {Q : Outcome → eh → Prop} (hN : σ.2 16 = N) (ok : okN N) (hT : AT (σ.2 27) T) (hA : Ag (σ.2 29) F) (hq : Q (.returned (some (.int (oI (nxV T F (nE N)))))) (tw t σ h)) : ew_T g kX2_nextEvent 2 [.ref t] (tw t σ h) Q := by
  have hn2 := ok.e2
  have main : ∀ m e, e + m = nE N → ew_G g kX2_nextEvent 2 4 [.ref t, .int (oI (nxV T F e)), .int (nI e)] [] (tw t σ h) Q := by
    intro m
    induction m with
    | zero =>
      intro e he
      have e9 : e = nE N := by omega
      subst e9
      refine ew_iload_n (pc := 4) dX2_nextEvent_4 rfl ?_
      refine ew_aload_n (pc := 5) dX2_nextEvent_5 rfl ?_
      refine ew_cV0 (d' := 0) (pc := 6) vX2_230 (tw_ro _ _ _ _) dX2_nextEvent_6 (by decide) (ew_rm (Nat.le_of_ble_eq_true rfl)) ?_
      refine t_eventsN hN ok ?_
      refine ew_Kr ?_
      refine ew_icmp_ge (pc := 9) (tgt := 48) dX2_nextEvent_9 (by decide) (fun c9 => ?_) (fun c9 => absurd (nI_le (Nat.le_refl _) (by omega)) c9)
      refine ew_iload_n (pc := 48) dX2_nextEvent_48 rfl ?_
      refine ew_iret (pc := 49) rfl dX2_nextEvent_49 ?_
      exact hq
    | succ m ih =>
      intro e he
      have ih1 := ih (e + 1) (by omega)
      have hTe := hT e (by omega)
      rw [nxV] at ih1
      cases hr : nxV T F e with
      | none =>
        rw [hr, nxT] at ih1
        refine ew_iload_n (pc := 4) dX2_nextEvent_4 rfl ?_
        refine ew_aload_n (pc := 5) dX2_nextEvent_5 rfl ?_
        refine ew_cV0 (d' := 0) (pc := 6) vX2_230 (tw_ro _ _ _ _) dX2_nextEvent_6 (by decide) (ew_rm (Nat.le_of_ble_eq_true rfl)) ?_
        refine t_eventsN hN ok ?_
        refine ew_Kr ?_
        refine ew_icmp_ge (pc := 9) (tgt := 48) dX2_nextEvent_9 (by decide) (fun c9 => absurd c9 (nI_ge (by omega) (by omega))) (fun c9 => ?_)
        refine ew_aload_n (pc := 12) dX2_nextEvent_12 rfl ?_
        refine tg_g27 (pc := 13) rfl dX2_nextEvent_13 ?_
        refine ew_iload_n (pc := 16) dX2_nextEvent_16 rfl ?_
        refine tg_l27 (pc := 17) (j := e) rfl (by omega) dX2_nextEvent_17 ?_
        rw [hTe]
        refine ew_iconst (pc := 18) (v := -1) dX2_nextEvent_18 rfl ?_
        refine ew_icmp_ne (pc := 19) (tgt := 42) dX2_nextEvent_19 (by decide) (fun c19 => ?_) (fun c19 => ?_)
        · refine ew_iinc (pc := 42) dX2_nextEvent_42 rfl (nI_inc e) (by decide) (p1_2 rfl) ?_
          refine ew_goto (pc := 45) (tgt := 4) dX2_nextEvent_45 (by decide) ?_
          first
          | rw [if_pos c19] at ih1
            exact ih1
          | rw [if_neg c19] at ih1
            exact ih1
        · refine ew_iload_n (pc := 22) dX2_nextEvent_22 rfl ?_
          refine ew_iconst (pc := 23) (v := -1) dX2_nextEvent_23 rfl ?_
          refine ew_icmp_eq (pc := 24) (tgt := 40) dX2_nextEvent_24 (by decide) (fun c24 => ?_) (fun c24 => absurd rfl c24)
          refine ew_iload_n (pc := 40) dX2_nextEvent_40 rfl ?_
          refine ew_istore_n (pc := 41) dX2_nextEvent_41 rfl (by decide) (p1_1 rfl) ?_
          refine ew_iinc (pc := 42) dX2_nextEvent_42 rfl (nI_inc e) (by decide) (p1_2 rfl) ?_
          refine ew_goto (pc := 45) (tgt := 4) dX2_nextEvent_45 (by decide) ?_
          first
          | rw [if_pos c19] at ih1
            exact ih1
          | rw [if_neg c19] at ih1
            exact ih1
      | some c =>
        have hc := nxV_lt T F e c hr
        rw [hr, nxT] at ih1
        refine ew_iload_n (pc := 4) dX2_nextEvent_4 rfl ?_
        refine ew_aload_n (pc := 5) dX2_nextEvent_5 rfl ?_
        refine ew_cV0 (d' := 0) (pc := 6) vX2_230 (tw_ro _ _ _ _) dX2_nextEvent_6 (by decide) (ew_rm (Nat.le_of_ble_eq_true rfl)) ?_
        refine t_eventsN hN ok ?_
        refine ew_Kr ?_
        refine ew_icmp_ge (pc := 9) (tgt := 48) dX2_nextEvent_9 (by decide) (fun c9 => absurd c9 (nI_ge (by omega) (by omega))) (fun c9 => ?_)
        refine ew_aload_n (pc := 12) dX2_nextEvent_12 rfl ?_
        refine tg_g27 (pc := 13) rfl dX2_nextEvent_13 ?_
        refine ew_iload_n (pc := 16) dX2_nextEvent_16 rfl ?_
        refine tg_l27 (pc := 17) (j := e) rfl (by omega) dX2_nextEvent_17 ?_
        rw [hTe]
        refine ew_iconst (pc := 18) (v := -1) dX2_nextEvent_18 rfl ?_
        refine ew_icmp_ne (pc := 19) (tgt := 42) dX2_nextEvent_19 (by decide) (fun c19 => ?_) (fun c19 => ?_)
        · refine ew_iinc (pc := 42) dX2_nextEvent_42 rfl (nI_inc e) (by decide) (p1_2 rfl) ?_
          refine ew_goto (pc := 45) (tgt := 4) dX2_nextEvent_45 (by decide) ?_
          first
          | rw [if_pos (show T e = -1 ∧ earlV F e < earlV F c from ⟨c19, Int32.not_le.mp c37⟩)] at ih1
            exact ih1
          | rw [if_neg (show ¬ (T e = -1 ∧ earlV F e < earlV F c) from fun h9 => by first | exact c19 h9.1 | exact absurd h9.2 (Int32.not_lt.mpr c37))] at ih1
            exact ih1
        · refine ew_iload_n (pc := 22) dX2_nextEvent_22 rfl ?_
          refine ew_iconst (pc := 23) (v := -1) dX2_nextEvent_23 rfl ?_
          refine ew_icmp_eq (pc := 24) (tgt := 40) dX2_nextEvent_24 (by decide) (fun c24 => absurd c24 (nI_m1 (n := c) (by omega))) (fun c24 => ?_)
          refine ew_aload_n (pc := 27) dX2_nextEvent_27 rfl ?_
          refine ew_iload_n (pc := 28) dX2_nextEvent_28 rfl ?_
          refine ew_cV1 (d' := 1) (pc := 29) vX2_308 (tw_ro _ _ _ _) dX2_nextEvent_29 (by decide) (ew_rm (Nat.le_of_ble_eq_true rfl)) ?_
          refine t_earliestOf hA (by omega) ?_
          refine ew_Kr ?_
          refine ew_aload_n (pc := 32) dX2_nextEvent_32 rfl ?_
          refine ew_iload_n (pc := 33) dX2_nextEvent_33 rfl ?_
          refine ew_cV1 (d' := 1) (pc := 34) vX2_308 (tw_ro _ _ _ _) dX2_nextEvent_34 (by decide) (ew_rm (Nat.le_of_ble_eq_true rfl)) ?_
          refine t_earliestOf (e := c) hA (by omega) ?_
          refine ew_Kr ?_
          refine ew_icmp_ge (pc := 37) (tgt := 42) dX2_nextEvent_37 (by decide) (fun c37 => ?_) (fun c37 => ?_)
          · refine ew_iinc (pc := 42) dX2_nextEvent_42 rfl (nI_inc e) (by decide) (p1_2 rfl) ?_
            refine ew_goto (pc := 45) (tgt := 4) dX2_nextEvent_45 (by decide) ?_
            first
            | rw [if_pos (show T e = -1 ∧ earlV F e < earlV F c from ⟨c19, Int32.not_le.mp c37⟩)] at ih1
              exact ih1
            | rw [if_neg (show ¬ (T e = -1 ∧ earlV F e < earlV F c) from fun h9 => by first | exact c19 h9.1 | exact absurd h9.2 (Int32.not_lt.mpr c37))] at ih1
              exact ih1
          · refine ew_iload_n (pc := 40) dX2_nextEvent_40 rfl ?_
            refine ew_istore_n (pc := 41) dX2_nextEvent_41 rfl (by decide) (p1_1 rfl) ?_
            refine ew_iinc (pc := 42) dX2_nextEvent_42 rfl (nI_inc e) (by decide) (p1_2 rfl) ?_
            refine ew_goto (pc := 45) (tgt := 4) dX2_nextEvent_45 (by decide) ?_
            first
            | rw [if_pos (show T e = -1 ∧ earlV F e < earlV F c from ⟨c19, Int32.not_le.mp c37⟩)] at ih1
              exact ih1
            | rw [if_neg (show ¬ (T e = -1 ∧ earlV F e < earlV F c) from fun h9 => by first | exact c19 h9.1 | exact absurd h9.2 (Int32.not_lt.mpr c37))] at ih1
              exact ih1
  refine ew_enter (by decide +kernel) (ew_a1 rfl (ew_an (ew_an ew_az))) (Nat.le_of_ble_eq_true rfl) ?_
  refine ew_iconst (pc := 0) (v := -1) dX2_nextEvent_0 rfl ?_
  refine ew_istore_n (pc := 1) dX2_nextEvent_1 rfl (by decide) (p1_1 rfl) ?_
  refine ew_iconst (pc := 2) (v := 0) dX2_nextEvent_2 rfl ?_
  refine ew_istore_n (pc := 3) dX2_nextEvent_3 rfl (by decide) (p1_2 rfl) ?_
  exact main (nE N) 0 (by omega)
def wshV (N F : Nat → Int32) (e : Nat) : Int32 := if latV F e = -1 then jmax (N (166 + e)) (earlV F e) else jmin (jmax (N (166 + e)) (earlV F e)) (latV F e)
theorem t_wishedTime {g : eg} {h : eh} {t e : Nat} {σ : tS} {N F : Nat → Int32} {Q : Outcome → eh → Prop} (hN : σ.2 16 = N) (hA : Ag (σ.2 29) F) (he : e < 10) (hq : Q (.returned (some (.int (wshV N F e)))) (tw t σ h)) : ew_T g kX2_wishedTime 2 [.ref t, .int (nI e)] (tw t σ h) Q := by
  subst hN
  rw [wshV] at hq
  refine ew_enter (by decide +kernel) (ew_a1 rfl (ew_a1 rfl (ew_an ew_az))) (Nat.le_of_ble_eq_true rfl) ?_
  refine ew_aload_n (pc := 0) dX2_wishedTime_0 rfl ?_
  refine tg_g16 (pc := 1) rfl dX2_wishedTime_1 ?_
  refine ew_sipush (pc := 4) (v := 166) dX2_wishedTime_4 rfl ?_
  refine ew_iload_n (pc := 7) dX2_wishedTime_7 rfl ?_
  refine ew_iadd (pc := 8) dX2_wishedTime_8 ?_
  refine tg_l16 (pc := 9) (j := 166 + e) (by rw [show (166 : Int32) = nI 166 from rfl, nI_add]) (by omega) dX2_wishedTime_9 ?_
  refine ew_aload_n (pc := 10) dX2_wishedTime_10 rfl ?_
  refine ew_iload_n (pc := 11) dX2_wishedTime_11 rfl ?_
  refine ew_cV1 (d' := 1) (pc := 12) vX2_308 (tw_ro _ _ _ _) dX2_wishedTime_12 (by decide) (ew_rm (Nat.le_of_ble_eq_true rfl)) ?_
  refine t_earliestOf hA he ?_
  refine ew_Kr ?_
  refine ew_mmax (pc := 15) (ew_q q3082) (ew_q q578) (ew_q q141) (ew_q q579) (ew_rm (Nat.le_of_ble_eq_true rfl)) dX2_wishedTime_15 ?_
  refine ew_istore_n (pc := 18) dX2_wishedTime_18 rfl (by decide) (p1_2 rfl) ?_
  refine ew_aload_n (pc := 19) dX2_wishedTime_19 rfl ?_
  refine ew_iload_n (pc := 20) dX2_wishedTime_20 rfl ?_
  refine ew_cV1 (d' := 1) (pc := 21) vX2_305 (tw_ro _ _ _ _) dX2_wishedTime_21 (by decide) (ew_rm (Nat.le_of_ble_eq_true rfl)) ?_
  refine t_latestOf hA he ?_
  refine ew_Kr ?_
  refine ew_iconst (pc := 24) (v := -1) dX2_wishedTime_24 rfl ?_
  refine ew_icmp_ne (pc := 25) (tgt := 32) dX2_wishedTime_25 (by decide) (fun c25 => ?_) (fun c25 => ?_)
  · refine ew_iload_n (pc := 32) dX2_wishedTime_32 rfl ?_
    refine ew_aload_n (pc := 33) dX2_wishedTime_33 rfl ?_
    refine ew_iload_n (pc := 34) dX2_wishedTime_34 rfl ?_
    refine ew_cV1 (d' := 1) (pc := 35) vX2_305 (tw_ro _ _ _ _) dX2_wishedTime_35 (by decide) (ew_rm (Nat.le_of_ble_eq_true rfl)) ?_
    refine t_latestOf hA he ?_
    refine ew_Kr ?_
    refine ew_mmin (pc := 38) (ew_q q2937) (ew_q q596) (ew_q q141) (ew_q q597) (ew_rm (Nat.le_of_ble_eq_true rfl)) dX2_wishedTime_38 ?_
    refine ew_iret (pc := 41) rfl dX2_wishedTime_41 ?_
    first
    | rw [if_pos c25] at hq
      exact hq
    | rw [if_neg c25] at hq
      exact hq
  · refine ew_iload_n (pc := 28) dX2_wishedTime_28 rfl ?_
    refine ew_goto (pc := 29) (tgt := 41) dX2_wishedTime_29 (by decide) ?_
    refine ew_iret (pc := 41) rfl dX2_wishedTime_41 ?_
    first
    | rw [if_pos c25] at hq
      exact hq
    | rw [if_neg c25] at hq
      exact hq
def tbV (N F : Nat → Int32) (p : Int32) (e : Nat) : Int32 := if p = 3 then wshV N F e else if p = 0 ∨ latV F e = -1 then earlV F e else if p = 1 then latV F e else earlV F e + slackV F e / 2
theorem t_timeBy {g : eg} {h : eh} {t e : Nat} {σ : tS} {N F : Nat → Int32} {p : Int32} {Q : Outcome → eh → Prop} (hN : σ.2 16 = N) (hA : Ag (σ.2 29) F) (he : e < 10) (hq : Q (.returned (some (.int (tbV N F p e)))) (tw t σ h)) : ew_T g kX2_timeBy 3 [.ref t, .int p, .int (nI e)] (tw t σ h) Q := by
  rw [tbV] at hq
  refine ew_enter (by decide +kernel) (ew_a1 rfl (ew_a1 rfl (ew_a1 rfl ew_az))) (Nat.le_of_ble_eq_true rfl) ?_
  refine ew_iload_n (pc := 0) dX2_timeBy_0 rfl ?_
  refine ew_iconst (pc := 1) (v := 3) dX2_timeBy_1 rfl ?_
  refine ew_icmp_ne (pc := 2) (tgt := 11) dX2_timeBy_2 (by decide) (fun c2 => ?_) (fun c2 => ?_)
  · refine ew_iload_n (pc := 11) dX2_timeBy_11 rfl ?_
    refine ew_if_eq (pc := 12) (tgt := 24) dX2_timeBy_12 (by decide) (fun c12 => ?_) (fun c12 => ?_)
    · refine ew_aload_n (pc := 24) dX2_timeBy_24 rfl ?_
      refine ew_iload_n (pc := 25) dX2_timeBy_25 rfl ?_
      refine ew_cV1 (d' := 1) (pc := 26) vX2_308 (tw_ro _ _ _ _) dX2_timeBy_26 (by decide) (ew_rm (Nat.le_of_ble_eq_true rfl)) ?_
      refine t_earliestOf hA he ?_
      refine ew_Kr ?_
      refine ew_iret (pc := 29) rfl dX2_timeBy_29 ?_
      rw [if_neg c2, if_pos (show p = 0 ∨ latV F e = -1 by first | exact Or.inl c12 | exact Or.inr c21)] at hq
      exact hq
    · refine ew_aload_n (pc := 15) dX2_timeBy_15 rfl ?_
      refine ew_iload_n (pc := 16) dX2_timeBy_16 rfl ?_
      refine ew_cV1 (d' := 1) (pc := 17) vX2_305 (tw_ro _ _ _ _) dX2_timeBy_17 (by decide) (ew_rm (Nat.le_of_ble_eq_true rfl)) ?_
      refine t_latestOf hA he ?_
      refine ew_Kr ?_
      refine ew_iconst (pc := 20) (v := -1) dX2_timeBy_20 rfl ?_
      refine ew_icmp_ne (pc := 21) (tgt := 30) dX2_timeBy_21 (by decide) (fun c21 => ?_) (fun c21 => ?_)
      · refine ew_iload_n (pc := 30) dX2_timeBy_30 rfl ?_
        refine ew_iconst (pc := 31) (v := 1) dX2_timeBy_31 rfl ?_
        refine ew_icmp_ne (pc := 32) (tgt := 43) dX2_timeBy_32 (by decide) (fun c32 => ?_) (fun c32 => ?_)
        · refine ew_aload_n (pc := 43) dX2_timeBy_43 rfl ?_
          refine ew_iload_n (pc := 44) dX2_timeBy_44 rfl ?_
          refine ew_cV1 (d' := 1) (pc := 45) vX2_308 (tw_ro _ _ _ _) dX2_timeBy_45 (by decide) (ew_rm (Nat.le_of_ble_eq_true rfl)) ?_
          refine t_earliestOf hA he ?_
          refine ew_Kr ?_
          refine ew_aload_n (pc := 48) dX2_timeBy_48 rfl ?_
          refine ew_iload_n (pc := 49) dX2_timeBy_49 rfl ?_
          refine ew_cV1 (d' := 2) (pc := 50) vX2_323 (tw_ro _ _ _ _) dX2_timeBy_50 (by decide) (ew_rm (Nat.le_of_ble_eq_true rfl)) ?_
          refine t_slackOf hA he ?_
          refine ew_Kr ?_
          refine ew_iconst (pc := 53) (v := 2) dX2_timeBy_53 rfl ?_
          refine ew_idiv (pc := 54) dX2_timeBy_54 (by decide) ?_
          refine ew_iadd (pc := 55) dX2_timeBy_55 ?_
          refine ew_iret (pc := 56) rfl dX2_timeBy_56 ?_
          rw [if_neg c2, if_neg (show ¬ (p = 0 ∨ latV F e = -1) from fun h9 => h9.elim c12 c21)] at hq
          first
          | rw [if_pos c32] at hq
            exact hq
          | rw [if_neg c32] at hq
            exact hq
        · refine ew_aload_n (pc := 35) dX2_timeBy_35 rfl ?_
          refine ew_iload_n (pc := 36) dX2_timeBy_36 rfl ?_
          refine ew_cV1 (d' := 1) (pc := 37) vX2_305 (tw_ro _ _ _ _) dX2_timeBy_37 (by decide) (ew_rm (Nat.le_of_ble_eq_true rfl)) ?_
          refine t_latestOf hA he ?_
          refine ew_Kr ?_
          refine ew_goto (pc := 40) (tgt := 56) dX2_timeBy_40 (by decide) ?_
          refine ew_iret (pc := 56) rfl dX2_timeBy_56 ?_
          rw [if_neg c2, if_neg (show ¬ (p = 0 ∨ latV F e = -1) from fun h9 => h9.elim c12 c21)] at hq
          first
          | rw [if_pos c32] at hq
            exact hq
          | rw [if_neg c32] at hq
            exact hq
      · refine ew_aload_n (pc := 24) dX2_timeBy_24 rfl ?_
        refine ew_iload_n (pc := 25) dX2_timeBy_25 rfl ?_
        refine ew_cV1 (d' := 1) (pc := 26) vX2_308 (tw_ro _ _ _ _) dX2_timeBy_26 (by decide) (ew_rm (Nat.le_of_ble_eq_true rfl)) ?_
        refine t_earliestOf hA he ?_
        refine ew_Kr ?_
        refine ew_iret (pc := 29) rfl dX2_timeBy_29 ?_
        rw [if_neg c2, if_pos (show p = 0 ∨ latV F e = -1 by first | exact Or.inl c12 | exact Or.inr c21)] at hq
        exact hq
  · refine ew_aload_n (pc := 5) dX2_timeBy_5 rfl ?_
    refine ew_iload_n (pc := 6) dX2_timeBy_6 rfl ?_
    refine ew_cV1 (d' := 2) (pc := 7) vX2_374 (tw_ro _ _ _ _) dX2_timeBy_7 (by decide) (ew_rm (Nat.le_of_ble_eq_true rfl)) ?_
    refine t_wishedTime hN hA he ?_
    refine ew_Kr ?_
    refine ew_iret (pc := 10) rfl dX2_timeBy_10 ?_
    rw [if_pos c2] at hq
    exact hq
theorem Ord.push {σ : tS} {O : List Nat} (h : Ord σ O) (e : Nat) (f : Nat → Int32) : Ord (tI (tA (tA σ 27 f) 38 (upd (σ.2 38) O.length (nI e))) 39 (nI (O.length + 1))) (O ++ [e]) := by
  refine ⟨?_, ?_⟩
  · rw [List.length_append]; rfl
  · intro i x hx
    show upd (σ.2 38) O.length (nI e) i = nI x
    by_cases hi : i = O.length
    · subst hi
      rw [List.getElem?_append_right (Nat.le_refl _), Nat.sub_self] at hx
      injection hx with hx
      subst hx
      simp [upd]
    · have hl : i < O.length := by
        have := (List.getElem?_eq_some_iff.mp hx).1
        rw [List.length_append, List.length_singleton] at this
        omega
      rw [List.getElem?_append_left hl] at hx
      rw [upd, if_neg hi]
      exact h.2 i x hx
theorem t_gets {g : eg} {h : eh} {t e : Nat} {σ : tS} {O : List Nat} {T : Nat → Int32} {x : Int32} {Q : Outcome → eh → Prop} (hT : AT (σ.2 27) T) (hO : Ord σ O) (hl : O.length < 10) (he : e < 10) (hq : ∀ σ', Fq [27, 38, 39] σ σ' → AT (σ'.2 27) (upd T e x) → Ord σ' (O ++ [e]) → Q (.returned none) (tw t σ' h)) : ew_T g kX2_gets 0 [.ref t, .int (nI e), .int x] (tw t σ h) Q := by
  have h39 : σ.1 39 + 1 = nI (O.length + 1) := by rw [hO.1]; exact nI_1 _
  refine ew_enter (by decide +kernel) (ew_a1 rfl (ew_a1 rfl (ew_a1 rfl ew_az))) (Nat.le_of_ble_eq_true rfl) ?_
  refine ew_aload_n (pc := 0) dX2_gets_0 rfl ?_
  refine tg_g27 (pc := 1) rfl dX2_gets_1 ?_
  refine ew_iload_n (pc := 4) dX2_gets_4 rfl ?_
  refine ew_iload_n (pc := 5) dX2_gets_5 rfl ?_
  refine tg_s27 (pc := 6) (j := e) rfl he dX2_gets_6 ?_
  refine ew_aload_n (pc := 7) dX2_gets_7 rfl ?_
  refine tg_g38 (pc := 8) rfl dX2_gets_8 ?_
  refine ew_aload_n (pc := 11) dX2_gets_11 rfl ?_
  refine tg_g39 (pc := 12) rfl dX2_gets_12 ?_
  refine ew_iload_n (pc := 15) dX2_gets_15 rfl ?_
  refine tg_s38 (pc := 16) (j := O.length) hO.1 hl dX2_gets_16 ?_
  refine ew_aload_n (pc := 17) dX2_gets_17 rfl ?_
  refine ew_dup (pc := 18) dX2_gets_18 rfl ?_
  refine tg_g39 (pc := 19) rfl dX2_gets_19 ?_
  refine ew_iconst (pc := 22) (v := 1) dX2_gets_22 rfl ?_
  refine ew_iadd (pc := 23) dX2_gets_23 ?_
  refine tg_p39 (pc := 24) rfl dX2_gets_24 ?_
  refine ew_vret (pc := 27) rfl dX2_gets_27 ?_
  refine hq _ ((((Fq.r _ σ).xA 27 _ rfl).xA 38 _ rfl).xI 39 _ rfl) ?_ ?_
  · intro i hi
    show upd (σ.2 27) e x i = upd T e x i
    by_cases h9 : i = e
    · simp [upd, h9]
    · simp [upd, h9, hT i hi]
  · have h8 := hO.push e (upd (σ.2 27) e x)
    rw [← h39] at h8
    exact h8
def rnO (N : Nat → Int32) : Nat → List Nat
  | 0 => []
  | m + 1 => rnO N m ++ (if N (146 + m) = -1 then [] else [m])
def frC (T : Nat → Int32) : Nat → Nat
  | 0 => 0
  | m + 1 => frC T m + (if T m = -1 then 1 else 0)
theorem rnO_len (N : Nat → Int32) : ∀ m, (rnO N m).length + frC (fun e => N (146 + e)) m = m
  | 0 => rfl
  | m + 1 => by
    have := rnO_len N m
    rw [rnO, frC, List.length_append]
    by_cases h : N (146 + m) = -1
    · rw [if_pos h, if_pos h, List.length_nil]; omega
    · rw [if_neg h, if_neg h, List.length_singleton]; omega
theorem frC_upd {T : Nat → Int32} {e : Nat} {x : Int32} (hx : ¬ x = -1) (hT : T e = -1) : ∀ m, frC (upd T e x) m + (if e < m then 1 else 0) = frC T m
  | 0 => by simp [frC]
  | m + 1 => by
    have := frC_upd hx hT m
    rw [frC, frC]
    by_cases h1 : m = e
    · subst h1
      rw [if_neg (Nat.lt_irrefl _)] at this
      rw [show upd T m x m = x by simp [upd], if_neg hx, if_pos hT, if_pos (by omega)]
      omega
    · rw [show upd T e x m = T m by simp [upd, h1]]
      by_cases h2 : e < m
      · rw [if_pos h2] at this; rw [if_pos (show e < m + 1 by omega)]; omega
      · rw [if_neg h2] at this; rw [if_neg (show ¬ e < m + 1 by omega)]; omega
theorem frC_le (T : Nat → Int32) : ∀ m, frC T m ≤ m
  | 0 => Nat.le_refl 0
  | m + 1 => by
    have := frC_le T m
    rw [frC]
    split <;> omega
theorem t_startsRun {g : eg} {h : eh} {t : Nat} {σ : tS} {N : Nat → Int32} {Q : Outcome → eh → Prop} (hN : σ.2 16 = N) (ok : okN N) (hq : ∀ σ', Fq [27, 38, 39] σ σ' → AT (σ'.2 27) (fun e => N (146 + e)) → Ord σ' (rnO N (nE N)) → Q (.returned none) (tw t σ' h)) : ew_T g kX2_startsRun 1 [.ref t] (tw t σ h) Q := by
  have hn2 := ok.e2
  have main : ∀ m e σ', e + m = nE N → Fq [27, 38, 39] σ σ' → AT (σ'.2 27) (fun e => N (146 + e)) → Ord σ' (rnO N e) → ew_G g kX2_startsRun 1 11 [.ref t, .int (nI e)] [] (tw t σ' h) Q := by
    intro m
    induction m with
    | zero =>
      intro e σ' he hF hT hO
      have e9 : e = nE N := by omega
      subst e9
      refine ew_iload_n (pc := 11) dX2_startsRun_11 rfl ?_
      refine ew_aload_n (pc := 12) dX2_startsRun_12 rfl ?_
      refine ew_cV0 (d' := 0) (pc := 13) vX2_230 (tw_ro _ _ _ _) dX2_startsRun_13 (by decide) (ew_rm (Nat.le_of_ble_eq_true rfl)) ?_
      refine t_eventsN ((hF.a 16 rfl).trans hN) ok ?_
      refine ew_Kr ?_
      refine ew_icmp_ge (pc := 16) (tgt := 46) dX2_startsRun_16 (by decide) (fun c16 => ?_) (fun c16 => absurd (nI_le (Nat.le_refl _) (by omega)) c16)
      refine ew_vret (pc := 46) rfl dX2_startsRun_46 ?_
      exact hq σ' hF hT hO
    | succ m ih =>
      intro e σ' he hF hT hO
      have hTe := hT e (by omega)
      have hle := rnO_len N e
      refine ew_iload_n (pc := 11) dX2_startsRun_11 rfl ?_
      refine ew_aload_n (pc := 12) dX2_startsRun_12 rfl ?_
      refine ew_cV0 (d' := 0) (pc := 13) vX2_230 (tw_ro _ _ _ _) dX2_startsRun_13 (by decide) (ew_rm (Nat.le_of_ble_eq_true rfl)) ?_
      refine t_eventsN ((hF.a 16 rfl).trans hN) ok ?_
      refine ew_Kr ?_
      refine ew_icmp_ge (pc := 16) (tgt := 46) dX2_startsRun_16 (by decide) (fun c16 => absurd c16 (nI_ge (by omega) (by omega))) (fun c16 => ?_)
      refine ew_aload_n (pc := 19) dX2_startsRun_19 rfl ?_
      refine tg_g27 (pc := 20) rfl dX2_startsRun_20 ?_
      refine ew_iload_n (pc := 23) dX2_startsRun_23 rfl ?_
      refine tg_l27 (pc := 24) (j := e) rfl (by omega) dX2_startsRun_24 ?_
      refine ew_iconst (pc := 25) (v := -1) dX2_startsRun_25 rfl ?_
      refine ew_icmp_eq (pc := 26) (tgt := 40) dX2_startsRun_26 (by decide) (fun c26 => ?_) (fun c26 => ?_)
      · refine ew_iinc (pc := 40) dX2_startsRun_40 rfl (nI_inc e) (by decide) (p1_1 rfl) ?_
        refine ew_goto (pc := 43) (tgt := 11) dX2_startsRun_43 (by decide) ?_
        rw [hTe] at c26
        first
        | refine ih (e + 1) σ2 (by omega) (hF.t1 F2) ?_ ?_
          · intro i hi
            rw [T2 i hi, hTe]
            by_cases h9 : i = e
            · simp [upd, h9]
            · simp [upd, h9]
          · rw [rnO, if_neg c26]; exact O2
        | refine ih (e + 1) σ' (by omega) hF hT ?_
          rw [rnO, if_pos c26, List.append_nil]
          exact hO
      · refine ew_aload_n (pc := 29) dX2_startsRun_29 rfl ?_
        refine ew_iload_n (pc := 30) dX2_startsRun_30 rfl ?_
        refine ew_aload_n (pc := 31) dX2_startsRun_31 rfl ?_
        refine tg_g27 (pc := 32) rfl dX2_startsRun_32 ?_
        refine ew_iload_n (pc := 35) dX2_startsRun_35 rfl ?_
        refine tg_l27 (pc := 36) (j := e) rfl (by omega) dX2_startsRun_36 ?_
        refine ew_cV2 (d' := 0) (pc := 37) vX2_380 (tw_ro _ _ _ _) dX2_startsRun_37 (by decide) (ew_rm (Nat.le_of_ble_eq_true rfl)) ?_
        refine t_gets hT hO (by omega) (by omega) (fun σ2 F2 T2 O2 => ?_)
        refine ew_Kv ?_
        refine ew_iinc (pc := 40) dX2_startsRun_40 rfl (nI_inc e) (by decide) (p1_1 rfl) ?_
        refine ew_goto (pc := 43) (tgt := 11) dX2_startsRun_43 (by decide) ?_
        rw [hTe] at c26
        first
        | refine ih (e + 1) σ2 (by omega) (hF.t1 F2) ?_ ?_
          · intro i hi
            rw [T2 i hi, hTe]
            by_cases h9 : i = e
            · simp [upd, h9]
            · simp [upd, h9]
          · rw [rnO, if_neg c26]; exact O2
        | refine ih (e + 1) σ' (by omega) hF hT ?_
          rw [rnO, if_pos c26, List.append_nil]
          exact hO
  refine ew_enter (by decide +kernel) (ew_a1 rfl (ew_an ew_az)) (Nat.le_of_ble_eq_true rfl) ?_
  refine ew_aload_n (pc := 0) dX2_startsRun_0 rfl ?_
  refine ew_cV0 (d' := 0) (pc := 1) vX2_254 (tw_ro _ _ _ _) dX2_startsRun_1 (by decide) (ew_rm (Nat.le_of_ble_eq_true rfl)) ?_
  refine t_timesN hN (fun σ1 F1 T1 => ?_)
  refine ew_Kv ?_
  refine ew_aload_n (pc := 4) dX2_startsRun_4 rfl ?_
  refine ew_iconst (pc := 5) (v := 0) dX2_startsRun_5 rfl ?_
  refine tg_p39 (pc := 6) rfl dX2_startsRun_6 ?_
  refine ew_iconst (pc := 9) (v := 0) dX2_startsRun_9 rfl ?_
  refine ew_istore_n (pc := 10) dX2_startsRun_10 rfl (by decide) (p1_1 rfl) ?_
  exact main (nE N) 0 _ (by omega) ((F1.w rfl).xI 39 _ rfl) T1 ⟨rfl, fun i e h9 => nomatch h9⟩
