/-! EW: the reference: sets to drop -/
set_option maxRecDepth 100000
def uShr (x k : Int32) : Int32 := (x.toUInt32 >>> (k.toUInt32 &&& Int32.toUInt32 31)).toInt32
def bitA (i : Int32) : Int32 := i - (uShr i 1 &&& 1431655765)
def bitB (a : Int32) : Int32 := (a &&& 858993459) + (uShr a 2 &&& 858993459)
def bitD (b : Int32) : Int32 := (b + uShr b 4) &&& 252645135
def bitE (c : Int32) : Int32 := c + uShr c 8
def bitF (c : Int32) : Int32 := c + uShr c 16
def bitC (i : Int32) : Int32 := bitF (bitE (bitD (bitB (bitA i)))) &&& 63
theorem t_bitCount {g : eg} {h : eh} {i : Int32} {Q : Outcome → eh → Prop} (hq : Q (.returned (some (.int (bitC i)))) h) : ew_T g kJ22_bitCount 0 [.int i] h Q := by
  refine ew_enter (by decide +kernel) (ew_a1 rfl ew_az) (Nat.le_of_ble_eq_true rfl) ?_
  refine ew_iload_n (pc := 0) dJ22_bitCount_0 rfl ?_
  refine ew_iload_n (pc := 1) dJ22_bitCount_1 rfl ?_
  refine ew_iconst (pc := 2) (v := 1) dJ22_bitCount_2 rfl ?_
  refine ew_iushr (pc := 3) dJ22_bitCount_3 rfl ?_
  refine ew_ldcw (pc := 4) (v := 1431655765) (ew_q q3142) dJ22_bitCount_4 ?_
  refine ew_iand (pc := 7) dJ22_bitCount_7 ?_
  refine ew_isub (pc := 8) dJ22_bitCount_8 ?_
  refine ew_istore_n (pc := 9) dJ22_bitCount_9 rfl (by decide) (p1_0) ?_
  refine ew_iload_n (pc := 10) dJ22_bitCount_10 rfl ?_
  refine ew_ldcw (pc := 11) (v := 858993459) (ew_q q3143) dJ22_bitCount_11 ?_
  refine ew_iand (pc := 14) dJ22_bitCount_14 ?_
  refine ew_iload_n (pc := 15) dJ22_bitCount_15 rfl ?_
  refine ew_iconst (pc := 16) (v := 2) dJ22_bitCount_16 rfl ?_
  refine ew_iushr (pc := 17) dJ22_bitCount_17 rfl ?_
  refine ew_ldcw (pc := 18) (v := 858993459) (ew_q q3143) dJ22_bitCount_18 ?_
  refine ew_iand (pc := 21) dJ22_bitCount_21 ?_
  refine ew_iadd (pc := 22) dJ22_bitCount_22 ?_
  refine ew_istore_n (pc := 23) dJ22_bitCount_23 rfl (by decide) (p1_0) ?_
  refine ew_iload_n (pc := 24) dJ22_bitCount_24 rfl ?_
  refine ew_iload_n (pc := 25) dJ22_bitCount_25 rfl ?_
  refine ew_iconst (pc := 26) (v := 4) dJ22_bitCount_26 rfl ?_
  refine ew_iushr (pc := 27) dJ22_bitCount_27 rfl ?_
  refine ew_iadd (pc := 28) dJ22_bitCount_28 ?_
  refine ew_ldcw (pc := 29) (v := 252645135) (ew_q q3144) dJ22_bitCount_29 ?_
  refine ew_iand (pc := 32) dJ22_bitCount_32 ?_
  refine ew_istore_n (pc := 33) dJ22_bitCount_33 rfl (by decide) (p1_0) ?_
  refine ew_iload_n (pc := 34) dJ22_bitCount_34 rfl ?_
  refine ew_iload_n (pc := 35) dJ22_bitCount_35 rfl ?_
  refine ew_bipush (pc := 36) (v := 8) dJ22_bitCount_36 rfl ?_
  refine ew_iushr (pc := 38) dJ22_bitCount_38 rfl ?_
  refine ew_iadd (pc := 39) dJ22_bitCount_39 ?_
  refine ew_istore_n (pc := 40) dJ22_bitCount_40 rfl (by decide) (p1_0) ?_
  refine ew_iload_n (pc := 41) dJ22_bitCount_41 rfl ?_
  refine ew_iload_n (pc := 42) dJ22_bitCount_42 rfl ?_
  refine ew_bipush (pc := 43) (v := 16) dJ22_bitCount_43 rfl ?_
  refine ew_iushr (pc := 45) dJ22_bitCount_45 rfl ?_
  refine ew_iadd (pc := 46) dJ22_bitCount_46 ?_
  refine ew_istore_n (pc := 47) dJ22_bitCount_47 rfl (by decide) (p1_0) ?_
  refine ew_iload_n (pc := 48) dJ22_bitCount_48 rfl ?_
  refine ew_bipush (pc := 49) (v := 63) dJ22_bitCount_49 rfl ?_
  refine ew_iand (pc := 51) dJ22_bitCount_51 ?_
  refine ew_iret (pc := 52) rfl dJ22_bitCount_52 ?_
  exact hq
def coV (N : Nat → Int32) (s : Int32) : Nat → Int32
  | 0 => 0
  | w + 1 => coV N s w + (if hasB s (nI w) then N (2 + 6 * w + 4) else 0)
theorem t_costOf {g : eg} {h : eh} {t : Nat} {σ : tS} {N : Nat → Int32} {s : Int32} {Q : Outcome → eh → Prop} (hN : σ.2 16 = N) (ok : okN N) (hq : Q (.returned (some (.int (coV N s (nW N))))) (tw t σ h)) : ew_T g kX2_costOf 2 [.ref t, .int s] (tw t σ h) Q := by
  have hw2 := ok.w2
  have main : ∀ m w, w + m = nW N → ew_G g kX2_costOf 2 4 [.ref t, .int s, .int (coV N s w), .int (nI w)] [] (tw t σ h) Q := by
    intro m
    induction m with
    | zero =>
      intro w hw
      have e9 : w = nW N := by omega
      subst e9
      refine ew_iload_n (pc := 4) dX2_costOf_4 rfl ?_
      refine ew_aload_n (pc := 5) dX2_costOf_5 rfl ?_
      refine ew_cV0 (d' := 0) (pc := 6) vX2_220 (tw_ro _ _ _ _) dX2_costOf_6 (by decide) (ew_rm (Nat.le_of_ble_eq_true rfl)) ?_
      refine t_windowsN hN ok ?_
      refine ew_Kr ?_
      refine ew_icmp_ge (pc := 9) (tgt := 39) dX2_costOf_9 (by decide) (fun c9 => ?_) (fun c9 => absurd (nI_le (Nat.le_refl _) (by omega)) c9)
      refine ew_iload_n (pc := 39) dX2_costOf_39 rfl ?_
      refine ew_iret (pc := 40) rfl dX2_costOf_40 ?_
      exact hq
    | succ m ih =>
      intro w hw
      have ih1 := ih (w + 1) (by omega)
      rw [coV] at ih1
      refine ew_iload_n (pc := 4) dX2_costOf_4 rfl ?_
      refine ew_aload_n (pc := 5) dX2_costOf_5 rfl ?_
      refine ew_cV0 (d' := 0) (pc := 6) vX2_220 (tw_ro _ _ _ _) dX2_costOf_6 (by decide) (ew_rm (Nat.le_of_ble_eq_true rfl)) ?_
      refine t_windowsN hN ok ?_
      refine ew_Kr ?_
      refine ew_icmp_ge (pc := 9) (tgt := 39) dX2_costOf_9 (by decide) (fun c9 => absurd c9 (nI_ge (by omega) (by omega))) (fun c9 => ?_)
      refine ew_iload_n (pc := 12) dX2_costOf_12 rfl ?_
      refine ew_iload_n (pc := 13) dX2_costOf_13 rfl ?_
      refine ew_iload_n (pc := 14) dX2_costOf_14 rfl ?_
      refine ew_cS2 (d' := 0) (pc := 15) sX2_135 dX2_costOf_15 (by decide) (ew_rm (Nat.le_of_ble_eq_true rfl)) ?_
      refine t_hasT ?_
      refine ew_Kr ?_
      refine ew_if_eq (pc := 18) (tgt := 30) dX2_costOf_18 (by decide) (fun c18 => ?_) (fun c18 => ?_)
      · refine ew_iconst (pc := 30) (v := 0) dX2_costOf_30 rfl ?_
        refine ew_iadd (pc := 31) dX2_costOf_31 ?_
        refine ew_istore_n (pc := 32) dX2_costOf_32 rfl (by decide) (p1_2 rfl) ?_
        refine ew_iinc (pc := 33) dX2_costOf_33 rfl (nI_inc w) (by decide) (p1_3 rfl) ?_
        refine ew_goto (pc := 36) (tgt := 4) dX2_costOf_36 (by decide) ?_
        first
        | rw [if_pos (bI_n.mp c18)] at ih1
          exact ih1
        | rw [if_neg (bI_0.mp c18)] at ih1
          exact ih1
      · refine ew_aload_n (pc := 21) dX2_costOf_21 rfl ?_
        refine ew_iload_n (pc := 22) dX2_costOf_22 rfl ?_
        refine ew_iconst (pc := 23) (v := 4) dX2_costOf_23 rfl ?_
        refine ew_cV2 (d' := 1) (pc := 24) vX2_214 (tw_ro _ _ _ _) dX2_costOf_24 (by decide) (ew_rm (Nat.le_of_ble_eq_true rfl)) ?_
        refine t_ofN (i := 4) hN (by omega) (by decide) ?_
        refine ew_Kr ?_
        refine ew_goto (pc := 27) (tgt := 31) dX2_costOf_27 (by decide) ?_
        refine ew_iadd (pc := 31) dX2_costOf_31 ?_
        refine ew_istore_n (pc := 32) dX2_costOf_32 rfl (by decide) (p1_2 rfl) ?_
        refine ew_iinc (pc := 33) dX2_costOf_33 rfl (nI_inc w) (by decide) (p1_3 rfl) ?_
        refine ew_goto (pc := 36) (tgt := 4) dX2_costOf_36 (by decide) ?_
        first
        | rw [if_pos (bI_n.mp c18)] at ih1
          exact ih1
        | rw [if_neg (bI_0.mp c18)] at ih1
          exact ih1
  refine ew_enter (by decide +kernel) (ew_a1 rfl (ew_a1 rfl (ew_an (ew_an ew_az)))) (Nat.le_of_ble_eq_true rfl) ?_
  refine ew_iconst (pc := 0) (v := 0) dX2_costOf_0 rfl ?_
  refine ew_istore_n (pc := 1) dX2_costOf_1 rfl (by decide) (p1_2 rfl) ?_
  refine ew_iconst (pc := 2) (v := 0) dX2_costOf_2 rfl ?_
  refine ew_istore_n (pc := 3) dX2_costOf_3 rfl (by decide) (p1_3 rfl) ?_
  exact main (nW N) 0 (by omega)
/-- a set is dropped rather than another one -/
abbrev chI (N : Nat → Int32) (s u : Int32) : Prop := (¬ coV N s (nW N) = coV N u (nW N) ∧ coV N s (nW N) < coV N u (nW N)) ∨ (coV N s (nW N) = coV N u (nW N) ∧ (bitC s - bitC u < 0 ∨ (bitC s - bitC u = 0 ∧ s < u)))
theorem t_isCheaper {g : eg} {h : eh} {t : Nat} {σ : tS} {N : Nat → Int32} {s u : Int32} {Q : Outcome → eh → Prop} (hN : σ.2 16 = N) (ok : okN N) (hq : Q (.returned (some (.int (bI (chI N s u))))) (tw t σ h)) : ew_T g kX2_isCheaper 3 [.ref t, .int s, .int u] (tw t σ h) Q := by
  refine ew_enter (by decide +kernel) (ew_a1 rfl (ew_a1 rfl (ew_a1 rfl (ew_an ew_az)))) (Nat.le_of_ble_eq_true rfl) ?_
  refine ew_aload_n (pc := 0) dX2_isCheaper_0 rfl ?_
  refine ew_iload_n (pc := 1) dX2_isCheaper_1 rfl ?_
  refine ew_cV1 (d' := 2) (pc := 2) vX2_357 (tw_ro _ _ _ _) dX2_isCheaper_2 (by decide) (ew_rm (Nat.le_of_ble_eq_true rfl)) ?_
  refine t_costOf hN ok ?_
  refine ew_Kr ?_
  refine ew_aload_n (pc := 5) dX2_isCheaper_5 rfl ?_
  refine ew_iload_n (pc := 6) dX2_isCheaper_6 rfl ?_
  refine ew_cV1 (d' := 2) (pc := 7) vX2_357 (tw_ro _ _ _ _) dX2_isCheaper_7 (by decide) (ew_rm (Nat.le_of_ble_eq_true rfl)) ?_
  refine t_costOf hN ok ?_
  refine ew_Kr ?_
  refine ew_icmp_eq (pc := 10) (tgt := 32) dX2_isCheaper_10 (by decide) (fun c10 => ?_) (fun c10 => ?_)
  · refine ew_iload_n (pc := 32) dX2_isCheaper_32 rfl ?_
    refine ew_cS1 (d' := 0) (pc := 33) sX2_360 dX2_isCheaper_33 (by decide) (ew_rm (Nat.le_of_ble_eq_true rfl)) ?_
    refine t_bitCount ?_
    refine ew_Kr ?_
    refine ew_iload_n (pc := 36) dX2_isCheaper_36 rfl ?_
    refine ew_cS1 (d' := 0) (pc := 37) sX2_360 dX2_isCheaper_37 (by decide) (ew_rm (Nat.le_of_ble_eq_true rfl)) ?_
    refine t_bitCount ?_
    refine ew_Kr ?_
    refine ew_isub (pc := 40) dX2_isCheaper_40 ?_
    refine ew_istore_n (pc := 41) dX2_isCheaper_41 rfl (by decide) (p1_3 rfl) ?_
    refine ew_iload_n (pc := 42) dX2_isCheaper_42 rfl ?_
    refine ew_if_lt (pc := 43) (tgt := 55) dX2_isCheaper_43 (by decide) (fun c43 => ?_) (fun c43 => ?_)
    · refine ew_iconst (pc := 55) (v := 1) dX2_isCheaper_55 rfl ?_
      refine ew_goto (pc := 56) (tgt := 60) dX2_isCheaper_56 (by decide) ?_
      refine ew_zret (pc := 60) (ty := .boolean) rfl rfl dX2_isCheaper_60 ?_
      first
      | rw [bI_t (show chI N s u from Or.inl ⟨c10, Int32.not_le.mp c23⟩)] at hq
        exact hq
      | rw [bI_f (show ¬ chI N s u from fun h9 => h9.elim (fun h8 => absurd h8.2 (Int32.not_lt.mpr c23)) (fun h8 => c10 h8.1))] at hq
        exact hq
      | rw [bI_t (show chI N s u from Or.inr ⟨c10, Or.inl c43⟩)] at hq
        exact hq
      | rw [bI_t (show chI N s u from Or.inr ⟨c10, Or.inr ⟨c47, Int32.not_le.mp c52⟩⟩)] at hq
        exact hq
      | rw [bI_f (show ¬ chI N s u from fun h9 => h9.elim (fun h8 => h8.1 c10) (fun h8 => h8.2.elim c43 (fun h7 => absurd h7.2 (Int32.not_lt.mpr c52))))] at hq
        exact hq
      | rw [bI_f (show ¬ chI N s u from fun h9 => h9.elim (fun h8 => h8.1 c10) (fun h8 => h8.2.elim c43 (fun h7 => c47 h7.1)))] at hq
        exact hq
    · refine ew_iload_n (pc := 46) dX2_isCheaper_46 rfl ?_
      refine ew_if_ne (pc := 47) (tgt := 59) dX2_isCheaper_47 (by decide) (fun c47 => ?_) (fun c47 => ?_)
      · refine ew_iconst (pc := 59) (v := 0) dX2_isCheaper_59 rfl ?_
        refine ew_zret (pc := 60) (ty := .boolean) rfl rfl dX2_isCheaper_60 ?_
        first
        | rw [bI_t (show chI N s u from Or.inl ⟨c10, Int32.not_le.mp c23⟩)] at hq
          exact hq
        | rw [bI_f (show ¬ chI N s u from fun h9 => h9.elim (fun h8 => absurd h8.2 (Int32.not_lt.mpr c23)) (fun h8 => c10 h8.1))] at hq
          exact hq
        | rw [bI_t (show chI N s u from Or.inr ⟨c10, Or.inl c43⟩)] at hq
          exact hq
        | rw [bI_t (show chI N s u from Or.inr ⟨c10, Or.inr ⟨c47, Int32.not_le.mp c52⟩⟩)] at hq
          exact hq
        | rw [bI_f (show ¬ chI N s u from fun h9 => h9.elim (fun h8 => h8.1 c10) (fun h8 => h8.2.elim c43 (fun h7 => absurd h7.2 (Int32.not_lt.mpr c52))))] at hq
          exact hq
        | rw [bI_f (show ¬ chI N s u from fun h9 => h9.elim (fun h8 => h8.1 c10) (fun h8 => h8.2.elim c43 (fun h7 => c47 h7.1)))] at hq
          exact hq
      · refine ew_iload_n (pc := 50) dX2_isCheaper_50 rfl ?_
        refine ew_iload_n (pc := 51) dX2_isCheaper_51 rfl ?_
        refine ew_icmp_ge (pc := 52) (tgt := 59) dX2_isCheaper_52 (by decide) (fun c52 => ?_) (fun c52 => ?_)
        · refine ew_iconst (pc := 59) (v := 0) dX2_isCheaper_59 rfl ?_
          refine ew_zret (pc := 60) (ty := .boolean) rfl rfl dX2_isCheaper_60 ?_
          first
          | rw [bI_t (show chI N s u from Or.inl ⟨c10, Int32.not_le.mp c23⟩)] at hq
            exact hq
          | rw [bI_f (show ¬ chI N s u from fun h9 => h9.elim (fun h8 => absurd h8.2 (Int32.not_lt.mpr c23)) (fun h8 => c10 h8.1))] at hq
            exact hq
          | rw [bI_t (show chI N s u from Or.inr ⟨c10, Or.inl c43⟩)] at hq
            exact hq
          | rw [bI_t (show chI N s u from Or.inr ⟨c10, Or.inr ⟨c47, Int32.not_le.mp c52⟩⟩)] at hq
            exact hq
          | rw [bI_f (show ¬ chI N s u from fun h9 => h9.elim (fun h8 => h8.1 c10) (fun h8 => h8.2.elim c43 (fun h7 => absurd h7.2 (Int32.not_lt.mpr c52))))] at hq
            exact hq
          | rw [bI_f (show ¬ chI N s u from fun h9 => h9.elim (fun h8 => h8.1 c10) (fun h8 => h8.2.elim c43 (fun h7 => c47 h7.1)))] at hq
            exact hq
        · refine ew_iconst (pc := 55) (v := 1) dX2_isCheaper_55 rfl ?_
          refine ew_goto (pc := 56) (tgt := 60) dX2_isCheaper_56 (by decide) ?_
          refine ew_zret (pc := 60) (ty := .boolean) rfl rfl dX2_isCheaper_60 ?_
          first
          | rw [bI_t (show chI N s u from Or.inl ⟨c10, Int32.not_le.mp c23⟩)] at hq
            exact hq
          | rw [bI_f (show ¬ chI N s u from fun h9 => h9.elim (fun h8 => absurd h8.2 (Int32.not_lt.mpr c23)) (fun h8 => c10 h8.1))] at hq
            exact hq
          | rw [bI_t (show chI N s u from Or.inr ⟨c10, Or.inl c43⟩)] at hq
            exact hq
          | rw [bI_t (show chI N s u from Or.inr ⟨c10, Or.inr ⟨c47, Int32.not_le.mp c52⟩⟩)] at hq
            exact hq
          | rw [bI_f (show ¬ chI N s u from fun h9 => h9.elim (fun h8 => h8.1 c10) (fun h8 => h8.2.elim c43 (fun h7 => absurd h7.2 (Int32.not_lt.mpr c52))))] at hq
            exact hq
          | rw [bI_f (show ¬ chI N s u from fun h9 => h9.elim (fun h8 => h8.1 c10) (fun h8 => h8.2.elim c43 (fun h7 => c47 h7.1)))] at hq
            exact hq
  · refine ew_aload_n (pc := 13) dX2_isCheaper_13 rfl ?_
    refine ew_iload_n (pc := 14) dX2_isCheaper_14 rfl ?_
    refine ew_cV1 (d' := 2) (pc := 15) vX2_357 (tw_ro _ _ _ _) dX2_isCheaper_15 (by decide) (ew_rm (Nat.le_of_ble_eq_true rfl)) ?_
    refine t_costOf hN ok ?_
    refine ew_Kr ?_
    refine ew_aload_n (pc := 18) dX2_isCheaper_18 rfl ?_
    refine ew_iload_n (pc := 19) dX2_isCheaper_19 rfl ?_
    refine ew_cV1 (d' := 2) (pc := 20) vX2_357 (tw_ro _ _ _ _) dX2_isCheaper_20 (by decide) (ew_rm (Nat.le_of_ble_eq_true rfl)) ?_
    refine t_costOf hN ok ?_
    refine ew_Kr ?_
    refine ew_icmp_ge (pc := 23) (tgt := 30) dX2_isCheaper_23 (by decide) (fun c23 => ?_) (fun c23 => ?_)
    · refine ew_iconst (pc := 30) (v := 0) dX2_isCheaper_30 rfl ?_
      refine ew_zret (pc := 31) (ty := .boolean) rfl rfl dX2_isCheaper_31 ?_
      first
      | rw [bI_t (show chI N s u from Or.inl ⟨c10, Int32.not_le.mp c23⟩)] at hq
        exact hq
      | rw [bI_f (show ¬ chI N s u from fun h9 => h9.elim (fun h8 => absurd h8.2 (Int32.not_lt.mpr c23)) (fun h8 => c10 h8.1))] at hq
        exact hq
      | rw [bI_t (show chI N s u from Or.inr ⟨c10, Or.inl c43⟩)] at hq
        exact hq
      | rw [bI_t (show chI N s u from Or.inr ⟨c10, Or.inr ⟨c47, Int32.not_le.mp c52⟩⟩)] at hq
        exact hq
      | rw [bI_f (show ¬ chI N s u from fun h9 => h9.elim (fun h8 => h8.1 c10) (fun h8 => h8.2.elim c43 (fun h7 => absurd h7.2 (Int32.not_lt.mpr c52))))] at hq
        exact hq
      | rw [bI_f (show ¬ chI N s u from fun h9 => h9.elim (fun h8 => h8.1 c10) (fun h8 => h8.2.elim c43 (fun h7 => c47 h7.1)))] at hq
        exact hq
    · refine ew_iconst (pc := 26) (v := 1) dX2_isCheaper_26 rfl ?_
      refine ew_goto (pc := 27) (tgt := 31) dX2_isCheaper_27 (by decide) ?_
      refine ew_zret (pc := 31) (ty := .boolean) rfl rfl dX2_isCheaper_31 ?_
      first
      | rw [bI_t (show chI N s u from Or.inl ⟨c10, Int32.not_le.mp c23⟩)] at hq
        exact hq
      | rw [bI_f (show ¬ chI N s u from fun h9 => h9.elim (fun h8 => absurd h8.2 (Int32.not_lt.mpr c23)) (fun h8 => c10 h8.1))] at hq
        exact hq
      | rw [bI_t (show chI N s u from Or.inr ⟨c10, Or.inl c43⟩)] at hq
        exact hq
      | rw [bI_t (show chI N s u from Or.inr ⟨c10, Or.inr ⟨c47, Int32.not_le.mp c52⟩⟩)] at hq
        exact hq
      | rw [bI_f (show ¬ chI N s u from fun h9 => h9.elim (fun h8 => h8.1 c10) (fun h8 => h8.2.elim c43 (fun h7 => absurd h7.2 (Int32.not_lt.mpr c52))))] at hq
        exact hq
      | rw [bI_f (show ¬ chI N s u from fun h9 => h9.elim (fun h8 => h8.1 c10) (fun h8 => h8.2.elim c43 (fun h7 => c47 h7.1)))] at hq
        exact hq
def drV (N : Nat → Int32) : Nat → Int32
  | 0 => 0
  | w + 1 => drV N w ||| (if N (2 + 6 * w + 4) = 0 ∨ N (2 + 6 * w + 5) = 1 then 0 else sh (nI w))
theorem t_droppable {g : eg} {h : eh} {t : Nat} {σ : tS} {N : Nat → Int32} {Q : Outcome → eh → Prop} (hN : σ.2 16 = N) (ok : okN N) (hq : Q (.returned (some (.int (drV N (nW N))))) (tw t σ h)) : ew_T g kX2_droppable 3 [.ref t] (tw t σ h) Q := by
  have hw2 := ok.w2
  have main : ∀ m w, w + m = nW N → ew_G g kX2_droppable 3 4 [.ref t, .int (drV N w), .int (nI w)] [] (tw t σ h) Q := by
    intro m
    induction m with
    | zero =>
      intro w hw
      have e9 : w = nW N := by omega
      subst e9
      refine ew_iload_n (pc := 4) dX2_droppable_4 rfl ?_
      refine ew_aload_n (pc := 5) dX2_droppable_5 rfl ?_
      refine ew_cV0 (d' := 0) (pc := 6) vX2_220 (tw_ro _ _ _ _) dX2_droppable_6 (by decide) (ew_rm (Nat.le_of_ble_eq_true rfl)) ?_
      refine t_windowsN hN ok ?_
      refine ew_Kr ?_
      refine ew_icmp_ge (pc := 9) (tgt := 44) dX2_droppable_9 (by decide) (fun c9 => ?_) (fun c9 => absurd (nI_le (Nat.le_refl _) (by omega)) c9)
      refine ew_iload_n (pc := 44) dX2_droppable_44 rfl ?_
      refine ew_iret (pc := 45) rfl dX2_droppable_45 ?_
      exact hq
    | succ m ih =>
      intro w hw
      have ih1 := ih (w + 1) (by omega)
      rw [drV] at ih1
      refine ew_iload_n (pc := 4) dX2_droppable_4 rfl ?_
      refine ew_aload_n (pc := 5) dX2_droppable_5 rfl ?_
      refine ew_cV0 (d' := 0) (pc := 6) vX2_220 (tw_ro _ _ _ _) dX2_droppable_6 (by decide) (ew_rm (Nat.le_of_ble_eq_true rfl)) ?_
      refine t_windowsN hN ok ?_
      refine ew_Kr ?_
      refine ew_icmp_ge (pc := 9) (tgt := 44) dX2_droppable_9 (by decide) (fun c9 => absurd c9 (nI_ge (by omega) (by omega))) (fun c9 => ?_)
      refine ew_iload_n (pc := 12) dX2_droppable_12 rfl ?_
      refine ew_aload_n (pc := 13) dX2_droppable_13 rfl ?_
      refine ew_iload_n (pc := 14) dX2_droppable_14 rfl ?_
      refine ew_cV1 (d' := 2) (pc := 15) vX2_351 (tw_ro _ _ _ _) dX2_droppable_15 (by decide) (ew_rm (Nat.le_of_ble_eq_true rfl)) ?_
      refine t_isFirmN hN (by omega) ?_
      refine ew_Kr ?_
      refine ew_if_ne (pc := 18) (tgt := 29) dX2_droppable_18 (by decide) (fun c18 => ?_) (fun c18 => ?_)
      · refine ew_iconst (pc := 29) (v := 0) dX2_droppable_29 rfl ?_
        refine ew_goto (pc := 30) (tgt := 36) dX2_droppable_30 (by decide) ?_
        refine ew_ior (pc := 36) dX2_droppable_36 ?_
        refine ew_istore_n (pc := 37) dX2_droppable_37 rfl (by decide) (p1_1 rfl) ?_
        refine ew_iinc (pc := 38) dX2_droppable_38 rfl (nI_inc w) (by decide) (p1_2 rfl) ?_
        refine ew_goto (pc := 41) (tgt := 4) dX2_droppable_41 (by decide) ?_
        first
        | rw [if_pos (show N (2 + 6 * w + 4) = 0 ∨ N (2 + 6 * w + 5) = 1 by first | exact Or.inl (bI_n.mp c18) | exact Or.inr (bI_n.mp c26))] at ih1
          exact ih1
        | rw [if_neg (show ¬ (N (2 + 6 * w + 4) = 0 ∨ N (2 + 6 * w + 5) = 1) from fun h9 => h9.elim (bI_0.mp c18) (bI_0.mp c26))] at ih1
          exact ih1
      · refine ew_aload_n (pc := 21) dX2_droppable_21 rfl ?_
        refine ew_iload_n (pc := 22) dX2_droppable_22 rfl ?_
        refine ew_cV1 (d' := 2) (pc := 23) vX2_223 (tw_ro _ _ _ _) dX2_droppable_23 (by decide) (ew_rm (Nat.le_of_ble_eq_true rfl)) ?_
        refine t_isDroppedN hN (by omega) ?_
        refine ew_Kr ?_
        refine ew_if_eq (pc := 26) (tgt := 33) dX2_droppable_26 (by decide) (fun c26 => ?_) (fun c26 => ?_)
        · refine ew_iconst (pc := 33) (v := 1) dX2_droppable_33 rfl ?_
          refine ew_iload_n (pc := 34) dX2_droppable_34 rfl ?_
          refine ew_ishl (pc := 35) dX2_droppable_35 ?_
          refine ew_ior (pc := 36) dX2_droppable_36 ?_
          refine ew_istore_n (pc := 37) dX2_droppable_37 rfl (by decide) (p1_1 rfl) ?_
          refine ew_iinc (pc := 38) dX2_droppable_38 rfl (nI_inc w) (by decide) (p1_2 rfl) ?_
          refine ew_goto (pc := 41) (tgt := 4) dX2_droppable_41 (by decide) ?_
          first
          | rw [if_pos (show N (2 + 6 * w + 4) = 0 ∨ N (2 + 6 * w + 5) = 1 by first | exact Or.inl (bI_n.mp c18) | exact Or.inr (bI_n.mp c26))] at ih1
            exact ih1
          | rw [if_neg (show ¬ (N (2 + 6 * w + 4) = 0 ∨ N (2 + 6 * w + 5) = 1) from fun h9 => h9.elim (bI_0.mp c18) (bI_0.mp c26))] at ih1
            exact ih1
        · refine ew_iconst (pc := 29) (v := 0) dX2_droppable_29 rfl ?_
          refine ew_goto (pc := 30) (tgt := 36) dX2_droppable_30 (by decide) ?_
          refine ew_ior (pc := 36) dX2_droppable_36 ?_
          refine ew_istore_n (pc := 37) dX2_droppable_37 rfl (by decide) (p1_1 rfl) ?_
          refine ew_iinc (pc := 38) dX2_droppable_38 rfl (nI_inc w) (by decide) (p1_2 rfl) ?_
          refine ew_goto (pc := 41) (tgt := 4) dX2_droppable_41 (by decide) ?_
          first
          | rw [if_pos (show N (2 + 6 * w + 4) = 0 ∨ N (2 + 6 * w + 5) = 1 by first | exact Or.inl (bI_n.mp c18) | exact Or.inr (bI_n.mp c26))] at ih1
            exact ih1
          | rw [if_neg (show ¬ (N (2 + 6 * w + 4) = 0 ∨ N (2 + 6 * w + 5) = 1) from fun h9 => h9.elim (bI_0.mp c18) (bI_0.mp c26))] at ih1
            exact ih1
  refine ew_enter (by decide +kernel) (ew_a1 rfl (ew_an (ew_an ew_az))) (Nat.le_of_ble_eq_true rfl) ?_
  refine ew_iconst (pc := 0) (v := 0) dX2_droppable_0 rfl ?_
  refine ew_istore_n (pc := 1) dX2_droppable_1 rfl (by decide) (p1_1 rfl) ?_
  refine ew_iconst (pc := 2) (v := 0) dX2_droppable_2 rfl ?_
  refine ew_istore_n (pc := 3) dX2_droppable_3 rfl (by decide) (p1_2 rfl) ?_
  exact main (nW N) 0 (by omega)
theorem sh_nI : ∀ w : Fin 31, sh (nI w.val) = nI (2 ^ w.val) := by decide
theorem nI_or {a b : Nat} : nI a ||| nI b = nI (a ||| b) := by
  apply Int32.toBitVec_inj.mp
  apply BitVec.eq_of_toNat_eq
  simp only [nI, Int32.toBitVec_or, BitVec.toNat_or]
  show (BitVec.ofNat 32 a).toNat ||| (BitVec.ofNat 32 b).toNat = (BitVec.ofNat 32 (a ||| b)).toNat
  rw [BitVec.toNat_ofNat, BitVec.toNat_ofNat, BitVec.toNat_ofNat, Nat.or_mod_two_pow]
theorem nI_and {a b : Nat} : nI a &&& nI b = nI (a &&& b) := by
  apply Int32.toBitVec_inj.mp
  apply BitVec.eq_of_toNat_eq
  simp only [nI, Int32.toBitVec_and, BitVec.toNat_and]
  show (BitVec.ofNat 32 a).toNat &&& (BitVec.ofNat 32 b).toNat = (BitVec.ofNat 32 (a &&& b)).toNat
  rw [BitVec.toNat_ofNat, BitVec.toNat_ofNat, BitVec.toNat_ofNat, Nat.and_mod_two_pow]
theorem drV_nI (N : Nat → Int32) : ∀ m, m ≤ 24 → ∃ k, k < 2 ^ m ∧ drV N m = nI k
  | 0, _ => ⟨0, by decide, rfl⟩
  | m + 1, hm => by
    obtain ⟨k, hk, he⟩ := drV_nI N m (by omega)
    have h2 : 2 ^ m < 2 ^ (m + 1) := Nat.pow_lt_pow_right (by decide) (by omega)
    rw [drV, he]
    split
    · refine ⟨k, by omega, ?_⟩
      rw [← nI_0, nI_or, Nat.or_zero]
    · refine ⟨k ||| 2 ^ m, Nat.or_lt_two_pow (by omega) h2, ?_⟩
      rw [sh_nI ⟨m, by omega⟩, nI_or]
/-- the sets within can, from one set down: the best of them that is left -/
def ldB (N : Nat → Int32) (s b : Int32) : Int32 := if (b = -1 ∨ chI N s b) ∧ cB (nE N) (eN N s (-1)) = true then s else b
def ldS (N : Nat → Int32) (can : Int32) : Nat → Nat → Int32 → Int32
  | 0, _, b => b
  | r + 1, s, b => if s = 0 then ldB N (nI s) b else ldS N can r ((nI (s - 1) &&& can).toNatClampNeg) (ldB N (nI s) b)
def ldV (N : Nat → Int32) : Int32 := ldS N (drV N (nW N)) (2 ^ 24) (drV N (nW N)).toNatClampNeg (-1)
theorem t_leastDropNow {g : eg} {h : eh} {t : Nat} {σ : tS} {N : Nat → Int32} {Q : Outcome → eh → Prop} (hN : σ.2 16 = N) (ok : okN N)
    (hq : ∀ σ', Fq [23, 24, 25, 26, 27, 28, 29] σ σ' → Q (.returned (some (.int (ldV N)))) (tw t σ' h)) : ew_T g kX2_leastDropNow 5 [.ref t] (tw t σ h) Q := by
  have hw2 := ok.w2
  obtain ⟨kc, hkc, hcan⟩ := drV_nI N (nW N) hw2
  have h24 : 2 ^ nW N ≤ 2 ^ 24 := Nat.pow_le_pow_right (by decide) hw2
  have main : ∀ r s b σ', s < r → s < 2 ^ 24 → Fq [23, 24, 25, 26, 27, 28, 29] σ σ' → TN N (σ'.2 27) → (∀ σ', Fq [23, 24, 25, 26, 27, 28, 29] σ σ' → Q (.returned (some (.int (ldS N (nI kc) r s b)))) (tw t σ' h)) → ew_G g kX2_leastDropNow 5 21 [.ref t, .int (nI kc), .int b, .int (nI s), .int 1] [] (tw t σ' h) Q := by
    intro r
    induction r with
    | zero =>
      intro s b σ' hs hs2 hF hT hq9
      exact absurd hs (Nat.not_lt_zero _)
    | succ r ih =>
      intro s b σ' hs hs2 hF hT hq9
      have hN1 := (hF.a 16 rfl).trans hN
      rw [ldS] at hq9
      have s46 : ∀ b' σ1, Fq [23, 24, 25, 26, 27, 28, 29] σ σ1 → TN N (σ1.2 27) → b' = ldB N (nI s) b → ew_G g kX2_leastDropNow 5 46 [.ref t, .int (nI kc), .int b', .int (nI s), .int 1] [] (tw t σ1 h) Q := by
        intro b' σ1 F1 T1 hb
        rw [hb]
        by_cases h0 : s = 0
        · subst h0
          rw [if_pos rfl] at hq9
          refine ew_iload_n (pc := 46) dX2_leastDropNow_46 rfl ?_
          refine ew_if_le (pc := 47) (tgt := 54) dX2_leastDropNow_47 (by decide) (fun c47 => ?_) (fun c47 => absurd (by decide) c47)
          refine ew_iconst (pc := 54) (v := 0) dX2_leastDropNow_54 rfl ?_
          refine ew_istore (pc := 55) dX2_leastDropNow_55 (by decide) (p1_4 rfl) ?_
          refine ew_iload_n (pc := 57) dX2_leastDropNow_57 rfl ?_
          refine ew_iconst (pc := 58) (v := 1) dX2_leastDropNow_58 rfl ?_
          refine ew_isub (pc := 59) dX2_leastDropNow_59 ?_
          refine ew_iload_n (pc := 60) dX2_leastDropNow_60 rfl ?_
          refine ew_iand (pc := 61) dX2_leastDropNow_61 ?_
          refine ew_istore_n (pc := 62) dX2_leastDropNow_62 rfl (by decide) (p1_3 rfl) ?_
          refine ew_goto (pc := 63) (tgt := 16) dX2_leastDropNow_63 (by decide) ?_
          refine ew_iload (pc := 16) dX2_leastDropNow_16 rfl ?_
          refine ew_if_eq (pc := 18) (tgt := 66) dX2_leastDropNow_18 (by decide) (fun c18 => ?_) (fun c18 => absurd (show (0 : Int32) = (0 : Int32) by decide) c18)
          refine ew_iload_n (pc := 66) dX2_leastDropNow_66 rfl ?_
          refine ew_iret (pc := 67) rfl dX2_leastDropNow_67 ?_
          exact hq9 σ1 F1
        · rw [if_neg h0] at hq9
          have ha : nI s - 1 &&& nI kc = nI ((s - 1) &&& kc) := by
            rw [show (1 : Int32) = nI 1 from rfl, nI_sub (by omega), nI_and]
          have hle : (s - 1) &&& kc ≤ s - 1 := Nat.and_le_left
          have hcl : (nI (s - 1) &&& nI kc).toNatClampNeg = (s - 1) &&& kc := by
            rw [nI_and, nI_clamp (by omega)]
          rw [hcl] at hq9
          refine ew_iload_n (pc := 46) dX2_leastDropNow_46 rfl ?_
          refine ew_if_le (pc := 47) (tgt := 54) dX2_leastDropNow_47 (by decide) (fun c47 => absurd c47 (nI_nle (by omega) (by omega))) (fun c47 => ?_)
          refine ew_iconst (pc := 50) (v := 1) dX2_leastDropNow_50 rfl ?_
          refine ew_goto (pc := 51) (tgt := 55) dX2_leastDropNow_51 (by decide) ?_
          refine ew_istore (pc := 55) dX2_leastDropNow_55 (by decide) (p1_4 rfl) ?_
          refine ew_iload_n (pc := 57) dX2_leastDropNow_57 rfl ?_
          refine ew_iconst (pc := 58) (v := 1) dX2_leastDropNow_58 rfl ?_
          refine ew_isub (pc := 59) dX2_leastDropNow_59 ?_
          refine ew_iload_n (pc := 60) dX2_leastDropNow_60 rfl ?_
          refine ew_iand (pc := 61) dX2_leastDropNow_61 ?_
          rw [ha]
          refine ew_istore_n (pc := 62) dX2_leastDropNow_62 rfl (by decide) (p1_3 rfl) ?_
          refine ew_goto (pc := 63) (tgt := 16) dX2_leastDropNow_63 (by decide) ?_
          refine ew_iload (pc := 16) dX2_leastDropNow_16 rfl ?_
          refine ew_if_eq (pc := 18) (tgt := 66) dX2_leastDropNow_18 (by decide) (fun c18 => absurd c18 (show ¬ ((1 : Int32) = (0 : Int32)) by decide)) (fun c18 => ?_)
          exact ih ((s - 1) &&& kc) _ σ1 (by omega) (by omega) F1 T1 hq9
      refine ew_iload_n (pc := 21) dX2_leastDropNow_21 rfl ?_
      refine ew_iconst (pc := 22) (v := -1) dX2_leastDropNow_22 rfl ?_
      refine ew_icmp_eq (pc := 23) (tgt := 35) dX2_leastDropNow_23 (by decide) (fun c23 => ?_) (fun c23 => ?_)
      · refine ew_aload_n (pc := 35) dX2_leastDropNow_35 rfl ?_
        refine ew_iload_n (pc := 36) dX2_leastDropNow_36 rfl ?_
        refine ew_iconst (pc := 37) (v := -1) dX2_leastDropNow_37 rfl ?_
        refine ew_cV2 (d' := 4) (pc := 38) vX2_257 (tw_ro _ _ _ _) dX2_leastDropNow_38 (by decide) (ew_rm (Nat.le_of_ble_eq_true rfl)) ?_
        refine t_boundsWithout hN1 rfl ok (fun σ1 x F1 S1 B1 => ?_)
        rw [eN_T ok hT] at B1
        have hc := B1.c ok.e2 (eAll_ok ok)
        rw [hc.1]
        refine ew_Kr ?_
        refine ew_if_eq (pc := 41) (tgt := 46) dX2_leastDropNow_41 (by decide) (fun c41 => ?_) (fun c41 => ?_)
        · first
          | refine s46 _ σ1 (hF.u F1 rfl) (by rw [F1.a 27 rfl]; exact hT) ?_
            rw [ldB]
            first
            | rw [if_pos (show (b = -1 ∨ chI N (nI s) b) ∧ cB (nE N) (eN N (nI s) (-1)) = true from ⟨by first | exact Or.inl c23 | exact Or.inr (bI_n.mp c32), bI_n.mp c41⟩)]
            | rw [if_neg (show ¬ ((b = -1 ∨ chI N (nI s) b) ∧ cB (nE N) (eN N (nI s) (-1)) = true) from fun h9 => bI_0.mp c41 h9.2)]
          | refine s46 _ σ' hF hT ?_
            rw [ldB, if_neg (show ¬ ((b = -1 ∨ chI N (nI s) b) ∧ cB (nE N) (eN N (nI s) (-1)) = true) from fun h9 => h9.1.elim c23 (bI_0.mp c32))]
        · refine ew_iload_n (pc := 44) dX2_leastDropNow_44 rfl ?_
          refine ew_istore_n (pc := 45) dX2_leastDropNow_45 rfl (by decide) (p1_2 rfl) ?_
          first
          | refine s46 _ σ1 (hF.u F1 rfl) (by rw [F1.a 27 rfl]; exact hT) ?_
            rw [ldB]
            first
            | rw [if_pos (show (b = -1 ∨ chI N (nI s) b) ∧ cB (nE N) (eN N (nI s) (-1)) = true from ⟨by first | exact Or.inl c23 | exact Or.inr (bI_n.mp c32), bI_n.mp c41⟩)]
            | rw [if_neg (show ¬ ((b = -1 ∨ chI N (nI s) b) ∧ cB (nE N) (eN N (nI s) (-1)) = true) from fun h9 => bI_0.mp c41 h9.2)]
          | refine s46 _ σ' hF hT ?_
            rw [ldB, if_neg (show ¬ ((b = -1 ∨ chI N (nI s) b) ∧ cB (nE N) (eN N (nI s) (-1)) = true) from fun h9 => h9.1.elim c23 (bI_0.mp c32))]
      · refine ew_aload_n (pc := 26) dX2_leastDropNow_26 rfl ?_
        refine ew_iload_n (pc := 27) dX2_leastDropNow_27 rfl ?_
        refine ew_iload_n (pc := 28) dX2_leastDropNow_28 rfl ?_
        refine ew_cV2 (d' := 3) (pc := 29) vX2_368 (tw_ro _ _ _ _) dX2_leastDropNow_29 (by decide) (ew_rm (Nat.le_of_ble_eq_true rfl)) ?_
        refine t_isCheaper hN1 ok ?_
        refine ew_Kr ?_
        refine ew_if_eq (pc := 32) (tgt := 46) dX2_leastDropNow_32 (by decide) (fun c32 => ?_) (fun c32 => ?_)
        · first
          | refine s46 _ σ1 (hF.u F1 rfl) (by rw [F1.a 27 rfl]; exact hT) ?_
            rw [ldB]
            first
            | rw [if_pos (show (b = -1 ∨ chI N (nI s) b) ∧ cB (nE N) (eN N (nI s) (-1)) = true from ⟨by first | exact Or.inl c23 | exact Or.inr (bI_n.mp c32), bI_n.mp c41⟩)]
            | rw [if_neg (show ¬ ((b = -1 ∨ chI N (nI s) b) ∧ cB (nE N) (eN N (nI s) (-1)) = true) from fun h9 => bI_0.mp c41 h9.2)]
          | refine s46 _ σ' hF hT ?_
            rw [ldB, if_neg (show ¬ ((b = -1 ∨ chI N (nI s) b) ∧ cB (nE N) (eN N (nI s) (-1)) = true) from fun h9 => h9.1.elim c23 (bI_0.mp c32))]
        · refine ew_aload_n (pc := 35) dX2_leastDropNow_35 rfl ?_
          refine ew_iload_n (pc := 36) dX2_leastDropNow_36 rfl ?_
          refine ew_iconst (pc := 37) (v := -1) dX2_leastDropNow_37 rfl ?_
          refine ew_cV2 (d' := 4) (pc := 38) vX2_257 (tw_ro _ _ _ _) dX2_leastDropNow_38 (by decide) (ew_rm (Nat.le_of_ble_eq_true rfl)) ?_
          refine t_boundsWithout hN1 rfl ok (fun σ1 x F1 S1 B1 => ?_)
          rw [eN_T ok hT] at B1
          have hc := B1.c ok.e2 (eAll_ok ok)
          rw [hc.1]
          refine ew_Kr ?_
          refine ew_if_eq (pc := 41) (tgt := 46) dX2_leastDropNow_41 (by decide) (fun c41 => ?_) (fun c41 => ?_)
          · first
            | refine s46 _ σ1 (hF.u F1 rfl) (by rw [F1.a 27 rfl]; exact hT) ?_
              rw [ldB]
              first
              | rw [if_pos (show (b = -1 ∨ chI N (nI s) b) ∧ cB (nE N) (eN N (nI s) (-1)) = true from ⟨by first | exact Or.inl c23 | exact Or.inr (bI_n.mp c32), bI_n.mp c41⟩)]
              | rw [if_neg (show ¬ ((b = -1 ∨ chI N (nI s) b) ∧ cB (nE N) (eN N (nI s) (-1)) = true) from fun h9 => bI_0.mp c41 h9.2)]
            | refine s46 _ σ' hF hT ?_
              rw [ldB, if_neg (show ¬ ((b = -1 ∨ chI N (nI s) b) ∧ cB (nE N) (eN N (nI s) (-1)) = true) from fun h9 => h9.1.elim c23 (bI_0.mp c32))]
          · refine ew_iload_n (pc := 44) dX2_leastDropNow_44 rfl ?_
            refine ew_istore_n (pc := 45) dX2_leastDropNow_45 rfl (by decide) (p1_2 rfl) ?_
            first
            | refine s46 _ σ1 (hF.u F1 rfl) (by rw [F1.a 27 rfl]; exact hT) ?_
              rw [ldB]
              first
              | rw [if_pos (show (b = -1 ∨ chI N (nI s) b) ∧ cB (nE N) (eN N (nI s) (-1)) = true from ⟨by first | exact Or.inl c23 | exact Or.inr (bI_n.mp c32), bI_n.mp c41⟩)]
              | rw [if_neg (show ¬ ((b = -1 ∨ chI N (nI s) b) ∧ cB (nE N) (eN N (nI s) (-1)) = true) from fun h9 => bI_0.mp c41 h9.2)]
            | refine s46 _ σ' hF hT ?_
              rw [ldB, if_neg (show ¬ ((b = -1 ∨ chI N (nI s) b) ∧ cB (nE N) (eN N (nI s) (-1)) = true) from fun h9 => h9.1.elim c23 (bI_0.mp c32))]
  refine ew_enter (by decide +kernel) (ew_a1 rfl (ew_an (ew_an (ew_an (ew_an ew_az))))) (Nat.le_of_ble_eq_true rfl) ?_
  refine ew_aload_n (pc := 0) dX2_leastDropNow_0 rfl ?_
  refine ew_cV0 (d' := 0) (pc := 1) vX2_254 (tw_ro _ _ _ _) dX2_leastDropNow_1 (by decide) (ew_rm (Nat.le_of_ble_eq_true rfl)) ?_
  refine t_timesN hN (fun σ1 F1 T1 => ?_)
  refine ew_Kv ?_
  refine ew_aload_n (pc := 4) dX2_leastDropNow_4 rfl ?_
  refine ew_cV0 (d' := 3) (pc := 5) vX2_365 (tw_ro _ _ _ _) dX2_leastDropNow_5 (by decide) (ew_rm (Nat.le_of_ble_eq_true rfl)) ?_
  refine t_droppable ((F1.a 16 rfl).trans hN) ok ?_
  rw [hcan]
  refine ew_Kr ?_
  refine ew_istore_n (pc := 8) dX2_leastDropNow_8 rfl (by decide) (p1_1 rfl) ?_
  refine ew_iconst (pc := 9) (v := -1) dX2_leastDropNow_9 rfl ?_
  refine ew_istore_n (pc := 10) dX2_leastDropNow_10 rfl (by decide) (p1_2 rfl) ?_
  refine ew_iload_n (pc := 11) dX2_leastDropNow_11 rfl ?_
  refine ew_istore_n (pc := 12) dX2_leastDropNow_12 rfl (by decide) (p1_3 rfl) ?_
  refine ew_iconst (pc := 13) (v := 1) dX2_leastDropNow_13 rfl ?_
  refine ew_istore (pc := 14) dX2_leastDropNow_14 (by decide) (p1_4 rfl) ?_
  refine ew_iload (pc := 16) dX2_leastDropNow_16 rfl ?_
  refine ew_if_eq (pc := 18) (tgt := 66) dX2_leastDropNow_18 (by decide) (fun c18 => absurd c18 (show ¬ ((1 : Int32) = (0 : Int32)) by decide)) (fun c18 => ?_)
  refine main (2 ^ 24) kc (-1) σ1 (by omega) (by omega) (F1.w rfl) T1 (fun σ' F' => ?_)
  have h8 := hq σ' F'
  rw [ldV, hcan, nI_clamp (by omega)] at h8
  exact h8
theorem o_leastDrop {g : eg} {h : eh} {t : Nat} {σ : tS} {N : Nat → Int32} {Q : Outcome → eh → Prop} (hJ : TJ σ N)
    (hq : ∀ σ' v, An SC σ (as1 (σ.1 21) 1) (ldV N) σ' v → Q (.returned (some (.int v))) (tw t σ' h)) : ew_T g kX2_leastDrop 6 [.ref t] (tw t σ h) Q := by
  refine ew_enter (by decide +kernel) (ew_a1 rfl ew_az) (Nat.le_of_ble_eq_true rfl) ?_
  refine ew_aload_n (pc := 0) dX2_leastDrop_0 rfl ?_
  refine ew_iconst (pc := 1) (v := 1) dX2_leastDrop_1 rfl ?_
  refine ew_cV1 (d' := 0) (pc := 2) vX2_291 (tw_ro _ _ _ _) dX2_leastDrop_2 (by decide) (ew_rm (Nat.le_of_ble_eq_true rfl)) ?_
  refine t_ask1 (fun σ1 F1 h0 => ?_)
  refine ew_Kr ?_
  refine ew_if_eq (pc := 5) (tgt := 15) dX2_leastDrop_5 (by decide) (fun c5 => ?_) (fun c5 => ?_)
  · refine ew_iconst (pc := 15) (v := 0) dX2_leastDrop_15 rfl ?_
    refine ew_iret (pc := 16) rfl dX2_leastDrop_16 ?_
    first
    | exact hq _ _ ⟨F1.w rfl, h0, fun h9 => absurd h9 (bI_0.mp c5)⟩
    | exact hq _ _ ⟨(F1.w rfl).u F2 rfl, (F2.s 0 rfl).trans h0, fun _ => rfl⟩
  · have hp := as1_0.mp (bI_n.mp c5)
    refine ew_aload_n (pc := 8) dX2_leastDrop_8 rfl ?_
    refine ew_cV0 (d' := 5) (pc := 9) vX2_371 (tw_ro _ _ _ _) dX2_leastDrop_9 (by decide) (ew_rm (Nat.le_of_ble_eq_true rfl)) ?_
    refine t_leastDropNow ((F1.a 16 rfl).trans hJ.n) (hJ.ok hp.1) (fun σ2 F2 => ?_)
    refine ew_Kr ?_
    refine ew_goto (pc := 12) (tgt := 16) dX2_leastDrop_12 (by decide) ?_
    refine ew_iret (pc := 16) rfl dX2_leastDrop_16 ?_
    first
    | exact hq _ _ ⟨F1.w rfl, h0, fun h9 => absurd h9 (bI_0.mp c5)⟩
    | exact hq _ _ ⟨(F1.w rfl).u F2 rfl, (F2.s 0 rfl).trans h0, fun _ => rfl⟩
theorem o_dropCost {g : eg} {h : eh} {t : Nat} {σ : tS} {N : Nat → Int32} {Q : Outcome → eh → Prop} (hJ : TJ σ N)
    (hq : ∀ σ' v, An SC σ (as1 (σ.1 21) 1) (if ldV N = -1 then -1 else coV N (ldV N) (nW N)) σ' v → Q (.returned (some (.int v))) (tw t σ' h)) : ew_T g kX2_dropCost 6 [.ref t] (tw t σ h) Q := by
  refine ew_enter (by decide +kernel) (ew_a1 rfl (ew_an ew_az)) (Nat.le_of_ble_eq_true rfl) ?_
  refine ew_aload_n (pc := 0) dX2_dropCost_0 rfl ?_
  refine ew_iconst (pc := 1) (v := 1) dX2_dropCost_1 rfl ?_
  refine ew_cV1 (d' := 0) (pc := 2) vX2_291 (tw_ro _ _ _ _) dX2_dropCost_2 (by decide) (ew_rm (Nat.le_of_ble_eq_true rfl)) ?_
  refine t_ask1 (fun σ1 F1 h0 => ?_)
  refine ew_Kr ?_
  refine ew_if_ne (pc := 5) (tgt := 10) dX2_dropCost_5 (by decide) (fun c5 => ?_) (fun c5 => ?_)
  · have hp := as1_0.mp (bI_n.mp c5)
    refine ew_aload_n (pc := 10) dX2_dropCost_10 rfl ?_
    refine ew_cV0 (d' := 5) (pc := 11) vX2_371 (tw_ro _ _ _ _) dX2_dropCost_11 (by decide) (ew_rm (Nat.le_of_ble_eq_true rfl)) ?_
    refine t_leastDropNow ((F1.a 16 rfl).trans hJ.n) (hJ.ok hp.1) (fun σ2 F2 => ?_)
    refine ew_Kr ?_
    refine ew_istore_n (pc := 14) dX2_dropCost_14 rfl (by decide) (p1_1 rfl) ?_
    refine ew_iload_n (pc := 15) dX2_dropCost_15 rfl ?_
    refine ew_iconst (pc := 16) (v := -1) dX2_dropCost_16 rfl ?_
    refine ew_icmp_ne (pc := 17) (tgt := 24) dX2_dropCost_17 (by decide) (fun c17 => ?_) (fun c17 => ?_)
    · refine ew_aload_n (pc := 24) dX2_dropCost_24 rfl ?_
      refine ew_iload_n (pc := 25) dX2_dropCost_25 rfl ?_
      refine ew_cV1 (d' := 2) (pc := 26) vX2_357 (tw_ro _ _ _ _) dX2_dropCost_26 (by decide) (ew_rm (Nat.le_of_ble_eq_true rfl)) ?_
      refine t_costOf ((F2.a 16 rfl).trans ((F1.a 16 rfl).trans hJ.n)) (hJ.ok hp.1) ?_
      refine ew_Kr ?_
      refine ew_iret (pc := 29) rfl dX2_dropCost_29 ?_
      first
      | exact hq _ _ ⟨F1.w rfl, h0, fun h9 => absurd h9 (bI_0.mp c5)⟩
      | exact hq _ _ ⟨(F1.w rfl).u F2 rfl, (F2.s 0 rfl).trans h0, fun _ => (if_pos c17).symm⟩
      | exact hq _ _ ⟨(F1.w rfl).u F2 rfl, (F2.s 0 rfl).trans h0, fun _ => (if_neg c17).symm⟩
    · refine ew_iconst (pc := 20) (v := -1) dX2_dropCost_20 rfl ?_
      refine ew_goto (pc := 21) (tgt := 29) dX2_dropCost_21 (by decide) ?_
      refine ew_iret (pc := 29) rfl dX2_dropCost_29 ?_
      first
      | exact hq _ _ ⟨F1.w rfl, h0, fun h9 => absurd h9 (bI_0.mp c5)⟩
      | exact hq _ _ ⟨(F1.w rfl).u F2 rfl, (F2.s 0 rfl).trans h0, fun _ => (if_pos c17).symm⟩
      | exact hq _ _ ⟨(F1.w rfl).u F2 rfl, (F2.s 0 rfl).trans h0, fun _ => (if_neg c17).symm⟩
  · refine ew_iconst (pc := 8) (v := 0) dX2_dropCost_8 rfl ?_
    refine ew_iret (pc := 9) rfl dX2_dropCost_9 ?_
    first
    | exact hq _ _ ⟨F1.w rfl, h0, fun h9 => absurd h9 (bI_0.mp c5)⟩
    | exact hq _ _ ⟨(F1.w rfl).u F2 rfl, (F2.s 0 rfl).trans h0, fun _ => (if_pos c17).symm⟩
    | exact hq _ _ ⟨(F1.w rfl).u F2 rfl, (F2.s 0 rfl).trans h0, fun _ => (if_neg c17).symm⟩
