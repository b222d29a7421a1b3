/-! EW: the reference: most queries -/
set_option maxRecDepth 100000
theorem o_most {g : eg} {h : eh} {t : Nat} {σ : tS} {N : Nat → Int32} {a b : Int32} {Q : Outcome → eh → Prop} (hJ : TJ σ N)
    (hq : ∀ σ' v, An SC σ (se1 (σ.1 21) (sB N) (bI (isIx (nE N) a ∧ isIx (nE N) b))) (mostV (sF N) (ix a) (ix b)) σ' v → Q (.returned (some (.int v))) (tw t σ' h)) : ew_T g kX2_most 7 [.ref t, .int a, .int b] (tw t σ h) Q := by
  refine ew_enter (by decide +kernel) (ew_a1 rfl (ew_a1 rfl (ew_a1 rfl ew_az))) (Nat.le_of_ble_eq_true rfl) ?_
  refine ew_aload_n (pc := 0) dX2_most_0 rfl ?_
  refine ew_aload_n (pc := 1) dX2_most_1 rfl ?_
  refine ew_iload_n (pc := 2) dX2_most_2 rfl ?_
  refine ew_iload_n (pc := 3) dX2_most_3 rfl ?_
  refine ew_cV2 (d' := 2) (pc := 4) vX2_311 (tw_ro _ _ _ _) dX2_most_4 (by decide) (ew_rm (Nat.le_of_ble_eq_true rfl)) ?_
  refine t_areEvents hJ.n hJ.z ?_
  refine ew_Kr ?_
  refine ew_cV1 (d' := 6) (pc := 7) vX2_314 (tw_ro _ _ _ _) dX2_most_7 (by decide) (ew_rm (Nat.le_of_ble_eq_true rfl)) ?_
  refine t_maySee hJ (fun σ1 F1 h0 L1 => ?_)
  refine ew_Kr ?_
  refine ew_if_eq (pc := 10) (tgt := 22) dX2_most_10 (by decide) (fun c10 => ?_) (fun c10 => ?_)
  · refine ew_iconst (pc := 22) (v := 0) dX2_most_22 rfl ?_
    refine ew_iret (pc := 23) rfl dX2_most_23 ?_
    first
    | exact hq _ _ ⟨F1.w rfl, h0, fun h9 => absurd h9 (bI_0.mp c10)⟩
    | exact hq _ _ ⟨F1.w rfl, h0, fun _ => rfl⟩
  · have hp := se1_0.mp (bI_n.mp c10)
    have hi := bI_n.mp hp.2.2
    have hn := (hJ.ok hp.1).e2
    have ha := hi.1.to (by omega)
    have hb := hi.2.to (by omega)
    rw [ha.2, hb.2]
    refine ew_aload_n (pc := 13) dX2_most_13 rfl ?_
    refine ew_iload_n (pc := 14) dX2_most_14 rfl ?_
    refine ew_iload_n (pc := 15) dX2_most_15 rfl ?_
    refine ew_cV2 (d' := 1) (pc := 16) vX2_317 (tw_ro _ _ _ _) dX2_most_16 (by decide) (ew_rm (Nat.le_of_ble_eq_true rfl)) ?_
    refine t_mostOf (L1 hp.1).2.2 (by omega) (by omega) ?_
    refine ew_Kr ?_
    refine ew_goto (pc := 19) (tgt := 23) dX2_most_19 (by decide) ?_
    refine ew_iret (pc := 23) rfl dX2_most_23 ?_
    first
    | exact hq _ _ ⟨F1.w rfl, h0, fun h9 => absurd h9 (bI_0.mp c10)⟩
    | exact hq _ _ ⟨F1.w rfl, h0, fun _ => rfl⟩
theorem o_least {g : eg} {h : eh} {t : Nat} {σ : tS} {N : Nat → Int32} {a b : Int32} {Q : Outcome → eh → Prop} (hJ : TJ σ N)
    (hq : ∀ σ' v, An SC σ (se1 (σ.1 21) (sB N) (bI (isIx (nE N) a ∧ isIx (nE N) b))) (leastV (sF N) (ix a) (ix b)) σ' v → Q (.returned (some (.int v))) (tw t σ' h)) : ew_T g kX2_least 7 [.ref t, .int a, .int b] (tw t σ h) Q := by
  refine ew_enter (by decide +kernel) (ew_a1 rfl (ew_a1 rfl (ew_a1 rfl ew_az))) (Nat.le_of_ble_eq_true rfl) ?_
  refine ew_aload_n (pc := 0) dX2_least_0 rfl ?_
  refine ew_aload_n (pc := 1) dX2_least_1 rfl ?_
  refine ew_iload_n (pc := 2) dX2_least_2 rfl ?_
  refine ew_iload_n (pc := 3) dX2_least_3 rfl ?_
  refine ew_cV2 (d' := 2) (pc := 4) vX2_311 (tw_ro _ _ _ _) dX2_least_4 (by decide) (ew_rm (Nat.le_of_ble_eq_true rfl)) ?_
  refine t_areEvents hJ.n hJ.z ?_
  refine ew_Kr ?_
  refine ew_cV1 (d' := 6) (pc := 7) vX2_314 (tw_ro _ _ _ _) dX2_least_7 (by decide) (ew_rm (Nat.le_of_ble_eq_true rfl)) ?_
  refine t_maySee hJ (fun σ1 F1 h0 L1 => ?_)
  refine ew_Kr ?_
  refine ew_if_eq (pc := 10) (tgt := 22) dX2_least_10 (by decide) (fun c10 => ?_) (fun c10 => ?_)
  · refine ew_iconst (pc := 22) (v := 0) dX2_least_22 rfl ?_
    refine ew_iret (pc := 23) rfl dX2_least_23 ?_
    first
    | exact hq _ _ ⟨F1.w rfl, h0, fun h9 => absurd h9 (bI_0.mp c10)⟩
    | exact hq _ _ ⟨F1.w rfl, h0, fun _ => rfl⟩
  · have hp := se1_0.mp (bI_n.mp c10)
    have hi := bI_n.mp hp.2.2
    have hn := (hJ.ok hp.1).e2
    have ha := hi.1.to (by omega)
    have hb := hi.2.to (by omega)
    rw [ha.2, hb.2]
    refine ew_aload_n (pc := 13) dX2_least_13 rfl ?_
    refine ew_iload_n (pc := 14) dX2_least_14 rfl ?_
    refine ew_iload_n (pc := 15) dX2_least_15 rfl ?_
    refine ew_cV2 (d' := 1) (pc := 16) vX2_320 (tw_ro _ _ _ _) dX2_least_16 (by decide) (ew_rm (Nat.le_of_ble_eq_true rfl)) ?_
    refine t_leastOf (L1 hp.1).2.2 (by omega) (by omega) ?_
    refine ew_Kr ?_
    refine ew_goto (pc := 19) (tgt := 23) dX2_least_19 (by decide) ?_
    refine ew_iret (pc := 23) rfl dX2_least_23 ?_
    first
    | exact hq _ _ ⟨F1.w rfl, h0, fun h9 => absurd h9 (bI_0.mp c10)⟩
    | exact hq _ _ ⟨F1.w rfl, h0, fun _ => rfl⟩
theorem o_mustPrecede {g : eg} {h : eh} {t : Nat} {σ : tS} {N : Nat → Int32} {a b : Int32} {Q : Outcome → eh → Prop} (hJ : TJ σ N)
    (hq : ∀ σ' v, An SC σ (se1 (σ.1 21) (sB N) (bI (isIx (nE N) a ∧ isIx (nE N) b))) (bI (0 ≤ leastV (sF N) (ix a) (ix b))) σ' v → Q (.returned (some (.int v))) (tw t σ' h)) : ew_T g kX2_mustPrecede 7 [.ref t, .int a, .int b] (tw t σ h) Q := by
  refine ew_enter (by decide +kernel) (ew_a1 rfl (ew_a1 rfl (ew_a1 rfl ew_az))) (Nat.le_of_ble_eq_true rfl) ?_
  refine ew_aload_n (pc := 0) dX2_mustPrecede_0 rfl ?_
  refine ew_aload_n (pc := 1) dX2_mustPrecede_1 rfl ?_
  refine ew_iload_n (pc := 2) dX2_mustPrecede_2 rfl ?_
  refine ew_iload_n (pc := 3) dX2_mustPrecede_3 rfl ?_
  refine ew_cV2 (d' := 2) (pc := 4) vX2_311 (tw_ro _ _ _ _) dX2_mustPrecede_4 (by decide) (ew_rm (Nat.le_of_ble_eq_true rfl)) ?_
  refine t_areEvents hJ.n hJ.z ?_
  refine ew_Kr ?_
  refine ew_cV1 (d' := 6) (pc := 7) vX2_314 (tw_ro _ _ _ _) dX2_mustPrecede_7 (by decide) (ew_rm (Nat.le_of_ble_eq_true rfl)) ?_
  refine t_maySee hJ (fun σ1 F1 h0 L1 => ?_)
  refine ew_Kr ?_
  refine ew_if_eq (pc := 10) (tgt := 26) dX2_mustPrecede_10 (by decide) (fun c10 => ?_) (fun c10 => ?_)
  · refine ew_iconst (pc := 26) (v := 0) dX2_mustPrecede_26 rfl ?_
    refine ew_zret (pc := 27) (ty := .boolean) rfl rfl dX2_mustPrecede_27 ?_
    first
    | exact hq _ _ ⟨F1.w rfl, h0, fun h9 => absurd h9 (bI_0.mp c10)⟩
    | exact hq _ _ ⟨F1.w rfl, h0, fun _ => bI_T ((Int32.not_lt.mp c19))⟩
    | exact hq _ _ ⟨F1.w rfl, h0, fun _ => bI_F ((Int32.not_le.mpr c19))⟩
  · have hp := se1_0.mp (bI_n.mp c10)
    have hi := bI_n.mp hp.2.2
    have hn := (hJ.ok hp.1).e2
    have ha := hi.1.to (by omega)
    have hb := hi.2.to (by omega)
    rw [ha.2, hb.2]
    refine ew_aload_n (pc := 13) dX2_mustPrecede_13 rfl ?_
    refine ew_iload_n (pc := 14) dX2_mustPrecede_14 rfl ?_
    refine ew_iload_n (pc := 15) dX2_mustPrecede_15 rfl ?_
    refine ew_cV2 (d' := 1) (pc := 16) vX2_320 (tw_ro _ _ _ _) dX2_mustPrecede_16 (by decide) (ew_rm (Nat.le_of_ble_eq_true rfl)) ?_
    refine t_leastOf (L1 hp.1).2.2 (by omega) (by omega) ?_
    refine ew_Kr ?_
    refine ew_if_lt (pc := 19) (tgt := 26) dX2_mustPrecede_19 (by decide) (fun c19 => ?_) (fun c19 => ?_)
    · refine ew_iconst (pc := 26) (v := 0) dX2_mustPrecede_26 rfl ?_
      refine ew_zret (pc := 27) (ty := .boolean) rfl rfl dX2_mustPrecede_27 ?_
      first
      | exact hq _ _ ⟨F1.w rfl, h0, fun h9 => absurd h9 (bI_0.mp c10)⟩
      | exact hq _ _ ⟨F1.w rfl, h0, fun _ => bI_T ((Int32.not_lt.mp c19))⟩
      | exact hq _ _ ⟨F1.w rfl, h0, fun _ => bI_F ((Int32.not_le.mpr c19))⟩
    · refine ew_iconst (pc := 22) (v := 1) dX2_mustPrecede_22 rfl ?_
      refine ew_goto (pc := 23) (tgt := 27) dX2_mustPrecede_23 (by decide) ?_
      refine ew_zret (pc := 27) (ty := .boolean) rfl rfl dX2_mustPrecede_27 ?_
      first
      | exact hq _ _ ⟨F1.w rfl, h0, fun h9 => absurd h9 (bI_0.mp c10)⟩
      | exact hq _ _ ⟨F1.w rfl, h0, fun _ => bI_T ((Int32.not_lt.mp c19))⟩
      | exact hq _ _ ⟨F1.w rfl, h0, fun _ => bI_F ((Int32.not_le.mpr c19))⟩
theorem o_canMeet {g : eg} {h : eh} {t : Nat} {σ : tS} {N : Nat → Int32} {a b : Int32} {Q : Outcome → eh → Prop} (hJ : TJ σ N)
    (hq : ∀ σ' v, An SC σ (se1 (σ.1 21) (sB N) (bI (isIx (nE N) a ∧ isIx (nE N) b))) (bI (leastV (sF N) (ix a) (ix b) ≤ 0 ∧ 0 ≤ mostV (sF N) (ix a) (ix b))) σ' v → Q (.returned (some (.int v))) (tw t σ' h)) : ew_T g kX2_canMeet 7 [.ref t, .int a, .int b] (tw t σ h) Q := by
  refine ew_enter (by decide +kernel) (ew_a1 rfl (ew_a1 rfl (ew_a1 rfl ew_az))) (Nat.le_of_ble_eq_true rfl) ?_
  refine ew_aload_n (pc := 0) dX2_canMeet_0 rfl ?_
  refine ew_aload_n (pc := 1) dX2_canMeet_1 rfl ?_
  refine ew_iload_n (pc := 2) dX2_canMeet_2 rfl ?_
  refine ew_iload_n (pc := 3) dX2_canMeet_3 rfl ?_
  refine ew_cV2 (d' := 2) (pc := 4) vX2_311 (tw_ro _ _ _ _) dX2_canMeet_4 (by decide) (ew_rm (Nat.le_of_ble_eq_true rfl)) ?_
  refine t_areEvents hJ.n hJ.z ?_
  refine ew_Kr ?_
  refine ew_cV1 (d' := 6) (pc := 7) vX2_314 (tw_ro _ _ _ _) dX2_canMeet_7 (by decide) (ew_rm (Nat.le_of_ble_eq_true rfl)) ?_
  refine t_maySee hJ (fun σ1 F1 h0 L1 => ?_)
  refine ew_Kr ?_
  refine ew_if_eq (pc := 10) (tgt := 35) dX2_canMeet_10 (by decide) (fun c10 => ?_) (fun c10 => ?_)
  · refine ew_iconst (pc := 35) (v := 0) dX2_canMeet_35 rfl ?_
    refine ew_zret (pc := 36) (ty := .boolean) rfl rfl dX2_canMeet_36 ?_
    first
    | exact hq _ _ ⟨F1.w rfl, h0, fun h9 => absurd h9 (bI_0.mp c10)⟩
    | exact hq _ _ ⟨F1.w rfl, h0, fun _ => bI_T (⟨Int32.not_lt.mp c19, Int32.not_lt.mp c28⟩)⟩
    | exact hq _ _ ⟨F1.w rfl, h0, fun _ => bI_F ((fun h9 => absurd h9.2 (Int32.not_le.mpr c28)))⟩
    | exact hq _ _ ⟨F1.w rfl, h0, fun _ => bI_F ((fun h9 => absurd h9.1 (Int32.not_le.mpr c19)))⟩
  · have hp := se1_0.mp (bI_n.mp c10)
    have hi := bI_n.mp hp.2.2
    have hn := (hJ.ok hp.1).e2
    have ha := hi.1.to (by omega)
    have hb := hi.2.to (by omega)
    rw [ha.2, hb.2]
    refine ew_aload_n (pc := 13) dX2_canMeet_13 rfl ?_
    refine ew_iload_n (pc := 14) dX2_canMeet_14 rfl ?_
    refine ew_iload_n (pc := 15) dX2_canMeet_15 rfl ?_
    refine ew_cV2 (d' := 1) (pc := 16) vX2_320 (tw_ro _ _ _ _) dX2_canMeet_16 (by decide) (ew_rm (Nat.le_of_ble_eq_true rfl)) ?_
    refine t_leastOf (L1 hp.1).2.2 (by omega) (by omega) ?_
    refine ew_Kr ?_
    refine ew_if_gt (pc := 19) (tgt := 35) dX2_canMeet_19 (by decide) (fun c19 => ?_) (fun c19 => ?_)
    · refine ew_iconst (pc := 35) (v := 0) dX2_canMeet_35 rfl ?_
      refine ew_zret (pc := 36) (ty := .boolean) rfl rfl dX2_canMeet_36 ?_
      first
      | exact hq _ _ ⟨F1.w rfl, h0, fun h9 => absurd h9 (bI_0.mp c10)⟩
      | exact hq _ _ ⟨F1.w rfl, h0, fun _ => bI_T (⟨Int32.not_lt.mp c19, Int32.not_lt.mp c28⟩)⟩
      | exact hq _ _ ⟨F1.w rfl, h0, fun _ => bI_F ((fun h9 => absurd h9.2 (Int32.not_le.mpr c28)))⟩
      | exact hq _ _ ⟨F1.w rfl, h0, fun _ => bI_F ((fun h9 => absurd h9.1 (Int32.not_le.mpr c19)))⟩
    · refine ew_aload_n (pc := 22) dX2_canMeet_22 rfl ?_
      refine ew_iload_n (pc := 23) dX2_canMeet_23 rfl ?_
      refine ew_iload_n (pc := 24) dX2_canMeet_24 rfl ?_
      refine ew_cV2 (d' := 1) (pc := 25) vX2_317 (tw_ro _ _ _ _) dX2_canMeet_25 (by decide) (ew_rm (Nat.le_of_ble_eq_true rfl)) ?_
      refine t_mostOf (L1 hp.1).2.2 (by omega) (by omega) ?_
      refine ew_Kr ?_
      refine ew_if_lt (pc := 28) (tgt := 35) dX2_canMeet_28 (by decide) (fun c28 => ?_) (fun c28 => ?_)
      · refine ew_iconst (pc := 35) (v := 0) dX2_canMeet_35 rfl ?_
        refine ew_zret (pc := 36) (ty := .boolean) rfl rfl dX2_canMeet_36 ?_
        first
        | exact hq _ _ ⟨F1.w rfl, h0, fun h9 => absurd h9 (bI_0.mp c10)⟩
        | exact hq _ _ ⟨F1.w rfl, h0, fun _ => bI_T (⟨Int32.not_lt.mp c19, Int32.not_lt.mp c28⟩)⟩
        | exact hq _ _ ⟨F1.w rfl, h0, fun _ => bI_F ((fun h9 => absurd h9.2 (Int32.not_le.mpr c28)))⟩
        | exact hq _ _ ⟨F1.w rfl, h0, fun _ => bI_F ((fun h9 => absurd h9.1 (Int32.not_le.mpr c19)))⟩
      · refine ew_iconst (pc := 31) (v := 1) dX2_canMeet_31 rfl ?_
        refine ew_goto (pc := 32) (tgt := 36) dX2_canMeet_32 (by decide) ?_
        refine ew_zret (pc := 36) (ty := .boolean) rfl rfl dX2_canMeet_36 ?_
        first
        | exact hq _ _ ⟨F1.w rfl, h0, fun h9 => absurd h9 (bI_0.mp c10)⟩
        | exact hq _ _ ⟨F1.w rfl, h0, fun _ => bI_T (⟨Int32.not_lt.mp c19, Int32.not_lt.mp c28⟩)⟩
        | exact hq _ _ ⟨F1.w rfl, h0, fun _ => bI_F ((fun h9 => absurd h9.2 (Int32.not_le.mpr c28)))⟩
        | exact hq _ _ ⟨F1.w rfl, h0, fun _ => bI_F ((fun h9 => absurd h9.1 (Int32.not_le.mpr c19)))⟩
theorem o_earliest {g : eg} {h : eh} {t : Nat} {σ : tS} {N : Nat → Int32} {a : Int32} {Q : Outcome → eh → Prop} (hJ : TJ σ N)
    (hq : ∀ σ' v, An SC σ (se1 (σ.1 21) (sB N) (bI (isIx (nE N) a))) (earlV (sF N) (ix a)) σ' v → Q (.returned (some (.int v))) (tw t σ' h)) : ew_T g kX2_earliest 7 [.ref t, .int a] (tw t σ h) Q := by
  refine ew_enter (by decide +kernel) (ew_a1 rfl (ew_a1 rfl ew_az)) (Nat.le_of_ble_eq_true rfl) ?_
  refine ew_aload_n (pc := 0) dX2_earliest_0 rfl ?_
  refine ew_aload_n (pc := 1) dX2_earliest_1 rfl ?_
  refine ew_iload_n (pc := 2) dX2_earliest_2 rfl ?_
  refine ew_cV1 (d' := 1) (pc := 3) vX2_288 (tw_ro _ _ _ _) dX2_earliest_3 (by decide) (ew_rm (Nat.le_of_ble_eq_true rfl)) ?_
  refine t_isEvent hJ.n hJ.z ?_
  refine ew_Kr ?_
  refine ew_cV1 (d' := 6) (pc := 6) vX2_314 (tw_ro _ _ _ _) dX2_earliest_6 (by decide) (ew_rm (Nat.le_of_ble_eq_true rfl)) ?_
  refine t_maySee hJ (fun σ1 F1 h0 L1 => ?_)
  refine ew_Kr ?_
  refine ew_if_eq (pc := 9) (tgt := 20) dX2_earliest_9 (by decide) (fun c9 => ?_) (fun c9 => ?_)
  · refine ew_iconst (pc := 20) (v := 0) dX2_earliest_20 rfl ?_
    refine ew_iret (pc := 21) rfl dX2_earliest_21 ?_
    first
    | exact hq _ _ ⟨F1.w rfl, h0, fun h9 => absurd h9 (bI_0.mp c9)⟩
    | exact hq _ _ ⟨F1.w rfl, h0, fun _ => rfl⟩
  · have hp := se1_0.mp (bI_n.mp c9)
    have hi := bI_n.mp hp.2.2
    have hn := (hJ.ok hp.1).e2
    have ha := hi.to (by omega)
    rw [ha.2]
    refine ew_aload_n (pc := 12) dX2_earliest_12 rfl ?_
    refine ew_iload_n (pc := 13) dX2_earliest_13 rfl ?_
    refine ew_cV1 (d' := 1) (pc := 14) vX2_308 (tw_ro _ _ _ _) dX2_earliest_14 (by decide) (ew_rm (Nat.le_of_ble_eq_true rfl)) ?_
    refine t_earliestOf (L1 hp.1).2.2 (by omega) ?_
    refine ew_Kr ?_
    refine ew_goto (pc := 17) (tgt := 21) dX2_earliest_17 (by decide) ?_
    refine ew_iret (pc := 21) rfl dX2_earliest_21 ?_
    first
    | exact hq _ _ ⟨F1.w rfl, h0, fun h9 => absurd h9 (bI_0.mp c9)⟩
    | exact hq _ _ ⟨F1.w rfl, h0, fun _ => rfl⟩
theorem o_latest {g : eg} {h : eh} {t : Nat} {σ : tS} {N : Nat → Int32} {a : Int32} {Q : Outcome → eh → Prop} (hJ : TJ σ N)
    (hq : ∀ σ' v, An SC σ (se1 (σ.1 21) (sB N) (bI (isIx (nE N) a))) (latV (sF N) (ix a)) σ' v → Q (.returned (some (.int v))) (tw t σ' h)) : ew_T g kX2_latest 7 [.ref t, .int a] (tw t σ h) Q := by
  refine ew_enter (by decide +kernel) (ew_a1 rfl (ew_a1 rfl ew_az)) (Nat.le_of_ble_eq_true rfl) ?_
  refine ew_aload_n (pc := 0) dX2_latest_0 rfl ?_
  refine ew_aload_n (pc := 1) dX2_latest_1 rfl ?_
  refine ew_iload_n (pc := 2) dX2_latest_2 rfl ?_
  refine ew_cV1 (d' := 1) (pc := 3) vX2_288 (tw_ro _ _ _ _) dX2_latest_3 (by decide) (ew_rm (Nat.le_of_ble_eq_true rfl)) ?_
  refine t_isEvent hJ.n hJ.z ?_
  refine ew_Kr ?_
  refine ew_cV1 (d' := 6) (pc := 6) vX2_314 (tw_ro _ _ _ _) dX2_latest_6 (by decide) (ew_rm (Nat.le_of_ble_eq_true rfl)) ?_
  refine t_maySee hJ (fun σ1 F1 h0 L1 => ?_)
  refine ew_Kr ?_
  refine ew_if_eq (pc := 9) (tgt := 20) dX2_latest_9 (by decide) (fun c9 => ?_) (fun c9 => ?_)
  · refine ew_iconst (pc := 20) (v := 0) dX2_latest_20 rfl ?_
    refine ew_iret (pc := 21) rfl dX2_latest_21 ?_
    first
    | exact hq _ _ ⟨F1.w rfl, h0, fun h9 => absurd h9 (bI_0.mp c9)⟩
    | exact hq _ _ ⟨F1.w rfl, h0, fun _ => rfl⟩
  · have hp := se1_0.mp (bI_n.mp c9)
    have hi := bI_n.mp hp.2.2
    have hn := (hJ.ok hp.1).e2
    have ha := hi.to (by omega)
    rw [ha.2]
    refine ew_aload_n (pc := 12) dX2_latest_12 rfl ?_
    refine ew_iload_n (pc := 13) dX2_latest_13 rfl ?_
    refine ew_cV1 (d' := 1) (pc := 14) vX2_305 (tw_ro _ _ _ _) dX2_latest_14 (by decide) (ew_rm (Nat.le_of_ble_eq_true rfl)) ?_
    refine t_latestOf (L1 hp.1).2.2 (by omega) ?_
    refine ew_Kr ?_
    refine ew_goto (pc := 17) (tgt := 21) dX2_latest_17 (by decide) ?_
    refine ew_iret (pc := 21) rfl dX2_latest_21 ?_
    first
    | exact hq _ _ ⟨F1.w rfl, h0, fun h9 => absurd h9 (bI_0.mp c9)⟩
    | exact hq _ _ ⟨F1.w rfl, h0, fun _ => rfl⟩
theorem o_slack {g : eg} {h : eh} {t : Nat} {σ : tS} {N : Nat → Int32} {a : Int32} {Q : Outcome → eh → Prop} (hJ : TJ σ N)
    (hq : ∀ σ' v, An SC σ (se1 (σ.1 21) (sB N) (bI (isIx (nE N) a))) (slackV (sF N) (ix a)) σ' v → Q (.returned (some (.int v))) (tw t σ' h)) : ew_T g kX2_slack 7 [.ref t, .int a] (tw t σ h) Q := by
  refine ew_enter (by decide +kernel) (ew_a1 rfl (ew_a1 rfl ew_az)) (Nat.le_of_ble_eq_true rfl) ?_
  refine ew_aload_n (pc := 0) dX2_slack_0 rfl ?_
  refine ew_aload_n (pc := 1) dX2_slack_1 rfl ?_
  refine ew_iload_n (pc := 2) dX2_slack_2 rfl ?_
  refine ew_cV1 (d' := 1) (pc := 3) vX2_288 (tw_ro _ _ _ _) dX2_slack_3 (by decide) (ew_rm (Nat.le_of_ble_eq_true rfl)) ?_
  refine t_isEvent hJ.n hJ.z ?_
  refine ew_Kr ?_
  refine ew_cV1 (d' := 6) (pc := 6) vX2_314 (tw_ro _ _ _ _) dX2_slack_6 (by decide) (ew_rm (Nat.le_of_ble_eq_true rfl)) ?_
  refine t_maySee hJ (fun σ1 F1 h0 L1 => ?_)
  refine ew_Kr ?_
  refine ew_if_eq (pc := 9) (tgt := 20) dX2_slack_9 (by decide) (fun c9 => ?_) (fun c9 => ?_)
  · refine ew_iconst (pc := 20) (v := 0) dX2_slack_20 rfl ?_
    refine ew_iret (pc := 21) rfl dX2_slack_21 ?_
    first
    | exact hq _ _ ⟨F1.w rfl, h0, fun h9 => absurd h9 (bI_0.mp c9)⟩
    | exact hq _ _ ⟨F1.w rfl, h0, fun _ => rfl⟩
  · have hp := se1_0.mp (bI_n.mp c9)
    have hi := bI_n.mp hp.2.2
    have hn := (hJ.ok hp.1).e2
    have ha := hi.to (by omega)
    rw [ha.2]
    refine ew_aload_n (pc := 12) dX2_slack_12 rfl ?_
    refine ew_iload_n (pc := 13) dX2_slack_13 rfl ?_
    refine ew_cV1 (d' := 2) (pc := 14) vX2_323 (tw_ro _ _ _ _) dX2_slack_14 (by decide) (ew_rm (Nat.le_of_ble_eq_true rfl)) ?_
    refine t_slackOf (L1 hp.1).2.2 (by omega) ?_
    refine ew_Kr ?_
    refine ew_goto (pc := 17) (tgt := 21) dX2_slack_17 (by decide) ?_
    refine ew_iret (pc := 21) rfl dX2_slack_21 ?_
    first
    | exact hq _ _ ⟨F1.w rfl, h0, fun h9 => absurd h9 (bI_0.mp c9)⟩
    | exact hq _ _ ⟨F1.w rfl, h0, fun _ => rfl⟩
theorem o_fixedAt {g : eg} {h : eh} {t : Nat} {σ : tS} {N : Nat → Int32} {a : Int32} {Q : Outcome → eh → Prop} (hJ : TJ σ N)
    (hq : ∀ σ' v, An SC σ (as1 (σ.1 21) (bI (isIx (nE N) a))) (N (146 + ix a)) σ' v → Q (.returned (some (.int v))) (tw t σ' h)) : ew_T g kX2_fixedAt 2 [.ref t, .int a] (tw t σ h) Q := by
  refine ew_enter (by decide +kernel) (ew_a1 rfl (ew_a1 rfl ew_az)) (Nat.le_of_ble_eq_true rfl) ?_
  refine ew_aload_n (pc := 0) dX2_fixedAt_0 rfl ?_
  refine ew_aload_n (pc := 1) dX2_fixedAt_1 rfl ?_
  refine ew_iload_n (pc := 2) dX2_fixedAt_2 rfl ?_
  refine ew_cV1 (d' := 1) (pc := 3) vX2_288 (tw_ro _ _ _ _) dX2_fixedAt_3 (by decide) (ew_rm (Nat.le_of_ble_eq_true rfl)) ?_
  refine t_isEvent hJ.n hJ.z ?_
  refine ew_Kr ?_
  refine ew_cV1 (d' := 0) (pc := 6) vX2_291 (tw_ro _ _ _ _) dX2_fixedAt_6 (by decide) (ew_rm (Nat.le_of_ble_eq_true rfl)) ?_
  refine t_ask1 (fun σ1 F1 h0 => ?_)
  refine ew_Kr ?_
  refine ew_if_eq (pc := 9) (tgt := 25) dX2_fixedAt_9 (by decide) (fun c9 => ?_) (fun c9 => ?_)
  · refine ew_iconst (pc := 25) (v := 0) dX2_fixedAt_25 rfl ?_
    refine ew_iret (pc := 26) rfl dX2_fixedAt_26 ?_
    first
    | exact hq _ _ ⟨F1.w rfl, h0, fun h9 => absurd h9 (bI_0.mp c9)⟩
    | exact hq _ _ ⟨F1.w rfl, h0, fun _ => congrFun ((F1.a 16 rfl).trans hJ.n) _⟩
  · have hp := as1_0.mp (bI_n.mp c9)
    have hi := bI_n.mp hp.2
    have hn := (hJ.ok hp.1).e2
    have ha := hi.to (by omega)
    rw [ha.2]
    refine ew_aload_n (pc := 12) dX2_fixedAt_12 rfl ?_
    refine tg_g16 (pc := 13) rfl dX2_fixedAt_13 ?_
    refine ew_sipush (pc := 16) (v := 146) dX2_fixedAt_16 rfl ?_
    refine ew_iload_n (pc := 19) dX2_fixedAt_19 rfl ?_
    refine ew_iadd (pc := 20) dX2_fixedAt_20 ?_
    refine tg_l16 (pc := 21) (j := 146 + ix a) (by rw [show (146 : Int32) = nI 146 from rfl, nI_add]) (by omega) dX2_fixedAt_21 ?_
    refine ew_goto (pc := 22) (tgt := 26) dX2_fixedAt_22 (by decide) ?_
    refine ew_iret (pc := 26) rfl dX2_fixedAt_26 ?_
    first
    | exact hq _ _ ⟨F1.w rfl, h0, fun h9 => absurd h9 (bI_0.mp c9)⟩
    | exact hq _ _ ⟨F1.w rfl, h0, fun _ => congrFun ((F1.a 16 rfl).trans hJ.n) _⟩
theorem o_delay {g : eg} {h : eh} {t : Nat} {σ : tS} {N : Nat → Int32} {a : Int32} {Q : Outcome → eh → Prop} (hJ : TJ σ N)
    (hq : ∀ σ' v, An SC σ (as1 (σ.1 21) (bI (isIx (nE N) a))) (N (156 + ix a)) σ' v → Q (.returned (some (.int v))) (tw t σ' h)) : ew_T g kX2_delay 2 [.ref t, .int a] (tw t σ h) Q := by
  refine ew_enter (by decide +kernel) (ew_a1 rfl (ew_a1 rfl ew_az)) (Nat.le_of_ble_eq_true rfl) ?_
  refine ew_aload_n (pc := 0) dX2_delay_0 rfl ?_
  refine ew_aload_n (pc := 1) dX2_delay_1 rfl ?_
  refine ew_iload_n (pc := 2) dX2_delay_2 rfl ?_
  refine ew_cV1 (d' := 1) (pc := 3) vX2_288 (tw_ro _ _ _ _) dX2_delay_3 (by decide) (ew_rm (Nat.le_of_ble_eq_true rfl)) ?_
  refine t_isEvent hJ.n hJ.z ?_
  refine ew_Kr ?_
  refine ew_cV1 (d' := 0) (pc := 6) vX2_291 (tw_ro _ _ _ _) dX2_delay_6 (by decide) (ew_rm (Nat.le_of_ble_eq_true rfl)) ?_
  refine t_ask1 (fun σ1 F1 h0 => ?_)
  refine ew_Kr ?_
  refine ew_if_eq (pc := 9) (tgt := 25) dX2_delay_9 (by decide) (fun c9 => ?_) (fun c9 => ?_)
  · refine ew_iconst (pc := 25) (v := 0) dX2_delay_25 rfl ?_
    refine ew_iret (pc := 26) rfl dX2_delay_26 ?_
    first
    | exact hq _ _ ⟨F1.w rfl, h0, fun h9 => absurd h9 (bI_0.mp c9)⟩
    | exact hq _ _ ⟨F1.w rfl, h0, fun _ => congrFun ((F1.a 16 rfl).trans hJ.n) _⟩
  · have hp := as1_0.mp (bI_n.mp c9)
    have hi := bI_n.mp hp.2
    have hn := (hJ.ok hp.1).e2
    have ha := hi.to (by omega)
    rw [ha.2]
    refine ew_aload_n (pc := 12) dX2_delay_12 rfl ?_
    refine tg_g16 (pc := 13) rfl dX2_delay_13 ?_
    refine ew_sipush (pc := 16) (v := 156) dX2_delay_16 rfl ?_
    refine ew_iload_n (pc := 19) dX2_delay_19 rfl ?_
    refine ew_iadd (pc := 20) dX2_delay_20 ?_
    refine tg_l16 (pc := 21) (j := 156 + ix a) (by rw [show (156 : Int32) = nI 156 from rfl, nI_add]) (by omega) dX2_delay_21 ?_
    refine ew_goto (pc := 22) (tgt := 26) dX2_delay_22 (by decide) ?_
    refine ew_iret (pc := 26) rfl dX2_delay_26 ?_
    first
    | exact hq _ _ ⟨F1.w rfl, h0, fun h9 => absurd h9 (bI_0.mp c9)⟩
    | exact hq _ _ ⟨F1.w rfl, h0, fun _ => congrFun ((F1.a 16 rfl).trans hJ.n) _⟩
theorem o_wish {g : eg} {h : eh} {t : Nat} {σ : tS} {N : Nat → Int32} {a : Int32} {Q : Outcome → eh → Prop} (hJ : TJ σ N)
    (hq : ∀ σ' v, An SC σ (as1 (σ.1 21) (bI (isIx (nE N) a))) (N (166 + ix a)) σ' v → Q (.returned (some (.int v))) (tw t σ' h)) : ew_T g kX2_wish 2 [.ref t, .int a] (tw t σ h) Q := by
  refine ew_enter (by decide +kernel) (ew_a1 rfl (ew_a1 rfl ew_az)) (Nat.le_of_ble_eq_true rfl) ?_
  refine ew_aload_n (pc := 0) dX2_wish_0 rfl ?_
  refine ew_aload_n (pc := 1) dX2_wish_1 rfl ?_
  refine ew_iload_n (pc := 2) dX2_wish_2 rfl ?_
  refine ew_cV1 (d' := 1) (pc := 3) vX2_288 (tw_ro _ _ _ _) dX2_wish_3 (by decide) (ew_rm (Nat.le_of_ble_eq_true rfl)) ?_
  refine t_isEvent hJ.n hJ.z ?_
  refine ew_Kr ?_
  refine ew_cV1 (d' := 0) (pc := 6) vX2_291 (tw_ro _ _ _ _) dX2_wish_6 (by decide) (ew_rm (Nat.le_of_ble_eq_true rfl)) ?_
  refine t_ask1 (fun σ1 F1 h0 => ?_)
  refine ew_Kr ?_
  refine ew_if_eq (pc := 9) (tgt := 25) dX2_wish_9 (by decide) (fun c9 => ?_) (fun c9 => ?_)
  · refine ew_iconst (pc := 25) (v := 0) dX2_wish_25 rfl ?_
    refine ew_iret (pc := 26) rfl dX2_wish_26 ?_
    first
    | exact hq _ _ ⟨F1.w rfl, h0, fun h9 => absurd h9 (bI_0.mp c9)⟩
    | exact hq _ _ ⟨F1.w rfl, h0, fun _ => congrFun ((F1.a 16 rfl).trans hJ.n) _⟩
  · have hp := as1_0.mp (bI_n.mp c9)
    have hi := bI_n.mp hp.2
    have hn := (hJ.ok hp.1).e2
    have ha := hi.to (by omega)
    rw [ha.2]
    refine ew_aload_n (pc := 12) dX2_wish_12 rfl ?_
    refine tg_g16 (pc := 13) rfl dX2_wish_13 ?_
    refine ew_sipush (pc := 16) (v := 166) dX2_wish_16 rfl ?_
    refine ew_iload_n (pc := 19) dX2_wish_19 rfl ?_
    refine ew_iadd (pc := 20) dX2_wish_20 ?_
    refine tg_l16 (pc := 21) (j := 166 + ix a) (by rw [show (166 : Int32) = nI 166 from rfl, nI_add]) (by omega) dX2_wish_21 ?_
    refine ew_goto (pc := 22) (tgt := 26) dX2_wish_22 (by decide) ?_
    refine ew_iret (pc := 26) rfl dX2_wish_26 ?_
    first
    | exact hq _ _ ⟨F1.w rfl, h0, fun h9 => absurd h9 (bI_0.mp c9)⟩
    | exact hq _ _ ⟨F1.w rfl, h0, fun _ => congrFun ((F1.a 16 rfl).trans hJ.n) _⟩
theorem t_given {g : eg} {h : eh} {t : Nat} {σ : tS} {v : Int32} {Q : Outcome → eh → Prop} (hq : Q (.returned (some (.int (if σ.1 21 = 0 then 0 else v)))) (tw t (tI σ 0 0) h)) : ew_T g kX2_given 0 [.ref t, .int v] (tw t σ h) Q := by
  refine ew_enter (by decide +kernel) (ew_a1 rfl (ew_a1 rfl ew_az)) (Nat.le_of_ble_eq_true rfl) ?_
  refine ew_aload_n (pc := 0) dX2_given_0 rfl ?_
  refine ew_iconst (pc := 1) (v := 0) dX2_given_1 rfl ?_
  refine tg_p0 (pc := 2) rfl dX2_given_2 ?_
  refine ew_aload_n (pc := 5) dX2_given_5 rfl ?_
  refine tg_g21 (pc := 6) rfl dX2_given_6 ?_
  refine ew_if_eq (pc := 9) (tgt := 16) dX2_given_9 (by decide) (fun c9 => ?_) (fun c9 => ?_)
  · refine ew_iconst (pc := 16) (v := 0) dX2_given_16 rfl ?_
    refine ew_iret (pc := 17) rfl dX2_given_17 ?_
    first
    | rw [if_pos (show σ.1 21 = 0 from c9)] at hq
      exact hq
    | rw [if_neg (show ¬ σ.1 21 = 0 from c9)] at hq
      exact hq
  · refine ew_iload_n (pc := 12) dX2_given_12 rfl ?_
    refine ew_goto (pc := 13) (tgt := 17) dX2_given_13 (by decide) ?_
    refine ew_iret (pc := 17) rfl dX2_given_17 ?_
    first
    | rw [if_pos (show σ.1 21 = 0 from c9)] at hq
      exact hq
    | rw [if_neg (show ¬ σ.1 21 = 0 from c9)] at hq
      exact hq
theorem o_events {g : eg} {h : eh} {t : Nat} {σ : tS} {N : Nat → Int32} {Q : Outcome → eh → Prop} (hJ : TJ σ N)
    (hq : ∀ σ', Fq [0] σ σ' → σ'.1 0 = 0 → Q (.returned (some (.int (nI (nE N))))) (tw t σ' h)) : ew_T g kX2_events 1 [.ref t] (tw t σ h) Q := by
  have hk := hJ
  obtain ⟨h1, h2, h3⟩ := hk
  subst h1
  refine ew_enter (by decide +kernel) (ew_a1 rfl ew_az) (Nat.le_of_ble_eq_true rfl) ?_
  refine ew_aload_n (pc := 0) dX2_events_0 rfl ?_
  refine ew_aload_n (pc := 1) dX2_events_1 rfl ?_
  refine ew_cV0 (d' := 0) (pc := 2) vX2_230 (tw_ro _ _ _ _) dX2_events_2 (by decide) (ew_rm (Nat.le_of_ble_eq_true rfl)) ?_
  refine t_eventsNow ?_
  refine ew_Kr ?_
  refine ew_cV1 (d' := 0) (pc := 5) vX2_285 (tw_ro _ _ _ _) dX2_events_5 (by decide) (ew_rm (Nat.le_of_ble_eq_true rfl)) ?_
  refine t_given (v := σ.2 16 0) ?_
  refine ew_Kr ?_
  refine ew_iret (pc := 8) rfl dX2_events_8 ?_
  have h8 := hq _ (Fq.I σ 0 _ rfl) rfl
  rcases h3 with h3 | h3
  · rw [h3.1, if_neg (by decide)]
    rw [← h2.1] at h8
    exact h8
  · rw [h3.1, if_pos rfl]
    rw [h3.2.1] at h8
    exact h8
theorem o_windows {g : eg} {h : eh} {t : Nat} {σ : tS} {N : Nat → Int32} {Q : Outcome → eh → Prop} (hJ : TJ σ N)
    (hq : ∀ σ', Fq [0] σ σ' → σ'.1 0 = 0 → Q (.returned (some (.int (nI (nW N))))) (tw t σ' h)) : ew_T g kX2_windows 1 [.ref t] (tw t σ h) Q := by
  have hk := hJ
  obtain ⟨h1, h2, h3⟩ := hk
  subst h1
  refine ew_enter (by decide +kernel) (ew_a1 rfl ew_az) (Nat.le_of_ble_eq_true rfl) ?_
  refine ew_aload_n (pc := 0) dX2_windows_0 rfl ?_
  refine ew_aload_n (pc := 1) dX2_windows_1 rfl ?_
  refine ew_cV0 (d' := 0) (pc := 2) vX2_220 (tw_ro _ _ _ _) dX2_windows_2 (by decide) (ew_rm (Nat.le_of_ble_eq_true rfl)) ?_
  refine t_windowsNow ?_
  refine ew_Kr ?_
  refine ew_cV1 (d' := 0) (pc := 5) vX2_285 (tw_ro _ _ _ _) dX2_windows_5 (by decide) (ew_rm (Nat.le_of_ble_eq_true rfl)) ?_
  refine t_given (v := σ.2 16 1) ?_
  refine ew_Kr ?_
  refine ew_iret (pc := 8) rfl dX2_windows_8 ?_
  have h8 := hq _ (Fq.I σ 0 _ rfl) rfl
  rcases h3 with h3 | h3
  · rw [h3.1, if_neg (by decide)]
    rw [← h2.2.2.1] at h8
    exact h8
  · rw [h3.1, if_pos rfl]
    rw [h3.2.2] at h8
    exact h8
