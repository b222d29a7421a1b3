/-! EW: the reference: texts -/
set_option maxRecDepth 100000
abbrev SP : List Nat := [0, 23, 24, 25, 26, 27, 28, 29, 30, 31, 32, 33, 34, 35, 36, 37, 38, 39, 40, 41]
/-- bounds are times -/
def EX (N : Nat → Int32) : Prop := sB N = true → ∀ e, e < nE N → 0 ≤ earlV (sF N) e ∧ (latV (sF N) e = -1 ∨ 0 ≤ latV (sF N) e)
def evP (N nm : Nat → Int32) (e : Nat) : List Int32 := nmV nm e ++ [wb 32] ++ dgV (ix (earlV (sF N) e)) ++ wdC [46, 46] ++ tmV (latV (sF N) e) ++ (if N (146 + e) = -1 then [] else [wb 33])
theorem o_writeEvent {g : eg} {h : eh} {t : Nat} {σ : tS} {N nm : Nat → Int32} {a : Int32} {Q : Outcome → eh → Prop} (hg : gCS g) (hg2 : gSF g) (hk : gK g "EventWindowsModel" 416 [46, 46]) (hJ : TJ σ N) (hM : σ.2 10 = nm) (hE : okN N → EX N)
    (h0 : ¬ se1 (σ.1 21) (sB N) (bI (isIx (nE N) a)) = 0 → ∀ σ' r, Fq SC σ σ' → σ'.1 0 = se1 (σ.1 21) (sB N) (bI (isIx (nE N) a)) → Q (.returned (some (.int r))) (tw t σ' h))
    (h1 : se1 (σ.1 21) (sB N) (bI (isIx (nE N) a)) = 0 → ∀ σ', Fq SP σ σ' → σ'.1 0 = 0 → Pg σ' (evP N nm (ix a)) → Q (.returned (some (.int (nI (evP N nm (ix a)).length)))) (tw t σ' h)) : ew_T g kX2_writeEvent 14 [.ref t, .int a] (tw t σ h) Q := by
  obtain ⟨ka, hka, hstr⟩ := hk.str (by decide) (by decide)
  have hf : wdC [46, 46] = wdL (fun i => nI (([46, 46] : List Nat).getD i 0)) 2 := rfl
  refine ew_enter (by decide +kernel) (ew_a1 rfl (ew_a1 rfl ew_az)) (Nat.le_of_ble_eq_true rfl) ?_
  refine ew_aload_n (pc := 0) dX2_writeEvent_0 rfl ?_
  refine ew_aload_n (pc := 1) dX2_writeEvent_1 rfl ?_
  refine ew_iload_n (pc := 2) dX2_writeEvent_2 rfl ?_
  refine ew_cV1 (d' := 1) (pc := 3) vX2_288 (tw_ro _ _ _ _) dX2_writeEvent_3 (by decide) (ew_rm (Nat.le_of_ble_eq_true rfl)) ?_
  refine t_isEvent hJ.n hJ.z ?_
  refine ew_Kr ?_
  refine ew_cV1 (d' := 6) (pc := 6) vX2_314 (tw_ro _ _ _ _) dX2_writeEvent_6 (by decide) (ew_rm (Nat.le_of_ble_eq_true rfl)) ?_
  refine t_maySee hJ (fun σ1 F1 e0 L1 => ?_)
  refine ew_Kr ?_
  refine ew_if_ne (pc := 9) (tgt := 14) dX2_writeEvent_9 (by decide) (fun c9 => ?_) (fun c9 => ?_)
  · have hz := bI_n.mp c9
    have hp := se1_0.mp hz
    have ok := hJ.ok hp.1
    have hn := ok.e2
    have ha := (bI_n.mp hp.2.2).to (by omega)
    have hx := hE ok hp.2.1 (ix a) ha.1
    obtain ⟨ej, hej, hee⟩ := nI_of (Int32.not_lt.mpr hx.1)
    have hnl := nmV_len nm (ix a)
    have hdl := dg_len 12 ej
    have htl := tmV_len (latV (sF N) (ix a))
    have hA := (L1 hp.1).2.2
    rw [hz] at e0
    rw [ha.2]
    refine ew_aload_n (pc := 14) dX2_writeEvent_14 rfl ?_
    refine ew_iconst (pc := 15) (v := 0) dX2_writeEvent_15 rfl ?_
    refine tg_p41 (pc := 16) rfl dX2_writeEvent_16 ?_
    refine ew_aload_n (pc := 19) dX2_writeEvent_19 rfl ?_
    refine ew_iload_n (pc := 20) dX2_writeEvent_20 rfl ?_
    refine ew_cV1 (d' := 1) (pc := 21) vX2_413 (tw_ro _ _ _ _) dX2_writeEvent_21 (by decide) (ew_rm (Nat.le_of_ble_eq_true rfl)) ?_
    refine t_writesName (L := []) (nm := nm) ((F1.a 10 rfl).trans hM) (by omega) ⟨rfl, by decide, fun i x h9 => nomatch h9⟩ (by decide) (fun σ2 F2 P2 => ?_)
    rw [List.nil_append] at P2
    refine ew_Kv ?_
    refine ew_aload_n (pc := 24) dX2_writeEvent_24 rfl ?_
    refine ew_bipush (pc := 25) (v := 32) dX2_writeEvent_25 rfl ?_
    refine ew_cV1 (d' := 0) (pc := 27) vX2_410 (tw_ro _ _ _ _) dX2_writeEvent_27 (by decide) (ew_rm (Nat.le_of_ble_eq_true rfl)) ?_
    refine t_writesByte P2 (by omega) (fun σ3 F3 P3 => ?_)
    refine ew_Kv ?_
    refine ew_aload_n (pc := 30) dX2_writeEvent_30 rfl ?_
    refine ew_aload_n (pc := 31) dX2_writeEvent_31 rfl ?_
    refine ew_iload_n (pc := 32) dX2_writeEvent_32 rfl ?_
    refine ew_cV1 (d' := 1) (pc := 33) vX2_308 (tw_ro _ _ _ _) dX2_writeEvent_33 (by decide) (ew_rm (Nat.le_of_ble_eq_true rfl)) ?_
    refine t_earliestOf (F := sF N) (by rw [F3.a 29 rfl, F2.a 29 rfl]; exact hA) (by omega) ?_
    rw [hee]
    refine ew_Kr ?_
    refine ew_cV1 (d' := 12) (pc := 36) vX2_407 (tw_ro _ _ _ _) dX2_writeEvent_36 (by decide) (ew_rm (Nat.le_of_ble_eq_true rfl)) ?_
    refine t_number hej P3 (by simp only [List.length_append, List.length_singleton]; omega) (fun σ4 F4 P4 => ?_)
    refine ew_Kv ?_
    refine ew_aload_n (pc := 39) dX2_writeEvent_39 rfl ?_
    refine ew_ldcSw (pc := 40) hka dX2_writeEvent_40 ?_
    refine ew_cV1 (d' := 5) (pc := 43) vX2_418 (tw_ro _ _ _ _) dX2_writeEvent_43 (by decide) (ew_rm (Nat.le_of_ble_eq_true rfl)) ?_
    refine t_writesWord (n := 2) (f := fun i => nI (([46, 46] : List Nat).getD i 0)) hg hg2 (fun σ' ho => hstr _ ho) (by decide) P4 (by simp only [List.length_append, List.length_singleton, dgV]; omega) (fun σ5 F5 P5 => ?_)
    refine ew_Kv ?_
    refine ew_aload_n (pc := 46) dX2_writeEvent_46 rfl ?_
    refine ew_aload_n (pc := 47) dX2_writeEvent_47 rfl ?_
    refine ew_iload_n (pc := 48) dX2_writeEvent_48 rfl ?_
    refine ew_cV1 (d' := 1) (pc := 49) vX2_305 (tw_ro _ _ _ _) dX2_writeEvent_49 (by decide) (ew_rm (Nat.le_of_ble_eq_true rfl)) ?_
    refine t_latestOf (F := sF N) (by rw [F5.a 29 rfl, F4.a 29 rfl, F3.a 29 rfl, F2.a 29 rfl]; exact hA) (by omega) ?_
    refine ew_Kr ?_
    refine ew_cV1 (d' := 13) (pc := 52) vX2_422 (tw_ro _ _ _ _) dX2_writeEvent_52 (by decide) (ew_rm (Nat.le_of_ble_eq_true rfl)) ?_
    refine t_writesTime hx.2 P5 (by simp only [List.length_append, List.length_singleton, dgV, wdL_len]; omega) (fun σ6 F6 P6 => ?_)
    have hN6 : σ6.2 16 = N := (F6.a 16 rfl).trans ((F5.a 16 rfl).trans ((F4.a 16 rfl).trans ((F3.a 16 rfl).trans ((F2.a 16 rfl).trans ((F1.a 16 rfl).trans hJ.n)))))
    have F16 : Fq SP σ σ6 := (((((((F1.w rfl : Fq SP σ σ1).xI 41 _ rfl).u F2 rfl).u F3 rfl).u F4 rfl).u F5 rfl).u F6 rfl)
    have e6 : σ6.1 0 = 0 := (F6.s 0 rfl).trans ((F5.s 0 rfl).trans ((F4.s 0 rfl).trans ((F3.s 0 rfl).trans ((F2.s 0 rfl).trans e0))))
    have hx1 := h1 hz
    rw [evP, hee, ix_nI hej, hf] at hx1
    refine ew_Kv ?_
    refine ew_aload_n (pc := 55) dX2_writeEvent_55 rfl ?_
    refine tg_g16 (pc := 56) rfl dX2_writeEvent_56 ?_
    refine ew_sipush (pc := 59) (v := 146) dX2_writeEvent_59 rfl ?_
    refine ew_iload_n (pc := 62) dX2_writeEvent_62 rfl ?_
    refine ew_iadd (pc := 63) dX2_writeEvent_63 ?_
    refine tg_l16 (pc := 64) (j := 146 + ix a) (by rw [show (146 : Int32) = nI 146 from rfl, nI_add]) (by omega) dX2_writeEvent_64 ?_
    refine ew_iconst (pc := 65) (v := -1) dX2_writeEvent_65 rfl ?_
    rw [hN6]
    refine ew_icmp_eq (pc := 66) (tgt := 75) dX2_writeEvent_66 (by decide) (fun c66 => ?_) (fun c66 => ?_)
    · refine ew_aload_n (pc := 75) dX2_writeEvent_75 rfl ?_
      refine tg_g41 (pc := 76) rfl dX2_writeEvent_76 ?_
      refine ew_iret (pc := 79) rfl dX2_writeEvent_79 ?_
      first
      | rw [if_pos c66, List.append_nil] at hx1
        rw [P6.1]
        exact hx1 σ6 F16 e6 P6
      | rw [if_neg c66] at hx1
        rw [P7.1]
        exact hx1 σ7 (F16.u F7 rfl) ((F7.s 0 rfl).trans e6) P7
    · refine ew_aload_n (pc := 69) dX2_writeEvent_69 rfl ?_
      refine ew_bipush (pc := 70) (v := 33) dX2_writeEvent_70 rfl ?_
      refine ew_cV1 (d' := 0) (pc := 72) vX2_410 (tw_ro _ _ _ _) dX2_writeEvent_72 (by decide) (ew_rm (Nat.le_of_ble_eq_true rfl)) ?_
      refine t_writesByte P6 (by simp only [List.length_append, List.length_singleton, dgV, wdL_len]; omega) (fun σ7 F7 P7 => ?_)
      refine ew_Kv ?_
      refine ew_aload_n (pc := 75) dX2_writeEvent_75 rfl ?_
      refine tg_g41 (pc := 76) rfl dX2_writeEvent_76 ?_
      refine ew_iret (pc := 79) rfl dX2_writeEvent_79 ?_
      first
      | rw [if_pos c66, List.append_nil] at hx1
        rw [P6.1]
        exact hx1 σ6 F16 e6 P6
      | rw [if_neg c66] at hx1
        rw [P7.1]
        exact hx1 σ7 (F16.u F7 rfl) ((F7.s 0 rfl).trans e6) P7
  · refine ew_iconst (pc := 12) (v := 0) dX2_writeEvent_12 rfl ?_
    refine ew_iret (pc := 13) rfl dX2_writeEvent_13 ?_
    exact h0 (bI_0.mp c9) _ _ (F1.w rfl) e0
