/-! EW: the reference: runs are written -/
set_option maxRecDepth 100000
/-- runs have times of events of the net -/
def RT (N : Nat → Int32) : Prop := sB N = true → ∀ p : Int32, isIx 4 p → (∀ e, e ∈ (rnN N p (-1) 0).2.2 → e < nE N ∧ 0 ≤ (rnN N p (-1) 0).2.1 e) ∧ ((rnN N p (-1) 0).1 = -1 ∨ ∃ e, e < nE N ∧ (rnN N p (-1) 0).1 = nI e)
def ruE (nm T : Nat → Int32) (k e : Nat) : List Int32 := (if k = 0 then [] else [wb 32]) ++ nmV nm e ++ [wb 64] ++ dgV (ix (T e))
def ruL (nm T : Nat → Int32) (O : List Nat) : Nat → List Int32
  | 0 => []
  | k + 1 => ruL nm T O k ++ ruE nm T k (O.getD k 0)
theorem ruE_len (nm T : Nat → Int32) (k e : Nat) : (ruE nm T k e).length ≤ 22 := by
  have h1 := nmV_len nm e
  have h2 := dg_len 12 (ix (T e))
  have h3 : (if k = 0 then ([] : List Int32) else [wb 32]).length ≤ 1 := by split <;> simp
  simp only [ruE, List.length_append, List.length_singleton, dgV]
  omega
theorem ruL_len (nm T : Nat → Int32) (O : List Nat) : ∀ k, (ruL nm T O k).length ≤ 22 * k
  | 0 => Nat.le_refl 0
  | k + 1 => by
    have h1 := ruL_len nm T O k
    have h2 := ruE_len nm T k (O.getD k 0)
    simp only [ruL, List.length_append]
    omega
def ruP (nm : Nat → Int32) (r : Int32 × (Nat → Int32) × List Nat) : List Int32 := if r.1 = -1 then ruL nm r.2.1 r.2.2 r.2.2.length else ruL nm r.2.1 r.2.2 r.2.2.length ++ [wb 32] ++ nmV nm (ix r.1) ++ [wb 63]
theorem o_writeRun {g : eg} {h : eh} {t : Nat} {σ : tS} {N nm : Nat → Int32} {p : Int32} {Q : Outcome → eh → Prop} (hJ : TJ σ N) (hM : σ.2 10 = nm) (hK : okN N → RK N) (hRT : okN N → RT N)
    (h0 : ¬ se1 (σ.1 21) (sB N) (bI (isIx 4 p)) = 0 → ∀ σ' r, Fq SC σ σ' → σ'.1 0 = se1 (σ.1 21) (sB N) (bI (isIx 4 p)) → Q (.returned (some (.int r))) (tw t σ' h))
    (h1 : se1 (σ.1 21) (sB N) (bI (isIx 4 p)) = 0 → ∀ σ', Fq SP σ σ' → σ'.1 0 = 0 → Pg σ' (ruP nm (rnN N p (-1) 0)) → Q (.returned (some (.int (nI (ruP nm (rnN N p (-1) 0)).length)))) (tw t σ' h)) : ew_T g kX2_writeRun 13 [.ref t, .int p] (tw t σ h) Q := by
  have main : okN N → se1 (σ.1 21) (sB N) (bI (isIx 4 p)) = 0 → ∀ (br : Int32) (T : Nat → Int32) (O : List Nat), rnN N p (-1) 0 = (br, T, O) → O.length ≤ nE N → (∀ e, e ∈ O → e < nE N ∧ 0 ≤ T e) → (br = -1 ∨ ∃ e, e < nE N ∧ br = nI e) → ∀ m k σ', k + m = O.length → Fq SP σ σ' → σ'.1 0 = 0 → AT (σ'.2 27) T → Ord σ' O → Pg σ' (ruL nm T O k) → ew_G g kX2_writeRun 13 28 [.ref t, .int p, .int br, .int (nI k)] [] (tw t σ' h) Q := by
    intro ok hz br T O hrn hOl hT hbr m
    have hN2 := ok.e2
    have hx1 := h1 hz
    rw [hrn, ruP] at hx1
    induction m with
    | zero =>
      intro k σ' hk hF e0 hAT hO hP
      have e9 : k = O.length := by omega
      subst e9
      have hlr := ruL_len nm T O O.length
      refine ew_iload_n (pc := 28) dX2_writeRun_28 rfl ?_
      refine ew_aload_n (pc := 29) dX2_writeRun_29 rfl ?_
      refine tg_g39 (pc := 30) rfl dX2_writeRun_30 ?_
      rw [hO.1]
      refine ew_icmp_ge (pc := 33) (tgt := 83) dX2_writeRun_33 (by decide) (fun c33 => ?_) (fun c33 => absurd (nI_le (Nat.le_refl _) (by omega)) c33)
      refine ew_iload_n (pc := 83) dX2_writeRun_83 rfl ?_
      refine ew_iconst (pc := 84) (v := -1) dX2_writeRun_84 rfl ?_
      refine ew_icmp_ne (pc := 85) (tgt := 93) dX2_writeRun_85 (by decide) (fun c85 => ?_) (fun c85 => ?_)
      · obtain ⟨b, hb, hbb⟩ := hbr.resolve_left c85
        have hnl := nmV_len nm b
        rw [if_neg (show ¬ br = -1 from c85), show (br, T, O).1 = nI b from hbb, ix_nI (by omega)] at hx1
        rw [hbb]
        refine ew_aload_n (pc := 93) dX2_writeRun_93 rfl ?_
        refine ew_bipush (pc := 94) (v := 32) dX2_writeRun_94 rfl ?_
        refine ew_cV1 (d' := 0) (pc := 96) vX2_410 (tw_ro _ _ _ _) dX2_writeRun_96 (by decide) (ew_rm (Nat.le_of_ble_eq_true rfl)) ?_
        refine t_writesByte hP (by omega) (fun σ2 F2 P2 => ?_)
        refine ew_Kv ?_
        refine ew_aload_n (pc := 99) dX2_writeRun_99 rfl ?_
        refine ew_iload_n (pc := 100) dX2_writeRun_100 rfl ?_
        refine ew_cV1 (d' := 1) (pc := 101) vX2_413 (tw_ro _ _ _ _) dX2_writeRun_101 (by decide) (ew_rm (Nat.le_of_ble_eq_true rfl)) ?_
        refine t_writesName (nm := nm) ((F2.a 10 rfl).trans ((hF.a 10 rfl).trans hM)) (by omega) P2 (by rw [List.length_append, List.length_singleton]; omega) (fun σ3 F3 P3 => ?_)
        refine ew_Kv ?_
        refine ew_aload_n (pc := 104) dX2_writeRun_104 rfl ?_
        refine ew_bipush (pc := 105) (v := 63) dX2_writeRun_105 rfl ?_
        refine ew_cV1 (d' := 0) (pc := 107) vX2_410 (tw_ro _ _ _ _) dX2_writeRun_107 (by decide) (ew_rm (Nat.le_of_ble_eq_true rfl)) ?_
        refine t_writesByte P3 (by simp only [List.length_append, List.length_singleton]; omega) (fun σ4 F4 P4 => ?_)
        refine ew_Kv ?_
        refine ew_aload_n (pc := 110) dX2_writeRun_110 rfl ?_
        refine tg_g41 (pc := 111) rfl dX2_writeRun_111 ?_
        refine ew_iret (pc := 114) rfl dX2_writeRun_114 ?_
        rw [P4.1]
        exact hx1 σ4 (((hF.u F2 rfl).u F3 rfl).u F4 rfl) ((F4.s 0 rfl).trans ((F3.s 0 rfl).trans ((F2.s 0 rfl).trans e0))) P4
      · refine ew_aload_n (pc := 88) dX2_writeRun_88 rfl ?_
        refine tg_g41 (pc := 89) rfl dX2_writeRun_89 ?_
        refine ew_iret (pc := 92) rfl dX2_writeRun_92 ?_
        rw [hP.1]
        rw [if_pos (show br = -1 from c85)] at hx1
        exact hx1 σ' hF e0 hP
    | succ m ih =>
      intro k σ' hk hF e0 hAT hO hP
      have hkl : k < O.length := by omega
      have he := List.getElem?_eq_getElem hkl
      have hgd : O.getD k 0 = O[k] := by rw [List.getD_eq_getElem?_getD, he]; rfl
      have hTe := hT _ (List.getElem_mem hkl)
      have hOk : σ'.2 38 k = nI O[k] := hO.2 k _ he
      have hTT : σ'.2 27 O[k] = T O[k] := hAT _ (by omega)
      obtain ⟨j, hj, hjj⟩ := nI_of (Int32.not_lt.mpr hTe.2)
      have hnl := nmV_len nm O[k]
      have hdl := dg_len 12 j
      have hlr := ruL_len nm T O k
      have s46 : ∀ σ1 L, Fq [40, 41] σ' σ1 → Pg σ1 L → L.length ≤ 22 * k + 1 → L ++ nmV nm O[k] ++ [wb 64] ++ dgV j = ruL nm T O (k + 1) → ew_G g kX2_writeRun 13 46 [.ref t, .int p, .int br, .int (nI k)] [] (tw t σ1 h) Q := by
        intro σ1 L F1 P1 hl1 heq
        have hO1 : σ1.2 38 k = nI O[k] := by rw [F1.a 38 rfl]; exact hOk
        refine ew_aload_n (pc := 46) dX2_writeRun_46 rfl ?_
        refine ew_aload_n (pc := 47) dX2_writeRun_47 rfl ?_
        refine tg_g38 (pc := 48) rfl dX2_writeRun_48 ?_
        refine ew_iload_n (pc := 51) dX2_writeRun_51 rfl ?_
        refine tg_l38 (pc := 52) (j := k) rfl (by omega) dX2_writeRun_52 ?_
        rw [hO1]
        refine ew_cV1 (d' := 1) (pc := 53) vX2_413 (tw_ro _ _ _ _) dX2_writeRun_53 (by decide) (ew_rm (Nat.le_of_ble_eq_true rfl)) ?_
        refine t_writesName (nm := nm) ((F1.a 10 rfl).trans ((hF.a 10 rfl).trans hM)) (by omega) P1 (by omega) (fun σ2 F2 P2 => ?_)
        refine ew_Kv ?_
        refine ew_aload_n (pc := 56) dX2_writeRun_56 rfl ?_
        refine ew_bipush (pc := 57) (v := 64) dX2_writeRun_57 rfl ?_
        refine ew_cV1 (d' := 0) (pc := 59) vX2_410 (tw_ro _ _ _ _) dX2_writeRun_59 (by decide) (ew_rm (Nat.le_of_ble_eq_true rfl)) ?_
        refine t_writesByte P2 (by rw [List.length_append]; omega) (fun σ3 F3 P3 => ?_)
        refine ew_Kv ?_
        refine ew_aload_n (pc := 62) dX2_writeRun_62 rfl ?_
        refine ew_aload_n (pc := 63) dX2_writeRun_63 rfl ?_
        refine tg_g27 (pc := 64) rfl dX2_writeRun_64 ?_
        refine ew_aload_n (pc := 67) dX2_writeRun_67 rfl ?_
        refine tg_g38 (pc := 68) rfl dX2_writeRun_68 ?_
        refine ew_iload_n (pc := 71) dX2_writeRun_71 rfl ?_
        refine tg_l38 (pc := 72) (j := k) rfl (by omega) dX2_writeRun_72 ?_
        rw [show σ3.2 38 k = nI O[k] by rw [F3.a 38 rfl, F2.a 38 rfl]; exact hO1]
        refine tg_l27 (pc := 73) (j := O[k]) rfl (by omega) dX2_writeRun_73 ?_
        rw [show σ3.2 27 O[k] = nI j by rw [F3.a 27 rfl, F2.a 27 rfl, F1.a 27 rfl, hTT]; exact hjj]
        refine ew_cV1 (d' := 12) (pc := 74) vX2_407 (tw_ro _ _ _ _) dX2_writeRun_74 (by decide) (ew_rm (Nat.le_of_ble_eq_true rfl)) ?_
        refine t_number hj P3 (by simp only [List.length_append, List.length_singleton]; omega) (fun σ4 F4 P4 => ?_)
        refine ew_Kv ?_
        refine ew_iinc (pc := 77) dX2_writeRun_77 rfl (nI_inc k) (by decide) (p1_3 rfl) ?_
        refine ew_goto (pc := 80) (tgt := 28) dX2_writeRun_80 (by decide) ?_
        refine ih (k + 1) σ4 (by omega) ((((hF.u F1 rfl).u F2 rfl).u F3 rfl).u F4 rfl) ((F4.s 0 rfl).trans ((F3.s 0 rfl).trans ((F2.s 0 rfl).trans ((F1.s 0 rfl).trans e0)))) ?_ (((hO.fq F1 rfl rfl).fq F2 rfl rfl).fq F3 rfl rfl |>.fq F4 rfl rfl) ?_
        · rw [F4.a 27 rfl, F3.a 27 rfl, F2.a 27 rfl, F1.a 27 rfl]; exact hAT
        · rw [← heq]; exact P4
      have hR : ruL nm T O (k + 1) = ruL nm T O k ++ ((if k = 0 then [] else [wb 32]) ++ nmV nm O[k] ++ [wb 64] ++ dgV j) := by
        rw [ruL, hgd, ruE, hjj, ix_nI hj]
      refine ew_iload_n (pc := 28) dX2_writeRun_28 rfl ?_
      refine ew_aload_n (pc := 29) dX2_writeRun_29 rfl ?_
      refine tg_g39 (pc := 30) rfl dX2_writeRun_30 ?_
      rw [hO.1]
      refine ew_icmp_ge (pc := 33) (tgt := 83) dX2_writeRun_33 (by decide) (fun c33 => absurd c33 (nI_ge (by omega) (by omega))) (fun c33 => ?_)
      refine ew_iload_n (pc := 36) dX2_writeRun_36 rfl ?_
      refine ew_if_le (pc := 37) (tgt := 46) dX2_writeRun_37 (by decide) (fun c37 => ?_) (fun c37 => ?_)
      · first
        | refine s46 σ2 _ F2 P2 (by rw [List.length_append, List.length_singleton]; omega) ?_
          rw [hR, if_neg (fun h9 => c37 (by rw [h9]; decide))]
          simp only [List.append_assoc]
        | refine s46 σ' _ (Fq.r _ _) hP (by omega) ?_
          rw [hR, if_pos ((nI_gt0 (by omega)).mp c37)]
          simp only [List.append_assoc, List.nil_append]
      · refine ew_aload_n (pc := 40) dX2_writeRun_40 rfl ?_
        refine ew_bipush (pc := 41) (v := 32) dX2_writeRun_41 rfl ?_
        refine ew_cV1 (d' := 0) (pc := 43) vX2_410 (tw_ro _ _ _ _) dX2_writeRun_43 (by decide) (ew_rm (Nat.le_of_ble_eq_true rfl)) ?_
        refine t_writesByte hP (by omega) (fun σ2 F2 P2 => ?_)
        refine ew_Kv ?_
        first
        | refine s46 σ2 _ F2 P2 (by rw [List.length_append, List.length_singleton]; omega) ?_
          rw [hR, if_neg (fun h9 => c37 (by rw [h9]; decide))]
          simp only [List.append_assoc]
        | refine s46 σ' _ (Fq.r _ _) hP (by omega) ?_
          rw [hR, if_pos ((nI_gt0 (by omega)).mp c37)]
          simp only [List.append_assoc, List.nil_append]
  refine ew_enter (by decide +kernel) (ew_a1 rfl (ew_a1 rfl (ew_an (ew_an ew_az)))) (Nat.le_of_ble_eq_true rfl) ?_
  refine ew_aload_n (pc := 0) dX2_writeRun_0 rfl ?_
  refine ew_iload_n (pc := 1) dX2_writeRun_1 rfl ?_
  refine ew_cS1 (d' := 1) (pc := 2) sX2_392 dX2_writeRun_2 (by decide) (ew_rm (Nat.le_of_ble_eq_true rfl)) ?_
  refine t_isPolicy ?_
  refine ew_Kr ?_
  refine ew_cV1 (d' := 6) (pc := 5) vX2_314 (tw_ro _ _ _ _) dX2_writeRun_5 (by decide) (ew_rm (Nat.le_of_ble_eq_true rfl)) ?_
  refine t_maySee hJ (fun σ1 F1 e0 L1 => ?_)
  refine ew_Kr ?_
  refine ew_if_ne (pc := 8) (tgt := 13) dX2_writeRun_8 (by decide) (fun c8 => ?_) (fun c8 => ?_)
  · have hz := bI_n.mp c8
    have hp := se1_0.mp hz
    have ok := hJ.ok hp.1
    have hrt := hRT ok hp.2.1 p (bI_n.mp hp.2.2)
    rw [hz] at e0
    refine ew_aload_n (pc := 13) dX2_writeRun_13 rfl ?_
    refine ew_iload_n (pc := 14) dX2_writeRun_14 rfl ?_
    refine ew_iconst (pc := 15) (v := -1) dX2_writeRun_15 rfl ?_
    refine ew_iconst (pc := 16) (v := 0) dX2_writeRun_16 rfl ?_
    refine ew_cV3 (d' := 5) (pc := 17) vX2_395 (tw_ro _ _ _ _) dX2_writeRun_17 (by decide) (ew_rm (Nat.le_of_ble_eq_true rfl)) ?_
    refine t_runs ((F1.a 16 rfl).trans hJ.n) ok (hK ok hp.2.1 p (-1) 0 (bI_n.mp hp.2.2) (by decide) (by decide)) (fun σ2 F2 T2 O2 l2 => ?_)
    refine ew_Kr ?_
    refine ew_istore_n (pc := 20) dX2_writeRun_20 rfl (by decide) (p1_2 rfl) ?_
    refine ew_aload_n (pc := 21) dX2_writeRun_21 rfl ?_
    refine ew_iconst (pc := 22) (v := 0) dX2_writeRun_22 rfl ?_
    refine tg_p41 (pc := 23) rfl dX2_writeRun_23 ?_
    refine ew_iconst (pc := 26) (v := 0) dX2_writeRun_26 rfl ?_
    refine ew_istore_n (pc := 27) dX2_writeRun_27 rfl (by decide) (p1_3 rfl) ?_
    refine main ok hz (rnN N p (-1) 0).1 (rnN N p (-1) 0).2.1 (rnN N p (-1) 0).2.2 rfl l2 hrt.1 hrt.2 (rnN N p (-1) 0).2.2.length 0 _ (Nat.zero_add _) (((F1.w rfl : Fq SP σ σ1).u F2 rfl).xI 41 _ rfl) ((F2.s 0 rfl).trans e0) T2 (O2.fq (Fq.I (S := [41]) _ 41 _ rfl) rfl rfl) ⟨rfl, Nat.zero_le _, fun i x h9 => nomatch h9⟩
  · refine ew_iconst (pc := 11) (v := 0) dX2_writeRun_11 rfl ?_
    refine ew_iret (pc := 12) rfl dX2_writeRun_12 ?_
    exact h0 (bI_0.mp c8) _ _ (F1.w rfl) e0
