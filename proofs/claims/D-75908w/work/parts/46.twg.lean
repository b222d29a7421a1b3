/-! EW: the reference: runs are asked -/
set_option maxRecDepth 100000
def rnE (N T : Nat → Int32) : Nat → Int32 := cF (nE N) (eAll N T 0 (-1))
def rnT (N F : Nat → Int32) (p ev dl : Int32) (e : Nat) : Int32 := tbV N F p e + (if nI e = ev then dl else N (156 + e))
abbrev rnB (N F : Nat → Int32) (p ev dl : Int32) (e : Nat) : Prop := ¬ latV F e = -1 ∧ latV F e < rnT N F p ev dl e
/-- a run from times T and an order O on: where it breaks, times, order -/
def rnX (N : Nat → Int32) (p ev dl : Int32) (k : (Nat → Int32) → List Nat → Int32 × (Nat → Int32) × List Nat) (T : Nat → Int32) (O : List Nat) : Option Nat → Int32 × (Nat → Int32) × List Nat
  | none => (-1, T, O)
  | some e => if rnB N (rnE N T) p ev dl e then (nI e, T, O) else k (upd T e (rnT N (rnE N T) p ev dl e)) (O ++ [e])
def rnG (N : Nat → Int32) (p ev dl : Int32) : Nat → (Nat → Int32) → List Nat → Int32 × (Nat → Int32) × List Nat
  | 0, T, O => (-1, T, O)
  | r + 1, T, O => rnX N p ev dl (rnG N p ev dl r) T O (nxV T (rnE N T) (nE N))
def okX (N : Nat → Int32) (p ev dl : Int32) (k : (Nat → Int32) → Prop) (T : Nat → Int32) : Option Nat → Prop
  | none => True
  | some e => ¬ rnB N (rnE N T) p ev dl e → ¬ rnT N (rnE N T) p ev dl e = -1 ∧ k (upd T e (rnT N (rnE N T) p ev dl e))
/-- no event gets the time -1 -/
def okG (N : Nat → Int32) (p ev dl : Int32) : Nat → (Nat → Int32) → Prop
  | 0, _ => True
  | r + 1, T => okX N p ev dl (okG N p ev dl r) T (nxV T (rnE N T) (nE N))
def rnN (N : Nat → Int32) (p ev dl : Int32) : Int32 × (Nat → Int32) × List Nat := rnG N p ev dl 11 (fun e => N (146 + e)) (rnO N (nE N))
/-- runs of the net do well -/
def RK (N : Nat → Int32) : Prop := sB N = true → ∀ p ev dl : Int32, isIx 4 p → 0 ≤ dl → dl ≤ 99 → okG N p ev dl 11 (fun e => N (146 + e))
theorem eAll_AT {N T f : Nat → Int32} {wout code : Int32} (ok : okN N) (h : AT f T) : eAll N f wout code = eAll N T wout code := eAll_T (fun e he => h e (by have := ok.e2; omega)) ok.e1
theorem t_runs {g : eg} {h : eh} {t : Nat} {σ : tS} {N : Nat → Int32} {p ev dl : Int32} {Q : Outcome → eh → Prop} (hN : σ.2 16 = N) (ok : okN N) (hG : okG N p ev dl 11 (fun e => N (146 + e)))
    (hq : ∀ σ', Fq [23, 24, 25, 26, 27, 28, 29, 38, 39] σ σ' → AT (σ'.2 27) (rnN N p ev dl).2.1 → Ord σ' (rnN N p ev dl).2.2 → (rnN N p ev dl).2.2.length ≤ nE N → Q (.returned (some (.int (rnN N p ev dl).1))) (tw t σ' h)) : ew_T g kX2_runs 5 [.ref t, .int p, .int ev, .int dl] (tw t σ h) Q := by
  have hn2 := ok.e2
  have main : ∀ r T O σ' x4 x6, frC T (nE N) < r → O.length + frC T (nE N) = nE N → Fq [23, 24, 25, 26, 27, 28, 29, 38, 39] σ σ' → AT (σ'.2 27) T → Ord σ' O → Ag (σ'.2 29) (rnE N T) → okG N p ev dl r T → rnG N p ev dl r T O = rnN N p ev dl → ew_G g kX2_runs 5 18 [.ref t, .int p, .int ev, .int dl, .int x4, .int (oI (nxV T (rnE N T) (nE N))), x6] [] (tw t σ' h) Q := by
    intro r
    induction r with
    | zero =>
      intro T O σ' x4 x6 hr
      exact absurd hr (Nat.not_lt_zero _)
    | succ r ih =>
      intro T O σ' x4 x6 hr hl hF hT hO hA hG9 hR
      have hN1 := (hF.a 16 rfl).trans hN
      rw [rnG] at hR
      rw [okG] at hG9
      cases hx : nxV T (rnE N T) (nE N) with
      | none =>
        rw [hx, rnX] at hR
        refine ew_iload (pc := 18) dX2_runs_18 rfl ?_
        refine ew_iconst (pc := 20) (v := -1) dX2_runs_20 rfl ?_
        refine ew_icmp_eq (pc := 21) (tgt := 104) dX2_runs_21 (by decide) (fun c21 => ?_) (fun c21 => absurd rfl c21)
        refine ew_iconst (pc := 104) (v := -1) dX2_runs_104 rfl ?_
        refine ew_iret (pc := 105) rfl dX2_runs_105 ?_
        have h8 := hq σ' hF (by rw [← hR]; exact hT) (by rw [← hR]; exact hO) (by rw [← hR]; show O.length ≤ nE N; omega)
        rw [← hR] at h8
        exact h8
      | some e =>
        have he := nxV_lt _ _ _ _ hx
        rw [hx, rnX] at hR
        rw [hx, okX] at hG9
        have hdl : ∀ v, v = (if nI e = ev then dl else N (156 + e)) → tbV N (rnE N T) p e + v = rnT N (rnE N T) p ev dl e := fun v hv => by rw [hv]; rfl
        have s53 : ew_G g kX2_runs 5 53 [.ref t, .int p, .int ev, .int dl, .int x4, .int (nI e), x6] [.int (rnT N (rnE N T) p ev dl e)] (tw t σ' h) Q := by
          refine ew_istore (pc := 53) dX2_runs_53 (by decide) (p1_6 rfl) ?_
          refine ew_aload_n (pc := 55) dX2_runs_55 rfl ?_
          refine ew_iload (pc := 56) dX2_runs_56 rfl ?_
          refine ew_cV1 (d' := 1) (pc := 58) vX2_305 (tw_ro _ _ _ _) dX2_runs_58 (by decide) (ew_rm (Nat.le_of_ble_eq_true rfl)) ?_
          refine t_latestOf hA (by omega) ?_
          refine ew_Kr ?_
          refine ew_iconst (pc := 61) (v := -1) dX2_runs_61 rfl ?_
          refine ew_icmp_eq (pc := 62) (tgt := 79) dX2_runs_62 (by decide) (fun c62 => ?_) (fun c62 => ?_)
          · have hnb : ¬ rnB N (rnE N T) p ev dl e := fun h9 => by first | exact h9.1 c62 | exact absurd h9.2 (Int32.not_lt.mpr c73)
            have hg2 := hG9 hnb
            rw [if_neg hnb] at hR
            have hfr := frC_upd (x := rnT N (rnE N T) p ev dl e) hg2.1 he.2 (nE N)
            rw [if_pos he.1] at hfr
            refine ew_aload_n (pc := 79) dX2_runs_79 rfl ?_
            refine ew_iload (pc := 80) dX2_runs_80 rfl ?_
            refine ew_iload (pc := 82) dX2_runs_82 rfl ?_
            refine ew_cV2 (d' := 0) (pc := 84) vX2_380 (tw_ro _ _ _ _) dX2_runs_84 (by decide) (ew_rm (Nat.le_of_ble_eq_true rfl)) ?_
            refine t_gets (x := rnT N (rnE N T) p ev dl e) hT hO (by omega) (by omega) (fun σ2 F2 T2 O2 => ?_)
            refine ew_Kv ?_
            refine ew_aload_n (pc := 87) dX2_runs_87 rfl ?_
            refine ew_iconst (pc := 88) (v := 0) dX2_runs_88 rfl ?_
            refine ew_iconst (pc := 89) (v := -1) dX2_runs_89 rfl ?_
            refine ew_cV2 (d' := 4) (pc := 90) vX2_257 (tw_ro _ _ _ _) dX2_runs_90 (by decide) (ew_rm (Nat.le_of_ble_eq_true rfl)) ?_
            refine t_boundsWithout ((F2.a 16 rfl).trans hN1) rfl ok (fun σ3 b F3 S3 B3 => ?_)
            rw [eAll_AT ok T2] at B3
            have hc := B3.c ok.e2 (eAll_ok ok)
            have T3 : AT (σ3.2 27) (upd T e (rnT N (rnE N T) p ev dl e)) := by rw [F3.a 27 rfl]; exact T2
            refine ew_Kr ?_
            refine ew_istore (pc := 93) dX2_runs_93 (by decide) (p1_4 rfl) ?_
            refine ew_aload_n (pc := 95) dX2_runs_95 rfl ?_
            refine ew_cV0 (d' := 2) (pc := 96) vX2_386 (tw_ro _ _ _ _) dX2_runs_96 (by decide) (ew_rm (Nat.le_of_ble_eq_true rfl)) ?_
            refine t_nextEvent ((F3.a 16 rfl).trans ((F2.a 16 rfl).trans hN1)) ok T3 hc.2 ?_
            refine ew_Kr ?_
            refine ew_istore (pc := 99) dX2_runs_99 (by decide) (p1_5 rfl) ?_
            refine ew_goto (pc := 101) (tgt := 18) dX2_runs_101 (by decide) ?_
            exact ih _ _ σ3 _ _ (by omega) (by rw [List.length_append, List.length_singleton]; omega) ((hF.u F2 rfl).u F3 rfl) T3 (O2.fq F3 rfl rfl) hc.2 hg2.2 hR
          · refine ew_iload (pc := 65) dX2_runs_65 rfl ?_
            refine ew_aload_n (pc := 67) dX2_runs_67 rfl ?_
            refine ew_iload (pc := 68) dX2_runs_68 rfl ?_
            refine ew_cV1 (d' := 1) (pc := 70) vX2_305 (tw_ro _ _ _ _) dX2_runs_70 (by decide) (ew_rm (Nat.le_of_ble_eq_true rfl)) ?_
            refine t_latestOf hA (by omega) ?_
            refine ew_Kr ?_
            refine ew_icmp_le (pc := 73) (tgt := 79) dX2_runs_73 (by decide) (fun c73 => ?_) (fun c73 => ?_)
            · have hnb : ¬ rnB N (rnE N T) p ev dl e := fun h9 => by first | exact h9.1 c62 | exact absurd h9.2 (Int32.not_lt.mpr c73)
              have hg2 := hG9 hnb
              rw [if_neg hnb] at hR
              have hfr := frC_upd (x := rnT N (rnE N T) p ev dl e) hg2.1 he.2 (nE N)
              rw [if_pos he.1] at hfr
              refine ew_aload_n (pc := 79) dX2_runs_79 rfl ?_
              refine ew_iload (pc := 80) dX2_runs_80 rfl ?_
              refine ew_iload (pc := 82) dX2_runs_82 rfl ?_
              refine ew_cV2 (d' := 0) (pc := 84) vX2_380 (tw_ro _ _ _ _) dX2_runs_84 (by decide) (ew_rm (Nat.le_of_ble_eq_true rfl)) ?_
              refine t_gets (x := rnT N (rnE N T) p ev dl e) hT hO (by omega) (by omega) (fun σ2 F2 T2 O2 => ?_)
              refine ew_Kv ?_
              refine ew_aload_n (pc := 87) dX2_runs_87 rfl ?_
              refine ew_iconst (pc := 88) (v := 0) dX2_runs_88 rfl ?_
              refine ew_iconst (pc := 89) (v := -1) dX2_runs_89 rfl ?_
              refine ew_cV2 (d' := 4) (pc := 90) vX2_257 (tw_ro _ _ _ _) dX2_runs_90 (by decide) (ew_rm (Nat.le_of_ble_eq_true rfl)) ?_
              refine t_boundsWithout ((F2.a 16 rfl).trans hN1) rfl ok (fun σ3 b F3 S3 B3 => ?_)
              rw [eAll_AT ok T2] at B3
              have hc := B3.c ok.e2 (eAll_ok ok)
              have T3 : AT (σ3.2 27) (upd T e (rnT N (rnE N T) p ev dl e)) := by rw [F3.a 27 rfl]; exact T2
              refine ew_Kr ?_
              refine ew_istore (pc := 93) dX2_runs_93 (by decide) (p1_4 rfl) ?_
              refine ew_aload_n (pc := 95) dX2_runs_95 rfl ?_
              refine ew_cV0 (d' := 2) (pc := 96) vX2_386 (tw_ro _ _ _ _) dX2_runs_96 (by decide) (ew_rm (Nat.le_of_ble_eq_true rfl)) ?_
              refine t_nextEvent ((F3.a 16 rfl).trans ((F2.a 16 rfl).trans hN1)) ok T3 hc.2 ?_
              refine ew_Kr ?_
              refine ew_istore (pc := 99) dX2_runs_99 (by decide) (p1_5 rfl) ?_
              refine ew_goto (pc := 101) (tgt := 18) dX2_runs_101 (by decide) ?_
              exact ih _ _ σ3 _ _ (by omega) (by rw [List.length_append, List.length_singleton]; omega) ((hF.u F2 rfl).u F3 rfl) T3 (O2.fq F3 rfl rfl) hc.2 hg2.2 hR
            · refine ew_iload (pc := 76) dX2_runs_76 rfl ?_
              refine ew_iret (pc := 78) rfl dX2_runs_78 ?_
              rw [if_pos (show rnB N (rnE N T) p ev dl e from ⟨c62, Int32.not_le.mp c73⟩)] at hR
              have h8 := hq σ' hF (by rw [← hR]; exact hT) (by rw [← hR]; exact hO) (by rw [← hR]; show O.length ≤ nE N; omega)
              rw [← hR] at h8
              exact h8
        refine ew_iload (pc := 18) dX2_runs_18 rfl ?_
        refine ew_iconst (pc := 20) (v := -1) dX2_runs_20 rfl ?_
        refine ew_icmp_eq (pc := 21) (tgt := 104) dX2_runs_21 (by decide) (fun c21 => absurd c21 (nI_m1 (n := e) (by omega))) (fun c21 => ?_)
        refine ew_aload_n (pc := 24) dX2_runs_24 rfl ?_
        refine ew_iload_n (pc := 25) dX2_runs_25 rfl ?_
        refine ew_iload (pc := 26) dX2_runs_26 rfl ?_
        refine ew_cV2 (d' := 3) (pc := 28) vX2_389 (tw_ro _ _ _ _) dX2_runs_28 (by decide) (ew_rm (Nat.le_of_ble_eq_true rfl)) ?_
        refine t_timeBy (e := e) hN1 hA (by omega) ?_
        refine ew_Kr ?_
        refine ew_iload (pc := 31) dX2_runs_31 rfl ?_
        refine ew_iload_n (pc := 33) dX2_runs_33 rfl ?_
        refine ew_icmp_ne (pc := 34) (tgt := 41) dX2_runs_34 (by decide) (fun c34 => ?_) (fun c34 => ?_)
        · refine ew_aload_n (pc := 41) dX2_runs_41 rfl ?_
          refine tg_g16 (pc := 42) rfl dX2_runs_42 ?_
          refine ew_sipush (pc := 45) (v := 156) dX2_runs_45 rfl ?_
          refine ew_iload (pc := 48) dX2_runs_48 rfl ?_
          refine ew_iadd (pc := 50) dX2_runs_50 ?_
          refine tg_l16 (pc := 51) (j := 156 + e) (by rw [show (156 : Int32) = nI 156 from rfl, oI, nI_add]) (by omega) dX2_runs_51 ?_
          refine ew_iadd (pc := 52) dX2_runs_52 ?_
          first
          | rw [hdl _ (if_pos (show nI e = ev from c34)).symm]
          | rw [hdl _ ((congrFun hN1 _).trans (if_neg (show ¬ nI e = ev from c34)).symm)]
          exact s53
        · refine ew_iload_n (pc := 37) dX2_runs_37 rfl ?_
          refine ew_goto (pc := 38) (tgt := 52) dX2_runs_38 (by decide) ?_
          refine ew_iadd (pc := 52) dX2_runs_52 ?_
          first
          | rw [hdl _ (if_pos (show nI e = ev from c34)).symm]
          | rw [hdl _ ((congrFun hN1 _).trans (if_neg (show ¬ nI e = ev from c34)).symm)]
          exact s53
  refine ew_enter (by decide +kernel) (ew_a1 rfl (ew_a1 rfl (ew_a1 rfl (ew_a1 rfl (ew_an (ew_an (ew_an ew_az))))))) (Nat.le_of_ble_eq_true rfl) ?_
  refine ew_aload_n (pc := 0) dX2_runs_0 rfl ?_
  refine ew_cV0 (d' := 1) (pc := 1) vX2_383 (tw_ro _ _ _ _) dX2_runs_1 (by decide) (ew_rm (Nat.le_of_ble_eq_true rfl)) ?_
  refine t_startsRun hN ok (fun σ1 F1 T1 O1 => ?_)
  refine ew_Kv ?_
  refine ew_aload_n (pc := 4) dX2_runs_4 rfl ?_
  refine ew_iconst (pc := 5) (v := 0) dX2_runs_5 rfl ?_
  refine ew_iconst (pc := 6) (v := -1) dX2_runs_6 rfl ?_
  refine ew_cV2 (d' := 4) (pc := 7) vX2_257 (tw_ro _ _ _ _) dX2_runs_7 (by decide) (ew_rm (Nat.le_of_ble_eq_true rfl)) ?_
  refine t_boundsWithout ((F1.a 16 rfl).trans hN) rfl ok (fun σ3 b F3 S3 B3 => ?_)
  rw [eAll_AT ok T1] at B3
  have hc := B3.c ok.e2 (eAll_ok ok)
  have T3 : AT (σ3.2 27) (fun e => N (146 + e)) := by rw [F3.a 27 rfl]; exact T1
  have hle := rnO_len N (nE N)
  refine ew_Kr ?_
  refine ew_istore (pc := 10) dX2_runs_10 (by decide) (p1_4 rfl) ?_
  refine ew_aload_n (pc := 12) dX2_runs_12 rfl ?_
  refine ew_cV0 (d' := 2) (pc := 13) vX2_386 (tw_ro _ _ _ _) dX2_runs_13 (by decide) (ew_rm (Nat.le_of_ble_eq_true rfl)) ?_
  refine t_nextEvent (F := rnE N (fun e => N (146 + e))) ((F3.a 16 rfl).trans ((F1.a 16 rfl).trans hN)) ok T3 hc.2 ?_
  refine ew_Kr ?_
  refine ew_istore (pc := 16) dX2_runs_16 (by decide) (p1_5 rfl) ?_
  exact main 11 _ _ σ3 _ _ (by omega) hle ((F1.w rfl).u F3 rfl) T3 (O1.fq F3 rfl rfl) hc.2 hG rfl
theorem o_runBreaks {g : eg} {h : eh} {t : Nat} {σ : tS} {N : Nat → Int32} {p : Int32} {Q : Outcome → eh → Prop} (hJ : TJ σ N) (hK : okN N → RK N)
    (hq : ∀ σ' v, An SC σ (se1 (σ.1 21) (sB N) (bI (isIx 4 p))) (rnN N p (-1) 0).1 σ' v → Q (.returned (some (.int v))) (tw t σ' h)) : ew_T g kX2_runBreaks 7 [.ref t, .int p] (tw t σ h) Q := by
  refine ew_enter (by decide +kernel) (ew_a1 rfl (ew_a1 rfl ew_az)) (Nat.le_of_ble_eq_true rfl) ?_
  refine ew_aload_n (pc := 0) dX2_runBreaks_0 rfl ?_
  refine ew_iload_n (pc := 1) dX2_runBreaks_1 rfl ?_
  refine ew_cS1 (d' := 1) (pc := 2) sX2_392 dX2_runBreaks_2 (by decide) (ew_rm (Nat.le_of_ble_eq_true rfl)) ?_
  refine t_isPolicy ?_
  refine ew_Kr ?_
  refine ew_cV1 (d' := 6) (pc := 5) vX2_314 (tw_ro _ _ _ _) dX2_runBreaks_5 (by decide) (ew_rm (Nat.le_of_ble_eq_true rfl)) ?_
  refine t_maySee hJ (fun σ1 F1 h0 L1 => ?_)
  refine ew_Kr ?_
  refine ew_if_eq (pc := 8) (tgt := 21) dX2_runBreaks_8 (by decide) (fun c8 => ?_) (fun c8 => ?_)
  · refine ew_iconst (pc := 21) (v := 0) dX2_runBreaks_21 rfl ?_
    refine ew_iret (pc := 22) rfl dX2_runBreaks_22 ?_
    first
    | exact hq _ _ ⟨F1.w rfl, h0, fun h9 => absurd h9 (bI_0.mp c8)⟩
    | exact hq _ _ ⟨(F1.w rfl).u F2 rfl, (F2.s 0 rfl).trans h0, fun _ => rfl⟩
  · have hp := se1_0.mp (bI_n.mp c8)
    refine ew_aload_n (pc := 11) dX2_runBreaks_11 rfl ?_
    refine ew_iload_n (pc := 12) dX2_runBreaks_12 rfl ?_
    refine ew_iconst (pc := 13) (v := -1) dX2_runBreaks_13 rfl ?_
    refine ew_iconst (pc := 14) (v := 0) dX2_runBreaks_14 rfl ?_
    refine ew_cV3 (d' := 5) (pc := 15) vX2_395 (tw_ro _ _ _ _) dX2_runBreaks_15 (by decide) (ew_rm (Nat.le_of_ble_eq_true rfl)) ?_
    refine t_runs ((F1.a 16 rfl).trans hJ.n) (hJ.ok hp.1) (hK (hJ.ok hp.1) hp.2.1 p (-1) 0 (bI_n.mp hp.2.2) (by decide) (by decide)) (fun σ2 F2 T2 O2 _ => ?_)
    refine ew_Kr ?_
    refine ew_goto (pc := 18) (tgt := 22) dX2_runBreaks_18 (by decide) ?_
    refine ew_iret (pc := 22) rfl dX2_runBreaks_22 ?_
    first
    | exact hq _ _ ⟨F1.w rfl, h0, fun h9 => absurd h9 (bI_0.mp c8)⟩
    | exact hq _ _ ⟨(F1.w rfl).u F2 rfl, (F2.s 0 rfl).trans h0, fun _ => rfl⟩
theorem o_runTime {g : eg} {h : eh} {t : Nat} {σ : tS} {N : Nat → Int32} {p a : Int32} {Q : Outcome → eh → Prop} (hJ : TJ σ N) (hK : okN N → RK N)
    (hq : ∀ σ' v, An SC σ (se2 (σ.1 21) (sB N) (bI (isIx (nE N) a)) (bI (isIx 4 p))) ((rnN N p (-1) 0).2.1 (ix a)) σ' v → Q (.returned (some (.int v))) (tw t σ' h)) : ew_T g kX2_runTime 7 [.ref t, .int p, .int a] (tw t σ h) Q := by
  refine ew_enter (by decide +kernel) (ew_a1 rfl (ew_a1 rfl (ew_a1 rfl (ew_an ew_az)))) (Nat.le_of_ble_eq_true rfl) ?_
  refine ew_aload_n (pc := 0) dX2_runTime_0 rfl ?_
  refine ew_aload_n (pc := 1) dX2_runTime_1 rfl ?_
  refine ew_iload_n (pc := 2) dX2_runTime_2 rfl ?_
  refine ew_cV1 (d' := 1) (pc := 3) vX2_288 (tw_ro _ _ _ _) dX2_runTime_3 (by decide) (ew_rm (Nat.le_of_ble_eq_true rfl)) ?_
  refine t_isEvent hJ.n hJ.z ?_
  refine ew_Kr ?_
  refine ew_iload_n (pc := 6) dX2_runTime_6 rfl ?_
  refine ew_cS1 (d' := 1) (pc := 7) sX2_392 dX2_runTime_7 (by decide) (ew_rm (Nat.le_of_ble_eq_true rfl)) ?_
  refine t_isPolicy ?_
  refine ew_Kr ?_
  refine ew_cV2 (d' := 6) (pc := 10) vX2_398 (tw_ro _ _ _ _) dX2_runTime_10 (by decide) (ew_rm (Nat.le_of_ble_eq_true rfl)) ?_
  refine t_maySeeFor hJ (fun σ1 F1 h0 L1 => ?_)
  refine ew_Kr ?_
  refine ew_if_ne (pc := 13) (tgt := 18) dX2_runTime_13 (by decide) (fun c13 => ?_) (fun c13 => ?_)
  · have hp := se2_0.mp (bI_n.mp c13)
    have hn := (hJ.ok hp.1).e2
    have ha := (bI_n.mp hp.2.2.1).to (by omega)
    refine ew_aload_n (pc := 18) dX2_runTime_18 rfl ?_
    refine ew_iload_n (pc := 19) dX2_runTime_19 rfl ?_
    refine ew_iconst (pc := 20) (v := -1) dX2_runTime_20 rfl ?_
    refine ew_iconst (pc := 21) (v := 0) dX2_runTime_21 rfl ?_
    refine ew_cV3 (d' := 5) (pc := 22) vX2_395 (tw_ro _ _ _ _) dX2_runTime_22 (by decide) (ew_rm (Nat.le_of_ble_eq_true rfl)) ?_
    refine t_runs ((F1.a 16 rfl).trans hJ.n) (hJ.ok hp.1) (hK (hJ.ok hp.1) hp.2.1 p (-1) 0 (bI_n.mp hp.2.2.2) (by decide) (by decide)) (fun σ2 F2 T2 O2 _ => ?_)
    refine ew_Kr ?_
    refine ew_istore_n (pc := 25) dX2_runTime_25 rfl (by decide) (p1_3 rfl) ?_
    refine ew_aload_n (pc := 26) dX2_runTime_26 rfl ?_
    refine tg_g27 (pc := 27) rfl dX2_runTime_27 ?_
    refine ew_iload_n (pc := 30) dX2_runTime_30 rfl ?_
    refine tg_l27 (pc := 31) (j := ix a) ha.2 (by omega) dX2_runTime_31 ?_
    refine ew_iret (pc := 32) rfl dX2_runTime_32 ?_
    exact hq _ _ ⟨(F1.w rfl).u F2 rfl, (F2.s 0 rfl).trans h0, fun _ => T2 _ (by omega)⟩
  · refine ew_iconst (pc := 16) (v := 0) dX2_runTime_16 rfl ?_
    refine ew_iret (pc := 17) rfl dX2_runTime_17 ?_
    exact hq _ _ ⟨F1.w rfl, h0, fun h9 => absurd h9 (bI_0.mp c13)⟩
def rendV (T : Nat → Int32) : Nat → Int32
  | 0 => 0
  | e + 1 => jmax (rendV T e) (T e)
theorem o_runEnd {g : eg} {h : eh} {t : Nat} {σ : tS} {N : Nat → Int32} {p : Int32} {Q : Outcome → eh → Prop} (hJ : TJ σ N) (hK : okN N → RK N)
    (hq : ∀ σ' v, An SC σ (se1 (σ.1 21) (sB N) (bI (isIx 4 p))) (if (rnN N p (-1) 0).1 = -1 then rendV (rnN N p (-1) 0).2.1 (nE N) else -1) σ' v → Q (.returned (some (.int v))) (tw t σ' h)) : ew_T g kX2_runEnd 7 [.ref t, .int p] (tw t σ h) Q := by
  have main : ∀ σ' T, okN N → σ'.2 16 = N → AT (σ'.2 27) T → Q (.returned (some (.int (rendV T (nE N))))) (tw t σ' h) → ∀ m e, e + m = nE N → ew_G g kX2_runEnd 7 30 [.ref t, .int p, .int (rendV T e), .int (nI e)] [] (tw t σ' h) Q := by
    intro σ' T ok hN hT hq9 m
    have hn := ok.e2
    induction m with
    | zero =>
      intro e he
      have e9 : e = nE N := by omega
      subst e9
      refine ew_iload_n (pc := 30) dX2_runEnd_30 rfl ?_
      refine ew_aload_n (pc := 31) dX2_runEnd_31 rfl ?_
      refine ew_cV0 (d' := 0) (pc := 32) vX2_230 (tw_ro _ _ _ _) dX2_runEnd_32 (by decide) (ew_rm (Nat.le_of_ble_eq_true rfl)) ?_
      refine t_eventsN hN ok ?_
      refine ew_Kr ?_
      refine ew_icmp_ge (pc := 35) (tgt := 55) dX2_runEnd_35 (by decide) (fun c35 => ?_) (fun c35 => absurd (nI_le (Nat.le_refl _) (by omega)) c35)
      refine ew_iload_n (pc := 55) dX2_runEnd_55 rfl ?_
      refine ew_iret (pc := 56) rfl dX2_runEnd_56 ?_
      exact hq9
    | succ m ih =>
      intro e he
      refine ew_iload_n (pc := 30) dX2_runEnd_30 rfl ?_
      refine ew_aload_n (pc := 31) dX2_runEnd_31 rfl ?_
      refine ew_cV0 (d' := 0) (pc := 32) vX2_230 (tw_ro _ _ _ _) dX2_runEnd_32 (by decide) (ew_rm (Nat.le_of_ble_eq_true rfl)) ?_
      refine t_eventsN hN ok ?_
      refine ew_Kr ?_
      refine ew_icmp_ge (pc := 35) (tgt := 55) dX2_runEnd_35 (by decide) (fun c35 => absurd c35 (nI_ge (by omega) (by omega))) (fun c35 => ?_)
      refine ew_iload_n (pc := 38) dX2_runEnd_38 rfl ?_
      refine ew_aload_n (pc := 39) dX2_runEnd_39 rfl ?_
      refine tg_g27 (pc := 40) rfl dX2_runEnd_40 ?_
      refine ew_iload_n (pc := 43) dX2_runEnd_43 rfl ?_
      refine tg_l27 (pc := 44) (j := e) rfl (by omega) dX2_runEnd_44 ?_
      rw [hT e (by omega)]
      refine ew_mmax (pc := 45) (ew_q q3082) (ew_q q578) (ew_q q141) (ew_q q579) (ew_rm (Nat.le_of_ble_eq_true rfl)) dX2_runEnd_45 ?_
      refine ew_istore_n (pc := 48) dX2_runEnd_48 rfl (by decide) (p1_2 rfl) ?_
      refine ew_iinc (pc := 49) dX2_runEnd_49 rfl (nI_inc e) (by decide) (p1_3 rfl) ?_
      refine ew_goto (pc := 52) (tgt := 30) dX2_runEnd_52 (by decide) ?_
      exact ih (e + 1) (by omega)
  refine ew_enter (by decide +kernel) (ew_a1 rfl (ew_a1 rfl (ew_an (ew_an ew_az)))) (Nat.le_of_ble_eq_true rfl) ?_
  refine ew_aload_n (pc := 0) dX2_runEnd_0 rfl ?_
  refine ew_iload_n (pc := 1) dX2_runEnd_1 rfl ?_
  refine ew_cS1 (d' := 1) (pc := 2) sX2_392 dX2_runEnd_2 (by decide) (ew_rm (Nat.le_of_ble_eq_true rfl)) ?_
  refine t_isPolicy ?_
  refine ew_Kr ?_
  refine ew_cV1 (d' := 6) (pc := 5) vX2_314 (tw_ro _ _ _ _) dX2_runEnd_5 (by decide) (ew_rm (Nat.le_of_ble_eq_true rfl)) ?_
  refine t_maySee hJ (fun σ1 F1 h0 L1 => ?_)
  refine ew_Kr ?_
  refine ew_if_ne (pc := 8) (tgt := 13) dX2_runEnd_8 (by decide) (fun c8 => ?_) (fun c8 => ?_)
  · have hp := se1_0.mp (bI_n.mp c8)
    refine ew_aload_n (pc := 13) dX2_runEnd_13 rfl ?_
    refine ew_iload_n (pc := 14) dX2_runEnd_14 rfl ?_
    refine ew_iconst (pc := 15) (v := -1) dX2_runEnd_15 rfl ?_
    refine ew_iconst (pc := 16) (v := 0) dX2_runEnd_16 rfl ?_
    refine ew_cV3 (d' := 5) (pc := 17) vX2_395 (tw_ro _ _ _ _) dX2_runEnd_17 (by decide) (ew_rm (Nat.le_of_ble_eq_true rfl)) ?_
    refine t_runs ((F1.a 16 rfl).trans hJ.n) (hJ.ok hp.1) (hK (hJ.ok hp.1) hp.2.1 p (-1) 0 (bI_n.mp hp.2.2) (by decide) (by decide)) (fun σ2 F2 T2 O2 _ => ?_)
    refine ew_Kr ?_
    refine ew_iconst (pc := 20) (v := -1) dX2_runEnd_20 rfl ?_
    refine ew_icmp_eq (pc := 21) (tgt := 26) dX2_runEnd_21 (by decide) (fun c21 => ?_) (fun c21 => ?_)
    · refine ew_iconst (pc := 26) (v := 0) dX2_runEnd_26 rfl ?_
      refine ew_istore_n (pc := 27) dX2_runEnd_27 rfl (by decide) (p1_2 rfl) ?_
      refine ew_iconst (pc := 28) (v := 0) dX2_runEnd_28 rfl ?_
      refine ew_istore_n (pc := 29) dX2_runEnd_29 rfl (by decide) (p1_3 rfl) ?_
      exact main σ2 _ (hJ.ok hp.1) ((F2.a 16 rfl).trans ((F1.a 16 rfl).trans hJ.n)) T2 (hq _ _ ⟨(F1.w rfl).u F2 rfl, (F2.s 0 rfl).trans h0, fun _ => (if_pos c21).symm⟩) (nE N) 0 (by omega)
    · refine ew_iconst (pc := 24) (v := -1) dX2_runEnd_24 rfl ?_
      refine ew_iret (pc := 25) rfl dX2_runEnd_25 ?_
      exact hq _ _ ⟨(F1.w rfl).u F2 rfl, (F2.s 0 rfl).trans h0, fun _ => (if_neg c21).symm⟩
  · refine ew_iconst (pc := 11) (v := 0) dX2_runEnd_11 rfl ?_
    refine ew_iret (pc := 12) rfl dX2_runEnd_12 ?_
    exact hq _ _ ⟨F1.w rfl, h0, fun h9 => absurd h9 (bI_0.mp c8)⟩
/-- the greatest delay below k with which a run does not break -/
def spV (N : Nat → Int32) (p ev : Int32) : Nat → Int32
  | 0 => -1
  | k + 1 => if (rnN N p ev (nI k)).1 = -1 then nI k else spV N p ev k
theorem nI_dec (k : Nat) : nI (k + 1) + Int32.ofInt (-1) = nI k := by
  rw [nI_succ]
  rw [Int32.add_assoc, show (1 : Int32) + Int32.ofInt (-1) = 0 by decide]
  exact Int32.add_zero _
theorem t_spareOf {g : eg} {h : eh} {t : Nat} {σ : tS} {N : Nat → Int32} {p ev : Int32} {Q : Outcome → eh → Prop} (hN : σ.2 16 = N) (ok : okN N) (hG : ∀ dl : Int32, 0 ≤ dl → dl ≤ 99 → okG N p ev dl 11 (fun e => N (146 + e)))
    (hq : ∀ σ', Fq [23, 24, 25, 26, 27, 28, 29, 38, 39] σ σ' → Q (.returned (some (.int (spV N p ev 100)))) (tw t σ' h)) : ew_T g kX2_spareOf 6 [.ref t, .int p, .int ev] (tw t σ h) Q := by
  have l0 : ∀ σ', Fq [23, 24, 25, 26, 27, 28, 29, 38, 39] σ σ' → spV N p ev 0 = spV N p ev 100 → ew_G g kX2_spareOf 6 3 [.ref t, .int p, .int ev, .int (-1)] [] (tw t σ' h) Q := by
    intro σ' hF hs
    rw [spV] at hs
    refine ew_iload_n (pc := 3) dX2_spareOf_3 rfl ?_
    refine ew_if_lt (pc := 4) (tgt := 24) dX2_spareOf_4 (by decide) (fun c4 => ?_) (fun c4 => absurd (by decide) c4)
    refine ew_iload_n (pc := 24) dX2_spareOf_24 rfl ?_
    refine ew_iret (pc := 25) rfl dX2_spareOf_25 ?_
    rw [hs]
    exact hq σ' hF
  have main : ∀ k σ', k ≤ 99 → Fq [23, 24, 25, 26, 27, 28, 29, 38, 39] σ σ' → spV N p ev (k + 1) = spV N p ev 100 → ew_G g kX2_spareOf 6 3 [.ref t, .int p, .int ev, .int (nI k)] [] (tw t σ' h) Q := by
    intro k
    induction k with
    | zero =>
      intro σ' hk hF hs
      rw [spV] at hs
      refine ew_iload_n (pc := 3) dX2_spareOf_3 rfl ?_
      refine ew_if_lt (pc := 4) (tgt := 24) dX2_spareOf_4 (by decide) (fun c4 => absurd c4 (by decide)) (fun c4 => ?_)
      refine ew_aload_n (pc := 7) dX2_spareOf_7 rfl ?_
      refine ew_iload_n (pc := 8) dX2_spareOf_8 rfl ?_
      refine ew_iload_n (pc := 9) dX2_spareOf_9 rfl ?_
      refine ew_iload_n (pc := 10) dX2_spareOf_10 rfl ?_
      refine ew_cV3 (d' := 5) (pc := 11) vX2_395 (tw_ro _ _ _ _) dX2_spareOf_11 (by decide) (ew_rm (Nat.le_of_ble_eq_true rfl)) ?_
      refine t_runs ((hF.a 16 rfl).trans hN) ok (hG (nI 0) (by decide) (by decide)) (fun σ2 F2 T2 O2 _ => ?_)
      refine ew_Kr ?_
      refine ew_iconst (pc := 14) (v := -1) dX2_spareOf_14 rfl ?_
      refine ew_icmp_eq (pc := 15) (tgt := 24) dX2_spareOf_15 (by decide) (fun c15 => ?_) (fun c15 => ?_)
      · refine ew_iload_n (pc := 24) dX2_spareOf_24 rfl ?_
        refine ew_iret (pc := 25) rfl dX2_spareOf_25 ?_
        rw [if_pos c15] at hs
        rw [hs]
        exact hq σ2 (hF.t1 F2)
      · refine ew_iinc (pc := 18) dX2_spareOf_18 rfl rfl (by decide) (p1_3 rfl) ?_
        refine ew_goto (pc := 21) (tgt := 3) dX2_spareOf_21 (by decide) ?_
        rw [if_neg c15] at hs
        exact l0 σ2 (hF.t1 F2) hs
    | succ k ih =>
      intro σ' hk hF hs
      rw [spV] at hs
      have hz := nI_toInt (n := k + 1) (by omega)
      refine ew_iload_n (pc := 3) dX2_spareOf_3 rfl ?_
      refine ew_if_lt (pc := 4) (tgt := 24) dX2_spareOf_4 (by decide) (fun c4 => absurd c4 (nI_pos (by omega))) (fun c4 => ?_)
      refine ew_aload_n (pc := 7) dX2_spareOf_7 rfl ?_
      refine ew_iload_n (pc := 8) dX2_spareOf_8 rfl ?_
      refine ew_iload_n (pc := 9) dX2_spareOf_9 rfl ?_
      refine ew_iload_n (pc := 10) dX2_spareOf_10 rfl ?_
      refine ew_cV3 (d' := 5) (pc := 11) vX2_395 (tw_ro _ _ _ _) dX2_spareOf_11 (by decide) (ew_rm (Nat.le_of_ble_eq_true rfl)) ?_
      refine t_runs ((hF.a 16 rfl).trans hN) ok (hG (nI (k + 1)) (nI_pos' (by omega)) (nI_le (b := 99) (by omega) (by decide))) (fun σ2 F2 T2 O2 _ => ?_)
      refine ew_Kr ?_
      refine ew_iconst (pc := 14) (v := -1) dX2_spareOf_14 rfl ?_
      refine ew_icmp_eq (pc := 15) (tgt := 24) dX2_spareOf_15 (by decide) (fun c15 => ?_) (fun c15 => ?_)
      · refine ew_iload_n (pc := 24) dX2_spareOf_24 rfl ?_
        refine ew_iret (pc := 25) rfl dX2_spareOf_25 ?_
        rw [if_pos c15] at hs
        rw [hs]
        exact hq σ2 (hF.t1 F2)
      · refine ew_iinc (pc := 18) dX2_spareOf_18 rfl (nI_dec k) (by decide) (p1_3 rfl) ?_
        refine ew_goto (pc := 21) (tgt := 3) dX2_spareOf_21 (by decide) ?_
        rw [if_neg c15] at hs
        exact ih σ2 (by omega) (hF.t1 F2) hs
  refine ew_enter (by decide +kernel) (ew_a1 rfl (ew_a1 rfl (ew_a1 rfl (ew_an ew_az)))) (Nat.le_of_ble_eq_true rfl) ?_
  refine ew_bipush (pc := 0) (v := 99) dX2_spareOf_0 rfl ?_
  refine ew_istore_n (pc := 2) dX2_spareOf_2 rfl (by decide) (p1_3 rfl) ?_
  exact main 99 σ (by decide) (Fq.r _ σ) rfl
theorem o_spare {g : eg} {h : eh} {t : Nat} {σ : tS} {N : Nat → Int32} {p a : Int32} {Q : Outcome → eh → Prop} (hJ : TJ σ N) (hK : okN N → RK N)
    (hq : ∀ σ' v, An SC σ (se2 (σ.1 21) (sB N) (bI (isIx (nE N) a)) (bI (isIx 4 p ∧ isIx (nE N) a ∧ N (146 + ix a) = -1))) (spV N p a 100) σ' v → Q (.returned (some (.int v))) (tw t σ' h)) : ew_T g kX2_spare 7 [.ref t, .int p, .int a] (tw t σ h) Q := by
  have s40 : ∀ f, f = bI (isIx 4 p ∧ isIx (nE N) a ∧ N (146 + ix a) = -1) → ew_G g kX2_spare 7 40 [.ref t, .int p, .int a] [.int f, .int (bI (isIx (nE N) a)), .ref t] (tw t σ h) Q := by
    intro f hf
    rw [hf]
    refine ew_cV2 (d' := 6) (pc := 40) vX2_398 (tw_ro _ _ _ _) dX2_spare_40 (by decide) (ew_rm (Nat.le_of_ble_eq_true rfl)) ?_
    refine t_maySeeFor hJ (fun σ1 F1 h0 L1 => ?_)
    refine ew_Kr ?_
    refine ew_if_ne (pc := 43) (tgt := 48) dX2_spare_43 (by decide) (fun c43 => ?_) (fun c43 => ?_)
    · have hp := se2_0.mp (bI_n.mp c43)
      have hpi := bI_n.mp hp.2.2.2
      refine ew_aload_n (pc := 48) dX2_spare_48 rfl ?_
      refine ew_iload_n (pc := 49) dX2_spare_49 rfl ?_
      refine ew_iload_n (pc := 50) dX2_spare_50 rfl ?_
      refine ew_cV2 (d' := 6) (pc := 51) vX2_401 (tw_ro _ _ _ _) dX2_spare_51 (by decide) (ew_rm (Nat.le_of_ble_eq_true rfl)) ?_
      refine t_spareOf ((F1.a 16 rfl).trans hJ.n) (hJ.ok hp.1) (fun dl h1 h2 => hK (hJ.ok hp.1) hp.2.1 p a dl hpi.1 h1 h2) (fun σ2 F2 => ?_)
      refine ew_Kr ?_
      refine ew_iret (pc := 54) rfl dX2_spare_54 ?_
      exact hq _ _ ⟨(F1.w rfl).u F2 rfl, (F2.s 0 rfl).trans h0, fun _ => rfl⟩
    · refine ew_iconst (pc := 46) (v := 0) dX2_spare_46 rfl ?_
      refine ew_iret (pc := 47) rfl dX2_spare_47 ?_
      exact hq _ _ ⟨F1.w rfl, h0, fun h9 => absurd h9 (bI_0.mp c43)⟩
  refine ew_enter (by decide +kernel) (ew_a1 rfl (ew_a1 rfl (ew_a1 rfl ew_az))) (Nat.le_of_ble_eq_true rfl) ?_
  refine ew_aload_n (pc := 0) dX2_spare_0 rfl ?_
  refine ew_aload_n (pc := 1) dX2_spare_1 rfl ?_
  refine ew_iload_n (pc := 2) dX2_spare_2 rfl ?_
  refine ew_cV1 (d' := 1) (pc := 3) vX2_288 (tw_ro _ _ _ _) dX2_spare_3 (by decide) (ew_rm (Nat.le_of_ble_eq_true rfl)) ?_
  refine t_isEvent hJ.n hJ.z ?_
  refine ew_Kr ?_
  refine ew_iload_n (pc := 6) dX2_spare_6 rfl ?_
  refine ew_cS1 (d' := 1) (pc := 7) sX2_392 dX2_spare_7 (by decide) (ew_rm (Nat.le_of_ble_eq_true rfl)) ?_
  refine t_isPolicy ?_
  refine ew_Kr ?_
  refine ew_if_eq (pc := 10) (tgt := 39) dX2_spare_10 (by decide) (fun c10 => ?_) (fun c10 => ?_)
  · refine ew_iconst (pc := 39) (v := 0) dX2_spare_39 rfl ?_
    first
    | exact s40 _ (bI_T ⟨bI_n.mp c10, bI_n.mp c18, (congrFun hJ.n _).symm.trans c32⟩)
    | exact s40 _ (bI_F (fun h9 => c32 ((congrFun hJ.n _).trans h9.2.2)))
    | exact s40 _ (bI_F (fun h9 => bI_0.mp c18 h9.2.1))
    | exact s40 _ (bI_F (fun h9 => bI_0.mp c10 h9.1))
  · refine ew_aload_n (pc := 13) dX2_spare_13 rfl ?_
    refine ew_iload_n (pc := 14) dX2_spare_14 rfl ?_
    refine ew_cV1 (d' := 1) (pc := 15) vX2_288 (tw_ro _ _ _ _) dX2_spare_15 (by decide) (ew_rm (Nat.le_of_ble_eq_true rfl)) ?_
    refine t_isEvent hJ.n hJ.z ?_
    refine ew_Kr ?_
    refine ew_if_eq (pc := 18) (tgt := 39) dX2_spare_18 (by decide) (fun c18 => ?_) (fun c18 => ?_)
    · refine ew_iconst (pc := 39) (v := 0) dX2_spare_39 rfl ?_
      first
      | exact s40 _ (bI_T ⟨bI_n.mp c10, bI_n.mp c18, (congrFun hJ.n _).symm.trans c32⟩)
      | exact s40 _ (bI_F (fun h9 => c32 ((congrFun hJ.n _).trans h9.2.2)))
      | exact s40 _ (bI_F (fun h9 => bI_0.mp c18 h9.2.1))
      | exact s40 _ (bI_F (fun h9 => bI_0.mp c10 h9.1))
    · have hn : nE N ≤ 10 := hJ.z.2.1
      have ha := (bI_n.mp c18).to (by omega)
      refine ew_aload_n (pc := 21) dX2_spare_21 rfl ?_
      refine tg_g16 (pc := 22) rfl dX2_spare_22 ?_
      refine ew_sipush (pc := 25) (v := 146) dX2_spare_25 rfl ?_
      refine ew_iload_n (pc := 28) dX2_spare_28 rfl ?_
      refine ew_iadd (pc := 29) dX2_spare_29 ?_
      refine tg_l16 (pc := 30) (j := 146 + ix a) (by rw [ha.2, ix_nI (by omega), show (146 : Int32) = nI 146 from rfl, nI_add]) (by omega) dX2_spare_30 ?_
      refine ew_iconst (pc := 31) (v := -1) dX2_spare_31 rfl ?_
      refine ew_icmp_ne (pc := 32) (tgt := 39) dX2_spare_32 (by decide) (fun c32 => ?_) (fun c32 => ?_)
      · refine ew_iconst (pc := 39) (v := 0) dX2_spare_39 rfl ?_
        first
        | exact s40 _ (bI_T ⟨bI_n.mp c10, bI_n.mp c18, (congrFun hJ.n _).symm.trans c32⟩)
        | exact s40 _ (bI_F (fun h9 => c32 ((congrFun hJ.n _).trans h9.2.2)))
        | exact s40 _ (bI_F (fun h9 => bI_0.mp c18 h9.2.1))
        | exact s40 _ (bI_F (fun h9 => bI_0.mp c10 h9.1))
      · refine ew_iconst (pc := 35) (v := 1) dX2_spare_35 rfl ?_
        refine ew_goto (pc := 36) (tgt := 40) dX2_spare_36 (by decide) ?_
        first
        | exact s40 _ (bI_T ⟨bI_n.mp c10, bI_n.mp c18, (congrFun hJ.n _).symm.trans c32⟩)
        | exact s40 _ (bI_F (fun h9 => c32 ((congrFun hJ.n _).trans h9.2.2)))
        | exact s40 _ (bI_F (fun h9 => bI_0.mp c18 h9.2.1))
        | exact s40 _ (bI_F (fun h9 => bI_0.mp c10 h9.1))
/-- the weakest event below m and what it can spare -/
def wkT (N : Nat → Int32) (p : Int32) (e : Nat) (s : Int32 × Int32) : Int32 × Int32 := if ¬ N (146 + e) = -1 ∨ (¬ s.1 = -1 ∧ s.2 ≤ spV N p (nI e) 100) then s else (nI e, spV N p (nI e) 100)
def wkS (N : Nat → Int32) (p : Int32) : Nat → Int32 × Int32
  | 0 => (-1, 0)
  | e + 1 => wkT N p e (wkS N p e)
theorem o_weakest {g : eg} {h : eh} {t : Nat} {σ : tS} {N : Nat → Int32} {p : Int32} {Q : Outcome → eh → Prop} (hJ : TJ σ N) (hK : okN N → RK N)
    (hq : ∀ σ' v, An SC σ (se1 (σ.1 21) (sB N) (bI (isIx 4 p))) (wkS N p (nE N)).1 σ' v → Q (.returned (some (.int v))) (tw t σ' h)) : ew_T g kX2_weakest 7 [.ref t, .int p] (tw t σ h) Q := by
  have main : okN N → (∀ (ev dl : Int32), 0 ≤ dl → dl ≤ 99 → okG N p ev dl 11 (fun e => N (146 + e))) → ∀ σ1, σ1.2 16 = N → (∀ σ', Fq [23, 24, 25, 26, 27, 28, 29, 38, 39] σ1 σ' → Q (.returned (some (.int (wkS N p (nE N)).1))) (tw t σ' h)) → ∀ m e σ' x5, e + m = nE N → Fq [23, 24, 25, 26, 27, 28, 29, 38, 39] σ1 σ' → ew_G g kX2_weakest 7 20 [.ref t, .int p, .int (wkS N p e).1, .int (wkS N p e).2, .int (nI e), x5] [] (tw t σ' h) Q := by
    intro ok hG σ1 hN hq9 m
    have hn := ok.e2
    induction m with
    | zero =>
      intro e σ' x5 he hF
      have e9 : e = nE N := by omega
      subst e9
      refine ew_iload (pc := 20) dX2_weakest_20 rfl ?_
      refine ew_aload_n (pc := 22) dX2_weakest_22 rfl ?_
      refine ew_cV0 (d' := 0) (pc := 23) vX2_230 (tw_ro _ _ _ _) dX2_weakest_23 (by decide) (ew_rm (Nat.le_of_ble_eq_true rfl)) ?_
      refine t_eventsN ((hF.a 16 rfl).trans hN) ok ?_
      refine ew_Kr ?_
      refine ew_icmp_ge (pc := 26) (tgt := 82) dX2_weakest_26 (by decide) (fun c26 => ?_) (fun c26 => absurd (nI_le (Nat.le_refl _) (by omega)) c26)
      refine ew_iload_n (pc := 82) dX2_weakest_82 rfl ?_
      refine ew_iret (pc := 83) rfl dX2_weakest_83 ?_
      exact hq9 σ' hF
    | succ m ih =>
      intro e σ' x5 he hF
      have hN1 := (hF.a 16 rfl).trans hN
      have ih1 := ih (e + 1)
      rw [wkS, wkT] at ih1
      refine ew_iload (pc := 20) dX2_weakest_20 rfl ?_
      refine ew_aload_n (pc := 22) dX2_weakest_22 rfl ?_
      refine ew_cV0 (d' := 0) (pc := 23) vX2_230 (tw_ro _ _ _ _) dX2_weakest_23 (by decide) (ew_rm (Nat.le_of_ble_eq_true rfl)) ?_
      refine t_eventsN hN1 ok ?_
      refine ew_Kr ?_
      refine ew_icmp_ge (pc := 26) (tgt := 82) dX2_weakest_26 (by decide) (fun c26 => absurd c26 (nI_ge (by omega) (by omega))) (fun c26 => ?_)
      refine ew_aload_n (pc := 29) dX2_weakest_29 rfl ?_
      refine tg_g16 (pc := 30) rfl dX2_weakest_30 ?_
      refine ew_sipush (pc := 33) (v := 146) dX2_weakest_33 rfl ?_
      refine ew_iload (pc := 36) dX2_weakest_36 rfl ?_
      refine ew_iadd (pc := 38) dX2_weakest_38 ?_
      refine tg_l16 (pc := 39) (j := 146 + e) (by rw [show (146 : Int32) = nI 146 from rfl, nI_add]) (by omega) dX2_weakest_39 ?_
      refine ew_iconst (pc := 40) (v := -1) dX2_weakest_40 rfl ?_
      rw [hN1]
      refine ew_icmp_eq (pc := 41) (tgt := 47) dX2_weakest_41 (by decide) (fun c41 => ?_) (fun c41 => ?_)
      · refine ew_aload_n (pc := 47) dX2_weakest_47 rfl ?_
        refine ew_iload_n (pc := 48) dX2_weakest_48 rfl ?_
        refine ew_iload (pc := 49) dX2_weakest_49 rfl ?_
        refine ew_cV2 (d' := 6) (pc := 51) vX2_401 (tw_ro _ _ _ _) dX2_weakest_51 (by decide) (ew_rm (Nat.le_of_ble_eq_true rfl)) ?_
        refine t_spareOf hN1 ok (fun dl h1 h2 => hG (nI e) dl h1 h2) (fun σ2 F2 => ?_)
        refine ew_Kr ?_
        refine ew_istore (pc := 54) dX2_weakest_54 (by decide) (p1_5 rfl) ?_
        refine ew_iload_n (pc := 56) dX2_weakest_56 rfl ?_
        refine ew_iconst (pc := 57) (v := -1) dX2_weakest_57 rfl ?_
        refine ew_icmp_eq (pc := 58) (tgt := 70) dX2_weakest_58 (by decide) (fun c58 => ?_) (fun c58 => ?_)
        · refine ew_iload (pc := 70) dX2_weakest_70 rfl ?_
          refine ew_istore_n (pc := 72) dX2_weakest_72 rfl (by decide) (p1_2 rfl) ?_
          refine ew_iload (pc := 73) dX2_weakest_73 rfl ?_
          refine ew_istore_n (pc := 75) dX2_weakest_75 rfl (by decide) (p1_3 rfl) ?_
          refine ew_iinc (pc := 76) dX2_weakest_76 rfl (nI_inc e) (by decide) (p1_4 rfl) ?_
          refine ew_goto (pc := 79) (tgt := 20) dX2_weakest_79 (by decide) ?_
          first
          | rw [if_pos (show ¬ N (146 + e) = -1 ∨ (¬ (wkS N p e).1 = -1 ∧ (wkS N p e).2 ≤ spV N p (nI e) 100) from Or.inl c41)] at ih1
            exact ih1 σ' _ (by omega) hF
          | rw [if_pos (show ¬ N (146 + e) = -1 ∨ (¬ (wkS N p e).1 = -1 ∧ (wkS N p e).2 ≤ spV N p (nI e) 100) from Or.inr ⟨c58, Int32.not_lt.mp c64⟩)] at ih1
            exact ih1 σ2 _ (by omega) (hF.t1 F2)
          | rw [if_neg (show ¬ (¬ N (146 + e) = -1 ∨ (¬ (wkS N p e).1 = -1 ∧ (wkS N p e).2 ≤ spV N p (nI e) 100)) from fun h9 => h9.elim (fun h8 => h8 c41) (fun h8 => by first | exact h8.1 c58 | exact absurd h8.2 (Int32.not_le.mpr c64)))] at ih1
            exact ih1 σ2 _ (by omega) (hF.t1 F2)
        · refine ew_iload (pc := 61) dX2_weakest_61 rfl ?_
          refine ew_iload_n (pc := 63) dX2_weakest_63 rfl ?_
          refine ew_icmp_lt (pc := 64) (tgt := 70) dX2_weakest_64 (by decide) (fun c64 => ?_) (fun c64 => ?_)
          · refine ew_iload (pc := 70) dX2_weakest_70 rfl ?_
            refine ew_istore_n (pc := 72) dX2_weakest_72 rfl (by decide) (p1_2 rfl) ?_
            refine ew_iload (pc := 73) dX2_weakest_73 rfl ?_
            refine ew_istore_n (pc := 75) dX2_weakest_75 rfl (by decide) (p1_3 rfl) ?_
            refine ew_iinc (pc := 76) dX2_weakest_76 rfl (nI_inc e) (by decide) (p1_4 rfl) ?_
            refine ew_goto (pc := 79) (tgt := 20) dX2_weakest_79 (by decide) ?_
            first
            | rw [if_pos (show ¬ N (146 + e) = -1 ∨ (¬ (wkS N p e).1 = -1 ∧ (wkS N p e).2 ≤ spV N p (nI e) 100) from Or.inl c41)] at ih1
              exact ih1 σ' _ (by omega) hF
            | rw [if_pos (show ¬ N (146 + e) = -1 ∨ (¬ (wkS N p e).1 = -1 ∧ (wkS N p e).2 ≤ spV N p (nI e) 100) from Or.inr ⟨c58, Int32.not_lt.mp c64⟩)] at ih1
              exact ih1 σ2 _ (by omega) (hF.t1 F2)
            | rw [if_neg (show ¬ (¬ N (146 + e) = -1 ∨ (¬ (wkS N p e).1 = -1 ∧ (wkS N p e).2 ≤ spV N p (nI e) 100)) from fun h9 => h9.elim (fun h8 => h8 c41) (fun h8 => by first | exact h8.1 c58 | exact absurd h8.2 (Int32.not_le.mpr c64)))] at ih1
              exact ih1 σ2 _ (by omega) (hF.t1 F2)
          · refine ew_goto (pc := 67) (tgt := 76) dX2_weakest_67 (by decide) ?_
            refine ew_iinc (pc := 76) dX2_weakest_76 rfl (nI_inc e) (by decide) (p1_4 rfl) ?_
            refine ew_goto (pc := 79) (tgt := 20) dX2_weakest_79 (by decide) ?_
            first
            | rw [if_pos (show ¬ N (146 + e) = -1 ∨ (¬ (wkS N p e).1 = -1 ∧ (wkS N p e).2 ≤ spV N p (nI e) 100) from Or.inl c41)] at ih1
              exact ih1 σ' _ (by omega) hF
            | rw [if_pos (show ¬ N (146 + e) = -1 ∨ (¬ (wkS N p e).1 = -1 ∧ (wkS N p e).2 ≤ spV N p (nI e) 100) from Or.inr ⟨c58, Int32.not_lt.mp c64⟩)] at ih1
              exact ih1 σ2 _ (by omega) (hF.t1 F2)
            | rw [if_neg (show ¬ (¬ N (146 + e) = -1 ∨ (¬ (wkS N p e).1 = -1 ∧ (wkS N p e).2 ≤ spV N p (nI e) 100)) from fun h9 => h9.elim (fun h8 => h8 c41) (fun h8 => by first | exact h8.1 c58 | exact absurd h8.2 (Int32.not_le.mpr c64)))] at ih1
              exact ih1 σ2 _ (by omega) (hF.t1 F2)
      · refine ew_goto (pc := 44) (tgt := 76) dX2_weakest_44 (by decide) ?_
        refine ew_iinc (pc := 76) dX2_weakest_76 rfl (nI_inc e) (by decide) (p1_4 rfl) ?_
        refine ew_goto (pc := 79) (tgt := 20) dX2_weakest_79 (by decide) ?_
        first
        | rw [if_pos (show ¬ N (146 + e) = -1 ∨ (¬ (wkS N p e).1 = -1 ∧ (wkS N p e).2 ≤ spV N p (nI e) 100) from Or.inl c41)] at ih1
          exact ih1 σ' _ (by omega) hF
        | rw [if_pos (show ¬ N (146 + e) = -1 ∨ (¬ (wkS N p e).1 = -1 ∧ (wkS N p e).2 ≤ spV N p (nI e) 100) from Or.inr ⟨c58, Int32.not_lt.mp c64⟩)] at ih1
          exact ih1 σ2 _ (by omega) (hF.t1 F2)
        | rw [if_neg (show ¬ (¬ N (146 + e) = -1 ∨ (¬ (wkS N p e).1 = -1 ∧ (wkS N p e).2 ≤ spV N p (nI e) 100)) from fun h9 => h9.elim (fun h8 => h8 c41) (fun h8 => by first | exact h8.1 c58 | exact absurd h8.2 (Int32.not_le.mpr c64)))] at ih1
          exact ih1 σ2 _ (by omega) (hF.t1 F2)
  refine ew_enter (by decide +kernel) (ew_a1 rfl (ew_a1 rfl (ew_an (ew_an (ew_an (ew_an ew_az)))))) (Nat.le_of_ble_eq_true rfl) ?_
  refine ew_aload_n (pc := 0) dX2_weakest_0 rfl ?_
  refine ew_iload_n (pc := 1) dX2_weakest_1 rfl ?_
  refine ew_cS1 (d' := 1) (pc := 2) sX2_392 dX2_weakest_2 (by decide) (ew_rm (Nat.le_of_ble_eq_true rfl)) ?_
  refine t_isPolicy ?_
  refine ew_Kr ?_
  refine ew_cV1 (d' := 6) (pc := 5) vX2_314 (tw_ro _ _ _ _) dX2_weakest_5 (by decide) (ew_rm (Nat.le_of_ble_eq_true rfl)) ?_
  refine t_maySee hJ (fun σ1 F1 h0 L1 => ?_)
  refine ew_Kr ?_
  refine ew_if_ne (pc := 8) (tgt := 13) dX2_weakest_8 (by decide) (fun c8 => ?_) (fun c8 => ?_)
  · refine ew_iconst (pc := 13) (v := -1) dX2_weakest_13 rfl ?_
    refine ew_istore_n (pc := 14) dX2_weakest_14 rfl (by decide) (p1_2 rfl) ?_
    refine ew_iconst (pc := 15) (v := 0) dX2_weakest_15 rfl ?_
    refine ew_istore_n (pc := 16) dX2_weakest_16 rfl (by decide) (p1_3 rfl) ?_
    refine ew_iconst (pc := 17) (v := 0) dX2_weakest_17 rfl ?_
    refine ew_istore (pc := 18) dX2_weakest_18 (by decide) (p1_4 rfl) ?_
    have hp := se1_0.mp (bI_n.mp c8)
    exact main (hJ.ok hp.1) (fun ev dl h1 h2 => hK (hJ.ok hp.1) hp.2.1 p ev dl (bI_n.mp hp.2.2) h1 h2) σ1 ((F1.a 16 rfl).trans hJ.n) (fun σ' F' => hq _ _ ⟨(F1.w rfl).u F' rfl, (F'.s 0 rfl).trans h0, fun _ => rfl⟩) (nE N) 0 σ1 _ (by omega) (Fq.r _ _)
  · refine ew_iconst (pc := 11) (v := 0) dX2_weakest_11 rfl ?_
    refine ew_iret (pc := 12) rfl dX2_weakest_12 ?_
    exact hq _ _ ⟨F1.w rfl, h0, fun h9 => absurd h9 (bI_0.mp c8)⟩
