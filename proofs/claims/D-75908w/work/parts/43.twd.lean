/-! EW: the reference: what would mend -/
set_option maxRecDepth 100000
def wcode (w : Nat) (lw : Int32) : Int32 := if lw = 0 then nI (2 * w) else nI (2 * w + 1)
def widR (N : Nat → Int32) (w : Nat) (lw : Int32) (F : Nat → Int32) : Int32 := if lw = 0 then -F (10 * fB N w + fA N w) else F (10 * fA N w + fB N w)
def widU (N : Nat → Int32) (w : Nat) (lw x : Int32) : Int32 := if 0 ≤ x ∧ x ≤ 999 then (if lw = 0 then x - N (2 + 6 * w + 3) else N (2 + 6 * w + 2) - x) else -1
/-- by how much a bound of a window would have to be wider -/
def widV (N : Nat → Int32) (w : Nat) (lw : Int32) : Int32 :=
  if N (2 + 6 * w + 5) = 1 ∨ (lw = 0 ∧ N (2 + 6 * w + 3) = -1) then -1
  else if cB (nE N) (eN N 0 (wcode w lw)) = true then widU N w lw (widR N w lw (cF (nE N) (eN N 0 (wcode w lw)))) else -1
theorem t_wideningOf {g : eg} {h : eh} {t w : Nat} {σ : tS} {N : Nat → Int32} {lw : Int32} {Q : Outcome → eh → Prop} (hN : σ.2 16 = N) (ok : okN N) (hT : TN N (σ.2 27)) (hw : w < nW N)
    (hq : ∀ σ', Fq [23, 24, 25, 26, 28, 29] σ σ' → Q (.returned (some (.int (widV N w lw)))) (tw t σ' h)) : ew_T g kX2_wideningOf 5 [.ref t, .int (nI w), .int lw] (tw t σ h) Q := by
  have hw2 := ok.w2
  have hn2 := ok.e2
  have hal := ok.al w hw
  have hbl := ok.bl w hw
  rw [widV] at hq
  have hc : 2 * nI w + (if lw = 0 then 0 else 1) = wcode w lw := by
    rw [wcode, show (2 : Int32) = nI 2 from rfl, nI_mul]
    by_cases h9 : lw = 0
    · rw [if_pos h9, if_pos h9]; exact Int32.add_zero _
    · rw [if_neg h9, if_neg h9, nI_1]
  refine ew_enter (by decide +kernel) (ew_a1 rfl (ew_a1 rfl (ew_a1 rfl (ew_an (ew_an (ew_an (ew_an ew_az))))))) (Nat.le_of_ble_eq_true rfl) ?_
  by_cases hl : lw = 0
  · rw [if_pos hl] at hc
    refine ew_aload_n (pc := 0) dX2_wideningOf_0 rfl ?_
    refine ew_iload_n (pc := 1) dX2_wideningOf_1 rfl ?_
    refine ew_cV1 (d' := 2) (pc := 2) vX2_223 (tw_ro _ _ _ _) dX2_wideningOf_2 (by decide) (ew_rm (Nat.le_of_ble_eq_true rfl)) ?_
    refine t_isDroppedN hN (by omega) ?_
    refine ew_Kr ?_
    refine ew_if_ne (pc := 5) (tgt := 22) dX2_wideningOf_5 (by decide) (fun c5 => ?_) (fun c5 => ?_)
    · refine ew_iconst (pc := 22) (v := -1) dX2_wideningOf_22 rfl ?_
      refine ew_iret (pc := 23) rfl dX2_wideningOf_23 ?_
      first
      | rw [if_pos (Or.inl (bI_n.mp c5))] at hq
        exact hq σ (Fq.r _ σ)
      | rw [if_pos (Or.inr ⟨hl, c19⟩)] at hq
        exact hq σ (Fq.r _ σ)
    · refine ew_iload_n (pc := 8) dX2_wideningOf_8 rfl ?_
      refine ew_if_ne (pc := 9) (tgt := 24) dX2_wideningOf_9 (by decide) (fun c9 => absurd hl c9) (fun c9 => ?_)
      refine ew_aload_n (pc := 12) dX2_wideningOf_12 rfl ?_
      refine ew_iload_n (pc := 13) dX2_wideningOf_13 rfl ?_
      refine ew_iconst (pc := 14) (v := 3) dX2_wideningOf_14 rfl ?_
      refine ew_cV2 (d' := 1) (pc := 15) vX2_214 (tw_ro _ _ _ _) dX2_wideningOf_15 (by decide) (ew_rm (Nat.le_of_ble_eq_true rfl)) ?_
      refine t_ofN (i := 3) hN (by omega) (by decide) ?_
      refine ew_Kr ?_
      refine ew_iconst (pc := 18) (v := -1) dX2_wideningOf_18 rfl ?_
      refine ew_icmp_ne (pc := 19) (tgt := 24) dX2_wideningOf_19 (by decide) (fun c19 => ?_) (fun c19 => ?_)
      · refine ew_aload_n (pc := 24) dX2_wideningOf_24 rfl ?_
        refine ew_iconst (pc := 25) (v := 0) dX2_wideningOf_25 rfl ?_
        refine ew_iconst (pc := 26) (v := 2) dX2_wideningOf_26 rfl ?_
        refine ew_iload_n (pc := 27) dX2_wideningOf_27 rfl ?_
        refine ew_imul (pc := 28) dX2_wideningOf_28 ?_
        refine ew_iload_n (pc := 29) dX2_wideningOf_29 rfl ?_
        refine ew_if_eq (pc := 30) (tgt := 37) dX2_wideningOf_30 (by decide) (fun c30 => ?_) (fun c30 => absurd hl c30)
        refine ew_iconst (pc := 37) (v := 0) dX2_wideningOf_37 rfl ?_
        refine ew_iadd (pc := 38) dX2_wideningOf_38 ?_
        rw [hc]
        rw [if_neg (show ¬ (N (2 + 6 * w + 5) = 1 ∨ (lw = 0 ∧ N (2 + 6 * w + 3) = -1)) from fun h9 => h9.elim (bI_0.mp c5) (fun h8 => c19 h8.2))] at hq
        refine ew_cV2 (d' := 4) (pc := 39) vX2_257 (tw_ro _ _ _ _) dX2_wideningOf_39 (by decide) (ew_rm (Nat.le_of_ble_eq_true rfl)) ?_
        refine t_boundsWithout hN rfl ok (fun σ1 b F1 S1 B1 => ?_)
        rw [eN_T ok hT] at B1
        have hc := B1.c ok.e2 (eAll_ok ok)
        rw [hc.1]
        refine ew_Kr ?_
        refine ew_if_ne (pc := 42) (tgt := 47) dX2_wideningOf_42 (by decide) (fun c42 => ?_) (fun c42 => ?_)
        · rw [if_pos (show cB (nE N) (eN N 0 (wcode w lw)) = true from bI_n.mp c42), widU, widR, if_pos hl, if_pos hl] at hq
          refine ew_aload_n (pc := 47) dX2_wideningOf_47 rfl ?_
          refine ew_iload_n (pc := 48) dX2_wideningOf_48 rfl ?_
          refine ew_iconst (pc := 49) (v := 0) dX2_wideningOf_49 rfl ?_
          refine ew_cV2 (d' := 1) (pc := 50) vX2_214 (tw_ro _ _ _ _) dX2_wideningOf_50 (by decide) (ew_rm (Nat.le_of_ble_eq_true rfl)) ?_
          refine t_ofN (i := 0) ((F1.a 16 rfl).trans hN) (by omega) (by decide) ?_
          rw [ok.a w hw]
          refine ew_Kr ?_
          refine ew_istore_n (pc := 53) dX2_wideningOf_53 rfl (by decide) (p1_3 rfl) ?_
          refine ew_aload_n (pc := 54) dX2_wideningOf_54 rfl ?_
          refine ew_iload_n (pc := 55) dX2_wideningOf_55 rfl ?_
          refine ew_iconst (pc := 56) (v := 1) dX2_wideningOf_56 rfl ?_
          refine ew_cV2 (d' := 1) (pc := 57) vX2_214 (tw_ro _ _ _ _) dX2_wideningOf_57 (by decide) (ew_rm (Nat.le_of_ble_eq_true rfl)) ?_
          refine t_ofN (i := 1) ((F1.a 16 rfl).trans hN) (by omega) (by decide) ?_
          rw [ok.b w hw]
          refine ew_Kr ?_
          refine ew_istore (pc := 60) dX2_wideningOf_60 (by decide) (p1_4 rfl) ?_
          refine ew_iload_n (pc := 62) dX2_wideningOf_62 rfl ?_
          refine ew_if_eq (pc := 63) (tgt := 76) dX2_wideningOf_63 (by decide) (fun c63 => ?_) (fun c63 => absurd hl c63)
          refine ew_aload_n (pc := 76) dX2_wideningOf_76 rfl ?_
          refine ew_iload (pc := 77) dX2_wideningOf_77 rfl ?_
          refine ew_iload_n (pc := 79) dX2_wideningOf_79 rfl ?_
          refine ew_cV2 (d' := 0) (pc := 80) vX2_233 (tw_ro _ _ _ _) dX2_wideningOf_80 (by decide) (ew_rm (Nat.le_of_ble_eq_true rfl)) ?_
          refine t_boundF hc.2 (by omega) (by omega) ?_
          refine ew_Kr ?_
          refine ew_istore (pc := 83) dX2_wideningOf_83 (by decide) (p1_5 rfl) ?_
          refine ew_iload_n (pc := 85) dX2_wideningOf_85 rfl ?_
          refine ew_if_eq (pc := 86) (tgt := 94) dX2_wideningOf_86 (by decide) (fun c86 => ?_) (fun c86 => absurd hl c86)
          refine ew_iload (pc := 94) dX2_wideningOf_94 rfl ?_
          refine ew_ineg (pc := 96) dX2_wideningOf_96 ?_
          refine ew_istore (pc := 97) dX2_wideningOf_97 (by decide) (p1_6 rfl) ?_
          refine ew_iload (pc := 99) dX2_wideningOf_99 rfl ?_
          refine ew_iconst (pc := 101) (v := 0) dX2_wideningOf_101 rfl ?_
          refine ew_sipush (pc := 102) (v := 999) dX2_wideningOf_102 rfl ?_
          refine ew_cS3 (d' := 0) (pc := 105) sX2_102 dX2_wideningOf_105 (by decide) (ew_rm (Nat.le_of_ble_eq_true rfl)) ?_
          refine t_inT ?_
          refine ew_Kr ?_
          refine ew_if_ne (pc := 108) (tgt := 113) dX2_wideningOf_108 (by decide) (fun c108 => ?_) (fun c108 => ?_)
          · refine ew_iload_n (pc := 113) dX2_wideningOf_113 rfl ?_
            refine ew_if_eq (pc := 114) (tgt := 129) dX2_wideningOf_114 (by decide) (fun c114 => ?_) (fun c114 => absurd hl c114)
            refine ew_iload (pc := 129) dX2_wideningOf_129 rfl ?_
            refine ew_aload_n (pc := 131) dX2_wideningOf_131 rfl ?_
            refine ew_iload_n (pc := 132) dX2_wideningOf_132 rfl ?_
            refine ew_iconst (pc := 133) (v := 3) dX2_wideningOf_133 rfl ?_
            refine ew_cV2 (d' := 1) (pc := 134) vX2_214 (tw_ro _ _ _ _) dX2_wideningOf_134 (by decide) (ew_rm (Nat.le_of_ble_eq_true rfl)) ?_
            refine t_ofN (i := 3) ((F1.a 16 rfl).trans hN) (by omega) (by decide) ?_
            refine ew_Kr ?_
            refine ew_isub (pc := 137) dX2_wideningOf_137 ?_
            refine ew_iret (pc := 138) rfl dX2_wideningOf_138 ?_
            rw [if_pos (bI_n.mp c108)] at hq
            exact hq σ1 F1
          · refine ew_iconst (pc := 111) (v := -1) dX2_wideningOf_111 rfl ?_
            refine ew_iret (pc := 112) rfl dX2_wideningOf_112 ?_
            rw [if_neg (bI_0.mp c108)] at hq
            exact hq σ1 F1
        · refine ew_iconst (pc := 45) (v := -1) dX2_wideningOf_45 rfl ?_
          refine ew_iret (pc := 46) rfl dX2_wideningOf_46 ?_
          rw [if_neg (show ¬ cB (nE N) (eN N 0 (wcode w lw)) = true from bI_0.mp c42)] at hq
          exact hq σ1 F1
      · refine ew_iconst (pc := 22) (v := -1) dX2_wideningOf_22 rfl ?_
        refine ew_iret (pc := 23) rfl dX2_wideningOf_23 ?_
        first
        | rw [if_pos (Or.inl (bI_n.mp c5))] at hq
          exact hq σ (Fq.r _ σ)
        | rw [if_pos (Or.inr ⟨hl, c19⟩)] at hq
          exact hq σ (Fq.r _ σ)
  · rw [if_neg hl] at hc
    refine ew_aload_n (pc := 0) dX2_wideningOf_0 rfl ?_
    refine ew_iload_n (pc := 1) dX2_wideningOf_1 rfl ?_
    refine ew_cV1 (d' := 2) (pc := 2) vX2_223 (tw_ro _ _ _ _) dX2_wideningOf_2 (by decide) (ew_rm (Nat.le_of_ble_eq_true rfl)) ?_
    refine t_isDroppedN hN (by omega) ?_
    refine ew_Kr ?_
    refine ew_if_ne (pc := 5) (tgt := 22) dX2_wideningOf_5 (by decide) (fun c5 => ?_) (fun c5 => ?_)
    · refine ew_iconst (pc := 22) (v := -1) dX2_wideningOf_22 rfl ?_
      refine ew_iret (pc := 23) rfl dX2_wideningOf_23 ?_
      first
      | rw [if_pos (Or.inl (bI_n.mp c5))] at hq
        exact hq σ (Fq.r _ σ)
      | rw [if_pos (Or.inr ⟨hl, c19⟩)] at hq
        exact hq σ (Fq.r _ σ)
    · refine ew_iload_n (pc := 8) dX2_wideningOf_8 rfl ?_
      refine ew_if_ne (pc := 9) (tgt := 24) dX2_wideningOf_9 (by decide) (fun c9 => ?_) (fun c9 => absurd c9 hl)
      refine ew_aload_n (pc := 24) dX2_wideningOf_24 rfl ?_
      refine ew_iconst (pc := 25) (v := 0) dX2_wideningOf_25 rfl ?_
      refine ew_iconst (pc := 26) (v := 2) dX2_wideningOf_26 rfl ?_
      refine ew_iload_n (pc := 27) dX2_wideningOf_27 rfl ?_
      refine ew_imul (pc := 28) dX2_wideningOf_28 ?_
      refine ew_iload_n (pc := 29) dX2_wideningOf_29 rfl ?_
      refine ew_if_eq (pc := 30) (tgt := 37) dX2_wideningOf_30 (by decide) (fun c30 => absurd c30 hl) (fun c30 => ?_)
      refine ew_iconst (pc := 33) (v := 1) dX2_wideningOf_33 rfl ?_
      refine ew_goto (pc := 34) (tgt := 38) dX2_wideningOf_34 (by decide) ?_
      refine ew_iadd (pc := 38) dX2_wideningOf_38 ?_
      rw [hc]
      rw [if_neg (show ¬ (N (2 + 6 * w + 5) = 1 ∨ (lw = 0 ∧ N (2 + 6 * w + 3) = -1)) from fun h9 => h9.elim (bI_0.mp c5) (fun h8 => hl h8.1))] at hq
      refine ew_cV2 (d' := 4) (pc := 39) vX2_257 (tw_ro _ _ _ _) dX2_wideningOf_39 (by decide) (ew_rm (Nat.le_of_ble_eq_true rfl)) ?_
      refine t_boundsWithout hN rfl ok (fun σ1 b F1 S1 B1 => ?_)
      rw [eN_T ok hT] at B1
      have hc := B1.c ok.e2 (eAll_ok ok)
      rw [hc.1]
      refine ew_Kr ?_
      refine ew_if_ne (pc := 42) (tgt := 47) dX2_wideningOf_42 (by decide) (fun c42 => ?_) (fun c42 => ?_)
      · rw [if_pos (show cB (nE N) (eN N 0 (wcode w lw)) = true from bI_n.mp c42), widU, widR, if_neg hl, if_neg hl] at hq
        refine ew_aload_n (pc := 47) dX2_wideningOf_47 rfl ?_
        refine ew_iload_n (pc := 48) dX2_wideningOf_48 rfl ?_
        refine ew_iconst (pc := 49) (v := 0) dX2_wideningOf_49 rfl ?_
        refine ew_cV2 (d' := 1) (pc := 50) vX2_214 (tw_ro _ _ _ _) dX2_wideningOf_50 (by decide) (ew_rm (Nat.le_of_ble_eq_true rfl)) ?_
        refine t_ofN (i := 0) ((F1.a 16 rfl).trans hN) (by omega) (by decide) ?_
        rw [ok.a w hw]
        refine ew_Kr ?_
        refine ew_istore_n (pc := 53) dX2_wideningOf_53 rfl (by decide) (p1_3 rfl) ?_
        refine ew_aload_n (pc := 54) dX2_wideningOf_54 rfl ?_
        refine ew_iload_n (pc := 55) dX2_wideningOf_55 rfl ?_
        refine ew_iconst (pc := 56) (v := 1) dX2_wideningOf_56 rfl ?_
        refine ew_cV2 (d' := 1) (pc := 57) vX2_214 (tw_ro _ _ _ _) dX2_wideningOf_57 (by decide) (ew_rm (Nat.le_of_ble_eq_true rfl)) ?_
        refine t_ofN (i := 1) ((F1.a 16 rfl).trans hN) (by omega) (by decide) ?_
        rw [ok.b w hw]
        refine ew_Kr ?_
        refine ew_istore (pc := 60) dX2_wideningOf_60 (by decide) (p1_4 rfl) ?_
        refine ew_iload_n (pc := 62) dX2_wideningOf_62 rfl ?_
        refine ew_if_eq (pc := 63) (tgt := 76) dX2_wideningOf_63 (by decide) (fun c63 => absurd c63 hl) (fun c63 => ?_)
        refine ew_aload_n (pc := 66) dX2_wideningOf_66 rfl ?_
        refine ew_iload_n (pc := 67) dX2_wideningOf_67 rfl ?_
        refine ew_iload (pc := 68) dX2_wideningOf_68 rfl ?_
        refine ew_cV2 (d' := 0) (pc := 70) vX2_233 (tw_ro _ _ _ _) dX2_wideningOf_70 (by decide) (ew_rm (Nat.le_of_ble_eq_true rfl)) ?_
        refine t_boundF hc.2 (by omega) (by omega) ?_
        refine ew_Kr ?_
        refine ew_goto (pc := 73) (tgt := 83) dX2_wideningOf_73 (by decide) ?_
        refine ew_istore (pc := 83) dX2_wideningOf_83 (by decide) (p1_5 rfl) ?_
        refine ew_iload_n (pc := 85) dX2_wideningOf_85 rfl ?_
        refine ew_if_eq (pc := 86) (tgt := 94) dX2_wideningOf_86 (by decide) (fun c86 => absurd c86 hl) (fun c86 => ?_)
        refine ew_iload (pc := 89) dX2_wideningOf_89 rfl ?_
        refine ew_goto (pc := 91) (tgt := 97) dX2_wideningOf_91 (by decide) ?_
        refine ew_istore (pc := 97) dX2_wideningOf_97 (by decide) (p1_6 rfl) ?_
        refine ew_iload (pc := 99) dX2_wideningOf_99 rfl ?_
        refine ew_iconst (pc := 101) (v := 0) dX2_wideningOf_101 rfl ?_
        refine ew_sipush (pc := 102) (v := 999) dX2_wideningOf_102 rfl ?_
        refine ew_cS3 (d' := 0) (pc := 105) sX2_102 dX2_wideningOf_105 (by decide) (ew_rm (Nat.le_of_ble_eq_true rfl)) ?_
        refine t_inT ?_
        refine ew_Kr ?_
        refine ew_if_ne (pc := 108) (tgt := 113) dX2_wideningOf_108 (by decide) (fun c108 => ?_) (fun c108 => ?_)
        · refine ew_iload_n (pc := 113) dX2_wideningOf_113 rfl ?_
          refine ew_if_eq (pc := 114) (tgt := 129) dX2_wideningOf_114 (by decide) (fun c114 => absurd c114 hl) (fun c114 => ?_)
          refine ew_aload_n (pc := 117) dX2_wideningOf_117 rfl ?_
          refine ew_iload_n (pc := 118) dX2_wideningOf_118 rfl ?_
          refine ew_iconst (pc := 119) (v := 2) dX2_wideningOf_119 rfl ?_
          refine ew_cV2 (d' := 1) (pc := 120) vX2_214 (tw_ro _ _ _ _) dX2_wideningOf_120 (by decide) (ew_rm (Nat.le_of_ble_eq_true rfl)) ?_
          refine t_ofN (i := 2) ((F1.a 16 rfl).trans hN) (by omega) (by decide) ?_
          refine ew_Kr ?_
          refine ew_iload (pc := 123) dX2_wideningOf_123 rfl ?_
          refine ew_isub (pc := 125) dX2_wideningOf_125 ?_
          refine ew_goto (pc := 126) (tgt := 138) dX2_wideningOf_126 (by decide) ?_
          refine ew_iret (pc := 138) rfl dX2_wideningOf_138 ?_
          rw [if_pos (bI_n.mp c108)] at hq
          exact hq σ1 F1
        · refine ew_iconst (pc := 111) (v := -1) dX2_wideningOf_111 rfl ?_
          refine ew_iret (pc := 112) rfl dX2_wideningOf_112 ?_
          rw [if_neg (bI_0.mp c108)] at hq
          exact hq σ1 F1
      · refine ew_iconst (pc := 45) (v := -1) dX2_wideningOf_45 rfl ?_
        refine ew_iret (pc := 46) rfl dX2_wideningOf_46 ?_
        rw [if_neg (show ¬ cB (nE N) (eN N 0 (wcode w lw)) = true from bI_0.mp c42)] at hq
        exact hq σ1 F1
theorem o_widening {g : eg} {h : eh} {t : Nat} {σ : tS} {N : Nat → Int32} {a lw : Int32} {Q : Outcome → eh → Prop} (hJ : TJ σ N)
    (hq : ∀ σ' v, An SC σ (as1 (σ.1 21) (bI (isIx (nW N) a))) (if sB N = true then 0 else widV N (ix a) lw) σ' v → Q (.returned (some (.int v))) (tw t σ' h)) : ew_T g kX2_widening 6 [.ref t, .int a, .int lw] (tw t σ h) Q := by
  refine ew_enter (by decide +kernel) (ew_a1 rfl (ew_a1 rfl (ew_a1 rfl ew_az))) (Nat.le_of_ble_eq_true rfl) ?_
  refine ew_aload_n (pc := 0) dX2_widening_0 rfl ?_
  refine ew_aload_n (pc := 1) dX2_widening_1 rfl ?_
  refine ew_iload_n (pc := 2) dX2_widening_2 rfl ?_
  refine ew_cV1 (d' := 1) (pc := 3) vX2_295 (tw_ro _ _ _ _) dX2_widening_3 (by decide) (ew_rm (Nat.le_of_ble_eq_true rfl)) ?_
  refine t_isWindow hJ.n hJ.z ?_
  refine ew_Kr ?_
  refine ew_cV1 (d' := 0) (pc := 6) vX2_291 (tw_ro _ _ _ _) dX2_widening_6 (by decide) (ew_rm (Nat.le_of_ble_eq_true rfl)) ?_
  refine t_ask1 (fun σ1 F1 h0 => ?_)
  refine ew_Kr ?_
  refine ew_if_eq (pc := 9) (tgt := 19) dX2_widening_9 (by decide) (fun c9 => ?_) (fun c9 => ?_)
  · refine ew_iconst (pc := 19) (v := 0) dX2_widening_19 rfl ?_
    refine ew_iret (pc := 20) rfl dX2_widening_20 ?_
    first
    | exact hq _ _ ⟨F1.w rfl, h0, fun h9 => absurd h9 (bI_0.mp c9)⟩
    | exact hq _ _ ⟨(F1.w rfl).u F2 rfl, (F2.s 0 rfl).trans h0, fun _ => (if_pos (bI_n.mp c16)).symm⟩
  · have hp := as1_0.mp (bI_n.mp c9)
    have hi := bI_n.mp hp.2
    have ok := hJ.ok hp.1
    have hn := ok.w2
    have ha := hi.to (by omega)
    refine ew_aload_n (pc := 12) dX2_widening_12 rfl ?_
    refine ew_cV0 (d' := 5) (pc := 13) vX2_276 (tw_ro _ _ _ _) dX2_widening_13 (by decide) (ew_rm (Nat.le_of_ble_eq_true rfl)) ?_
    refine t_sB ((F1.a 16 rfl).trans hJ.n) ok (fun σ2 F2 L2 => ?_)
    refine ew_Kr ?_
    refine ew_if_eq (pc := 16) (tgt := 21) dX2_widening_16 (by decide) (fun c16 => ?_) (fun c16 => ?_)
    · rw [ha.2]
      refine ew_aload_n (pc := 21) dX2_widening_21 rfl ?_
      refine ew_iload_n (pc := 22) dX2_widening_22 rfl ?_
      refine ew_iload_n (pc := 23) dX2_widening_23 rfl ?_
      refine ew_cV2 (d' := 5) (pc := 24) vX2_341 (tw_ro _ _ _ _) dX2_widening_24 (by decide) (ew_rm (Nat.le_of_ble_eq_true rfl)) ?_
      refine t_wideningOf ((F2.a 16 rfl).trans ((F1.a 16 rfl).trans hJ.n)) ok L2.1 ha.1 (fun σ3 F3 => ?_)
      refine ew_Kr ?_
      refine ew_iret (pc := 27) rfl dX2_widening_27 ?_
      exact hq _ _ ⟨((F1.w rfl).u F2 rfl).u F3 rfl, (F3.s 0 rfl).trans ((F2.s 0 rfl).trans h0), fun _ => (if_neg (bI_0.mp c16)).symm⟩
    · refine ew_iconst (pc := 19) (v := 0) dX2_widening_19 rfl ?_
      refine ew_iret (pc := 20) rfl dX2_widening_20 ?_
      first
      | exact hq _ _ ⟨F1.w rfl, h0, fun h9 => absurd h9 (bI_0.mp c9)⟩
      | exact hq _ _ ⟨(F1.w rfl).u F2 rfl, (F2.s 0 rfl).trans h0, fun _ => (if_pos (bI_n.mp c16)).symm⟩
/-- of the codes below c the best widening: its code, units, cost -/
def mnU (N : Nat → Int32) (c : Nat) : Int32 := if N (2 + 6 * (c / 2) + 4) = 0 then -1 else widV N (c / 2) (if c % 2 = 1 then 1 else 0)
def mnT (N : Nat → Int32) (c : Nat) (s : Int32 × Int32 × Int32) : Int32 × Int32 × Int32 := if mnU N c = -1 ∨ (¬ s.1 = -1 ∧ s.2.2 ≤ mnU N c * N (2 + 6 * (c / 2) + 4)) then s else (nI c, mnU N c, mnU N c * N (2 + 6 * (c / 2) + 4))
def mnS (N : Nat → Int32) : Nat → Int32 × Int32 × Int32
  | 0 => (-1, -1, -1)
  | c + 1 => mnT N c (mnS N c)
def mnV (N : Nat → Int32) : Int32 × Int32 × Int32 := if sB N = true then (-1, -1, -1) else mnS N (2 * nW N)
theorem t_bestMendNow {g : eg} {h : eh} {t : Nat} {σ : tS} {N : Nat → Int32} {Q : Outcome → eh → Prop} (hN : σ.2 16 = N) (ok : okN N)
    (hq : ∀ σ', Fq [23, 24, 25, 26, 27, 28, 29, 36, 37] σ σ' → σ'.1 36 = (mnV N).2.1 → σ'.1 37 = (mnV N).2.2 → Q (.returned (some (.int (mnV N).1))) (tw t σ' h)) : ew_T g kX2_bestMendNow 6 [.ref t] (tw t σ h) Q := by
  have hw2 := ok.w2
  have main : sB N = false → ∀ m c σ' x3 x4, c + m = 2 * nW N → Fq [23, 24, 25, 26, 27, 28, 29, 36, 37] σ σ' → TN N (σ'.2 27) → σ'.1 36 = (mnS N c).2.1 → σ'.1 37 = (mnS N c).2.2 → ew_G g kX2_bestMendNow 6 23 [.ref t, .int (mnS N c).1, .int (nI c), x3, x4] [] (tw t σ' h) Q := by
    intro hs m
    rw [mnV, if_neg (by rw [hs]; decide)] at hq
    induction m with
    | zero =>
      intro c σ' x3 x4 hc hF hT h36 h37
      have e9 : c = 2 * nW N := by omega
      subst e9
      have hN1 := (hF.a 16 rfl).trans hN
      refine ew_iload_n (pc := 23) dX2_bestMendNow_23 rfl ?_
      refine ew_iconst (pc := 24) (v := 2) dX2_bestMendNow_24 rfl ?_
      refine ew_aload_n (pc := 25) dX2_bestMendNow_25 rfl ?_
      refine ew_cV0 (d' := 0) (pc := 26) vX2_220 (tw_ro _ _ _ _) dX2_bestMendNow_26 (by decide) (ew_rm (Nat.le_of_ble_eq_true rfl)) ?_
      refine t_windowsN hN1 ok ?_
      refine ew_Kr ?_
      refine ew_imul (pc := 29) dX2_bestMendNow_29 ?_
      rw [show (2 : Int32) = nI 2 from rfl, nI_mul]
      refine ew_icmp_ge (pc := 30) (tgt := 125) dX2_bestMendNow_30 (by decide) (fun c30 => ?_) (fun c30 => absurd (nI_le (Nat.le_refl _) (by omega)) c30)
      refine ew_iload_n (pc := 125) dX2_bestMendNow_125 rfl ?_
      refine ew_iret (pc := 126) rfl dX2_bestMendNow_126 ?_
      exact hq σ' hF h36 h37
    | succ m ih =>
      intro c σ' x3 x4 hc hF hT h36 h37
      have hN1 := (hF.a 16 rfl).trans hN
      have hc2 : c / 2 < nW N := by omega
      have s66 : ∀ σ1, Fq [23, 24, 25, 26, 28, 29] σ' σ1 → ew_G g kX2_bestMendNow 6 66 [.ref t, .int (mnS N c).1, .int (nI c), .int (nI (c / 2)), x4] [.int (mnU N c)] (tw t σ1 h) Q := by
        intro σ1 F1
        have hN2 := (F1.a 16 rfl).trans hN1
        have hT2 : TN N (σ1.2 27) := by rw [F1.a 27 rfl]; exact hT
        have h36' := (F1.s 36 rfl).trans h36
        have h37' := (F1.s 37 rfl).trans h37
        have hF1 := hF.u F1 rfl
        refine ew_istore (pc := 66) dX2_bestMendNow_66 (by decide) (p1_4 rfl) ?_
        refine ew_iload (pc := 68) dX2_bestMendNow_68 rfl ?_
        refine ew_iconst (pc := 70) (v := -1) dX2_bestMendNow_70 rfl ?_
        refine ew_icmp_eq (pc := 71) (tgt := 119) dX2_bestMendNow_71 (by decide) (fun c71 => ?_) (fun c71 => ?_)
        · refine ew_iinc (pc := 119) dX2_bestMendNow_119 rfl (nI_inc c) (by decide) (p1_2 rfl) ?_
          refine ew_goto (pc := 122) (tgt := 23) dX2_bestMendNow_122 (by decide) ?_
          first
          | have h8 := ih (c + 1) σ1 (.int (nI (c / 2))) (.int (mnU N c)) (by omega) hF1 hT2
            rw [mnS, mnT, if_pos (show mnU N c = -1 ∨ (¬ (mnS N c).1 = -1 ∧ (mnS N c).2.2 ≤ mnU N c * N (2 + 6 * (c / 2) + 4)) by first | exact Or.inl c71 | exact Or.inr ⟨c76, Int32.not_lt.mp c92⟩)] at h8
            exact h8 h36' h37'
          | have h8 := ih (c + 1) (tI (tI σ1 36 (mnU N c)) 37 (mnU N c * N (2 + 6 * (c / 2) + 4))) (.int (nI (c / 2))) (.int (mnU N c)) (by omega) ((hF1.xI 36 _ rfl).xI 37 _ rfl) hT2
            rw [mnS, mnT, if_neg (show ¬ (mnU N c = -1 ∨ (¬ (mnS N c).1 = -1 ∧ (mnS N c).2.2 ≤ mnU N c * N (2 + 6 * (c / 2) + 4))) from fun h9 => h9.elim c71 (fun h7 => by first | exact h7.1 c76 | exact absurd h7.2 (Int32.not_le.mpr c92)))] at h8
            exact h8 rfl rfl
        · refine ew_iload_n (pc := 74) dX2_bestMendNow_74 rfl ?_
          refine ew_iconst (pc := 75) (v := -1) dX2_bestMendNow_75 rfl ?_
          refine ew_icmp_eq (pc := 76) (tgt := 98) dX2_bestMendNow_76 (by decide) (fun c76 => ?_) (fun c76 => ?_)
          · refine ew_iload_n (pc := 98) dX2_bestMendNow_98 rfl ?_
            refine ew_istore_n (pc := 99) dX2_bestMendNow_99 rfl (by decide) (p1_1 rfl) ?_
            refine ew_aload_n (pc := 100) dX2_bestMendNow_100 rfl ?_
            refine ew_iload (pc := 101) dX2_bestMendNow_101 rfl ?_
            refine tg_p36 (pc := 103) rfl dX2_bestMendNow_103 ?_
            refine ew_aload_n (pc := 106) dX2_bestMendNow_106 rfl ?_
            refine ew_iload (pc := 107) dX2_bestMendNow_107 rfl ?_
            refine ew_aload_n (pc := 109) dX2_bestMendNow_109 rfl ?_
            refine ew_iload_n (pc := 110) dX2_bestMendNow_110 rfl ?_
            refine ew_iconst (pc := 111) (v := 4) dX2_bestMendNow_111 rfl ?_
            refine ew_cV2 (d' := 1) (pc := 112) vX2_214 (tw_ro _ _ _ _) dX2_bestMendNow_112 (by decide) (ew_rm (Nat.le_of_ble_eq_true rfl)) ?_
            refine t_ofN (i := 4) (show (tI σ1 36 (mnU N c)).2 16 = N from hN2) (by omega) (by decide) ?_
            refine ew_Kr ?_
            refine ew_imul (pc := 115) dX2_bestMendNow_115 ?_
            refine tg_p37 (pc := 116) rfl dX2_bestMendNow_116 ?_
            refine ew_iinc (pc := 119) dX2_bestMendNow_119 rfl (nI_inc c) (by decide) (p1_2 rfl) ?_
            refine ew_goto (pc := 122) (tgt := 23) dX2_bestMendNow_122 (by decide) ?_
            first
            | have h8 := ih (c + 1) σ1 (.int (nI (c / 2))) (.int (mnU N c)) (by omega) hF1 hT2
              rw [mnS, mnT, if_pos (show mnU N c = -1 ∨ (¬ (mnS N c).1 = -1 ∧ (mnS N c).2.2 ≤ mnU N c * N (2 + 6 * (c / 2) + 4)) by first | exact Or.inl c71 | exact Or.inr ⟨c76, Int32.not_lt.mp c92⟩)] at h8
              exact h8 h36' h37'
            | have h8 := ih (c + 1) (tI (tI σ1 36 (mnU N c)) 37 (mnU N c * N (2 + 6 * (c / 2) + 4))) (.int (nI (c / 2))) (.int (mnU N c)) (by omega) ((hF1.xI 36 _ rfl).xI 37 _ rfl) hT2
              rw [mnS, mnT, if_neg (show ¬ (mnU N c = -1 ∨ (¬ (mnS N c).1 = -1 ∧ (mnS N c).2.2 ≤ mnU N c * N (2 + 6 * (c / 2) + 4))) from fun h9 => h9.elim c71 (fun h7 => by first | exact h7.1 c76 | exact absurd h7.2 (Int32.not_le.mpr c92)))] at h8
              exact h8 rfl rfl
          · refine ew_iload (pc := 79) dX2_bestMendNow_79 rfl ?_
            refine ew_aload_n (pc := 81) dX2_bestMendNow_81 rfl ?_
            refine ew_iload_n (pc := 82) dX2_bestMendNow_82 rfl ?_
            refine ew_iconst (pc := 83) (v := 4) dX2_bestMendNow_83 rfl ?_
            refine ew_cV2 (d' := 1) (pc := 84) vX2_214 (tw_ro _ _ _ _) dX2_bestMendNow_84 (by decide) (ew_rm (Nat.le_of_ble_eq_true rfl)) ?_
            refine t_ofN (i := 4) hN2 (by omega) (by decide) ?_
            refine ew_Kr ?_
            refine ew_imul (pc := 87) dX2_bestMendNow_87 ?_
            refine ew_aload_n (pc := 88) dX2_bestMendNow_88 rfl ?_
            refine tg_g37 (pc := 89) rfl dX2_bestMendNow_89 ?_
            rw [h37']
            refine ew_icmp_lt (pc := 92) (tgt := 98) dX2_bestMendNow_92 (by decide) (fun c92 => ?_) (fun c92 => ?_)
            · refine ew_iload_n (pc := 98) dX2_bestMendNow_98 rfl ?_
              refine ew_istore_n (pc := 99) dX2_bestMendNow_99 rfl (by decide) (p1_1 rfl) ?_
              refine ew_aload_n (pc := 100) dX2_bestMendNow_100 rfl ?_
              refine ew_iload (pc := 101) dX2_bestMendNow_101 rfl ?_
              refine tg_p36 (pc := 103) rfl dX2_bestMendNow_103 ?_
              refine ew_aload_n (pc := 106) dX2_bestMendNow_106 rfl ?_
              refine ew_iload (pc := 107) dX2_bestMendNow_107 rfl ?_
              refine ew_aload_n (pc := 109) dX2_bestMendNow_109 rfl ?_
              refine ew_iload_n (pc := 110) dX2_bestMendNow_110 rfl ?_
              refine ew_iconst (pc := 111) (v := 4) dX2_bestMendNow_111 rfl ?_
              refine ew_cV2 (d' := 1) (pc := 112) vX2_214 (tw_ro _ _ _ _) dX2_bestMendNow_112 (by decide) (ew_rm (Nat.le_of_ble_eq_true rfl)) ?_
              refine t_ofN (i := 4) (show (tI σ1 36 (mnU N c)).2 16 = N from hN2) (by omega) (by decide) ?_
              refine ew_Kr ?_
              refine ew_imul (pc := 115) dX2_bestMendNow_115 ?_
              refine tg_p37 (pc := 116) rfl dX2_bestMendNow_116 ?_
              refine ew_iinc (pc := 119) dX2_bestMendNow_119 rfl (nI_inc c) (by decide) (p1_2 rfl) ?_
              refine ew_goto (pc := 122) (tgt := 23) dX2_bestMendNow_122 (by decide) ?_
              first
              | have h8 := ih (c + 1) σ1 (.int (nI (c / 2))) (.int (mnU N c)) (by omega) hF1 hT2
                rw [mnS, mnT, if_pos (show mnU N c = -1 ∨ (¬ (mnS N c).1 = -1 ∧ (mnS N c).2.2 ≤ mnU N c * N (2 + 6 * (c / 2) + 4)) by first | exact Or.inl c71 | exact Or.inr ⟨c76, Int32.not_lt.mp c92⟩)] at h8
                exact h8 h36' h37'
              | have h8 := ih (c + 1) (tI (tI σ1 36 (mnU N c)) 37 (mnU N c * N (2 + 6 * (c / 2) + 4))) (.int (nI (c / 2))) (.int (mnU N c)) (by omega) ((hF1.xI 36 _ rfl).xI 37 _ rfl) hT2
                rw [mnS, mnT, if_neg (show ¬ (mnU N c = -1 ∨ (¬ (mnS N c).1 = -1 ∧ (mnS N c).2.2 ≤ mnU N c * N (2 + 6 * (c / 2) + 4))) from fun h9 => h9.elim c71 (fun h7 => by first | exact h7.1 c76 | exact absurd h7.2 (Int32.not_le.mpr c92)))] at h8
                exact h8 rfl rfl
            · refine ew_goto (pc := 95) (tgt := 119) dX2_bestMendNow_95 (by decide) ?_
              refine ew_iinc (pc := 119) dX2_bestMendNow_119 rfl (nI_inc c) (by decide) (p1_2 rfl) ?_
              refine ew_goto (pc := 122) (tgt := 23) dX2_bestMendNow_122 (by decide) ?_
              first
              | have h8 := ih (c + 1) σ1 (.int (nI (c / 2))) (.int (mnU N c)) (by omega) hF1 hT2
                rw [mnS, mnT, if_pos (show mnU N c = -1 ∨ (¬ (mnS N c).1 = -1 ∧ (mnS N c).2.2 ≤ mnU N c * N (2 + 6 * (c / 2) + 4)) by first | exact Or.inl c71 | exact Or.inr ⟨c76, Int32.not_lt.mp c92⟩)] at h8
                exact h8 h36' h37'
              | have h8 := ih (c + 1) (tI (tI σ1 36 (mnU N c)) 37 (mnU N c * N (2 + 6 * (c / 2) + 4))) (.int (nI (c / 2))) (.int (mnU N c)) (by omega) ((hF1.xI 36 _ rfl).xI 37 _ rfl) hT2
                rw [mnS, mnT, if_neg (show ¬ (mnU N c = -1 ∨ (¬ (mnS N c).1 = -1 ∧ (mnS N c).2.2 ≤ mnU N c * N (2 + 6 * (c / 2) + 4))) from fun h9 => h9.elim c71 (fun h7 => by first | exact h7.1 c76 | exact absurd h7.2 (Int32.not_le.mpr c92)))] at h8
                exact h8 rfl rfl
      refine ew_iload_n (pc := 23) dX2_bestMendNow_23 rfl ?_
      refine ew_iconst (pc := 24) (v := 2) dX2_bestMendNow_24 rfl ?_
      refine ew_aload_n (pc := 25) dX2_bestMendNow_25 rfl ?_
      refine ew_cV0 (d' := 0) (pc := 26) vX2_220 (tw_ro _ _ _ _) dX2_bestMendNow_26 (by decide) (ew_rm (Nat.le_of_ble_eq_true rfl)) ?_
      refine t_windowsN hN1 ok ?_
      refine ew_Kr ?_
      refine ew_imul (pc := 29) dX2_bestMendNow_29 ?_
      rw [show (2 : Int32) = nI 2 from rfl, nI_mul]
      refine ew_icmp_ge (pc := 30) (tgt := 125) dX2_bestMendNow_30 (by decide) (fun c30 => absurd c30 (nI_ge (by omega) (by omega))) (fun c30 => ?_)
      refine ew_iload_n (pc := 33) dX2_bestMendNow_33 rfl ?_
      refine ew_iconst (pc := 34) (v := 2) dX2_bestMendNow_34 rfl ?_
      refine ew_idiv (pc := 35) dX2_bestMendNow_35 (by decide) ?_
      rw [show nI c / 2 = nI (c / 2) from nI_div (b := 2) (by omega) (by decide) (by decide)]
      refine ew_istore_n (pc := 36) dX2_bestMendNow_36 rfl (by decide) (p1_3 rfl) ?_
      refine ew_aload_n (pc := 37) dX2_bestMendNow_37 rfl ?_
      refine ew_iload_n (pc := 38) dX2_bestMendNow_38 rfl ?_
      refine ew_cV1 (d' := 2) (pc := 39) vX2_351 (tw_ro _ _ _ _) dX2_bestMendNow_39 (by decide) (ew_rm (Nat.le_of_ble_eq_true rfl)) ?_
      refine t_isFirmN hN1 (by omega) ?_
      refine ew_Kr ?_
      refine ew_if_eq (pc := 42) (tgt := 49) dX2_bestMendNow_42 (by decide) (fun c42 => ?_) (fun c42 => ?_)
      · refine ew_aload_n (pc := 49) dX2_bestMendNow_49 rfl ?_
        refine ew_iload_n (pc := 50) dX2_bestMendNow_50 rfl ?_
        refine ew_iload_n (pc := 51) dX2_bestMendNow_51 rfl ?_
        refine ew_iconst (pc := 52) (v := 2) dX2_bestMendNow_52 rfl ?_
        refine ew_irem (pc := 53) dX2_bestMendNow_53 (by decide) ?_
        rw [show nI c - nI c / 2 * 2 = nI (c % 2) from nI_rem (b := 2) (by omega) (by decide) (by decide)]
        refine ew_iconst (pc := 54) (v := 1) dX2_bestMendNow_54 rfl ?_
        refine ew_icmp_ne (pc := 55) (tgt := 62) dX2_bestMendNow_55 (by decide) (fun c55 => ?_) (fun c55 => ?_)
        · refine ew_iconst (pc := 62) (v := 0) dX2_bestMendNow_62 rfl ?_
          refine ew_cV2 (d' := 5) (pc := 63) vX2_341 (tw_ro _ _ _ _) dX2_bestMendNow_63 (by decide) (ew_rm (Nat.le_of_ble_eq_true rfl)) ?_
          refine t_wideningOf hN1 ok hT hc2 (fun σ1 F1 => ?_)
          refine ew_Kr ?_
          first
          | have h8 := s66 σ' (Fq.r _ _)
            rw [mnU, if_pos (bI_n.mp c42)] at h8
            exact h8
          | have h8 := s66 σ1 F1
            rw [mnU, if_neg (bI_0.mp c42)] at h8
            first
            | rw [if_pos ((nI_eq (b := 1) (by omega) (by decide)).mp c55)] at h8
              exact h8
            | rw [if_neg (fun h9 => c55 ((nI_eq (b := 1) (by omega) (by decide)).mpr h9))] at h8
              exact h8
        · refine ew_iconst (pc := 58) (v := 1) dX2_bestMendNow_58 rfl ?_
          refine ew_goto (pc := 59) (tgt := 63) dX2_bestMendNow_59 (by decide) ?_
          refine ew_cV2 (d' := 5) (pc := 63) vX2_341 (tw_ro _ _ _ _) dX2_bestMendNow_63 (by decide) (ew_rm (Nat.le_of_ble_eq_true rfl)) ?_
          refine t_wideningOf hN1 ok hT hc2 (fun σ1 F1 => ?_)
          refine ew_Kr ?_
          first
          | have h8 := s66 σ' (Fq.r _ _)
            rw [mnU, if_pos (bI_n.mp c42)] at h8
            exact h8
          | have h8 := s66 σ1 F1
            rw [mnU, if_neg (bI_0.mp c42)] at h8
            first
            | rw [if_pos ((nI_eq (b := 1) (by omega) (by decide)).mp c55)] at h8
              exact h8
            | rw [if_neg (fun h9 => c55 ((nI_eq (b := 1) (by omega) (by decide)).mpr h9))] at h8
              exact h8
      · refine ew_iconst (pc := 45) (v := -1) dX2_bestMendNow_45 rfl ?_
        refine ew_goto (pc := 46) (tgt := 66) dX2_bestMendNow_46 (by decide) ?_
        first
        | have h8 := s66 σ' (Fq.r _ _)
          rw [mnU, if_pos (bI_n.mp c42)] at h8
          exact h8
        | have h8 := s66 σ1 F1
          rw [mnU, if_neg (bI_0.mp c42)] at h8
          first
          | rw [if_pos ((nI_eq (b := 1) (by omega) (by decide)).mp c55)] at h8
            exact h8
          | rw [if_neg (fun h9 => c55 ((nI_eq (b := 1) (by omega) (by decide)).mpr h9))] at h8
            exact h8
  refine ew_enter (by decide +kernel) (ew_a1 rfl (ew_an (ew_an (ew_an (ew_an ew_az))))) (Nat.le_of_ble_eq_true rfl) ?_
  refine ew_aload_n (pc := 0) dX2_bestMendNow_0 rfl ?_
  refine ew_iconst (pc := 1) (v := -1) dX2_bestMendNow_1 rfl ?_
  refine tg_p36 (pc := 2) rfl dX2_bestMendNow_2 ?_
  refine ew_aload_n (pc := 5) dX2_bestMendNow_5 rfl ?_
  refine ew_iconst (pc := 6) (v := -1) dX2_bestMendNow_6 rfl ?_
  refine tg_p37 (pc := 7) rfl dX2_bestMendNow_7 ?_
  refine ew_aload_n (pc := 10) dX2_bestMendNow_10 rfl ?_
  refine ew_cV0 (d' := 5) (pc := 11) vX2_276 (tw_ro _ _ _ _) dX2_bestMendNow_11 (by decide) (ew_rm (Nat.le_of_ble_eq_true rfl)) ?_
  refine t_sB (show (tI (tI σ 36 (-1)) 37 (-1)).2 16 = N from hN) ok (fun σ2 F2 L2 => ?_)
  refine ew_Kr ?_
  refine ew_if_eq (pc := 14) (tgt := 19) dX2_bestMendNow_14 (by decide) (fun c14 => ?_) (fun c14 => ?_)
  · refine ew_iconst (pc := 19) (v := -1) dX2_bestMendNow_19 rfl ?_
    refine ew_istore_n (pc := 20) dX2_bestMendNow_20 rfl (by decide) (p1_1 rfl) ?_
    refine ew_iconst (pc := 21) (v := 0) dX2_bestMendNow_21 rfl ?_
    refine ew_istore_n (pc := 22) dX2_bestMendNow_22 rfl (by decide) (p1_2 rfl) ?_
    exact main (Bool.eq_false_iff.mpr (bI_0.mp c14)) (2 * nW N) 0 σ2 _ _ (by omega) ((((Fq.r _ σ).xI 36 _ rfl).xI 37 _ rfl).u F2 rfl) L2.1 (F2.s 36 rfl) (F2.s 37 rfl)
  · refine ew_iconst (pc := 17) (v := -1) dX2_bestMendNow_17 rfl ?_
    refine ew_iret (pc := 18) rfl dX2_bestMendNow_18 ?_
    rw [mnV, if_pos (bI_n.mp c14)] at hq
    exact hq σ2 ((((Fq.r _ σ).xI 36 _ rfl).xI 37 _ rfl).u F2 rfl) (F2.s 36 rfl) (F2.s 37 rfl)
theorem o_bestMend {g : eg} {h : eh} {t : Nat} {σ : tS} {N : Nat → Int32} {Q : Outcome → eh → Prop} (hJ : TJ σ N)
    (hq : ∀ σ' v, An SC σ (as1 (σ.1 21) 1) (mnV N).1 σ' v → Q (.returned (some (.int v))) (tw t σ' h)) : ew_T g kX2_bestMend 7 [.ref t] (tw t σ h) Q := by
  refine ew_enter (by decide +kernel) (ew_a1 rfl ew_az) (Nat.le_of_ble_eq_true rfl) ?_
  refine ew_aload_n (pc := 0) dX2_bestMend_0 rfl ?_
  refine ew_iconst (pc := 1) (v := 1) dX2_bestMend_1 rfl ?_
  refine ew_cV1 (d' := 0) (pc := 2) vX2_291 (tw_ro _ _ _ _) dX2_bestMend_2 (by decide) (ew_rm (Nat.le_of_ble_eq_true rfl)) ?_
  refine t_ask1 (fun σ1 F1 h0 => ?_)
  refine ew_Kr ?_
  refine ew_if_eq (pc := 5) (tgt := 15) dX2_bestMend_5 (by decide) (fun c5 => ?_) (fun c5 => ?_)
  · refine ew_iconst (pc := 15) (v := 0) dX2_bestMend_15 rfl ?_
    refine ew_iret (pc := 16) rfl dX2_bestMend_16 ?_
    first
    | exact hq _ _ ⟨F1.w rfl, h0, fun h9 => absurd h9 (bI_0.mp c5)⟩
    | exact hq _ _ ⟨(F1.w rfl).u F2 rfl, (F2.s 0 rfl).trans h0, fun _ => rfl⟩
  · have hp := as1_0.mp (bI_n.mp c5)
    refine ew_aload_n (pc := 8) dX2_bestMend_8 rfl ?_
    refine ew_cV0 (d' := 6) (pc := 9) vX2_354 (tw_ro _ _ _ _) dX2_bestMend_9 (by decide) (ew_rm (Nat.le_of_ble_eq_true rfl)) ?_
    refine t_bestMendNow ((F1.a 16 rfl).trans hJ.n) (hJ.ok hp.1) (fun σ2 F2 _ _ => ?_)
    refine ew_Kr ?_
    refine ew_goto (pc := 12) (tgt := 16) dX2_bestMend_12 (by decide) ?_
    refine ew_iret (pc := 16) rfl dX2_bestMend_16 ?_
    first
    | exact hq _ _ ⟨F1.w rfl, h0, fun h9 => absurd h9 (bI_0.mp c5)⟩
    | exact hq _ _ ⟨(F1.w rfl).u F2 rfl, (F2.s 0 rfl).trans h0, fun _ => rfl⟩
theorem o_mendCost {g : eg} {h : eh} {t : Nat} {σ : tS} {N : Nat → Int32} {Q : Outcome → eh → Prop} (hJ : TJ σ N)
    (hq : ∀ σ' v, An SC σ (as1 (σ.1 21) 1) (if (mnV N).1 = -1 then -1 else (mnV N).2.2) σ' v → Q (.returned (some (.int v))) (tw t σ' h)) : ew_T g kX2_mendCost 7 [.ref t] (tw t σ h) Q := by
  refine ew_enter (by decide +kernel) (ew_a1 rfl (ew_an ew_az)) (Nat.le_of_ble_eq_true rfl) ?_
  refine ew_aload_n (pc := 0) dX2_mendCost_0 rfl ?_
  refine ew_iconst (pc := 1) (v := 1) dX2_mendCost_1 rfl ?_
  refine ew_cV1 (d' := 0) (pc := 2) vX2_291 (tw_ro _ _ _ _) dX2_mendCost_2 (by decide) (ew_rm (Nat.le_of_ble_eq_true rfl)) ?_
  refine t_ask1 (fun σ1 F1 h0 => ?_)
  refine ew_Kr ?_
  refine ew_if_ne (pc := 5) (tgt := 10) dX2_mendCost_5 (by decide) (fun c5 => ?_) (fun c5 => ?_)
  · have hp := as1_0.mp (bI_n.mp c5)
    refine ew_aload_n (pc := 10) dX2_mendCost_10 rfl ?_
    refine ew_cV0 (d' := 6) (pc := 11) vX2_354 (tw_ro _ _ _ _) dX2_mendCost_11 (by decide) (ew_rm (Nat.le_of_ble_eq_true rfl)) ?_
    refine t_bestMendNow ((F1.a 16 rfl).trans hJ.n) (hJ.ok hp.1) (fun σ2 F2 h36 h37 => ?_)
    refine ew_Kr ?_
    refine ew_istore_n (pc := 14) dX2_mendCost_14 rfl (by decide) (p1_1 rfl) ?_
    refine ew_iload_n (pc := 15) dX2_mendCost_15 rfl ?_
    refine ew_iconst (pc := 16) (v := -1) dX2_mendCost_16 rfl ?_
    refine ew_icmp_ne (pc := 17) (tgt := 24) dX2_mendCost_17 (by decide) (fun c17 => ?_) (fun c17 => ?_)
    · refine ew_aload_n (pc := 24) dX2_mendCost_24 rfl ?_
      refine tg_g37 (pc := 25) rfl dX2_mendCost_25 ?_
      refine ew_iret (pc := 28) rfl dX2_mendCost_28 ?_
      first
      | exact hq _ _ ⟨F1.w rfl, h0, fun h9 => absurd h9 (bI_0.mp c5)⟩
      | exact hq _ _ ⟨(F1.w rfl).u F2 rfl, (F2.s 0 rfl).trans h0, fun _ => (if_pos c17).symm⟩
      | exact hq _ _ ⟨(F1.w rfl).u F2 rfl, (F2.s 0 rfl).trans h0, fun _ => h37.trans (if_neg c17).symm⟩
    · refine ew_iconst (pc := 20) (v := -1) dX2_mendCost_20 rfl ?_
      refine ew_goto (pc := 21) (tgt := 28) dX2_mendCost_21 (by decide) ?_
      refine ew_iret (pc := 28) rfl dX2_mendCost_28 ?_
      first
      | exact hq _ _ ⟨F1.w rfl, h0, fun h9 => absurd h9 (bI_0.mp c5)⟩
      | exact hq _ _ ⟨(F1.w rfl).u F2 rfl, (F2.s 0 rfl).trans h0, fun _ => (if_pos c17).symm⟩
      | exact hq _ _ ⟨(F1.w rfl).u F2 rfl, (F2.s 0 rfl).trans h0, fun _ => h37.trans (if_neg c17).symm⟩
  · refine ew_iconst (pc := 8) (v := 0) dX2_mendCost_8 rfl ?_
    refine ew_iret (pc := 9) rfl dX2_mendCost_9 ?_
    first
    | exact hq _ _ ⟨F1.w rfl, h0, fun h9 => absurd h9 (bI_0.mp c5)⟩
    | exact hq _ _ ⟨(F1.w rfl).u F2 rfl, (F2.s 0 rfl).trans h0, fun _ => (if_pos c17).symm⟩
    | exact hq _ _ ⟨(F1.w rfl).u F2 rfl, (F2.s 0 rfl).trans h0, fun _ => h37.trans (if_neg c17).symm⟩
