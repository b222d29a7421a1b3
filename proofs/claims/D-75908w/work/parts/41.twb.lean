/-! EW: the reference: needed windows, sets of events, parts -/
set_option maxRecDepth 100000
def cpF (F G : Nat → Int32) : Nat → Nat → Int32
  | 0 => G
  | k + 1 => upd (cpF F G k) k (F k)
theorem cpF_at (F G : Nat → Int32) : ∀ m k, cpF F G m k = if k < m then F k else G k
  | 0, k => by simp [cpF]
  | m + 1, k => by
    by_cases h1 : k = m
    · subst h1; simp [cpF, upd]
    · have := cpF_at F G m k
      rw [cpF, upd, if_neg h1, this]
      by_cases h2 : k < m
      · rw [if_pos h2, if_pos (by omega)]
      · rw [if_neg h2, if_neg (by omega)]
theorem difF_ag {F F' G G' : Nat → Int32} : ∀ m, (∀ k, k < m → F k = F' k) → (∀ k, k < m → G k = G' k) → difF F G m = difF F' G' m
  | 0, _, _ => rfl
  | m + 1, h1, h2 => by rw [difF, difF, difF_ag m (fun k hk => h1 k (by omega)) (fun k hk => h2 k (by omega)), h1 m (by omega), h2 m (by omega)]
theorem t_isNeededNow {g : eg} {h : eh} {t w : Nat} {σ : tS} {N : Nat → Int32} {Q : Outcome → eh → Prop} (hN : σ.2 16 = N) (ok : okN N) (hT : TN N (σ.2 27)) (hA : Ag (σ.2 29) (sF N)) (hw : w < nW N)
    (hq : ∀ σ', Fq [23, 24, 25, 26, 28, 29, 30] σ σ' → Ag (σ'.2 29) (sF N) → Q (.returned (some (.int (bI (ndI N w))))) (tw t σ' h)) : ew_T g kX2_isNeededNow 5 [.ref t, .int (nI w)] (tw t σ h) Q := by
  have hw2 := ok.w2
  have lB : ∀ m k x2 F G σ', k + m = 100 → Fq [23, 24, 25, 26, 28, 29, 30] σ σ' → σ'.2 29 = cpF G F k → σ'.2 30 = G → difF (cF (nE N) (eN N (sh (nI w)) (-1))) (sF N) 100 = difF F G 100 → (∀ k, k < 100 → G k = sF N k) → ¬ N (2 + 6 * w + 5) = 1 → ew_G g kX2_isNeededNow 5 53 [.ref t, .int (nI w), .int x2, .int (bI (difF F G k = true)), .int (nI k)] [] (tw t σ' h) Q := by
    intro m
    induction m with
    | zero =>
      intro k x2 F G σ' hk hF h29 h30 hd hG hn
      have e9 : k = 100 := by omega
      subst e9
      refine ew_iload (pc := 53) dX2_isNeededNow_53 rfl ?_
      refine ew_aload_n (pc := 55) dX2_isNeededNow_55 rfl ?_
      refine tg_g29 (pc := 56) rfl dX2_isNeededNow_56 ?_
      refine tg_n29 (pc := 59) dX2_isNeededNow_59 ?_
      refine ew_icmp_ge (pc := 60) (tgt := 110) dX2_isNeededNow_60 (by decide) (fun c60 => ?_) (fun c60 => absurd (nI_le (Nat.le_refl 100) (by decide)) c60)
      refine ew_iload_n (pc := 110) dX2_isNeededNow_110 rfl ?_
      refine ew_zret (pc := 111) (ty := .boolean) rfl bI_nar dX2_isNeededNow_111 ?_
      have h8 := hq σ' hF (fun k hk => by rw [h29, cpF_at, if_pos hk, hG k hk])
      rw [show bI (ndI N w) = bI (difF F G 100 = true) from bI_c (by rw [ndI, hd]; exact ⟨fun h9 => h9.2, fun h9 => ⟨hn, h9⟩⟩)] at h8
      exact h8
    | succ m ih =>
      intro k x2 F G σ' hk hF h29 h30 hd hG hn
      have e29 : σ'.2 29 k = F k := by rw [h29, cpF_at, if_neg (Nat.lt_irrefl _)]
      have e30 : σ'.2 30 k = G k := by rw [h30]
      have s89 : ew_G g kX2_isNeededNow 5 89 [.ref t, .int (nI w), .int x2, .int (bI (difF F G k = true)), .int (nI k)] [.int (bI (difF F G (k + 1) = true))] (tw t σ' h) Q := by
        refine ew_istore_n (pc := 89) dX2_isNeededNow_89 rfl (by decide) (p1_3 rfl) ?_
        refine ew_aload_n (pc := 90) dX2_isNeededNow_90 rfl ?_
        refine tg_g29 (pc := 91) rfl dX2_isNeededNow_91 ?_
        refine ew_iload (pc := 94) dX2_isNeededNow_94 rfl ?_
        refine ew_aload_n (pc := 96) dX2_isNeededNow_96 rfl ?_
        refine tg_g30 (pc := 97) rfl dX2_isNeededNow_97 ?_
        refine ew_iload (pc := 100) dX2_isNeededNow_100 rfl ?_
        refine tg_l30 (pc := 102) (j := k) rfl (by omega) dX2_isNeededNow_102 ?_
        refine tg_s29 (pc := 103) (j := k) rfl (by omega) dX2_isNeededNow_103 ?_
        refine ew_iinc (pc := 104) dX2_isNeededNow_104 rfl (nI_inc k) (by decide) (p1_4 rfl) ?_
        refine ew_goto (pc := 107) (tgt := 53) dX2_isNeededNow_107 (by decide) ?_
        refine ih (k + 1) _ F G _ (by omega) (hF.xA 29 _ rfl) ?_ h30 hd hG hn
        show upd (σ'.2 29) k (σ'.2 30 k) = _
        rw [e30, h29, cpF]
      refine ew_iload (pc := 53) dX2_isNeededNow_53 rfl ?_
      refine ew_aload_n (pc := 55) dX2_isNeededNow_55 rfl ?_
      refine tg_g29 (pc := 56) rfl dX2_isNeededNow_56 ?_
      refine tg_n29 (pc := 59) dX2_isNeededNow_59 ?_
      refine ew_icmp_ge (pc := 60) (tgt := 110) dX2_isNeededNow_60 (by decide) (fun c60 => absurd c60 (nI_ge (b := 100) (by omega) (by decide))) (fun c60 => ?_)
      refine ew_iload_n (pc := 63) dX2_isNeededNow_63 rfl ?_
      refine ew_if_ne (pc := 64) (tgt := 84) dX2_isNeededNow_64 (by decide) (fun c64 => ?_) (fun c64 => ?_)
      · refine ew_iconst (pc := 84) (v := 1) dX2_isNeededNow_84 rfl ?_
        refine ew_goto (pc := 85) (tgt := 89) dX2_isNeededNow_85 (by decide) ?_
        have h8 := s89
        first
        | rw [show bI (difF F G (k + 1) = true) = 1 from bI_t (by rw [difF, bI_n.mp c64, Bool.true_or])] at h8
          exact h8
        | rw [e29, e30] at c81
          rw [show bI (difF F G (k + 1) = true) = 0 from bI_f (by rw [difF, Bool.eq_false_iff.mpr (bI_0.mp c64), Bool.false_or]; exact fun h9 => (of_decide_eq_true h9) c81)] at h8
          exact h8
        | rw [e29, e30] at c81
          rw [show bI (difF F G (k + 1) = true) = 1 from bI_t (by rw [difF, Bool.eq_false_iff.mpr (bI_0.mp c64), Bool.false_or]; exact decide_eq_true c81)] at h8
          exact h8
      · refine ew_aload_n (pc := 67) dX2_isNeededNow_67 rfl ?_
        refine tg_g29 (pc := 68) rfl dX2_isNeededNow_68 ?_
        refine ew_iload (pc := 71) dX2_isNeededNow_71 rfl ?_
        refine tg_l29 (pc := 73) (j := k) rfl (by omega) dX2_isNeededNow_73 ?_
        refine ew_aload_n (pc := 74) dX2_isNeededNow_74 rfl ?_
        refine tg_g30 (pc := 75) rfl dX2_isNeededNow_75 ?_
        refine ew_iload (pc := 78) dX2_isNeededNow_78 rfl ?_
        refine tg_l30 (pc := 80) (j := k) rfl (by omega) dX2_isNeededNow_80 ?_
        refine ew_icmp_eq (pc := 81) (tgt := 88) dX2_isNeededNow_81 (by decide) (fun c81 => ?_) (fun c81 => ?_)
        · refine ew_iconst (pc := 88) (v := 0) dX2_isNeededNow_88 rfl ?_
          have h8 := s89
          first
          | rw [show bI (difF F G (k + 1) = true) = 1 from bI_t (by rw [difF, bI_n.mp c64, Bool.true_or])] at h8
            exact h8
          | rw [e29, e30] at c81
            rw [show bI (difF F G (k + 1) = true) = 0 from bI_f (by rw [difF, Bool.eq_false_iff.mpr (bI_0.mp c64), Bool.false_or]; exact fun h9 => (of_decide_eq_true h9) c81)] at h8
            exact h8
          | rw [e29, e30] at c81
            rw [show bI (difF F G (k + 1) = true) = 1 from bI_t (by rw [difF, Bool.eq_false_iff.mpr (bI_0.mp c64), Bool.false_or]; exact decide_eq_true c81)] at h8
            exact h8
        · refine ew_iconst (pc := 84) (v := 1) dX2_isNeededNow_84 rfl ?_
          refine ew_goto (pc := 85) (tgt := 89) dX2_isNeededNow_85 (by decide) ?_
          have h8 := s89
          first
          | rw [show bI (difF F G (k + 1) = true) = 1 from bI_t (by rw [difF, bI_n.mp c64, Bool.true_or])] at h8
            exact h8
          | rw [e29, e30] at c81
            rw [show bI (difF F G (k + 1) = true) = 0 from bI_f (by rw [difF, Bool.eq_false_iff.mpr (bI_0.mp c64), Bool.false_or]; exact fun h9 => (of_decide_eq_true h9) c81)] at h8
            exact h8
          | rw [e29, e30] at c81
            rw [show bI (difF F G (k + 1) = true) = 1 from bI_t (by rw [difF, Bool.eq_false_iff.mpr (bI_0.mp c64), Bool.false_or]; exact decide_eq_true c81)] at h8
            exact h8
  have lA : ∀ m k σ' x3 x4, k + m = 100 → Fq [30] σ σ' → σ'.2 30 = cpF (σ.2 29) (σ.2 30) k → ¬ N (2 + 6 * w + 5) = 1 → ew_G g kX2_isNeededNow 5 12 [.ref t, .int (nI w), .int (nI k), x3, x4] [] (tw t σ' h) Q := by
    intro m
    induction m with
    | zero =>
      intro k σ' x3 x4 hk hF h30 hn
      have e9 : k = 100 := by omega
      subst e9
      refine ew_iload_n (pc := 12) dX2_isNeededNow_12 rfl ?_
      refine ew_aload_n (pc := 13) dX2_isNeededNow_13 rfl ?_
      refine tg_g29 (pc := 14) rfl dX2_isNeededNow_14 ?_
      refine tg_n29 (pc := 17) dX2_isNeededNow_17 ?_
      refine ew_icmp_ge (pc := 18) (tgt := 39) dX2_isNeededNow_18 (by decide) (fun c18 => ?_) (fun c18 => absurd (nI_le (Nat.le_refl 100) (by decide)) c18)
      refine ew_aload_n (pc := 39) dX2_isNeededNow_39 rfl ?_
      refine ew_iconst (pc := 40) (v := 1) dX2_isNeededNow_40 rfl ?_
      refine ew_iload_n (pc := 41) dX2_isNeededNow_41 rfl ?_
      refine ew_ishl (pc := 42) dX2_isNeededNow_42 ?_
      refine ew_iconst (pc := 43) (v := -1) dX2_isNeededNow_43 rfl ?_
      refine ew_cV2 (d' := 4) (pc := 44) vX2_257 (tw_ro _ _ _ _) dX2_isNeededNow_44 (by decide) (ew_rm (Nat.le_of_ble_eq_true rfl)) ?_
      refine t_boundsWithout ((hF.a 16 rfl).trans hN) rfl ok (fun σ2 b F2 S2 B2 => ?_)
      refine ew_Kr ?_
      refine ew_istore_n (pc := 47) dX2_isNeededNow_47 rfl (by decide) (p1_2 rfl) ?_
      refine ew_iconst (pc := 48) (v := 0) dX2_isNeededNow_48 rfl ?_
      refine ew_istore_n (pc := 49) dX2_isNeededNow_49 rfl (by decide) (p1_3 rfl) ?_
      refine ew_iconst (pc := 50) (v := 0) dX2_isNeededNow_50 rfl ?_
      refine ew_istore (pc := 51) dX2_isNeededNow_51 (by decide) (p1_4 rfl) ?_
      rw [eN_T ok (by rw [hF.a 27 rfl]; exact hT)] at B2
      have hc := B2.c ok.e2 (eAll_ok ok)
      refine lB 100 0 _ (σ2.2 29) (σ2.2 30) σ2 (by omega) ((hF.w rfl).u F2 rfl) rfl rfl ?_ ?_ hn
      · refine difF_ag 100 (fun k hk => (hc.2 k hk).symm) (fun k hk => ?_)
        rw [F2.a 30 rfl, h30, cpF_at, if_pos hk]
        exact (hA k hk).symm
      · intro k hk
        rw [F2.a 30 rfl, h30, cpF_at, if_pos hk]
        exact hA k hk
    | succ m ih =>
      intro k σ' x3 x4 hk hF h30 hn
      refine ew_iload_n (pc := 12) dX2_isNeededNow_12 rfl ?_
      refine ew_aload_n (pc := 13) dX2_isNeededNow_13 rfl ?_
      refine tg_g29 (pc := 14) rfl dX2_isNeededNow_14 ?_
      refine tg_n29 (pc := 17) dX2_isNeededNow_17 ?_
      refine ew_icmp_ge (pc := 18) (tgt := 39) dX2_isNeededNow_18 (by decide) (fun c18 => absurd c18 (nI_ge (b := 100) (by omega) (by decide))) (fun c18 => ?_)
      refine ew_aload_n (pc := 21) dX2_isNeededNow_21 rfl ?_
      refine tg_g30 (pc := 22) rfl dX2_isNeededNow_22 ?_
      refine ew_iload_n (pc := 25) dX2_isNeededNow_25 rfl ?_
      refine ew_aload_n (pc := 26) dX2_isNeededNow_26 rfl ?_
      refine tg_g29 (pc := 27) rfl dX2_isNeededNow_27 ?_
      refine ew_iload_n (pc := 30) dX2_isNeededNow_30 rfl ?_
      refine tg_l29 (pc := 31) (j := k) rfl (by omega) dX2_isNeededNow_31 ?_
      refine tg_s30 (pc := 32) (j := k) rfl (by omega) dX2_isNeededNow_32 ?_
      refine ew_iinc (pc := 33) dX2_isNeededNow_33 rfl (nI_inc k) (by decide) (p1_2 rfl) ?_
      refine ew_goto (pc := 36) (tgt := 12) dX2_isNeededNow_36 (by decide) ?_
      refine ih (k + 1) _ _ _ (by omega) (hF.xA 30 _ rfl) ?_ hn
      show upd (σ'.2 30) k (σ'.2 29 k) = _
      rw [hF.a 29 rfl, h30, cpF]
  refine ew_enter (by decide +kernel) (ew_a1 rfl (ew_a1 rfl (ew_an (ew_an (ew_an ew_az))))) (Nat.le_of_ble_eq_true rfl) ?_
  refine ew_aload_n (pc := 0) dX2_isNeededNow_0 rfl ?_
  refine ew_iload_n (pc := 1) dX2_isNeededNow_1 rfl ?_
  refine ew_cV1 (d' := 2) (pc := 2) vX2_223 (tw_ro _ _ _ _) dX2_isNeededNow_2 (by decide) (ew_rm (Nat.le_of_ble_eq_true rfl)) ?_
  refine t_isDroppedN hN (by omega) ?_
  refine ew_Kr ?_
  refine ew_if_eq (pc := 5) (tgt := 10) dX2_isNeededNow_5 (by decide) (fun c5 => ?_) (fun c5 => ?_)
  · refine ew_iconst (pc := 10) (v := 0) dX2_isNeededNow_10 rfl ?_
    refine ew_istore_n (pc := 11) dX2_isNeededNow_11 rfl (by decide) (p1_2 rfl) ?_
    exact lA 100 0 σ _ _ (by omega) (Fq.r _ σ) rfl (bI_0.mp c5)
  · refine ew_iconst (pc := 8) (v := 0) dX2_isNeededNow_8 rfl ?_
    refine ew_zret (pc := 9) (ty := .boolean) rfl rfl dX2_isNeededNow_9 ?_
    have h8 := hq σ (Fq.r _ σ) hA
    rw [bI_f (fun h9 : ndI N w => h9.1 (bI_n.mp c5))] at h8
    exact h8
theorem o_isNeeded {g : eg} {h : eh} {t : Nat} {σ : tS} {N : Nat → Int32} {a : Int32} {Q : Outcome → eh → Prop} (hJ : TJ σ N)
    (hq : ∀ σ' v, An SC σ (se1 (σ.1 21) (sB N) (bI (isIx (nW N) a))) (bI (ndI N (ix a))) σ' v → Q (.returned (some (.int v))) (tw t σ' h)) : ew_T g kX2_isNeeded 7 [.ref t, .int a] (tw t σ h) Q := by
  refine ew_enter (by decide +kernel) (ew_a1 rfl (ew_a1 rfl ew_az)) (Nat.le_of_ble_eq_true rfl) ?_
  refine ew_aload_n (pc := 0) dX2_isNeeded_0 rfl ?_
  refine ew_aload_n (pc := 1) dX2_isNeeded_1 rfl ?_
  refine ew_iload_n (pc := 2) dX2_isNeeded_2 rfl ?_
  refine ew_cV1 (d' := 1) (pc := 3) vX2_295 (tw_ro _ _ _ _) dX2_isNeeded_3 (by decide) (ew_rm (Nat.le_of_ble_eq_true rfl)) ?_
  refine t_isWindow hJ.n hJ.z ?_
  refine ew_Kr ?_
  refine ew_cV1 (d' := 6) (pc := 6) vX2_314 (tw_ro _ _ _ _) dX2_isNeeded_6 (by decide) (ew_rm (Nat.le_of_ble_eq_true rfl)) ?_
  refine t_maySee hJ (fun σ1 F1 h0 L1 => ?_)
  refine ew_Kr ?_
  refine ew_if_eq (pc := 9) (tgt := 24) dX2_isNeeded_9 (by decide) (fun c9 => ?_) (fun c9 => ?_)
  · refine ew_iconst (pc := 24) (v := 0) dX2_isNeeded_24 rfl ?_
    refine ew_zret (pc := 25) (ty := .boolean) rfl rfl dX2_isNeeded_25 ?_
    first
    | exact hq _ _ ⟨F1.w rfl, h0, fun h9 => absurd h9 (bI_0.mp c9)⟩
    | exact hq _ _ ⟨(F1.w rfl).u F2 rfl, (F2.s 0 rfl).trans h0, fun _ => bI_T (bI_n.mp c17)⟩
    | exact hq _ _ ⟨(F1.w rfl).u F2 rfl, (F2.s 0 rfl).trans h0, fun _ => bI_F (bI_0.mp c17)⟩
  · have hp := se1_0.mp (bI_n.mp c9)
    have hi := bI_n.mp hp.2.2
    have ok := hJ.ok hp.1
    have hn := ok.w2
    have ha := hi.to (by omega)
    rw [ha.2]
    refine ew_aload_n (pc := 12) dX2_isNeeded_12 rfl ?_
    refine ew_iload_n (pc := 13) dX2_isNeeded_13 rfl ?_
    refine ew_cV1 (d' := 5) (pc := 14) vX2_329 (tw_ro _ _ _ _) dX2_isNeeded_14 (by decide) (ew_rm (Nat.le_of_ble_eq_true rfl)) ?_
    refine t_isNeededNow ((F1.a 16 rfl).trans hJ.n) ok (L1 hp.1).1 (L1 hp.1).2.2 ha.1 (fun σ2 F2 A2 => ?_)
    refine ew_Kr ?_
    refine ew_if_eq (pc := 17) (tgt := 24) dX2_isNeeded_17 (by decide) (fun c17 => ?_) (fun c17 => ?_)
    · refine ew_iconst (pc := 24) (v := 0) dX2_isNeeded_24 rfl ?_
      refine ew_zret (pc := 25) (ty := .boolean) rfl rfl dX2_isNeeded_25 ?_
      first
      | exact hq _ _ ⟨F1.w rfl, h0, fun h9 => absurd h9 (bI_0.mp c9)⟩
      | exact hq _ _ ⟨(F1.w rfl).u F2 rfl, (F2.s 0 rfl).trans h0, fun _ => bI_T (bI_n.mp c17)⟩
      | exact hq _ _ ⟨(F1.w rfl).u F2 rfl, (F2.s 0 rfl).trans h0, fun _ => bI_F (bI_0.mp c17)⟩
    · refine ew_iconst (pc := 20) (v := 1) dX2_isNeeded_20 rfl ?_
      refine ew_goto (pc := 21) (tgt := 25) dX2_isNeeded_21 (by decide) ?_
      refine ew_zret (pc := 25) (ty := .boolean) rfl rfl dX2_isNeeded_25 ?_
      first
      | exact hq _ _ ⟨F1.w rfl, h0, fun h9 => absurd h9 (bI_0.mp c9)⟩
      | exact hq _ _ ⟨(F1.w rfl).u F2 rfl, (F2.s 0 rfl).trans h0, fun _ => bI_T (bI_n.mp c17)⟩
      | exact hq _ _ ⟨(F1.w rfl).u F2 rfl, (F2.s 0 rfl).trans h0, fun _ => bI_F (bI_0.mp c17)⟩
def looseV (F : Nat → Int32) : Nat → Int32
  | 0 => 0
  | e + 1 => looseV F e ||| (if latV F e = -1 then sh (nI e) else 0)
def critV (F : Nat → Int32) : Nat → Int32
  | 0 => 0
  | e + 1 => critV F e ||| (if slackV F e = 0 then sh (nI e) else 0)
def endV (F : Nat → Int32) : Nat → Int32
  | 0 => 0
  | e + 1 => jmax (endV F e) (earlV F e)
theorem o_loose {g : eg} {h : eh} {t : Nat} {σ : tS} {N : Nat → Int32} {Q : Outcome → eh → Prop} (hJ : TJ σ N)
    (hq : ∀ σ' v, An SC σ (se1 (σ.1 21) (sB N) 1) (looseV (sF N) (nE N)) σ' v → Q (.returned (some (.int v))) (tw t σ' h)) : ew_T g kX2_loose 7 [.ref t] (tw t σ h) Q := by
  have main : ∀ σ', okN N → σ'.2 16 = N → Ag (σ'.2 29) (sF N) → Q (.returned (some (.int (looseV (sF N) (nE N))))) (tw t σ' h) → ∀ m e, e + m = nE N → ew_G g kX2_loose 7 14 [.ref t, .int (looseV (sF N) e), .int (nI e)] [] (tw t σ' h) Q := by
    intro σ' ok hN hA hq9 m
    have hn := ok.e2
    induction m with
    | zero =>
      intro e he
      have e9 : e = nE N := by omega
      subst e9
      refine ew_iload_n (pc := 14) dX2_loose_14 rfl ?_
      refine ew_aload_n (pc := 15) dX2_loose_15 rfl ?_
      refine ew_cV0 (d' := 0) (pc := 16) vX2_230 (tw_ro _ _ _ _) dX2_loose_16 (by decide) (ew_rm (Nat.le_of_ble_eq_true rfl)) ?_
      refine t_eventsN hN ok ?_
      refine ew_Kr ?_
      refine ew_icmp_ge (pc := 19) (tgt := 47) dX2_loose_19 (by decide) (fun c19 => ?_) (fun c19 => absurd (nI_le (Nat.le_refl _) (by omega)) c19)
      refine ew_iload_n (pc := 47) dX2_loose_47 rfl ?_
      refine ew_iret (pc := 48) rfl dX2_loose_48 ?_
      exact hq9
    | succ m ih =>
      intro e he
      have ih1 := ih (e + 1) (by omega)
      rw [looseV] at ih1
      refine ew_iload_n (pc := 14) dX2_loose_14 rfl ?_
      refine ew_aload_n (pc := 15) dX2_loose_15 rfl ?_
      refine ew_cV0 (d' := 0) (pc := 16) vX2_230 (tw_ro _ _ _ _) dX2_loose_16 (by decide) (ew_rm (Nat.le_of_ble_eq_true rfl)) ?_
      refine t_eventsN hN ok ?_
      refine ew_Kr ?_
      refine ew_icmp_ge (pc := 19) (tgt := 47) dX2_loose_19 (by decide) (fun c19 => absurd c19 (nI_ge (by omega) (by omega))) (fun c19 => ?_)
      refine ew_iload_n (pc := 22) dX2_loose_22 rfl ?_
      refine ew_aload_n (pc := 23) dX2_loose_23 rfl ?_
      refine ew_iload_n (pc := 24) dX2_loose_24 rfl ?_
      refine ew_cV1 (d' := 1) (pc := 25) vX2_305 (tw_ro _ _ _ _) dX2_loose_25 (by decide) (ew_rm (Nat.le_of_ble_eq_true rfl)) ?_
      refine t_latestOf hA (by omega) ?_
      refine ew_Kr ?_
      refine ew_iconst (pc := 28) (v := -1) dX2_loose_28 rfl ?_
      refine ew_icmp_ne (pc := 29) (tgt := 38) dX2_loose_29 (by decide) (fun c29 => ?_) (fun c29 => ?_)
      · refine ew_iconst (pc := 38) (v := 0) dX2_loose_38 rfl ?_
        refine ew_ior (pc := 39) dX2_loose_39 ?_
        refine ew_istore_n (pc := 40) dX2_loose_40 rfl (by decide) (p1_1 rfl) ?_
        refine ew_iinc (pc := 41) dX2_loose_41 rfl (nI_inc e) (by decide) (p1_2 rfl) ?_
        refine ew_goto (pc := 44) (tgt := 14) dX2_loose_44 (by decide) ?_
        first
        | rw [if_pos c29] at ih1
          exact ih1
        | rw [if_neg c29] at ih1
          exact ih1
      · refine ew_iconst (pc := 32) (v := 1) dX2_loose_32 rfl ?_
        refine ew_iload_n (pc := 33) dX2_loose_33 rfl ?_
        refine ew_ishl (pc := 34) dX2_loose_34 ?_
        refine ew_goto (pc := 35) (tgt := 39) dX2_loose_35 (by decide) ?_
        refine ew_ior (pc := 39) dX2_loose_39 ?_
        refine ew_istore_n (pc := 40) dX2_loose_40 rfl (by decide) (p1_1 rfl) ?_
        refine ew_iinc (pc := 41) dX2_loose_41 rfl (nI_inc e) (by decide) (p1_2 rfl) ?_
        refine ew_goto (pc := 44) (tgt := 14) dX2_loose_44 (by decide) ?_
        first
        | rw [if_pos c29] at ih1
          exact ih1
        | rw [if_neg c29] at ih1
          exact ih1
  refine ew_enter (by decide +kernel) (ew_a1 rfl (ew_an (ew_an ew_az))) (Nat.le_of_ble_eq_true rfl) ?_
  refine ew_aload_n (pc := 0) dX2_loose_0 rfl ?_
  refine ew_iconst (pc := 1) (v := 1) dX2_loose_1 rfl ?_
  refine ew_cV1 (d' := 6) (pc := 2) vX2_314 (tw_ro _ _ _ _) dX2_loose_2 (by decide) (ew_rm (Nat.le_of_ble_eq_true rfl)) ?_
  refine t_maySee hJ (fun σ1 F1 h0 L1 => ?_)
  refine ew_Kr ?_
  refine ew_if_ne (pc := 5) (tgt := 10) dX2_loose_5 (by decide) (fun c5 => ?_) (fun c5 => ?_)
  · refine ew_iconst (pc := 10) (v := 0) dX2_loose_10 rfl ?_
    refine ew_istore_n (pc := 11) dX2_loose_11 rfl (by decide) (p1_1 rfl) ?_
    refine ew_iconst (pc := 12) (v := 0) dX2_loose_12 rfl ?_
    refine ew_istore_n (pc := 13) dX2_loose_13 rfl (by decide) (p1_2 rfl) ?_
    have hp := se1_0.mp (bI_n.mp c5)
    exact main σ1 (hJ.ok hp.1) ((F1.a 16 rfl).trans hJ.n) (L1 hp.1).2.2 (hq _ _ ⟨F1.w rfl, h0, fun _ => rfl⟩) (nE N) 0 (by omega)
  · refine ew_iconst (pc := 8) (v := 0) dX2_loose_8 rfl ?_
    refine ew_iret (pc := 9) rfl dX2_loose_9 ?_
    exact hq _ _ ⟨F1.w rfl, h0, fun h9 => absurd h9 (bI_0.mp c5)⟩
theorem o_critical {g : eg} {h : eh} {t : Nat} {σ : tS} {N : Nat → Int32} {Q : Outcome → eh → Prop} (hJ : TJ σ N)
    (hq : ∀ σ' v, An SC σ (se1 (σ.1 21) (sB N) 1) (critV (sF N) (nE N)) σ' v → Q (.returned (some (.int v))) (tw t σ' h)) : ew_T g kX2_critical 7 [.ref t] (tw t σ h) Q := by
  have main : ∀ σ', okN N → σ'.2 16 = N → Ag (σ'.2 29) (sF N) → Q (.returned (some (.int (critV (sF N) (nE N))))) (tw t σ' h) → ∀ m e, e + m = nE N → ew_G g kX2_critical 7 14 [.ref t, .int (critV (sF N) e), .int (nI e)] [] (tw t σ' h) Q := by
    intro σ' ok hN hA hq9 m
    have hn := ok.e2
    induction m with
    | zero =>
      intro e he
      have e9 : e = nE N := by omega
      subst e9
      refine ew_iload_n (pc := 14) dX2_critical_14 rfl ?_
      refine ew_aload_n (pc := 15) dX2_critical_15 rfl ?_
      refine ew_cV0 (d' := 0) (pc := 16) vX2_230 (tw_ro _ _ _ _) dX2_critical_16 (by decide) (ew_rm (Nat.le_of_ble_eq_true rfl)) ?_
      refine t_eventsN hN ok ?_
      refine ew_Kr ?_
      refine ew_icmp_ge (pc := 19) (tgt := 46) dX2_critical_19 (by decide) (fun c19 => ?_) (fun c19 => absurd (nI_le (Nat.le_refl _) (by omega)) c19)
      refine ew_iload_n (pc := 46) dX2_critical_46 rfl ?_
      refine ew_iret (pc := 47) rfl dX2_critical_47 ?_
      exact hq9
    | succ m ih =>
      intro e he
      have ih1 := ih (e + 1) (by omega)
      rw [critV] at ih1
      refine ew_iload_n (pc := 14) dX2_critical_14 rfl ?_
      refine ew_aload_n (pc := 15) dX2_critical_15 rfl ?_
      refine ew_cV0 (d' := 0) (pc := 16) vX2_230 (tw_ro _ _ _ _) dX2_critical_16 (by decide) (ew_rm (Nat.le_of_ble_eq_true rfl)) ?_
      refine t_eventsN hN ok ?_
      refine ew_Kr ?_
      refine ew_icmp_ge (pc := 19) (tgt := 46) dX2_critical_19 (by decide) (fun c19 => absurd c19 (nI_ge (by omega) (by omega))) (fun c19 => ?_)
      refine ew_iload_n (pc := 22) dX2_critical_22 rfl ?_
      refine ew_aload_n (pc := 23) dX2_critical_23 rfl ?_
      refine ew_iload_n (pc := 24) dX2_critical_24 rfl ?_
      refine ew_cV1 (d' := 2) (pc := 25) vX2_323 (tw_ro _ _ _ _) dX2_critical_25 (by decide) (ew_rm (Nat.le_of_ble_eq_true rfl)) ?_
      refine t_slackOf hA (by omega) ?_
      refine ew_Kr ?_
      refine ew_if_ne (pc := 28) (tgt := 37) dX2_critical_28 (by decide) (fun c28 => ?_) (fun c28 => ?_)
      · refine ew_iconst (pc := 37) (v := 0) dX2_critical_37 rfl ?_
        refine ew_ior (pc := 38) dX2_critical_38 ?_
        refine ew_istore_n (pc := 39) dX2_critical_39 rfl (by decide) (p1_1 rfl) ?_
        refine ew_iinc (pc := 40) dX2_critical_40 rfl (nI_inc e) (by decide) (p1_2 rfl) ?_
        refine ew_goto (pc := 43) (tgt := 14) dX2_critical_43 (by decide) ?_
        first
        | rw [if_pos c28] at ih1
          exact ih1
        | rw [if_neg c28] at ih1
          exact ih1
      · refine ew_iconst (pc := 31) (v := 1) dX2_critical_31 rfl ?_
        refine ew_iload_n (pc := 32) dX2_critical_32 rfl ?_
        refine ew_ishl (pc := 33) dX2_critical_33 ?_
        refine ew_goto (pc := 34) (tgt := 38) dX2_critical_34 (by decide) ?_
        refine ew_ior (pc := 38) dX2_critical_38 ?_
        refine ew_istore_n (pc := 39) dX2_critical_39 rfl (by decide) (p1_1 rfl) ?_
        refine ew_iinc (pc := 40) dX2_critical_40 rfl (nI_inc e) (by decide) (p1_2 rfl) ?_
        refine ew_goto (pc := 43) (tgt := 14) dX2_critical_43 (by decide) ?_
        first
        | rw [if_pos c28] at ih1
          exact ih1
        | rw [if_neg c28] at ih1
          exact ih1
  refine ew_enter (by decide +kernel) (ew_a1 rfl (ew_an (ew_an ew_az))) (Nat.le_of_ble_eq_true rfl) ?_
  refine ew_aload_n (pc := 0) dX2_critical_0 rfl ?_
  refine ew_iconst (pc := 1) (v := 1) dX2_critical_1 rfl ?_
  refine ew_cV1 (d' := 6) (pc := 2) vX2_314 (tw_ro _ _ _ _) dX2_critical_2 (by decide) (ew_rm (Nat.le_of_ble_eq_true rfl)) ?_
  refine t_maySee hJ (fun σ1 F1 h0 L1 => ?_)
  refine ew_Kr ?_
  refine ew_if_ne (pc := 5) (tgt := 10) dX2_critical_5 (by decide) (fun c5 => ?_) (fun c5 => ?_)
  · refine ew_iconst (pc := 10) (v := 0) dX2_critical_10 rfl ?_
    refine ew_istore_n (pc := 11) dX2_critical_11 rfl (by decide) (p1_1 rfl) ?_
    refine ew_iconst (pc := 12) (v := 0) dX2_critical_12 rfl ?_
    refine ew_istore_n (pc := 13) dX2_critical_13 rfl (by decide) (p1_2 rfl) ?_
    have hp := se1_0.mp (bI_n.mp c5)
    exact main σ1 (hJ.ok hp.1) ((F1.a 16 rfl).trans hJ.n) (L1 hp.1).2.2 (hq _ _ ⟨F1.w rfl, h0, fun _ => rfl⟩) (nE N) 0 (by omega)
  · refine ew_iconst (pc := 8) (v := 0) dX2_critical_8 rfl ?_
    refine ew_iret (pc := 9) rfl dX2_critical_9 ?_
    exact hq _ _ ⟨F1.w rfl, h0, fun h9 => absurd h9 (bI_0.mp c5)⟩
theorem o_end {g : eg} {h : eh} {t : Nat} {σ : tS} {N : Nat → Int32} {Q : Outcome → eh → Prop} (hJ : TJ σ N)
    (hq : ∀ σ' v, An SC σ (se1 (σ.1 21) (sB N) 1) (endV (sF N) (nE N)) σ' v → Q (.returned (some (.int v))) (tw t σ' h)) : ew_T g kX2_end 7 [.ref t] (tw t σ h) Q := by
  have main : ∀ σ', okN N → σ'.2 16 = N → Ag (σ'.2 29) (sF N) → Q (.returned (some (.int (endV (sF N) (nE N))))) (tw t σ' h) → ∀ m e, e + m = nE N → ew_G g kX2_end 7 14 [.ref t, .int (endV (sF N) e), .int (nI e)] [] (tw t σ' h) Q := by
    intro σ' ok hN hA hq9 m
    have hn := ok.e2
    induction m with
    | zero =>
      intro e he
      have e9 : e = nE N := by omega
      subst e9
      refine ew_iload_n (pc := 14) dX2_end_14 rfl ?_
      refine ew_aload_n (pc := 15) dX2_end_15 rfl ?_
      refine ew_cV0 (d' := 0) (pc := 16) vX2_230 (tw_ro _ _ _ _) dX2_end_16 (by decide) (ew_rm (Nat.le_of_ble_eq_true rfl)) ?_
      refine t_eventsN hN ok ?_
      refine ew_Kr ?_
      refine ew_icmp_ge (pc := 19) (tgt := 38) dX2_end_19 (by decide) (fun c19 => ?_) (fun c19 => absurd (nI_le (Nat.le_refl _) (by omega)) c19)
      refine ew_iload_n (pc := 38) dX2_end_38 rfl ?_
      refine ew_iret (pc := 39) rfl dX2_end_39 ?_
      exact hq9
    | succ m ih =>
      intro e he
      refine ew_iload_n (pc := 14) dX2_end_14 rfl ?_
      refine ew_aload_n (pc := 15) dX2_end_15 rfl ?_
      refine ew_cV0 (d' := 0) (pc := 16) vX2_230 (tw_ro _ _ _ _) dX2_end_16 (by decide) (ew_rm (Nat.le_of_ble_eq_true rfl)) ?_
      refine t_eventsN hN ok ?_
      refine ew_Kr ?_
      refine ew_icmp_ge (pc := 19) (tgt := 38) dX2_end_19 (by decide) (fun c19 => absurd c19 (nI_ge (by omega) (by omega))) (fun c19 => ?_)
      refine ew_iload_n (pc := 22) dX2_end_22 rfl ?_
      refine ew_aload_n (pc := 23) dX2_end_23 rfl ?_
      refine ew_iload_n (pc := 24) dX2_end_24 rfl ?_
      refine ew_cV1 (d' := 1) (pc := 25) vX2_308 (tw_ro _ _ _ _) dX2_end_25 (by decide) (ew_rm (Nat.le_of_ble_eq_true rfl)) ?_
      refine t_earliestOf hA (by omega) ?_
      refine ew_Kr ?_
      refine ew_mmax (pc := 28) (ew_q q3082) (ew_q q578) (ew_q q141) (ew_q q579) (ew_rm (Nat.le_of_ble_eq_true rfl)) dX2_end_28 ?_
      refine ew_istore_n (pc := 31) dX2_end_31 rfl (by decide) (p1_1 rfl) ?_
      refine ew_iinc (pc := 32) dX2_end_32 rfl (nI_inc e) (by decide) (p1_2 rfl) ?_
      refine ew_goto (pc := 35) (tgt := 14) dX2_end_35 (by decide) ?_
      exact ih (e + 1) (by omega)
  refine ew_enter (by decide +kernel) (ew_a1 rfl (ew_an (ew_an ew_az))) (Nat.le_of_ble_eq_true rfl) ?_
  refine ew_aload_n (pc := 0) dX2_end_0 rfl ?_
  refine ew_iconst (pc := 1) (v := 1) dX2_end_1 rfl ?_
  refine ew_cV1 (d' := 6) (pc := 2) vX2_314 (tw_ro _ _ _ _) dX2_end_2 (by decide) (ew_rm (Nat.le_of_ble_eq_true rfl)) ?_
  refine t_maySee hJ (fun σ1 F1 h0 L1 => ?_)
  refine ew_Kr ?_
  refine ew_if_ne (pc := 5) (tgt := 10) dX2_end_5 (by decide) (fun c5 => ?_) (fun c5 => ?_)
  · refine ew_iconst (pc := 10) (v := 0) dX2_end_10 rfl ?_
    refine ew_istore_n (pc := 11) dX2_end_11 rfl (by decide) (p1_1 rfl) ?_
    refine ew_iconst (pc := 12) (v := 0) dX2_end_12 rfl ?_
    refine ew_istore_n (pc := 13) dX2_end_13 rfl (by decide) (p1_2 rfl) ?_
    have hp := se1_0.mp (bI_n.mp c5)
    exact main σ1 (hJ.ok hp.1) ((F1.a 16 rfl).trans hJ.n) (L1 hp.1).2.2 (hq _ _ ⟨F1.w rfl, h0, fun _ => rfl⟩) (nE N) 0 (by omega)
  · refine ew_iconst (pc := 8) (v := 0) dX2_end_8 rfl ?_
    refine ew_iret (pc := 9) rfl dX2_end_9 ?_
    exact hq _ _ ⟨F1.w rfl, h0, fun h9 => absurd h9 (bI_0.mp c5)⟩
