/-! EW: the reference: windows added, events fixed -/
set_option maxRecDepth 100000
theorem o_addWindow {g : eg} {h : eh} {t : Nat} {σ : tS} {N : Nat → Int32} {P : List (Nat → Int32)} {a b lo hi : Int32} {Q : Outcome → eh → Prop} (hJ : TJ σ N) (hP : Pa σ P)
    (hq : ∀ σ' r, Ch σ (as2 (σ.1 21) (bI (isIx (nE N) a ∧ isIx (nE N) b)) (bI (¬ a = b ∧ inO lo hi ∧ nI (nW N) < 24))) (nI (nW N)) N (layN N a b lo hi 0) P σ' r → Q (.returned (some (.int r))) (tw t σ' h)) : ew_T g kX2_addWindow 3 [.ref t, .int a, .int b, .int lo, .int hi] (tw t σ h) Q := by
  have hw : nW N ≤ 24 := hJ.z.2.2.2
  have s30 : ∀ f, f = bI (¬ a = b ∧ inO lo hi ∧ nI (nW N) < 24) → ew_G g kX2_addWindow 3 30 [.ref t, .int a, .int b, .int lo, .int hi, .int f] [] (tw t σ h) Q := by
    intro f hf
    rw [hf]
    refine ew_aload_n (pc := 30) dX2_addWindow_30 rfl ?_
    refine ew_aload_n (pc := 31) dX2_addWindow_31 rfl ?_
    refine ew_iload_n (pc := 32) dX2_addWindow_32 rfl ?_
    refine ew_iload_n (pc := 33) dX2_addWindow_33 rfl ?_
    refine ew_cV2 (d' := 2) (pc := 34) vX2_311 (tw_ro _ _ _ _) dX2_addWindow_34 (by decide) (ew_rm (Nat.le_of_ble_eq_true rfl)) ?_
    refine t_areEvents hJ.n hJ.z ?_
    refine ew_Kr ?_
    refine ew_iload (pc := 37) dX2_addWindow_37 rfl ?_
    refine ew_cV2 (d' := 0) (pc := 39) vX2_298 (tw_ro _ _ _ _) dX2_addWindow_39 (by decide) (ew_rm (Nat.le_of_ble_eq_true rfl)) ?_
    refine t_ask2 (fun σ1 F1 h0 => ?_)
    refine ew_Kr ?_
    refine ew_if_ne (pc := 42) (tgt := 47) dX2_addWindow_42 (by decide) (fun c42 => ?_) (fun c42 => ?_)
    · have hp := as2_0.mp (bI_n.mp c42)
      have hl : nW N < 24 := (nI_ltI (b := 24) (by omega) (by decide)).mp (bI_n.mp hp.2.2).2.2
      refine ew_aload_n (pc := 47) dX2_addWindow_47 rfl ?_
      refine ew_cV0 (d' := 1) (pc := 48) vX2_432 (tw_ro _ _ _ _) dX2_addWindow_48 (by decide) (ew_rm (Nat.le_of_ble_eq_true rfl)) ?_
      refine t_remembers ((F1.a 16 rfl).trans hJ.n) (hP.fq F1 rfl rfl) (fun σ2 F2 P2 => ?_)
      refine ew_Kv ?_
      refine ew_aload_n (pc := 51) dX2_addWindow_51 rfl ?_
      refine ew_iload_n (pc := 52) dX2_addWindow_52 rfl ?_
      refine ew_iload_n (pc := 53) dX2_addWindow_53 rfl ?_
      refine ew_iload_n (pc := 54) dX2_addWindow_54 rfl ?_
      refine ew_iload (pc := 55) dX2_addWindow_55 rfl ?_
      refine ew_iconst (pc := 57) (v := 0) dX2_addWindow_57 rfl ?_
      refine ew_cV5 (d' := 1) (pc := 58) vX2_158 (tw_ro _ _ _ _) dX2_addWindow_58 (by decide) (ew_rm (Nat.le_of_ble_eq_true rfl)) ?_
      refine t_laysN (N := N) ((F2.a 16 rfl).trans ((F1.a 16 rfl).trans hJ.n)) hl hJ.z.2.2.1 ?_
      refine ew_Kr ?_
      refine ew_iret (pc := 61) rfl dX2_addWindow_61 ?_
      exact hq _ _ ⟨((F1.w rfl).u F2 rfl).xA 16 _ rfl, (F2.s 0 rfl).trans h0, fun _ => ⟨rfl, rfl, P2.fq (Fq.A (S := [16]) _ 16 _ rfl) rfl rfl⟩, fun h9 => absurd (bI_n.mp c42) h9⟩
    · refine ew_iconst (pc := 45) (v := 0) dX2_addWindow_45 rfl ?_
      refine ew_iret (pc := 46) rfl dX2_addWindow_46 ?_
      exact hq _ _ (Ch.no F1 rfl h0 (bI_0.mp c42) hJ.n hP rfl rfl rfl)
  refine ew_enter (by decide +kernel) (ew_a1 rfl (ew_a1 rfl (ew_a1 rfl (ew_a1 rfl (ew_a1 rfl (ew_an ew_az)))))) (Nat.le_of_ble_eq_true rfl) ?_
  refine ew_iload_n (pc := 0) dX2_addWindow_0 rfl ?_
  refine ew_iload_n (pc := 1) dX2_addWindow_1 rfl ?_
  refine ew_icmp_eq (pc := 2) (tgt := 27) dX2_addWindow_2 (by decide) (fun c2 => ?_) (fun c2 => ?_)
  · refine ew_iconst (pc := 27) (v := 0) dX2_addWindow_27 rfl ?_
    refine ew_istore (pc := 28) dX2_addWindow_28 (by decide) (p1_5 rfl) ?_
    first
    | exact s30 _ (bI_T ⟨c2, bI_n.mp c11, Int32.not_le.mp c20⟩)
    | exact s30 _ (bI_F (fun h9 => absurd h9.2.2 (Int32.not_lt.mpr c20)))
    | exact s30 _ (bI_F (fun h9 => bI_0.mp c11 h9.2.1))
    | exact s30 _ (bI_F (fun h9 => h9.1 c2))
  · refine ew_iload_n (pc := 5) dX2_addWindow_5 rfl ?_
    refine ew_iload (pc := 6) dX2_addWindow_6 rfl ?_
    refine ew_cS2 (d' := 1) (pc := 8) sX2_435 dX2_addWindow_8 (by decide) (ew_rm (Nat.le_of_ble_eq_true rfl)) ?_
    refine t_areInOrder ?_
    refine ew_Kr ?_
    refine ew_if_eq (pc := 11) (tgt := 27) dX2_addWindow_11 (by decide) (fun c11 => ?_) (fun c11 => ?_)
    · refine ew_iconst (pc := 27) (v := 0) dX2_addWindow_27 rfl ?_
      refine ew_istore (pc := 28) dX2_addWindow_28 (by decide) (p1_5 rfl) ?_
      first
      | exact s30 _ (bI_T ⟨c2, bI_n.mp c11, Int32.not_le.mp c20⟩)
      | exact s30 _ (bI_F (fun h9 => absurd h9.2.2 (Int32.not_lt.mpr c20)))
      | exact s30 _ (bI_F (fun h9 => bI_0.mp c11 h9.2.1))
      | exact s30 _ (bI_F (fun h9 => h9.1 c2))
    · refine ew_aload_n (pc := 14) dX2_addWindow_14 rfl ?_
      refine ew_cV0 (d' := 0) (pc := 15) vX2_220 (tw_ro _ _ _ _) dX2_addWindow_15 (by decide) (ew_rm (Nat.le_of_ble_eq_true rfl)) ?_
      refine t_windowsZ hJ.n hJ.z ?_
      refine ew_Kr ?_
      refine ew_bipush (pc := 18) (v := 24) dX2_addWindow_18 rfl ?_
      refine ew_icmp_ge (pc := 20) (tgt := 27) dX2_addWindow_20 (by decide) (fun c20 => ?_) (fun c20 => ?_)
      · refine ew_iconst (pc := 27) (v := 0) dX2_addWindow_27 rfl ?_
        refine ew_istore (pc := 28) dX2_addWindow_28 (by decide) (p1_5 rfl) ?_
        first
        | exact s30 _ (bI_T ⟨c2, bI_n.mp c11, Int32.not_le.mp c20⟩)
        | exact s30 _ (bI_F (fun h9 => absurd h9.2.2 (Int32.not_lt.mpr c20)))
        | exact s30 _ (bI_F (fun h9 => bI_0.mp c11 h9.2.1))
        | exact s30 _ (bI_F (fun h9 => h9.1 c2))
      · refine ew_iconst (pc := 23) (v := 1) dX2_addWindow_23 rfl ?_
        refine ew_goto (pc := 24) (tgt := 28) dX2_addWindow_24 (by decide) ?_
        refine ew_istore (pc := 28) dX2_addWindow_28 (by decide) (p1_5 rfl) ?_
        first
        | exact s30 _ (bI_T ⟨c2, bI_n.mp c11, Int32.not_le.mp c20⟩)
        | exact s30 _ (bI_F (fun h9 => absurd h9.2.2 (Int32.not_lt.mpr c20)))
        | exact s30 _ (bI_F (fun h9 => bI_0.mp c11 h9.2.1))
        | exact s30 _ (bI_F (fun h9 => h9.1 c2))
abbrev cbI (N F : Nat → Int32) (e : Nat) (v : Int32) : Prop := N (146 + e) = -1 ∧ (earlV F e ≤ v ∧ v ≤ 999) ∧ (latV F e = -1 ∨ v ≤ latV F e)
theorem t_canBeAt {g : eg} {h : eh} {t e : Nat} {σ : tS} {N F : Nat → Int32} {v : Int32} {Q : Outcome → eh → Prop} (hN : σ.2 16 = N) (hA : Ag (σ.2 29) F) (he : e < 10) (hq : Q (.returned (some (.int (bI (cbI N F e v))))) (tw t σ h)) : ew_T g kX2_canBeAt 2 [.ref t, .int (nI e), .int v] (tw t σ h) Q := by
  subst hN
  refine ew_enter (by decide +kernel) (ew_a1 rfl (ew_a1 rfl (ew_a1 rfl ew_az))) (Nat.le_of_ble_eq_true rfl) ?_
  refine ew_aload_n (pc := 0) dX2_canBeAt_0 rfl ?_
  refine tg_g16 (pc := 1) rfl dX2_canBeAt_1 ?_
  refine ew_sipush (pc := 4) (v := 146) dX2_canBeAt_4 rfl ?_
  refine ew_iload_n (pc := 7) dX2_canBeAt_7 rfl ?_
  refine ew_iadd (pc := 8) dX2_canBeAt_8 ?_
  refine tg_l16 (pc := 9) (j := 146 + e) (by rw [show (146 : Int32) = nI 146 from rfl, nI_add]) (by omega) dX2_canBeAt_9 ?_
  refine ew_iconst (pc := 10) (v := -1) dX2_canBeAt_10 rfl ?_
  refine ew_icmp_ne (pc := 11) (tgt := 29) dX2_canBeAt_11 (by decide) (fun c11 => ?_) (fun c11 => ?_)
  · refine ew_iconst (pc := 29) (v := 0) dX2_canBeAt_29 rfl ?_
    refine ew_zret (pc := 30) (ty := .boolean) rfl rfl dX2_canBeAt_30 ?_
    first
    | rw [bI_t (show cbI (σ.2 16) F e v from ⟨c11, bI_n.mp c26, by first | exact Or.inl c37 | exact Or.inr (Int32.not_lt.mp c46)⟩)] at hq
      exact hq
    | rw [bI_f (show ¬ cbI (σ.2 16) F e v from fun h9 => h9.2.2.elim c37 (fun h8 => absurd h8 (Int32.not_le.mpr c46)))] at hq
      exact hq
    | rw [bI_f (show ¬ cbI (σ.2 16) F e v from fun h9 => bI_0.mp c26 h9.2.1)] at hq
      exact hq
    | rw [bI_f (show ¬ cbI (σ.2 16) F e v from fun h9 => c11 h9.1)] at hq
      exact hq
  · refine ew_iload_n (pc := 14) dX2_canBeAt_14 rfl ?_
    refine ew_aload_n (pc := 15) dX2_canBeAt_15 rfl ?_
    refine ew_iload_n (pc := 16) dX2_canBeAt_16 rfl ?_
    refine ew_cV1 (d' := 1) (pc := 17) vX2_308 (tw_ro _ _ _ _) dX2_canBeAt_17 (by decide) (ew_rm (Nat.le_of_ble_eq_true rfl)) ?_
    refine t_earliestOf hA he ?_
    refine ew_Kr ?_
    refine ew_sipush (pc := 20) (v := 999) dX2_canBeAt_20 rfl ?_
    refine ew_cS3 (d' := 0) (pc := 23) sX2_102 dX2_canBeAt_23 (by decide) (ew_rm (Nat.le_of_ble_eq_true rfl)) ?_
    refine t_inT ?_
    refine ew_Kr ?_
    refine ew_if_ne (pc := 26) (tgt := 31) dX2_canBeAt_26 (by decide) (fun c26 => ?_) (fun c26 => ?_)
    · refine ew_aload_n (pc := 31) dX2_canBeAt_31 rfl ?_
      refine ew_iload_n (pc := 32) dX2_canBeAt_32 rfl ?_
      refine ew_cV1 (d' := 1) (pc := 33) vX2_305 (tw_ro _ _ _ _) dX2_canBeAt_33 (by decide) (ew_rm (Nat.le_of_ble_eq_true rfl)) ?_
      refine t_latestOf hA he ?_
      refine ew_Kr ?_
      refine ew_iconst (pc := 36) (v := -1) dX2_canBeAt_36 rfl ?_
      refine ew_icmp_eq (pc := 37) (tgt := 49) dX2_canBeAt_37 (by decide) (fun c37 => ?_) (fun c37 => ?_)
      · refine ew_iconst (pc := 49) (v := 1) dX2_canBeAt_49 rfl ?_
        refine ew_goto (pc := 50) (tgt := 54) dX2_canBeAt_50 (by decide) ?_
        refine ew_zret (pc := 54) (ty := .boolean) rfl rfl dX2_canBeAt_54 ?_
        first
        | rw [bI_t (show cbI (σ.2 16) F e v from ⟨c11, bI_n.mp c26, by first | exact Or.inl c37 | exact Or.inr (Int32.not_lt.mp c46)⟩)] at hq
          exact hq
        | rw [bI_f (show ¬ cbI (σ.2 16) F e v from fun h9 => h9.2.2.elim c37 (fun h8 => absurd h8 (Int32.not_le.mpr c46)))] at hq
          exact hq
        | rw [bI_f (show ¬ cbI (σ.2 16) F e v from fun h9 => bI_0.mp c26 h9.2.1)] at hq
          exact hq
        | rw [bI_f (show ¬ cbI (σ.2 16) F e v from fun h9 => c11 h9.1)] at hq
          exact hq
      · refine ew_iload_n (pc := 40) dX2_canBeAt_40 rfl ?_
        refine ew_aload_n (pc := 41) dX2_canBeAt_41 rfl ?_
        refine ew_iload_n (pc := 42) dX2_canBeAt_42 rfl ?_
        refine ew_cV1 (d' := 1) (pc := 43) vX2_305 (tw_ro _ _ _ _) dX2_canBeAt_43 (by decide) (ew_rm (Nat.le_of_ble_eq_true rfl)) ?_
        refine t_latestOf hA he ?_
        refine ew_Kr ?_
        refine ew_icmp_gt (pc := 46) (tgt := 53) dX2_canBeAt_46 (by decide) (fun c46 => ?_) (fun c46 => ?_)
        · refine ew_iconst (pc := 53) (v := 0) dX2_canBeAt_53 rfl ?_
          refine ew_zret (pc := 54) (ty := .boolean) rfl rfl dX2_canBeAt_54 ?_
          first
          | rw [bI_t (show cbI (σ.2 16) F e v from ⟨c11, bI_n.mp c26, by first | exact Or.inl c37 | exact Or.inr (Int32.not_lt.mp c46)⟩)] at hq
            exact hq
          | rw [bI_f (show ¬ cbI (σ.2 16) F e v from fun h9 => h9.2.2.elim c37 (fun h8 => absurd h8 (Int32.not_le.mpr c46)))] at hq
            exact hq
          | rw [bI_f (show ¬ cbI (σ.2 16) F e v from fun h9 => bI_0.mp c26 h9.2.1)] at hq
            exact hq
          | rw [bI_f (show ¬ cbI (σ.2 16) F e v from fun h9 => c11 h9.1)] at hq
            exact hq
        · refine ew_iconst (pc := 49) (v := 1) dX2_canBeAt_49 rfl ?_
          refine ew_goto (pc := 50) (tgt := 54) dX2_canBeAt_50 (by decide) ?_
          refine ew_zret (pc := 54) (ty := .boolean) rfl rfl dX2_canBeAt_54 ?_
          first
          | rw [bI_t (show cbI (σ.2 16) F e v from ⟨c11, bI_n.mp c26, by first | exact Or.inl c37 | exact Or.inr (Int32.not_lt.mp c46)⟩)] at hq
            exact hq
          | rw [bI_f (show ¬ cbI (σ.2 16) F e v from fun h9 => h9.2.2.elim c37 (fun h8 => absurd h8 (Int32.not_le.mpr c46)))] at hq
            exact hq
          | rw [bI_f (show ¬ cbI (σ.2 16) F e v from fun h9 => bI_0.mp c26 h9.2.1)] at hq
            exact hq
          | rw [bI_f (show ¬ cbI (σ.2 16) F e v from fun h9 => c11 h9.1)] at hq
            exact hq
    · refine ew_iconst (pc := 29) (v := 0) dX2_canBeAt_29 rfl ?_
      refine ew_zret (pc := 30) (ty := .boolean) rfl rfl dX2_canBeAt_30 ?_
      first
      | rw [bI_t (show cbI (σ.2 16) F e v from ⟨c11, bI_n.mp c26, by first | exact Or.inl c37 | exact Or.inr (Int32.not_lt.mp c46)⟩)] at hq
        exact hq
      | rw [bI_f (show ¬ cbI (σ.2 16) F e v from fun h9 => h9.2.2.elim c37 (fun h8 => absurd h8 (Int32.not_le.mpr c46)))] at hq
        exact hq
      | rw [bI_f (show ¬ cbI (σ.2 16) F e v from fun h9 => bI_0.mp c26 h9.2.1)] at hq
        exact hq
      | rw [bI_f (show ¬ cbI (σ.2 16) F e v from fun h9 => c11 h9.1)] at hq
        exact hq
abbrev fxI (x : Int32) (N : Nat → Int32) (a v : Int32) : Prop := ¬ x = 0 ∧ sB N = true ∧ isIx (nE N) a ∧ cbI N (sF N) (ix a) v
theorem o_fix {g : eg} {h : eh} {t : Nat} {σ : tS} {N : Nat → Int32} {P : List (Nat → Int32)} {a v : Int32} {Q : Outcome → eh → Prop} (hJ : TJ σ N) (hP : Pa σ P)
    (hq : ∀ σ' r, Ch σ (se2 (σ.1 21) (sB N) (bI (isIx (nE N) a)) (bI (fxI (σ.1 21) N a v))) (slackV (sF N) (ix a)) N (upd N (146 + ix a) v) P σ' r → Q (.returned (some (.int r))) (tw t σ' h)) : ew_T g kX2_fix 7 [.ref t, .int a, .int v] (tw t σ h) Q := by
  have hw : nE N ≤ 10 := hJ.z.2.1
  have s36 : ∀ f σ0 x3 x4 x5, Fq [23, 24, 25, 26, 27, 28, 29] σ σ0 → f = bI (fxI (σ.1 21) N a v) → ew_G g kX2_fix 7 36 [.ref t, .int a, .int v, x3, x4, x5] [.int f] (tw t σ0 h) Q := by
    intro f σ0 x3 x4 x5 F0 hf
    have hJ0 : TJ σ0 N := hJ.fq F0 rfl rfl
    have hx : σ0.1 21 = σ.1 21 := F0.s 21 rfl
    rw [hf, ← hx]
    rw [← hx] at hq
    refine ew_istore_n (pc := 36) dX2_fix_36 rfl (by decide) (p1_3 rfl) ?_
    refine ew_aload_n (pc := 37) dX2_fix_37 rfl ?_
    refine ew_aload_n (pc := 38) dX2_fix_38 rfl ?_
    refine ew_iload_n (pc := 39) dX2_fix_39 rfl ?_
    refine ew_cV1 (d' := 1) (pc := 40) vX2_288 (tw_ro _ _ _ _) dX2_fix_40 (by decide) (ew_rm (Nat.le_of_ble_eq_true rfl)) ?_
    refine t_isEvent hJ0.n hJ.z ?_
    refine ew_Kr ?_
    refine ew_iload_n (pc := 43) dX2_fix_43 rfl ?_
    refine ew_cV2 (d' := 6) (pc := 44) vX2_398 (tw_ro _ _ _ _) dX2_fix_44 (by decide) (ew_rm (Nat.le_of_ble_eq_true rfl)) ?_
    refine t_maySeeFor hJ0 (fun σ1 F1 h0 L1 => ?_)
    refine ew_Kr ?_
    refine ew_if_ne (pc := 47) (tgt := 52) dX2_fix_47 (by decide) (fun c47 => ?_) (fun c47 => ?_)
    · have hp := se2_0.mp (bI_n.mp c47)
      have ha := (bI_n.mp hp.2.2.1).to (by omega)
      rw [ha.2]
      refine ew_aload_n (pc := 52) dX2_fix_52 rfl ?_
      refine ew_iload_n (pc := 53) dX2_fix_53 rfl ?_
      refine ew_cV1 (d' := 2) (pc := 54) vX2_323 (tw_ro _ _ _ _) dX2_fix_54 (by decide) (ew_rm (Nat.le_of_ble_eq_true rfl)) ?_
      refine t_slackOf (L1 hp.1).2.2 (by omega) ?_
      refine ew_Kr ?_
      refine ew_istore (pc := 57) dX2_fix_57 (by decide) (p1_4 rfl) ?_
      refine ew_aload_n (pc := 59) dX2_fix_59 rfl ?_
      refine ew_sipush (pc := 60) (v := 146) dX2_fix_60 rfl ?_
      refine ew_iload_n (pc := 63) dX2_fix_63 rfl ?_
      refine ew_iadd (pc := 64) dX2_fix_64 ?_
      rw [show (146 : Int32) = nI 146 from rfl, nI_add]
      refine ew_iload_n (pc := 65) dX2_fix_65 rfl ?_
      refine ew_cV2 (d' := 2) (pc := 66) vX2_438 (tw_ro _ _ _ _) dX2_fix_66 (by decide) (ew_rm (Nat.le_of_ble_eq_true rfl)) ?_
      refine t_sets (a := 146 + ix a) ((F1.a 16 rfl).trans hJ0.n) ((hP.fq F0 rfl rfl).fq F1 rfl rfl) (by omega) (fun σ2 F2 N2 P2 => ?_)
      refine ew_Kr ?_
      refine ew_istore (pc := 69) dX2_fix_69 (by decide) (p1_5 rfl) ?_
      refine ew_iload (pc := 71) dX2_fix_71 rfl ?_
      refine ew_iret (pc := 73) rfl dX2_fix_73 ?_
      exact hq _ _ ⟨((F0.w rfl).u F1 rfl).u F2 rfl, (F2.s 0 rfl).trans h0, fun _ => ⟨rfl, N2, P2⟩, fun h9 => absurd (bI_n.mp c47) h9⟩
    · refine ew_iconst (pc := 50) (v := 0) dX2_fix_50 rfl ?_
      refine ew_iret (pc := 51) rfl dX2_fix_51 ?_
      exact hq _ _ (Ch.no (F0.t (S := SC) F1 rfl rfl) rfl h0 (bI_0.mp c47) hJ.n hP rfl rfl rfl)
  refine ew_enter (by decide +kernel) (ew_a1 rfl (ew_a1 rfl (ew_a1 rfl (ew_an (ew_an (ew_an ew_az)))))) (Nat.le_of_ble_eq_true rfl) ?_
  refine ew_aload_n (pc := 0) dX2_fix_0 rfl ?_
  refine tg_g21 (pc := 1) rfl dX2_fix_1 ?_
  refine ew_if_eq (pc := 4) (tgt := 35) dX2_fix_4 (by decide) (fun c4 => ?_) (fun c4 => ?_)
  · refine ew_iconst (pc := 35) (v := 0) dX2_fix_35 rfl ?_
    first
    | exact s36 _ σ1 _ _ _ F1 (bI_T ⟨c4, bI_n.mp c11, bI_n.mp c19, bI_n.mp c28⟩)
    | exact s36 _ σ1 _ _ _ F1 (bI_F (fun h9 => bI_0.mp c28 h9.2.2.2))
    | exact s36 _ σ1 _ _ _ F1 (bI_F (fun h9 => bI_0.mp c19 h9.2.2.1))
    | exact s36 _ σ1 _ _ _ F1 (bI_F (fun h9 => bI_0.mp c11 h9.2.1))
    | exact s36 _ σ _ _ _ (Fq.r _ _) (bI_F (fun h9 => h9.1 c4))
  · refine ew_aload_n (pc := 7) dX2_fix_7 rfl ?_
    refine ew_cV0 (d' := 5) (pc := 8) vX2_276 (tw_ro _ _ _ _) dX2_fix_8 (by decide) (ew_rm (Nat.le_of_ble_eq_true rfl)) ?_
    refine t_sB hJ.n (hJ.ok c4) (fun σ1 F1 L1 => ?_)
    refine ew_Kr ?_
    refine ew_if_eq (pc := 11) (tgt := 35) dX2_fix_11 (by decide) (fun c11 => ?_) (fun c11 => ?_)
    · refine ew_iconst (pc := 35) (v := 0) dX2_fix_35 rfl ?_
      first
      | exact s36 _ σ1 _ _ _ F1 (bI_T ⟨c4, bI_n.mp c11, bI_n.mp c19, bI_n.mp c28⟩)
      | exact s36 _ σ1 _ _ _ F1 (bI_F (fun h9 => bI_0.mp c28 h9.2.2.2))
      | exact s36 _ σ1 _ _ _ F1 (bI_F (fun h9 => bI_0.mp c19 h9.2.2.1))
      | exact s36 _ σ1 _ _ _ F1 (bI_F (fun h9 => bI_0.mp c11 h9.2.1))
      | exact s36 _ σ _ _ _ (Fq.r _ _) (bI_F (fun h9 => h9.1 c4))
    · refine ew_aload_n (pc := 14) dX2_fix_14 rfl ?_
      refine ew_iload_n (pc := 15) dX2_fix_15 rfl ?_
      refine ew_cV1 (d' := 1) (pc := 16) vX2_288 (tw_ro _ _ _ _) dX2_fix_16 (by decide) (ew_rm (Nat.le_of_ble_eq_true rfl)) ?_
      refine t_isEvent ((F1.a 16 rfl).trans hJ.n) hJ.z ?_
      refine ew_Kr ?_
      refine ew_if_eq (pc := 19) (tgt := 35) dX2_fix_19 (by decide) (fun c19 => ?_) (fun c19 => ?_)
      · refine ew_iconst (pc := 35) (v := 0) dX2_fix_35 rfl ?_
        first
        | exact s36 _ σ1 _ _ _ F1 (bI_T ⟨c4, bI_n.mp c11, bI_n.mp c19, bI_n.mp c28⟩)
        | exact s36 _ σ1 _ _ _ F1 (bI_F (fun h9 => bI_0.mp c28 h9.2.2.2))
        | exact s36 _ σ1 _ _ _ F1 (bI_F (fun h9 => bI_0.mp c19 h9.2.2.1))
        | exact s36 _ σ1 _ _ _ F1 (bI_F (fun h9 => bI_0.mp c11 h9.2.1))
        | exact s36 _ σ _ _ _ (Fq.r _ _) (bI_F (fun h9 => h9.1 c4))
      · have ha := (bI_n.mp c19).to (by omega)
        refine ew_aload_n (pc := 22) dX2_fix_22 rfl ?_
        refine ew_iload_n (pc := 23) dX2_fix_23 rfl ?_
        refine ew_iload_n (pc := 24) dX2_fix_24 rfl ?_
        refine ew_cV2 (d' := 2) (pc := 25) vX2_444 (tw_ro _ _ _ _) dX2_fix_25 (by decide) (ew_rm (Nat.le_of_ble_eq_true rfl)) ?_
        rw [ha.2]
        refine t_canBeAt ((F1.a 16 rfl).trans hJ.n) L1.2.2 (by omega) ?_
        rw [← ha.2]
        refine ew_Kr ?_
        refine ew_if_eq (pc := 28) (tgt := 35) dX2_fix_28 (by decide) (fun c28 => ?_) (fun c28 => ?_)
        · refine ew_iconst (pc := 35) (v := 0) dX2_fix_35 rfl ?_
          first
          | exact s36 _ σ1 _ _ _ F1 (bI_T ⟨c4, bI_n.mp c11, bI_n.mp c19, bI_n.mp c28⟩)
          | exact s36 _ σ1 _ _ _ F1 (bI_F (fun h9 => bI_0.mp c28 h9.2.2.2))
          | exact s36 _ σ1 _ _ _ F1 (bI_F (fun h9 => bI_0.mp c19 h9.2.2.1))
          | exact s36 _ σ1 _ _ _ F1 (bI_F (fun h9 => bI_0.mp c11 h9.2.1))
          | exact s36 _ σ _ _ _ (Fq.r _ _) (bI_F (fun h9 => h9.1 c4))
        · refine ew_iconst (pc := 31) (v := 1) dX2_fix_31 rfl ?_
          refine ew_goto (pc := 32) (tgt := 36) dX2_fix_32 (by decide) ?_
          first
          | exact s36 _ σ1 _ _ _ F1 (bI_T ⟨c4, bI_n.mp c11, bI_n.mp c19, bI_n.mp c28⟩)
          | exact s36 _ σ1 _ _ _ F1 (bI_F (fun h9 => bI_0.mp c28 h9.2.2.2))
          | exact s36 _ σ1 _ _ _ F1 (bI_F (fun h9 => bI_0.mp c19 h9.2.2.1))
          | exact s36 _ σ1 _ _ _ F1 (bI_F (fun h9 => bI_0.mp c11 h9.2.1))
          | exact s36 _ σ _ _ _ (Fq.r _ _) (bI_F (fun h9 => h9.1 c4))
theorem o_free {g : eg} {h : eh} {t : Nat} {σ : tS} {N : Nat → Int32} {P : List (Nat → Int32)} {a : Int32} {Q : Outcome → eh → Prop} (hJ : TJ σ N) (hP : Pa σ P)
    (hq : ∀ σ' r, Ch σ (as2 (σ.1 21) (bI (isIx (nE N) a)) (bI (0 < a ∧ isIx (nE N) a ∧ ¬ N (146 + ix a) = -1))) (N (146 + ix a)) N (upd N (146 + ix a) (-1)) P σ' r → Q (.returned (some (.int r))) (tw t σ' h)) : ew_T g kX2_free 3 [.ref t, .int a] (tw t σ h) Q := by
  have hw : nE N ≤ 10 := hJ.z.2.1
  have s37 : ∀ f, f = bI (0 < a ∧ isIx (nE N) a ∧ ¬ N (146 + ix a) = -1) → ew_G g kX2_free 3 37 [.ref t, .int a] [.int f, .int (bI (isIx (nE N) a)), .ref t] (tw t σ h) Q := by
    intro f hf
    rw [hf]
    refine ew_cV2 (d' := 0) (pc := 37) vX2_298 (tw_ro _ _ _ _) dX2_free_37 (by decide) (ew_rm (Nat.le_of_ble_eq_true rfl)) ?_
    refine t_ask2 (fun σ1 F1 h0 => ?_)
    refine ew_Kr ?_
    refine ew_if_eq (pc := 40) (tgt := 56) dX2_free_40 (by decide) (fun c40 => ?_) (fun c40 => ?_)
    · refine ew_iconst (pc := 56) (v := 0) dX2_free_56 rfl ?_
      refine ew_iret (pc := 57) rfl dX2_free_57 ?_
      first
      | exact hq _ _ (Ch.no F1 rfl h0 (bI_0.mp c40) hJ.n hP rfl rfl rfl)
      | exact hq _ _ ⟨(F1.w rfl).u F2 rfl, (F2.s 0 rfl).trans h0, fun _ => ⟨rfl, N2, P2⟩, fun h9 => absurd (bI_n.mp c40) h9⟩
    · have hp := as2_0.mp (bI_n.mp c40)
      have ha := (bI_n.mp hp.2.1).to (by omega)
      rw [ha.2]
      refine ew_aload_n (pc := 43) dX2_free_43 rfl ?_
      refine ew_sipush (pc := 44) (v := 146) dX2_free_44 rfl ?_
      refine ew_iload_n (pc := 47) dX2_free_47 rfl ?_
      refine ew_iadd (pc := 48) dX2_free_48 ?_
      rw [show (146 : Int32) = nI 146 from rfl, nI_add]
      refine ew_iconst (pc := 49) (v := -1) dX2_free_49 rfl ?_
      refine ew_cV2 (d' := 2) (pc := 50) vX2_438 (tw_ro _ _ _ _) dX2_free_50 (by decide) (ew_rm (Nat.le_of_ble_eq_true rfl)) ?_
      refine t_sets (a := 146 + ix a) ((F1.a 16 rfl).trans hJ.n) (hP.fq F1 rfl rfl) (by omega) (fun σ2 F2 N2 P2 => ?_)
      refine ew_Kr ?_
      refine ew_goto (pc := 53) (tgt := 57) dX2_free_53 (by decide) ?_
      refine ew_iret (pc := 57) rfl dX2_free_57 ?_
      first
      | exact hq _ _ (Ch.no F1 rfl h0 (bI_0.mp c40) hJ.n hP rfl rfl rfl)
      | exact hq _ _ ⟨(F1.w rfl).u F2 rfl, (F2.s 0 rfl).trans h0, fun _ => ⟨rfl, N2, P2⟩, fun h9 => absurd (bI_n.mp c40) h9⟩
  refine ew_enter (by decide +kernel) (ew_a1 rfl (ew_a1 rfl ew_az)) (Nat.le_of_ble_eq_true rfl) ?_
  refine ew_aload_n (pc := 0) dX2_free_0 rfl ?_
  refine ew_aload_n (pc := 1) dX2_free_1 rfl ?_
  refine ew_iload_n (pc := 2) dX2_free_2 rfl ?_
  refine ew_cV1 (d' := 1) (pc := 3) vX2_288 (tw_ro _ _ _ _) dX2_free_3 (by decide) (ew_rm (Nat.le_of_ble_eq_true rfl)) ?_
  refine t_isEvent hJ.n hJ.z ?_
  refine ew_Kr ?_
  refine ew_iload_n (pc := 6) dX2_free_6 rfl ?_
  refine ew_if_le (pc := 7) (tgt := 36) dX2_free_7 (by decide) (fun c7 => ?_) (fun c7 => ?_)
  · refine ew_iconst (pc := 36) (v := 0) dX2_free_36 rfl ?_
    first
    | exact s37 _ (bI_T ⟨Int32.not_le.mp c7, bI_n.mp c15, fun h9 => c29 ((congrFun hJ.n _).trans h9)⟩)
    | exact s37 _ (bI_F (fun h9 => h9.2.2 ((congrFun hJ.n _).symm.trans c29)))
    | exact s37 _ (bI_F (fun h9 => bI_0.mp c15 h9.2.1))
    | exact s37 _ (bI_F (fun h9 => absurd h9.1 (Int32.not_lt.mpr c7)))
  · refine ew_aload_n (pc := 10) dX2_free_10 rfl ?_
    refine ew_iload_n (pc := 11) dX2_free_11 rfl ?_
    refine ew_cV1 (d' := 1) (pc := 12) vX2_288 (tw_ro _ _ _ _) dX2_free_12 (by decide) (ew_rm (Nat.le_of_ble_eq_true rfl)) ?_
    refine t_isEvent hJ.n hJ.z ?_
    refine ew_Kr ?_
    refine ew_if_eq (pc := 15) (tgt := 36) dX2_free_15 (by decide) (fun c15 => ?_) (fun c15 => ?_)
    · refine ew_iconst (pc := 36) (v := 0) dX2_free_36 rfl ?_
      first
      | exact s37 _ (bI_T ⟨Int32.not_le.mp c7, bI_n.mp c15, fun h9 => c29 ((congrFun hJ.n _).trans h9)⟩)
      | exact s37 _ (bI_F (fun h9 => h9.2.2 ((congrFun hJ.n _).symm.trans c29)))
      | exact s37 _ (bI_F (fun h9 => bI_0.mp c15 h9.2.1))
      | exact s37 _ (bI_F (fun h9 => absurd h9.1 (Int32.not_lt.mpr c7)))
    · have ha := (bI_n.mp c15).to (by omega)
      refine ew_aload_n (pc := 18) dX2_free_18 rfl ?_
      refine tg_g16 (pc := 19) rfl dX2_free_19 ?_
      refine ew_sipush (pc := 22) (v := 146) dX2_free_22 rfl ?_
      refine ew_iload_n (pc := 25) dX2_free_25 rfl ?_
      refine ew_iadd (pc := 26) dX2_free_26 ?_
      refine tg_l16 (pc := 27) (j := 146 + ix a) (by rw [ha.2, ix_nI (by omega), show (146 : Int32) = nI 146 from rfl, nI_add]) (by omega) dX2_free_27 ?_
      refine ew_iconst (pc := 28) (v := -1) dX2_free_28 rfl ?_
      refine ew_icmp_eq (pc := 29) (tgt := 36) dX2_free_29 (by decide) (fun c29 => ?_) (fun c29 => ?_)
      · refine ew_iconst (pc := 36) (v := 0) dX2_free_36 rfl ?_
        first
        | exact s37 _ (bI_T ⟨Int32.not_le.mp c7, bI_n.mp c15, fun h9 => c29 ((congrFun hJ.n _).trans h9)⟩)
        | exact s37 _ (bI_F (fun h9 => h9.2.2 ((congrFun hJ.n _).symm.trans c29)))
        | exact s37 _ (bI_F (fun h9 => bI_0.mp c15 h9.2.1))
        | exact s37 _ (bI_F (fun h9 => absurd h9.1 (Int32.not_lt.mpr c7)))
      · refine ew_iconst (pc := 32) (v := 1) dX2_free_32 rfl ?_
        refine ew_goto (pc := 33) (tgt := 37) dX2_free_33 (by decide) ?_
        first
        | exact s37 _ (bI_T ⟨Int32.not_le.mp c7, bI_n.mp c15, fun h9 => c29 ((congrFun hJ.n _).trans h9)⟩)
        | exact s37 _ (bI_F (fun h9 => h9.2.2 ((congrFun hJ.n _).symm.trans c29)))
        | exact s37 _ (bI_F (fun h9 => bI_0.mp c15 h9.2.1))
        | exact s37 _ (bI_F (fun h9 => absurd h9.1 (Int32.not_lt.mpr c7)))
