/-! EW: the reference: changes -/
set_option maxRecDepth 100000
abbrev SD : List Nat := [0, 16, 18, 22, 23, 24, 25, 26, 27, 28, 29, 30, 31, 32, 33, 34, 35, 36, 37, 38, 39]
/-- a change: what was thrown; if nothing was, the value and the new net -/
def Ch (σ : tS) (th val : Int32) (N N2 : Nat → Int32) (P : List (Nat → Int32)) (σ' : tS) (v : Int32) : Prop := Fq SD σ σ' ∧ σ'.1 0 = th ∧ (th = 0 → v = val ∧ σ'.2 16 = N2 ∧ Pa σ' (reP P N)) ∧ (¬ th = 0 → σ'.2 16 = N ∧ Pa σ' P)
theorem Ch.no {σ σ' : tS} {th val v : Int32} {N N2 : Nat → Int32} {P : List (Nat → Int32)} {S : List Nat} (hF : Fq S σ σ') (hS : S.all SD.contains = true) (h0 : σ'.1 0 = th) (hz : ¬ th = 0) (hN : σ.2 16 = N) (hP : Pa σ P) (h1 : S.contains 16 = false) (h2 : S.contains 18 = false) (h3 : S.contains 22 = false) : Ch σ th val N N2 P σ' v := ⟨hF.w hS, h0, fun h9 => absurd h9 hz, fun _ => ⟨(hF.a 16 h1).trans hN, hP.fq hF h2 h3⟩⟩
theorem t_atN {g : eg} {h : eh} {w i : Nat} {Q : Outcome → eh → Prop} (hq : Q (.returned (some (.int (nI (2 + 6 * w + i))))) h) : ew_T g kX2_at 0 [.int (nI w), .int (nI i)] h Q := by
  refine t_atT ?_
  rw [at_nI]
  exact hq
abbrev inO (lo hi : Int32) : Prop := (0 ≤ lo ∧ lo ≤ 999) ∧ (hi = -1 ∨ (lo ≤ hi ∧ hi ≤ 999))
theorem t_areInOrder {g : eg} {h : eh} {lo hi : Int32} {Q : Outcome → eh → Prop} (hq : Q (.returned (some (.int (bI (inO lo hi))))) h) : ew_T g kX2_areInOrder 1 [.int lo, .int hi] h Q := by
  refine ew_enter (by decide +kernel) (ew_a1 rfl (ew_a1 rfl ew_az)) (Nat.le_of_ble_eq_true rfl) ?_
  refine ew_iload_n (pc := 0) dX2_areInOrder_0 rfl ?_
  refine ew_iconst (pc := 1) (v := 0) dX2_areInOrder_1 rfl ?_
  refine ew_sipush (pc := 2) (v := 999) dX2_areInOrder_2 rfl ?_
  refine ew_cS3 (d' := 0) (pc := 5) sX2_102 dX2_areInOrder_5 (by decide) (ew_rm (Nat.le_of_ble_eq_true rfl)) ?_
  refine t_inT ?_
  refine ew_Kr ?_
  refine ew_if_eq (pc := 8) (tgt := 31) dX2_areInOrder_8 (by decide) (fun c8 => ?_) (fun c8 => ?_)
  · refine ew_iconst (pc := 31) (v := 0) dX2_areInOrder_31 rfl ?_
    refine ew_zret (pc := 32) (ty := .boolean) rfl rfl dX2_areInOrder_32 ?_
    first
    | rw [bI_t (show inO lo hi from ⟨bI_n.mp c8, Or.inl c13⟩)] at hq
      exact hq
    | rw [bI_t (show inO lo hi from ⟨bI_n.mp c8, Or.inr (bI_n.mp c24)⟩)] at hq
      exact hq
    | rw [bI_f (show ¬ inO lo hi from fun h9 => h9.2.elim c13 (bI_0.mp c24))] at hq
      exact hq
    | rw [bI_f (show ¬ inO lo hi from fun h9 => bI_0.mp c8 h9.1)] at hq
      exact hq
  · refine ew_iload_n (pc := 11) dX2_areInOrder_11 rfl ?_
    refine ew_iconst (pc := 12) (v := -1) dX2_areInOrder_12 rfl ?_
    refine ew_icmp_eq (pc := 13) (tgt := 27) dX2_areInOrder_13 (by decide) (fun c13 => ?_) (fun c13 => ?_)
    · refine ew_iconst (pc := 27) (v := 1) dX2_areInOrder_27 rfl ?_
      refine ew_goto (pc := 28) (tgt := 32) dX2_areInOrder_28 (by decide) ?_
      refine ew_zret (pc := 32) (ty := .boolean) rfl rfl dX2_areInOrder_32 ?_
      first
      | rw [bI_t (show inO lo hi from ⟨bI_n.mp c8, Or.inl c13⟩)] at hq
        exact hq
      | rw [bI_t (show inO lo hi from ⟨bI_n.mp c8, Or.inr (bI_n.mp c24)⟩)] at hq
        exact hq
      | rw [bI_f (show ¬ inO lo hi from fun h9 => h9.2.elim c13 (bI_0.mp c24))] at hq
        exact hq
      | rw [bI_f (show ¬ inO lo hi from fun h9 => bI_0.mp c8 h9.1)] at hq
        exact hq
    · refine ew_iload_n (pc := 16) dX2_areInOrder_16 rfl ?_
      refine ew_iload_n (pc := 17) dX2_areInOrder_17 rfl ?_
      refine ew_sipush (pc := 18) (v := 999) dX2_areInOrder_18 rfl ?_
      refine ew_cS3 (d' := 0) (pc := 21) sX2_102 dX2_areInOrder_21 (by decide) (ew_rm (Nat.le_of_ble_eq_true rfl)) ?_
      refine t_inT ?_
      refine ew_Kr ?_
      refine ew_if_eq (pc := 24) (tgt := 31) dX2_areInOrder_24 (by decide) (fun c24 => ?_) (fun c24 => ?_)
      · refine ew_iconst (pc := 31) (v := 0) dX2_areInOrder_31 rfl ?_
        refine ew_zret (pc := 32) (ty := .boolean) rfl rfl dX2_areInOrder_32 ?_
        first
        | rw [bI_t (show inO lo hi from ⟨bI_n.mp c8, Or.inl c13⟩)] at hq
          exact hq
        | rw [bI_t (show inO lo hi from ⟨bI_n.mp c8, Or.inr (bI_n.mp c24)⟩)] at hq
          exact hq
        | rw [bI_f (show ¬ inO lo hi from fun h9 => h9.2.elim c13 (bI_0.mp c24))] at hq
          exact hq
        | rw [bI_f (show ¬ inO lo hi from fun h9 => bI_0.mp c8 h9.1)] at hq
          exact hq
      · refine ew_iconst (pc := 27) (v := 1) dX2_areInOrder_27 rfl ?_
        refine ew_goto (pc := 28) (tgt := 32) dX2_areInOrder_28 (by decide) ?_
        refine ew_zret (pc := 32) (ty := .boolean) rfl rfl dX2_areInOrder_32 ?_
        first
        | rw [bI_t (show inO lo hi from ⟨bI_n.mp c8, Or.inl c13⟩)] at hq
          exact hq
        | rw [bI_t (show inO lo hi from ⟨bI_n.mp c8, Or.inr (bI_n.mp c24)⟩)] at hq
          exact hq
        | rw [bI_f (show ¬ inO lo hi from fun h9 => h9.2.elim c13 (bI_0.mp c24))] at hq
          exact hq
        | rw [bI_f (show ¬ inO lo hi from fun h9 => bI_0.mp c8 h9.1)] at hq
          exact hq
theorem o_setLow {g : eg} {h : eh} {t : Nat} {σ : tS} {N : Nat → Int32} {P : List (Nat → Int32)} {a v : Int32} {Q : Outcome → eh → Prop} (hJ : TJ σ N) (hP : Pa σ P)
    (hq : ∀ σ' r, Ch σ (as2 (σ.1 21) (bI (isIx (nW N) a)) (bI (isIx (nW N) a ∧ inO v (N (2 + 6 * ix a + 3))))) (N (2 + 6 * ix a + 2)) N (upd N (2 + 6 * ix a + 2) v) P σ' r → Q (.returned (some (.int r))) (tw t σ' h)) : ew_T g kX2_setLow 3 [.ref t, .int a, .int v] (tw t σ h) Q := by
  have hw : nW N ≤ 24 := hJ.z.2.2.2
  have s27 : ∀ f, f = bI (isIx (nW N) a ∧ inO v (N (2 + 6 * ix a + 3))) → ew_G g kX2_setLow 3 27 [.ref t, .int a, .int v, .int f] [] (tw t σ h) Q := by
    intro f hf
    rw [hf]
    refine ew_aload_n (pc := 27) dX2_setLow_27 rfl ?_
    refine ew_aload_n (pc := 28) dX2_setLow_28 rfl ?_
    refine ew_iload_n (pc := 29) dX2_setLow_29 rfl ?_
    refine ew_cV1 (d' := 1) (pc := 30) vX2_295 (tw_ro _ _ _ _) dX2_setLow_30 (by decide) (ew_rm (Nat.le_of_ble_eq_true rfl)) ?_
    refine t_isWindow hJ.n hJ.z ?_
    refine ew_Kr ?_
    refine ew_iload_n (pc := 33) dX2_setLow_33 rfl ?_
    refine ew_cV2 (d' := 0) (pc := 34) vX2_298 (tw_ro _ _ _ _) dX2_setLow_34 (by decide) (ew_rm (Nat.le_of_ble_eq_true rfl)) ?_
    refine t_ask2 (fun σ1 F1 h0 => ?_)
    refine ew_Kr ?_
    refine ew_if_eq (pc := 37) (tgt := 53) dX2_setLow_37 (by decide) (fun c37 => ?_) (fun c37 => ?_)
    · refine ew_iconst (pc := 53) (v := 0) dX2_setLow_53 rfl ?_
      refine ew_iret (pc := 54) rfl dX2_setLow_54 ?_
      first
      | exact hq _ _ (Ch.no F1 rfl h0 (bI_0.mp c37) hJ.n hP rfl rfl rfl)
      | exact hq _ _ ⟨(F1.w rfl).u F2 rfl, (F2.s 0 rfl).trans h0, fun _ => ⟨rfl, N2, P2⟩, fun h9 => absurd (bI_n.mp c37) h9⟩
    · have hp := as2_0.mp (bI_n.mp c37)
      have ha := (bI_n.mp hp.2.1).to (by omega)
      rw [ha.2]
      refine ew_aload_n (pc := 40) dX2_setLow_40 rfl ?_
      refine ew_iload_n (pc := 41) dX2_setLow_41 rfl ?_
      refine ew_iconst (pc := 42) (v := 2) dX2_setLow_42 rfl ?_
      refine ew_cS2 (d' := 0) (pc := 43) sX2_162 dX2_setLow_43 (by decide) (ew_rm (Nat.le_of_ble_eq_true rfl)) ?_
      refine t_atN (i := 2) ?_
      refine ew_Kr ?_
      refine ew_iload_n (pc := 46) dX2_setLow_46 rfl ?_
      refine ew_cV2 (d' := 2) (pc := 47) vX2_438 (tw_ro _ _ _ _) dX2_setLow_47 (by decide) (ew_rm (Nat.le_of_ble_eq_true rfl)) ?_
      refine t_sets ((F1.a 16 rfl).trans hJ.n) (hP.fq F1 rfl rfl) (by omega) (fun σ2 F2 N2 P2 => ?_)
      refine ew_Kr ?_
      refine ew_goto (pc := 50) (tgt := 54) dX2_setLow_50 (by decide) ?_
      refine ew_iret (pc := 54) rfl dX2_setLow_54 ?_
      first
      | exact hq _ _ (Ch.no F1 rfl h0 (bI_0.mp c37) hJ.n hP rfl rfl rfl)
      | exact hq _ _ ⟨(F1.w rfl).u F2 rfl, (F2.s 0 rfl).trans h0, fun _ => ⟨rfl, N2, P2⟩, fun h9 => absurd (bI_n.mp c37) h9⟩
  refine ew_enter (by decide +kernel) (ew_a1 rfl (ew_a1 rfl (ew_a1 rfl (ew_an ew_az)))) (Nat.le_of_ble_eq_true rfl) ?_
  refine ew_aload_n (pc := 0) dX2_setLow_0 rfl ?_
  refine ew_iload_n (pc := 1) dX2_setLow_1 rfl ?_
  refine ew_cV1 (d' := 1) (pc := 2) vX2_295 (tw_ro _ _ _ _) dX2_setLow_2 (by decide) (ew_rm (Nat.le_of_ble_eq_true rfl)) ?_
  refine t_isWindow hJ.n hJ.z ?_
  refine ew_Kr ?_
  refine ew_if_eq (pc := 5) (tgt := 25) dX2_setLow_5 (by decide) (fun c5 => ?_) (fun c5 => ?_)
  · refine ew_iconst (pc := 25) (v := 0) dX2_setLow_25 rfl ?_
    refine ew_istore_n (pc := 26) dX2_setLow_26 rfl (by decide) (p1_3 rfl) ?_
    first
    | exact s27 _ (bI_T ⟨bI_n.mp c5, bI_n.mp c18⟩)
    | exact s27 _ (bI_F (fun h9 => bI_0.mp c18 h9.2))
    | exact s27 _ (bI_F (fun h9 => bI_0.mp c5 h9.1))
  · have ha := (bI_n.mp c5).to (by omega)
    refine ew_iload_n (pc := 8) dX2_setLow_8 rfl ?_
    refine ew_aload_n (pc := 9) dX2_setLow_9 rfl ?_
    refine ew_iload_n (pc := 10) dX2_setLow_10 rfl ?_
    refine ew_iconst (pc := 11) (v := 3) dX2_setLow_11 rfl ?_
    refine ew_cV2 (d' := 1) (pc := 12) vX2_214 (tw_ro _ _ _ _) dX2_setLow_12 (by decide) (ew_rm (Nat.le_of_ble_eq_true rfl)) ?_
    rw [ha.2]
    refine t_ofN (i := 3) hJ.n (by omega) (by decide) ?_
    rw [← ha.2]
    refine ew_Kr ?_
    refine ew_cS2 (d' := 1) (pc := 15) sX2_435 dX2_setLow_15 (by decide) (ew_rm (Nat.le_of_ble_eq_true rfl)) ?_
    refine t_areInOrder ?_
    refine ew_Kr ?_
    refine ew_if_eq (pc := 18) (tgt := 25) dX2_setLow_18 (by decide) (fun c18 => ?_) (fun c18 => ?_)
    · refine ew_iconst (pc := 25) (v := 0) dX2_setLow_25 rfl ?_
      refine ew_istore_n (pc := 26) dX2_setLow_26 rfl (by decide) (p1_3 rfl) ?_
      first
      | exact s27 _ (bI_T ⟨bI_n.mp c5, bI_n.mp c18⟩)
      | exact s27 _ (bI_F (fun h9 => bI_0.mp c18 h9.2))
      | exact s27 _ (bI_F (fun h9 => bI_0.mp c5 h9.1))
    · refine ew_iconst (pc := 21) (v := 1) dX2_setLow_21 rfl ?_
      refine ew_goto (pc := 22) (tgt := 26) dX2_setLow_22 (by decide) ?_
      refine ew_istore_n (pc := 26) dX2_setLow_26 rfl (by decide) (p1_3 rfl) ?_
      first
      | exact s27 _ (bI_T ⟨bI_n.mp c5, bI_n.mp c18⟩)
      | exact s27 _ (bI_F (fun h9 => bI_0.mp c18 h9.2))
      | exact s27 _ (bI_F (fun h9 => bI_0.mp c5 h9.1))
theorem o_setHigh {g : eg} {h : eh} {t : Nat} {σ : tS} {N : Nat → Int32} {P : List (Nat → Int32)} {a v : Int32} {Q : Outcome → eh → Prop} (hJ : TJ σ N) (hP : Pa σ P)
    (hq : ∀ σ' r, Ch σ (as2 (σ.1 21) (bI (isIx (nW N) a)) (bI (isIx (nW N) a ∧ inO (N (2 + 6 * ix a + 2)) v))) (N (2 + 6 * ix a + 3)) N (upd N (2 + 6 * ix a + 3) v) P σ' r → Q (.returned (some (.int r))) (tw t σ' h)) : ew_T g kX2_setHigh 3 [.ref t, .int a, .int v] (tw t σ h) Q := by
  have hw : nW N ≤ 24 := hJ.z.2.2.2
  have s27 : ∀ f, f = bI (isIx (nW N) a ∧ inO (N (2 + 6 * ix a + 2)) v) → ew_G g kX2_setHigh 3 27 [.ref t, .int a, .int v, .int f] [] (tw t σ h) Q := by
    intro f hf
    rw [hf]
    refine ew_aload_n (pc := 27) dX2_setHigh_27 rfl ?_
    refine ew_aload_n (pc := 28) dX2_setHigh_28 rfl ?_
    refine ew_iload_n (pc := 29) dX2_setHigh_29 rfl ?_
    refine ew_cV1 (d' := 1) (pc := 30) vX2_295 (tw_ro _ _ _ _) dX2_setHigh_30 (by decide) (ew_rm (Nat.le_of_ble_eq_true rfl)) ?_
    refine t_isWindow hJ.n hJ.z ?_
    refine ew_Kr ?_
    refine ew_iload_n (pc := 33) dX2_setHigh_33 rfl ?_
    refine ew_cV2 (d' := 0) (pc := 34) vX2_298 (tw_ro _ _ _ _) dX2_setHigh_34 (by decide) (ew_rm (Nat.le_of_ble_eq_true rfl)) ?_
    refine t_ask2 (fun σ1 F1 h0 => ?_)
    refine ew_Kr ?_
    refine ew_if_eq (pc := 37) (tgt := 53) dX2_setHigh_37 (by decide) (fun c37 => ?_) (fun c37 => ?_)
    · refine ew_iconst (pc := 53) (v := 0) dX2_setHigh_53 rfl ?_
      refine ew_iret (pc := 54) rfl dX2_setHigh_54 ?_
      first
      | exact hq _ _ (Ch.no F1 rfl h0 (bI_0.mp c37) hJ.n hP rfl rfl rfl)
      | exact hq _ _ ⟨(F1.w rfl).u F2 rfl, (F2.s 0 rfl).trans h0, fun _ => ⟨rfl, N2, P2⟩, fun h9 => absurd (bI_n.mp c37) h9⟩
    · have hp := as2_0.mp (bI_n.mp c37)
      have ha := (bI_n.mp hp.2.1).to (by omega)
      rw [ha.2]
      refine ew_aload_n (pc := 40) dX2_setHigh_40 rfl ?_
      refine ew_iload_n (pc := 41) dX2_setHigh_41 rfl ?_
      refine ew_iconst (pc := 42) (v := 3) dX2_setHigh_42 rfl ?_
      refine ew_cS2 (d' := 0) (pc := 43) sX2_162 dX2_setHigh_43 (by decide) (ew_rm (Nat.le_of_ble_eq_true rfl)) ?_
      refine t_atN (i := 3) ?_
      refine ew_Kr ?_
      refine ew_iload_n (pc := 46) dX2_setHigh_46 rfl ?_
      refine ew_cV2 (d' := 2) (pc := 47) vX2_438 (tw_ro _ _ _ _) dX2_setHigh_47 (by decide) (ew_rm (Nat.le_of_ble_eq_true rfl)) ?_
      refine t_sets ((F1.a 16 rfl).trans hJ.n) (hP.fq F1 rfl rfl) (by omega) (fun σ2 F2 N2 P2 => ?_)
      refine ew_Kr ?_
      refine ew_goto (pc := 50) (tgt := 54) dX2_setHigh_50 (by decide) ?_
      refine ew_iret (pc := 54) rfl dX2_setHigh_54 ?_
      first
      | exact hq _ _ (Ch.no F1 rfl h0 (bI_0.mp c37) hJ.n hP rfl rfl rfl)
      | exact hq _ _ ⟨(F1.w rfl).u F2 rfl, (F2.s 0 rfl).trans h0, fun _ => ⟨rfl, N2, P2⟩, fun h9 => absurd (bI_n.mp c37) h9⟩
  refine ew_enter (by decide +kernel) (ew_a1 rfl (ew_a1 rfl (ew_a1 rfl (ew_an ew_az)))) (Nat.le_of_ble_eq_true rfl) ?_
  refine ew_aload_n (pc := 0) dX2_setHigh_0 rfl ?_
  refine ew_iload_n (pc := 1) dX2_setHigh_1 rfl ?_
  refine ew_cV1 (d' := 1) (pc := 2) vX2_295 (tw_ro _ _ _ _) dX2_setHigh_2 (by decide) (ew_rm (Nat.le_of_ble_eq_true rfl)) ?_
  refine t_isWindow hJ.n hJ.z ?_
  refine ew_Kr ?_
  refine ew_if_eq (pc := 5) (tgt := 25) dX2_setHigh_5 (by decide) (fun c5 => ?_) (fun c5 => ?_)
  · refine ew_iconst (pc := 25) (v := 0) dX2_setHigh_25 rfl ?_
    refine ew_istore_n (pc := 26) dX2_setHigh_26 rfl (by decide) (p1_3 rfl) ?_
    first
    | exact s27 _ (bI_T ⟨bI_n.mp c5, bI_n.mp c18⟩)
    | exact s27 _ (bI_F (fun h9 => bI_0.mp c18 h9.2))
    | exact s27 _ (bI_F (fun h9 => bI_0.mp c5 h9.1))
  · have ha := (bI_n.mp c5).to (by omega)
    refine ew_aload_n (pc := 8) dX2_setHigh_8 rfl ?_
    refine ew_iload_n (pc := 9) dX2_setHigh_9 rfl ?_
    refine ew_iconst (pc := 10) (v := 2) dX2_setHigh_10 rfl ?_
    refine ew_cV2 (d' := 1) (pc := 11) vX2_214 (tw_ro _ _ _ _) dX2_setHigh_11 (by decide) (ew_rm (Nat.le_of_ble_eq_true rfl)) ?_
    rw [ha.2]
    refine t_ofN (i := 2) hJ.n (by omega) (by decide) ?_
    rw [← ha.2]
    refine ew_Kr ?_
    refine ew_iload_n (pc := 14) dX2_setHigh_14 rfl ?_
    refine ew_cS2 (d' := 1) (pc := 15) sX2_435 dX2_setHigh_15 (by decide) (ew_rm (Nat.le_of_ble_eq_true rfl)) ?_
    refine t_areInOrder ?_
    refine ew_Kr ?_
    refine ew_if_eq (pc := 18) (tgt := 25) dX2_setHigh_18 (by decide) (fun c18 => ?_) (fun c18 => ?_)
    · refine ew_iconst (pc := 25) (v := 0) dX2_setHigh_25 rfl ?_
      refine ew_istore_n (pc := 26) dX2_setHigh_26 rfl (by decide) (p1_3 rfl) ?_
      first
      | exact s27 _ (bI_T ⟨bI_n.mp c5, bI_n.mp c18⟩)
      | exact s27 _ (bI_F (fun h9 => bI_0.mp c18 h9.2))
      | exact s27 _ (bI_F (fun h9 => bI_0.mp c5 h9.1))
    · refine ew_iconst (pc := 21) (v := 1) dX2_setHigh_21 rfl ?_
      refine ew_goto (pc := 22) (tgt := 26) dX2_setHigh_22 (by decide) ?_
      refine ew_istore_n (pc := 26) dX2_setHigh_26 rfl (by decide) (p1_3 rfl) ?_
      first
      | exact s27 _ (bI_T ⟨bI_n.mp c5, bI_n.mp c18⟩)
      | exact s27 _ (bI_F (fun h9 => bI_0.mp c18 h9.2))
      | exact s27 _ (bI_F (fun h9 => bI_0.mp c5 h9.1))
theorem o_setDelay {g : eg} {h : eh} {t : Nat} {σ : tS} {N : Nat → Int32} {P : List (Nat → Int32)} {a v : Int32} {Q : Outcome → eh → Prop} (hJ : TJ σ N) (hP : Pa σ P)
    (hq : ∀ σ' r, Ch σ (as2 (σ.1 21) (bI (isIx (nE N) a)) (bI (0 < a ∧ (0 ≤ v ∧ v ≤ 99)))) (N (156 + ix a)) N (upd N (156 + ix a) v) P σ' r → Q (.returned (some (.int r))) (tw t σ' h)) : ew_T g kX2_setDelay 3 [.ref t, .int a, .int v] (tw t σ h) Q := by
  have hw : nE N ≤ 10 := hJ.z.2.1
  have s25 : ∀ f, f = bI (0 < a ∧ (0 ≤ v ∧ v ≤ 99)) → ew_G g kX2_setDelay 3 25 [.ref t, .int a, .int v] [.int f, .int (bI (isIx (nE N) a)), .ref t] (tw t σ h) Q := by
    intro f hf
    rw [hf]
    refine ew_cV2 (d' := 0) (pc := 25) vX2_298 (tw_ro _ _ _ _) dX2_setDelay_25 (by decide) (ew_rm (Nat.le_of_ble_eq_true rfl)) ?_
    refine t_ask2 (fun σ1 F1 h0 => ?_)
    refine ew_Kr ?_
    refine ew_if_eq (pc := 28) (tgt := 44) dX2_setDelay_28 (by decide) (fun c28 => ?_) (fun c28 => ?_)
    · refine ew_iconst (pc := 44) (v := 0) dX2_setDelay_44 rfl ?_
      refine ew_iret (pc := 45) rfl dX2_setDelay_45 ?_
      first
      | exact hq _ _ (Ch.no F1 rfl h0 (bI_0.mp c28) hJ.n hP rfl rfl rfl)
      | exact hq _ _ ⟨(F1.w rfl).u F2 rfl, (F2.s 0 rfl).trans h0, fun _ => ⟨rfl, N2, P2⟩, fun h9 => absurd (bI_n.mp c28) h9⟩
    · have hp := as2_0.mp (bI_n.mp c28)
      have ha := (bI_n.mp hp.2.1).to (by omega)
      rw [ha.2]
      refine ew_aload_n (pc := 31) dX2_setDelay_31 rfl ?_
      refine ew_sipush (pc := 32) (v := 156) dX2_setDelay_32 rfl ?_
      refine ew_iload_n (pc := 35) dX2_setDelay_35 rfl ?_
      refine ew_iadd (pc := 36) dX2_setDelay_36 ?_
      rw [show (156 : Int32) = nI 156 from rfl, nI_add]
      refine ew_iload_n (pc := 37) dX2_setDelay_37 rfl ?_
      refine ew_cV2 (d' := 2) (pc := 38) vX2_438 (tw_ro _ _ _ _) dX2_setDelay_38 (by decide) (ew_rm (Nat.le_of_ble_eq_true rfl)) ?_
      refine t_sets (a := 156 + ix a) ((F1.a 16 rfl).trans hJ.n) (hP.fq F1 rfl rfl) (by omega) (fun σ2 F2 N2 P2 => ?_)
      refine ew_Kr ?_
      refine ew_goto (pc := 41) (tgt := 45) dX2_setDelay_41 (by decide) ?_
      refine ew_iret (pc := 45) rfl dX2_setDelay_45 ?_
      first
      | exact hq _ _ (Ch.no F1 rfl h0 (bI_0.mp c28) hJ.n hP rfl rfl rfl)
      | exact hq _ _ ⟨(F1.w rfl).u F2 rfl, (F2.s 0 rfl).trans h0, fun _ => ⟨rfl, N2, P2⟩, fun h9 => absurd (bI_n.mp c28) h9⟩
  refine ew_enter (by decide +kernel) (ew_a1 rfl (ew_a1 rfl (ew_a1 rfl ew_az))) (Nat.le_of_ble_eq_true rfl) ?_
  refine ew_aload_n (pc := 0) dX2_setDelay_0 rfl ?_
  refine ew_aload_n (pc := 1) dX2_setDelay_1 rfl ?_
  refine ew_iload_n (pc := 2) dX2_setDelay_2 rfl ?_
  refine ew_cV1 (d' := 1) (pc := 3) vX2_288 (tw_ro _ _ _ _) dX2_setDelay_3 (by decide) (ew_rm (Nat.le_of_ble_eq_true rfl)) ?_
  refine t_isEvent hJ.n hJ.z ?_
  refine ew_Kr ?_
  refine ew_iload_n (pc := 6) dX2_setDelay_6 rfl ?_
  refine ew_if_le (pc := 7) (tgt := 24) dX2_setDelay_7 (by decide) (fun c7 => ?_) (fun c7 => ?_)
  · refine ew_iconst (pc := 24) (v := 0) dX2_setDelay_24 rfl ?_
    first
    | exact s25 _ (bI_T ⟨Int32.not_le.mp c7, bI_n.mp c17⟩)
    | exact s25 _ (bI_F (fun h9 => bI_0.mp c17 h9.2))
    | exact s25 _ (bI_F (fun h9 => absurd h9.1 (Int32.not_lt.mpr c7)))
  · refine ew_iload_n (pc := 10) dX2_setDelay_10 rfl ?_
    refine ew_iconst (pc := 11) (v := 0) dX2_setDelay_11 rfl ?_
    refine ew_bipush (pc := 12) (v := 99) dX2_setDelay_12 rfl ?_
    refine ew_cS3 (d' := 0) (pc := 14) sX2_102 dX2_setDelay_14 (by decide) (ew_rm (Nat.le_of_ble_eq_true rfl)) ?_
    refine t_inT ?_
    refine ew_Kr ?_
    refine ew_if_eq (pc := 17) (tgt := 24) dX2_setDelay_17 (by decide) (fun c17 => ?_) (fun c17 => ?_)
    · refine ew_iconst (pc := 24) (v := 0) dX2_setDelay_24 rfl ?_
      first
      | exact s25 _ (bI_T ⟨Int32.not_le.mp c7, bI_n.mp c17⟩)
      | exact s25 _ (bI_F (fun h9 => bI_0.mp c17 h9.2))
      | exact s25 _ (bI_F (fun h9 => absurd h9.1 (Int32.not_lt.mpr c7)))
    · refine ew_iconst (pc := 20) (v := 1) dX2_setDelay_20 rfl ?_
      refine ew_goto (pc := 21) (tgt := 25) dX2_setDelay_21 (by decide) ?_
      first
      | exact s25 _ (bI_T ⟨Int32.not_le.mp c7, bI_n.mp c17⟩)
      | exact s25 _ (bI_F (fun h9 => bI_0.mp c17 h9.2))
      | exact s25 _ (bI_F (fun h9 => absurd h9.1 (Int32.not_lt.mpr c7)))
theorem o_setWish {g : eg} {h : eh} {t : Nat} {σ : tS} {N : Nat → Int32} {P : List (Nat → Int32)} {a v : Int32} {Q : Outcome → eh → Prop} (hJ : TJ σ N) (hP : Pa σ P)
    (hq : ∀ σ' r, Ch σ (as2 (σ.1 21) (bI (isIx (nE N) a)) (bI (0 < a ∧ (-1 ≤ v ∧ v ≤ 999)))) (N (166 + ix a)) N (upd N (166 + ix a) v) P σ' r → Q (.returned (some (.int r))) (tw t σ' h)) : ew_T g kX2_setWish 3 [.ref t, .int a, .int v] (tw t σ h) Q := by
  have hw : nE N ≤ 10 := hJ.z.2.1
  have s25 : ∀ f, f = bI (0 < a ∧ (-1 ≤ v ∧ v ≤ 999)) → ew_G g kX2_setWish 3 26 [.ref t, .int a, .int v] [.int f, .int (bI (isIx (nE N) a)), .ref t] (tw t σ h) Q := by
    intro f hf
    rw [hf]
    refine ew_cV2 (d' := 0) (pc := 26) vX2_298 (tw_ro _ _ _ _) dX2_setWish_26 (by decide) (ew_rm (Nat.le_of_ble_eq_true rfl)) ?_
    refine t_ask2 (fun σ1 F1 h0 => ?_)
    refine ew_Kr ?_
    refine ew_if_eq (pc := 29) (tgt := 45) dX2_setWish_29 (by decide) (fun c29 => ?_) (fun c29 => ?_)
    · refine ew_iconst (pc := 45) (v := 0) dX2_setWish_45 rfl ?_
      refine ew_iret (pc := 46) rfl dX2_setWish_46 ?_
      first
      | exact hq _ _ (Ch.no F1 rfl h0 (bI_0.mp c29) hJ.n hP rfl rfl rfl)
      | exact hq _ _ ⟨(F1.w rfl).u F2 rfl, (F2.s 0 rfl).trans h0, fun _ => ⟨rfl, N2, P2⟩, fun h9 => absurd (bI_n.mp c29) h9⟩
    · have hp := as2_0.mp (bI_n.mp c29)
      have ha := (bI_n.mp hp.2.1).to (by omega)
      rw [ha.2]
      refine ew_aload_n (pc := 32) dX2_setWish_32 rfl ?_
      refine ew_sipush (pc := 33) (v := 166) dX2_setWish_33 rfl ?_
      refine ew_iload_n (pc := 36) dX2_setWish_36 rfl ?_
      refine ew_iadd (pc := 37) dX2_setWish_37 ?_
      rw [show (166 : Int32) = nI 166 from rfl, nI_add]
      refine ew_iload_n (pc := 38) dX2_setWish_38 rfl ?_
      refine ew_cV2 (d' := 2) (pc := 39) vX2_438 (tw_ro _ _ _ _) dX2_setWish_39 (by decide) (ew_rm (Nat.le_of_ble_eq_true rfl)) ?_
      refine t_sets (a := 166 + ix a) ((F1.a 16 rfl).trans hJ.n) (hP.fq F1 rfl rfl) (by omega) (fun σ2 F2 N2 P2 => ?_)
      refine ew_Kr ?_
      refine ew_goto (pc := 42) (tgt := 46) dX2_setWish_42 (by decide) ?_
      refine ew_iret (pc := 46) rfl dX2_setWish_46 ?_
      first
      | exact hq _ _ (Ch.no F1 rfl h0 (bI_0.mp c29) hJ.n hP rfl rfl rfl)
      | exact hq _ _ ⟨(F1.w rfl).u F2 rfl, (F2.s 0 rfl).trans h0, fun _ => ⟨rfl, N2, P2⟩, fun h9 => absurd (bI_n.mp c29) h9⟩
  refine ew_enter (by decide +kernel) (ew_a1 rfl (ew_a1 rfl (ew_a1 rfl ew_az))) (Nat.le_of_ble_eq_true rfl) ?_
  refine ew_aload_n (pc := 0) dX2_setWish_0 rfl ?_
  refine ew_aload_n (pc := 1) dX2_setWish_1 rfl ?_
  refine ew_iload_n (pc := 2) dX2_setWish_2 rfl ?_
  refine ew_cV1 (d' := 1) (pc := 3) vX2_288 (tw_ro _ _ _ _) dX2_setWish_3 (by decide) (ew_rm (Nat.le_of_ble_eq_true rfl)) ?_
  refine t_isEvent hJ.n hJ.z ?_
  refine ew_Kr ?_
  refine ew_iload_n (pc := 6) dX2_setWish_6 rfl ?_
  refine ew_if_le (pc := 7) (tgt := 25) dX2_setWish_7 (by decide) (fun c7 => ?_) (fun c7 => ?_)
  · refine ew_iconst (pc := 25) (v := 0) dX2_setWish_25 rfl ?_
    first
    | exact s25 _ (bI_T ⟨Int32.not_le.mp c7, bI_n.mp c18⟩)
    | exact s25 _ (bI_F (fun h9 => bI_0.mp c18 h9.2))
    | exact s25 _ (bI_F (fun h9 => absurd h9.1 (Int32.not_lt.mpr c7)))
  · refine ew_iload_n (pc := 10) dX2_setWish_10 rfl ?_
    refine ew_iconst (pc := 11) (v := -1) dX2_setWish_11 rfl ?_
    refine ew_sipush (pc := 12) (v := 999) dX2_setWish_12 rfl ?_
    refine ew_cS3 (d' := 0) (pc := 15) sX2_102 dX2_setWish_15 (by decide) (ew_rm (Nat.le_of_ble_eq_true rfl)) ?_
    refine t_inT ?_
    refine ew_Kr ?_
    refine ew_if_eq (pc := 18) (tgt := 25) dX2_setWish_18 (by decide) (fun c18 => ?_) (fun c18 => ?_)
    · refine ew_iconst (pc := 25) (v := 0) dX2_setWish_25 rfl ?_
      first
      | exact s25 _ (bI_T ⟨Int32.not_le.mp c7, bI_n.mp c18⟩)
      | exact s25 _ (bI_F (fun h9 => bI_0.mp c18 h9.2))
      | exact s25 _ (bI_F (fun h9 => absurd h9.1 (Int32.not_lt.mpr c7)))
    · refine ew_iconst (pc := 21) (v := 1) dX2_setWish_21 rfl ?_
      refine ew_goto (pc := 22) (tgt := 26) dX2_setWish_22 (by decide) ?_
      first
      | exact s25 _ (bI_T ⟨Int32.not_le.mp c7, bI_n.mp c18⟩)
      | exact s25 _ (bI_F (fun h9 => bI_0.mp c18 h9.2))
      | exact s25 _ (bI_F (fun h9 => absurd h9.1 (Int32.not_lt.mpr c7)))
