/-! EW: the reference: names and numbers are written -/
set_option maxRecDepth 100000
def ltF (nm : Nat → Int32) (e : Nat) : Nat → Nat → Nat
  | 0, n => n
  | r + 1, n => if nm (8 * e + n) = 0 then n else ltF nm e r (n + 1)
/-- the letters of an event's name -/
def ltV (nm : Nat → Int32) (e : Nat) : Nat := ltF nm e 8 0
theorem ltF_le (nm : Nat → Int32) (e : Nat) : ∀ r n, ltF nm e r n ≤ n + r
  | 0, n => Nat.le_refl n
  | r + 1, n => by
    rw [ltF]
    split
    · omega
    · have := ltF_le nm e r (n + 1)
      omega
theorem ltV_le (nm : Nat → Int32) (e : Nat) : ltV nm e ≤ 8 := by
  have := ltF_le nm e 8 0
  rw [ltV]
  omega
theorem nm_nI (e n : Nat) : (8 : Int32) * nI e + nI n = nI (8 * e + n) := by
  rw [show (8 : Int32) = nI 8 from rfl, nI_mul, nI_add]
theorem t_lettersOf {g : eg} {h : eh} {t e : Nat} {σ : tS} {nm : Nat → Int32} {Q : Outcome → eh → Prop} (hM : σ.2 10 = nm) (he : e < 10) (hq : Q (.returned (some (.int (nI (ltV nm e))))) (tw t σ h)) : ew_T g kX2_lettersOf 0 [.ref t, .int (nI e)] (tw t σ h) Q := by
  subst hM
  have main : ∀ r n, n + r = 8 → ltF (σ.2 10) e r n = ltV (σ.2 10) e → ew_G g kX2_lettersOf 0 2 [.ref t, .int (nI e), .int (nI n)] [] (tw t σ h) Q := by
    intro r
    induction r with
    | zero =>
      intro n hn hf
      have e9 : n = 8 := by omega
      subst e9
      rw [ltF] at hf
      refine ew_iload_n (pc := 2) dX2_lettersOf_2 rfl ?_
      refine ew_bipush (pc := 3) (v := 8) dX2_lettersOf_3 rfl ?_
      refine ew_icmp_ge (pc := 5) (tgt := 28) dX2_lettersOf_5 (by decide) (fun c5 => ?_) (fun c5 => absurd (by decide) c5)
      refine ew_iload_n (pc := 28) dX2_lettersOf_28 rfl ?_
      refine ew_iret (pc := 29) rfl dX2_lettersOf_29 ?_
      rw [← hf] at hq
      exact hq
    | succ r ih =>
      intro n hn hf
      rw [ltF] at hf
      refine ew_iload_n (pc := 2) dX2_lettersOf_2 rfl ?_
      refine ew_bipush (pc := 3) (v := 8) dX2_lettersOf_3 rfl ?_
      refine ew_icmp_ge (pc := 5) (tgt := 28) dX2_lettersOf_5 (by decide) (fun c5 => absurd c5 (nI_ge (b := 8) (by omega) (by decide))) (fun c5 => ?_)
      refine ew_aload_n (pc := 8) dX2_lettersOf_8 rfl ?_
      refine tg_g10 (pc := 9) rfl dX2_lettersOf_9 ?_
      refine ew_bipush (pc := 12) (v := 8) dX2_lettersOf_12 rfl ?_
      refine ew_iload_n (pc := 14) dX2_lettersOf_14 rfl ?_
      refine ew_imul (pc := 15) dX2_lettersOf_15 ?_
      refine ew_iload_n (pc := 16) dX2_lettersOf_16 rfl ?_
      refine ew_iadd (pc := 17) dX2_lettersOf_17 ?_
      refine tg_l10 (pc := 18) (j := 8 * e + n) (nm_nI e n) (by omega) dX2_lettersOf_18 ?_
      refine ew_if_eq (pc := 19) (tgt := 28) dX2_lettersOf_19 (by decide) (fun c19 => ?_) (fun c19 => ?_)
      · refine ew_iload_n (pc := 28) dX2_lettersOf_28 rfl ?_
        refine ew_iret (pc := 29) rfl dX2_lettersOf_29 ?_
        rw [if_pos c19] at hf
        rw [← hf] at hq
        exact hq
      · refine ew_iinc (pc := 22) dX2_lettersOf_22 rfl (nI_inc n) (by decide) (p1_2 rfl) ?_
        refine ew_goto (pc := 25) (tgt := 2) dX2_lettersOf_25 (by decide) ?_
        rw [if_neg c19] at hf
        exact ih (n + 1) (by omega) hf
  refine ew_enter (by decide +kernel) (ew_a1 rfl (ew_a1 rfl (ew_an ew_az))) (Nat.le_of_ble_eq_true rfl) ?_
  refine ew_iconst (pc := 0) (v := 0) dX2_lettersOf_0 rfl ?_
  refine ew_istore_n (pc := 1) dX2_lettersOf_1 rfl (by decide) (p1_2 rfl) ?_
  exact main 8 0 (by omega) rfl
abbrev leI (x : Int32) (N nm : Nat → Int32) (a b : Int32) : Prop := ¬ x = 0 ∧ isIx (nE N) a ∧ isIx (ltV nm (ix a)) b
theorem o_letter {g : eg} {h : eh} {t : Nat} {σ : tS} {N nm : Nat → Int32} {a b : Int32} {Q : Outcome → eh → Prop} (hJ : TJ σ N) (hM : σ.2 10 = nm)
    (hq : ∀ σ' v, An SC σ (as1 (σ.1 21) (bI (leI (σ.1 21) N nm a b))) (nm (8 * ix a + ix b)) σ' v → Q (.returned (some (.int v))) (tw t σ' h)) : ew_T g kX2_letter 2 [.ref t, .int a, .int b] (tw t σ h) Q := by
  have hw : nE N ≤ 10 := hJ.z.2.1
  have s36 : ∀ f, f = bI (leI (σ.1 21) N nm a b) → ew_G g kX2_letter 2 36 [.ref t, .int a, .int b] [.int f, .ref t] (tw t σ h) Q := by
    intro f hf
    rw [hf]
    refine ew_cV1 (d' := 0) (pc := 36) vX2_291 (tw_ro _ _ _ _) dX2_letter_36 (by decide) (ew_rm (Nat.le_of_ble_eq_true rfl)) ?_
    refine t_ask1 (fun σ1 F1 h0 => ?_)
    refine ew_Kr ?_
    refine ew_if_eq (pc := 39) (tgt := 56) dX2_letter_39 (by decide) (fun c39 => ?_) (fun c39 => ?_)
    · refine ew_iconst (pc := 56) (v := 0) dX2_letter_56 rfl ?_
      refine ew_iret (pc := 57) rfl dX2_letter_57 ?_
      first
      | exact hq _ _ ⟨F1.w rfl, h0, fun h9 => absurd h9 (bI_0.mp c39)⟩
      | exact hq _ _ ⟨F1.w rfl, h0, fun _ => congrFun ((F1.a 10 rfl).trans hM) _⟩
    · have hp := as1_0.mp (bI_n.mp c39)
      have hi := bI_n.mp hp.2
      have ha := hi.2.1.to (by omega)
      have hle := ltV_le nm (ix a)
      have hb := hi.2.2.to (by omega)
      refine ew_aload_n (pc := 42) dX2_letter_42 rfl ?_
      refine tg_g10 (pc := 43) rfl dX2_letter_43 ?_
      refine ew_bipush (pc := 46) (v := 8) dX2_letter_46 rfl ?_
      refine ew_iload_n (pc := 48) dX2_letter_48 rfl ?_
      refine ew_imul (pc := 49) dX2_letter_49 ?_
      refine ew_iload_n (pc := 50) dX2_letter_50 rfl ?_
      refine ew_iadd (pc := 51) dX2_letter_51 ?_
      refine tg_l10 (pc := 52) (j := 8 * ix a + ix b) (by rw [ha.2, hb.2, ix_nI (by omega), ix_nI (by omega)]; exact nm_nI _ _) (by omega) dX2_letter_52 ?_
      refine ew_goto (pc := 53) (tgt := 57) dX2_letter_53 (by decide) ?_
      refine ew_iret (pc := 57) rfl dX2_letter_57 ?_
      first
      | exact hq _ _ ⟨F1.w rfl, h0, fun h9 => absurd h9 (bI_0.mp c39)⟩
      | exact hq _ _ ⟨F1.w rfl, h0, fun _ => congrFun ((F1.a 10 rfl).trans hM) _⟩
  refine ew_enter (by decide +kernel) (ew_a1 rfl (ew_a1 rfl (ew_a1 rfl ew_az))) (Nat.le_of_ble_eq_true rfl) ?_
  refine ew_aload_n (pc := 0) dX2_letter_0 rfl ?_
  refine ew_aload_n (pc := 1) dX2_letter_1 rfl ?_
  refine tg_g21 (pc := 2) rfl dX2_letter_2 ?_
  refine ew_if_eq (pc := 5) (tgt := 35) dX2_letter_5 (by decide) (fun c5 => ?_) (fun c5 => ?_)
  · refine ew_iconst (pc := 35) (v := 0) dX2_letter_35 rfl ?_
    first
    | exact s36 _ (bI_T ⟨c5, bI_n.mp c13, bI_n.mp c28⟩)
    | exact s36 _ (bI_F (fun h9 => bI_0.mp c28 h9.2.2))
    | exact s36 _ (bI_F (fun h9 => bI_0.mp c13 h9.2.1))
    | exact s36 _ (bI_F (fun h9 => h9.1 c5))
  · refine ew_aload_n (pc := 8) dX2_letter_8 rfl ?_
    refine ew_iload_n (pc := 9) dX2_letter_9 rfl ?_
    refine ew_cV1 (d' := 1) (pc := 10) vX2_288 (tw_ro _ _ _ _) dX2_letter_10 (by decide) (ew_rm (Nat.le_of_ble_eq_true rfl)) ?_
    refine t_isEvent hJ.n hJ.z ?_
    refine ew_Kr ?_
    refine ew_if_eq (pc := 13) (tgt := 35) dX2_letter_13 (by decide) (fun c13 => ?_) (fun c13 => ?_)
    · refine ew_iconst (pc := 35) (v := 0) dX2_letter_35 rfl ?_
      first
      | exact s36 _ (bI_T ⟨c5, bI_n.mp c13, bI_n.mp c28⟩)
      | exact s36 _ (bI_F (fun h9 => bI_0.mp c28 h9.2.2))
      | exact s36 _ (bI_F (fun h9 => bI_0.mp c13 h9.2.1))
      | exact s36 _ (bI_F (fun h9 => h9.1 c5))
    · have ha := (bI_n.mp c13).to (by omega)
      refine ew_iload_n (pc := 16) dX2_letter_16 rfl ?_
      refine ew_iconst (pc := 17) (v := 0) dX2_letter_17 rfl ?_
      refine ew_aload_n (pc := 18) dX2_letter_18 rfl ?_
      refine ew_iload_n (pc := 19) dX2_letter_19 rfl ?_
      refine ew_cV1 (d' := 0) (pc := 20) vX2_125 (tw_ro _ _ _ _) dX2_letter_20 (by decide) (ew_rm (Nat.le_of_ble_eq_true rfl)) ?_
      rw [ha.2]
      refine t_lettersOf hM (by omega) ?_
      rw [← ha.2]
      refine ew_Kr ?_
      refine ew_iconst (pc := 23) (v := 1) dX2_letter_23 rfl ?_
      refine ew_isub (pc := 24) dX2_letter_24 ?_
      refine ew_cS3 (d' := 0) (pc := 25) sX2_102 dX2_letter_25 (by decide) (ew_rm (Nat.le_of_ble_eq_true rfl)) ?_
      refine t_inT ?_
      refine ew_Kr ?_
      refine ew_if_eq (pc := 28) (tgt := 35) dX2_letter_28 (by decide) (fun c28 => ?_) (fun c28 => ?_)
      · refine ew_iconst (pc := 35) (v := 0) dX2_letter_35 rfl ?_
        first
        | exact s36 _ (bI_T ⟨c5, bI_n.mp c13, bI_n.mp c28⟩)
        | exact s36 _ (bI_F (fun h9 => bI_0.mp c28 h9.2.2))
        | exact s36 _ (bI_F (fun h9 => bI_0.mp c13 h9.2.1))
        | exact s36 _ (bI_F (fun h9 => h9.1 c5))
      · refine ew_iconst (pc := 31) (v := 1) dX2_letter_31 rfl ?_
        refine ew_goto (pc := 32) (tgt := 36) dX2_letter_32 (by decide) ?_
        first
        | exact s36 _ (bI_T ⟨c5, bI_n.mp c13, bI_n.mp c28⟩)
        | exact s36 _ (bI_F (fun h9 => bI_0.mp c28 h9.2.2))
        | exact s36 _ (bI_F (fun h9 => bI_0.mp c13 h9.2.1))
        | exact s36 _ (bI_F (fun h9 => h9.1 c5))
theorem rowL_le (F : Int32) (E : List ed) (b : Nat) : ∀ m a, (rowL F E b m a).length ≤ m
  | 0, _ => Nat.le_refl 0
  | m + 1, a => by
    rw [rowL]
    split
    · exact Nat.zero_le _
    · rename_i e _
      have := rowL_le F E b m e.2.1
      rw [List.length_cons]
      omega
theorem rdF_lt (N : Nat → Int32) : ∀ r m x, rdF N r m = some x → x.1 < m + r
  | 0, _, _, h => by cases h
  | r + 1, m, x, h => by
    rw [rdF] at h
    split at h
    · injection h with h
      subst h
      show m < _
      omega
    · have := rdF_lt N r (m + 1) x h
      omega
theorem rdL_le (N : Nat → Int32) : (rdL N).length ≤ 10 := by
  rw [rdL]
  cases hA : rdA N with
  | none => exact Nat.zero_le _
  | some x =>
    obtain ⟨m, a⟩ := x
    rw [rdA] at hA
    split at hA
    · cases hA
    · have h1 := rdF_lt N 10 1 _ hA
      have h2 := rowL_le 268435456 (eN N 0 (-1)) a m a
      rw [rdLo]
      have h3 : m < 1 + 10 := h1
      omega
theorem o_roundStep {g : eg} {h : eh} {t : Nat} {σ : tS} {N : Nat → Int32} {a : Int32} {Q : Outcome → eh → Prop} (hJ : TJ σ N) (hR : okN N → RX N)
    (hq : ∀ σ' v, An SC σ (as1 (σ.1 21) (bI (isIx (rdL N).length a))) (lcode (rdL N) (ix a)) σ' v → Q (.returned (some (.int v))) (tw t σ' h)) : ew_T g kX2_roundStep 7 [.ref t, .int a] (tw t σ h) Q := by
  refine ew_enter (by decide +kernel) (ew_a1 rfl (ew_a1 rfl ew_az)) (Nat.le_of_ble_eq_true rfl) ?_
  by_cases hx : σ.1 21 = 0
  · have hth : ∀ f, as1 (σ.1 21) f = 1 := fun f => by rw [as1, if_pos hx]
    refine ew_aload_n (pc := 0) dX2_roundStep_0 rfl ?_
    refine tg_g21 (pc := 1) rfl dX2_roundStep_1 ?_
    refine ew_if_eq (pc := 4) (tgt := 11) dX2_roundStep_4 (by decide) (fun c4 => ?_) (fun c4 => absurd hx c4)
    refine ew_aload_n (pc := 11) dX2_roundStep_11 rfl ?_
    refine ew_iload_n (pc := 12) dX2_roundStep_12 rfl ?_
    refine ew_iconst (pc := 13) (v := 0) dX2_roundStep_13 rfl ?_
    refine ew_aload_n (pc := 14) dX2_roundStep_14 rfl ?_
    refine tg_g33 (pc := 15) rfl dX2_roundStep_15 ?_
    refine ew_iconst (pc := 18) (v := 1) dX2_roundStep_18 rfl ?_
    refine ew_isub (pc := 19) dX2_roundStep_19 ?_
    refine ew_cS3 (d' := 0) (pc := 20) sX2_102 dX2_roundStep_20 (by decide) (ew_rm (Nat.le_of_ble_eq_true rfl)) ?_
    refine t_inT ?_
    refine ew_Kr ?_
    refine ew_cV1 (d' := 0) (pc := 23) vX2_291 (tw_ro _ _ _ _) dX2_roundStep_23 (by decide) (ew_rm (Nat.le_of_ble_eq_true rfl)) ?_
    refine t_ask1 (fun σ1 F1 h0 => ?_)
    rw [hth] at h0 ⊢
    rw [bI10]
    refine ew_Kr ?_
    refine ew_if_eq (pc := 26) (tgt := 38) dX2_roundStep_26 (by decide) (fun c26 => ?_) (fun c26 => absurd rfl c26)
    refine ew_iconst (pc := 38) (v := 0) dX2_roundStep_38 rfl ?_
    refine ew_iret (pc := 39) rfl dX2_roundStep_39 ?_
    exact hq _ _ ⟨F1.w rfl, h0.trans (hth _).symm, fun h9 => absurd h9 (by rw [hth]; decide)⟩
  · have hx2 := hx
    refine ew_aload_n (pc := 0) dX2_roundStep_0 rfl ?_
    refine tg_g21 (pc := 1) rfl dX2_roundStep_1 ?_
    refine ew_if_eq (pc := 4) (tgt := 11) dX2_roundStep_4 (by decide) (fun c4 => absurd c4 hx) (fun c4 => ?_)
    refine ew_aload_n (pc := 7) dX2_roundStep_7 rfl ?_
    refine ew_cV0 (d' := 6) (pc := 8) vX2_302 (tw_ro _ _ _ _) dX2_roundStep_8 (by decide) (ew_rm (Nat.le_of_ble_eq_true rfl)) ?_
    refine t_round (N := N) hJ.n (hJ.ok hx) (hR (hJ.ok hx)) (fun σ1 F1 R1 _ _ => ?_)
    refine ew_Kv ?_
    refine ew_aload_n (pc := 11) dX2_roundStep_11 rfl ?_
    refine ew_iload_n (pc := 12) dX2_roundStep_12 rfl ?_
    refine ew_iconst (pc := 13) (v := 0) dX2_roundStep_13 rfl ?_
    refine ew_aload_n (pc := 14) dX2_roundStep_14 rfl ?_
    refine tg_g33 (pc := 15) rfl dX2_roundStep_15 ?_
    rw [R1.1]
    refine ew_iconst (pc := 18) (v := 1) dX2_roundStep_18 rfl ?_
    refine ew_isub (pc := 19) dX2_roundStep_19 ?_
    refine ew_cS3 (d' := 0) (pc := 20) sX2_102 dX2_roundStep_20 (by decide) (ew_rm (Nat.le_of_ble_eq_true rfl)) ?_
    refine t_inT ?_
    refine ew_Kr ?_
    refine ew_cV1 (d' := 0) (pc := 23) vX2_291 (tw_ro _ _ _ _) dX2_roundStep_23 (by decide) (ew_rm (Nat.le_of_ble_eq_true rfl)) ?_
    refine t_ask1 (fun σ2 F2 h0 => ?_)
    rw [show σ1.1 21 = σ.1 21 from F1.s 21 rfl] at h0 ⊢
    refine ew_Kr ?_
    refine ew_if_eq (pc := 26) (tgt := 38) dX2_roundStep_26 (by decide) (fun c26 => ?_) (fun c26 => ?_)
    · refine ew_iconst (pc := 38) (v := 0) dX2_roundStep_38 rfl ?_
      refine ew_iret (pc := 39) rfl dX2_roundStep_39 ?_
      first
      | exact hq _ _ ⟨(F1.w rfl).u F2 rfl, h0, fun h9 => absurd h9 (bI_0.mp c26)⟩
      | refine hq _ _ ⟨(F1.w rfl).u F2 rfl, h0, fun _ => ?_⟩
        have he := List.getElem?_eq_getElem ha.1
        rw [lcode, he]
        exact (congrFun (F2.a 32 rfl) _).trans (R1.2.2 _ _ he)
    · have hp := as1_0.mp (bI_n.mp c26)
      have ha := isIx.to (n := (rdL N).length) (bI_n.mp hp.2) (by have := rdL_le N; omega)
      have hle := rdL_le N
      refine ew_aload_n (pc := 29) dX2_roundStep_29 rfl ?_
      refine tg_g32 (pc := 30) rfl dX2_roundStep_30 ?_
      refine ew_iload_n (pc := 33) dX2_roundStep_33 rfl ?_
      refine tg_l32 (pc := 34) (j := ix a) ha.2 (by omega) dX2_roundStep_34 ?_
      refine ew_goto (pc := 35) (tgt := 39) dX2_roundStep_35 (by decide) ?_
      refine ew_iret (pc := 39) rfl dX2_roundStep_39 ?_
      first
      | exact hq _ _ ⟨(F1.w rfl).u F2 rfl, h0, fun h9 => absurd h9 (bI_0.mp c26)⟩
      | refine hq _ _ ⟨(F1.w rfl).u F2 rfl, h0, fun _ => ?_⟩
        have he := List.getElem?_eq_getElem ha.1
        rw [lcode, he]
        exact (congrFun (F2.a 32 rfl) _).trans (R1.2.2 _ _ he)
