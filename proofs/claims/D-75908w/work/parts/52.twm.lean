/-! EW: the reference: undo, save, restore, input -/
set_option maxRecDepth 100000
theorem nI_gt0 {n : Nat} (hn : n < 2 ^ 31) : nI n ≤ 0 ↔ n = 0 := by
  constructor
  · intro h
    by_cases h0 : n = 0
    · exact h0
    · exact absurd h (nI_nle (by omega) hn)
  · intro h
    subst h
    exact Int32.le_refl _
theorem o_undo {g : eg} {h : eh} {t : Nat} {σ : tS} {P : List (Nat → Int32)} {Q : Outcome → eh → Prop} (hP : Pa σ P)
    (h0 : P = [] → ∀ σ' r, Fq [0] σ σ' → σ'.1 0 = 1 → Q (.returned (some (.int r))) (tw t σ' h))
    (h1 : ∀ P' M, P = P' ++ [M] → ∀ σ', Fq [0, 16, 22] σ σ' → σ'.1 0 = 0 → (∀ k, k < 176 → σ'.2 16 k = M k) → Pa σ' P' → Q (.returned (some (.int (nI P'.length)))) (tw t σ' h)) : ew_T g kX2_undo 1 [.ref t] (tw t σ h) Q := by
  have hl := hP.2.1
  refine ew_enter (by decide +kernel) (ew_a1 rfl ew_az) (Nat.le_of_ble_eq_true rfl) ?_
  rcases List.eq_nil_or_concat P with he | ⟨P', M, he⟩
  · have h22 : σ.1 22 = nI 0 := by rw [hP.1, he]; rfl
    refine ew_aload_n (pc := 0) dX2_undo_0 rfl ?_
    refine ew_aload_n (pc := 1) dX2_undo_1 rfl ?_
    refine tg_g22 (pc := 2) rfl dX2_undo_2 ?_
    rw [h22]
    refine ew_if_le (pc := 5) (tgt := 12) dX2_undo_5 (by decide) (fun c5 => ?_) (fun c5 => absurd (by decide) c5)
    refine ew_iconst (pc := 12) (v := 1) dX2_undo_12 rfl ?_
    refine tg_p0 (pc := 13) rfl dX2_undo_13 ?_
    refine ew_aload_n (pc := 16) dX2_undo_16 rfl ?_
    refine tg_g0 (pc := 17) rfl dX2_undo_17 ?_
    refine ew_if_le (pc := 20) (tgt := 25) dX2_undo_20 (by decide) (fun c20 => absurd c20 (show ¬ ((1 : Int32) ≤ (0 : Int32)) by decide)) (fun c20 => ?_)
    refine ew_iconst (pc := 23) (v := 0) dX2_undo_23 rfl ?_
    refine ew_iret (pc := 24) rfl dX2_undo_24 ?_
    exact h0 he _ _ (Fq.I σ 0 _ rfl) rfl
  · rw [List.concat_eq_append] at he
    have hlp : P.length = P'.length + 1 := by rw [he, List.length_append]; rfl
    have h22 : σ.1 22 = nI (P'.length + 1) := by rw [hP.1, hlp]
    have h22' : σ.1 22 - 1 = nI P'.length := by rw [h22, nI_pred]
    refine ew_aload_n (pc := 0) dX2_undo_0 rfl ?_
    refine ew_aload_n (pc := 1) dX2_undo_1 rfl ?_
    refine tg_g22 (pc := 2) rfl dX2_undo_2 ?_
    rw [h22]
    refine ew_if_le (pc := 5) (tgt := 12) dX2_undo_5 (by decide) (fun c5 => absurd c5 (nI_nle (by omega) (by omega))) (fun c5 => ?_)
    refine ew_iconst (pc := 8) (v := 0) dX2_undo_8 rfl ?_
    refine ew_goto (pc := 9) (tgt := 13) dX2_undo_9 (by decide) ?_
    refine tg_p0 (pc := 13) rfl dX2_undo_13 ?_
    refine ew_aload_n (pc := 16) dX2_undo_16 rfl ?_
    refine tg_g0 (pc := 17) rfl dX2_undo_17 ?_
    refine ew_if_le (pc := 20) (tgt := 25) dX2_undo_20 (by decide) (fun c20 => ?_) (fun c20 => absurd (show (0 : Int32) ≤ (0 : Int32) by decide) c20)
    refine ew_aload_n (pc := 25) dX2_undo_25 rfl ?_
    refine ew_dup (pc := 26) dX2_undo_26 rfl ?_
    refine tg_g22 (pc := 27) rfl dX2_undo_27 ?_
    refine ew_iconst (pc := 30) (v := 1) dX2_undo_30 rfl ?_
    refine ew_isub (pc := 31) dX2_undo_31 ?_
    refine tg_p22 (pc := 32) rfl dX2_undo_32 ?_
    refine ew_aload_n (pc := 35) dX2_undo_35 rfl ?_
    refine tg_g18 (pc := 36) rfl dX2_undo_36 ?_
    refine ew_aload_n (pc := 39) dX2_undo_39 rfl ?_
    refine tg_g22 (pc := 40) rfl dX2_undo_40 ?_
    refine ew_sipush (pc := 43) (v := 176) dX2_undo_43 rfl ?_
    rw [show (tI (tI σ 0 0) 22 ((tI σ 0 0).1 22 - 1)).1 22 = nI P'.length from h22', show (176 : Int32) = nI 176 from rfl]
    refine ew_imul (pc := 46) dX2_undo_46 ?_
    rw [nI_mul]
    refine ew_aload_n (pc := 47) dX2_undo_47 rfl ?_
    refine tg_g16 (pc := 48) rfl dX2_undo_48 ?_
    refine ew_iconst (pc := 51) (v := 0) dX2_undo_51 rfl ?_
    refine ew_cS4 (d' := 0) (pc := 52) sX2_200 dX2_undo_52 (by decide) (ew_rm (Nat.le_of_ble_eq_true rfl)) ?_
    refine t_copies (a := t + 6) (b := t + 4) (f := σ.2 18) (G := σ.2 16) (na := 1408) (nb := 176) (j := 0) (tw_r g t 6 _ h (by decide)) (tw_at t 4 _ h (by decide)) (by omega) (by omega) (by omega) (by decide) (by decide) ?_
    rw [tw_s16]
    refine ew_Kv ?_
    refine ew_aload_n (pc := 55) dX2_undo_55 rfl ?_
    refine tg_g22 (pc := 56) rfl dX2_undo_56 ?_
    refine ew_iret (pc := 59) rfl dX2_undo_59 ?_
    show Q (.returned (some (.int (σ.1 22 - 1)))) _
    rw [h22']
    refine h1 P' M he _ ((((Fq.r _ σ).xI 0 _ rfl).xI 22 _ rfl).xA 16 _ rfl) rfl ?_ ⟨h22', by omega, ?_⟩
    · intro k hk
      show cpG (σ.2 18) (σ.2 16) (P'.length * 176) 0 176 k = M k
      rw [cpG_at, if_pos (by omega)]
      have h8 := hP.2.2 P'.length M (by rw [he, List.getElem?_append_right (Nat.le_refl _), Nat.sub_self]; rfl) k hk
      rw [show P'.length * 176 + (k - 0) = 176 * P'.length + k by omega]
      exact h8
    · intro i M' hM' k hk
      have hi := (List.getElem?_eq_some_iff.mp hM').1
      exact hP.2.2 i M' (by rw [he, List.getElem?_append_left hi]; exact hM') k hk
theorem o_undoable {g : eg} {h : eh} {t : Nat} {σ : tS} {P : List (Nat → Int32)} {Q : Outcome → eh → Prop} (hP : Pa σ P)
    (hq : ∀ σ', Fq [0] σ σ' → σ'.1 0 = 0 → Q (.returned (some (.int (nI P.length)))) (tw t σ' h)) : ew_T g kX2_undoable 0 [.ref t] (tw t σ h) Q := by
  refine ew_enter (by decide +kernel) (ew_a1 rfl ew_az) (Nat.le_of_ble_eq_true rfl) ?_
  refine ew_aload_n (pc := 0) dX2_undoable_0 rfl ?_
  refine ew_iconst (pc := 1) (v := 0) dX2_undoable_1 rfl ?_
  refine tg_p0 (pc := 2) rfl dX2_undoable_2 ?_
  refine ew_aload_n (pc := 5) dX2_undoable_5 rfl ?_
  refine tg_g22 (pc := 6) rfl dX2_undoable_6 ?_
  refine ew_iret (pc := 9) rfl dX2_undoable_9 ?_
  rw [show (tI σ 0 0).1 22 = nI P.length from hP.1]
  exact hq _ (Fq.I σ 0 _ rfl) rfl
/-- what is saved in a slot -/
def svI (σ : tS) (j : Nat) : Option (Nat → Int32) → Prop
  | none => σ.2 20 j = 0
  | some M => σ.2 20 j = 1 ∧ ∀ k, k < 176 → σ.2 19 (176 * j + k) = M k
def Sv (σ : tS) (S : Nat → Option (Nat → Int32)) : Prop := ∀ j, j < 2 → svI σ j (S j)
theorem Sv.fq {L : List Nat} {σ σ' : tS} {S : Nat → Option (Nat → Int32)} (h : Sv σ S) (hF : Fq L σ σ') (h1 : L.contains 19 = false) (h2 : L.contains 20 = false) : Sv σ' S := by
  intro j hj
  have h8 := h j hj
  cases hs : S j with
  | none =>
    rw [hs] at h8
    show σ'.2 20 j = 0
    rw [hF.a 20 h2]
    exact h8
  | some M =>
    rw [hs] at h8
    show σ'.2 20 j = 1 ∧ ∀ k, k < 176 → σ'.2 19 (176 * j + k) = M k
    rw [hF.a 20 h2, hF.a 19 h1]
    exact h8
theorem o_save {g : eg} {h : eh} {t : Nat} {σ : tS} {N : Nat → Int32} {S : Nat → Option (Nat → Int32)} {a : Int32} {Q : Outcome → eh → Prop} (hJ : TJ σ N) (hS : Sv σ S)
    (h0 : ¬ as1 (σ.1 21) (bI (isIx 2 a)) = 0 → ∀ σ' r, Fq [0] σ σ' → σ'.1 0 = as1 (σ.1 21) (bI (isIx 2 a)) → Q (.returned (some (.int r))) (tw t σ' h))
    (h1 : as1 (σ.1 21) (bI (isIx 2 a)) = 0 → ∀ σ', Fq [0, 19, 20] σ σ' → σ'.1 0 = 0 → Sv σ' (fun j => if j = ix a then some N else S j) → Q (.returned (some (.int (nI (nW N))))) (tw t σ' h)) : ew_T g kX2_save 1 [.ref t, .int a] (tw t σ h) Q := by
  refine ew_enter (by decide +kernel) (ew_a1 rfl (ew_a1 rfl ew_az)) (Nat.le_of_ble_eq_true rfl) ?_
  refine ew_aload_n (pc := 0) dX2_save_0 rfl ?_
  refine ew_iload_n (pc := 1) dX2_save_1 rfl ?_
  refine ew_iconst (pc := 2) (v := 0) dX2_save_2 rfl ?_
  refine ew_iconst (pc := 3) (v := 1) dX2_save_3 rfl ?_
  refine ew_cS3 (d' := 0) (pc := 4) sX2_102 dX2_save_4 (by decide) (ew_rm (Nat.le_of_ble_eq_true rfl)) ?_
  refine t_inT ?_
  refine ew_Kr ?_
  refine ew_cV1 (d' := 0) (pc := 7) vX2_291 (tw_ro _ _ _ _) dX2_save_7 (by decide) (ew_rm (Nat.le_of_ble_eq_true rfl)) ?_
  refine t_ask1 (fun σ1 F1 e0 => ?_)
  refine ew_Kr ?_
  refine ew_if_ne (pc := 10) (tgt := 15) dX2_save_10 (by decide) (fun c10 => ?_) (fun c10 => ?_)
  · have hz := bI_n.mp c10
    have hp := as1_0.mp hz
    have ha := (isIx.to (n := 2) (bI_n.mp hp.2)) (by decide)
    have hN1 : σ1.2 16 = N := (F1.a 16 rfl).trans hJ.n
    have hS1 := hS.fq F1 rfl rfl
    have h1z := h1 hz
    rw [hz] at e0
    rw [ha.2]
    refine ew_aload_n (pc := 15) dX2_save_15 rfl ?_
    refine tg_g16 (pc := 16) rfl dX2_save_16 ?_
    refine ew_iconst (pc := 19) (v := 0) dX2_save_19 rfl ?_
    refine ew_aload_n (pc := 20) dX2_save_20 rfl ?_
    refine tg_g19 (pc := 21) rfl dX2_save_21 ?_
    refine ew_iload_n (pc := 24) dX2_save_24 rfl ?_
    refine ew_sipush (pc := 25) (v := 176) dX2_save_25 rfl ?_
    rw [show (176 : Int32) = nI 176 from rfl]
    refine ew_imul (pc := 28) dX2_save_28 ?_
    rw [nI_mul]
    refine ew_cS4 (d' := 0) (pc := 29) sX2_200 dX2_save_29 (by decide) (ew_rm (Nat.le_of_ble_eq_true rfl)) ?_
    refine t_copies (a := t + 4) (b := t + 7) (f := σ1.2 16) (G := σ1.2 19) (na := 176) (nb := 352) (i := 0) (tw_r g t 4 _ h (by decide)) (tw_at t 7 _ h (by decide)) (by omega) (by omega) (by omega) (by decide) (by decide) ?_
    rw [tw_s19]
    refine ew_Kv ?_
    refine ew_aload_n (pc := 32) dX2_save_32 rfl ?_
    refine tg_g20 (pc := 33) rfl dX2_save_33 ?_
    refine ew_iload_n (pc := 36) dX2_save_36 rfl ?_
    refine ew_iconst (pc := 37) (v := 1) dX2_save_37 rfl ?_
    refine tg_s20 (pc := 38) (j := ix a) rfl ha.1 dX2_save_38 ?_
    refine ew_aload_n (pc := 39) dX2_save_39 rfl ?_
    refine ew_cV0 (d' := 0) (pc := 40) vX2_220 (tw_ro _ _ _ _) dX2_save_40 (by decide) (ew_rm (Nat.le_of_ble_eq_true rfl)) ?_
    refine t_windowsZ (N := N) hN1 hJ.z ?_
    refine ew_Kr ?_
    refine ew_iret (pc := 43) rfl dX2_save_43 ?_
    refine h1z _ (((F1.w rfl).xA 19 _ rfl).xA 20 _ rfl) e0 ?_
    intro j hj
    show svI _ j (if j = ix a then some N else S j)
    by_cases hja : j = ix a
    · rw [if_pos hja]
      refine ⟨?_, ?_⟩
      · show upd (σ1.2 20) (ix a) _ j = 1
        rw [hja]
        simp only [upd, if_pos]
        rfl
      · intro k hk
        show cpG (σ1.2 16) (σ1.2 19) 0 (ix a * 176) 176 (176 * j + k) = N k
        rw [cpG_at, if_pos (by omega), hN1, show 0 + (176 * j + k - ix a * 176) = k by rw [hja]; omega]
    · rw [if_neg hja]
      have h8 := hS1 j hj
      cases hs : S j with
      | none =>
        rw [hs] at h8
        show upd (σ1.2 20) (ix a) _ j = 0
        rw [upd, if_neg hja]
        exact h8
      | some M =>
        rw [hs] at h8
        refine ⟨?_, ?_⟩
        · show upd (σ1.2 20) (ix a) _ j = 1
          rw [upd, if_neg hja]
          exact h8.1
        · intro k hk
          show cpG (σ1.2 16) (σ1.2 19) 0 (ix a * 176) 176 (176 * j + k) = M k
          rw [cpG_at, if_neg (by omega)]
          exact h8.2 k hk
  · refine ew_iconst (pc := 13) (v := 0) dX2_save_13 rfl ?_
    refine ew_iret (pc := 14) rfl dX2_save_14 ?_
    exact h0 (bI_0.mp c10) _ _ F1 e0
theorem o_restore {g : eg} {h : eh} {t : Nat} {σ : tS} {S : Nat → Option (Nat → Int32)} {a : Int32} {Q : Outcome → eh → Prop} (hS : Sv σ S)
    (h0 : ¬ isIx 2 a → ∀ σ' r, Fq [0] σ σ' → σ'.1 0 = 1 → Q (.returned (some (.int r))) (tw t σ' h))
    (h2 : isIx 2 a → S (ix a) = none → ∀ σ' r, Fq [0] σ σ' → σ'.1 0 = 2 → Q (.returned (some (.int r))) (tw t σ' h))
    (h1 : isIx 2 a → ∀ M, S (ix a) = some M → ∀ σ', Fq [0, 16, 22] σ σ' → σ'.1 0 = 0 → σ'.1 22 = 0 → (∀ k, k < 176 → σ'.2 16 k = M k) → Q (.returned (some (.int (M 1)))) (tw t σ' h)) : ew_T g kX2_restore 1 [.ref t, .int a] (tw t σ h) Q := by
  have s40 : ∀ M, S (ix a) = some M → isIx 2 a → svI σ (ix a) (some M) → ew_G g kX2_restore 1 40 [.ref t, .int (nI (ix a))] [] (tw t (tI σ 0 0) h) Q := by
    intro M hs hi hsj
    have ha := hi.to (by decide)
    have hv : ∀ k, k < 176 → cpG (σ.2 19) (σ.2 16) (ix a * 176) 0 176 k = M k := by
      intro k hk
      rw [cpG_at, if_pos (by omega), show ix a * 176 + (k - 0) = 176 * ix a + k by omega]
      exact hsj.2 k hk
    refine ew_aload_n (pc := 40) dX2_restore_40 rfl ?_
    refine tg_g19 (pc := 41) rfl dX2_restore_41 ?_
    refine ew_iload_n (pc := 44) dX2_restore_44 rfl ?_
    refine ew_sipush (pc := 45) (v := 176) dX2_restore_45 rfl ?_
    rw [show (176 : Int32) = nI 176 from rfl]
    refine ew_imul (pc := 48) dX2_restore_48 ?_
    rw [nI_mul]
    refine ew_aload_n (pc := 49) dX2_restore_49 rfl ?_
    refine tg_g16 (pc := 50) rfl dX2_restore_50 ?_
    refine ew_iconst (pc := 53) (v := 0) dX2_restore_53 rfl ?_
    refine ew_cS4 (d' := 0) (pc := 54) sX2_200 dX2_restore_54 (by decide) (ew_rm (Nat.le_of_ble_eq_true rfl)) ?_
    refine t_copies (a := t + 7) (b := t + 4) (f := σ.2 19) (G := σ.2 16) (na := 352) (nb := 176) (j := 0) (tw_r g t 7 _ h (by decide)) (tw_at t 4 _ h (by decide)) (by omega) (by omega) (by omega) (by decide) (by decide) ?_
    rw [tw_s16]
    refine ew_Kv ?_
    refine ew_aload_n (pc := 57) dX2_restore_57 rfl ?_
    refine ew_iconst (pc := 58) (v := 0) dX2_restore_58 rfl ?_
    refine tg_p22 (pc := 59) rfl dX2_restore_59 ?_
    refine ew_aload_n (pc := 62) dX2_restore_62 rfl ?_
    refine ew_cV0 (d' := 0) (pc := 63) vX2_220 (tw_ro _ _ _ _) dX2_restore_63 (by decide) (ew_rm (Nat.le_of_ble_eq_true rfl)) ?_
    refine t_windowsNow ?_
    refine ew_Kr ?_
    refine ew_iret (pc := 66) rfl dX2_restore_66 ?_
    show Q (.returned (some (.int (cpG (σ.2 19) (σ.2 16) (ix a * 176) 0 176 1)))) _
    rw [hv 1 (by decide)]
    exact h1 hi M hs _ ((((Fq.r _ σ).xI 0 _ rfl).xA 16 _ rfl).xI 22 _ rfl) rfl rfl hv
  refine ew_enter (by decide +kernel) (ew_a1 rfl (ew_a1 rfl ew_az)) (Nat.le_of_ble_eq_true rfl) ?_
  refine ew_aload_n (pc := 0) dX2_restore_0 rfl ?_
  refine ew_iload_n (pc := 1) dX2_restore_1 rfl ?_
  refine ew_iconst (pc := 2) (v := 0) dX2_restore_2 rfl ?_
  refine ew_iconst (pc := 3) (v := 1) dX2_restore_3 rfl ?_
  refine ew_cS3 (d' := 0) (pc := 4) sX2_102 dX2_restore_4 (by decide) (ew_rm (Nat.le_of_ble_eq_true rfl)) ?_
  refine t_inT ?_
  refine ew_Kr ?_
  refine ew_if_ne (pc := 7) (tgt := 14) dX2_restore_7 (by decide) (fun c7 => ?_) (fun c7 => ?_)
  · have hi : isIx 2 a := bI_n.mp c7
    have ha := hi.to (by decide)
    have hsj := hS (ix a) ha.1
    refine ew_aload_n (pc := 14) dX2_restore_14 rfl ?_
    refine tg_g20 (pc := 15) rfl dX2_restore_15 ?_
    refine ew_iload_n (pc := 18) dX2_restore_18 rfl ?_
    refine tg_l20 (pc := 19) (j := ix a) ha.2 ha.1 dX2_restore_19 ?_
    refine ew_if_eq (pc := 20) (tgt := 27) dX2_restore_20 (by decide) (fun c20 => ?_) (fun c20 => ?_)
    · refine ew_iconst (pc := 27) (v := 2) dX2_restore_27 rfl ?_
      refine tg_p0 (pc := 28) rfl dX2_restore_28 ?_
      refine ew_aload_n (pc := 31) dX2_restore_31 rfl ?_
      refine tg_g0 (pc := 32) rfl dX2_restore_32 ?_
      refine ew_if_le (pc := 35) (tgt := 40) dX2_restore_35 (by decide) (fun c35 => absurd c35 (show ¬ ((2 : Int32) ≤ (0 : Int32)) by decide)) (fun c35 => ?_)
      refine ew_iconst (pc := 38) (v := 0) dX2_restore_38 rfl ?_
      refine ew_iret (pc := 39) rfl dX2_restore_39 ?_
      first
      | exact h0 (bI_0.mp c7) _ _ (Fq.I σ 0 _ rfl) rfl
      | cases hs : S (ix a) with
        | none => exact h2 hi hs _ _ (Fq.I σ 0 _ rfl) rfl
        | some M =>
          rw [hs] at hsj
          exact absurd (hsj.1.symm.trans c20) (by decide)
    · refine ew_iconst (pc := 23) (v := 0) dX2_restore_23 rfl ?_
      refine ew_goto (pc := 24) (tgt := 28) dX2_restore_24 (by decide) ?_
      refine tg_p0 (pc := 28) rfl dX2_restore_28 ?_
      refine ew_aload_n (pc := 31) dX2_restore_31 rfl ?_
      refine tg_g0 (pc := 32) rfl dX2_restore_32 ?_
      refine ew_if_le (pc := 35) (tgt := 40) dX2_restore_35 (by decide) (fun c35 => ?_) (fun c35 => absurd (show (0 : Int32) ≤ (0 : Int32) by decide) c35)
      cases hs : S (ix a) with
      | none =>
        rw [hs] at hsj
        exact absurd hsj c20
      | some M =>
        rw [hs] at hsj
        rw [ha.2]
        exact s40 M hs hi hsj
  · refine ew_iconst (pc := 10) (v := 1) dX2_restore_10 rfl ?_
    refine ew_goto (pc := 11) (tgt := 28) dX2_restore_11 (by decide) ?_
    refine tg_p0 (pc := 28) rfl dX2_restore_28 ?_
    refine ew_aload_n (pc := 31) dX2_restore_31 rfl ?_
    refine tg_g0 (pc := 32) rfl dX2_restore_32 ?_
    refine ew_if_le (pc := 35) (tgt := 40) dX2_restore_35 (by decide) (fun c35 => absurd c35 (show ¬ ((1 : Int32) ≤ (0 : Int32)) by decide)) (fun c35 => ?_)
    refine ew_iconst (pc := 38) (v := 0) dX2_restore_38 rfl ?_
    refine ew_iret (pc := 39) rfl dX2_restore_39 ?_
    first
    | exact h0 (bI_0.mp c7) _ _ (Fq.I σ 0 _ rfl) rfl
    | cases hs : S (ix a) with
      | none => exact h2 hi hs _ _ (Fq.I σ 0 _ rfl) rfl
      | some M =>
        rw [hs] at hsj
        exact absurd (hsj.1.symm.trans c20) (by decide)
