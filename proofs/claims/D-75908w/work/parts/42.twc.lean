/-! EW: the reference: parts, shares, names -/
set_option maxRecDepth 100000
def endsV (N : Nat → Int32) (w : Nat) : Int32 := sh (nI (fA N w)) ||| sh (nI (fB N w))
def partS (N : Nat → Int32) (w : Nat) (x : Int32) : Int32 := if N (2 + 6 * w + 5) = 1 ∨ endsV N w &&& x = 0 then x else x ||| endsV N w
def partW (N : Nat → Int32) (s : Int32) : Nat → Int32
  | 0 => s
  | w + 1 => partS N w (partW N s w)
def partR (N : Nat → Int32) (s : Int32) : Nat → Int32
  | 0 => s
  | r + 1 => partW N (partR N s r) (nW N)
def partV (N : Nat → Int32) (e : Nat) : Int32 := partR N (sh (nI e)) 10
theorem t_partOf {g : eg} {h : eh} {t e : Nat} {σ : tS} {N : Nat → Int32} {Q : Outcome → eh → Prop} (hN : σ.2 16 = N) (ok : okN N) (hq : Q (.returned (some (.int (partV N e)))) (tw t σ h)) : ew_T g kX2_partOf 3 [.ref t, .int (nI e)] (tw t σ h) Q := by
  have hw2 := ok.w2
  have lW : ∀ r s, (∀ x5, ew_G g kX2_partOf 3 72 [.ref t, .int (nI e), .int (partW N s (nW N)), .int (nI r), .int (nI (nW N)), x5] [] (tw t σ h) Q) → ∀ m w x5, w + m = nW N → ew_G g kX2_partOf 3 15 [.ref t, .int (nI e), .int (partW N s w), .int (nI r), .int (nI w), x5] [] (tw t σ h) Q := by
    intro r s k1 m
    induction m with
    | zero =>
      intro w x5 hw
      have e9 : w = nW N := by omega
      subst e9
      refine ew_iload (pc := 15) dX2_partOf_15 rfl ?_
      refine ew_aload_n (pc := 17) dX2_partOf_17 rfl ?_
      refine ew_cV0 (d' := 0) (pc := 18) vX2_220 (tw_ro _ _ _ _) dX2_partOf_18 (by decide) (ew_rm (Nat.le_of_ble_eq_true rfl)) ?_
      refine t_windowsN hN ok ?_
      refine ew_Kr ?_
      refine ew_icmp_ge (pc := 21) (tgt := 72) dX2_partOf_21 (by decide) (fun c21 => ?_) (fun c21 => absurd (nI_le (Nat.le_refl _) (by omega)) c21)
      exact k1 _
    | succ m ih =>
      intro w x5 hw
      refine ew_iload (pc := 15) dX2_partOf_15 rfl ?_
      refine ew_aload_n (pc := 17) dX2_partOf_17 rfl ?_
      refine ew_cV0 (d' := 0) (pc := 18) vX2_220 (tw_ro _ _ _ _) dX2_partOf_18 (by decide) (ew_rm (Nat.le_of_ble_eq_true rfl)) ?_
      refine t_windowsN hN ok ?_
      refine ew_Kr ?_
      refine ew_icmp_ge (pc := 21) (tgt := 72) dX2_partOf_21 (by decide) (fun c21 => absurd c21 (nI_ge (by omega) (by omega))) (fun c21 => ?_)
      refine ew_iconst (pc := 24) (v := 1) dX2_partOf_24 rfl ?_
      refine ew_aload_n (pc := 25) dX2_partOf_25 rfl ?_
      refine ew_iload (pc := 26) dX2_partOf_26 rfl ?_
      refine ew_iconst (pc := 28) (v := 0) dX2_partOf_28 rfl ?_
      refine ew_cV2 (d' := 1) (pc := 29) vX2_214 (tw_ro _ _ _ _) dX2_partOf_29 (by decide) (ew_rm (Nat.le_of_ble_eq_true rfl)) ?_
      refine t_ofN (i := 0) hN (by omega) (by decide) ?_
      rw [ok.a w (by omega)]
      refine ew_Kr ?_
      refine ew_ishl (pc := 32) dX2_partOf_32 ?_
      refine ew_iconst (pc := 33) (v := 1) dX2_partOf_33 rfl ?_
      refine ew_aload_n (pc := 34) dX2_partOf_34 rfl ?_
      refine ew_iload (pc := 35) dX2_partOf_35 rfl ?_
      refine ew_iconst (pc := 37) (v := 1) dX2_partOf_37 rfl ?_
      refine ew_cV2 (d' := 1) (pc := 38) vX2_214 (tw_ro _ _ _ _) dX2_partOf_38 (by decide) (ew_rm (Nat.le_of_ble_eq_true rfl)) ?_
      refine t_ofN (i := 1) hN (by omega) (by decide) ?_
      rw [ok.b w (by omega)]
      refine ew_Kr ?_
      refine ew_ishl (pc := 41) dX2_partOf_41 ?_
      refine ew_ior (pc := 42) dX2_partOf_42 ?_
      refine ew_istore (pc := 43) dX2_partOf_43 (by decide) (p1_5 rfl) ?_
      refine ew_aload_n (pc := 45) dX2_partOf_45 rfl ?_
      refine ew_iload (pc := 46) dX2_partOf_46 rfl ?_
      refine ew_cV1 (d' := 2) (pc := 48) vX2_223 (tw_ro _ _ _ _) dX2_partOf_48 (by decide) (ew_rm (Nat.le_of_ble_eq_true rfl)) ?_
      refine t_isDroppedN hN (by omega) ?_
      refine ew_Kr ?_
      refine ew_if_ne (pc := 51) (tgt := 66) dX2_partOf_51 (by decide) (fun c51 => ?_) (fun c51 => ?_)
      · refine ew_iinc (pc := 66) dX2_partOf_66 rfl (nI_inc w) (by decide) (p1_4 rfl) ?_
        refine ew_goto (pc := 69) (tgt := 15) dX2_partOf_69 (by decide) ?_
        have h8 := ih (w + 1) (.int (endsV N w)) (by omega)
        rw [partW, partS] at h8
        first
        | rw [if_pos (Or.inl (bI_n.mp c51))] at h8
          exact h8
        | rw [if_pos (show N (2 + 6 * w + 5) = 1 ∨ endsV N w &&& partW N s w = 0 from Or.inr c58)] at h8
          exact h8
        | rw [if_neg (show ¬ (N (2 + 6 * w + 5) = 1 ∨ endsV N w &&& partW N s w = 0) from fun h9 => h9.elim (bI_0.mp c51) c58)] at h8
          exact h8
      · refine ew_iload (pc := 54) dX2_partOf_54 rfl ?_
        refine ew_iload_n (pc := 56) dX2_partOf_56 rfl ?_
        refine ew_iand (pc := 57) dX2_partOf_57 ?_
        refine ew_if_eq (pc := 58) (tgt := 66) dX2_partOf_58 (by decide) (fun c58 => ?_) (fun c58 => ?_)
        · refine ew_iinc (pc := 66) dX2_partOf_66 rfl (nI_inc w) (by decide) (p1_4 rfl) ?_
          refine ew_goto (pc := 69) (tgt := 15) dX2_partOf_69 (by decide) ?_
          have h8 := ih (w + 1) (.int (endsV N w)) (by omega)
          rw [partW, partS] at h8
          first
          | rw [if_pos (Or.inl (bI_n.mp c51))] at h8
            exact h8
          | rw [if_pos (show N (2 + 6 * w + 5) = 1 ∨ endsV N w &&& partW N s w = 0 from Or.inr c58)] at h8
            exact h8
          | rw [if_neg (show ¬ (N (2 + 6 * w + 5) = 1 ∨ endsV N w &&& partW N s w = 0) from fun h9 => h9.elim (bI_0.mp c51) c58)] at h8
            exact h8
        · refine ew_iload_n (pc := 61) dX2_partOf_61 rfl ?_
          refine ew_iload (pc := 62) dX2_partOf_62 rfl ?_
          refine ew_ior (pc := 64) dX2_partOf_64 ?_
          refine ew_istore_n (pc := 65) dX2_partOf_65 rfl (by decide) (p1_2 rfl) ?_
          refine ew_iinc (pc := 66) dX2_partOf_66 rfl (nI_inc w) (by decide) (p1_4 rfl) ?_
          refine ew_goto (pc := 69) (tgt := 15) dX2_partOf_69 (by decide) ?_
          have h8 := ih (w + 1) (.int (endsV N w)) (by omega)
          rw [partW, partS] at h8
          first
          | rw [if_pos (Or.inl (bI_n.mp c51))] at h8
            exact h8
          | rw [if_pos (show N (2 + 6 * w + 5) = 1 ∨ endsV N w &&& partW N s w = 0 from Or.inr c58)] at h8
            exact h8
          | rw [if_neg (show ¬ (N (2 + 6 * w + 5) = 1 ∨ endsV N w &&& partW N s w = 0) from fun h9 => h9.elim (bI_0.mp c51) c58)] at h8
            exact h8
  have lR : ∀ m r x4 x5, r + m = 10 → ew_G g kX2_partOf 3 6 [.ref t, .int (nI e), .int (partR N (sh (nI e)) r), .int (nI r), x4, x5] [] (tw t σ h) Q := by
    intro m
    induction m with
    | zero =>
      intro r x4 x5 hr
      have e9 : r = 10 := by omega
      subst e9
      refine ew_iload_n (pc := 6) dX2_partOf_6 rfl ?_
      refine ew_bipush (pc := 7) (v := 10) dX2_partOf_7 rfl ?_
      refine ew_icmp_ge (pc := 9) (tgt := 78) dX2_partOf_9 (by decide) (fun c9 => ?_) (fun c9 => absurd (by decide) c9)
      refine ew_iload_n (pc := 78) dX2_partOf_78 rfl ?_
      refine ew_iret (pc := 79) rfl dX2_partOf_79 ?_
      exact hq
    | succ m ih =>
      intro r x4 x5 hr
      have k1 : ∀ x5, ew_G g kX2_partOf 3 72 [.ref t, .int (nI e), .int (partW N (partR N (sh (nI e)) r) (nW N)), .int (nI r), .int (nI (nW N)), x5] [] (tw t σ h) Q := by
        intro x5
        refine ew_iinc (pc := 72) dX2_partOf_72 rfl (nI_inc r) (by decide) (p1_3 rfl) ?_
        refine ew_goto (pc := 75) (tgt := 6) dX2_partOf_75 (by decide) ?_
        exact ih (r + 1) _ _ (by omega)
      refine ew_iload_n (pc := 6) dX2_partOf_6 rfl ?_
      refine ew_bipush (pc := 7) (v := 10) dX2_partOf_7 rfl ?_
      refine ew_icmp_ge (pc := 9) (tgt := 78) dX2_partOf_9 (by decide) (fun c9 => absurd c9 (nI_ge (b := 10) (by omega) (by decide))) (fun c9 => ?_)
      refine ew_iconst (pc := 12) (v := 0) dX2_partOf_12 rfl ?_
      refine ew_istore (pc := 13) dX2_partOf_13 (by decide) (p1_4 rfl) ?_
      exact lW r _ k1 (nW N) 0 _ (by omega)
  refine ew_enter (by decide +kernel) (ew_a1 rfl (ew_a1 rfl (ew_an (ew_an (ew_an (ew_an ew_az)))))) (Nat.le_of_ble_eq_true rfl) ?_
  refine ew_iconst (pc := 0) (v := 1) dX2_partOf_0 rfl ?_
  refine ew_iload_n (pc := 1) dX2_partOf_1 rfl ?_
  refine ew_ishl (pc := 2) dX2_partOf_2 ?_
  refine ew_istore_n (pc := 3) dX2_partOf_3 rfl (by decide) (p1_2 rfl) ?_
  refine ew_iconst (pc := 4) (v := 0) dX2_partOf_4 rfl ?_
  refine ew_istore_n (pc := 5) dX2_partOf_5 rfl (by decide) (p1_3 rfl) ?_
  exact lR 10 0 _ _ (by omega)
theorem o_part {g : eg} {h : eh} {t : Nat} {σ : tS} {N : Nat → Int32} {a : Int32} {Q : Outcome → eh → Prop} (hJ : TJ σ N)
    (hq : ∀ σ' v, An SC σ (as1 (σ.1 21) (bI (isIx (nE N) a))) (partV N (ix a)) σ' v → Q (.returned (some (.int v))) (tw t σ' h)) : ew_T g kX2_part 4 [.ref t, .int a] (tw t σ h) Q := by
  refine ew_enter (by decide +kernel) (ew_a1 rfl (ew_a1 rfl ew_az)) (Nat.le_of_ble_eq_true rfl) ?_
  refine ew_aload_n (pc := 0) dX2_part_0 rfl ?_
  refine ew_aload_n (pc := 1) dX2_part_1 rfl ?_
  refine ew_iload_n (pc := 2) dX2_part_2 rfl ?_
  refine ew_cV1 (d' := 1) (pc := 3) vX2_288 (tw_ro _ _ _ _) dX2_part_3 (by decide) (ew_rm (Nat.le_of_ble_eq_true rfl)) ?_
  refine t_isEvent hJ.n hJ.z ?_
  refine ew_Kr ?_
  refine ew_cV1 (d' := 0) (pc := 6) vX2_291 (tw_ro _ _ _ _) dX2_part_6 (by decide) (ew_rm (Nat.le_of_ble_eq_true rfl)) ?_
  refine t_ask1 (fun σ1 F1 h0 => ?_)
  refine ew_Kr ?_
  refine ew_if_eq (pc := 9) (tgt := 20) dX2_part_9 (by decide) (fun c9 => ?_) (fun c9 => ?_)
  · refine ew_iconst (pc := 20) (v := 0) dX2_part_20 rfl ?_
    refine ew_iret (pc := 21) rfl dX2_part_21 ?_
    first
    | exact hq _ _ ⟨F1.w rfl, h0, fun h9 => absurd h9 (bI_0.mp c9)⟩
    | exact hq _ _ ⟨F1.w rfl, h0, fun _ => rfl⟩
  · have hp := as1_0.mp (bI_n.mp c9)
    have hi := bI_n.mp hp.2
    have hn := (hJ.ok hp.1).e2
    have ha := hi.to (by omega)
    rw [ha.2]
    refine ew_aload_n (pc := 12) dX2_part_12 rfl ?_
    refine ew_iload_n (pc := 13) dX2_part_13 rfl ?_
    refine ew_cV1 (d' := 3) (pc := 14) vX2_332 (tw_ro _ _ _ _) dX2_part_14 (by decide) (ew_rm (Nat.le_of_ble_eq_true rfl)) ?_
    refine t_partOf ((F1.a 16 rfl).trans hJ.n) (hJ.ok hp.1) ?_
    refine ew_Kr ?_
    refine ew_goto (pc := 17) (tgt := 21) dX2_part_17 (by decide) ?_
    refine ew_iret (pc := 21) rfl dX2_part_21 ?_
    first
    | exact hq _ _ ⟨F1.w rfl, h0, fun h9 => absurd h9 (bI_0.mp c9)⟩
    | exact hq _ _ ⟨F1.w rfl, h0, fun _ => rfl⟩
def partsV (N : Nat → Int32) : Nat → Int32
  | 0 => 0
  | e + 1 => partsV N e + (if partV N e &&& (sh (nI e) - 1) = 0 then 1 else 0)
theorem o_parts {g : eg} {h : eh} {t : Nat} {σ : tS} {N : Nat → Int32} {Q : Outcome → eh → Prop} (hJ : TJ σ N)
    (hq : ∀ σ' v, An SC σ (as1 (σ.1 21) 1) (partsV N (nE N)) σ' v → Q (.returned (some (.int v))) (tw t σ' h)) : ew_T g kX2_parts 4 [.ref t] (tw t σ h) Q := by
  have main : ∀ σ', okN N → σ'.2 16 = N → Q (.returned (some (.int (partsV N (nE N))))) (tw t σ' h) → ∀ m e, e + m = nE N → ew_G g kX2_parts 4 14 [.ref t, .int (partsV N e), .int (nI e)] [] (tw t σ' h) Q := by
    intro σ' ok hN hq9 m
    have hn := ok.e2
    induction m with
    | zero =>
      intro e he
      have e9 : e = nE N := by omega
      subst e9
      refine ew_iload_n (pc := 14) dX2_parts_14 rfl ?_
      refine ew_aload_n (pc := 15) dX2_parts_15 rfl ?_
      refine ew_cV0 (d' := 0) (pc := 16) vX2_230 (tw_ro _ _ _ _) dX2_parts_16 (by decide) (ew_rm (Nat.le_of_ble_eq_true rfl)) ?_
      refine t_eventsN hN ok ?_
      refine ew_Kr ?_
      refine ew_icmp_ge (pc := 19) (tgt := 50) dX2_parts_19 (by decide) (fun c19 => ?_) (fun c19 => absurd (nI_le (Nat.le_refl _) (by omega)) c19)
      refine ew_iload_n (pc := 50) dX2_parts_50 rfl ?_
      refine ew_iret (pc := 51) rfl dX2_parts_51 ?_
      exact hq9
    | succ m ih =>
      intro e he
      have ih1 := ih (e + 1) (by omega)
      rw [partsV] at ih1
      refine ew_iload_n (pc := 14) dX2_parts_14 rfl ?_
      refine ew_aload_n (pc := 15) dX2_parts_15 rfl ?_
      refine ew_cV0 (d' := 0) (pc := 16) vX2_230 (tw_ro _ _ _ _) dX2_parts_16 (by decide) (ew_rm (Nat.le_of_ble_eq_true rfl)) ?_
      refine t_eventsN hN ok ?_
      refine ew_Kr ?_
      refine ew_icmp_ge (pc := 19) (tgt := 50) dX2_parts_19 (by decide) (fun c19 => absurd c19 (nI_ge (by omega) (by omega))) (fun c19 => ?_)
      refine ew_iload_n (pc := 22) dX2_parts_22 rfl ?_
      refine ew_aload_n (pc := 23) dX2_parts_23 rfl ?_
      refine ew_iload_n (pc := 24) dX2_parts_24 rfl ?_
      refine ew_cV1 (d' := 3) (pc := 25) vX2_332 (tw_ro _ _ _ _) dX2_parts_25 (by decide) (ew_rm (Nat.le_of_ble_eq_true rfl)) ?_
      refine t_partOf hN ok ?_
      refine ew_Kr ?_
      refine ew_iconst (pc := 28) (v := 1) dX2_parts_28 rfl ?_
      refine ew_iload_n (pc := 29) dX2_parts_29 rfl ?_
      refine ew_ishl (pc := 30) dX2_parts_30 ?_
      refine ew_iconst (pc := 31) (v := 1) dX2_parts_31 rfl ?_
      refine ew_isub (pc := 32) dX2_parts_32 ?_
      refine ew_iand (pc := 33) dX2_parts_33 ?_
      refine ew_if_ne (pc := 34) (tgt := 41) dX2_parts_34 (by decide) (fun c34 => ?_) (fun c34 => ?_)
      · refine ew_iconst (pc := 41) (v := 0) dX2_parts_41 rfl ?_
        refine ew_iadd (pc := 42) dX2_parts_42 ?_
        refine ew_istore_n (pc := 43) dX2_parts_43 rfl (by decide) (p1_1 rfl) ?_
        refine ew_iinc (pc := 44) dX2_parts_44 rfl (nI_inc e) (by decide) (p1_2 rfl) ?_
        refine ew_goto (pc := 47) (tgt := 14) dX2_parts_47 (by decide) ?_
        first
        | rw [if_pos c34] at ih1
          exact ih1
        | rw [if_neg c34] at ih1
          exact ih1
      · refine ew_iconst (pc := 37) (v := 1) dX2_parts_37 rfl ?_
        refine ew_goto (pc := 38) (tgt := 42) dX2_parts_38 (by decide) ?_
        refine ew_iadd (pc := 42) dX2_parts_42 ?_
        refine ew_istore_n (pc := 43) dX2_parts_43 rfl (by decide) (p1_1 rfl) ?_
        refine ew_iinc (pc := 44) dX2_parts_44 rfl (nI_inc e) (by decide) (p1_2 rfl) ?_
        refine ew_goto (pc := 47) (tgt := 14) dX2_parts_47 (by decide) ?_
        first
        | rw [if_pos c34] at ih1
          exact ih1
        | rw [if_neg c34] at ih1
          exact ih1
  refine ew_enter (by decide +kernel) (ew_a1 rfl (ew_an (ew_an ew_az))) (Nat.le_of_ble_eq_true rfl) ?_
  refine ew_aload_n (pc := 0) dX2_parts_0 rfl ?_
  refine ew_iconst (pc := 1) (v := 1) dX2_parts_1 rfl ?_
  refine ew_cV1 (d' := 0) (pc := 2) vX2_291 (tw_ro _ _ _ _) dX2_parts_2 (by decide) (ew_rm (Nat.le_of_ble_eq_true rfl)) ?_
  refine t_ask1 (fun σ1 F1 h0 => ?_)
  refine ew_Kr ?_
  refine ew_if_ne (pc := 5) (tgt := 10) dX2_parts_5 (by decide) (fun c5 => ?_) (fun c5 => ?_)
  · refine ew_iconst (pc := 10) (v := 0) dX2_parts_10 rfl ?_
    refine ew_istore_n (pc := 11) dX2_parts_11 rfl (by decide) (p1_1 rfl) ?_
    refine ew_iconst (pc := 12) (v := 0) dX2_parts_12 rfl ?_
    refine ew_istore_n (pc := 13) dX2_parts_13 rfl (by decide) (p1_2 rfl) ?_
    have hp := as1_0.mp (bI_n.mp c5)
    exact main σ1 (hJ.ok hp.1) ((F1.a 16 rfl).trans hJ.n) (hq _ _ ⟨F1.w rfl, h0, fun _ => rfl⟩) (nE N) 0 (by omega)
  · refine ew_iconst (pc := 8) (v := 0) dX2_parts_8 rfl ?_
    refine ew_iret (pc := 9) rfl dX2_parts_9 ?_
    exact hq _ _ ⟨F1.w rfl, h0, fun h9 => absurd h9 (bI_0.mp c5)⟩
/-- events with a latest time; the sum of their slacks -/
def msN (F : Nat → Int32) : Nat → Int32
  | 0 => 0
  | e + 1 => if latV F e = -1 then msN F e else msN F e + 1
def msS (F : Nat → Int32) : Nat → Int32
  | 0 => 0
  | e + 1 => if latV F e = -1 then msS F e else msS F e + slackV F e
def msV (N : Nat → Int32) : UInt64 := FP.ddiv (FP.i2d (msS (sF N) (nE N))) (FP.i2d (msN (sF N) (nE N)))
def MX (N : Nat → Int32) : Prop := sB N = true → vf_n64 (msV N)
theorem o_meanSlack {g : eg} {h : eh} {t : Nat} {σ : tS} {N : Nat → Int32} {Q : Outcome → eh → Prop} (hJ : TJ σ N) (hM : okN N → MX N)
    (hq : ∀ σ' v, Fq SC σ σ' → σ'.1 0 = se1 (σ.1 21) (sB N) 1 → (se1 (σ.1 21) (sB N) 1 = 0 → v = msV N) → Q (.returned (some (.double v))) (tw t σ' h)) : ew_T g kX2_meanSlack 7 [.ref t] (tw t σ h) Q := by
  have main : ∀ σ', okN N → σ'.2 16 = N → Ag (σ'.2 29) (sF N) → vf_n64 (msV N) → Q (.returned (some (.double (msV N)))) (tw t σ' h) → ∀ m e, e + m = nE N → ew_G g kX2_meanSlack 7 16 [.ref t, .int (msN (sF N) e), .int (msS (sF N) e), .int (nI e)] [] (tw t σ' h) Q := by
    intro σ' ok hN hA hv hq9 m
    have hn := ok.e2
    induction m with
    | zero =>
      intro e he
      have e9 : e = nE N := by omega
      subst e9
      refine ew_iload_n (pc := 16) dX2_meanSlack_16 rfl ?_
      refine ew_aload_n (pc := 17) dX2_meanSlack_17 rfl ?_
      refine ew_cV0 (d' := 0) (pc := 18) vX2_230 (tw_ro _ _ _ _) dX2_meanSlack_18 (by decide) (ew_rm (Nat.le_of_ble_eq_true rfl)) ?_
      refine t_eventsN hN ok ?_
      refine ew_Kr ?_
      refine ew_icmp_ge (pc := 21) (tgt := 53) dX2_meanSlack_21 (by decide) (fun c21 => ?_) (fun c21 => absurd (nI_le (Nat.le_refl _) (by omega)) c21)
      refine ew_iload_n (pc := 53) dX2_meanSlack_53 rfl ?_
      refine ew_i2d (pc := 54) dX2_meanSlack_54 ?_
      refine ew_iload_n (pc := 55) dX2_meanSlack_55 rfl ?_
      refine ew_i2d (pc := 56) dX2_meanSlack_56 ?_
      refine ew_ddiv (pc := 57) dX2_meanSlack_57 hv ?_
      refine ew_dret (pc := 58) rfl dX2_meanSlack_58 ?_
      exact hq9
    | succ m ih =>
      intro e he
      have ih1 := ih (e + 1) (by omega)
      rw [msN, msS] at ih1
      refine ew_iload_n (pc := 16) dX2_meanSlack_16 rfl ?_
      refine ew_aload_n (pc := 17) dX2_meanSlack_17 rfl ?_
      refine ew_cV0 (d' := 0) (pc := 18) vX2_230 (tw_ro _ _ _ _) dX2_meanSlack_18 (by decide) (ew_rm (Nat.le_of_ble_eq_true rfl)) ?_
      refine t_eventsN hN ok ?_
      refine ew_Kr ?_
      refine ew_icmp_ge (pc := 21) (tgt := 53) dX2_meanSlack_21 (by decide) (fun c21 => absurd c21 (nI_ge (by omega) (by omega))) (fun c21 => ?_)
      refine ew_aload_n (pc := 24) dX2_meanSlack_24 rfl ?_
      refine ew_iload_n (pc := 25) dX2_meanSlack_25 rfl ?_
      refine ew_cV1 (d' := 1) (pc := 26) vX2_305 (tw_ro _ _ _ _) dX2_meanSlack_26 (by decide) (ew_rm (Nat.le_of_ble_eq_true rfl)) ?_
      refine t_latestOf hA (by omega) ?_
      refine ew_Kr ?_
      refine ew_iconst (pc := 29) (v := -1) dX2_meanSlack_29 rfl ?_
      refine ew_icmp_ne (pc := 30) (tgt := 36) dX2_meanSlack_30 (by decide) (fun c30 => ?_) (fun c30 => ?_)
      · refine ew_iinc (pc := 36) dX2_meanSlack_36 rfl rfl (by decide) (p1_1 rfl) ?_
        refine ew_iload_n (pc := 39) dX2_meanSlack_39 rfl ?_
        refine ew_aload_n (pc := 40) dX2_meanSlack_40 rfl ?_
        refine ew_iload_n (pc := 41) dX2_meanSlack_41 rfl ?_
        refine ew_cV1 (d' := 2) (pc := 42) vX2_323 (tw_ro _ _ _ _) dX2_meanSlack_42 (by decide) (ew_rm (Nat.le_of_ble_eq_true rfl)) ?_
        refine t_slackOf hA (by omega) ?_
        refine ew_Kr ?_
        refine ew_iadd (pc := 45) dX2_meanSlack_45 ?_
        refine ew_istore_n (pc := 46) dX2_meanSlack_46 rfl (by decide) (p1_2 rfl) ?_
        refine ew_iinc (pc := 47) dX2_meanSlack_47 rfl (nI_inc e) (by decide) (p1_3 rfl) ?_
        refine ew_goto (pc := 50) (tgt := 16) dX2_meanSlack_50 (by decide) ?_
        first
        | rw [if_pos c30, if_pos c30] at ih1
          exact ih1
        | rw [if_neg c30, if_neg c30] at ih1
          exact ih1
      · refine ew_goto (pc := 33) (tgt := 47) dX2_meanSlack_33 (by decide) ?_
        refine ew_iinc (pc := 47) dX2_meanSlack_47 rfl (nI_inc e) (by decide) (p1_3 rfl) ?_
        refine ew_goto (pc := 50) (tgt := 16) dX2_meanSlack_50 (by decide) ?_
        first
        | rw [if_pos c30, if_pos c30] at ih1
          exact ih1
        | rw [if_neg c30, if_neg c30] at ih1
          exact ih1
  refine ew_enter (by decide +kernel) (ew_a1 rfl (ew_an (ew_an (ew_an ew_az)))) (Nat.le_of_ble_eq_true rfl) ?_
  refine ew_aload_n (pc := 0) dX2_meanSlack_0 rfl ?_
  refine ew_iconst (pc := 1) (v := 1) dX2_meanSlack_1 rfl ?_
  refine ew_cV1 (d' := 6) (pc := 2) vX2_314 (tw_ro _ _ _ _) dX2_meanSlack_2 (by decide) (ew_rm (Nat.le_of_ble_eq_true rfl)) ?_
  refine t_maySee hJ (fun σ1 F1 h0 L1 => ?_)
  refine ew_Kr ?_
  refine ew_if_ne (pc := 5) (tgt := 10) dX2_meanSlack_5 (by decide) (fun c5 => ?_) (fun c5 => ?_)
  · refine ew_iconst (pc := 10) (v := 0) dX2_meanSlack_10 rfl ?_
    refine ew_istore_n (pc := 11) dX2_meanSlack_11 rfl (by decide) (p1_1 rfl) ?_
    refine ew_iconst (pc := 12) (v := 0) dX2_meanSlack_12 rfl ?_
    refine ew_istore_n (pc := 13) dX2_meanSlack_13 rfl (by decide) (p1_2 rfl) ?_
    refine ew_iconst (pc := 14) (v := 0) dX2_meanSlack_14 rfl ?_
    refine ew_istore_n (pc := 15) dX2_meanSlack_15 rfl (by decide) (p1_3 rfl) ?_
    have hp := se1_0.mp (bI_n.mp c5)
    exact main σ1 (hJ.ok hp.1) ((F1.a 16 rfl).trans hJ.n) (L1 hp.1).2.2 (hM (hJ.ok hp.1) hp.2.1) (hq _ _ (F1.w rfl) h0 (fun _ => rfl)) (nE N) 0 (by omega)
  · refine ew_dconst0 (pc := 8) dX2_meanSlack_8 ?_
    refine ew_dret (pc := 9) rfl dX2_meanSlack_9 ?_
    exact hq _ _ (F1.w rfl) h0 (fun h9 => absurd h9 (bI_0.mp c5))
/-- windows that are not dropped; windows that are needed -/
def thC (N : Nat → Int32) : Nat → Nat
  | 0 => 0
  | w + 1 => thC N w + (if N (2 + 6 * w + 5) = 1 then 0 else 1)
def ndC (N : Nat → Int32) : Nat → Nat
  | 0 => 0
  | w + 1 => ndC N w + (if ndI N w then 1 else 0)
theorem thC_le (N : Nat → Int32) : ∀ m, thC N m ≤ m
  | 0 => Nat.le_refl 0
  | m + 1 => by
    have := thC_le N m
    rw [thC]
    split <;> omega
theorem ndC_le (N : Nat → Int32) : ∀ m, ndC N m ≤ m
  | 0 => Nat.le_refl 0
  | m + 1 => by
    have := ndC_le N m
    rw [ndC]
    split <;> omega
theorem t_windowsThere {g : eg} {h : eh} {t : Nat} {σ : tS} {N : Nat → Int32} {Q : Outcome → eh → Prop} (hN : σ.2 16 = N) (ok : okN N) (hq : Q (.returned (some (.int (nI (thC N (nW N)))))) (tw t σ h)) : ew_T g kX2_windowsThere 3 [.ref t] (tw t σ h) Q := by
  have hw2 := ok.w2
  have main : ∀ m w, w + m = nW N → ew_G g kX2_windowsThere 3 4 [.ref t, .int (nI (thC N w)), .int (nI w)] [] (tw t σ h) Q := by
    intro m
    induction m with
    | zero =>
      intro w hw
      have e9 : w = nW N := by omega
      subst e9
      refine ew_iload_n (pc := 4) dX2_windowsThere_4 rfl ?_
      refine ew_aload_n (pc := 5) dX2_windowsThere_5 rfl ?_
      refine ew_cV0 (d' := 0) (pc := 6) vX2_220 (tw_ro _ _ _ _) dX2_windowsThere_6 (by decide) (ew_rm (Nat.le_of_ble_eq_true rfl)) ?_
      refine t_windowsN hN ok ?_
      refine ew_Kr ?_
      refine ew_icmp_ge (pc := 9) (tgt := 34) dX2_windowsThere_9 (by decide) (fun c9 => ?_) (fun c9 => absurd (nI_le (Nat.le_refl _) (by omega)) c9)
      refine ew_iload_n (pc := 34) dX2_windowsThere_34 rfl ?_
      refine ew_iret (pc := 35) rfl dX2_windowsThere_35 ?_
      exact hq
    | succ m ih =>
      intro w hw
      have ih1 := ih (w + 1) (by omega)
      rw [thC] at ih1
      refine ew_iload_n (pc := 4) dX2_windowsThere_4 rfl ?_
      refine ew_aload_n (pc := 5) dX2_windowsThere_5 rfl ?_
      refine ew_cV0 (d' := 0) (pc := 6) vX2_220 (tw_ro _ _ _ _) dX2_windowsThere_6 (by decide) (ew_rm (Nat.le_of_ble_eq_true rfl)) ?_
      refine t_windowsN hN ok ?_
      refine ew_Kr ?_
      refine ew_icmp_ge (pc := 9) (tgt := 34) dX2_windowsThere_9 (by decide) (fun c9 => absurd c9 (nI_ge (by omega) (by omega))) (fun c9 => ?_)
      refine ew_iload_n (pc := 12) dX2_windowsThere_12 rfl ?_
      refine ew_aload_n (pc := 13) dX2_windowsThere_13 rfl ?_
      refine ew_iload_n (pc := 14) dX2_windowsThere_14 rfl ?_
      refine ew_cV1 (d' := 2) (pc := 15) vX2_223 (tw_ro _ _ _ _) dX2_windowsThere_15 (by decide) (ew_rm (Nat.le_of_ble_eq_true rfl)) ?_
      refine t_isDroppedN hN (by omega) ?_
      refine ew_Kr ?_
      refine ew_if_eq (pc := 18) (tgt := 25) dX2_windowsThere_18 (by decide) (fun c18 => ?_) (fun c18 => ?_)
      · refine ew_iconst (pc := 25) (v := 1) dX2_windowsThere_25 rfl ?_
        refine ew_iadd (pc := 26) dX2_windowsThere_26 ?_
        refine ew_istore_n (pc := 27) dX2_windowsThere_27 rfl (by decide) (p1_1 rfl) ?_
        refine ew_iinc (pc := 28) dX2_windowsThere_28 rfl (nI_inc w) (by decide) (p1_2 rfl) ?_
        refine ew_goto (pc := 31) (tgt := 4) dX2_windowsThere_31 (by decide) ?_
        first
        | rw [if_pos (bI_n.mp c18), ← nI_add] at ih1
          exact ih1
        | rw [if_neg (bI_0.mp c18), ← nI_add] at ih1
          exact ih1
      · refine ew_iconst (pc := 21) (v := 0) dX2_windowsThere_21 rfl ?_
        refine ew_goto (pc := 22) (tgt := 26) dX2_windowsThere_22 (by decide) ?_
        refine ew_iadd (pc := 26) dX2_windowsThere_26 ?_
        refine ew_istore_n (pc := 27) dX2_windowsThere_27 rfl (by decide) (p1_1 rfl) ?_
        refine ew_iinc (pc := 28) dX2_windowsThere_28 rfl (nI_inc w) (by decide) (p1_2 rfl) ?_
        refine ew_goto (pc := 31) (tgt := 4) dX2_windowsThere_31 (by decide) ?_
        first
        | rw [if_pos (bI_n.mp c18), ← nI_add] at ih1
          exact ih1
        | rw [if_neg (bI_0.mp c18), ← nI_add] at ih1
          exact ih1
  refine ew_enter (by decide +kernel) (ew_a1 rfl (ew_an (ew_an ew_az))) (Nat.le_of_ble_eq_true rfl) ?_
  refine ew_iconst (pc := 0) (v := 0) dX2_windowsThere_0 rfl ?_
  refine ew_istore_n (pc := 1) dX2_windowsThere_1 rfl (by decide) (p1_1 rfl) ?_
  refine ew_iconst (pc := 2) (v := 0) dX2_windowsThere_2 rfl ?_
  refine ew_istore_n (pc := 3) dX2_windowsThere_3 rfl (by decide) (p1_2 rfl) ?_
  exact main (nW N) 0 (by omega)
def shV (N : Nat → Int32) : UInt32 := if thC N (nW N) = 0 then FP.fconst0 else FP.fdiv (FP.i2f (nI (ndC N (nW N)))) (FP.i2f (nI (thC N (nW N))))
theorem fdiv_ok : ∀ a : Fin 25, ∀ b : Fin 25, b.val = 0 ∨ FP.fdiv (FP.i2f (nI a.val)) (FP.i2f (nI b.val)) &&& 0x7fffffff ≤ 0x7f800000 := by decide +kernel
theorem fdiv_n {a b : Nat} (ha : a ≤ 24) (hb : b ≤ 24) (h0 : b ≠ 0) : vf_n32 (FP.fdiv (FP.i2f (nI a)) (FP.i2f (nI b))) := (fdiv_ok ⟨a, by omega⟩ ⟨b, by omega⟩).resolve_left h0
theorem o_neededShare {g : eg} {h : eh} {t : Nat} {σ : tS} {N : Nat → Int32} {Q : Outcome → eh → Prop} (hJ : TJ σ N)
    (hq : ∀ σ' v, Fq SC σ σ' → σ'.1 0 = se1 (σ.1 21) (sB N) 1 → (se1 (σ.1 21) (sB N) 1 = 0 → v = shV N) → Q (.returned (some (.float v))) (tw t σ' h)) : ew_T g kX2_neededShare 7 [.ref t] (tw t σ h) Q := by
  have main : okN N → ∀ σ1, Fq SC σ σ1 → σ1.1 0 = se1 (σ.1 21) (sB N) 1 → ∀ m w σ', w + m = nW N → Fq [23, 24, 25, 26, 28, 29, 30] σ1 σ' → σ'.2 16 = N → TN N (σ'.2 27) → Ag (σ'.2 29) (sF N) → ew_G g kX2_neededShare 7 19 [.ref t, .int (nI (thC N (nW N))), .int (nI (ndC N w)), .int (nI w)] [] (tw t σ' h) Q := by
    intro ok σ1 F1 h0 m
    have hw2 := ok.w2
    induction m with
    | zero =>
      intro w σ' hw hF hN hT hA
      have e9 : w = nW N := by omega
      subst e9
      have h1 := thC_le N (nW N)
      have h2 := ndC_le N (nW N)
      have h8 := hq σ' (shV N) (F1.u hF rfl) ((hF.s 0 rfl).trans h0) (fun _ => rfl)
      rw [shV] at h8
      refine ew_iload_n (pc := 19) dX2_neededShare_19 rfl ?_
      refine ew_aload_n (pc := 20) dX2_neededShare_20 rfl ?_
      refine ew_cV0 (d' := 0) (pc := 21) vX2_220 (tw_ro _ _ _ _) dX2_neededShare_21 (by decide) (ew_rm (Nat.le_of_ble_eq_true rfl)) ?_
      refine t_windowsN hN ok ?_
      refine ew_Kr ?_
      refine ew_icmp_ge (pc := 24) (tgt := 49) dX2_neededShare_24 (by decide) (fun c24 => ?_) (fun c24 => absurd (nI_le (Nat.le_refl _) (by omega)) c24)
      refine ew_iload_n (pc := 49) dX2_neededShare_49 rfl ?_
      refine ew_if_ne (pc := 50) (tgt := 57) dX2_neededShare_50 (by decide) (fun c50 => ?_) (fun c50 => ?_)
      · refine ew_iload_n (pc := 57) dX2_neededShare_57 rfl ?_
        refine ew_i2f (pc := 58) dX2_neededShare_58 ?_
        refine ew_iload_n (pc := 59) dX2_neededShare_59 rfl ?_
        refine ew_i2f (pc := 60) dX2_neededShare_60 ?_
        refine ew_fdiv (pc := 61) dX2_neededShare_61 (fdiv_n (by omega) (by omega) (fun h9 => c50 ((nI_z (by omega)).mpr h9))) ?_
        refine ew_fret (pc := 62) rfl dX2_neededShare_62 ?_
        first
        | rw [if_pos ((nI_z (by omega)).mp c50)] at h8
          exact h8
        | rw [if_neg (fun h9 => c50 ((nI_z (by omega)).mpr h9))] at h8
          exact h8
      · refine ew_fconst0 (pc := 53) dX2_neededShare_53 ?_
        refine ew_goto (pc := 54) (tgt := 62) dX2_neededShare_54 (by decide) ?_
        refine ew_fret (pc := 62) rfl dX2_neededShare_62 ?_
        first
        | rw [if_pos ((nI_z (by omega)).mp c50)] at h8
          exact h8
        | rw [if_neg (fun h9 => c50 ((nI_z (by omega)).mpr h9))] at h8
          exact h8
    | succ m ih =>
      intro w σ' hw hF hN hT hA
      have ih1 := ih (w + 1)
      rw [ndC] at ih1
      refine ew_iload_n (pc := 19) dX2_neededShare_19 rfl ?_
      refine ew_aload_n (pc := 20) dX2_neededShare_20 rfl ?_
      refine ew_cV0 (d' := 0) (pc := 21) vX2_220 (tw_ro _ _ _ _) dX2_neededShare_21 (by decide) (ew_rm (Nat.le_of_ble_eq_true rfl)) ?_
      refine t_windowsN hN ok ?_
      refine ew_Kr ?_
      refine ew_icmp_ge (pc := 24) (tgt := 49) dX2_neededShare_24 (by decide) (fun c24 => absurd c24 (nI_ge (by omega) (by omega))) (fun c24 => ?_)
      refine ew_iload_n (pc := 27) dX2_neededShare_27 rfl ?_
      refine ew_aload_n (pc := 28) dX2_neededShare_28 rfl ?_
      refine ew_iload_n (pc := 29) dX2_neededShare_29 rfl ?_
      refine ew_cV1 (d' := 5) (pc := 30) vX2_329 (tw_ro _ _ _ _) dX2_neededShare_30 (by decide) (ew_rm (Nat.le_of_ble_eq_true rfl)) ?_
      refine t_isNeededNow hN ok hT hA (by omega) (fun σ2 F2 A2 => ?_)
      refine ew_Kr ?_
      refine ew_if_eq (pc := 33) (tgt := 40) dX2_neededShare_33 (by decide) (fun c33 => ?_) (fun c33 => ?_)
      · refine ew_iconst (pc := 40) (v := 0) dX2_neededShare_40 rfl ?_
        refine ew_iadd (pc := 41) dX2_neededShare_41 ?_
        refine ew_istore_n (pc := 42) dX2_neededShare_42 rfl (by decide) (p1_2 rfl) ?_
        refine ew_iinc (pc := 43) dX2_neededShare_43 rfl (nI_inc w) (by decide) (p1_3 rfl) ?_
        refine ew_goto (pc := 46) (tgt := 19) dX2_neededShare_46 (by decide) ?_
        have ih2 := ih1 σ2 (by omega) (hF.u F2 rfl) ((F2.a 16 rfl).trans hN) (by rw [F2.a 27 rfl]; exact hT) A2
        first
        | rw [if_pos (bI_n.mp c33), ← nI_add] at ih2
          exact ih2
        | rw [if_neg (bI_0.mp c33), ← nI_add] at ih2
          exact ih2
      · refine ew_iconst (pc := 36) (v := 1) dX2_neededShare_36 rfl ?_
        refine ew_goto (pc := 37) (tgt := 41) dX2_neededShare_37 (by decide) ?_
        refine ew_iadd (pc := 41) dX2_neededShare_41 ?_
        refine ew_istore_n (pc := 42) dX2_neededShare_42 rfl (by decide) (p1_2 rfl) ?_
        refine ew_iinc (pc := 43) dX2_neededShare_43 rfl (nI_inc w) (by decide) (p1_3 rfl) ?_
        refine ew_goto (pc := 46) (tgt := 19) dX2_neededShare_46 (by decide) ?_
        have ih2 := ih1 σ2 (by omega) (hF.u F2 rfl) ((F2.a 16 rfl).trans hN) (by rw [F2.a 27 rfl]; exact hT) A2
        first
        | rw [if_pos (bI_n.mp c33), ← nI_add] at ih2
          exact ih2
        | rw [if_neg (bI_0.mp c33), ← nI_add] at ih2
          exact ih2
  refine ew_enter (by decide +kernel) (ew_a1 rfl (ew_an (ew_an (ew_an ew_az)))) (Nat.le_of_ble_eq_true rfl) ?_
  refine ew_aload_n (pc := 0) dX2_neededShare_0 rfl ?_
  refine ew_iconst (pc := 1) (v := 1) dX2_neededShare_1 rfl ?_
  refine ew_cV1 (d' := 6) (pc := 2) vX2_314 (tw_ro _ _ _ _) dX2_neededShare_2 (by decide) (ew_rm (Nat.le_of_ble_eq_true rfl)) ?_
  refine t_maySee hJ (fun σ1 F1 h0 L1 => ?_)
  refine ew_Kr ?_
  refine ew_if_ne (pc := 5) (tgt := 10) dX2_neededShare_5 (by decide) (fun c5 => ?_) (fun c5 => ?_)
  · have hp := se1_0.mp (bI_n.mp c5)
    have hN1 := (F1.a 16 rfl).trans hJ.n
    refine ew_aload_n (pc := 10) dX2_neededShare_10 rfl ?_
    refine ew_cV0 (d' := 3) (pc := 11) vX2_338 (tw_ro _ _ _ _) dX2_neededShare_11 (by decide) (ew_rm (Nat.le_of_ble_eq_true rfl)) ?_
    refine t_windowsThere hN1 (hJ.ok hp.1) ?_
    refine ew_Kr ?_
    refine ew_istore_n (pc := 14) dX2_neededShare_14 rfl (by decide) (p1_1 rfl) ?_
    refine ew_iconst (pc := 15) (v := 0) dX2_neededShare_15 rfl ?_
    refine ew_istore_n (pc := 16) dX2_neededShare_16 rfl (by decide) (p1_2 rfl) ?_
    refine ew_iconst (pc := 17) (v := 0) dX2_neededShare_17 rfl ?_
    refine ew_istore_n (pc := 18) dX2_neededShare_18 rfl (by decide) (p1_3 rfl) ?_
    exact main (hJ.ok hp.1) σ1 (F1.w rfl) h0 (nW N) 0 σ1 (by omega) (Fq.r _ _) hN1 (L1 hp.1).1 (L1 hp.1).2.2
  · refine ew_fconst0 (pc := 8) dX2_neededShare_8 ?_
    refine ew_fret (pc := 9) rfl dX2_neededShare_9 ?_
    exact hq _ _ (F1.w rfl) h0 (fun h9 => absurd h9 (bI_0.mp c5))
