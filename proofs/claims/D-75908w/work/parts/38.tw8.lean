/-! EW: the reference: rounds, bounds, ways are asked -/
set_option maxRecDepth 100000
def rdX (N : Nat → Int32) (m : Nat) : Option Nat := rB (fun a => xI 268435456 (eN N 0 (-1)) m a a) (nE N)
def rdF (N : Nat → Int32) : Nat → Nat → Option (Nat × Nat)
  | 0, _ => none
  | r + 1, m => match rdX N m with
    | some a => some (m, a)
    | none => rdF N r (m + 1)
/-- the round that is told: its steps, their sum -/
def rdA (N : Nat → Int32) : Option (Nat × Nat) := if sB N = true then none else rdF N 10 1
def rdLo (N : Nat → Int32) : Option (Nat × Nat) → List ed
  | none => []
  | some (m, a) => rowL 268435456 (eN N 0 (-1)) a m a
def rdSo (N : Nat → Int32) : Option (Nat × Nat) → Int32
  | none => 0
  | some (m, a) => xI 268435456 (eN N 0 (-1)) m a a
def rdL (N : Nat → Int32) : List ed := rdLo N (rdA N)
def rdS (N : Nat → Int32) : Int32 := rdSo N (rdA N)
/-- a net that is not sound has a round of at most ten steps below 0 -/
def RX (N : Nat → Int32) : Prop := sB N = false → rdF N 10 1 ≠ none
theorem t_round {g : eg} {h : eh} {t : Nat} {σ : tS} {N : Nat → Int32} {Q : Outcome → eh → Prop} (hN : σ.2 16 = N) (ok : okN N) (hR : RX N)
    (hq : ∀ σ', Fq [23, 24, 25, 26, 27, 28, 29, 31, 32, 33, 34, 35] σ σ' → Row σ' (rdL N).length (rdS N) (rdL N) → (sB N = false → Sts σ' (eN N 0 (-1))) → (∀ m a, rdA N = some (m, a) → σ'.1 35 = nI a) → Q (.returned none) (tw t σ' h)) : ew_T g kX2_round 6 [.ref t] (tw t σ h) Q := by
  have hn2 := ok.e2
  have hE := eAll_ok (wout := 0) (code := -1) (T := fun e => N (146 + e)) ok
  have hl := eAll_len (wout := 0) (code := -1) (T := fun e => N (146 + e)) ok
  have main : ∀ r m σ', m + r = 11 → 1 ≤ m → Fq [23, 24, 25, 26, 27, 28, 29, 31, 33, 34] σ σ' → Sts σ' (eN N 0 (-1)) → Ex (nE N) (eN N 0 (-1)) (σ'.2 31) → rdF N r m = rdF N 10 1 → sB N = false → ew_G g kX2_round 6 24 [.ref t, .int (nI m)] [] (tw t σ' h) Q := by
    intro r
    induction r with
    | zero =>
      intro m σ' hm hm1 hF hS hX hf hs
      exact absurd (hf.symm) (hR hs)
    | succ r ih =>
      intro m σ' hm hm1 hF hS hX hf hs
      have hN1 : σ'.2 16 = N := (hF.a 16 rfl).trans hN
      have ho := oI_m1 (o := rdX N m) (rB_lt _ (nE N)) (by omega)
      cases hr : rdX N m with
      | none =>
        rw [rdF, hr] at hf
        rw [hr] at ho
        refine ew_aload_n (pc := 24) dX2_round_24 rfl ?_
        refine ew_iload_n (pc := 25) dX2_round_25 rfl ?_
        refine ew_cV1 (d' := 1) (pc := 26) vX2_279 (tw_ro _ _ _ _) dX2_round_26 (by decide) (ew_rm (Nat.le_of_ble_eq_true rfl)) ?_
        refine t_roundOf hN1 ok hX (by omega) ?_
        refine ew_Kr ?_
        refine ew_iconst (pc := 29) (v := -1) dX2_round_29 rfl ?_
        rw [show rB (fun a => xI 268435456 (eN N 0 (-1)) m a a) (nE N) = none from hr]
        refine ew_icmp_ne (pc := 30) (tgt := 39) dX2_round_30 (by decide) (fun c30 => absurd rfl c30) (fun c30 => ?_)
        refine ew_iinc (pc := 33) dX2_round_33 rfl (nI_inc m) (by decide) (p1_1 rfl) ?_
        refine ew_goto (pc := 36) (tgt := 24) dX2_round_36 (by decide) ?_
        exact ih (m + 1) σ' (by omega) (by omega) hF hS hX hf hs
      | some a =>
        have ha := rB_lt _ _ _ hr
        have hng := rB_neg _ _ _ hr
        rw [hr] at ho
        rw [rdF, hr] at hf
        have hA : rdA N = some (m, a) := by rw [rdA, if_neg (by rw [hs]; decide), ← hf]
        have hx : xI 268435456 (eN N 0 (-1)) m a a ≠ 268435456 := fun h9 => absurd (show xI 268435456 (eN N 0 (-1)) m a a < 0 from hng) (by rw [h9]; decide)
        refine ew_aload_n (pc := 24) dX2_round_24 rfl ?_
        refine ew_iload_n (pc := 25) dX2_round_25 rfl ?_
        refine ew_cV1 (d' := 1) (pc := 26) vX2_279 (tw_ro _ _ _ _) dX2_round_26 (by decide) (ew_rm (Nat.le_of_ble_eq_true rfl)) ?_
        refine t_roundOf hN1 ok hX (by omega) ?_
        rw [show rB (fun a => xI 268435456 (eN N 0 (-1)) m a a) (nE N) = some a from hr, oI]
        refine ew_Kr ?_
        refine ew_iconst (pc := 29) (v := -1) dX2_round_29 rfl ?_
        refine ew_icmp_ne (pc := 30) (tgt := 39) dX2_round_30 (by decide) (fun c30 => ?_) (fun c30 => absurd c30 (nI_m1 (n := a) (by omega)))
        refine ew_aload_n (pc := 39) dX2_round_39 rfl ?_
        refine ew_aload_n (pc := 40) dX2_round_40 rfl ?_
        refine ew_iload_n (pc := 41) dX2_round_41 rfl ?_
        refine ew_cV1 (d' := 1) (pc := 42) vX2_279 (tw_ro _ _ _ _) dX2_round_42 (by decide) (ew_rm (Nat.le_of_ble_eq_true rfl)) ?_
        refine t_roundOf hN1 ok hX (by omega) ?_
        rw [show rB (fun a => xI 268435456 (eN N 0 (-1)) m a a) (nE N) = some a from hr, oI]
        refine ew_Kr ?_
        refine tg_p35 (pc := 45) rfl dX2_round_45 ?_
        refine ew_aload_n (pc := 48) dX2_round_48 rfl ?_
        refine ew_iload_n (pc := 49) dX2_round_49 rfl ?_
        refine ew_aload_n (pc := 50) dX2_round_50 rfl ?_
        refine tg_g35 (pc := 51) rfl dX2_round_51 ?_
        refine ew_aload_n (pc := 54) dX2_round_54 rfl ?_
        refine tg_g35 (pc := 55) rfl dX2_round_55 ?_
        refine ew_cV3 (d' := 1) (pc := 58) vX2_273 (tw_ro _ _ _ _) dX2_round_58 (by decide) (ew_rm (Nat.le_of_ble_eq_true rfl)) ?_
        refine t_rowOf (E := eN N 0 (-1)) hn2 (hS.fq (Fq.I (S := [35]) _ 35 _ rfl) rfl) hE hl hX (by omega) ha ha (Or.inr hx) (fun σ2 F2 R2 => ?_)
        refine ew_Kv ?_
        refine ew_vret (pc := 61) rfl dX2_round_61 ?_
        refine hq σ2 (((hF.w rfl).xI 35 _ rfl).u F2 rfl) ?_ (fun _ => (hS.fq (Fq.I (S := [35]) _ 35 _ rfl) rfl).fq F2 rfl) ?_
        · rw [rdL, rdS, hA, rdLo, rdSo, rowL_len m a (Or.inr hx)]
          exact R2
        · intro m' a' h9
          rw [hA] at h9
          injection h9 with h9
          injection h9 with h8 h9
          subst h9
          exact F2.s 35 rfl
  refine ew_enter (by decide +kernel) (ew_a1 rfl (ew_an ew_az)) (Nat.le_of_ble_eq_true rfl) ?_
  refine ew_aload_n (pc := 0) dX2_round_0 rfl ?_
  refine ew_iconst (pc := 1) (v := 0) dX2_round_1 rfl ?_
  refine tg_p33 (pc := 2) rfl dX2_round_2 ?_
  refine ew_aload_n (pc := 5) dX2_round_5 rfl ?_
  refine ew_iconst (pc := 6) (v := 0) dX2_round_6 rfl ?_
  refine tg_p34 (pc := 7) rfl dX2_round_7 ?_
  refine ew_aload_n (pc := 10) dX2_round_10 rfl ?_
  refine ew_cV0 (d' := 5) (pc := 11) vX2_276 (tw_ro _ _ _ _) dX2_round_11 (by decide) (ew_rm (Nat.le_of_ble_eq_true rfl)) ?_
  refine t_sB (show (tI (tI σ 33 0) 34 0).2 16 = N from hN) ok (fun σ1 F1 L1 => ?_)
  refine ew_Kr ?_
  refine ew_if_eq (pc := 14) (tgt := 18) dX2_round_14 (by decide) (fun c14 => ?_) (fun c14 => ?_)
  · refine ew_aload_n (pc := 18) dX2_round_18 rfl ?_
    refine ew_cV0 (d' := 1) (pc := 19) vX2_270 (tw_ro _ _ _ _) dX2_round_19 (by decide) (ew_rm (Nat.le_of_ble_eq_true rfl)) ?_
    refine t_exactly ((F1.a 16 rfl).trans hN) ok L1.2.1 hE hl (fun σ2 F2 X2 => ?_)
    refine ew_Kv ?_
    refine ew_iconst (pc := 22) (v := 1) dX2_round_22 rfl ?_
    refine ew_istore_n (pc := 23) dX2_round_23 rfl (by decide) (p1_1 rfl) ?_
    exact main 10 1 σ2 (by omega) (by omega) (((((Fq.r _ σ).xI 33 _ rfl).xI 34 _ rfl).u F1 rfl).u F2 rfl) (L1.2.1.fq F2 rfl) X2 rfl (Bool.eq_false_iff.mpr (bI_0.mp c14))
  · refine ew_vret (pc := 17) rfl dX2_round_17 ?_
    have hs : sB N = true := bI_n.mp c14
    have hA : rdA N = none := by rw [rdA, if_pos hs]
    refine hq σ1 ((((Fq.r _ σ).xI 33 _ rfl).xI 34 _ rfl).u F1 rfl) ?_ (fun h9 => absurd hs (by rw [h9]; decide)) ?_
    · rw [rdL, rdS, hA, rdLo, rdSo]
      exact ⟨(F1.s 33 rfl), (F1.s 34 rfl), fun i e h9 => nomatch h9⟩
    · intro m a h9
      rw [hA] at h9
      cases h9
/-- an answer: what was thrown, and if nothing was, the value -/
def An (S : List Nat) (σ : tS) (th val : Int32) (σ' : tS) (v : Int32) : Prop := Fq S σ σ' ∧ σ'.1 0 = th ∧ (th = 0 → v = val)
def ix (e : Int32) : Nat := e.toNatClampNeg
theorem ix_nI {j : Nat} (h : j < 2 ^ 31) : ix (nI j) = j := nI_clamp h
theorem isIx.to {n : Nat} {e : Int32} (h : isIx n e) (hn : n ≤ 24) : ix e < n ∧ e = nI (ix e) := by
  obtain ⟨j, hj, rfl⟩ := (isIx_iff (by omega)).mp h
  rw [ix_nI (by omega)]
  exact ⟨hj, rfl⟩
theorem o_roundLength {g : eg} {h : eh} {t : Nat} {σ : tS} {N : Nat → Int32} {Q : Outcome → eh → Prop} (hJ : TJ σ N) (hR : okN N → RX N)
    (hq : ∀ σ' v, An SC σ (as1 (σ.1 21) 1) (nI (rdL N).length) σ' v → Q (.returned (some (.int v))) (tw t σ' h)) : ew_T g kX2_roundLength 7 [.ref t] (tw t σ h) Q := by
  refine ew_enter (by decide +kernel) (ew_a1 rfl ew_az) (Nat.le_of_ble_eq_true rfl) ?_
  refine ew_aload_n (pc := 0) dX2_roundLength_0 rfl ?_
  refine ew_iconst (pc := 1) (v := 1) dX2_roundLength_1 rfl ?_
  refine ew_cV1 (d' := 0) (pc := 2) vX2_291 (tw_ro _ _ _ _) dX2_roundLength_2 (by decide) (ew_rm (Nat.le_of_ble_eq_true rfl)) ?_
  refine t_mayAsk ?_
  refine ew_Kr ?_
  refine ew_if_ne (pc := 5) (tgt := 10) dX2_roundLength_5 (by decide) (fun c5 => ?_) (fun c5 => ?_)
  · refine ew_aload_n (pc := 10) dX2_roundLength_10 rfl ?_
    refine ew_cV0 (d' := 6) (pc := 11) vX2_302 (tw_ro _ _ _ _) dX2_roundLength_11 (by decide) (ew_rm (Nat.le_of_ble_eq_true rfl)) ?_
    refine t_round (N := N) hJ.n (hJ.ok (as1_0.mp (bI_n.mp c5)).1) (hR (hJ.ok (as1_0.mp (bI_n.mp c5)).1)) (fun σ1 F1 R1 _ _ => ?_)
    refine ew_Kv ?_
    refine ew_aload_n (pc := 14) dX2_roundLength_14 rfl ?_
    refine tg_g33 (pc := 15) rfl dX2_roundLength_15 ?_
    refine ew_iret (pc := 18) rfl dX2_roundLength_18 ?_
    exact hq _ _ ⟨(Fq.I σ 0 _ rfl).u F1 rfl, F1.s 0 rfl, fun _ => R1.1⟩
  · refine ew_iconst (pc := 8) (v := 0) dX2_roundLength_8 rfl ?_
    refine ew_iret (pc := 9) rfl dX2_roundLength_9 ?_
    exact hq _ _ ⟨Fq.I σ 0 _ rfl, rfl, fun h9 => absurd h9 (bI_0.mp c5)⟩
theorem o_roundLack {g : eg} {h : eh} {t : Nat} {σ : tS} {N : Nat → Int32} {Q : Outcome → eh → Prop} (hJ : TJ σ N) (hR : okN N → RX N)
    (hq : ∀ σ' v, An SC σ (as1 (σ.1 21) 1) (-(rdS N)) σ' v → Q (.returned (some (.int v))) (tw t σ' h)) : ew_T g kX2_roundLack 7 [.ref t] (tw t σ h) Q := by
  refine ew_enter (by decide +kernel) (ew_a1 rfl ew_az) (Nat.le_of_ble_eq_true rfl) ?_
  refine ew_aload_n (pc := 0) dX2_roundLack_0 rfl ?_
  refine ew_iconst (pc := 1) (v := 1) dX2_roundLack_1 rfl ?_
  refine ew_cV1 (d' := 0) (pc := 2) vX2_291 (tw_ro _ _ _ _) dX2_roundLack_2 (by decide) (ew_rm (Nat.le_of_ble_eq_true rfl)) ?_
  refine t_mayAsk ?_
  refine ew_Kr ?_
  refine ew_if_ne (pc := 5) (tgt := 10) dX2_roundLack_5 (by decide) (fun c5 => ?_) (fun c5 => ?_)
  · refine ew_aload_n (pc := 10) dX2_roundLack_10 rfl ?_
    refine ew_cV0 (d' := 6) (pc := 11) vX2_302 (tw_ro _ _ _ _) dX2_roundLack_11 (by decide) (ew_rm (Nat.le_of_ble_eq_true rfl)) ?_
    refine t_round (N := N) hJ.n (hJ.ok (as1_0.mp (bI_n.mp c5)).1) (hR (hJ.ok (as1_0.mp (bI_n.mp c5)).1)) (fun σ1 F1 R1 _ _ => ?_)
    refine ew_Kv ?_
    refine ew_aload_n (pc := 14) dX2_roundLack_14 rfl ?_
    refine tg_g34 (pc := 15) rfl dX2_roundLack_15 ?_
    refine ew_ineg (pc := 18) dX2_roundLack_18 ?_
    refine ew_iret (pc := 19) rfl dX2_roundLack_19 ?_
    exact hq _ _ ⟨(Fq.I σ 0 _ rfl).u F1 rfl, F1.s 0 rfl, fun _ => congrArg _ R1.2.1⟩
  · refine ew_iconst (pc := 8) (v := 0) dX2_roundLack_8 rfl ?_
    refine ew_iret (pc := 9) rfl dX2_roundLack_9 ?_
    exact hq _ _ ⟨Fq.I σ 0 _ rfl, rfl, fun h9 => absurd h9 (bI_0.mp c5)⟩
theorem t_areEvents {g : eg} {h : eh} {t : Nat} {σ : tS} {N : Nat → Int32} {a b : Int32} {Q : Outcome → eh → Prop} (hN : σ.2 16 = N) (oz : ok0 N) (hq : Q (.returned (some (.int (bI (isIx (nE N) a ∧ isIx (nE N) b))))) (tw t σ h)) : ew_T g kX2_areEvents 2 [.ref t, .int a, .int b] (tw t σ h) Q := by
  refine ew_enter (by decide +kernel) (ew_a1 rfl (ew_a1 rfl (ew_a1 rfl ew_az))) (Nat.le_of_ble_eq_true rfl) ?_
  refine ew_aload_n (pc := 0) dX2_areEvents_0 rfl ?_
  refine ew_iload_n (pc := 1) dX2_areEvents_1 rfl ?_
  refine ew_cV1 (d' := 1) (pc := 2) vX2_288 (tw_ro _ _ _ _) dX2_areEvents_2 (by decide) (ew_rm (Nat.le_of_ble_eq_true rfl)) ?_
  refine t_isEvent hN oz ?_
  refine ew_Kr ?_
  refine ew_if_eq (pc := 5) (tgt := 20) dX2_areEvents_5 (by decide) (fun c5 => ?_) (fun c5 => ?_)
  · refine ew_iconst (pc := 20) (v := 0) dX2_areEvents_20 rfl ?_
    refine ew_zret (pc := 21) (ty := .boolean) rfl rfl dX2_areEvents_21 ?_
    first
    | rw [bI_t ⟨bI_n.mp c5, bI_n.mp c13⟩] at hq
      exact hq
    | rw [bI_f (fun h9 => absurd h9.2 (bI_0.mp c13))] at hq
      exact hq
    | rw [bI_f (fun h9 => absurd h9.1 (bI_0.mp c5))] at hq
      exact hq
  · refine ew_aload_n (pc := 8) dX2_areEvents_8 rfl ?_
    refine ew_iload_n (pc := 9) dX2_areEvents_9 rfl ?_
    refine ew_cV1 (d' := 1) (pc := 10) vX2_288 (tw_ro _ _ _ _) dX2_areEvents_10 (by decide) (ew_rm (Nat.le_of_ble_eq_true rfl)) ?_
    refine t_isEvent hN oz ?_
    refine ew_Kr ?_
    refine ew_if_eq (pc := 13) (tgt := 20) dX2_areEvents_13 (by decide) (fun c13 => ?_) (fun c13 => ?_)
    · refine ew_iconst (pc := 20) (v := 0) dX2_areEvents_20 rfl ?_
      refine ew_zret (pc := 21) (ty := .boolean) rfl rfl dX2_areEvents_21 ?_
      first
      | rw [bI_t ⟨bI_n.mp c5, bI_n.mp c13⟩] at hq
        exact hq
      | rw [bI_f (fun h9 => absurd h9.2 (bI_0.mp c13))] at hq
        exact hq
      | rw [bI_f (fun h9 => absurd h9.1 (bI_0.mp c5))] at hq
        exact hq
    · refine ew_iconst (pc := 16) (v := 1) dX2_areEvents_16 rfl ?_
      refine ew_goto (pc := 17) (tgt := 21) dX2_areEvents_17 (by decide) ?_
      refine ew_zret (pc := 21) (ty := .boolean) rfl rfl dX2_areEvents_21 ?_
      first
      | rw [bI_t ⟨bI_n.mp c5, bI_n.mp c13⟩] at hq
        exact hq
      | rw [bI_f (fun h9 => absurd h9.2 (bI_0.mp c13))] at hq
        exact hq
      | rw [bI_f (fun h9 => absurd h9.1 (bI_0.mp c5))] at hq
        exact hq
def mostV (F : Nat → Int32) (a b : Nat) : Int32 := if F (10 * a + b) < 268435456 then F (10 * a + b) else 10000
def leastV (F : Nat → Int32) (a b : Nat) : Int32 := if F (10 * b + a) < 268435456 then -F (10 * b + a) else -10000
def earlV (F : Nat → Int32) (e : Nat) : Int32 := -F (10 * e + 0)
def latV (F : Nat → Int32) (e : Nat) : Int32 := if F (10 * 0 + e) < 268435456 then F (10 * 0 + e) else -1
def slackV (F : Nat → Int32) (e : Nat) : Int32 := if latV F e = -1 then -1 else latV F e - earlV F e
theorem t_boundF {g : eg} {h : eh} {t a b : Nat} {σ : tS} {F : Nat → Int32} {Q : Outcome → eh → Prop} (hA : Ag (σ.2 29) F) (ha : a < 10) (hb : b < 10) (hq : Q (.returned (some (.int (F (10 * a + b))))) (tw t σ h)) : ew_T g kX2_boundOf 0 [.ref t, .int (nI a), .int (nI b)] (tw t σ h) Q := by
  rw [← hA (10 * a + b) (by omega)] at hq
  exact t_boundOf rfl ha hb hq
theorem t_mostOf {g : eg} {h : eh} {t a b : Nat} {σ : tS} {F : Nat → Int32} {Q : Outcome → eh → Prop} (hA : Ag (σ.2 29) F) (ha : a < 10) (hb : b < 10) (hq : Q (.returned (some (.int (mostV F a b)))) (tw t σ h)) : ew_T g kX2_mostOf 1 [.ref t, .int (nI a), .int (nI b)] (tw t σ h) Q := by
  rw [mostV] at hq
  refine ew_enter (by decide +kernel) (ew_a1 rfl (ew_a1 rfl (ew_a1 rfl ew_az))) (Nat.le_of_ble_eq_true rfl) ?_
  refine ew_aload_n (pc := 0) dX2_mostOf_0 rfl ?_
  refine ew_iload_n (pc := 1) dX2_mostOf_1 rfl ?_
  refine ew_iload_n (pc := 2) dX2_mostOf_2 rfl ?_
  refine ew_cV2 (d' := 0) (pc := 3) vX2_233 (tw_ro _ _ _ _) dX2_mostOf_3 (by decide) (ew_rm (Nat.le_of_ble_eq_true rfl)) ?_
  refine t_boundF hA ha hb ?_
  refine ew_Kr ?_
  refine ew_ldc (pc := 6) (v := 268435456) (ew_q q2936) dX2_mostOf_6 ?_
  refine ew_icmp_lt (pc := 8) (tgt := 17) dX2_mostOf_8 (by decide) (fun c8 => ?_) (fun c8 => ?_)
  · refine ew_aload_n (pc := 17) dX2_mostOf_17 rfl ?_
    refine ew_iload_n (pc := 18) dX2_mostOf_18 rfl ?_
    refine ew_iload_n (pc := 19) dX2_mostOf_19 rfl ?_
    refine ew_cV2 (d' := 0) (pc := 20) vX2_233 (tw_ro _ _ _ _) dX2_mostOf_20 (by decide) (ew_rm (Nat.le_of_ble_eq_true rfl)) ?_
    refine t_boundF hA ha hb ?_
    refine ew_Kr ?_
    refine ew_iret (pc := 23) rfl dX2_mostOf_23 ?_
    first
    | rw [if_pos c8] at hq
      exact hq
    | rw [if_neg c8] at hq
      exact hq
  · refine ew_sipush (pc := 11) (v := 10000) dX2_mostOf_11 rfl ?_
    refine ew_goto (pc := 14) (tgt := 23) dX2_mostOf_14 (by decide) ?_
    refine ew_iret (pc := 23) rfl dX2_mostOf_23 ?_
    first
    | rw [if_pos c8] at hq
      exact hq
    | rw [if_neg c8] at hq
      exact hq
theorem t_leastOf {g : eg} {h : eh} {t a b : Nat} {σ : tS} {F : Nat → Int32} {Q : Outcome → eh → Prop} (hA : Ag (σ.2 29) F) (ha : a < 10) (hb : b < 10) (hq : Q (.returned (some (.int (leastV F a b)))) (tw t σ h)) : ew_T g kX2_leastOf 1 [.ref t, .int (nI a), .int (nI b)] (tw t σ h) Q := by
  rw [leastV] at hq
  refine ew_enter (by decide +kernel) (ew_a1 rfl (ew_a1 rfl (ew_a1 rfl ew_az))) (Nat.le_of_ble_eq_true rfl) ?_
  refine ew_aload_n (pc := 0) dX2_leastOf_0 rfl ?_
  refine ew_iload_n (pc := 1) dX2_leastOf_1 rfl ?_
  refine ew_iload_n (pc := 2) dX2_leastOf_2 rfl ?_
  refine ew_cV2 (d' := 0) (pc := 3) vX2_233 (tw_ro _ _ _ _) dX2_leastOf_3 (by decide) (ew_rm (Nat.le_of_ble_eq_true rfl)) ?_
  refine t_boundF hA hb ha ?_
  refine ew_Kr ?_
  refine ew_ldc (pc := 6) (v := 268435456) (ew_q q2936) dX2_leastOf_6 ?_
  refine ew_icmp_lt (pc := 8) (tgt := 17) dX2_leastOf_8 (by decide) (fun c8 => ?_) (fun c8 => ?_)
  · refine ew_aload_n (pc := 17) dX2_leastOf_17 rfl ?_
    refine ew_iload_n (pc := 18) dX2_leastOf_18 rfl ?_
    refine ew_iload_n (pc := 19) dX2_leastOf_19 rfl ?_
    refine ew_cV2 (d' := 0) (pc := 20) vX2_233 (tw_ro _ _ _ _) dX2_leastOf_20 (by decide) (ew_rm (Nat.le_of_ble_eq_true rfl)) ?_
    refine t_boundF hA hb ha ?_
    refine ew_Kr ?_
    refine ew_ineg (pc := 23) dX2_leastOf_23 ?_
    refine ew_iret (pc := 24) rfl dX2_leastOf_24 ?_
    first
    | rw [if_pos c8] at hq
      exact hq
    | rw [if_neg c8] at hq
      exact hq
  · refine ew_sipush (pc := 11) (v := -10000) dX2_leastOf_11 rfl ?_
    refine ew_goto (pc := 14) (tgt := 24) dX2_leastOf_14 (by decide) ?_
    refine ew_iret (pc := 24) rfl dX2_leastOf_24 ?_
    first
    | rw [if_pos c8] at hq
      exact hq
    | rw [if_neg c8] at hq
      exact hq
theorem t_earliestOf {g : eg} {h : eh} {t e : Nat} {σ : tS} {F : Nat → Int32} {Q : Outcome → eh → Prop} (hA : Ag (σ.2 29) F) (he : e < 10) (hq : Q (.returned (some (.int (earlV F e)))) (tw t σ h)) : ew_T g kX2_earliestOf 1 [.ref t, .int (nI e)] (tw t σ h) Q := by
  refine ew_enter (by decide +kernel) (ew_a1 rfl (ew_a1 rfl ew_az)) (Nat.le_of_ble_eq_true rfl) ?_
  refine ew_aload_n (pc := 0) dX2_earliestOf_0 rfl ?_
  refine ew_iload_n (pc := 1) dX2_earliestOf_1 rfl ?_
  refine ew_iconst (pc := 2) (v := 0) dX2_earliestOf_2 rfl ?_
  refine ew_cV2 (d' := 0) (pc := 3) vX2_233 (tw_ro _ _ _ _) dX2_earliestOf_3 (by decide) (ew_rm (Nat.le_of_ble_eq_true rfl)) ?_
  refine t_boundF (b := 0) hA he (by decide) ?_
  refine ew_Kr ?_
  refine ew_ineg (pc := 6) dX2_earliestOf_6 ?_
  refine ew_iret (pc := 7) rfl dX2_earliestOf_7 ?_
  exact hq
theorem t_latestOf {g : eg} {h : eh} {t e : Nat} {σ : tS} {F : Nat → Int32} {Q : Outcome → eh → Prop} (hA : Ag (σ.2 29) F) (he : e < 10) (hq : Q (.returned (some (.int (latV F e)))) (tw t σ h)) : ew_T g kX2_latestOf 1 [.ref t, .int (nI e)] (tw t σ h) Q := by
  rw [latV] at hq
  refine ew_enter (by decide +kernel) (ew_a1 rfl (ew_a1 rfl ew_az)) (Nat.le_of_ble_eq_true rfl) ?_
  refine ew_aload_n (pc := 0) dX2_latestOf_0 rfl ?_
  refine ew_iconst (pc := 1) (v := 0) dX2_latestOf_1 rfl ?_
  refine ew_iload_n (pc := 2) dX2_latestOf_2 rfl ?_
  refine ew_cV2 (d' := 0) (pc := 3) vX2_233 (tw_ro _ _ _ _) dX2_latestOf_3 (by decide) (ew_rm (Nat.le_of_ble_eq_true rfl)) ?_
  refine t_boundF (a := 0) hA (by decide) he ?_
  refine ew_Kr ?_
  refine ew_ldc (pc := 6) (v := 268435456) (ew_q q2936) dX2_latestOf_6 ?_
  refine ew_icmp_lt (pc := 8) (tgt := 15) dX2_latestOf_8 (by decide) (fun c8 => ?_) (fun c8 => ?_)
  · refine ew_aload_n (pc := 15) dX2_latestOf_15 rfl ?_
    refine ew_iconst (pc := 16) (v := 0) dX2_latestOf_16 rfl ?_
    refine ew_iload_n (pc := 17) dX2_latestOf_17 rfl ?_
    refine ew_cV2 (d' := 0) (pc := 18) vX2_233 (tw_ro _ _ _ _) dX2_latestOf_18 (by decide) (ew_rm (Nat.le_of_ble_eq_true rfl)) ?_
    refine t_boundF (a := 0) hA (by decide) he ?_
    refine ew_Kr ?_
    refine ew_iret (pc := 21) rfl dX2_latestOf_21 ?_
    first
    | rw [if_pos c8] at hq
      exact hq
    | rw [if_neg c8] at hq
      exact hq
  · refine ew_iconst (pc := 11) (v := -1) dX2_latestOf_11 rfl ?_
    refine ew_goto (pc := 12) (tgt := 21) dX2_latestOf_12 (by decide) ?_
    refine ew_iret (pc := 21) rfl dX2_latestOf_21 ?_
    first
    | rw [if_pos c8] at hq
      exact hq
    | rw [if_neg c8] at hq
      exact hq
theorem t_slackOf {g : eg} {h : eh} {t e : Nat} {σ : tS} {F : Nat → Int32} {Q : Outcome → eh → Prop} (hA : Ag (σ.2 29) F) (he : e < 10) (hq : Q (.returned (some (.int (slackV F e)))) (tw t σ h)) : ew_T g kX2_slackOf 2 [.ref t, .int (nI e)] (tw t σ h) Q := by
  rw [slackV] at hq
  refine ew_enter (by decide +kernel) (ew_a1 rfl (ew_a1 rfl ew_az)) (Nat.le_of_ble_eq_true rfl) ?_
  refine ew_aload_n (pc := 0) dX2_slackOf_0 rfl ?_
  refine ew_iload_n (pc := 1) dX2_slackOf_1 rfl ?_
  refine ew_cV1 (d' := 1) (pc := 2) vX2_305 (tw_ro _ _ _ _) dX2_slackOf_2 (by decide) (ew_rm (Nat.le_of_ble_eq_true rfl)) ?_
  refine t_latestOf hA he ?_
  refine ew_Kr ?_
  refine ew_iconst (pc := 5) (v := -1) dX2_slackOf_5 rfl ?_
  refine ew_icmp_ne (pc := 6) (tgt := 13) dX2_slackOf_6 (by decide) (fun c6 => ?_) (fun c6 => ?_)
  · refine ew_aload_n (pc := 13) dX2_slackOf_13 rfl ?_
    refine ew_iload_n (pc := 14) dX2_slackOf_14 rfl ?_
    refine ew_cV1 (d' := 1) (pc := 15) vX2_305 (tw_ro _ _ _ _) dX2_slackOf_15 (by decide) (ew_rm (Nat.le_of_ble_eq_true rfl)) ?_
    refine t_latestOf hA he ?_
    refine ew_Kr ?_
    refine ew_aload_n (pc := 18) dX2_slackOf_18 rfl ?_
    refine ew_iload_n (pc := 19) dX2_slackOf_19 rfl ?_
    refine ew_cV1 (d' := 1) (pc := 20) vX2_308 (tw_ro _ _ _ _) dX2_slackOf_20 (by decide) (ew_rm (Nat.le_of_ble_eq_true rfl)) ?_
    refine t_earliestOf hA he ?_
    refine ew_Kr ?_
    refine ew_isub (pc := 23) dX2_slackOf_23 ?_
    refine ew_iret (pc := 24) rfl dX2_slackOf_24 ?_
    first
    | rw [if_pos c6] at hq
      exact hq
    | rw [if_neg c6] at hq
      exact hq
  · refine ew_iconst (pc := 9) (v := -1) dX2_slackOf_9 rfl ?_
    refine ew_goto (pc := 10) (tgt := 24) dX2_slackOf_10 (by decide) ?_
    refine ew_iret (pc := 24) rfl dX2_slackOf_24 ?_
    first
    | rw [if_pos c6] at hq
      exact hq
    | rw [if_neg c6] at hq
      exact hq
