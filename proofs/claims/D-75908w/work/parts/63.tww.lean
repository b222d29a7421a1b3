/-! EW: the reference: events by name -/
set_option maxRecDepth 100000
theorem t_isNamed {g : eg} {h : eh} {t n e : Nat} {σ : tS} {b nm : Nat → Int32} {x : tok} {Q : Outcome → eh → Prop} (hT : Tx σ b n) (hM : σ.2 10 = nm) (he : e < 10) (h6 : σ.1 6 = nI x.2.1) (h7 : σ.1 7 = nI x.2.2.1) (hO : tkO b n x)
    (hq : Q (.returned (some (.int (bI (nmT nm e = tkL b x))))) (tw t σ h)) : ew_T g kX2_isNamed 1 [.ref t, .int (nI e)] (tw t σ h) Q := by
  have hn7 := hT.2.2
  have hdef : nmT nm e = tkL b x ↔ ltV nm e = x.2.2.1 - x.2.1 ∧ ∀ i, i < ltV nm e → nm (8 * e + i) = b (x.2.1 + i) := by
    rw [nmT, tkL, rmap_eq]
  rw [bI_c hdef] at hq
  have hlt := ltV_le nm e
  have h11 := hO.1
  have h12 := hO.2.1
  have main : ltV nm e = x.2.2.1 - x.2.1 → ∀ q k, k + q = x.2.2.1 → x.2.1 ≤ k → (∀ i, i < k - x.2.1 → nm (8 * e + i) = b (x.2.1 + i)) → ew_G g kX2_isNamed 1 24 [.ref t, .int (nI e), .int (nI k)] [] (tw t σ h) Q := by
    intro hm q
    induction q with
    | zero =>
      intro k hk hk2 hi
      refine ew_iload_n (pc := 24) dX2_isNamed_24 rfl ?_
      refine ew_aload_n (pc := 25) dX2_isNamed_25 rfl ?_
      refine tg_g7 (pc := 26) rfl dX2_isNamed_26 ?_
      rw [h7]
      refine ew_icmp_ge (pc := 29) (tgt := 65) dX2_isNamed_29 (by decide) (fun c29 => ?_) (fun c29 => absurd (nI_le (by omega) (by omega)) c29)
      refine ew_iconst (pc := 65) (v := 1) dX2_isNamed_65 rfl ?_
      refine ew_zret (pc := 66) (ty := .boolean) rfl rfl dX2_isNamed_66 ?_
      rw [bI_t ⟨hm, fun i h13 => hi i (by omega)⟩] at hq
      exact hq
    | succ q ih =>
      intro k hk hk2 hi
      have hix : (8 : Int32) * nI e + nI k - σ.1 6 = nI (8 * e + k - x.2.1) := by
        rw [h6, nm_nI, nI_sub (by omega)]
      have e1 : 8 * e + k - x.2.1 = 8 * e + (k - x.2.1) := by omega
      have e2 : x.2.1 + (k - x.2.1) = k := by omega
      refine ew_iload_n (pc := 24) dX2_isNamed_24 rfl ?_
      refine ew_aload_n (pc := 25) dX2_isNamed_25 rfl ?_
      refine tg_g7 (pc := 26) rfl dX2_isNamed_26 ?_
      rw [h7]
      refine ew_icmp_ge (pc := 29) (tgt := 65) dX2_isNamed_29 (by decide) (fun c29 => absurd c29 (nI_ge (by omega) (by omega))) (fun c29 => ?_)
      refine ew_aload_n (pc := 32) dX2_isNamed_32 rfl ?_
      refine tg_g10 (pc := 33) rfl dX2_isNamed_33 ?_
      refine ew_bipush (pc := 36) (v := 8) dX2_isNamed_36 rfl ?_
      refine ew_iload_n (pc := 38) dX2_isNamed_38 rfl ?_
      refine ew_imul (pc := 39) dX2_isNamed_39 ?_
      refine ew_iload_n (pc := 40) dX2_isNamed_40 rfl ?_
      refine ew_iadd (pc := 41) dX2_isNamed_41 ?_
      refine ew_aload_n (pc := 42) dX2_isNamed_42 rfl ?_
      refine tg_g6 (pc := 43) rfl dX2_isNamed_43 ?_
      refine ew_isub (pc := 46) dX2_isNamed_46 ?_
      refine tg_l10 (pc := 47) (j := 8 * e + k - x.2.1) hix (by omega) dX2_isNamed_47 ?_
      rw [hM]
      refine ew_aload_n (pc := 48) dX2_isNamed_48 rfl ?_
      refine tg_g1 (pc := 49) rfl dX2_isNamed_49 ?_
      refine ew_iload_n (pc := 52) dX2_isNamed_52 rfl ?_
      refine tg_l1 (pc := 53) (j := k) rfl (by omega) dX2_isNamed_53 ?_
      rw [hT.1]
      refine ew_icmp_eq (pc := 54) (tgt := 59) dX2_isNamed_54 (by decide) (fun c54 => ?_) (fun c54 => ?_)
      · refine ew_iinc (pc := 59) dX2_isNamed_59 rfl (nI_inc k) (by decide) (p1_2 rfl) ?_
        refine ew_goto (pc := 62) (tgt := 24) dX2_isNamed_62 (by decide) ?_
        refine ih (k + 1) (by omega) (by omega) (fun i h13 => ?_)
        by_cases e9 : i = k - x.2.1
        · rw [e9, e2, ← e1]; exact c54
        · exact hi i (by omega)
      · refine ew_iconst (pc := 57) (v := 0) dX2_isNamed_57 rfl ?_
        refine ew_zret (pc := 58) (ty := .boolean) rfl rfl dX2_isNamed_58 ?_
        rw [bI_f (fun h13 => c54 (by have h14 := h13.2 (k - x.2.1) (by omega); rw [e2] at h14; rw [e1]; exact h14))] at hq
        exact hq
  refine ew_enter (by decide +kernel) (ew_a1 rfl (ew_a1 rfl (ew_an ew_az))) (Nat.le_of_ble_eq_true rfl) ?_
  refine ew_aload_n (pc := 0) dX2_isNamed_0 rfl ?_
  refine ew_iload_n (pc := 1) dX2_isNamed_1 rfl ?_
  refine ew_cV1 (d' := 0) (pc := 2) vX2_125 (tw_ro _ _ _ _) dX2_isNamed_2 (by decide) (ew_rm (Nat.le_of_ble_eq_true rfl)) ?_
  refine t_lettersOf hM (by omega) ?_
  refine ew_Kr ?_
  refine ew_aload_n (pc := 5) dX2_isNamed_5 rfl ?_
  refine tg_g7 (pc := 6) rfl dX2_isNamed_6 ?_
  refine ew_aload_n (pc := 9) dX2_isNamed_9 rfl ?_
  refine tg_g6 (pc := 10) rfl dX2_isNamed_10 ?_
  refine ew_isub (pc := 13) dX2_isNamed_13 ?_
  rw [show σ.1 7 - σ.1 6 = nI (x.2.2.1 - x.2.1) by rw [h7, h6, nI_sub h11]]
  refine ew_icmp_eq (pc := 14) (tgt := 19) dX2_isNamed_14 (by decide) (fun c14 => ?_) (fun c14 => ?_)
  · have hm : ltV nm e = x.2.2.1 - x.2.1 := (nI_eq (by omega) (by omega)).mp c14
    refine ew_aload_n (pc := 19) dX2_isNamed_19 rfl ?_
    refine tg_g6 (pc := 20) rfl dX2_isNamed_20 ?_
    rw [h6]
    refine ew_istore_n (pc := 23) dX2_isNamed_23 rfl (by decide) (p1_2 rfl) ?_
    exact main hm (x.2.2.1 - x.2.1) x.2.1 (by omega) (Nat.le_refl _) (fun i h13 => absurd h13 (by omega))
  · refine ew_iconst (pc := 17) (v := 0) dX2_isNamed_17 rfl ?_
    refine ew_zret (pc := 18) (ty := .boolean) rfl rfl dX2_isNamed_18 ?_
    rw [bI_f (fun h13 => c14 (by rw [h13.1]))] at hq
    exact hq
theorem t_eventHere {g : eg} {h : eh} {t n m : Nat} {σ : tS} {b nm : Nat → Int32} {x : tok} {Q : Outcome → eh → Prop} (hT : Tx σ b n) (hM : σ.2 10 = nm) (hm : m ≤ 10) (h0 : σ.2 16 0 = nI m) (h6 : σ.1 6 = nI x.2.1) (h7 : σ.1 7 = nI x.2.2.1) (hO : tkO b n x)
    (hq : Q (.returned (some (.int (evA b nm m x)))) (tw t σ h)) : ew_T g kX2_eventHere 2 [.ref t] (tw t σ h) Q := by
  have main : ∀ q k, k + q = m → evF nm (tkL b x) q k = evA b nm m x → ew_G g kX2_eventHere 2 2 [.ref t, .int (nI k)] [] (tw t σ h) Q := by
    intro q
    induction q with
    | zero =>
      intro k hk hi
      refine ew_iload_n (pc := 2) dX2_eventHere_2 rfl ?_
      refine ew_aload_n (pc := 3) dX2_eventHere_3 rfl ?_
      refine tg_g16 (pc := 4) rfl dX2_eventHere_4 ?_
      refine ew_iconst (pc := 7) (v := 0) dX2_eventHere_7 rfl ?_
      refine tg_l16 (pc := 8) (j := 0) rfl (by decide) dX2_eventHere_8 ?_
      rw [h0]
      refine ew_icmp_ge (pc := 9) (tgt := 28) dX2_eventHere_9 (by decide) (fun c9 => ?_) (fun c9 => absurd (nI_le (by omega) (by omega)) c9)
      refine ew_iconst (pc := 28) (v := -1) dX2_eventHere_28 rfl ?_
      refine ew_iret (pc := 29) rfl dX2_eventHere_29 ?_
      rw [← hi, evF] at hq
      exact hq
    | succ q ih =>
      intro k hk hi
      rw [evF] at hi
      refine ew_iload_n (pc := 2) dX2_eventHere_2 rfl ?_
      refine ew_aload_n (pc := 3) dX2_eventHere_3 rfl ?_
      refine tg_g16 (pc := 4) rfl dX2_eventHere_4 ?_
      refine ew_iconst (pc := 7) (v := 0) dX2_eventHere_7 rfl ?_
      refine tg_l16 (pc := 8) (j := 0) rfl (by decide) dX2_eventHere_8 ?_
      rw [h0]
      refine ew_icmp_ge (pc := 9) (tgt := 28) dX2_eventHere_9 (by decide) (fun c9 => absurd c9 (nI_ge (by omega) (by omega))) (fun c9 => ?_)
      refine ew_aload_n (pc := 12) dX2_eventHere_12 rfl ?_
      refine ew_iload_n (pc := 13) dX2_eventHere_13 rfl ?_
      refine ew_cV1 (d' := 1) (pc := 14) vX2_128 (tw_ro _ _ _ _) dX2_eventHere_14 (by decide) (ew_rm (Nat.le_of_ble_eq_true rfl)) ?_
      refine t_isNamed hT hM (by omega) h6 h7 hO ?_
      refine ew_Kr ?_
      refine ew_if_eq (pc := 17) (tgt := 22) dX2_eventHere_17 (by decide) (fun c17 => ?_) (fun c17 => ?_)
      · refine ew_iinc (pc := 22) dX2_eventHere_22 rfl (nI_inc k) (by decide) (p1_1 rfl) ?_
        refine ew_goto (pc := 25) (tgt := 2) dX2_eventHere_25 (by decide) ?_
        rw [if_neg (bI_0.mp c17)] at hi
        exact ih (k + 1) (by omega) hi
      · refine ew_iload_n (pc := 20) dX2_eventHere_20 rfl ?_
        refine ew_iret (pc := 21) rfl dX2_eventHere_21 ?_
        rw [if_pos (bI_n.mp c17)] at hi
        rw [← hi] at hq
        exact hq
  refine ew_enter (by decide +kernel) (ew_a1 rfl (ew_an ew_az)) (Nat.le_of_ble_eq_true rfl) ?_
  refine ew_iconst (pc := 0) (v := 0) dX2_eventHere_0 rfl ?_
  refine ew_istore_n (pc := 1) dX2_eventHere_1 rfl (by decide) (p1_1 rfl) ?_
  exact main m 0 (by omega) rfl
theorem t_ev {g : eg} {h : eh} {t n m : Nat} {σ : tS} {b nm : Nat → Int32} {oth : Int32} {r : rs} {Q : Outcome → eh → Prop} (hT : Tx σ b n) (hP : Ps σ b n r) (hJ : aL r = true → σ.2 10 = nm ∧ m ≤ 10 ∧ σ.2 16 0 = nI m)
    (hq : ∀ σ', Fq [3, 4, 6, 7, 8, 9] σ σ' → Ps σ' b n (evR b n nm m oth r) → Q (.returned (some (.int (evV b nm m r)))) (tw t σ' h)) : ew_T g kX2_event 3 [.ref t, .int oth] (tw t σ h) Q := by
  have s61 : ∀ r2 σ1, evK b nm m oth r = r2 → Fq [3, 4] σ σ1 → Ps σ1 b n r2 → ew_G g kX2_event 3 61 [.ref t, .int oth, .int (evV b nm m r)] [] (tw t σ1 h) Q := by
    intro r2 σ1 hr hF hP1
    refine ew_aload_n (pc := 61) dX2_event_61 rfl ?_
    refine ew_cV0 (d' := 1) (pc := 62) vX2_122 (tw_ro _ _ _ _) dX2_event_62 (by decide) (ew_rm (Nat.le_of_ble_eq_true rfl)) ?_
    refine t_nxt (hT.fq hF rfl rfl) hP1 (fun σ2 F2 P2 => ?_)
    refine ew_Kv ?_
    refine ew_iload_n (pc := 65) dX2_event_65 rfl ?_
    refine ew_iret (pc := 66) rfl dX2_event_66 ?_
    exact hq σ2 ((hF.w rfl).u F2 rfl) (by rw [evR, hr]; exact P2)
  have s20 : ∀ r1 σ1 x3, wo1 r = r1 → Fq [3, 4] σ σ1 → Ps σ1 b n r1 → ew_G g kX2_event 3 20 [.ref t, .int oth, x3] [] (tw t σ1 h) Q := by
    intro r1 σ1 x3 hr hF hP1
    cases r1 with
    | inl e =>
      have hP2 := hP1
      obtain ⟨h3, h0, h4⟩ := hP1
      have s62 := s61 (.inl e) σ1 (by rw [evK, hr]; rfl) hF hP2
      rw [evV, hr, evW] at s62
      refine ew_aload_n (pc := 20) dX2_event_20 rfl ?_
      refine tg_g3 (pc := 21) rfl dX2_event_21 ?_
      rw [h3]
      refine ew_if_ne (pc := 24) (tgt := 34) dX2_event_24 (by decide) (fun c24 => ?_) (fun c24 => absurd c24 (i_ne0 h0))
      refine ew_iconst (pc := 34) (v := 0) dX2_event_34 rfl ?_
      refine ew_istore_n (pc := 35) dX2_event_35 rfl (by decide) (p1_2 rfl) ?_
      refine ew_aload_n (pc := 36) dX2_event_36 rfl ?_
      refine tg_g3 (pc := 37) rfl dX2_event_37 ?_
      rw [h3]
      refine ew_if_ne (pc := 40) (tgt := 61) dX2_event_40 (by decide) (fun c40 => ?_) (fun c40 => absurd c40 (i_ne0 h0))
      exact s62
    | inr x =>
      have hP2 := hP1
      obtain ⟨h3, ⟨h8, h6, h7, h9⟩, hO, hA4⟩ := hP1
      have hx := ckR_r hr
      have hj := hJ (by rw [hx.1]; rfl)
      have s62 := fun r2 σ1 (hk : ckR 3 (fun x => ¬ (evA b nm m x = -1 ∨ hasB oth (evA b nm m x))) (.inr x) = r2) => s61 r2 σ1 (by rw [evK, hr]; exact hk)
      rw [evV, hr, evW] at s62
      refine ew_aload_n (pc := 20) dX2_event_20 rfl ?_
      refine tg_g3 (pc := 21) rfl dX2_event_21 ?_
      rw [h3]
      refine ew_if_ne (pc := 24) (tgt := 34) dX2_event_24 (by decide) (fun c24 => absurd rfl c24) (fun c24 => ?_)
      refine ew_aload_n (pc := 27) dX2_event_27 rfl ?_
      refine ew_cV0 (d' := 2) (pc := 28) vX2_132 (tw_ro _ _ _ _) dX2_event_28 (by decide) (ew_rm (Nat.le_of_ble_eq_true rfl)) ?_
      refine t_eventHere (hT.fq hF rfl rfl) ((hF.a 10 rfl).trans hj.1) hj.2.1 ((congrFun (hF.a 16 rfl) 0).trans hj.2.2) h6 h7 hO ?_
      refine ew_Kr ?_
      refine ew_goto (pc := 31) (tgt := 35) dX2_event_31 (by decide) ?_
      refine ew_istore_n (pc := 35) dX2_event_35 rfl (by decide) (p1_2 rfl) ?_
      refine ew_aload_n (pc := 36) dX2_event_36 rfl ?_
      refine tg_g3 (pc := 37) rfl dX2_event_37 ?_
      rw [h3]
      refine ew_if_ne (pc := 40) (tgt := 61) dX2_event_40 (by decide) (fun c40 => absurd rfl c40) (fun c40 => ?_)
      refine ew_iload_n (pc := 43) dX2_event_43 rfl ?_
      refine ew_iconst (pc := 44) (v := -1) dX2_event_44 rfl ?_
      refine ew_icmp_eq (pc := 45) (tgt := 56) dX2_event_45 (by decide) (fun c45 => ?_) (fun c45 => ?_)
      · refine ew_aload_n (pc := 56) dX2_event_56 rfl ?_
        refine ew_iconst (pc := 57) (v := 3) dX2_event_57 rfl ?_
        refine ew_cV1 (d' := 0) (pc := 58) vX2_119 (tw_ro _ _ _ _) dX2_event_58 (by decide) (ew_rm (Nat.le_of_ble_eq_true rfl)) ?_
        refine t_flt (by decide) hP2 (fun σ2 F2 P2 => ?_)
        refine ew_Kv ?_
        first
        | exact s62 (.inl (3, x.2.1)) σ2 (ckR_n (fun h9 => h9 (Or.inl c45))) (hF.t1 F2) P2
        | exact s62 (.inl (3, x.2.1)) σ2 (ckR_n (fun h9 => h9 (Or.inr (bI_n.mp c53)))) (hF.t1 F2) P2
        | exact s62 (.inr x) σ1 (ckR_y (fun h9 => h9.elim c45 (bI_0.mp c53))) hF hP2
      · refine ew_iload_n (pc := 48) dX2_event_48 rfl ?_
        refine ew_iload_n (pc := 49) dX2_event_49 rfl ?_
        refine ew_cS2 (d' := 0) (pc := 50) sX2_135 dX2_event_50 (by decide) (ew_rm (Nat.le_of_ble_eq_true rfl)) ?_
        refine t_hasT ?_
        refine ew_Kr ?_
        refine ew_if_eq (pc := 53) (tgt := 61) dX2_event_53 (by decide) (fun c53 => ?_) (fun c53 => ?_)
        · first
          | exact s62 (.inl (3, x.2.1)) σ2 (ckR_n (fun h9 => h9 (Or.inl c45))) (hF.t1 F2) P2
          | exact s62 (.inl (3, x.2.1)) σ2 (ckR_n (fun h9 => h9 (Or.inr (bI_n.mp c53)))) (hF.t1 F2) P2
          | exact s62 (.inr x) σ1 (ckR_y (fun h9 => h9.elim c45 (bI_0.mp c53))) hF hP2
        · refine ew_aload_n (pc := 56) dX2_event_56 rfl ?_
          refine ew_iconst (pc := 57) (v := 3) dX2_event_57 rfl ?_
          refine ew_cV1 (d' := 0) (pc := 58) vX2_119 (tw_ro _ _ _ _) dX2_event_58 (by decide) (ew_rm (Nat.le_of_ble_eq_true rfl)) ?_
          refine t_flt (by decide) hP2 (fun σ2 F2 P2 => ?_)
          refine ew_Kv ?_
          first
          | exact s62 (.inl (3, x.2.1)) σ2 (ckR_n (fun h9 => h9 (Or.inl c45))) (hF.t1 F2) P2
          | exact s62 (.inl (3, x.2.1)) σ2 (ckR_n (fun h9 => h9 (Or.inr (bI_n.mp c53)))) (hF.t1 F2) P2
          | exact s62 (.inr x) σ1 (ckR_y (fun h9 => h9.elim c45 (bI_0.mp c53))) hF hP2
  refine ew_enter (by decide +kernel) (ew_a1 rfl (ew_a1 rfl (ew_an ew_az))) (Nat.le_of_ble_eq_true rfl) ?_
  cases r with
  | inl e =>
    have hP2 := hP
    obtain ⟨h3, h0, h4⟩ := hP
    refine ew_aload_n (pc := 0) dX2_event_0 rfl ?_
    refine tg_g3 (pc := 1) rfl dX2_event_1 ?_
    rw [h3]
    refine ew_if_ne (pc := 4) (tgt := 20) dX2_event_4 (by decide) (fun c4 => ?_) (fun c4 => absurd c4 (i_ne0 h0))
    exact s20 (.inl e) σ _ rfl (Fq.r _ _) hP2
  | inr x =>
    have hP2 := hP
    obtain ⟨h3, ⟨h8, h6, h7, h9⟩, hO, hA4⟩ := hP
    have hk4 := hO.2.2.1
    refine ew_aload_n (pc := 0) dX2_event_0 rfl ?_
    refine tg_g3 (pc := 1) rfl dX2_event_1 ?_
    rw [h3]
    refine ew_if_ne (pc := 4) (tgt := 20) dX2_event_4 (by decide) (fun c4 => absurd rfl c4) (fun c4 => ?_)
    refine ew_aload_n (pc := 7) dX2_event_7 rfl ?_
    refine tg_g8 (pc := 8) rfl dX2_event_8 ?_
    refine ew_iconst (pc := 11) (v := 1) dX2_event_11 rfl ?_
    rw [h8]
    refine ew_icmp_eq (pc := 12) (tgt := 20) dX2_event_12 (by decide) (fun c12 => ?_) (fun c12 => ?_)
    · first
      | exact s20 (.inr x) σ _ (ckR_y ((nI_eq (b := 1) (by omega) (by decide)).mp c12)) (Fq.r _ _) hP2
      | exact s20 (.inl (1, x.2.1)) σ2 _ (ckR_n (fun h9 => c12 (by rw [h9]; decide))) F2 P2
    · refine ew_aload_n (pc := 15) dX2_event_15 rfl ?_
      refine ew_iconst (pc := 16) (v := 1) dX2_event_16 rfl ?_
      refine ew_cV1 (d' := 0) (pc := 17) vX2_119 (tw_ro _ _ _ _) dX2_event_17 (by decide) (ew_rm (Nat.le_of_ble_eq_true rfl)) ?_
      refine t_flt (by decide) hP2 (fun σ2 F2 P2 => ?_)
      refine ew_Kv ?_
      first
      | exact s20 (.inr x) σ _ (ckR_y ((nI_eq (b := 1) (by omega) (by decide)).mp c12)) (Fq.r _ _) hP2
      | exact s20 (.inl (1, x.2.1)) σ2 _ (ckR_n (fun h9 => c12 (by rw [h9]; decide))) F2 P2
/-- the reference's net, names and told sets -/
def Js (σ : tS) (s : pst) : Prop := σ.2 16 = s.1 ∧ σ.2 10 = s.2.1 ∧ σ.1 12 = s.2.2.1 ∧ σ.1 13 = s.2.2.2.1 ∧ σ.1 14 = s.2.2.2.2.1 ∧ σ.1 15 = s.2.2.2.2.2
theorem Js.fq {S : List Nat} {σ σ' : tS} {s : pst} (h : Js σ s) (hF : Fq S σ σ') (hd : [10, 12, 13, 14, 15, 16].all (fun k => !S.contains k) = true) : Js σ' s := by
  have hd' : ∀ k, k ∈ [10, 12, 13, 14, 15, 16] → S.contains k = false := by
    intro k hk
    have := List.all_eq_true.mp hd k hk
    simpa using this
  exact ⟨(hF.a 16 (hd' 16 (by decide))).trans h.1, (hF.a 10 (hd' 10 (by decide))).trans h.2.1, (hF.s 12 (hd' 12 (by decide))).trans h.2.2.1, (hF.s 13 (hd' 13 (by decide))).trans h.2.2.2.1, (hF.s 14 (hd' 14 (by decide))).trans h.2.2.2.2.1, (hF.s 15 (hd' 15 (by decide))).trans h.2.2.2.2.2⟩
def Jp (σ : tS) (b : Nat → Int32) (n : Nat) (y : rs × pst) : Prop := Ps σ b n y.1 ∧ (aL y.1 = true → Js σ y.2)
def naF (nm : Nat → Int32) (m : Nat) (L : List Int32) (k : Nat) : Nat → Int32 := fun i => if 8 * m ≤ i ∧ i < 8 * m + k then L.getD (i - 8 * m) 0 else nm i
theorem naF_0 (nm : Nat → Int32) (m : Nat) (L : List Int32) : naF nm m L 0 = nm := funext fun i => if_neg (by omega)
theorem naF_s {nm : Nat → Int32} {m k : Nat} {L : List Int32} {v : Int32} (hv : v = L.getD k 0) : upd (naF nm m L k) (8 * m + k) v = naF nm m L (k + 1) := by
  funext i
  show upd (naF nm m L k) (8 * m + k) v i = if 8 * m ≤ i ∧ i < 8 * m + (k + 1) then L.getD (i - 8 * m) 0 else nm i
  rw [upd]
  by_cases h1 : i = 8 * m + k
  · rw [if_pos h1, if_pos (by omega), hv, h1, Nat.add_sub_cancel_left]
  · rw [if_neg h1]
    show (if 8 * m ≤ i ∧ i < 8 * m + k then L.getD (i - 8 * m) 0 else nm i) = _
    by_cases h2 : 8 * m ≤ i ∧ i < 8 * m + k
    · rw [if_pos h2, if_pos (by omega)]
    · rw [if_neg h2, if_neg (by omega)]
theorem isLt_nar {c : Int32} (h : isLt c) : vp_nar .byte c = c := by
  obtain ⟨j, hj, e⟩ := nI_of (x := c) (Int32.not_lt.mpr (Int32.le_trans (b := 97) (by decide) h.1))
  subst e
  have h2 := (nI_leI (b := 122) (by omega) (by decide)).mp h.2
  exact (by decide : ∀ c : Fin 128, vp_nar .byte (nI c.val) = nI c.val) ⟨j, by omega⟩
theorem tkL_D {b : Nat → Int32} {x : tok} {k : Nat} (h : x.2.1 + k < x.2.2.1) : (tkL b x).getD k 0 = b (x.2.1 + k) := by
  rw [tkL, List.getD_eq_getElem?_getD, List.getElem?_map, List.getElem?_range (by omega)]
  rfl
theorem tkL_D0 {b : Nat → Int32} {x : tok} {k : Nat} (h : ¬ x.2.1 + k < x.2.2.1) : (tkL b x).getD k 0 = 0 := by
  rw [tkL, List.getD_eq_getElem?_getD, List.getElem?_eq_none (by rw [List.length_map, List.length_range]; omega)]
  rfl
theorem t_readName {g : eg} {h : eh} {t n m : Nat} {σ : tS} {b : Nat → Int32} {r : rs} {s : pst} {Q : Outcome → eh → Prop} (hT : Tx σ b n) (hJ : Jp σ b n (r, s)) (hm : aL r = true → m < 10 ∧ s.1 0 = nI m)
    (hq : ∀ σ', Fq [3, 4, 6, 7, 8, 9, 10, 16] σ σ' → Jp σ' b n (naP b n m r s) → Q (.returned none) (tw t σ' h)) : ew_T g kX2_readName 3 [.ref t] (tw t σ h) Q := by
  obtain ⟨hP, hS⟩ := hJ
  have hn7 := hT.2.2
  have s40 : ∀ r2 σ1 x1 x2, naK b s.2.1 m r = r2 → Fq [3, 4] σ σ1 → Ps σ1 b n r2 → ew_G g kX2_readName 3 40 [.ref t, x1, x2] [] (tw t σ1 h) Q := by
    intro r2 σ1 x1 x2 hr hF hP1
    cases r2 with
    | inl e =>
      have hP2 := hP1
      obtain ⟨h3, h0, h4⟩ := hP1
      refine ew_aload_n (pc := 40) dX2_readName_40 rfl ?_
      refine tg_g3 (pc := 41) rfl dX2_readName_41 ?_
      rw [h3]
      refine ew_if_le (pc := 44) (tgt := 48) dX2_readName_44 (by decide) (fun c44 => absurd c44 (i_nle0 h0)) (fun c44 => ?_)
      refine ew_vret (pc := 47) rfl dX2_readName_47 ?_
      exact hq σ1 (hF.w rfl) (by rw [naP, hr]; exact ⟨hP2, fun h9 => absurd h9 Bool.false_ne_true⟩)
    | inr x =>
      have hP2 := hP1
      obtain ⟨h3, ⟨h8, h6, h7, h9⟩, hO, hA4⟩ := hP1
      have hx := ckR_r hr
      have hx2 := ckR_r hx.1
      have hx1 : x.1 = 1 := hx2.2
      have ha : aL r = true := by rw [hx2.1]; rfl
      have hm2 := hm ha
      have hs2 := hS ha
      have hs1 := hs2.fq hF rfl
      have hO1 := hO.1
      have hO2 := hO.2.1
      have hO4 := hO.2.2.2 hx1
      have h0 : σ1.2 16 0 = nI m := by rw [hs1.1]; exact hm2.2
      have hnp : naP b n m r s = (nxR b n (.inr x), naN s.1 m, naM s.2.1 m (tkL b x), s.2.2) := by rw [naP, hr]
      have s108 : ∀ σ2 x2, Fq [10] σ1 σ2 → σ2.2 10 = naF s.2.1 m (tkL b x) 8 → ew_G g kX2_readName 3 108 [.ref t, .int (nI m), x2] [] (tw t σ2 h) Q := by
        intro σ2 x2 F2 hA
        have e16 : σ2.2 16 = s.1 := (F2.a 16 rfl).trans hs1.1
        have e7 : tA σ2 16 (upd (upd (upd (σ2.2 16) (146 + m) (-1)) (166 + m) (-1)) 0 (upd (upd (σ2.2 16) (146 + m) (-1)) (166 + m) (-1) 0 + 1)) = tA σ2 16 (naN s.1 m) := by
          rw [naN, e16]
          congr 2
          rw [show upd (upd s.1 (146 + m) (-1)) (166 + m) (-1) 0 = nI m by rw [upd, if_neg (by omega), upd, if_neg (by omega)]; exact hm2.2]
          exact nI_1 m
        refine ew_aload_n (pc := 108) dX2_readName_108 rfl ?_
        refine tg_g16 (pc := 109) rfl dX2_readName_109 ?_
        refine ew_sipush (pc := 112) (v := 146) dX2_readName_112 rfl ?_
        refine ew_iload_n (pc := 115) dX2_readName_115 rfl ?_
        refine ew_iadd (pc := 116) dX2_readName_116 ?_
        refine ew_iconst (pc := 117) (v := -1) dX2_readName_117 rfl ?_
        refine tg_s16 (pc := 118) (j := 146 + m) (nI_add 146 m) (by omega) dX2_readName_118 ?_
        refine ew_aload_n (pc := 119) dX2_readName_119 rfl ?_
        refine tg_g16 (pc := 120) rfl dX2_readName_120 ?_
        refine ew_sipush (pc := 123) (v := 166) dX2_readName_123 rfl ?_
        refine ew_iload_n (pc := 126) dX2_readName_126 rfl ?_
        refine ew_iadd (pc := 127) dX2_readName_127 ?_
        refine ew_iconst (pc := 128) (v := -1) dX2_readName_128 rfl ?_
        refine tg_s16 (pc := 129) (j := 166 + m) (nI_add 166 m) (by omega) dX2_readName_129 ?_
        refine ew_aload_n (pc := 130) dX2_readName_130 rfl ?_
        refine tg_g16 (pc := 131) rfl dX2_readName_131 ?_
        refine ew_iconst (pc := 134) (v := 0) dX2_readName_134 rfl ?_
        refine ew_dup2_11 (pc := 135) dX2_readName_135 rfl rfl ?_
        refine tg_l16 (pc := 136) (j := 0) rfl (by decide) dX2_readName_136 ?_
        refine ew_iconst (pc := 137) (v := 1) dX2_readName_137 rfl ?_
        refine ew_iadd (pc := 138) dX2_readName_138 ?_
        refine tg_s16 (pc := 139) (j := 0) rfl (by decide) dX2_readName_139 ?_
        rw [tA_tA, tA_tA]
        change ew_G g _ _ _ _ _ (tw t (tA σ2 16 (upd (upd (upd (σ2.2 16) (146 + m) (-1)) (166 + m) (-1)) 0 (upd (upd (σ2.2 16) (146 + m) (-1)) (166 + m) (-1) 0 + 1))) h) Q
        rw [e7]
        refine ew_aload_n (pc := 140) dX2_readName_140 rfl ?_
        refine ew_cV0 (d' := 1) (pc := 141) vX2_122 (tw_ro _ _ _ _) dX2_readName_141 (by decide) (ew_rm (Nat.le_of_ble_eq_true rfl)) ?_
        refine t_nxt (((hT.fq hF rfl rfl).fq F2 rfl rfl).fq (Fq.A (S := [16]) σ2 16 _ rfl) rfl rfl) ((hP2.fq F2 rfl).fq (Fq.A (S := [16]) σ2 16 _ rfl) rfl) (fun σ3 F3 P3 => ?_)
        refine ew_Kv ?_
        refine ew_vret (pc := 144) rfl dX2_readName_144 ?_
        refine hq σ3 ((((hF.w rfl).u F2 rfl).xA 16 _ rfl).u F3 rfl) ?_
        rw [hnp]
        refine ⟨P3, fun _ => ?_⟩
        have hs3 := (hs1.2.2)
        exact ⟨F3.a 16 rfl, (F3.a 10 rfl).trans hA, (F3.s 12 rfl).trans ((F2.s 12 rfl).trans hs3.1), (F3.s 13 rfl).trans ((F2.s 13 rfl).trans hs3.2.1), (F3.s 14 rfl).trans ((F2.s 14 rfl).trans hs3.2.2.1), (F3.s 15 rfl).trans ((F2.s 15 rfl).trans hs3.2.2.2)⟩
      have main : ∀ q k σ2, k + q = 8 → Fq [10] σ1 σ2 → σ2.2 10 = naF s.2.1 m (tkL b x) k → ew_G g kX2_readName 3 57 [.ref t, .int (nI m), .int (nI k)] [] (tw t σ2 h) Q := by
        intro q
        induction q with
        | zero =>
          intro k σ2 hk F2 hA
          have e9 : k = 8 := by omega
          subst e9
          refine ew_iload_n (pc := 57) dX2_readName_57 rfl ?_
          refine ew_bipush (pc := 58) (v := 8) dX2_readName_58 rfl ?_
          refine ew_icmp_ge (pc := 60) (tgt := 108) dX2_readName_60 (by decide) (fun c60 => ?_) (fun c60 => absurd (by decide) c60)
          exact s108 σ2 _ F2 hA
        | succ q ih =>
          intro k σ2 hk F2 hA
          have a6 : σ2.1 6 = nI x.2.1 := (F2.s 6 rfl).trans h6
          have a7 : σ2.1 7 = nI x.2.2.1 := (F2.s 7 rfl).trans h7
          have a1 : σ2.2 1 = b := (F2.a 1 rfl).trans ((hF.a 1 rfl).trans hT.1)
          have hz : vp_nar .byte 0 = 0 := by decide
          refine ew_iload_n (pc := 57) dX2_readName_57 rfl ?_
          refine ew_bipush (pc := 58) (v := 8) dX2_readName_58 rfl ?_
          refine ew_icmp_ge (pc := 60) (tgt := 108) dX2_readName_60 (by decide) (fun c60 => absurd c60 (nI_ge (b := 8) (by omega) (by decide))) (fun c60 => ?_)
          refine ew_aload_n (pc := 63) dX2_readName_63 rfl ?_
          refine tg_g10 (pc := 64) rfl dX2_readName_64 ?_
          refine ew_bipush (pc := 67) (v := 8) dX2_readName_67 rfl ?_
          refine ew_iload_n (pc := 69) dX2_readName_69 rfl ?_
          refine ew_imul (pc := 70) dX2_readName_70 ?_
          refine ew_iload_n (pc := 71) dX2_readName_71 rfl ?_
          refine ew_iadd (pc := 72) dX2_readName_72 ?_
          refine ew_aload_n (pc := 73) dX2_readName_73 rfl ?_
          refine tg_g6 (pc := 74) rfl dX2_readName_74 ?_
          refine ew_iload_n (pc := 77) dX2_readName_77 rfl ?_
          refine ew_iadd (pc := 78) dX2_readName_78 ?_
          refine ew_aload_n (pc := 79) dX2_readName_79 rfl ?_
          refine tg_g7 (pc := 80) rfl dX2_readName_80 ?_
          rw [a6, a7, nI_add x.2.1 k]
          refine ew_icmp_ge (pc := 83) (tgt := 100) dX2_readName_83 (by decide) (fun c83 => ?_) (fun c83 => ?_)
          · refine ew_iconst (pc := 100) (v := 0) dX2_readName_100 rfl ?_
            refine tg_s10 (pc := 101) (j := 8 * m + k) (nm_nI m k) (by omega) dX2_readName_101 ?_
            refine ew_iinc (pc := 102) dX2_readName_102 rfl (nI_inc k) (by decide) (p1_2 rfl) ?_
            refine ew_goto (pc := 105) (tgt := 57) dX2_readName_105 (by decide) ?_
            refine ih (k + 1) _ (by omega) (F2.xA 10 _ rfl) ?_
            show upd (σ2.2 10) (8 * m + k) (vp_nar .byte _) = _
            rw [hA]
            refine naF_s ?_
            first
            | have hlt : ¬ x.2.1 + k < x.2.2.1 := fun h13 => absurd c83 (Int32.not_le.mpr (nI_lt h13 (by omega)))
              rw [tkL_D0 hlt]
              exact hz
            | have hlt : x.2.1 + k < x.2.2.1 := Nat.lt_of_not_le (fun h13 => c83 (nI_le h13 (by omega)))
              rw [tkL_D hlt, a1]
              exact isLt_nar (hO4.2.2 _ (by omega) hlt)
          · have hlt : x.2.1 + k < x.2.2.1 := Nat.lt_of_not_le (fun h13 => c83 (nI_le h13 (by omega)))
            refine ew_aload_n (pc := 86) dX2_readName_86 rfl ?_
            refine tg_g1 (pc := 87) rfl dX2_readName_87 ?_
            refine ew_aload_n (pc := 90) dX2_readName_90 rfl ?_
            refine tg_g6 (pc := 91) rfl dX2_readName_91 ?_
            refine ew_iload_n (pc := 94) dX2_readName_94 rfl ?_
            refine ew_iadd (pc := 95) dX2_readName_95 ?_
            refine tg_l1 (pc := 96) (j := x.2.1 + k) (by rw [a6]; exact nI_add _ _) (by omega) dX2_readName_96 ?_
            refine ew_goto (pc := 97) (tgt := 101) dX2_readName_97 (by decide) ?_
            refine tg_s10 (pc := 101) (j := 8 * m + k) (nm_nI m k) (by omega) dX2_readName_101 ?_
            refine ew_iinc (pc := 102) dX2_readName_102 rfl (nI_inc k) (by decide) (p1_2 rfl) ?_
            refine ew_goto (pc := 105) (tgt := 57) dX2_readName_105 (by decide) ?_
            refine ih (k + 1) _ (by omega) (F2.xA 10 _ rfl) ?_
            show upd (σ2.2 10) (8 * m + k) (vp_nar .byte _) = _
            rw [hA]
            refine naF_s ?_
            first
            | have hlt : ¬ x.2.1 + k < x.2.2.1 := fun h13 => absurd c83 (Int32.not_le.mpr (nI_lt h13 (by omega)))
              rw [tkL_D0 hlt]
              exact hz
            | have hlt : x.2.1 + k < x.2.2.1 := Nat.lt_of_not_le (fun h13 => c83 (nI_le h13 (by omega)))
              rw [tkL_D hlt, a1]
              exact isLt_nar (hO4.2.2 _ (by omega) hlt)
      refine ew_aload_n (pc := 40) dX2_readName_40 rfl ?_
      refine tg_g3 (pc := 41) rfl dX2_readName_41 ?_
      rw [h3]
      refine ew_if_le (pc := 44) (tgt := 48) dX2_readName_44 (by decide) (fun c44 => ?_) (fun c44 => absurd (by decide) c44)
      refine ew_aload_n (pc := 48) dX2_readName_48 rfl ?_
      refine tg_g16 (pc := 49) rfl dX2_readName_49 ?_
      refine ew_iconst (pc := 52) (v := 0) dX2_readName_52 rfl ?_
      refine tg_l16 (pc := 53) (j := 0) rfl (by decide) dX2_readName_53 ?_
      rw [h0]
      refine ew_istore_n (pc := 54) dX2_readName_54 rfl (by decide) (p1_1 rfl) ?_
      refine ew_iconst (pc := 55) (v := 0) dX2_readName_55 rfl ?_
      refine ew_istore_n (pc := 56) dX2_readName_56 rfl (by decide) (p1_2 rfl) ?_
      exact main 8 0 σ1 (by omega) (Fq.r _ _) (by rw [naF_0]; exact hs1.2.1)
  have s20 : ∀ r1 σ1 x1 x2, wo1 r = r1 → Fq [3, 4] σ σ1 → Ps σ1 b n r1 → ew_G g kX2_readName 3 20 [.ref t, x1, x2] [] (tw t σ1 h) Q := by
    intro r1 σ1 x1 x2 hr hF hP1
    cases r1 with
    | inl e =>
      have hP2 := hP1
      obtain ⟨h3, h0, h4⟩ := hP1
      refine ew_aload_n (pc := 20) dX2_readName_20 rfl ?_
      refine tg_g3 (pc := 21) rfl dX2_readName_21 ?_
      rw [h3]
      refine ew_if_ne (pc := 24) (tgt := 40) dX2_readName_24 (by decide) (fun c24 => ?_) (fun c24 => absurd c24 (i_ne0 h0))
      exact s40 (.inl e) σ1 _ _ (by rw [naK, hr]; rfl) hF hP2
    | inr x =>
      have hP2 := hP1
      obtain ⟨h3, ⟨h8, h6, h7, h9⟩, hO, hA4⟩ := hP1
      have hx := ckR_r hr
      have ha : aL r = true := by rw [hx.1]; rfl
      have hj := hm ha
      have hs1 := (hS ha).fq hF rfl
      refine ew_aload_n (pc := 20) dX2_readName_20 rfl ?_
      refine tg_g3 (pc := 21) rfl dX2_readName_21 ?_
      rw [h3]
      refine ew_if_ne (pc := 24) (tgt := 40) dX2_readName_24 (by decide) (fun c24 => absurd rfl c24) (fun c24 => ?_)
      refine ew_aload_n (pc := 27) dX2_readName_27 rfl ?_
      refine ew_cV0 (d' := 2) (pc := 28) vX2_132 (tw_ro _ _ _ _) dX2_readName_28 (by decide) (ew_rm (Nat.le_of_ble_eq_true rfl)) ?_
      refine t_eventHere (hT.fq hF rfl rfl) hs1.2.1 (by omega : m ≤ 10) ((congrFun hs1.1 0).trans hj.2) h6 h7 hO ?_
      refine ew_Kr ?_
      refine ew_iconst (pc := 31) (v := -1) dX2_readName_31 rfl ?_
      refine ew_icmp_eq (pc := 32) (tgt := 40) dX2_readName_32 (by decide) (fun c32 => ?_) (fun c32 => ?_)
      · first
        | exact s40 (.inr x) σ1 _ _ (by rw [naK, hr]; exact ckR_y c32) hF hP2
        | exact s40 (.inl (3, x.2.1)) σ2 _ _ (by rw [naK, hr]; exact ckR_n c32) (hF.t1 F2) P2
      · refine ew_aload_n (pc := 35) dX2_readName_35 rfl ?_
        refine ew_iconst (pc := 36) (v := 3) dX2_readName_36 rfl ?_
        refine ew_cV1 (d' := 0) (pc := 37) vX2_119 (tw_ro _ _ _ _) dX2_readName_37 (by decide) (ew_rm (Nat.le_of_ble_eq_true rfl)) ?_
        refine t_flt (by decide) hP2 (fun σ2 F2 P2 => ?_)
        refine ew_Kv ?_
        first
        | exact s40 (.inr x) σ1 _ _ (by rw [naK, hr]; exact ckR_y c32) hF hP2
        | exact s40 (.inl (3, x.2.1)) σ2 _ _ (by rw [naK, hr]; exact ckR_n c32) (hF.t1 F2) P2
  refine ew_enter (by decide +kernel) (ew_a1 rfl (ew_an (ew_an ew_az))) (Nat.le_of_ble_eq_true rfl) ?_
  cases r with
  | inl e =>
    have hP2 := hP
    obtain ⟨h3, h0, h4⟩ := hP
    refine ew_aload_n (pc := 0) dX2_readName_0 rfl ?_
    refine tg_g3 (pc := 1) rfl dX2_readName_1 ?_
    rw [h3]
    refine ew_if_ne (pc := 4) (tgt := 20) dX2_readName_4 (by decide) (fun c4 => ?_) (fun c4 => absurd c4 (i_ne0 h0))
    exact s20 (.inl e) σ _ _ rfl (Fq.r _ _) hP2
  | inr x =>
    have hP2 := hP
    obtain ⟨h3, ⟨h8, h6, h7, h9⟩, hO, hA4⟩ := hP
    have hk4 := hO.2.2.1
    refine ew_aload_n (pc := 0) dX2_readName_0 rfl ?_
    refine tg_g3 (pc := 1) rfl dX2_readName_1 ?_
    rw [h3]
    refine ew_if_ne (pc := 4) (tgt := 20) dX2_readName_4 (by decide) (fun c4 => absurd rfl c4) (fun c4 => ?_)
    refine ew_aload_n (pc := 7) dX2_readName_7 rfl ?_
    refine tg_g8 (pc := 8) rfl dX2_readName_8 ?_
    refine ew_iconst (pc := 11) (v := 1) dX2_readName_11 rfl ?_
    rw [h8]
    refine ew_icmp_eq (pc := 12) (tgt := 20) dX2_readName_12 (by decide) (fun c12 => ?_) (fun c12 => ?_)
    · first
      | exact s20 (.inr x) σ _ _ (ckR_y ((nI_eq (b := 1) (by omega) (by decide)).mp c12)) (Fq.r _ _) hP2
      | exact s20 (.inl (1, x.2.1)) σ2 _ _ (ckR_n (fun h9 => c12 (by rw [h9]; decide))) F2 P2
    · refine ew_aload_n (pc := 15) dX2_readName_15 rfl ?_
      refine ew_iconst (pc := 16) (v := 1) dX2_readName_16 rfl ?_
      refine ew_cV1 (d' := 0) (pc := 17) vX2_119 (tw_ro _ _ _ _) dX2_readName_17 (by decide) (ew_rm (Nat.le_of_ble_eq_true rfl)) ?_
      refine t_flt (by decide) hP2 (fun σ2 F2 P2 => ?_)
      refine ew_Kv ?_
      first
      | exact s20 (.inr x) σ _ _ (ckR_y ((nI_eq (b := 1) (by omega) (by decide)).mp c12)) (Fq.r _ _) hP2
      | exact s20 (.inl (1, x.2.1)) σ2 _ _ (ckR_n (fun h9 => c12 (by rw [h9]; decide))) F2 P2
