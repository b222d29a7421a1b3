/-! EW: the reference: lines of a text -/
set_option maxRecDepth 100000
theorem aL_ck {c : Int32} {P : tok → Prop} [DecidablePred P] {r : rs} (h : aL (ckR c P r) = true) : aL r = true := by
  cases r with
  | inl e => exact h
  | inr x => rfl
theorem aL_nx {b : Nat → Int32} {n : Nat} {r : rs} (h : aL (nxR b n r) = true) : aL r = true := by
  cases r with
  | inl e => exact h
  | inr x => rfl
theorem aL_nu {b : Nat → Int32} {n : Nat} {lo hi : Int32} {r : rs} (h : aL (nuR b n lo hi r) = true) : aL r = true := aL_ck (aL_ck (aL_nx h))
theorem aL_evK {b nm : Nat → Int32} {m : Nat} {oth : Int32} {r : rs} (h : aL (evK b nm m oth r) = true) : aL r = true := aL_ck (aL_ck h)
theorem aL_ev {b nm : Nat → Int32} {n m : Nat} {oth : Int32} {r : rs} (h : aL (evR b n nm m oth r) = true) : aL r = true := aL_evK (aL_nx h)
theorem evR_l {b nm : Nat → Int32} {n m : Nat} {oth : Int32} {e : Int32 × Nat} : evR b n nm m oth (nxR b n (.inl e)) = .inl e := rfl
theorem evF_c (nm : Nat → Int32) (L : List Int32) : ∀ r k, evF nm L r k = -1 ∨ ∃ j, k ≤ j ∧ j < k + r ∧ evF nm L r k = nI j ∧ nmT nm j = L
  | 0, k => Or.inl rfl
  | r + 1, k => by
    rw [evF]
    split
    · rename_i h
      exact Or.inr ⟨k, Nat.le_refl _, by omega, rfl, h⟩
    · rcases evF_c nm L r (k + 1) with h | ⟨j, h1, h2, h3⟩
      · exact Or.inl h
      · exact Or.inr ⟨j, by omega, by omega, h3⟩
theorem ev_al {b nm : Nat → Int32} {m : Nat} {oth : Int32} {r : rs} (h : aL (evK b nm m oth r) = true) : ∃ x j, r = .inr x ∧ x.1 = 1 ∧ j < m ∧ evV b nm m r = nI j ∧ ¬ hasB oth (nI j) ∧ nmT nm j = tkL b x := by
  cases hr : evK b nm m oth r with
  | inl e => rw [hr] at h; cases h
  | inr x =>
    obtain ⟨h1, h2⟩ := ckR_r hr
    obtain ⟨h3, h4⟩ := ckR_r h1
    have he : evV b nm m r = evA b nm m x := by rw [evV, h1]; rfl
    rcases evF_c nm (tkL b x) m 0 with h5 | ⟨j, h5, h6, h7, h8⟩
    · exact absurd (Or.inl h5) h2
    · refine ⟨x, j, h3, h4, by omega, he.trans h7, fun h9 => h2 (Or.inr ?_), h8⟩
      show hasB oth (evF nm (tkL b x) m 0)
      rw [h7]
      exact h9
/-- sizes of what is told so far -/
def okP (s : pst) : Prop := s.1 0 = nI (nE s.1) ∧ nE s.1 ≤ 10 ∧ s.1 1 = nI (nW s.1) ∧ nW s.1 ≤ 20
theorem t_readEvent {g : eg} {h : eh} {t n : Nat} {σ : tS} {b : Nat → Int32} {r : rs} {s : pst} {Q : Outcome → eh → Prop} (hT : Tx σ b n) (hJ : Jp σ b n (r, s)) (hm : aL r = true → okP s)
    (hq : ∀ σ', Fq [3, 4, 6, 7, 8, 9, 10, 16] σ σ' → Jp σ' b n (lnE b n r s) → Q (.returned none) (tw t σ' h)) : ew_T g kX2_readEvent 4 [.ref t] (tw t σ h) Q := by
  obtain ⟨hP, hS⟩ := hJ
  have s16 : ∀ r1 σ1, ckR 4 (fun _ => ¬ nE s.1 = 10) r = r1 → Fq [3, 4] σ σ1 → Ps σ1 b n r1 → ew_G g kX2_readEvent 4 16 [.ref t] [] (tw t σ1 h) Q := by
    intro r1 σ1 hr hF hP1
    have ha : aL (nxR b n r1) = true → aL r = true ∧ ¬ nE s.1 = 10 := by
      intro h9
      have h8 := aL_nx h9
      cases r1 with
      | inl e => cases h8
      | inr x =>
        obtain ⟨h1, h2⟩ := ckR_r hr
        rw [h1]
        exact ⟨rfl, h2⟩
    refine ew_aload_n (pc := 16) dX2_readEvent_16 rfl ?_
    refine ew_cV0 (d' := 1) (pc := 17) vX2_122 (tw_ro _ _ _ _) dX2_readEvent_17 (by decide) (ew_rm (Nat.le_of_ble_eq_true rfl)) ?_
    refine t_nxt (hT.fq hF rfl rfl) hP1 (fun σ2 F2 P2 => ?_)
    refine ew_Kv ?_
    refine ew_aload_n (pc := 20) dX2_readEvent_20 rfl ?_
    refine ew_cV0 (d' := 3) (pc := 21) vX2_139 (tw_ro _ _ _ _) dX2_readEvent_21 (by decide) (ew_rm (Nat.le_of_ble_eq_true rfl)) ?_
    refine t_readName (m := nE s.1) (s := s) ((hT.fq hF rfl rfl).fq F2 rfl rfl) ⟨P2, fun h9 => ((hS (ha h9).1).fq hF rfl).fq F2 rfl⟩ (fun h9 => ⟨by have := (hm (ha h9).1).2.1; have := (ha h9).2; omega, (hm (ha h9).1).1⟩) (fun σ3 F3 J3 => ?_)
    refine ew_Kv ?_
    refine ew_vret (pc := 24) rfl dX2_readEvent_24 ?_
    refine hq σ3 (((hF.w rfl).u F2 rfl).u F3 rfl) ?_
    rw [lnE, hr]
    exact J3
  refine ew_enter (by decide +kernel) (ew_a1 rfl ew_az) (Nat.le_of_ble_eq_true rfl) ?_
  cases r with
  | inl e =>
    refine ew_aload_n (pc := 0) dX2_readEvent_0 rfl ?_
    refine tg_g16 (pc := 1) rfl dX2_readEvent_1 ?_
    refine ew_iconst (pc := 4) (v := 0) dX2_readEvent_4 rfl ?_
    refine tg_l16 (pc := 5) (j := 0) rfl (by decide) dX2_readEvent_5 ?_
    refine ew_bipush (pc := 6) (v := 10) dX2_readEvent_6 rfl ?_
    refine ew_icmp_ne (pc := 8) (tgt := 16) dX2_readEvent_8 (by decide) (fun c8 => ?_) (fun c8 => ?_)
    · first
      | exact s16 (.inl e) σ rfl (Fq.r _ _) hP
      | exact s16 (.inl e) σ2 rfl F2 P2
    · refine ew_aload_n (pc := 11) dX2_readEvent_11 rfl ?_
      refine ew_iconst (pc := 12) (v := 4) dX2_readEvent_12 rfl ?_
      refine ew_cV1 (d' := 0) (pc := 13) vX2_119 (tw_ro _ _ _ _) dX2_readEvent_13 (by decide) (ew_rm (Nat.le_of_ble_eq_true rfl)) ?_
      refine t_flt (by decide) hP (fun σ2 F2 P2 => ?_)
      refine ew_Kv ?_
      first
      | exact s16 (.inl e) σ rfl (Fq.r _ _) hP
      | exact s16 (.inl e) σ2 rfl F2 P2
  | inr x =>
    have hs := hS rfl
    have hm2 := hm rfl
    refine ew_aload_n (pc := 0) dX2_readEvent_0 rfl ?_
    refine tg_g16 (pc := 1) rfl dX2_readEvent_1 ?_
    refine ew_iconst (pc := 4) (v := 0) dX2_readEvent_4 rfl ?_
    refine tg_l16 (pc := 5) (j := 0) rfl (by decide) dX2_readEvent_5 ?_
    refine ew_bipush (pc := 6) (v := 10) dX2_readEvent_6 rfl ?_
    rw [hs.1, hm2.1]
    refine ew_icmp_ne (pc := 8) (tgt := 16) dX2_readEvent_8 (by decide) (fun c8 => ?_) (fun c8 => ?_)
    · first
      | exact s16 (.inr x) σ (ckR_y (fun h9 => c8 (by rw [h9]; decide))) (Fq.r _ _) hP
      | exact s16 (.inl (4, x.2.1)) σ2 (ckR_n (fun h9 => h9 ((nI_eq (b := 10) (by have := hm2.2.1; omega) (by decide)).mp c8))) F2 P2
    · refine ew_aload_n (pc := 11) dX2_readEvent_11 rfl ?_
      refine ew_iconst (pc := 12) (v := 4) dX2_readEvent_12 rfl ?_
      refine ew_cV1 (d' := 0) (pc := 13) vX2_119 (tw_ro _ _ _ _) dX2_readEvent_13 (by decide) (ew_rm (Nat.le_of_ble_eq_true rfl)) ?_
      refine t_flt (by decide) hP (fun σ2 F2 P2 => ?_)
      refine ew_Kv ?_
      first
      | exact s16 (.inr x) σ (ckR_y (fun h9 => c8 (by rw [h9]; decide))) (Fq.r _ _) hP
      | exact s16 (.inl (4, x.2.1)) σ2 (ckR_n (fun h9 => h9 ((nI_eq (b := 10) (by have := hm2.2.1; omega) (by decide)).mp c8))) F2 P2
theorem t_readFix {g : eg} {h : eh} {t n : Nat} {σ : tS} {b : Nat → Int32} {r : rs} {s : pst} {Q : Outcome → eh → Prop} (hT : Tx σ b n) (hJ : Jp σ b n (r, s)) (hm : aL r = true → okP s)
    (hq : ∀ σ', Fq [3, 4, 6, 7, 8, 9, 10, 12, 13, 14, 15, 16] σ σ' → Jp σ' b n (lnF b n r s) → Q (.returned none) (tw t σ' h)) : ew_T g kX2_readFix 4 [.ref t] (tw t σ h) Q := by
  obtain ⟨hP, hS⟩ := hJ
  obtain ⟨e, he⟩ : ∃ e, e = evV b s.2.1 (nE s.1) (nxR b n r) := ⟨_, rfl⟩
  obtain ⟨r2, hr2⟩ : ∃ r2, r2 = evR b n s.2.1 (nE s.1) s.2.2.1 (nxR b n r) := ⟨_, rfl⟩
  have hq2 : ∀ σ', Fq [3, 4, 6, 7, 8, 9, 10, 12, 13, 14, 15, 16] σ σ' → Jp σ' b n (nuR b n 0 999 r2, (lnF b n r s).2) → Q (.returned none) (tw t σ' h) := by
    subst hr2
    exact hq
  have s22 : ∀ r3 σ1, nuR b n 0 999 r2 = r3 → Fq [3, 4, 6, 7, 8, 9] σ σ1 → Ps σ1 b n r3 → ew_G g kX2_readFix 4 22 [.ref t, .int e, .int (nuV 0 999 r2)] [] (tw t σ1 h) Q := by
    intro r3 σ1 hr hF hP1
    rw [hr] at hq2
    cases r3 with
    | inl f =>
      have hP2 := hP1
      obtain ⟨h3, h0, h4⟩ := hP1
      refine ew_aload_n (pc := 22) dX2_readFix_22 rfl ?_
      refine tg_g3 (pc := 23) rfl dX2_readFix_23 ?_
      rw [h3]
      refine ew_if_le (pc := 26) (tgt := 30) dX2_readFix_26 (by decide) (fun c26 => absurd c26 (i_nle0 h0)) (fun c26 => ?_)
      refine ew_vret (pc := 29) rfl dX2_readFix_29 ?_
      exact hq2 σ1 (hF.w rfl) ⟨hP2, fun h9 => absurd h9 Bool.false_ne_true⟩
    | inr x =>
      have hP2 := hP1
      obtain ⟨h3, ⟨h8, h6, h7, h9⟩, hO, hA4⟩ := hP1
      have ha2 : aL r2 = true := aL_nu (b := b) (n := n) (lo := 0) (hi := 999) (by rw [hr]; rfl)
      have ha3 : aL (evK b s.2.1 (nE s.1) s.2.2.1 (nxR b n r)) = true := by rw [hr2] at ha2; exact aL_nx ha2
      have ha : aL r = true := aL_nx (aL_evK ha3)
      obtain ⟨x2, j, -, -, hj, hej, -, -⟩ := ev_al ha3
      have hm2 := hm ha
      have hs1 := (hS ha).fq hF rfl
      have hE := hm2.2.1
      have hej2 : e = nI j := he.trans hej
      subst hej2
      have hix : ix (evV b s.2.1 (nE s.1) (nxR b n r)) = j := by rw [hej]; exact ix_nI (by omega)
      refine ew_aload_n (pc := 22) dX2_readFix_22 rfl ?_
      refine tg_g3 (pc := 23) rfl dX2_readFix_23 ?_
      rw [h3]
      refine ew_if_le (pc := 26) (tgt := 30) dX2_readFix_26 (by decide) (fun c26 => ?_) (fun c26 => absurd (by decide) c26)
      refine ew_aload_n (pc := 30) dX2_readFix_30 rfl ?_
      refine ew_dup (pc := 31) dX2_readFix_31 rfl ?_
      refine tg_g12 (pc := 32) rfl dX2_readFix_32 ?_
      refine ew_iconst (pc := 35) (v := 1) dX2_readFix_35 rfl ?_
      refine ew_iload_n (pc := 36) dX2_readFix_36 rfl ?_
      refine ew_ishl (pc := 37) dX2_readFix_37 ?_
      refine ew_ior (pc := 38) dX2_readFix_38 ?_
      refine tg_p12 (pc := 39) rfl dX2_readFix_39 ?_
      refine ew_aload_n (pc := 42) dX2_readFix_42 rfl ?_
      refine tg_g16 (pc := 43) rfl dX2_readFix_43 ?_
      refine ew_sipush (pc := 46) (v := 146) dX2_readFix_46 rfl ?_
      refine ew_iload_n (pc := 49) dX2_readFix_49 rfl ?_
      refine ew_iadd (pc := 50) dX2_readFix_50 ?_
      refine ew_iload_n (pc := 51) dX2_readFix_51 rfl ?_
      refine tg_s16 (pc := 52) (j := 146 + j) (nI_add 146 j) (by omega) dX2_readFix_52 ?_
      refine ew_vret (pc := 53) rfl dX2_readFix_53 ?_
      refine hq2 _ (((hF.w rfl).xI 12 _ rfl).xA 16 _ rfl) ⟨(hP2.fq (Fq.I (S := [12]) σ1 12 _ rfl) rfl).fq (Fq.A (S := [16]) _ 16 _ rfl) rfl, fun _ => ?_⟩
      rw [lnF, hej, ix_nI (by omega)]
      refine ⟨?_, hs1.2.1, (congrArg (· ||| shl1 (nI j)) (hs1.2.2.1)), hs1.2.2.2.1, hs1.2.2.2.2.1, hs1.2.2.2.2.2⟩
      show upd (σ1.2 16) _ _ = _
      rw [hs1.1, hr2]
  refine ew_enter (by decide +kernel) (ew_a1 rfl (ew_an (ew_an ew_az))) (Nat.le_of_ble_eq_true rfl) ?_
  cases r with
  | inl f =>
    refine ew_aload_n (pc := 0) dX2_readFix_0 rfl ?_
    refine ew_cV0 (d' := 1) (pc := 1) vX2_122 (tw_ro _ _ _ _) dX2_readFix_1 (by decide) (ew_rm (Nat.le_of_ble_eq_true rfl)) ?_
    refine t_nxt hT hP (fun σ1 F1 P1 => ?_)
    refine ew_Kv ?_
    refine ew_aload_n (pc := 4) dX2_readFix_4 rfl ?_
    refine ew_aload_n (pc := 5) dX2_readFix_5 rfl ?_
    refine tg_g12 (pc := 6) rfl dX2_readFix_6 ?_
    refine ew_cV1 (d' := 3) (pc := 9) vX2_142 (tw_ro _ _ _ _) dX2_readFix_9 (by decide) (ew_rm (Nat.le_of_ble_eq_true rfl)) ?_
    refine t_ev (nm := s.2.1) (m := nE s.1) (hT.fq F1 rfl rfl) P1 (fun h9 => absurd h9 Bool.false_ne_true) (fun σ2 F2 P2 => ?_)
    refine ew_Kr ?_
    refine ew_istore_n (pc := 12) dX2_readFix_12 rfl (by decide) (p1_1 rfl) ?_
    refine ew_aload_n (pc := 13) dX2_readFix_13 rfl ?_
    refine ew_iconst (pc := 14) (v := 0) dX2_readFix_14 rfl ?_
    refine ew_sipush (pc := 15) (v := 999) dX2_readFix_15 rfl ?_
    refine ew_cV2 (d' := 2) (pc := 18) vX2_145 (tw_ro _ _ _ _) dX2_readFix_18 (by decide) (ew_rm (Nat.le_of_ble_eq_true rfl)) ?_
    rw [evR_l] at P2 hr2
    refine t_num (r := r2) ((hT.fq F1 rfl rfl).fq F2 rfl rfl) (by rw [hr2]; exact P2) (fun σ3 F3 P3 => ?_)
    rw [← he]
    refine ew_Kr ?_
    refine ew_istore_n (pc := 21) dX2_readFix_21 rfl (by decide) (p1_2 rfl) ?_
    exact s22 _ σ3 rfl (((F1.w rfl).u F2 rfl).u F3 rfl) P3
  | inr x =>
    have hs := hS rfl
    have hm2 := hm rfl
    refine ew_aload_n (pc := 0) dX2_readFix_0 rfl ?_
    refine ew_cV0 (d' := 1) (pc := 1) vX2_122 (tw_ro _ _ _ _) dX2_readFix_1 (by decide) (ew_rm (Nat.le_of_ble_eq_true rfl)) ?_
    refine t_nxt hT hP (fun σ1 F1 P1 => ?_)
    have hs1 := hs.fq F1 rfl
    refine ew_Kv ?_
    refine ew_aload_n (pc := 4) dX2_readFix_4 rfl ?_
    refine ew_aload_n (pc := 5) dX2_readFix_5 rfl ?_
    refine tg_g12 (pc := 6) rfl dX2_readFix_6 ?_
    refine ew_cV1 (d' := 3) (pc := 9) vX2_142 (tw_ro _ _ _ _) dX2_readFix_9 (by decide) (ew_rm (Nat.le_of_ble_eq_true rfl)) ?_
    rw [hs1.2.2.1]
    refine t_ev (nm := s.2.1) (m := nE s.1) (hT.fq F1 rfl rfl) P1 (fun _ => ⟨hs1.2.1, hm2.2.1, (congrFun hs1.1 0).trans hm2.1⟩) (fun σ2 F2 P2 => ?_)
    refine ew_Kr ?_
    refine ew_istore_n (pc := 12) dX2_readFix_12 rfl (by decide) (p1_1 rfl) ?_
    refine ew_aload_n (pc := 13) dX2_readFix_13 rfl ?_
    refine ew_iconst (pc := 14) (v := 0) dX2_readFix_14 rfl ?_
    refine ew_sipush (pc := 15) (v := 999) dX2_readFix_15 rfl ?_
    refine ew_cV2 (d' := 2) (pc := 18) vX2_145 (tw_ro _ _ _ _) dX2_readFix_18 (by decide) (ew_rm (Nat.le_of_ble_eq_true rfl)) ?_
    refine t_num (r := r2) ((hT.fq F1 rfl rfl).fq F2 rfl rfl) (by rw [hr2]; exact P2) (fun σ3 F3 P3 => ?_)
    rw [← he]
    refine ew_Kr ?_
    refine ew_istore_n (pc := 21) dX2_readFix_21 rfl (by decide) (p1_2 rfl) ?_
    exact s22 _ σ3 rfl (((F1.w rfl).u F2 rfl).u F3 rfl) P3
theorem t_readDelay {g : eg} {h : eh} {t n : Nat} {σ : tS} {b : Nat → Int32} {r : rs} {s : pst} {Q : Outcome → eh → Prop} (hT : Tx σ b n) (hJ : Jp σ b n (r, s)) (hm : aL r = true → okP s)
    (hq : ∀ σ', Fq [3, 4, 6, 7, 8, 9, 10, 12, 13, 14, 15, 16] σ σ' → Jp σ' b n (lnD b n r s) → Q (.returned none) (tw t σ' h)) : ew_T g kX2_readDelay 4 [.ref t] (tw t σ h) Q := by
  obtain ⟨hP, hS⟩ := hJ
  obtain ⟨e, he⟩ : ∃ e, e = evV b s.2.1 (nE s.1) (nxR b n r) := ⟨_, rfl⟩
  obtain ⟨r2, hr2⟩ : ∃ r2, r2 = evR b n s.2.1 (nE s.1) s.2.2.2.1 (nxR b n r) := ⟨_, rfl⟩
  have hq2 : ∀ σ', Fq [3, 4, 6, 7, 8, 9, 10, 12, 13, 14, 15, 16] σ σ' → Jp σ' b n (nuR b n 0 99 r2, (lnD b n r s).2) → Q (.returned none) (tw t σ' h) := by
    subst hr2
    exact hq
  have s22 : ∀ r3 σ1, nuR b n 0 99 r2 = r3 → Fq [3, 4, 6, 7, 8, 9] σ σ1 → Ps σ1 b n r3 → ew_G g kX2_readDelay 4 21 [.ref t, .int e, .int (nuV 0 99 r2)] [] (tw t σ1 h) Q := by
    intro r3 σ1 hr hF hP1
    rw [hr] at hq2
    cases r3 with
    | inl f =>
      have hP2 := hP1
      obtain ⟨h3, h0, h4⟩ := hP1
      refine ew_aload_n (pc := 21) dX2_readDelay_21 rfl ?_
      refine tg_g3 (pc := 22) rfl dX2_readDelay_22 ?_
      rw [h3]
      refine ew_if_le (pc := 25) (tgt := 29) dX2_readDelay_25 (by decide) (fun c25 => absurd c25 (i_nle0 h0)) (fun c25 => ?_)
      refine ew_vret (pc := 28) rfl dX2_readDelay_28 ?_
      exact hq2 σ1 (hF.w rfl) ⟨hP2, fun h9 => absurd h9 Bool.false_ne_true⟩
    | inr x =>
      have hP2 := hP1
      obtain ⟨h3, ⟨h8, h6, h7, h9⟩, hO, hA4⟩ := hP1
      have ha2 : aL r2 = true := aL_nu (b := b) (n := n) (lo := 0) (hi := 99) (by rw [hr]; rfl)
      have ha3 : aL (evK b s.2.1 (nE s.1) s.2.2.2.1 (nxR b n r)) = true := by rw [hr2] at ha2; exact aL_nx ha2
      have ha : aL r = true := aL_nx (aL_evK ha3)
      obtain ⟨x2, j, -, -, hj, hej, -, -⟩ := ev_al ha3
      have hm2 := hm ha
      have hs1 := (hS ha).fq hF rfl
      have hE := hm2.2.1
      have hej2 : e = nI j := he.trans hej
      subst hej2
      have hix : ix (evV b s.2.1 (nE s.1) (nxR b n r)) = j := by rw [hej]; exact ix_nI (by omega)
      refine ew_aload_n (pc := 21) dX2_readDelay_21 rfl ?_
      refine tg_g3 (pc := 22) rfl dX2_readDelay_22 ?_
      rw [h3]
      refine ew_if_le (pc := 25) (tgt := 29) dX2_readDelay_25 (by decide) (fun c25 => ?_) (fun c25 => absurd (by decide) c25)
      refine ew_aload_n (pc := 29) dX2_readDelay_29 rfl ?_
      refine ew_dup (pc := 30) dX2_readDelay_30 rfl ?_
      refine tg_g13 (pc := 31) rfl dX2_readDelay_31 ?_
      refine ew_iconst (pc := 34) (v := 1) dX2_readDelay_34 rfl ?_
      refine ew_iload_n (pc := 35) dX2_readDelay_35 rfl ?_
      refine ew_ishl (pc := 36) dX2_readDelay_36 ?_
      refine ew_ior (pc := 37) dX2_readDelay_37 ?_
      refine tg_p13 (pc := 38) rfl dX2_readDelay_38 ?_
      refine ew_aload_n (pc := 41) dX2_readDelay_41 rfl ?_
      refine tg_g16 (pc := 42) rfl dX2_readDelay_42 ?_
      refine ew_sipush (pc := 45) (v := 156) dX2_readDelay_45 rfl ?_
      refine ew_iload_n (pc := 48) dX2_readDelay_48 rfl ?_
      refine ew_iadd (pc := 49) dX2_readDelay_49 ?_
      refine ew_iload_n (pc := 50) dX2_readDelay_50 rfl ?_
      refine tg_s16 (pc := 51) (j := 156 + j) (nI_add 156 j) (by omega) dX2_readDelay_51 ?_
      refine ew_vret (pc := 52) rfl dX2_readDelay_52 ?_
      refine hq2 _ (((hF.w rfl).xI 13 _ rfl).xA 16 _ rfl) ⟨(hP2.fq (Fq.I (S := [13]) σ1 13 _ rfl) rfl).fq (Fq.A (S := [16]) _ 16 _ rfl) rfl, fun _ => ?_⟩
      rw [lnD, hej, ix_nI (by omega)]
      refine ⟨?_, hs1.2.1, hs1.2.2.1, (congrArg (· ||| shl1 (nI j)) (hs1.2.2.2.1)), hs1.2.2.2.2.1, hs1.2.2.2.2.2⟩
      show upd (σ1.2 16) _ _ = _
      rw [hs1.1, hr2]
  refine ew_enter (by decide +kernel) (ew_a1 rfl (ew_an (ew_an ew_az))) (Nat.le_of_ble_eq_true rfl) ?_
  cases r with
  | inl f =>
    refine ew_aload_n (pc := 0) dX2_readDelay_0 rfl ?_
    refine ew_cV0 (d' := 1) (pc := 1) vX2_122 (tw_ro _ _ _ _) dX2_readDelay_1 (by decide) (ew_rm (Nat.le_of_ble_eq_true rfl)) ?_
    refine t_nxt hT hP (fun σ1 F1 P1 => ?_)
    refine ew_Kv ?_
    refine ew_aload_n (pc := 4) dX2_readDelay_4 rfl ?_
    refine ew_aload_n (pc := 5) dX2_readDelay_5 rfl ?_
    refine tg_g13 (pc := 6) rfl dX2_readDelay_6 ?_
    refine ew_cV1 (d' := 3) (pc := 9) vX2_142 (tw_ro _ _ _ _) dX2_readDelay_9 (by decide) (ew_rm (Nat.le_of_ble_eq_true rfl)) ?_
    refine t_ev (nm := s.2.1) (m := nE s.1) (hT.fq F1 rfl rfl) P1 (fun h9 => absurd h9 Bool.false_ne_true) (fun σ2 F2 P2 => ?_)
    refine ew_Kr ?_
    refine ew_istore_n (pc := 12) dX2_readDelay_12 rfl (by decide) (p1_1 rfl) ?_
    refine ew_aload_n (pc := 13) dX2_readDelay_13 rfl ?_
    refine ew_iconst (pc := 14) (v := 0) dX2_readDelay_14 rfl ?_
    refine ew_bipush (pc := 15) (v := 99) dX2_readDelay_15 rfl ?_
    refine ew_cV2 (d' := 2) (pc := 17) vX2_145 (tw_ro _ _ _ _) dX2_readDelay_17 (by decide) (ew_rm (Nat.le_of_ble_eq_true rfl)) ?_
    rw [evR_l] at P2 hr2
    refine t_num (r := r2) ((hT.fq F1 rfl rfl).fq F2 rfl rfl) (by rw [hr2]; exact P2) (fun σ3 F3 P3 => ?_)
    rw [← he]
    refine ew_Kr ?_
    refine ew_istore_n (pc := 20) dX2_readDelay_20 rfl (by decide) (p1_2 rfl) ?_
    exact s22 _ σ3 rfl (((F1.w rfl).u F2 rfl).u F3 rfl) P3
  | inr x =>
    have hs := hS rfl
    have hm2 := hm rfl
    refine ew_aload_n (pc := 0) dX2_readDelay_0 rfl ?_
    refine ew_cV0 (d' := 1) (pc := 1) vX2_122 (tw_ro _ _ _ _) dX2_readDelay_1 (by decide) (ew_rm (Nat.le_of_ble_eq_true rfl)) ?_
    refine t_nxt hT hP (fun σ1 F1 P1 => ?_)
    have hs1 := hs.fq F1 rfl
    refine ew_Kv ?_
    refine ew_aload_n (pc := 4) dX2_readDelay_4 rfl ?_
    refine ew_aload_n (pc := 5) dX2_readDelay_5 rfl ?_
    refine tg_g13 (pc := 6) rfl dX2_readDelay_6 ?_
    refine ew_cV1 (d' := 3) (pc := 9) vX2_142 (tw_ro _ _ _ _) dX2_readDelay_9 (by decide) (ew_rm (Nat.le_of_ble_eq_true rfl)) ?_
    rw [hs1.2.2.2.1]
    refine t_ev (nm := s.2.1) (m := nE s.1) (hT.fq F1 rfl rfl) P1 (fun _ => ⟨hs1.2.1, hm2.2.1, (congrFun hs1.1 0).trans hm2.1⟩) (fun σ2 F2 P2 => ?_)
    refine ew_Kr ?_
    refine ew_istore_n (pc := 12) dX2_readDelay_12 rfl (by decide) (p1_1 rfl) ?_
    refine ew_aload_n (pc := 13) dX2_readDelay_13 rfl ?_
    refine ew_iconst (pc := 14) (v := 0) dX2_readDelay_14 rfl ?_
    refine ew_bipush (pc := 15) (v := 99) dX2_readDelay_15 rfl ?_
    refine ew_cV2 (d' := 2) (pc := 17) vX2_145 (tw_ro _ _ _ _) dX2_readDelay_17 (by decide) (ew_rm (Nat.le_of_ble_eq_true rfl)) ?_
    refine t_num (r := r2) ((hT.fq F1 rfl rfl).fq F2 rfl rfl) (by rw [hr2]; exact P2) (fun σ3 F3 P3 => ?_)
    rw [← he]
    refine ew_Kr ?_
    refine ew_istore_n (pc := 20) dX2_readDelay_20 rfl (by decide) (p1_2 rfl) ?_
    exact s22 _ σ3 rfl (((F1.w rfl).u F2 rfl).u F3 rfl) P3
theorem t_readWish {g : eg} {h : eh} {t n : Nat} {σ : tS} {b : Nat → Int32} {r : rs} {s : pst} {Q : Outcome → eh → Prop} (hT : Tx σ b n) (hJ : Jp σ b n (r, s)) (hm : aL r = true → okP s)
    (hq : ∀ σ', Fq [3, 4, 6, 7, 8, 9, 10, 12, 13, 14, 15, 16] σ σ' → Jp σ' b n (lnS b n r s) → Q (.returned none) (tw t σ' h)) : ew_T g kX2_readWish 4 [.ref t] (tw t σ h) Q := by
  obtain ⟨hP, hS⟩ := hJ
  obtain ⟨e, he⟩ : ∃ e, e = evV b s.2.1 (nE s.1) (nxR b n r) := ⟨_, rfl⟩
  obtain ⟨r2, hr2⟩ : ∃ r2, r2 = evR b n s.2.1 (nE s.1) s.2.2.2.2.1 (nxR b n r) := ⟨_, rfl⟩
  have hq2 : ∀ σ', Fq [3, 4, 6, 7, 8, 9, 10, 12, 13, 14, 15, 16] σ σ' → Jp σ' b n (nuR b n 0 999 r2, (lnS b n r s).2) → Q (.returned none) (tw t σ' h) := by
    subst hr2
    exact hq
  have s22 : ∀ r3 σ1, nuR b n 0 999 r2 = r3 → Fq [3, 4, 6, 7, 8, 9] σ σ1 → Ps σ1 b n r3 → ew_G g kX2_readWish 4 22 [.ref t, .int e, .int (nuV 0 999 r2)] [] (tw t σ1 h) Q := by
    intro r3 σ1 hr hF hP1
    rw [hr] at hq2
    cases r3 with
    | inl f =>
      have hP2 := hP1
      obtain ⟨h3, h0, h4⟩ := hP1
      refine ew_aload_n (pc := 22) dX2_readWish_22 rfl ?_
      refine tg_g3 (pc := 23) rfl dX2_readWish_23 ?_
      rw [h3]
      refine ew_if_le (pc := 26) (tgt := 30) dX2_readWish_26 (by decide) (fun c26 => absurd c26 (i_nle0 h0)) (fun c26 => ?_)
      refine ew_vret (pc := 29) rfl dX2_readWish_29 ?_
      exact hq2 σ1 (hF.w rfl) ⟨hP2, fun h9 => absurd h9 Bool.false_ne_true⟩
    | inr x =>
      have hP2 := hP1
      obtain ⟨h3, ⟨h8, h6, h7, h9⟩, hO, hA4⟩ := hP1
      have ha2 : aL r2 = true := aL_nu (b := b) (n := n) (lo := 0) (hi := 999) (by rw [hr]; rfl)
      have ha3 : aL (evK b s.2.1 (nE s.1) s.2.2.2.2.1 (nxR b n r)) = true := by rw [hr2] at ha2; exact aL_nx ha2
      have ha : aL r = true := aL_nx (aL_evK ha3)
      obtain ⟨x2, j, -, -, hj, hej, -, -⟩ := ev_al ha3
      have hm2 := hm ha
      have hs1 := (hS ha).fq hF rfl
      have hE := hm2.2.1
      have hej2 : e = nI j := he.trans hej
      subst hej2
      have hix : ix (evV b s.2.1 (nE s.1) (nxR b n r)) = j := by rw [hej]; exact ix_nI (by omega)
      refine ew_aload_n (pc := 22) dX2_readWish_22 rfl ?_
      refine tg_g3 (pc := 23) rfl dX2_readWish_23 ?_
      rw [h3]
      refine ew_if_le (pc := 26) (tgt := 30) dX2_readWish_26 (by decide) (fun c26 => ?_) (fun c26 => absurd (by decide) c26)
      refine ew_aload_n (pc := 30) dX2_readWish_30 rfl ?_
      refine ew_dup (pc := 31) dX2_readWish_31 rfl ?_
      refine tg_g14 (pc := 32) rfl dX2_readWish_32 ?_
      refine ew_iconst (pc := 35) (v := 1) dX2_readWish_35 rfl ?_
      refine ew_iload_n (pc := 36) dX2_readWish_36 rfl ?_
      refine ew_ishl (pc := 37) dX2_readWish_37 ?_
      refine ew_ior (pc := 38) dX2_readWish_38 ?_
      refine tg_p14 (pc := 39) rfl dX2_readWish_39 ?_
      refine ew_aload_n (pc := 42) dX2_readWish_42 rfl ?_
      refine tg_g16 (pc := 43) rfl dX2_readWish_43 ?_
      refine ew_sipush (pc := 46) (v := 166) dX2_readWish_46 rfl ?_
      refine ew_iload_n (pc := 49) dX2_readWish_49 rfl ?_
      refine ew_iadd (pc := 50) dX2_readWish_50 ?_
      refine ew_iload_n (pc := 51) dX2_readWish_51 rfl ?_
      refine tg_s16 (pc := 52) (j := 166 + j) (nI_add 166 j) (by omega) dX2_readWish_52 ?_
      refine ew_vret (pc := 53) rfl dX2_readWish_53 ?_
      refine hq2 _ (((hF.w rfl).xI 14 _ rfl).xA 16 _ rfl) ⟨(hP2.fq (Fq.I (S := [14]) σ1 14 _ rfl) rfl).fq (Fq.A (S := [16]) _ 16 _ rfl) rfl, fun _ => ?_⟩
      rw [lnS, hej, ix_nI (by omega)]
      refine ⟨?_, hs1.2.1, hs1.2.2.1, hs1.2.2.2.1, (congrArg (· ||| shl1 (nI j)) (hs1.2.2.2.2.1)), hs1.2.2.2.2.2⟩
      show upd (σ1.2 16) _ _ = _
      rw [hs1.1, hr2]
  refine ew_enter (by decide +kernel) (ew_a1 rfl (ew_an (ew_an ew_az))) (Nat.le_of_ble_eq_true rfl) ?_
  cases r with
  | inl f =>
    refine ew_aload_n (pc := 0) dX2_readWish_0 rfl ?_
    refine ew_cV0 (d' := 1) (pc := 1) vX2_122 (tw_ro _ _ _ _) dX2_readWish_1 (by decide) (ew_rm (Nat.le_of_ble_eq_true rfl)) ?_
    refine t_nxt hT hP (fun σ1 F1 P1 => ?_)
    refine ew_Kv ?_
    refine ew_aload_n (pc := 4) dX2_readWish_4 rfl ?_
    refine ew_aload_n (pc := 5) dX2_readWish_5 rfl ?_
    refine tg_g14 (pc := 6) rfl dX2_readWish_6 ?_
    refine ew_cV1 (d' := 3) (pc := 9) vX2_142 (tw_ro _ _ _ _) dX2_readWish_9 (by decide) (ew_rm (Nat.le_of_ble_eq_true rfl)) ?_
    refine t_ev (nm := s.2.1) (m := nE s.1) (hT.fq F1 rfl rfl) P1 (fun h9 => absurd h9 Bool.false_ne_true) (fun σ2 F2 P2 => ?_)
    refine ew_Kr ?_
    refine ew_istore_n (pc := 12) dX2_readWish_12 rfl (by decide) (p1_1 rfl) ?_
    refine ew_aload_n (pc := 13) dX2_readWish_13 rfl ?_
    refine ew_iconst (pc := 14) (v := 0) dX2_readWish_14 rfl ?_
    refine ew_sipush (pc := 15) (v := 999) dX2_readWish_15 rfl ?_
    refine ew_cV2 (d' := 2) (pc := 18) vX2_145 (tw_ro _ _ _ _) dX2_readWish_18 (by decide) (ew_rm (Nat.le_of_ble_eq_true rfl)) ?_
    rw [evR_l] at P2 hr2
    refine t_num (r := r2) ((hT.fq F1 rfl rfl).fq F2 rfl rfl) (by rw [hr2]; exact P2) (fun σ3 F3 P3 => ?_)
    rw [← he]
    refine ew_Kr ?_
    refine ew_istore_n (pc := 21) dX2_readWish_21 rfl (by decide) (p1_2 rfl) ?_
    exact s22 _ σ3 rfl (((F1.w rfl).u F2 rfl).u F3 rfl) P3
  | inr x =>
    have hs := hS rfl
    have hm2 := hm rfl
    refine ew_aload_n (pc := 0) dX2_readWish_0 rfl ?_
    refine ew_cV0 (d' := 1) (pc := 1) vX2_122 (tw_ro _ _ _ _) dX2_readWish_1 (by decide) (ew_rm (Nat.le_of_ble_eq_true rfl)) ?_
    refine t_nxt hT hP (fun σ1 F1 P1 => ?_)
    have hs1 := hs.fq F1 rfl
    refine ew_Kv ?_
    refine ew_aload_n (pc := 4) dX2_readWish_4 rfl ?_
    refine ew_aload_n (pc := 5) dX2_readWish_5 rfl ?_
    refine tg_g14 (pc := 6) rfl dX2_readWish_6 ?_
    refine ew_cV1 (d' := 3) (pc := 9) vX2_142 (tw_ro _ _ _ _) dX2_readWish_9 (by decide) (ew_rm (Nat.le_of_ble_eq_true rfl)) ?_
    rw [hs1.2.2.2.2.1]
    refine t_ev (nm := s.2.1) (m := nE s.1) (hT.fq F1 rfl rfl) P1 (fun _ => ⟨hs1.2.1, hm2.2.1, (congrFun hs1.1 0).trans hm2.1⟩) (fun σ2 F2 P2 => ?_)
    refine ew_Kr ?_
    refine ew_istore_n (pc := 12) dX2_readWish_12 rfl (by decide) (p1_1 rfl) ?_
    refine ew_aload_n (pc := 13) dX2_readWish_13 rfl ?_
    refine ew_iconst (pc := 14) (v := 0) dX2_readWish_14 rfl ?_
    refine ew_sipush (pc := 15) (v := 999) dX2_readWish_15 rfl ?_
    refine ew_cV2 (d' := 2) (pc := 18) vX2_145 (tw_ro _ _ _ _) dX2_readWish_18 (by decide) (ew_rm (Nat.le_of_ble_eq_true rfl)) ?_
    refine t_num (r := r2) ((hT.fq F1 rfl rfl).fq F2 rfl rfl) (by rw [hr2]; exact P2) (fun σ3 F3 P3 => ?_)
    rw [← he]
    refine ew_Kr ?_
    refine ew_istore_n (pc := 21) dX2_readWish_21 rfl (by decide) (p1_2 rfl) ?_
    exact s22 _ σ3 rfl (((F1.w rfl).u F2 rfl).u F3 rfl) P3
