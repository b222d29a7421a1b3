/-! EW: the reference: the net tightened, mended; undo, save -/
set_option maxRecDepth 100000
abbrev tgI (N : Nat → Int32) (a : Nat) (x : Int32) : Prop := 999 < x ∨ N a = x
def tgF (N : Nat → Int32) (a : Nat) (x : Int32) : Nat → Int32 := if tgI N a x then N else upd N a x
def tgC (N : Nat → Int32) (a : Nat) (x : Int32) : Int32 := if tgI N a x then 0 else 1
theorem t_tightens {g : eg} {h : eh} {t a : Nat} {σ : tS} {x : Int32} {M : Nat → Int32} {Q : Outcome → eh → Prop} (hM : σ.2 16 = M) (ha : a < 176) (hq : ∀ σ', Fq [16] σ σ' → σ'.2 16 = tgF M a x → Q (.returned (some (.int (tgC M a x)))) (tw t σ' h)) : ew_T g kX2_tightens 0 [.ref t, .int (nI a), .int x] (tw t σ h) Q := by
  subst hM
  rw [tgC, tgF] at hq
  refine ew_enter (by decide +kernel) (ew_a1 rfl (ew_a1 rfl (ew_a1 rfl ew_az))) (Nat.le_of_ble_eq_true rfl) ?_
  refine ew_iload_n (pc := 0) dX2_tightens_0 rfl ?_
  refine ew_sipush (pc := 1) (v := 999) dX2_tightens_1 rfl ?_
  refine ew_icmp_gt (pc := 4) (tgt := 17) dX2_tightens_4 (by decide) (fun c4 => ?_) (fun c4 => ?_)
  · refine ew_iconst (pc := 17) (v := 0) dX2_tightens_17 rfl ?_
    refine ew_iret (pc := 18) rfl dX2_tightens_18 ?_
    first
    | rw [if_pos (show tgI (σ.2 16) a x by first | exact Or.inl (Int32.not_le.mp c4) | exact Or.inl c4 | exact Or.inr c14), if_pos (show tgI (σ.2 16) a x by first | exact Or.inl (Int32.not_le.mp c4) | exact Or.inl c4 | exact Or.inr c14)] at hq
      exact hq σ (Fq.r _ _) rfl
    | rw [if_neg (show ¬ tgI (σ.2 16) a x from fun h9 => h9.elim (fun h8 => by first | exact c4 h8 | exact absurd h8 (Int32.not_lt.mpr c4)) c14), if_neg (show ¬ tgI (σ.2 16) a x from fun h9 => h9.elim (fun h8 => by first | exact c4 h8 | exact absurd h8 (Int32.not_lt.mpr c4)) c14)] at hq
      exact hq _ (Fq.A _ 16 _ rfl) rfl
  · refine ew_aload_n (pc := 7) dX2_tightens_7 rfl ?_
    refine tg_g16 (pc := 8) rfl dX2_tightens_8 ?_
    refine ew_iload_n (pc := 11) dX2_tightens_11 rfl ?_
    refine tg_l16 (pc := 12) (j := a) rfl ha dX2_tightens_12 ?_
    refine ew_iload_n (pc := 13) dX2_tightens_13 rfl ?_
    refine ew_icmp_ne (pc := 14) (tgt := 19) dX2_tightens_14 (by decide) (fun c14 => ?_) (fun c14 => ?_)
    · refine ew_aload_n (pc := 19) dX2_tightens_19 rfl ?_
      refine tg_g16 (pc := 20) rfl dX2_tightens_20 ?_
      refine ew_iload_n (pc := 23) dX2_tightens_23 rfl ?_
      refine ew_iload_n (pc := 24) dX2_tightens_24 rfl ?_
      refine tg_s16 (pc := 25) (j := a) rfl ha dX2_tightens_25 ?_
      refine ew_iconst (pc := 26) (v := 1) dX2_tightens_26 rfl ?_
      refine ew_iret (pc := 27) rfl dX2_tightens_27 ?_
      first
      | rw [if_pos (show tgI (σ.2 16) a x by first | exact Or.inl (Int32.not_le.mp c4) | exact Or.inl c4 | exact Or.inr c14), if_pos (show tgI (σ.2 16) a x by first | exact Or.inl (Int32.not_le.mp c4) | exact Or.inl c4 | exact Or.inr c14)] at hq
        exact hq σ (Fq.r _ _) rfl
      | rw [if_neg (show ¬ tgI (σ.2 16) a x from fun h9 => h9.elim (fun h8 => by first | exact c4 h8 | exact absurd h8 (Int32.not_lt.mpr c4)) c14), if_neg (show ¬ tgI (σ.2 16) a x from fun h9 => h9.elim (fun h8 => by first | exact c4 h8 | exact absurd h8 (Int32.not_lt.mpr c4)) c14)] at hq
        exact hq _ (Fq.A _ 16 _ rfl) rfl
    · refine ew_iconst (pc := 17) (v := 0) dX2_tightens_17 rfl ?_
      refine ew_iret (pc := 18) rfl dX2_tightens_18 ?_
      first
      | rw [if_pos (show tgI (σ.2 16) a x by first | exact Or.inl (Int32.not_le.mp c4) | exact Or.inl c4 | exact Or.inr c14), if_pos (show tgI (σ.2 16) a x by first | exact Or.inl (Int32.not_le.mp c4) | exact Or.inl c4 | exact Or.inr c14)] at hq
        exact hq σ (Fq.r _ _) rfl
      | rw [if_neg (show ¬ tgI (σ.2 16) a x from fun h9 => h9.elim (fun h8 => by first | exact c4 h8 | exact absurd h8 (Int32.not_lt.mpr c4)) c14), if_neg (show ¬ tgI (σ.2 16) a x from fun h9 => h9.elim (fun h8 => by first | exact c4 h8 | exact absurd h8 (Int32.not_lt.mpr c4)) c14)] at hq
        exact hq _ (Fq.A _ 16 _ rfl) rfl
/-- one window is tightened -/
def tiT (N F : Nat → Int32) (w : Nat) (s : (Nat → Int32) × Int32) : (Nat → Int32) × Int32 := if N (2 + 6 * w + 5) = 1 then s else (tgF (tgF s.1 (2 + 6 * w + 2) (leastV F (fA N w) (fB N w))) (2 + 6 * w + 3) (mostV F (fA N w) (fB N w)), s.2 + tgC s.1 (2 + 6 * w + 2) (leastV F (fA N w) (fB N w)) + tgC (tgF s.1 (2 + 6 * w + 2) (leastV F (fA N w) (fB N w))) (2 + 6 * w + 3) (mostV F (fA N w) (fB N w)))
def tiS (N F : Nat → Int32) : Nat → (Nat → Int32) × Int32
  | 0 => (N, 0)
  | w + 1 => tiT N F w (tiS N F w)
theorem tgF_at {N : Nat → Int32} {a k : Nat} {x : Int32} (h : k ≠ a) : tgF N a x k = N k := by
  unfold tgF
  split
  · rfl
  · rw [upd, if_neg h]
theorem tiS_at (N F : Nat → Int32) : ∀ m k, ¬ k % 6 = 4 → ¬ k % 6 = 5 → (tiS N F m).1 k = N k
  | 0, _, _, _ => rfl
  | m + 1, k, h4, h5 => by
    rw [tiS, tiT]
    split
    · exact tiS_at N F m k h4 h5
    · show tgF (tgF (tiS N F m).1 (2 + 6 * m + 2) _) (2 + 6 * m + 3) _ k = N k
      rw [tgF_at (by omega), tgF_at (by omega)]
      exact tiS_at N F m k h4 h5
theorem o_tighten {g : eg} {h : eh} {t : Nat} {σ : tS} {N : Nat → Int32} {P : List (Nat → Int32)} {Q : Outcome → eh → Prop} (hJ : TJ σ N) (hP : Pa σ P)
    (hq : ∀ σ' r, Ch σ (se1 (σ.1 21) (sB N) 1) (tiS N (sF N) (nW N)).2 N (tiS N (sF N) (nW N)).1 P σ' r → Q (.returned (some (.int r))) (tw t σ' h)) : ew_T g kX2_tighten 7 [.ref t] (tw t σ h) Q := by
  have hw : nW N ≤ 24 := hJ.z.2.2.2
  have main : okN N → ∀ σ1, (∀ σ', Fq [16] σ1 σ' → σ'.2 16 = (tiS N (sF N) (nW N)).1 → Q (.returned (some (.int (tiS N (sF N) (nW N)).2))) (tw t σ' h)) → Ag (σ1.2 29) (sF N) → ∀ m w σ', w + m = nW N → Fq [16] σ1 σ' → σ'.2 16 = (tiS N (sF N) w).1 → ew_G g kX2_tighten 7 18 [.ref t, .int (tiS N (sF N) w).2, .int (nI w)] [] (tw t σ' h) Q := by
    intro ok σ1 hq9 hA m
    have hn := ok.e2
    induction m with
    | zero =>
      intro w σ' hw9 hF hM
      have e9 : w = nW N := by omega
      subst e9
      have h1 : σ'.2 16 1 = nI (nW N) := by rw [hM, tiS_at _ _ _ _ (by decide) (by decide)]; exact ok.w
      refine ew_iload_n (pc := 18) dX2_tighten_18 rfl ?_
      refine ew_aload_n (pc := 19) dX2_tighten_19 rfl ?_
      refine ew_cV0 (d' := 0) (pc := 20) vX2_220 (tw_ro _ _ _ _) dX2_tighten_20 (by decide) (ew_rm (Nat.le_of_ble_eq_true rfl)) ?_
      refine t_windowsNow ?_
      rw [h1]
      refine ew_Kr ?_
      refine ew_icmp_ge (pc := 23) (tgt := 99) dX2_tighten_23 (by decide) (fun c23 => ?_) (fun c23 => absurd (nI_le (Nat.le_refl _) (by omega)) c23)
      refine ew_iload_n (pc := 99) dX2_tighten_99 rfl ?_
      refine ew_iret (pc := 100) rfl dX2_tighten_100 ?_
      exact hq9 σ' hF hM
    | succ m ih =>
      intro w σ' hw9 hF hM
      have hwl : w < nW N := by omega
      have h1 : σ'.2 16 1 = nI (nW N) := by rw [hM, tiS_at _ _ _ _ (by decide) (by decide)]; exact ok.w
      have hD : σ'.2 16 (2 + 6 * w + 5) = N (2 + 6 * w + 5) := by rw [hM, tiS_at _ _ _ _ (by omega) (by omega)]
      have hA0 : σ'.2 16 (2 + 6 * w + 0) = nI (fA N w) := by rw [hM, tiS_at _ _ _ _ (by omega) (by omega)]; exact ok.a w hwl
      have hB0 : σ'.2 16 (2 + 6 * w + 1) = nI (fB N w) := by rw [hM, tiS_at _ _ _ _ (by omega) (by omega)]; exact ok.b w hwl
      have hal := ok.al w hwl
      have hbl := ok.bl w hwl
      have hA1 : Ag (σ'.2 29) (sF N) := by rw [hF.a 29 rfl]; exact hA
      have ih1 := ih (w + 1)
      rw [tiS, tiT] at ih1
      refine ew_iload_n (pc := 18) dX2_tighten_18 rfl ?_
      refine ew_aload_n (pc := 19) dX2_tighten_19 rfl ?_
      refine ew_cV0 (d' := 0) (pc := 20) vX2_220 (tw_ro _ _ _ _) dX2_tighten_20 (by decide) (ew_rm (Nat.le_of_ble_eq_true rfl)) ?_
      refine t_windowsNow ?_
      rw [h1]
      refine ew_Kr ?_
      refine ew_icmp_ge (pc := 23) (tgt := 99) dX2_tighten_23 (by decide) (fun c23 => absurd c23 (nI_ge (by omega) (by omega))) (fun c23 => ?_)
      refine ew_aload_n (pc := 26) dX2_tighten_26 rfl ?_
      refine ew_iload_n (pc := 27) dX2_tighten_27 rfl ?_
      refine ew_cV1 (d' := 2) (pc := 28) vX2_223 (tw_ro _ _ _ _) dX2_tighten_28 (by decide) (ew_rm (Nat.le_of_ble_eq_true rfl)) ?_
      refine t_isDroppedN rfl (by omega) ?_
      rw [hD]
      refine ew_Kr ?_
      refine ew_if_eq (pc := 31) (tgt := 37) dX2_tighten_31 (by decide) (fun c31 => ?_) (fun c31 => ?_)
      · refine ew_iload_n (pc := 37) dX2_tighten_37 rfl ?_
        refine ew_aload_n (pc := 38) dX2_tighten_38 rfl ?_
        refine ew_iload_n (pc := 39) dX2_tighten_39 rfl ?_
        refine ew_iconst (pc := 40) (v := 2) dX2_tighten_40 rfl ?_
        refine ew_cS2 (d' := 0) (pc := 41) sX2_162 dX2_tighten_41 (by decide) (ew_rm (Nat.le_of_ble_eq_true rfl)) ?_
        refine t_atN (i := 2) ?_
        refine ew_Kr ?_
        refine ew_aload_n (pc := 44) dX2_tighten_44 rfl ?_
        refine ew_aload_n (pc := 45) dX2_tighten_45 rfl ?_
        refine ew_iload_n (pc := 46) dX2_tighten_46 rfl ?_
        refine ew_iconst (pc := 47) (v := 0) dX2_tighten_47 rfl ?_
        refine ew_cV2 (d' := 1) (pc := 48) vX2_214 (tw_ro _ _ _ _) dX2_tighten_48 (by decide) (ew_rm (Nat.le_of_ble_eq_true rfl)) ?_
        refine t_ofT (i := 0) (by omega) (by decide) ?_
        rw [hA0]
        refine ew_Kr ?_
        refine ew_aload_n (pc := 51) dX2_tighten_51 rfl ?_
        refine ew_iload_n (pc := 52) dX2_tighten_52 rfl ?_
        refine ew_iconst (pc := 53) (v := 1) dX2_tighten_53 rfl ?_
        refine ew_cV2 (d' := 1) (pc := 54) vX2_214 (tw_ro _ _ _ _) dX2_tighten_54 (by decide) (ew_rm (Nat.le_of_ble_eq_true rfl)) ?_
        refine t_ofT (i := 1) (by omega) (by decide) ?_
        rw [hB0]
        refine ew_Kr ?_
        refine ew_cV2 (d' := 1) (pc := 57) vX2_320 (tw_ro _ _ _ _) dX2_tighten_57 (by decide) (ew_rm (Nat.le_of_ble_eq_true rfl)) ?_
        refine t_leastOf hA1 (by omega) (by omega) ?_
        refine ew_Kr ?_
        refine ew_cV2 (d' := 0) (pc := 60) vX2_447 (tw_ro _ _ _ _) dX2_tighten_60 (by decide) (ew_rm (Nat.le_of_ble_eq_true rfl)) ?_
        refine t_tightens (a := 2 + 6 * w + 2) hM (by omega) (fun σ2 F2 M2 => ?_)
        have hA2 : σ2.2 16 (2 + 6 * w + 0) = nI (fA N w) := by rw [M2, tgF_at (by omega), ← hM]; exact hA0
        have hB2 : σ2.2 16 (2 + 6 * w + 1) = nI (fB N w) := by rw [M2, tgF_at (by omega), ← hM]; exact hB0
        have hA3 : Ag (σ2.2 29) (sF N) := by rw [F2.a 29 rfl]; exact hA1
        refine ew_Kr ?_
        refine ew_iadd (pc := 63) dX2_tighten_63 ?_
        refine ew_istore_n (pc := 64) dX2_tighten_64 rfl (by decide) (p1_1 rfl) ?_
        refine ew_iload_n (pc := 65) dX2_tighten_65 rfl ?_
        refine ew_aload_n (pc := 66) dX2_tighten_66 rfl ?_
        refine ew_iload_n (pc := 67) dX2_tighten_67 rfl ?_
        refine ew_iconst (pc := 68) (v := 3) dX2_tighten_68 rfl ?_
        refine ew_cS2 (d' := 0) (pc := 69) sX2_162 dX2_tighten_69 (by decide) (ew_rm (Nat.le_of_ble_eq_true rfl)) ?_
        refine t_atN (i := 3) ?_
        refine ew_Kr ?_
        refine ew_aload_n (pc := 72) dX2_tighten_72 rfl ?_
        refine ew_aload_n (pc := 73) dX2_tighten_73 rfl ?_
        refine ew_iload_n (pc := 74) dX2_tighten_74 rfl ?_
        refine ew_iconst (pc := 75) (v := 0) dX2_tighten_75 rfl ?_
        refine ew_cV2 (d' := 1) (pc := 76) vX2_214 (tw_ro _ _ _ _) dX2_tighten_76 (by decide) (ew_rm (Nat.le_of_ble_eq_true rfl)) ?_
        refine t_ofT (i := 0) (by omega) (by decide) ?_
        rw [hA2]
        refine ew_Kr ?_
        refine ew_aload_n (pc := 79) dX2_tighten_79 rfl ?_
        refine ew_iload_n (pc := 80) dX2_tighten_80 rfl ?_
        refine ew_iconst (pc := 81) (v := 1) dX2_tighten_81 rfl ?_
        refine ew_cV2 (d' := 1) (pc := 82) vX2_214 (tw_ro _ _ _ _) dX2_tighten_82 (by decide) (ew_rm (Nat.le_of_ble_eq_true rfl)) ?_
        refine t_ofT (i := 1) (by omega) (by decide) ?_
        rw [hB2]
        refine ew_Kr ?_
        refine ew_cV2 (d' := 1) (pc := 85) vX2_317 (tw_ro _ _ _ _) dX2_tighten_85 (by decide) (ew_rm (Nat.le_of_ble_eq_true rfl)) ?_
        refine t_mostOf hA3 (by omega) (by omega) ?_
        refine ew_Kr ?_
        refine ew_cV2 (d' := 0) (pc := 88) vX2_447 (tw_ro _ _ _ _) dX2_tighten_88 (by decide) (ew_rm (Nat.le_of_ble_eq_true rfl)) ?_
        refine t_tightens (a := 2 + 6 * w + 3) M2 (by omega) (fun σ3 F3 M3 => ?_)
        refine ew_Kr ?_
        refine ew_iadd (pc := 91) dX2_tighten_91 ?_
        refine ew_istore_n (pc := 92) dX2_tighten_92 rfl (by decide) (p1_1 rfl) ?_
        refine ew_iinc (pc := 93) dX2_tighten_93 rfl (nI_inc w) (by decide) (p1_2 rfl) ?_
        refine ew_goto (pc := 96) (tgt := 18) dX2_tighten_96 (by decide) ?_
        first
        | rw [if_pos (bI_n.mp c31)] at ih1
          exact ih1 σ' (by omega) hF hM
        | rw [if_neg (bI_0.mp c31)] at ih1
          exact ih1 σ3 (by omega) ((hF.t1 F2).t1 F3) M3
      · refine ew_goto (pc := 34) (tgt := 93) dX2_tighten_34 (by decide) ?_
        refine ew_iinc (pc := 93) dX2_tighten_93 rfl (nI_inc w) (by decide) (p1_2 rfl) ?_
        refine ew_goto (pc := 96) (tgt := 18) dX2_tighten_96 (by decide) ?_
        first
        | rw [if_pos (bI_n.mp c31)] at ih1
          exact ih1 σ' (by omega) hF hM
        | rw [if_neg (bI_0.mp c31)] at ih1
          exact ih1 σ3 (by omega) ((hF.t1 F2).t1 F3) M3
  refine ew_enter (by decide +kernel) (ew_a1 rfl (ew_an (ew_an ew_az))) (Nat.le_of_ble_eq_true rfl) ?_
  refine ew_aload_n (pc := 0) dX2_tighten_0 rfl ?_
  refine ew_iconst (pc := 1) (v := 1) dX2_tighten_1 rfl ?_
  refine ew_cV1 (d' := 6) (pc := 2) vX2_314 (tw_ro _ _ _ _) dX2_tighten_2 (by decide) (ew_rm (Nat.le_of_ble_eq_true rfl)) ?_
  refine t_maySee hJ (fun σ1 F1 h0 L1 => ?_)
  refine ew_Kr ?_
  refine ew_if_ne (pc := 5) (tgt := 10) dX2_tighten_5 (by decide) (fun c5 => ?_) (fun c5 => ?_)
  · have hp := se1_0.mp (bI_n.mp c5)
    refine ew_aload_n (pc := 10) dX2_tighten_10 rfl ?_
    refine ew_cV0 (d' := 1) (pc := 11) vX2_432 (tw_ro _ _ _ _) dX2_tighten_11 (by decide) (ew_rm (Nat.le_of_ble_eq_true rfl)) ?_
    refine t_remembers ((F1.a 16 rfl).trans hJ.n) (hP.fq F1 rfl rfl) (fun σ2 F2 P2 => ?_)
    refine ew_Kv ?_
    refine ew_iconst (pc := 14) (v := 0) dX2_tighten_14 rfl ?_
    refine ew_istore_n (pc := 15) dX2_tighten_15 rfl (by decide) (p1_1 rfl) ?_
    refine ew_iconst (pc := 16) (v := 0) dX2_tighten_16 rfl ?_
    refine ew_istore_n (pc := 17) dX2_tighten_17 rfl (by decide) (p1_2 rfl) ?_
    refine main (hJ.ok hp.1) σ2 (fun σ' F' M' => hq _ _ ⟨((F1.w rfl).u F2 rfl).u F' rfl, (F'.s 0 rfl).trans ((F2.s 0 rfl).trans h0), fun _ => ⟨rfl, M', P2.fq F' rfl rfl⟩, fun h9 => absurd (bI_n.mp c5) h9⟩) ?_ (nW N) 0 σ2 (by omega) (Fq.r _ _) ((F2.a 16 rfl).trans ((F1.a 16 rfl).trans hJ.n))
    rw [F2.a 29 rfl]
    exact (L1 hp.1).2.2
  · refine ew_iconst (pc := 8) (v := 0) dX2_tighten_8 rfl ?_
    refine ew_iret (pc := 9) rfl dX2_tighten_9 ?_
    exact hq _ _ (Ch.no F1 rfl h0 (bI_0.mp c5) hJ.n hP rfl rfl rfl)
theorem mnS_c (N : Nat → Int32) : ∀ m, (mnS N m).1 = -1 ∨ ∃ c, c < m ∧ (mnS N m).1 = nI c
  | 0 => Or.inl rfl
  | m + 1 => by
    rw [mnS, mnT]
    split
    · rcases mnS_c N m with h | ⟨c, hc, h⟩
      · exact Or.inl h
      · exact Or.inr ⟨c, by omega, h⟩
    · exact Or.inr ⟨m, by omega, rfl⟩
theorem mnV_c (N : Nat → Int32) : (mnV N).1 = -1 ∨ ∃ c, c < 2 * nW N ∧ (mnV N).1 = nI c := by
  rw [mnV]
  split
  · exact Or.inl rfl
  · exact mnS_c N _
/-- the net mended -/
def mdN (N : Nat → Int32) (c : Nat) (u : Int32) : Nat → Int32 := if c % 2 = 1 then upd N (2 + 6 * (c / 2) + 2) (N (2 + 6 * (c / 2) + 2) - u) else upd N (2 + 6 * (c / 2) + 3) (N (2 + 6 * (c / 2) + 3) + u)
theorem o_mend {g : eg} {h : eh} {t : Nat} {σ : tS} {N : Nat → Int32} {P : List (Nat → Int32)} {Q : Outcome → eh → Prop} (hJ : TJ σ N) (hP : Pa σ P)
    (hq : ∀ σ' r, Ch σ (as1 (σ.1 21) (bI (¬ (mnV N).1 = -1))) (mnV N).2.1 N (mdN N (ix (mnV N).1) (mnV N).2.1) P σ' r → Q (.returned (some (.int r))) (tw t σ' h)) : ew_T g kX2_mend 7 [.ref t] (tw t σ h) Q := by
  have hw : nW N ≤ 24 := hJ.z.2.2.2
  refine ew_enter (by decide +kernel) (ew_a1 rfl (ew_an (ew_an (ew_an (ew_an ew_az))))) (Nat.le_of_ble_eq_true rfl) ?_
  by_cases hx : σ.1 21 = 0
  · have hth : ∀ f, as1 (σ.1 21) f = 1 := fun f => by rw [as1, if_pos hx]
    refine ew_aload_n (pc := 0) dX2_mend_0 rfl ?_
    refine tg_g21 (pc := 1) rfl dX2_mend_1 ?_
    refine ew_if_eq (pc := 4) (tgt := 14) dX2_mend_4 (by decide) (fun c4 => ?_) (fun c4 => absurd hx c4)
    refine ew_iconst (pc := 14) (v := -1) dX2_mend_14 rfl ?_
    refine ew_istore_n (pc := 15) dX2_mend_15 rfl (by decide) (p1_1 rfl) ?_
    refine ew_aload_n (pc := 16) dX2_mend_16 rfl ?_
    refine ew_iload_n (pc := 17) dX2_mend_17 rfl ?_
    refine ew_iconst (pc := 18) (v := -1) dX2_mend_18 rfl ?_
    refine ew_icmp_eq (pc := 19) (tgt := 26) dX2_mend_19 (by decide) (fun c19 => ?_) (fun c19 => absurd (show (-1 : Int32) = (-1 : Int32) by decide) c19)
    refine ew_iconst (pc := 26) (v := 0) dX2_mend_26 rfl ?_
    refine ew_cV1 (d' := 0) (pc := 27) vX2_291 (tw_ro _ _ _ _) dX2_mend_27 (by decide) (ew_rm (Nat.le_of_ble_eq_true rfl)) ?_
    refine t_ask1 (fun σ1 F1 h0 => ?_)
    rw [hth] at h0 ⊢
    rw [bI10]
    refine ew_Kr ?_
    refine ew_if_ne (pc := 30) (tgt := 35) dX2_mend_30 (by decide) (fun c30 => absurd rfl c30) (fun c30 => ?_)
    refine ew_iconst (pc := 33) (v := 0) dX2_mend_33 rfl ?_
    refine ew_iret (pc := 34) rfl dX2_mend_34 ?_
    refine hq _ _ (Ch.no F1 rfl (h0.trans (hth _).symm) (by rw [hth]; decide) hJ.n hP rfl rfl rfl)
  · have s35 : ∀ (c : Nat) (σ0 σ1 : tS) (th : Int32), Fq [23, 24, 25, 26, 27, 28, 29, 36, 37] σ σ0 → Fq [0] σ0 σ1 → σ0.1 36 = (mnV N).2.1 → c < 2 * nW N → σ1.1 0 = th → th = 0 → (∀ σ' r, Ch σ th (mnV N).2.1 N (if c % 2 = 1 then upd N (2 + 6 * (c / 2) + 2) (N (2 + 6 * (c / 2) + 2) - (mnV N).2.1) else upd N (2 + 6 * (c / 2) + 3) (N (2 + 6 * (c / 2) + 3) + (mnV N).2.1)) P σ' r → Q (.returned (some (.int r))) (tw t σ' h)) → ew_G g kX2_mend 7 35 [.ref t, .int (nI c), no_, no_, no_] [] (tw t σ1 h) Q := by
      intro c σ0 σ1 th F0 F1 h36 hc h0 hz hq9
      have h36' : σ1.1 36 = (mnV N).2.1 := (F1.s 36 rfl).trans h36
      have hN1 : σ1.2 16 = N := (F1.a 16 rfl).trans ((F0.a 16 rfl).trans hJ.n)
      have hP1 : Pa σ1 P := (hP.fq F0 rfl rfl).fq F1 rfl rfl
      refine ew_aload_n (pc := 35) dX2_mend_35 rfl ?_
      refine tg_g36 (pc := 36) rfl dX2_mend_36 ?_
      rw [h36']
      refine ew_istore_n (pc := 39) dX2_mend_39 rfl (by decide) (p1_2 rfl) ?_
      refine ew_iload_n (pc := 40) dX2_mend_40 rfl ?_
      refine ew_iconst (pc := 41) (v := 2) dX2_mend_41 rfl ?_
      refine ew_idiv (pc := 42) dX2_mend_42 (by decide) ?_
      rw [show nI c / 2 = nI (c / 2) from nI_div (b := 2) (by omega) (by decide) (by decide)]
      refine ew_istore_n (pc := 43) dX2_mend_43 rfl (by decide) (p1_3 rfl) ?_
      refine ew_iload_n (pc := 44) dX2_mend_44 rfl ?_
      refine ew_iconst (pc := 45) (v := 2) dX2_mend_45 rfl ?_
      refine ew_irem (pc := 46) dX2_mend_46 (by decide) ?_
      rw [show nI c - nI c / 2 * 2 = nI (c % 2) from nI_rem (b := 2) (by omega) (by decide) (by decide)]
      refine ew_iconst (pc := 47) (v := 1) dX2_mend_47 rfl ?_
      refine ew_icmp_ne (pc := 48) (tgt := 71) dX2_mend_48 (by decide) (fun c48 => ?_) (fun c48 => ?_)
      · refine ew_aload_n (pc := 71) dX2_mend_71 rfl ?_
        refine ew_iload_n (pc := 72) dX2_mend_72 rfl ?_
        refine ew_iconst (pc := 73) (v := 3) dX2_mend_73 rfl ?_
        refine ew_cS2 (d' := 0) (pc := 74) sX2_162 dX2_mend_74 (by decide) (ew_rm (Nat.le_of_ble_eq_true rfl)) ?_
        refine t_atN (i := 3) ?_
        refine ew_Kr ?_
        refine ew_aload_n (pc := 77) dX2_mend_77 rfl ?_
        refine ew_iload_n (pc := 78) dX2_mend_78 rfl ?_
        refine ew_iconst (pc := 79) (v := 3) dX2_mend_79 rfl ?_
        refine ew_cV2 (d' := 1) (pc := 80) vX2_214 (tw_ro _ _ _ _) dX2_mend_80 (by decide) (ew_rm (Nat.le_of_ble_eq_true rfl)) ?_
        refine t_ofN (i := 3) hN1 (by omega) (by decide) ?_
        refine ew_Kr ?_
        refine ew_iload_n (pc := 83) dX2_mend_83 rfl ?_
        refine ew_iadd (pc := 84) dX2_mend_84 ?_
        refine ew_cV2 (d' := 2) (pc := 85) vX2_438 (tw_ro _ _ _ _) dX2_mend_85 (by decide) (ew_rm (Nat.le_of_ble_eq_true rfl)) ?_
        refine t_sets hN1 hP1 (by omega) (fun σ2 F2 N2 P2 => ?_)
        refine ew_Kr ?_
        refine ew_istore (pc := 88) dX2_mend_88 (by decide) (p1_4 rfl) ?_
        refine ew_iload_n (pc := 90) dX2_mend_90 rfl ?_
        refine ew_iret (pc := 91) rfl dX2_mend_91 ?_
        refine hq9 _ _ ⟨((F0.w rfl).u F1 rfl).u F2 rfl, (F2.s 0 rfl).trans h0, fun _ => ⟨rfl, ?_, P2⟩, fun h9 => absurd hz h9⟩
        first
        | rw [if_pos ((nI_eq (b := 1) (by omega) (by decide)).mp c48)]
          exact N2
        | rw [if_neg (fun h9 => c48 ((nI_eq (b := 1) (by omega) (by decide)).mpr h9))]
          exact N2
      · refine ew_aload_n (pc := 51) dX2_mend_51 rfl ?_
        refine ew_iload_n (pc := 52) dX2_mend_52 rfl ?_
        refine ew_iconst (pc := 53) (v := 2) dX2_mend_53 rfl ?_
        refine ew_cS2 (d' := 0) (pc := 54) sX2_162 dX2_mend_54 (by decide) (ew_rm (Nat.le_of_ble_eq_true rfl)) ?_
        refine t_atN (i := 2) ?_
        refine ew_Kr ?_
        refine ew_aload_n (pc := 57) dX2_mend_57 rfl ?_
        refine ew_iload_n (pc := 58) dX2_mend_58 rfl ?_
        refine ew_iconst (pc := 59) (v := 2) dX2_mend_59 rfl ?_
        refine ew_cV2 (d' := 1) (pc := 60) vX2_214 (tw_ro _ _ _ _) dX2_mend_60 (by decide) (ew_rm (Nat.le_of_ble_eq_true rfl)) ?_
        refine t_ofN (i := 2) hN1 (by omega) (by decide) ?_
        refine ew_Kr ?_
        refine ew_iload_n (pc := 63) dX2_mend_63 rfl ?_
        refine ew_isub (pc := 64) dX2_mend_64 ?_
        refine ew_cV2 (d' := 2) (pc := 65) vX2_438 (tw_ro _ _ _ _) dX2_mend_65 (by decide) (ew_rm (Nat.le_of_ble_eq_true rfl)) ?_
        refine t_sets hN1 hP1 (by omega) (fun σ2 F2 N2 P2 => ?_)
        refine ew_Kr ?_
        refine ew_goto (pc := 68) (tgt := 88) dX2_mend_68 (by decide) ?_
        refine ew_istore (pc := 88) dX2_mend_88 (by decide) (p1_4 rfl) ?_
        refine ew_iload_n (pc := 90) dX2_mend_90 rfl ?_
        refine ew_iret (pc := 91) rfl dX2_mend_91 ?_
        refine hq9 _ _ ⟨((F0.w rfl).u F1 rfl).u F2 rfl, (F2.s 0 rfl).trans h0, fun _ => ⟨rfl, ?_, P2⟩, fun h9 => absurd hz h9⟩
        first
        | rw [if_pos ((nI_eq (b := 1) (by omega) (by decide)).mp c48)]
          exact N2
        | rw [if_neg (fun h9 => c48 ((nI_eq (b := 1) (by omega) (by decide)).mpr h9))]
          exact N2
    have s23 : ∀ σ0 f, Fq [23, 24, 25, 26, 27, 28, 29, 36, 37] σ σ0 → σ0.1 36 = (mnV N).2.1 → f = bI (¬ (mnV N).1 = -1) → ew_G g kX2_mend 7 27 [.ref t, .int (mnV N).1, no_, no_, no_] [.int f, .ref t] (tw t σ0 h) Q := by
      intro σ0 f F0 h36 hf
      rw [hf]
      have hx0 : σ0.1 21 = σ.1 21 := F0.s 21 rfl
      refine ew_cV1 (d' := 0) (pc := 27) vX2_291 (tw_ro _ _ _ _) dX2_mend_27 (by decide) (ew_rm (Nat.le_of_ble_eq_true rfl)) ?_
      refine t_ask1 (fun σ1 F1 h0 => ?_)
      rw [hx0] at h0 ⊢
      refine ew_Kr ?_
      refine ew_if_ne (pc := 30) (tgt := 35) dX2_mend_30 (by decide) (fun c30 => ?_) (fun c30 => ?_)
      · have hp := as1_0.mp (bI_n.mp c30)
        obtain ⟨c, hc, hcc⟩ := (mnV_c N).resolve_left (bI_n.mp hp.2)
        rw [hcc] at hq h0 c30 ⊢
        rw [ix_nI (by omega), mdN] at hq
        exact s35 c σ0 σ1 _ F0 F1 h36 hc h0 (bI_n.mp c30) hq
      · refine ew_iconst (pc := 33) (v := 0) dX2_mend_33 rfl ?_
        refine ew_iret (pc := 34) rfl dX2_mend_34 ?_
        exact hq _ _ (Ch.no (F0.t (S := SC) F1 rfl rfl) rfl h0 (bI_0.mp c30) hJ.n hP rfl rfl rfl)
    refine ew_aload_n (pc := 0) dX2_mend_0 rfl ?_
    refine tg_g21 (pc := 1) rfl dX2_mend_1 ?_
    refine ew_if_eq (pc := 4) (tgt := 14) dX2_mend_4 (by decide) (fun c4 => absurd c4 hx) (fun c4 => ?_)
    refine ew_aload_n (pc := 7) dX2_mend_7 rfl ?_
    refine ew_cV0 (d' := 6) (pc := 8) vX2_354 (tw_ro _ _ _ _) dX2_mend_8 (by decide) (ew_rm (Nat.le_of_ble_eq_true rfl)) ?_
    refine t_bestMendNow hJ.n (hJ.ok hx) (fun σ1 F1 h36 h37 => ?_)
    refine ew_Kr ?_
    refine ew_goto (pc := 11) (tgt := 15) dX2_mend_11 (by decide) ?_
    refine ew_istore_n (pc := 15) dX2_mend_15 rfl (by decide) (p1_1 rfl) ?_
    refine ew_aload_n (pc := 16) dX2_mend_16 rfl ?_
    refine ew_iload_n (pc := 17) dX2_mend_17 rfl ?_
    refine ew_iconst (pc := 18) (v := -1) dX2_mend_18 rfl ?_
    refine ew_icmp_eq (pc := 19) (tgt := 26) dX2_mend_19 (by decide) (fun c19 => ?_) (fun c19 => ?_)
    · refine ew_iconst (pc := 26) (v := 0) dX2_mend_26 rfl ?_
      first
      | exact s23 σ1 _ F1 h36 (bI_F (fun h9 => h9 c19))
      | exact s23 σ1 _ F1 h36 (bI_T c19)
    · refine ew_iconst (pc := 22) (v := 1) dX2_mend_22 rfl ?_
      refine ew_goto (pc := 23) (tgt := 27) dX2_mend_23 (by decide) ?_
      first
      | exact s23 σ1 _ F1 h36 (bI_F (fun h9 => h9 c19))
      | exact s23 σ1 _ F1 h36 (bI_T c19)
def dpN (N : Nat → Int32) (s : Int32) : Nat → Nat → Int32
  | 0 => N
  | w + 1 => if hasB s (nI w) then upd (dpN N s w) (2 + 6 * w + 5) 1 else dpN N s w
theorem dpN_1 (N : Nat → Int32) (s : Int32) : ∀ m, dpN N s m 1 = N 1
  | 0 => rfl
  | m + 1 => by
    rw [dpN]
    split
    · rw [upd, if_neg (by omega)]; exact dpN_1 N s m
    · exact dpN_1 N s m
theorem o_dropLeast {g : eg} {h : eh} {t : Nat} {σ : tS} {N : Nat → Int32} {P : List (Nat → Int32)} {Q : Outcome → eh → Prop} (hJ : TJ σ N) (hP : Pa σ P)
    (hq : ∀ σ' r, Ch σ (as1 (σ.1 21) (bI (¬ ldV N = -1))) (bitC (ldV N)) N (dpN N (ldV N) (nW N)) P σ' r → Q (.returned (some (.int r))) (tw t σ' h)) : ew_T g kX2_dropLeast 6 [.ref t] (tw t σ h) Q := by
  have hw : nW N ≤ 24 := hJ.z.2.2.2
  refine ew_enter (by decide +kernel) (ew_a1 rfl (ew_an (ew_an ew_az))) (Nat.le_of_ble_eq_true rfl) ?_
  by_cases hx : σ.1 21 = 0
  · have hth : ∀ f, as1 (σ.1 21) f = 1 := fun f => by rw [as1, if_pos hx]
    refine ew_aload_n (pc := 0) dX2_dropLeast_0 rfl ?_
    refine tg_g21 (pc := 1) rfl dX2_dropLeast_1 ?_
    refine ew_if_eq (pc := 4) (tgt := 14) dX2_dropLeast_4 (by decide) (fun c4 => ?_) (fun c4 => absurd hx c4)
    refine ew_iconst (pc := 14) (v := -1) dX2_dropLeast_14 rfl ?_
    refine ew_istore_n (pc := 15) dX2_dropLeast_15 rfl (by decide) (p1_1 rfl) ?_
    refine ew_aload_n (pc := 16) dX2_dropLeast_16 rfl ?_
    refine ew_iload_n (pc := 17) dX2_dropLeast_17 rfl ?_
    refine ew_iconst (pc := 18) (v := -1) dX2_dropLeast_18 rfl ?_
    refine ew_icmp_eq (pc := 19) (tgt := 26) dX2_dropLeast_19 (by decide) (fun c19 => ?_) (fun c19 => absurd (show (-1 : Int32) = (-1 : Int32) by decide) c19)
    refine ew_iconst (pc := 26) (v := 0) dX2_dropLeast_26 rfl ?_
    refine ew_cV1 (d' := 0) (pc := 27) vX2_291 (tw_ro _ _ _ _) dX2_dropLeast_27 (by decide) (ew_rm (Nat.le_of_ble_eq_true rfl)) ?_
    refine t_ask1 (fun σ1 F1 h0 => ?_)
    rw [hth] at h0 ⊢
    rw [bI10]
    refine ew_Kr ?_
    refine ew_if_ne (pc := 30) (tgt := 35) dX2_dropLeast_30 (by decide) (fun c30 => absurd rfl c30) (fun c30 => ?_)
    refine ew_iconst (pc := 33) (v := 0) dX2_dropLeast_33 rfl ?_
    refine ew_iret (pc := 34) rfl dX2_dropLeast_34 ?_
    refine hq _ _ (Ch.no F1 rfl (h0.trans (hth _).symm) (by rw [hth]; decide) hJ.n hP rfl rfl rfl)
  · have main : ∀ σ1, (∀ σ', Fq [16] σ1 σ' → σ'.2 16 = dpN N (ldV N) (nW N) → Q (.returned (some (.int (bitC (ldV N))))) (tw t σ' h)) → ∀ m w σ', w + m = nW N → Fq [16] σ1 σ' → σ'.2 16 = dpN N (ldV N) w → ew_G g kX2_dropLeast 6 41 [.ref t, .int (ldV N), .int (nI w)] [] (tw t σ' h) Q := by
      intro σ1 hq9 m
      induction m with
      | zero =>
        intro w σ' hw9 hF hM
        have e9 : w = nW N := by omega
        subst e9
        have h1 : σ'.2 16 1 = nI (nW N) := by rw [hM, dpN_1]; exact hJ.z.2.2.1
        refine ew_iload_n (pc := 41) dX2_dropLeast_41 rfl ?_
        refine ew_aload_n (pc := 42) dX2_dropLeast_42 rfl ?_
        refine ew_cV0 (d' := 0) (pc := 43) vX2_220 (tw_ro _ _ _ _) dX2_dropLeast_43 (by decide) (ew_rm (Nat.le_of_ble_eq_true rfl)) ?_
        refine t_windowsNow ?_
        rw [h1]
        refine ew_Kr ?_
        refine ew_icmp_ge (pc := 46) (tgt := 74) dX2_dropLeast_46 (by decide) (fun c46 => ?_) (fun c46 => absurd (nI_le (Nat.le_refl _) (by omega)) c46)
        refine ew_iload_n (pc := 74) dX2_dropLeast_74 rfl ?_
        refine ew_cS1 (d' := 0) (pc := 75) sX2_360 dX2_dropLeast_75 (by decide) (ew_rm (Nat.le_of_ble_eq_true rfl)) ?_
        refine t_bitCount ?_
        refine ew_Kr ?_
        refine ew_iret (pc := 78) rfl dX2_dropLeast_78 ?_
        exact hq9 σ' hF hM
      | succ m ih =>
        intro w σ' hw9 hF hM
        have h1 : σ'.2 16 1 = nI (nW N) := by rw [hM, dpN_1]; exact hJ.z.2.2.1
        have ih1 := ih (w + 1)
        rw [dpN] at ih1
        refine ew_iload_n (pc := 41) dX2_dropLeast_41 rfl ?_
        refine ew_aload_n (pc := 42) dX2_dropLeast_42 rfl ?_
        refine ew_cV0 (d' := 0) (pc := 43) vX2_220 (tw_ro _ _ _ _) dX2_dropLeast_43 (by decide) (ew_rm (Nat.le_of_ble_eq_true rfl)) ?_
        refine t_windowsNow ?_
        rw [h1]
        refine ew_Kr ?_
        refine ew_icmp_ge (pc := 46) (tgt := 74) dX2_dropLeast_46 (by decide) (fun c46 => absurd c46 (nI_ge (by omega) (by omega))) (fun c46 => ?_)
        refine ew_iload_n (pc := 49) dX2_dropLeast_49 rfl ?_
        refine ew_iload_n (pc := 50) dX2_dropLeast_50 rfl ?_
        refine ew_cS2 (d' := 0) (pc := 51) sX2_135 dX2_dropLeast_51 (by decide) (ew_rm (Nat.le_of_ble_eq_true rfl)) ?_
        refine t_hasT ?_
        refine ew_Kr ?_
        refine ew_if_eq (pc := 54) (tgt := 68) dX2_dropLeast_54 (by decide) (fun c54 => ?_) (fun c54 => ?_)
        · refine ew_iinc (pc := 68) dX2_dropLeast_68 rfl (nI_inc w) (by decide) (p1_2 rfl) ?_
          refine ew_goto (pc := 71) (tgt := 41) dX2_dropLeast_71 (by decide) ?_
          first
          | rw [if_pos (bI_n.mp c54)] at ih1
            exact ih1 _ (by omega) (hF.xA 16 _ rfl) (by rw [← hM]; rfl)
          | rw [if_neg (bI_0.mp c54)] at ih1
            exact ih1 σ' (by omega) hF hM
        · refine ew_aload_n (pc := 57) dX2_dropLeast_57 rfl ?_
          refine tg_g16 (pc := 58) rfl dX2_dropLeast_58 ?_
          refine ew_iload_n (pc := 61) dX2_dropLeast_61 rfl ?_
          refine ew_iconst (pc := 62) (v := 5) dX2_dropLeast_62 rfl ?_
          refine ew_cS2 (d' := 0) (pc := 63) sX2_162 dX2_dropLeast_63 (by decide) (ew_rm (Nat.le_of_ble_eq_true rfl)) ?_
          refine t_atN (i := 5) ?_
          refine ew_Kr ?_
          refine ew_iconst (pc := 66) (v := 1) dX2_dropLeast_66 rfl ?_
          refine tg_s16 (pc := 67) (j := 2 + 6 * w + 5) rfl (by omega) dX2_dropLeast_67 ?_
          refine ew_iinc (pc := 68) dX2_dropLeast_68 rfl (nI_inc w) (by decide) (p1_2 rfl) ?_
          refine ew_goto (pc := 71) (tgt := 41) dX2_dropLeast_71 (by decide) ?_
          first
          | rw [if_pos (bI_n.mp c54)] at ih1
            exact ih1 _ (by omega) (hF.xA 16 _ rfl) (by rw [← hM]; rfl)
          | rw [if_neg (bI_0.mp c54)] at ih1
            exact ih1 σ' (by omega) hF hM
    have s23 : ∀ σ0 f, Fq [23, 24, 25, 26, 27, 28, 29] σ σ0 → f = bI (¬ ldV N = -1) → ew_G g kX2_dropLeast 6 27 [.ref t, .int (ldV N), no_] [.int f, .ref t] (tw t σ0 h) Q := by
      intro σ0 f F0 hf
      rw [hf]
      have hx0 : σ0.1 21 = σ.1 21 := F0.s 21 rfl
      refine ew_cV1 (d' := 0) (pc := 27) vX2_291 (tw_ro _ _ _ _) dX2_dropLeast_27 (by decide) (ew_rm (Nat.le_of_ble_eq_true rfl)) ?_
      refine t_ask1 (fun σ1 F1 h0 => ?_)
      rw [hx0] at h0 ⊢
      refine ew_Kr ?_
      refine ew_if_ne (pc := 30) (tgt := 35) dX2_dropLeast_30 (by decide) (fun c30 => ?_) (fun c30 => ?_)
      · refine ew_aload_n (pc := 35) dX2_dropLeast_35 rfl ?_
        refine ew_cV0 (d' := 1) (pc := 36) vX2_432 (tw_ro _ _ _ _) dX2_dropLeast_36 (by decide) (ew_rm (Nat.le_of_ble_eq_true rfl)) ?_
        refine t_remembers ((F1.a 16 rfl).trans ((F0.a 16 rfl).trans hJ.n)) ((hP.fq F0 rfl rfl).fq F1 rfl rfl) (fun σ2 F2 P2 => ?_)
        refine ew_Kv ?_
        refine ew_iconst (pc := 39) (v := 0) dX2_dropLeast_39 rfl ?_
        refine ew_istore_n (pc := 40) dX2_dropLeast_40 rfl (by decide) (p1_2 rfl) ?_
        exact main σ2 (fun σ' F' M' => hq _ _ ⟨(((F0.w rfl).u F1 rfl).u F2 rfl).u F' rfl, (F'.s 0 rfl).trans ((F2.s 0 rfl).trans h0), fun _ => ⟨rfl, M', P2.fq F' rfl rfl⟩, fun h9 => absurd (bI_n.mp c30) h9⟩) (nW N) 0 σ2 (by omega) (Fq.r _ _) ((F2.a 16 rfl).trans ((F1.a 16 rfl).trans ((F0.a 16 rfl).trans hJ.n)))
      · refine ew_iconst (pc := 33) (v := 0) dX2_dropLeast_33 rfl ?_
        refine ew_iret (pc := 34) rfl dX2_dropLeast_34 ?_
        exact hq _ _ (Ch.no (F0.t (S := SC) F1 rfl rfl) rfl h0 (bI_0.mp c30) hJ.n hP rfl rfl rfl)
    refine ew_aload_n (pc := 0) dX2_dropLeast_0 rfl ?_
    refine tg_g21 (pc := 1) rfl dX2_dropLeast_1 ?_
    refine ew_if_eq (pc := 4) (tgt := 14) dX2_dropLeast_4 (by decide) (fun c4 => absurd c4 hx) (fun c4 => ?_)
    refine ew_aload_n (pc := 7) dX2_dropLeast_7 rfl ?_
    refine ew_cV0 (d' := 5) (pc := 8) vX2_371 (tw_ro _ _ _ _) dX2_dropLeast_8 (by decide) (ew_rm (Nat.le_of_ble_eq_true rfl)) ?_
    refine t_leastDropNow hJ.n (hJ.ok hx) (fun σ1 F1 => ?_)
    refine ew_Kr ?_
    refine ew_goto (pc := 11) (tgt := 15) dX2_dropLeast_11 (by decide) ?_
    refine ew_istore_n (pc := 15) dX2_dropLeast_15 rfl (by decide) (p1_1 rfl) ?_
    refine ew_aload_n (pc := 16) dX2_dropLeast_16 rfl ?_
    refine ew_iload_n (pc := 17) dX2_dropLeast_17 rfl ?_
    refine ew_iconst (pc := 18) (v := -1) dX2_dropLeast_18 rfl ?_
    refine ew_icmp_eq (pc := 19) (tgt := 26) dX2_dropLeast_19 (by decide) (fun c19 => ?_) (fun c19 => ?_)
    · refine ew_iconst (pc := 26) (v := 0) dX2_dropLeast_26 rfl ?_
      first
      | exact s23 σ1 _ F1 (bI_F (fun h9 => h9 c19))
      | exact s23 σ1 _ F1 (bI_T c19)
    · refine ew_iconst (pc := 22) (v := 1) dX2_dropLeast_22 rfl ?_
      refine ew_goto (pc := 23) (tgt := 27) dX2_dropLeast_23 (by decide) ?_
      first
      | exact s23 σ1 _ F1 (bI_F (fun h9 => h9 c19))
      | exact s23 σ1 _ F1 (bI_T c19)
