/-! EW: the reference: a window's line -/
set_option maxRecDepth 100000
theorem wdR_al {b : Nat → Int32} {L : List Int32} {r : rs} (h : wdR b L r = true) : aL r = true := by
  cases r with
  | inl e => cases h
  | inr x => rfl
theorem strW {L : List Nat} : (List.range L.length).map (fun i => nI (L.getD i 0)) = L.map nI := by
  apply List.ext_getElem
  · simp
  · intro i h1 h2
    have h3 : i < L.length := by simpa using h1
    simp only [List.getElem_map, List.getElem_range]
    rw [List.getD_eq_getElem?_getD, List.getElem?_eq_getElem h3]
    rfl
/-- a word of the text is compared with a constant -/
theorem t_isW {g : eg} {h : eh} {t n k : Nat} {own : String} {L : List Nat} {σ : tS} {b : Nat → Int32} {r : rs} (hg : gCS g) (hg2 : gSF g) (hk : gK g own k L) (hl : L.length < 2 ^ 31) (hL : ∀ c, c ∈ L → c < 128) (hT : Tx σ b n) (hP : Ps σ b n r) :
    ∃ a, eg_k g own k = some a ∧ ∀ Q : Outcome → eh → Prop, Q (.returned (some (.int (bI (wdR b (L.map nI) r = true))))) (tw t σ h) → ew_T g kX2_isWord 5 [.ref t, .ref a] (tw t σ h) Q := by
  obtain ⟨a, h1, h2⟩ := hk.str hl hL
  refine ⟨a, h1, fun Q hq => t_isWord hg hg2 (h2 _) hT hP ?_⟩
  rw [strW]
  exact hq
theorem t_readWindow {g : eg} {h : eh} {t n : Nat} {σ : tS} {b : Nat → Int32} {r : rs} {s : pst} {Q : Outcome → eh → Prop} (hg : gCS g) (hg2 : gSF g) (hk : gK g "EventWindowsModel" 149 [115, 111, 102, 116]) (hT : Tx σ b n) (hJ : Jp σ b n (r, s)) (hm : aL r = true → okP s)
    (hq : ∀ σ', Fq [3, 4, 6, 7, 8, 9, 10, 12, 13, 14, 15, 16] σ σ' → Jp σ' b n (lnW b n r s) → Q (.returned none) (tw t σ' h)) : ew_T g kX2_readWindow 6 [.ref t] (tw t σ h) Q := by
  obtain ⟨hP, hS⟩ : Ps σ b n r ∧ (aL r = true → Js σ s) := hJ
  obtain ⟨a0, ha0⟩ : ∃ a, a = ckR 4 (fun _ => ¬ nW s.1 = 20) r := ⟨_, rfl⟩
  obtain ⟨y1, hy1⟩ : ∃ y, y = lnA b n r s := ⟨_, rfl⟩
  obtain ⟨y2, hy2⟩ : ∃ y, y = lnB b n s y1 := ⟨_, rfl⟩
  obtain ⟨lo, hlo⟩ : ∃ y, y = nuV 0 999 y2.1 := ⟨_, rfl⟩
  obtain ⟨y4, hy4⟩ : ∃ y, y = lnH b n lo (nuR b n 0 999 y2.1) := ⟨_, rfl⟩
  obtain ⟨y5, hy5⟩ : ∃ y, y = lnC b n s.2.2.2.2.2 y4.1 := ⟨_, rfl⟩
  have hq2 : ∀ σ', Fq [3, 4, 6, 7, 8, 9, 10, 12, 13, 14, 15, 16] σ σ' → Jp σ' b n (y5.1, layN s.1 y1.2 y2.2 lo y4.2 y5.2.1, s.2.1, s.2.2.1, s.2.2.2.1, s.2.2.2.2.1, y5.2.2) → Q (.returned none) (tw t σ' h) := by
    subst hy5 hy4 hlo hy2 hy1
    exact hq
  have al0 : aL a0 = true → aL r = true := fun h9 => aL_ck (by rw [ha0] at h9; exact h9)
  have al1 : aL y1.1 = true → aL r = true := fun h9 => al0 (by rw [hy1, lnA] at h9; rw [ha0]; exact aL_nx (aL_ev h9))
  have al2 : aL y2.1 = true → aL y1.1 = true := fun h9 => by rw [hy2, lnB] at h9; exact aL_ev h9
  have al4 : aL y4.1 = true → aL y2.1 = true := by
    intro h9
    rw [hy4, lnH] at h9
    split at h9
    · exact aL_nu (aL_nu h9)
    · exact aL_nu h9
  have al5 : aL y5.1 = true → aL y4.1 = true := by
    intro h9
    rw [hy5, lnC] at h9
    split at h9
    · rename_i h8; exact wdR_al h8
    · exact h9
  have s131 : ∀ σ1, Fq [3, 4, 6, 7, 8, 9, 15] σ σ1 → Ps σ1 b n y5.1 → (aL y5.1 = true → σ1.1 15 = y5.2.2) → ew_G g kX2_readWindow 6 131 [.ref t, .int y1.2, .int y2.2, .int lo, .int y4.2, .int y5.2.1] [] (tw t σ1 h) Q := by
    intro σ1 hF hP1 h15
    cases hr : y5.1 with
    | inl f =>
      rw [hr] at hP1 hq2
      have hP2 := hP1
      obtain ⟨h3, h0, h4⟩ := hP1
      refine ew_aload_n (pc := 131) dX2_readWindow_131 rfl ?_
      refine tg_g3 (pc := 132) rfl dX2_readWindow_132 ?_
      rw [h3]
      refine ew_if_ne (pc := 135) (tgt := 150) dX2_readWindow_135 (by decide) (fun c135 => ?_) (fun c135 => absurd c135 (i_ne0 h0))
      refine ew_vret (pc := 150) rfl dX2_readWindow_150 ?_
      exact hq2 σ1 (hF.w rfl) ⟨hP2, fun h9 => absurd h9 Bool.false_ne_true⟩
    | inr x =>
      have ha : aL r = true := al1 (al2 (al4 (al5 (by rw [hr]; rfl))))
      have hs := hS ha
      have hm2 := hm ha
      have hw := hm2.2.2.2
      have h15' := h15 (by rw [hr]; rfl)
      rw [hr] at hP1 hq2
      have hP2 := hP1
      obtain ⟨h3, ⟨h8, h6, h7, h9⟩, hO, hA4⟩ := hP1
      refine ew_aload_n (pc := 131) dX2_readWindow_131 rfl ?_
      refine tg_g3 (pc := 132) rfl dX2_readWindow_132 ?_
      rw [h3]
      refine ew_if_ne (pc := 135) (tgt := 150) dX2_readWindow_135 (by decide) (fun c135 => absurd rfl c135) (fun c135 => ?_)
      refine ew_aload_n (pc := 138) dX2_readWindow_138 rfl ?_
      refine ew_iload_n (pc := 139) dX2_readWindow_139 rfl ?_
      refine ew_iload_n (pc := 140) dX2_readWindow_140 rfl ?_
      refine ew_iload_n (pc := 141) dX2_readWindow_141 rfl ?_
      refine ew_iload (pc := 142) dX2_readWindow_142 rfl ?_
      refine ew_iload (pc := 144) dX2_readWindow_144 rfl ?_
      refine ew_cV5 (d' := 1) (pc := 146) vX2_158 (tw_ro _ _ _ _) dX2_readWindow_146 (by decide) (ew_rm (Nat.le_of_ble_eq_true rfl)) ?_
      refine t_laysN ((hF.a 16 rfl).trans hs.1) (by omega) hm2.2.2.1 ?_
      refine ew_Kr ?_
      refine ew_pop (pc := 149) dX2_readWindow_149 rfl ?_
      refine ew_vret (pc := 150) rfl dX2_readWindow_150 ?_
      refine hq2 _ ((hF.w rfl).xA 16 _ rfl) ⟨hP2.fq (Fq.A (S := [16]) σ1 16 _ rfl) rfl, fun _ => ⟨rfl, (hF.a 10 rfl).trans hs.2.1, (hF.s 12 rfl).trans hs.2.2.1, (hF.s 13 rfl).trans hs.2.2.2.1, (hF.s 14 rfl).trans hs.2.2.2.2.1, h15'⟩⟩
  have s108 : ∀ r6 σ1 x5, ckR 4 (fun _ => ¬ s.2.2.2.2.2 = 10) y4.1 = r6 → wdR b bSoft y4.1 = true → Fq [3, 4, 6, 7, 8, 9] σ σ1 → Ps σ1 b n r6 → ew_G g kX2_readWindow 6 108 [.ref t, .int y1.2, .int y2.2, .int lo, .int y4.2, x5] [] (tw t σ1 h) Q := by
    intro r6 σ1 x5 hr hw hF hP1
    have e5 : y5 = (nuR b n 1 99 (nxR b n r6), nuV 1 99 (nxR b n r6), s.2.2.2.2.2 + 1) := by
      rw [hy5, lnC, if_pos hw, hr]
    have hs := hS (al1 (al2 (al4 (wdR_al hw))))
    rw [e5] at s131
    refine ew_aload_n (pc := 108) dX2_readWindow_108 rfl ?_
    refine ew_dup (pc := 109) dX2_readWindow_109 rfl ?_
    refine tg_g15 (pc := 110) rfl dX2_readWindow_110 ?_
    refine ew_iconst (pc := 113) (v := 1) dX2_readWindow_113 rfl ?_
    refine ew_iadd (pc := 114) dX2_readWindow_114 ?_
    refine tg_p15 (pc := 115) rfl dX2_readWindow_115 ?_
    refine ew_aload_n (pc := 118) dX2_readWindow_118 rfl ?_
    refine ew_cV0 (d' := 1) (pc := 119) vX2_122 (tw_ro _ _ _ _) dX2_readWindow_119 (by decide) (ew_rm (Nat.le_of_ble_eq_true rfl)) ?_
    refine t_nxt ((hT.fq hF rfl rfl).fq (Fq.I (S := [15]) σ1 15 _ rfl) rfl rfl) (hP1.fq (Fq.I (S := [15]) σ1 15 _ rfl) rfl) (fun σ2 F2 P2 => ?_)
    refine ew_Kv ?_
    refine ew_aload_n (pc := 122) dX2_readWindow_122 rfl ?_
    refine ew_iconst (pc := 123) (v := 1) dX2_readWindow_123 rfl ?_
    refine ew_bipush (pc := 124) (v := 99) dX2_readWindow_124 rfl ?_
    refine ew_cV2 (d' := 2) (pc := 126) vX2_145 (tw_ro _ _ _ _) dX2_readWindow_126 (by decide) (ew_rm (Nat.le_of_ble_eq_true rfl)) ?_
    refine t_num (((hT.fq hF rfl rfl).fq (Fq.I (S := [15]) σ1 15 _ rfl) rfl rfl).fq F2 rfl rfl) P2 (fun σ3 F3 P3 => ?_)
    refine ew_Kr ?_
    refine ew_istore (pc := 129) dX2_readWindow_129 (by decide) (p1_5 rfl) ?_
    refine s131 σ3 ((((hF.w rfl).xI 15 _ rfl).u F2 rfl).u F3 rfl) P3 (fun _ => ?_)
    rw [F3.s 15 rfl, F2.s 15 rfl]
    show σ1.1 15 + 1 = _
    rw [hF.s 15 rfl, hs.2.2.2.2.2]
  have s82 : ∀ σ1 x5, Fq [3, 4, 6, 7, 8, 9] σ σ1 → Ps σ1 b n y4.1 → ew_G g kX2_readWindow 6 82 [.ref t, .int y1.2, .int y2.2, .int lo, .int y4.2, x5] [] (tw t σ1 h) Q := by
    intro σ1 x5 hF hP1
    obtain ⟨kk, hkk, hkw⟩ := t_isW (h := h) (t := t) hg hg2 hk (by decide) (by decide) (hT.fq hF rfl rfl) hP1
    refine ew_iconst (pc := 82) (v := 0) dX2_readWindow_82 rfl ?_
    refine ew_istore (pc := 83) dX2_readWindow_83 (by decide) (p1_5 rfl) ?_
    refine ew_aload_n (pc := 85) dX2_readWindow_85 rfl ?_
    refine ew_ldcS (pc := 86) hkk dX2_readWindow_86 ?_
    refine ew_cV1 (d' := 5) (pc := 88) vX2_151 (tw_ro _ _ _ _) dX2_readWindow_88 (by decide) (ew_rm (Nat.le_of_ble_eq_true rfl)) ?_
    refine hkw _ ?_
    refine ew_Kr ?_
    refine ew_if_eq (pc := 91) (tgt := 131) dX2_readWindow_91 (by decide) (fun c91 => ?_) (fun c91 => ?_)
    · have e5 : y5 = (y4.1, 0, s.2.2.2.2.2) := by
        rw [hy5, lnC]
        exact if_neg (bI_0.mp c91)
      rw [e5] at s131
      exact s131 σ1 (hF.w rfl) hP1 (fun h9 => (hF.s 15 rfl).trans (hS (al1 (al2 (al4 h9)))).2.2.2.2.2)
    · have hw : wdR b bSoft y4.1 = true := bI_n.mp c91
      have hs := hS (al1 (al2 (al4 (wdR_al hw))))
      refine ew_aload_n (pc := 94) dX2_readWindow_94 rfl ?_
      refine tg_g15 (pc := 95) rfl dX2_readWindow_95 ?_
      refine ew_bipush (pc := 98) (v := 10) dX2_readWindow_98 rfl ?_
      rw [show σ1.1 15 = s.2.2.2.2.2 from (hF.s 15 rfl).trans hs.2.2.2.2.2]
      refine ew_icmp_ne (pc := 100) (tgt := 108) dX2_readWindow_100 (by decide) (fun c100 => ?_) (fun c100 => ?_)
      · first
        | refine s108 y4.1 σ1 _ ?_ hw hF hP1
          cases hr : y4.1 with
          | inl f => rfl
          | inr x => exact ckR_y c100
        | refine s108 _ σ2 _ ?_ hw (hF.u F2 rfl) P2
          cases hr : y4.1 with
          | inl f => rfl
          | inr x => rw [ckR_n (fun h9 => h9 c100), ckR_n (fun h9 => h9)]
      · refine ew_aload_n (pc := 103) dX2_readWindow_103 rfl ?_
        refine ew_iconst (pc := 104) (v := 4) dX2_readWindow_104 rfl ?_
        refine ew_cV1 (d' := 0) (pc := 105) vX2_119 (tw_ro _ _ _ _) dX2_readWindow_105 (by decide) (ew_rm (Nat.le_of_ble_eq_true rfl)) ?_
        refine t_flt (by decide) hP1 (fun σ2 F2 P2 => ?_)
        refine ew_Kv ?_
        first
        | refine s108 y4.1 σ1 _ ?_ hw hF hP1
          cases hr : y4.1 with
          | inl f => rfl
          | inr x => exact ckR_y c100
        | refine s108 _ σ2 _ ?_ hw (hF.u F2 rfl) P2
          cases hr : y4.1 with
          | inl f => rfl
          | inr x => rw [ckR_n (fun h9 => h9 c100), ckR_n (fun h9 => h9)]
  have s57 : ∀ r4 σ1 x5, nuR b n 0 999 y2.1 = r4 → Fq [3, 4, 6, 7, 8, 9] σ σ1 → Ps σ1 b n r4 → ew_G g kX2_readWindow 6 57 [.ref t, .int y1.2, .int y2.2, .int lo, .int (-1), x5] [] (tw t σ1 h) Q := by
    intro r4 σ1 x5 hr hF hP1
    rw [hr] at hy4
    cases r4 with
    | inl f =>
      have e4 : y4 = (.inl f, -1) := hy4
      rw [e4] at s82
      have hP2 := hP1
      obtain ⟨h3, h0, h4⟩ := hP1
      refine ew_aload_n (pc := 57) dX2_readWindow_57 rfl ?_
      refine tg_g3 (pc := 58) rfl dX2_readWindow_58 ?_
      rw [h3]
      refine ew_if_ne (pc := 61) (tgt := 82) dX2_readWindow_61 (by decide) (fun c61 => ?_) (fun c61 => absurd c61 (i_ne0 h0))
      exact s82 σ1 _ hF hP2
    | inr x =>
      have hP2 := hP1
      obtain ⟨h3, ⟨h8, h6, h7, h9⟩, hO, hA4⟩ := hP1
      have hk4 := hO.2.2.1
      refine ew_aload_n (pc := 57) dX2_readWindow_57 rfl ?_
      refine tg_g3 (pc := 58) rfl dX2_readWindow_58 ?_
      rw [h3]
      refine ew_if_ne (pc := 61) (tgt := 82) dX2_readWindow_61 (by decide) (fun c61 => absurd rfl c61) (fun c61 => ?_)
      refine ew_aload_n (pc := 64) dX2_readWindow_64 rfl ?_
      refine tg_g8 (pc := 65) rfl dX2_readWindow_65 ?_
      refine ew_iconst (pc := 68) (v := 2) dX2_readWindow_68 rfl ?_
      rw [h8]
      refine ew_icmp_ne (pc := 69) (tgt := 82) dX2_readWindow_69 (by decide) (fun c69 => ?_) (fun c69 => ?_)
      · first
        | exact s82 σ2 _ (hF.t1 F2) P2
        | have e4 : y4 = (.inr x, -1) := by
            rw [hy4, lnH]
            refine if_neg (fun h9 => c69 ?_)
            rw [of_decide_eq_true h9]
            decide
          rw [e4] at s82
          exact s82 σ1 _ hF hP2
      · refine ew_aload_n (pc := 72) dX2_readWindow_72 rfl ?_
        refine ew_iload_n (pc := 73) dX2_readWindow_73 rfl ?_
        refine ew_sipush (pc := 74) (v := 999) dX2_readWindow_74 rfl ?_
        refine ew_cV2 (d' := 2) (pc := 77) vX2_145 (tw_ro _ _ _ _) dX2_readWindow_77 (by decide) (ew_rm (Nat.le_of_ble_eq_true rfl)) ?_
        have e4 : y4 = (nuR b n lo 999 (.inr x), nuV lo 999 (.inr x)) := by
          rw [hy4, lnH]
          exact if_pos (decide_eq_true ((nI_eq (b := 2) (by omega) (by decide)).mp c69))
        rw [e4] at s82
        refine t_num (hT.fq hF rfl rfl) hP2 (fun σ2 F2 P2 => ?_)
        refine ew_Kr ?_
        refine ew_istore (pc := 80) dX2_readWindow_80 (by decide) (p1_4 rfl) ?_
        first
        | exact s82 σ2 _ (hF.t1 F2) P2
        | have e4 : y4 = (.inr x, -1) := by
            rw [hy4, lnH]
            refine if_neg (fun h9 => c69 ?_)
            rw [of_decide_eq_true h9]
            decide
          rw [e4] at s82
          exact s82 σ1 _ hF hP2
  have s41 : ∀ o σ1 x2 x3 x4 x5, o = (if aL y1.1 = true then shl1 y1.2 else 0) → Fq [3, 4, 6, 7, 8, 9] σ σ1 → Ps σ1 b n y1.1 → ew_G g kX2_readWindow 6 41 [.ref t, .int y1.2, x2, x3, x4, x5] [.int o, .ref t] (tw t σ1 h) Q := by
    intro o σ1 x2 x3 x4 x5 ho hF hP1
    have e2 : y2 = (evR b n s.2.1 (nE s.1) o y1.1, evV b s.2.1 (nE s.1) y1.1) := by
      rw [hy2, lnB, ho]
    refine ew_cV1 (d' := 3) (pc := 41) vX2_142 (tw_ro _ _ _ _) dX2_readWindow_41 (by decide) (ew_rm (Nat.le_of_ble_eq_true rfl)) ?_
    refine t_ev (nm := s.2.1) (m := nE s.1) (hT.fq hF rfl rfl) hP1 (fun h9 => ?_) (fun σ2 F2 P2 => ?_)
    · have hs1 := (hS (al1 h9)).fq hF rfl
      have hm2 := hm (al1 h9)
      exact ⟨hs1.2.1, hm2.2.1, (congrFun hs1.1 0).trans hm2.1⟩
    refine ew_Kr ?_
    refine ew_istore_n (pc := 44) dX2_readWindow_44 rfl (by decide) (p1_2 rfl) ?_
    refine ew_aload_n (pc := 45) dX2_readWindow_45 rfl ?_
    refine ew_iconst (pc := 46) (v := 0) dX2_readWindow_46 rfl ?_
    refine ew_sipush (pc := 47) (v := 999) dX2_readWindow_47 rfl ?_
    refine ew_cV2 (d' := 2) (pc := 50) vX2_145 (tw_ro _ _ _ _) dX2_readWindow_50 (by decide) (ew_rm (Nat.le_of_ble_eq_true rfl)) ?_
    refine t_num (r := y2.1) ((hT.fq hF rfl rfl).fq F2 rfl rfl) (by rw [e2]; exact P2) (fun σ3 F3 P3 => ?_)
    rw [← hlo]
    refine ew_Kr ?_
    refine ew_istore_n (pc := 53) dX2_readWindow_53 rfl (by decide) (p1_3 rfl) ?_
    refine ew_iconst (pc := 54) (v := -1) dX2_readWindow_54 rfl ?_
    refine ew_istore (pc := 55) dX2_readWindow_55 (by decide) (p1_4 rfl) ?_
    have h57 := s57 _ σ3 x5 rfl ((hF.t1 F2).t1 F3) P3
    rw [e2] at h57
    exact h57
  have s26 : ∀ σ1 x2 x3 x4 x5, Fq [3, 4, 6, 7, 8, 9] σ σ1 → Ps σ1 b n y1.1 → ew_G g kX2_readWindow 6 26 [.ref t, .int y1.2, x2, x3, x4, x5] [] (tw t σ1 h) Q := by
    intro σ1 x2 x3 x4 x5 hF hP1
    cases hr : y1.1 with
    | inl f =>
      have hP2 := hP1
      rw [hr] at hP1
      obtain ⟨h3, h0, h4⟩ := hP1
      refine ew_aload_n (pc := 26) dX2_readWindow_26 rfl ?_
      refine ew_aload_n (pc := 27) dX2_readWindow_27 rfl ?_
      refine tg_g3 (pc := 28) rfl dX2_readWindow_28 ?_
      rw [h3]
      refine ew_if_ne (pc := 31) (tgt := 40) dX2_readWindow_31 (by decide) (fun c31 => ?_) (fun c31 => absurd c31 (i_ne0 h0))
      refine ew_iconst (pc := 40) (v := 0) dX2_readWindow_40 rfl ?_
      exact s41 _ σ1 _ _ _ _ (by rw [hr]; rfl) hF hP2
    | inr x =>
      have hP2 := hP1
      rw [hr] at hP1
      obtain ⟨h3, ⟨h8, h6, h7, h9⟩, hO, hA4⟩ := hP1
      refine ew_aload_n (pc := 26) dX2_readWindow_26 rfl ?_
      refine ew_aload_n (pc := 27) dX2_readWindow_27 rfl ?_
      refine tg_g3 (pc := 28) rfl dX2_readWindow_28 ?_
      rw [h3]
      refine ew_if_ne (pc := 31) (tgt := 40) dX2_readWindow_31 (by decide) (fun c31 => absurd rfl c31) (fun c31 => ?_)
      refine ew_iconst (pc := 34) (v := 1) dX2_readWindow_34 rfl ?_
      refine ew_iload_n (pc := 35) dX2_readWindow_35 rfl ?_
      refine ew_ishl (pc := 36) dX2_readWindow_36 ?_
      refine ew_goto (pc := 37) (tgt := 41) dX2_readWindow_37 (by decide) ?_
      exact s41 _ σ1 _ _ _ _ (by rw [hr]; rfl) hF hP2
  have s16 : ∀ σ1 x1 x2 x3 x4 x5, Fq [3, 4] σ σ1 → Ps σ1 b n a0 → ew_G g kX2_readWindow 6 16 [.ref t, x1, x2, x3, x4, x5] [] (tw t σ1 h) Q := by
    intro σ1 x1 x2 x3 x4 x5 hF hP1
    have e1 : y1 = (evR b n s.2.1 (nE s.1) 0 (nxR b n a0), evV b s.2.1 (nE s.1) (nxR b n a0)) := by
      rw [hy1, lnA, ha0]
    refine ew_aload_n (pc := 16) dX2_readWindow_16 rfl ?_
    refine ew_cV0 (d' := 1) (pc := 17) vX2_122 (tw_ro _ _ _ _) dX2_readWindow_17 (by decide) (ew_rm (Nat.le_of_ble_eq_true rfl)) ?_
    refine t_nxt (hT.fq hF rfl rfl) hP1 (fun σ2 F2 P2 => ?_)
    refine ew_Kv ?_
    refine ew_aload_n (pc := 20) dX2_readWindow_20 rfl ?_
    refine ew_iconst (pc := 21) (v := 0) dX2_readWindow_21 rfl ?_
    refine ew_cV1 (d' := 3) (pc := 22) vX2_142 (tw_ro _ _ _ _) dX2_readWindow_22 (by decide) (ew_rm (Nat.le_of_ble_eq_true rfl)) ?_
    refine t_ev (nm := s.2.1) (m := nE s.1) ((hT.fq hF rfl rfl).fq F2 rfl rfl) P2 (fun h9 => ?_) (fun σ3 F3 P3 => ?_)
    · have ha := al0 (aL_nx h9)
      have hs1 := ((hS ha).fq hF rfl).fq F2 rfl
      have hm2 := hm ha
      exact ⟨hs1.2.1, hm2.2.1, (congrFun hs1.1 0).trans hm2.1⟩
    refine ew_Kr ?_
    refine ew_istore_n (pc := 25) dX2_readWindow_25 rfl (by decide) (p1_1 rfl) ?_
    have h26 := s26 σ3 x2 x3 x4 x5 (((hF.w rfl).u F2 rfl).u F3 rfl) (by rw [e1]; exact P3)
    rw [e1] at h26
    exact h26
  refine ew_enter (by decide +kernel) (ew_a1 rfl (ew_an (ew_an (ew_an (ew_an (ew_an ew_az)))))) (Nat.le_of_ble_eq_true rfl) ?_
  cases hr : r with
  | inl e =>
    rw [hr] at ha0 hP
    have ha1 : a0 = .inl e := ha0
    rw [ha1] at s16
    refine ew_aload_n (pc := 0) dX2_readWindow_0 rfl ?_
    refine tg_g16 (pc := 1) rfl dX2_readWindow_1 ?_
    refine ew_iconst (pc := 4) (v := 1) dX2_readWindow_4 rfl ?_
    refine tg_l16 (pc := 5) (j := 1) rfl (by decide) dX2_readWindow_5 ?_
    refine ew_bipush (pc := 6) (v := 20) dX2_readWindow_6 rfl ?_
    refine ew_icmp_ne (pc := 8) (tgt := 16) dX2_readWindow_8 (by decide) (fun c8 => ?_) (fun c8 => ?_)
    · first
      | exact s16 σ _ _ _ _ _ (Fq.r _ _) hP
      | exact s16 σ2 _ _ _ _ _ F2 P2
    · refine ew_aload_n (pc := 11) dX2_readWindow_11 rfl ?_
      refine ew_iconst (pc := 12) (v := 4) dX2_readWindow_12 rfl ?_
      refine ew_cV1 (d' := 0) (pc := 13) vX2_119 (tw_ro _ _ _ _) dX2_readWindow_13 (by decide) (ew_rm (Nat.le_of_ble_eq_true rfl)) ?_
      refine t_flt (by decide) hP (fun σ2 F2 P2 => ?_)
      refine ew_Kv ?_
      first
      | exact s16 σ _ _ _ _ _ (Fq.r _ _) hP
      | exact s16 σ2 _ _ _ _ _ F2 P2
  | inr x =>
    have ha : aL r = true := by rw [hr]; rfl
    have hs := hS ha
    have hm2 := hm ha
    rw [hr] at ha0 hP
    refine ew_aload_n (pc := 0) dX2_readWindow_0 rfl ?_
    refine tg_g16 (pc := 1) rfl dX2_readWindow_1 ?_
    refine ew_iconst (pc := 4) (v := 1) dX2_readWindow_4 rfl ?_
    refine tg_l16 (pc := 5) (j := 1) rfl (by decide) dX2_readWindow_5 ?_
    refine ew_bipush (pc := 6) (v := 20) dX2_readWindow_6 rfl ?_
    rw [hs.1, hm2.2.2.1]
    refine ew_icmp_ne (pc := 8) (tgt := 16) dX2_readWindow_8 (by decide) (fun c8 => ?_) (fun c8 => ?_)
    · first
      | have ha1 : a0 = .inr x := by
          rw [ha0]
          exact ckR_y (fun h9 => c8 (by rw [h9]; decide))
        rw [ha1] at s16
        exact s16 σ _ _ _ _ _ (Fq.r _ _) hP
      | have ha1 : a0 = .inl (4, x.2.1) := by
          rw [ha0]
          exact ckR_n (fun h9 => h9 ((nI_eq (b := 20) (by have := hm2.2.2.2; omega) (by decide)).mp c8))
        rw [ha1] at s16
        exact s16 σ2 _ _ _ _ _ F2 P2
    · refine ew_aload_n (pc := 11) dX2_readWindow_11 rfl ?_
      refine ew_iconst (pc := 12) (v := 4) dX2_readWindow_12 rfl ?_
      refine ew_cV1 (d' := 0) (pc := 13) vX2_119 (tw_ro _ _ _ _) dX2_readWindow_13 (by decide) (ew_rm (Nat.le_of_ble_eq_true rfl)) ?_
      refine t_flt (by decide) hP (fun σ2 F2 P2 => ?_)
      refine ew_Kv ?_
      first
      | have ha1 : a0 = .inr x := by
          rw [ha0]
          exact ckR_y (fun h9 => c8 (by rw [h9]; decide))
        rw [ha1] at s16
        exact s16 σ _ _ _ _ _ (Fq.r _ _) hP
      | have ha1 : a0 = .inl (4, x.2.1) := by
          rw [ha0]
          exact ckR_n (fun h9 => h9 ((nI_eq (b := 20) (by have := hm2.2.2.2; omega) (by decide)).mp c8))
        rw [ha1] at s16
        exact s16 σ2 _ _ _ _ _ F2 P2
