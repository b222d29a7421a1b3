/-! EW: the reference: a whole text -/
set_option maxRecDepth 100000
/-- the words that the reference compares with -/
def gKW (g : eg) : Prop := gK g "EventWindowsModel" 174 [110, 101, 116] ∧ gK g "EventWindowsModel" 176 [101, 118, 101, 110, 116] ∧ gK g "EventWindowsModel" 180 [119, 105, 110, 100, 111, 119] ∧ gK g "EventWindowsModel" 149 [115, 111, 102, 116] ∧ gK g "EventWindowsModel" 185 [102, 105, 120] ∧ gK g "EventWindowsModel" 190 [100, 101, 108, 97, 121] ∧ gK g "EventWindowsModel" 195 [119, 105, 115, 104]
theorem t_readText {g : eg} {h : eh} {t n : Nat} {σ : tS} {b : Nat → Int32} {s0 : pst} {Q : Outcome → eh → Prop} (hg : gCS g) (hg2 : gSF g) (hk : gKW g) (hT : Tx σ b n) (h3 : σ.1 3 = 0) (h7 : σ.1 7 = 0) (h4 : σ.1 4 = -1) (hJ : Js σ s0) (h0 : st0 s0)
    (hq : ∀ σ', Fq [3, 4, 6, 7, 8, 9, 10, 12, 13, 14, 15, 16] σ σ' → Jp σ' b n (txP b n s0) → (aL (txP b n s0).1 = true → okT (txP b n s0).2) → Q (.returned none) (tw t σ' h)) : ew_T g kX2_readText 7 [.ref t] (tw t σ h) Q := by
  obtain ⟨kN, kE, kW, kS, kF, kD, kI⟩ := hk
  have s142 : ∀ y σ1, y = lns b n (n + 1) (txH b n s0) → Fq [3, 4, 6, 7, 8, 9, 10, 12, 13, 14, 15, 16] σ σ1 → Jp σ1 b n y → (aL y.1 = true → okT y.2) → ew_G g kX2_readText 7 142 [.ref t] [] (tw t σ1 h) Q := by
    intro y σ1 hy hF hJ1 hok
    have ex : txP b n s0 = (ckR 1 (fun x => x.1 = 4) y.1, y.2) := by rw [hy]; rfl
    rw [ex] at hq
    obtain ⟨r, s⟩ := y
    cases r with
    | inl e =>
      refine ew_aload_n (pc := 142) dX2_readText_142 rfl ?_
      refine tg_g8 (pc := 143) rfl dX2_readText_143 ?_
      refine ew_iconst (pc := 146) (v := 4) dX2_readText_146 rfl ?_
      refine ew_icmp_eq (pc := 147) (tgt := 155) dX2_readText_147 (by decide) (fun c147 => ?_) (fun c147 => ?_)
      · refine ew_vret (pc := 155) rfl dX2_readText_155 ?_
        first
        | exact hq σ1 hF ⟨hJ1.1, fun h9 => absurd h9 Bool.false_ne_true⟩ (fun h9 => absurd h9 Bool.false_ne_true)
        | exact hq σ2 (hF.u F2 rfl) ⟨P2, fun h9 => absurd h9 Bool.false_ne_true⟩ (fun h9 => absurd h9 Bool.false_ne_true)
      · refine ew_aload_n (pc := 150) dX2_readText_150 rfl ?_
        refine ew_iconst (pc := 151) (v := 1) dX2_readText_151 rfl ?_
        refine ew_cV1 (d' := 0) (pc := 152) vX2_119 (tw_ro _ _ _ _) dX2_readText_152 (by decide) (ew_rm (Nat.le_of_ble_eq_true rfl)) ?_
        refine t_flt (by decide) hJ1.1 (fun σ2 F2 P2 => ?_)
        refine ew_Kv ?_
        refine ew_vret (pc := 155) rfl dX2_readText_155 ?_
        first
        | exact hq σ1 hF ⟨hJ1.1, fun h9 => absurd h9 Bool.false_ne_true⟩ (fun h9 => absurd h9 Bool.false_ne_true)
        | exact hq σ2 (hF.u F2 rfl) ⟨P2, fun h9 => absurd h9 Bool.false_ne_true⟩ (fun h9 => absurd h9 Bool.false_ne_true)
    | inr x =>
      have hP2 := hJ1.1
      obtain ⟨h3, ⟨h8, h6, h7, h9⟩, hO, hA4⟩ := hJ1.1
      have hk4 := hO.2.2.1
      refine ew_aload_n (pc := 142) dX2_readText_142 rfl ?_
      refine tg_g8 (pc := 143) rfl dX2_readText_143 ?_
      refine ew_iconst (pc := 146) (v := 4) dX2_readText_146 rfl ?_
      rw [h8]
      refine ew_icmp_eq (pc := 147) (tgt := 155) dX2_readText_147 (by decide) (fun c147 => ?_) (fun c147 => ?_)
      · refine ew_vret (pc := 155) rfl dX2_readText_155 ?_
        first
        | have c9 := ckR_y (c := 1) (P := fun x => x.1 = 4) (x := x) ((nI_eq (b := 4) (by omega) (by decide)).mp c147)
          rw [show (((Sum.inr x : rs), s).1) = .inr x from rfl, c9] at hq
          exact hq σ1 hF hJ1 hok
        | have c9 := ckR_n (c := 1) (P := fun x => x.1 = 4) (x := x) (fun h9 => c147 (by rw [h9]; decide))
          rw [show (((Sum.inr x : rs), s).1) = .inr x from rfl, c9] at hq
          exact hq σ2 (hF.u F2 rfl) ⟨P2, fun h9 => absurd h9 Bool.false_ne_true⟩ (fun h9 => absurd h9 Bool.false_ne_true)
      · refine ew_aload_n (pc := 150) dX2_readText_150 rfl ?_
        refine ew_iconst (pc := 151) (v := 1) dX2_readText_151 rfl ?_
        refine ew_cV1 (d' := 0) (pc := 152) vX2_119 (tw_ro _ _ _ _) dX2_readText_152 (by decide) (ew_rm (Nat.le_of_ble_eq_true rfl)) ?_
        refine t_flt (by decide) hJ1.1 (fun σ2 F2 P2 => ?_)
        refine ew_Kv ?_
        refine ew_vret (pc := 155) rfl dX2_readText_155 ?_
        first
        | have c9 := ckR_y (c := 1) (P := fun x => x.1 = 4) (x := x) ((nI_eq (b := 4) (by omega) (by decide)).mp c147)
          rw [show (((Sum.inr x : rs), s).1) = .inr x from rfl, c9] at hq
          exact hq σ1 hF hJ1 hok
        | have c9 := ckR_n (c := 1) (P := fun x => x.1 = 4) (x := x) (fun h9 => c147 (by rw [h9]; decide))
          rw [show (((Sum.inr x : rs), s).1) = .inr x from rfl, c9] at hq
          exact hq σ2 (hF.u F2 rfl) ⟨P2, fun h9 => absurd h9 Bool.false_ne_true⟩ (fun h9 => absurd h9 Bool.false_ne_true)
  have s35 : ∀ m y σ1, lns b n m y = lns b n (n + 1) (txH b n s0) → Fq [3, 4, 6, 7, 8, 9, 10, 12, 13, 14, 15, 16] σ σ1 → Jp σ1 b n y → (aL y.1 = true → okT y.2 ∧ okB y.2) → (∀ x, y.1 = .inr x → n < x.2.2.1 + m) → ew_G g kX2_readText 7 35 [.ref t] [] (tw t σ1 h) Q := by
    intro m
    induction m with
    | zero =>
      intro y σ1 hy hF hJ1 hok hfu
      obtain ⟨r, s⟩ := y
      cases r with
      | inl e =>
        have hP1 := hJ1.1
        obtain ⟨h3, h0, h4⟩ := hP1
        refine ew_aload_n (pc := 35) dX2_readText_35 rfl ?_
        refine tg_g3 (pc := 36) rfl dX2_readText_36 ?_
        rw [h3]
        refine ew_if_ne (pc := 39) (tgt := 142) dX2_readText_39 (by decide) (fun c39 => ?_) (fun c39 => absurd c39 (i_ne0 h0))
        exact s142 (.inl e, s) σ1 hy hF hJ1 (fun h9 => absurd h9 Bool.false_ne_true)
      | inr x =>
        have h1 := hfu x rfl
        have h2 := hJ1.1.2.2.1.2.1
        exact absurd h1 (by omega)
    | succ m ih =>
      intro y σ1 hy hF hJ1 hok hfu
      obtain ⟨r, s⟩ := y
      cases r with
      | inl e =>
        have hP1 := hJ1.1
        obtain ⟨h3, h0, h4⟩ := hP1
        refine ew_aload_n (pc := 35) dX2_readText_35 rfl ?_
        refine tg_g3 (pc := 36) rfl dX2_readText_36 ?_
        rw [h3]
        refine ew_if_ne (pc := 39) (tgt := 142) dX2_readText_39 (by decide) (fun c39 => ?_) (fun c39 => absurd c39 (i_ne0 h0))
        exact s142 (.inl e, s) σ1 hy hF hJ1 (fun h9 => absurd h9 Bool.false_ne_true)
      | inr x =>
        have hP2 := hJ1.1
        obtain ⟨h3, ⟨h8, h6, h7, h9⟩, hO, hA4⟩ := hJ1.1
        have hk4 := hO.2.2.1
        have hS1 := hJ1.2 rfl
        have hok1 := hok rfl
        have hT1 := hT.fq hF rfl rfl
        have nx : ∀ y' σ3, isK 3 (.inr x) = true → Fq [3, 4, 6, 7, 8, 9, 10, 12, 13, 14, 15, 16] σ σ3 → Jp σ3 b n y' → lnX b n (nxR b n (.inr x)) s = y' → ew_G g kX2_readText 7 35 [.ref t] [] (tw t σ3 h) Q := by
          intro y' σ3 h3k F3 J3 he
          have hg9 : gP b n x.2.2.1 (.inr x) := ⟨Nat.le_refl _, hO⟩
          have hg8 := gP_ln (s := s) hg9
          rw [he] at hg8
          refine ih y' σ3 ?_ F3 J3 (fun h10 => ?_) (fun x' hx' => ?_)
          · rw [← hy, lns, if_pos h3k, he]
          · rw [← he] at h10 ⊢
            exact okX_ln hok1.1 hok1.2 h10
          · rw [hx'] at hg8
            have h11 := hfu x rfl
            have h12 := hg8.1
            omega
        refine ew_aload_n (pc := 35) dX2_readText_35 rfl ?_
        refine tg_g3 (pc := 36) rfl dX2_readText_36 ?_
        rw [h3]
        refine ew_if_ne (pc := 39) (tgt := 142) dX2_readText_39 (by decide) (fun c39 => absurd rfl c39) (fun c39 => ?_)
        refine ew_aload_n (pc := 42) dX2_readText_42 rfl ?_
        refine tg_g8 (pc := 43) rfl dX2_readText_43 ?_
        refine ew_iconst (pc := 46) (v := 3) dX2_readText_46 rfl ?_
        rw [h8]
        refine ew_icmp_ne (pc := 47) (tgt := 142) dX2_readText_47 (by decide) (fun c47 => ?_) (fun c47 => ?_)
        · refine s142 (.inr x, s) σ1 ?_ hF hJ1 (fun _ => hok1.1)
          rw [← hy, lns, if_neg (fun h9 => c47 (by rw [of_decide_eq_true h9]; decide))]
        · refine ew_aload_n (pc := 50) dX2_readText_50 rfl ?_
          refine ew_cV0 (d' := 1) (pc := 51) vX2_122 (tw_ro _ _ _ _) dX2_readText_51 (by decide) (ew_rm (Nat.le_of_ble_eq_true rfl)) ?_
          have h3k : isK 3 (.inr x) = true := decide_eq_true ((nI_eq (b := 3) (by omega) (by decide)).mp c47)
          refine t_nxt hT1 hP2 (fun σ2 F2 P2 => ?_)
          have hT2 := hT1.fq F2 rfl rfl
          have hS2 := hS1.fq F2 rfl
          have J2 : Jp σ2 b n (nxR b n (.inr x), s) := ⟨P2, fun _ => hS2⟩
          have F2' := hF.u F2 (rfl : [6, 7, 8, 9].all [3, 4, 6, 7, 8, 9, 10, 12, 13, 14, 15, 16].contains = true)
          obtain ⟨k1, hk1, w1⟩ := t_isW (h := h) (t := t) hg hg2 kE (by decide) (by decide) hT2 P2
          obtain ⟨k2, hk2, w2⟩ := t_isW (h := h) (t := t) hg hg2 kW (by decide) (by decide) hT2 P2
          obtain ⟨k3, hk3, w3⟩ := t_isW (h := h) (t := t) hg hg2 kF (by decide) (by decide) hT2 P2
          obtain ⟨k4, hk4, w4⟩ := t_isW (h := h) (t := t) hg hg2 kD (by decide) (by decide) hT2 P2
          obtain ⟨k5, hk5, w5⟩ := t_isW (h := h) (t := t) hg hg2 kI (by decide) (by decide) hT2 P2
          refine ew_Kv ?_
          refine ew_aload_n (pc := 54) dX2_readText_54 rfl ?_
          refine ew_ldcS (pc := 55) hk1 dX2_readText_55 ?_
          refine ew_cV1 (d' := 5) (pc := 57) vX2_151 (tw_ro _ _ _ _) dX2_readText_57 (by decide) (ew_rm (Nat.le_of_ble_eq_true rfl)) ?_
          refine w1 _ ?_
          refine ew_Kr ?_
          refine ew_if_eq (pc := 60) (tgt := 70) dX2_readText_60 (by decide) (fun c60 => ?_) (fun c60 => ?_)
          · refine ew_aload_n (pc := 70) dX2_readText_70 rfl ?_
            refine ew_ldcS (pc := 71) hk2 dX2_readText_71 ?_
            refine ew_cV1 (d' := 5) (pc := 73) vX2_151 (tw_ro _ _ _ _) dX2_readText_73 (by decide) (ew_rm (Nat.le_of_ble_eq_true rfl)) ?_
            refine w2 _ ?_
            refine ew_Kr ?_
            refine ew_if_eq (pc := 76) (tgt := 86) dX2_readText_76 (by decide) (fun c76 => ?_) (fun c76 => ?_)
            · refine ew_aload_n (pc := 86) dX2_readText_86 rfl ?_
              refine ew_ldcS (pc := 87) hk3 dX2_readText_87 ?_
              refine ew_cV1 (d' := 5) (pc := 89) vX2_151 (tw_ro _ _ _ _) dX2_readText_89 (by decide) (ew_rm (Nat.le_of_ble_eq_true rfl)) ?_
              refine w3 _ ?_
              refine ew_Kr ?_
              refine ew_if_eq (pc := 92) (tgt := 102) dX2_readText_92 (by decide) (fun c92 => ?_) (fun c92 => ?_)
              · refine ew_aload_n (pc := 102) dX2_readText_102 rfl ?_
                refine ew_ldcS (pc := 103) hk4 dX2_readText_103 ?_
                refine ew_cV1 (d' := 5) (pc := 105) vX2_151 (tw_ro _ _ _ _) dX2_readText_105 (by decide) (ew_rm (Nat.le_of_ble_eq_true rfl)) ?_
                refine w4 _ ?_
                refine ew_Kr ?_
                refine ew_if_eq (pc := 108) (tgt := 118) dX2_readText_108 (by decide) (fun c108 => ?_) (fun c108 => ?_)
                · refine ew_aload_n (pc := 118) dX2_readText_118 rfl ?_
                  refine ew_ldcS (pc := 119) hk5 dX2_readText_119 ?_
                  refine ew_cV1 (d' := 5) (pc := 121) vX2_151 (tw_ro _ _ _ _) dX2_readText_121 (by decide) (ew_rm (Nat.le_of_ble_eq_true rfl)) ?_
                  refine w5 _ ?_
                  refine ew_Kr ?_
                  refine ew_if_eq (pc := 124) (tgt := 134) dX2_readText_124 (by decide) (fun c124 => ?_) (fun c124 => ?_)
                  · refine ew_aload_n (pc := 134) dX2_readText_134 rfl ?_
                    refine ew_iconst (pc := 135) (v := 1) dX2_readText_135 rfl ?_
                    refine ew_cV1 (d' := 0) (pc := 136) vX2_119 (tw_ro _ _ _ _) dX2_readText_136 (by decide) (ew_rm (Nat.le_of_ble_eq_true rfl)) ?_
                    refine t_flt (by decide) P2 (fun σ3 F3 P3 => ?_)
                    refine ew_Kv ?_
                    refine ew_goto (pc := 139) (tgt := 35) dX2_readText_139 (by decide) ?_
                    first
                    | refine nx (ckR 1 (fun _ => False) (nxR b n (.inr x)), s) σ3 h3k (F2'.u F3 rfl) ⟨P3, fun h9 => absurd (show aL (ckR 1 (fun _ => False) (nxR b n (.inr x))) = true from h9) aL_flt⟩ ?_
                      rw [lnX, if_neg (show ¬ wdR b bEvent (nxR b n (.inr x)) = true from bI_0.mp c60), if_neg (show ¬ wdR b bWindow (nxR b n (.inr x)) = true from bI_0.mp c76), if_neg (show ¬ wdR b bFix (nxR b n (.inr x)) = true from bI_0.mp c92), if_neg (show ¬ wdR b bDelay (nxR b n (.inr x)) = true from bI_0.mp c108), if_neg (show ¬ wdR b bWish (nxR b n (.inr x)) = true from bI_0.mp c124)]
                    | refine nx _ σ3 h3k (F2'.u F3 rfl) J3 ?_
                      rw [lnX, if_neg (show ¬ wdR b bEvent (nxR b n (.inr x)) = true from bI_0.mp c60), if_neg (show ¬ wdR b bWindow (nxR b n (.inr x)) = true from bI_0.mp c76), if_neg (show ¬ wdR b bFix (nxR b n (.inr x)) = true from bI_0.mp c92), if_neg (show ¬ wdR b bDelay (nxR b n (.inr x)) = true from bI_0.mp c108), if_pos (show wdR b bWish (nxR b n (.inr x)) = true from bI_n.mp c124)]
                    | refine nx _ σ3 h3k (F2'.u F3 rfl) J3 ?_
                      rw [lnX, if_neg (show ¬ wdR b bEvent (nxR b n (.inr x)) = true from bI_0.mp c60), if_neg (show ¬ wdR b bWindow (nxR b n (.inr x)) = true from bI_0.mp c76), if_neg (show ¬ wdR b bFix (nxR b n (.inr x)) = true from bI_0.mp c92), if_pos (show wdR b bDelay (nxR b n (.inr x)) = true from bI_n.mp c108)]
                    | refine nx _ σ3 h3k (F2'.u F3 rfl) J3 ?_
                      rw [lnX, if_neg (show ¬ wdR b bEvent (nxR b n (.inr x)) = true from bI_0.mp c60), if_neg (show ¬ wdR b bWindow (nxR b n (.inr x)) = true from bI_0.mp c76), if_pos (show wdR b bFix (nxR b n (.inr x)) = true from bI_n.mp c92)]
                    | refine nx _ σ3 h3k (F2'.u F3 rfl) J3 ?_
                      rw [lnX, if_neg (show ¬ wdR b bEvent (nxR b n (.inr x)) = true from bI_0.mp c60), if_pos (show wdR b bWindow (nxR b n (.inr x)) = true from bI_n.mp c76)]
                    | refine nx _ σ3 h3k (F2'.u F3 rfl) J3 ?_
                      rw [lnX, if_pos (show wdR b bEvent (nxR b n (.inr x)) = true from bI_n.mp c60)]
                  · refine ew_aload_n (pc := 127) dX2_readText_127 rfl ?_
                    refine ew_cV0 (d' := 4) (pc := 128) vX2_197 (tw_ro _ _ _ _) dX2_readText_128 (by decide) (ew_rm (Nat.le_of_ble_eq_true rfl)) ?_
                    refine t_readWish hT2 J2 (fun _ => hok1.1.p) (fun σ3 F3 J3 => ?_)
                    refine ew_Kv ?_
                    refine ew_goto (pc := 131) (tgt := 35) dX2_readText_131 (by decide) ?_
                    first
                    | refine nx (ckR 1 (fun _ => False) (nxR b n (.inr x)), s) σ3 h3k (F2'.u F3 rfl) ⟨P3, fun h9 => absurd (show aL (ckR 1 (fun _ => False) (nxR b n (.inr x))) = true from h9) aL_flt⟩ ?_
                      rw [lnX, if_neg (show ¬ wdR b bEvent (nxR b n (.inr x)) = true from bI_0.mp c60), if_neg (show ¬ wdR b bWindow (nxR b n (.inr x)) = true from bI_0.mp c76), if_neg (show ¬ wdR b bFix (nxR b n (.inr x)) = true from bI_0.mp c92), if_neg (show ¬ wdR b bDelay (nxR b n (.inr x)) = true from bI_0.mp c108), if_neg (show ¬ wdR b bWish (nxR b n (.inr x)) = true from bI_0.mp c124)]
                    | refine nx _ σ3 h3k (F2'.u F3 rfl) J3 ?_
                      rw [lnX, if_neg (show ¬ wdR b bEvent (nxR b n (.inr x)) = true from bI_0.mp c60), if_neg (show ¬ wdR b bWindow (nxR b n (.inr x)) = true from bI_0.mp c76), if_neg (show ¬ wdR b bFix (nxR b n (.inr x)) = true from bI_0.mp c92), if_neg (show ¬ wdR b bDelay (nxR b n (.inr x)) = true from bI_0.mp c108), if_pos (show wdR b bWish (nxR b n (.inr x)) = true from bI_n.mp c124)]
                    | refine nx _ σ3 h3k (F2'.u F3 rfl) J3 ?_
                      rw [lnX, if_neg (show ¬ wdR b bEvent (nxR b n (.inr x)) = true from bI_0.mp c60), if_neg (show ¬ wdR b bWindow (nxR b n (.inr x)) = true from bI_0.mp c76), if_neg (show ¬ wdR b bFix (nxR b n (.inr x)) = true from bI_0.mp c92), if_pos (show wdR b bDelay (nxR b n (.inr x)) = true from bI_n.mp c108)]
                    | refine nx _ σ3 h3k (F2'.u F3 rfl) J3 ?_
                      rw [lnX, if_neg (show ¬ wdR b bEvent (nxR b n (.inr x)) = true from bI_0.mp c60), if_neg (show ¬ wdR b bWindow (nxR b n (.inr x)) = true from bI_0.mp c76), if_pos (show wdR b bFix (nxR b n (.inr x)) = true from bI_n.mp c92)]
                    | refine nx _ σ3 h3k (F2'.u F3 rfl) J3 ?_
                      rw [lnX, if_neg (show ¬ wdR b bEvent (nxR b n (.inr x)) = true from bI_0.mp c60), if_pos (show wdR b bWindow (nxR b n (.inr x)) = true from bI_n.mp c76)]
                    | refine nx _ σ3 h3k (F2'.u F3 rfl) J3 ?_
                      rw [lnX, if_pos (show wdR b bEvent (nxR b n (.inr x)) = true from bI_n.mp c60)]
                · refine ew_aload_n (pc := 111) dX2_readText_111 rfl ?_
                  refine ew_cV0 (d' := 4) (pc := 112) vX2_192 (tw_ro _ _ _ _) dX2_readText_112 (by decide) (ew_rm (Nat.le_of_ble_eq_true rfl)) ?_
                  refine t_readDelay hT2 J2 (fun _ => hok1.1.p) (fun σ3 F3 J3 => ?_)
                  refine ew_Kv ?_
                  refine ew_goto (pc := 115) (tgt := 35) dX2_readText_115 (by decide) ?_
                  first
                  | refine nx (ckR 1 (fun _ => False) (nxR b n (.inr x)), s) σ3 h3k (F2'.u F3 rfl) ⟨P3, fun h9 => absurd (show aL (ckR 1 (fun _ => False) (nxR b n (.inr x))) = true from h9) aL_flt⟩ ?_
                    rw [lnX, if_neg (show ¬ wdR b bEvent (nxR b n (.inr x)) = true from bI_0.mp c60), if_neg (show ¬ wdR b bWindow (nxR b n (.inr x)) = true from bI_0.mp c76), if_neg (show ¬ wdR b bFix (nxR b n (.inr x)) = true from bI_0.mp c92), if_neg (show ¬ wdR b bDelay (nxR b n (.inr x)) = true from bI_0.mp c108), if_neg (show ¬ wdR b bWish (nxR b n (.inr x)) = true from bI_0.mp c124)]
                  | refine nx _ σ3 h3k (F2'.u F3 rfl) J3 ?_
                    rw [lnX, if_neg (show ¬ wdR b bEvent (nxR b n (.inr x)) = true from bI_0.mp c60), if_neg (show ¬ wdR b bWindow (nxR b n (.inr x)) = true from bI_0.mp c76), if_neg (show ¬ wdR b bFix (nxR b n (.inr x)) = true from bI_0.mp c92), if_neg (show ¬ wdR b bDelay (nxR b n (.inr x)) = true from bI_0.mp c108), if_pos (show wdR b bWish (nxR b n (.inr x)) = true from bI_n.mp c124)]
                  | refine nx _ σ3 h3k (F2'.u F3 rfl) J3 ?_
                    rw [lnX, if_neg (show ¬ wdR b bEvent (nxR b n (.inr x)) = true from bI_0.mp c60), if_neg (show ¬ wdR b bWindow (nxR b n (.inr x)) = true from bI_0.mp c76), if_neg (show ¬ wdR b bFix (nxR b n (.inr x)) = true from bI_0.mp c92), if_pos (show wdR b bDelay (nxR b n (.inr x)) = true from bI_n.mp c108)]
                  | refine nx _ σ3 h3k (F2'.u F3 rfl) J3 ?_
                    rw [lnX, if_neg (show ¬ wdR b bEvent (nxR b n (.inr x)) = true from bI_0.mp c60), if_neg (show ¬ wdR b bWindow (nxR b n (.inr x)) = true from bI_0.mp c76), if_pos (show wdR b bFix (nxR b n (.inr x)) = true from bI_n.mp c92)]
                  | refine nx _ σ3 h3k (F2'.u F3 rfl) J3 ?_
                    rw [lnX, if_neg (show ¬ wdR b bEvent (nxR b n (.inr x)) = true from bI_0.mp c60), if_pos (show wdR b bWindow (nxR b n (.inr x)) = true from bI_n.mp c76)]
                  | refine nx _ σ3 h3k (F2'.u F3 rfl) J3 ?_
                    rw [lnX, if_pos (show wdR b bEvent (nxR b n (.inr x)) = true from bI_n.mp c60)]
              · refine ew_aload_n (pc := 95) dX2_readText_95 rfl ?_
                refine ew_cV0 (d' := 4) (pc := 96) vX2_187 (tw_ro _ _ _ _) dX2_readText_96 (by decide) (ew_rm (Nat.le_of_ble_eq_true rfl)) ?_
                refine t_readFix hT2 J2 (fun _ => hok1.1.p) (fun σ3 F3 J3 => ?_)
                refine ew_Kv ?_
                refine ew_goto (pc := 99) (tgt := 35) dX2_readText_99 (by decide) ?_
                first
                | refine nx (ckR 1 (fun _ => False) (nxR b n (.inr x)), s) σ3 h3k (F2'.u F3 rfl) ⟨P3, fun h9 => absurd (show aL (ckR 1 (fun _ => False) (nxR b n (.inr x))) = true from h9) aL_flt⟩ ?_
                  rw [lnX, if_neg (show ¬ wdR b bEvent (nxR b n (.inr x)) = true from bI_0.mp c60), if_neg (show ¬ wdR b bWindow (nxR b n (.inr x)) = true from bI_0.mp c76), if_neg (show ¬ wdR b bFix (nxR b n (.inr x)) = true from bI_0.mp c92), if_neg (show ¬ wdR b bDelay (nxR b n (.inr x)) = true from bI_0.mp c108), if_neg (show ¬ wdR b bWish (nxR b n (.inr x)) = true from bI_0.mp c124)]
                | refine nx _ σ3 h3k (F2'.u F3 rfl) J3 ?_
                  rw [lnX, if_neg (show ¬ wdR b bEvent (nxR b n (.inr x)) = true from bI_0.mp c60), if_neg (show ¬ wdR b bWindow (nxR b n (.inr x)) = true from bI_0.mp c76), if_neg (show ¬ wdR b bFix (nxR b n (.inr x)) = true from bI_0.mp c92), if_neg (show ¬ wdR b bDelay (nxR b n (.inr x)) = true from bI_0.mp c108), if_pos (show wdR b bWish (nxR b n (.inr x)) = true from bI_n.mp c124)]
                | refine nx _ σ3 h3k (F2'.u F3 rfl) J3 ?_
                  rw [lnX, if_neg (show ¬ wdR b bEvent (nxR b n (.inr x)) = true from bI_0.mp c60), if_neg (show ¬ wdR b bWindow (nxR b n (.inr x)) = true from bI_0.mp c76), if_neg (show ¬ wdR b bFix (nxR b n (.inr x)) = true from bI_0.mp c92), if_pos (show wdR b bDelay (nxR b n (.inr x)) = true from bI_n.mp c108)]
                | refine nx _ σ3 h3k (F2'.u F3 rfl) J3 ?_
                  rw [lnX, if_neg (show ¬ wdR b bEvent (nxR b n (.inr x)) = true from bI_0.mp c60), if_neg (show ¬ wdR b bWindow (nxR b n (.inr x)) = true from bI_0.mp c76), if_pos (show wdR b bFix (nxR b n (.inr x)) = true from bI_n.mp c92)]
                | refine nx _ σ3 h3k (F2'.u F3 rfl) J3 ?_
                  rw [lnX, if_neg (show ¬ wdR b bEvent (nxR b n (.inr x)) = true from bI_0.mp c60), if_pos (show wdR b bWindow (nxR b n (.inr x)) = true from bI_n.mp c76)]
                | refine nx _ σ3 h3k (F2'.u F3 rfl) J3 ?_
                  rw [lnX, if_pos (show wdR b bEvent (nxR b n (.inr x)) = true from bI_n.mp c60)]
            · refine ew_aload_n (pc := 79) dX2_readText_79 rfl ?_
              refine ew_cV0 (d' := 6) (pc := 80) vX2_182 (tw_ro _ _ _ _) dX2_readText_80 (by decide) (ew_rm (Nat.le_of_ble_eq_true rfl)) ?_
              refine t_readWindow hg hg2 kS hT2 J2 (fun _ => hok1.1.p) (fun σ3 F3 J3 => ?_)
              refine ew_Kv ?_
              refine ew_goto (pc := 83) (tgt := 35) dX2_readText_83 (by decide) ?_
              first
              | refine nx (ckR 1 (fun _ => False) (nxR b n (.inr x)), s) σ3 h3k (F2'.u F3 rfl) ⟨P3, fun h9 => absurd (show aL (ckR 1 (fun _ => False) (nxR b n (.inr x))) = true from h9) aL_flt⟩ ?_
                rw [lnX, if_neg (show ¬ wdR b bEvent (nxR b n (.inr x)) = true from bI_0.mp c60), if_neg (show ¬ wdR b bWindow (nxR b n (.inr x)) = true from bI_0.mp c76), if_neg (show ¬ wdR b bFix (nxR b n (.inr x)) = true from bI_0.mp c92), if_neg (show ¬ wdR b bDelay (nxR b n (.inr x)) = true from bI_0.mp c108), if_neg (show ¬ wdR b bWish (nxR b n (.inr x)) = true from bI_0.mp c124)]
              | refine nx _ σ3 h3k (F2'.u F3 rfl) J3 ?_
                rw [lnX, if_neg (show ¬ wdR b bEvent (nxR b n (.inr x)) = true from bI_0.mp c60), if_neg (show ¬ wdR b bWindow (nxR b n (.inr x)) = true from bI_0.mp c76), if_neg (show ¬ wdR b bFix (nxR b n (.inr x)) = true from bI_0.mp c92), if_neg (show ¬ wdR b bDelay (nxR b n (.inr x)) = true from bI_0.mp c108), if_pos (show wdR b bWish (nxR b n (.inr x)) = true from bI_n.mp c124)]
              | refine nx _ σ3 h3k (F2'.u F3 rfl) J3 ?_
                rw [lnX, if_neg (show ¬ wdR b bEvent (nxR b n (.inr x)) = true from bI_0.mp c60), if_neg (show ¬ wdR b bWindow (nxR b n (.inr x)) = true from bI_0.mp c76), if_neg (show ¬ wdR b bFix (nxR b n (.inr x)) = true from bI_0.mp c92), if_pos (show wdR b bDelay (nxR b n (.inr x)) = true from bI_n.mp c108)]
              | refine nx _ σ3 h3k (F2'.u F3 rfl) J3 ?_
                rw [lnX, if_neg (show ¬ wdR b bEvent (nxR b n (.inr x)) = true from bI_0.mp c60), if_neg (show ¬ wdR b bWindow (nxR b n (.inr x)) = true from bI_0.mp c76), if_pos (show wdR b bFix (nxR b n (.inr x)) = true from bI_n.mp c92)]
              | refine nx _ σ3 h3k (F2'.u F3 rfl) J3 ?_
                rw [lnX, if_neg (show ¬ wdR b bEvent (nxR b n (.inr x)) = true from bI_0.mp c60), if_pos (show wdR b bWindow (nxR b n (.inr x)) = true from bI_n.mp c76)]
              | refine nx _ σ3 h3k (F2'.u F3 rfl) J3 ?_
                rw [lnX, if_pos (show wdR b bEvent (nxR b n (.inr x)) = true from bI_n.mp c60)]
          · refine ew_aload_n (pc := 63) dX2_readText_63 rfl ?_
            refine ew_cV0 (d' := 4) (pc := 64) vX2_177 (tw_ro _ _ _ _) dX2_readText_64 (by decide) (ew_rm (Nat.le_of_ble_eq_true rfl)) ?_
            refine t_readEvent hT2 J2 (fun _ => hok1.1.p) (fun σ3 F3 J3 => ?_)
            refine ew_Kv ?_
            refine ew_goto (pc := 67) (tgt := 35) dX2_readText_67 (by decide) ?_
            first
            | refine nx (ckR 1 (fun _ => False) (nxR b n (.inr x)), s) σ3 h3k (F2'.u F3 rfl) ⟨P3, fun h9 => absurd (show aL (ckR 1 (fun _ => False) (nxR b n (.inr x))) = true from h9) aL_flt⟩ ?_
              rw [lnX, if_neg (show ¬ wdR b bEvent (nxR b n (.inr x)) = true from bI_0.mp c60), if_neg (show ¬ wdR b bWindow (nxR b n (.inr x)) = true from bI_0.mp c76), if_neg (show ¬ wdR b bFix (nxR b n (.inr x)) = true from bI_0.mp c92), if_neg (show ¬ wdR b bDelay (nxR b n (.inr x)) = true from bI_0.mp c108), if_neg (show ¬ wdR b bWish (nxR b n (.inr x)) = true from bI_0.mp c124)]
            | refine nx _ σ3 h3k (F2'.u F3 rfl) J3 ?_
              rw [lnX, if_neg (show ¬ wdR b bEvent (nxR b n (.inr x)) = true from bI_0.mp c60), if_neg (show ¬ wdR b bWindow (nxR b n (.inr x)) = true from bI_0.mp c76), if_neg (show ¬ wdR b bFix (nxR b n (.inr x)) = true from bI_0.mp c92), if_neg (show ¬ wdR b bDelay (nxR b n (.inr x)) = true from bI_0.mp c108), if_pos (show wdR b bWish (nxR b n (.inr x)) = true from bI_n.mp c124)]
            | refine nx _ σ3 h3k (F2'.u F3 rfl) J3 ?_
              rw [lnX, if_neg (show ¬ wdR b bEvent (nxR b n (.inr x)) = true from bI_0.mp c60), if_neg (show ¬ wdR b bWindow (nxR b n (.inr x)) = true from bI_0.mp c76), if_neg (show ¬ wdR b bFix (nxR b n (.inr x)) = true from bI_0.mp c92), if_pos (show wdR b bDelay (nxR b n (.inr x)) = true from bI_n.mp c108)]
            | refine nx _ σ3 h3k (F2'.u F3 rfl) J3 ?_
              rw [lnX, if_neg (show ¬ wdR b bEvent (nxR b n (.inr x)) = true from bI_0.mp c60), if_neg (show ¬ wdR b bWindow (nxR b n (.inr x)) = true from bI_0.mp c76), if_pos (show wdR b bFix (nxR b n (.inr x)) = true from bI_n.mp c92)]
            | refine nx _ σ3 h3k (F2'.u F3 rfl) J3 ?_
              rw [lnX, if_neg (show ¬ wdR b bEvent (nxR b n (.inr x)) = true from bI_0.mp c60), if_pos (show wdR b bWindow (nxR b n (.inr x)) = true from bI_n.mp c76)]
            | refine nx _ σ3 h3k (F2'.u F3 rfl) J3 ?_
              rw [lnX, if_pos (show wdR b bEvent (nxR b n (.inr x)) = true from bI_n.mp c60)]
  have s18 : ∀ r1 σ1, ckR 1 (fun x => x.1 = 1 ∧ tkL b x = bNet) (.inr (tkN b n 0)) = r1 → Fq [3, 4, 6, 7, 8, 9] σ σ1 → Ps σ1 b n r1 → ew_G g kX2_readText 7 18 [.ref t] [] (tw t σ1 h) Q := by
    intro r1 σ1 hr hF hP1
    have hT1 := hT.fq hF rfl rfl
    refine ew_aload_n (pc := 18) dX2_readText_18 rfl ?_
    refine ew_cV0 (d' := 1) (pc := 19) vX2_122 (tw_ro _ _ _ _) dX2_readText_19 (by decide) (ew_rm (Nat.le_of_ble_eq_true rfl)) ?_
    refine t_nxt hT1 hP1 (fun σ2 F2 P2 => ?_)
    refine ew_Kv ?_
    refine ew_aload_n (pc := 22) dX2_readText_22 rfl ?_
    refine ew_cV0 (d' := 3) (pc := 23) vX2_139 (tw_ro _ _ _ _) dX2_readText_23 (by decide) (ew_rm (Nat.le_of_ble_eq_true rfl)) ?_
    refine t_readName (m := 0) (s := s0) (hT1.fq F2 rfl rfl) ⟨P2, fun _ => (hJ.fq hF rfl).fq F2 rfl⟩ (fun _ => ⟨by decide, h0.1 0 (by decide)⟩) (fun σ3 F3 J3 => ?_)
    refine ew_Kv ?_
    refine ew_aload_n (pc := 26) dX2_readText_26 rfl ?_
    refine tg_g16 (pc := 27) rfl dX2_readText_27 ?_
    refine ew_sipush (pc := 30) (v := 146) dX2_readText_30 rfl ?_
    refine ew_iconst (pc := 33) (v := 0) dX2_readText_33 rfl ?_
    refine tg_s16 (pc := 34) (j := 146) rfl (by decide) dX2_readText_34 ?_
    refine s35 (n + 1) (txH b n s0) _ rfl ((((hF.w rfl).u F2 rfl).u F3 rfl).xA 16 _ rfl) ?_ (fun h9 => okX_H h0 h9) (fun x _ => by omega)
    have e : txH b n s0 = ((naP b n 0 (nxR b n r1) s0).1, upd (naP b n 0 (nxR b n r1) s0).2.1 146 0, (naP b n 0 (nxR b n r1) s0).2.2) := by rw [← hr]; rfl
    rw [e]
    refine ⟨J3.1.fq (Fq.A (S := [16]) σ3 16 _ rfl) rfl, fun h9 => ?_⟩
    have h8 := J3.2 h9
    refine ⟨?_, h8.2⟩
    show upd (σ3.2 16) 146 0 = _
    rw [h8.1]
    rfl
  refine ew_enter (by decide +kernel) (ew_a1 rfl ew_az) (Nat.le_of_ble_eq_true rfl) ?_
  refine ew_aload_n (pc := 0) dX2_readText_0 rfl ?_
  refine ew_cV0 (d' := 1) (pc := 1) vX2_122 (tw_ro _ _ _ _) dX2_readText_1 (by decide) (ew_rm (Nat.le_of_ble_eq_true rfl)) ?_
  refine t_nextToken (p := 0) hT h3 h7 (Nat.zero_le _) (fun σ1 F1 hk => ?_)
  have hv := tkN_val (b := b) (n := n) (p := 0) (v := σ.1 9)
  have P1 : Ps σ1 b n (.inr (tkN b n 0)) := by
    refine ⟨(F1.s 3 rfl).trans h3, ⟨?_, ?_, ?_, fun h8 => ?_⟩, (tkN_ok (Nat.zero_le _)).1, (F1.s 4 rfl).trans h4⟩
    · rw [← hv.1]; exact hk.1
    · rw [← hv.2.1]; exact hk.2.1
    · rw [← hv.2.2.1]; exact hk.2.2.1
    · rw [← hv.2.2.2 h8]; exact hk.2.2.2
  obtain ⟨k1, hk1, w1⟩ := t_isW (h := h) (t := t) hg hg2 kN (by decide) (by decide) (hT.fq F1 rfl rfl) P1
  refine ew_Kv ?_
  refine ew_aload_n (pc := 4) dX2_readText_4 rfl ?_
  refine ew_ldcS (pc := 5) hk1 dX2_readText_5 ?_
  refine ew_cV1 (d' := 5) (pc := 7) vX2_151 (tw_ro _ _ _ _) dX2_readText_7 (by decide) (ew_rm (Nat.le_of_ble_eq_true rfl)) ?_
  refine w1 _ ?_
  refine ew_Kr ?_
  refine ew_if_ne (pc := 10) (tgt := 18) dX2_readText_10 (by decide) (fun c10 => ?_) (fun c10 => ?_)
  · first
    | exact s18 (.inr (tkN b n 0)) σ1 (ckR_y (of_decide_eq_true (bI_n.mp c10))) (F1.w rfl) P1
    | exact s18 (.inl (1, (tkN b n 0).2.1)) σ2 (ckR_n (fun h9 => bI_0.mp c10 (decide_eq_true h9))) ((F1.w rfl).u F2 rfl) P2
    | exact s18 (.inl (1, (tkN b n 0).2.1)) σ2 (ckR_n (fun h9 => bI_0.mp (Decidable.not_not.mp c10) (decide_eq_true h9))) ((F1.w rfl).u F2 rfl) P2
  · refine ew_aload_n (pc := 13) dX2_readText_13 rfl ?_
    refine ew_iconst (pc := 14) (v := 1) dX2_readText_14 rfl ?_
    refine ew_cV1 (d' := 0) (pc := 15) vX2_119 (tw_ro _ _ _ _) dX2_readText_15 (by decide) (ew_rm (Nat.le_of_ble_eq_true rfl)) ?_
    refine t_flt (by decide) P1 (fun σ2 F2 P2 => ?_)
    refine ew_Kv ?_
    first
    | exact s18 (.inr (tkN b n 0)) σ1 (ckR_y (of_decide_eq_true (bI_n.mp c10))) (F1.w rfl) P1
    | exact s18 (.inl (1, (tkN b n 0).2.1)) σ2 (ckR_n (fun h9 => bI_0.mp c10 (decide_eq_true h9))) ((F1.w rfl).u F2 rfl) P2
    | exact s18 (.inl (1, (tkN b n 0).2.1)) σ2 (ckR_n (fun h9 => bI_0.mp (Decidable.not_not.mp c10) (decide_eq_true h9))) ((F1.w rfl).u F2 rfl) P2
