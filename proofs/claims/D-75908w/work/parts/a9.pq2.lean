/-! EW: the queue's walk down -/
set_option maxRecDepth 100000
section
variable {g : eg} {h : eh} {Q : Outcome → eh → Prop}
theorem t_siftDnC {E c cap x : Nat} {V : List qd} {v : drp} {f : Nat → Option Nat} (hE : h.1 E = some (aR 5 cap f)) (hc : rd g h c = some (ob 13 [])) (hk : V[0]? = some (x, v)) (hl : V.length ≤ cap) (hcap : cap < 2 ^ 20) (hf : agq cap f V 0) (hob : ∀ p, p ∈ V → h.1 p.1 = some (drO p.2)) (H : hpD V 0) (hq : ∀ V' F, V'.Perm V → hpO V' → agf cap F V' → Q (.returned none) (eh_set h E (aR 5 cap F))) : ew_T g kJ29_siftDownUsingComparator 11 [.int 0, .ref x, .ref E, .int (nI V.length), .ref c] h Q := by
  have hcE : c ≠ E := fun e => by
    rw [e, rd_of hE] at hc
    cases hc
  have nE9 : ∀ (p : qd) , p ∈ V → p.1 ≠ E := fun p hp e => by
    have h9 := hob p hp
    rw [e, hE] at h9
    cases h9
  have hx0 := hob _ (List.mem_of_getElem? hk)
  have hxE : x ≠ E := nE9 _ (List.mem_of_getElem? hk)
  have fin : ∀ k W F x6 x7 x8, W.Perm V → W[k]? = some (x, v) → agq cap F W k → hpO W → ew_G g kJ29_siftDownUsingComparator 11 88 [.int (nI k), .ref x, .ref E, .int (nI V.length), .ref c, .int (nI (V.length / 2)), x6, x7, x8] [] (eh_set h E (aR 5 cap F)) Q := by
    intro k W F x6 x7 x8 hp hk hf H
    have hkl := (List.getElem?_eq_some_iff.mp hk).1
    have hlen := hp.length_eq
    refine ew_aload_n (pc := 88) dJ29_siftDownUsingComparator_88 rfl ?_
    refine ew_iload_n (pc := 89) dJ29_siftDownUsingComparator_89 rfl ?_
    first | refine ew_aload_n (pc := 90) dJ29_siftDownUsingComparator_90 rfl ?_ | refine ew_aload_nq (pc := 90) dJ29_siftDownUsingComparator_90 rfl ?_ | refine ew_aload_nN (pc := 90) dJ29_siftDownUsingComparator_90 rfl ?_
    refine ew_aaS (pc := 91) rfl (se_1 _ _ _) (drO_o (rd_sn (rd_of hx0) hxE)) (j := k) rfl (by omega) (by omega) dJ29_siftDownUsingComparator_91 ?_
    rw [ew_ss]
    refine ew_vret (pc := 92) rfl dJ29_siftDownUsingComparator_92 ?_
    exact hq W _ hp H (hf.fin hk)
  have main : ∀ q k W F x6 x7 x8, V.length ≤ k + q → W.Perm V → W[k]? = some (x, v) → agq cap F W k → hpD W k → ew_G g kJ29_siftDownUsingComparator 11 5 [.int (nI k), .ref x, .ref E, .int (nI V.length), .ref c, .int (nI (V.length / 2)), x6, x7, x8] [] (eh_set h E (aR 5 cap F)) Q := by
    intro q
    induction q with
    | zero =>
      intro k W F x6 x7 x8 hkq hp hk hf H
      have hkl := (List.getElem?_eq_some_iff.mp hk).1
      have hlen := hp.length_eq
      omega
    | succ q ih =>
      intro k W F x6 x7 x8 hkq hp hk hf H
      have hkl := (List.getElem?_eq_some_iff.mp hk).1
      have hlen := hp.length_eq
      by_cases h2 : 2 * k + 1 < V.length
      · have s61 : ∀ j y x8, (j = 2 * k + 1 ∨ j = 2 * k + 2) → j < W.length → W[j]? = some y → (∀ i, (i - 1) / 2 = k → 0 < i → i < W.length → kD y.2 ≤ kq W i) → ew_G g kJ29_siftDownUsingComparator 11 61 [.int (nI k), .ref x, .ref E, .int (nI V.length), .ref c, .int (nI (V.length / 2)), .int (nI j), .ref y.1, x8] [] (eh_set h E (aR 5 cap F)) Q := by
          intro j y x8 hj hjl hy hmin
          have hyV : y ∈ V := hp.mem_iff.mp (List.mem_of_getElem? hy)
          have hyo := hob y hyV
          refine ew_aload (pc := 61) dJ29_siftDownUsingComparator_61 rfl ?_
          first | refine ew_aload_n (pc := 63) dJ29_siftDownUsingComparator_63 rfl ?_ | refine ew_aload_nq (pc := 63) dJ29_siftDownUsingComparator_63 rfl ?_ | refine ew_aload_nN (pc := 63) dJ29_siftDownUsingComparator_63 rfl ?_
          first | refine ew_aload (pc := 64) dJ29_siftDownUsingComparator_64 rfl ?_ | refine ew_aloadq (pc := 64) dJ29_siftDownUsingComparator_64 rfl ?_ | refine ew_aloadN (pc := 64) dJ29_siftDownUsingComparator_64 rfl ?_
          refine ew_cF2 (d' := 2) (pc := 66) tJ29_149_13 (rd_sn hc hcE) dJ29_siftDownUsingComparator_66 (by decide) (ew_rm (Nat.le_of_ble_eq_true rfl)) ?_
          refine t_drCmp (rd_sn hc hcE) (rd_sn (rd_of hx0) hxE) (rd_sn (rd_of hyo) (nE9 _ hyV)) ?_
          refine ew_Kr ?_
          refine ew_if_gt (pc := 71) (tgt := 77) dJ29_siftDownUsingComparator_71 (by decide) (fun c71 => ?_) (fun c71 => ?_)
          · refine ew_aload_n (pc := 77) dJ29_siftDownUsingComparator_77 rfl ?_
            refine ew_iload_n (pc := 78) dJ29_siftDownUsingComparator_78 rfl ?_
            first | refine ew_aload (pc := 79) dJ29_siftDownUsingComparator_79 rfl ?_ | refine ew_aloadq (pc := 79) dJ29_siftDownUsingComparator_79 rfl ?_ | refine ew_aloadN (pc := 79) dJ29_siftDownUsingComparator_79 rfl ?_
            refine ew_aaS (pc := 81) rfl (se_1 _ _ _) (drO_o (rd_sn (rd_of hyo) (nE9 _ hyV))) (j := k) rfl (by omega) (by omega) dJ29_siftDownUsingComparator_81 ?_
            rw [ew_ss]
            refine ew_iload (pc := 82) dJ29_siftDownUsingComparator_82 rfl ?_
            refine ew_istore_n (pc := 84) dJ29_siftDownUsingComparator_84 rfl (by decide) (p1_0) ?_
            refine ew_goto (pc := 85) (tgt := 5) dJ29_siftDownUsingComparator_85 (by decide) ?_
            exact ih j (swq W k j (x, v) y) _ _ _ _ (by omega) ((swq_perm hk hy (by omega)).trans hp) (swq_p hjl) (hf.st hkl (by omega)) (H.down hj hjl hk hy (kD_gt.mp c71) hmin)
          · refine ew_goto (pc := 74) (tgt := 88) dJ29_siftDownUsingComparator_74 (by decide) ?_
            exact fin k W F _ _ _ hp hk hf (H.fin (fun i h1 h2 h3 => by
              have h4 := hmin i h1 h2 h3
              have h5 : kD v ≤ kD y.2 := Int.not_lt.mp (fun h9 => c71 (kD_gt.mpr h9))
              rw [kq_s hk]
              exact Int.le_trans h5 h4))
        obtain ⟨y1, hy1⟩ : ∃ y, W[2 * k + 1]? = some y := ⟨_, List.getElem?_eq_getElem (by omega)⟩
        have hyV1 : y1 ∈ V := hp.mem_iff.mp (List.mem_of_getElem? hy1)
        have hyo1 := hob y1 hyV1
        have hfy1 : F (2 * k + 1) = some y1.1 := by rw [hf _ (by omega) (by omega), hy1]; rfl
        by_cases h3 : 2 * k + 2 < V.length
        · obtain ⟨y2, hy2⟩ : ∃ y, W[2 * k + 2]? = some y := ⟨_, List.getElem?_eq_getElem (by omega)⟩
          have hyV2 : y2 ∈ V := hp.mem_iff.mp (List.mem_of_getElem? hy2)
          have hyo2 := hob y2 hyV2
          have hfy2 : F (2 * k + 2) = some y2.1 := by rw [hf _ (by omega) (by omega), hy2]; rfl
          refine ew_iload_n (pc := 5) dJ29_siftDownUsingComparator_5 rfl ?_
          refine ew_iload (pc := 6) dJ29_siftDownUsingComparator_6 rfl ?_
          refine ew_icmp_ge (pc := 8) (tgt := 88) dJ29_siftDownUsingComparator_8 (by decide) (fun c8 => absurd c8 (nI_ge (by omega) (by omega))) (fun c8 => ?_)
          refine ew_iload_n (pc := 11) dJ29_siftDownUsingComparator_11 rfl ?_
          refine ew_iconst (pc := 12) (v := 1) dJ29_siftDownUsingComparator_12 rfl ?_
          refine ew_ishl (pc := 13) dJ29_siftDownUsingComparator_13 ?_
          rw [nI_shl1]
          refine ew_iconst (pc := 14) (v := 1) dJ29_siftDownUsingComparator_14 rfl ?_
          refine ew_iadd (pc := 15) dJ29_siftDownUsingComparator_15 ?_
          rw [show nI (2 * k) + 1 = nI (2 * k + 1) from nI_add _ _]
          refine ew_istore (pc := 16) dJ29_siftDownUsingComparator_16 (by decide) (p1_6 rfl) ?_
          refine ew_aload_n (pc := 18) dJ29_siftDownUsingComparator_18 rfl ?_
          refine ew_iload (pc := 19) dJ29_siftDownUsingComparator_19 rfl ?_
          refine ew_aaJ (pc := 21) rfl (rd_se _ _ _ _) (j := 2 * k + 1) rfl (by omega) (by omega) dJ29_siftDownUsingComparator_21 ?_
          rw [hfy1]
          first | refine ew_astore (pc := 22) dJ29_siftDownUsingComparator_22 (by decide) (p1_7 rfl) ?_ | refine ew_astoreq (pc := 22) dJ29_siftDownUsingComparator_22 (by decide) (p1_7 rfl) ?_ | refine ew_astoreN (pc := 22) dJ29_siftDownUsingComparator_22 (by decide) (p1_7 rfl) ?_
          refine ew_iload (pc := 24) dJ29_siftDownUsingComparator_24 rfl ?_
          refine ew_iconst (pc := 26) (v := 1) dJ29_siftDownUsingComparator_26 rfl ?_
          refine ew_iadd (pc := 27) dJ29_siftDownUsingComparator_27 ?_
          rw [show nI (2 * k + 1) + 1 = nI (2 * k + 2) from nI_add _ _]
          refine ew_istore (pc := 28) dJ29_siftDownUsingComparator_28 (by decide) (p1_8 rfl) ?_
          refine ew_iload (pc := 30) dJ29_siftDownUsingComparator_30 rfl ?_
          refine ew_iload_n (pc := 32) dJ29_siftDownUsingComparator_32 rfl ?_
          refine ew_icmp_ge (pc := 33) (tgt := 61) dJ29_siftDownUsingComparator_33 (by decide) (fun c33 => absurd c33 (nI_ge (by omega) (by omega))) (fun c33 => ?_)
          refine ew_aload (pc := 36) dJ29_siftDownUsingComparator_36 rfl ?_
          first | refine ew_aload (pc := 38) dJ29_siftDownUsingComparator_38 rfl ?_ | refine ew_aloadq (pc := 38) dJ29_siftDownUsingComparator_38 rfl ?_ | refine ew_aloadN (pc := 38) dJ29_siftDownUsingComparator_38 rfl ?_
          refine ew_aload_n (pc := 40) dJ29_siftDownUsingComparator_40 rfl ?_
          refine ew_iload (pc := 41) dJ29_siftDownUsingComparator_41 rfl ?_
          refine ew_aaJ (pc := 43) rfl (rd_se _ _ _ _) (j := 2 * k + 2) rfl (by omega) (by omega) dJ29_siftDownUsingComparator_43 ?_
          rw [hfy2]
          refine ew_cF2 (d' := 2) (pc := 44) tJ29_149_13 (rd_sn hc hcE) dJ29_siftDownUsingComparator_44 (by decide) (ew_rm (Nat.le_of_ble_eq_true rfl)) ?_
          refine t_drCmp (rd_sn hc hcE) (rd_sn (rd_of hyo1) (nE9 _ hyV1)) (rd_sn (rd_of hyo2) (nE9 _ hyV2)) ?_
          refine ew_Kr ?_
          refine ew_if_le (pc := 49) (tgt := 61) dJ29_siftDownUsingComparator_49 (by decide) (fun c49 => ?_) (fun c49 => ?_)
          · first
            | exact s61 (2 * k + 1) y1 _ (Or.inl rfl) (by omega) hy1 (fun i h4 h5 h6 => by
                rcases (by omega : i = 2 * k + 1 ∨ i = 2 * k + 2) with e | e
                · rw [e, kq_s hy1]; exact Int.le_refl _
                · rw [e, kq_s hy2]
                  have h7 : ¬ kD y2.2 < kD y1.2 := fun h9 => absurd c49 (Int32.not_le.mpr (kD_gt.mpr h9))
                  exact Int.not_lt.mp h7)
            | exact s61 (2 * k + 2) y2 _ (Or.inr rfl) (by omega) hy2 (fun i h4 h5 h6 => by
                rcases (by omega : i = 2 * k + 1 ∨ i = 2 * k + 2) with e | e
                · rw [e, kq_s hy1]
                  have h7 := kD_gt.mp (Int32.not_le.mp c49)
                  omega
                · rw [e, kq_s hy2]; exact Int.le_refl _)
          · refine ew_aload_n (pc := 52) dJ29_siftDownUsingComparator_52 rfl ?_
            refine ew_iload (pc := 53) dJ29_siftDownUsingComparator_53 rfl ?_
            refine ew_dup (pc := 55) dJ29_siftDownUsingComparator_55 rfl ?_
            refine ew_istore (pc := 56) dJ29_siftDownUsingComparator_56 (by decide) (p1_6 rfl) ?_
            refine ew_aaJ (pc := 58) rfl (rd_se _ _ _ _) (j := 2 * k + 2) rfl (by omega) (by omega) dJ29_siftDownUsingComparator_58 ?_
            rw [hfy2]
            first | refine ew_astore (pc := 59) dJ29_siftDownUsingComparator_59 (by decide) (p1_7 rfl) ?_ | refine ew_astoreq (pc := 59) dJ29_siftDownUsingComparator_59 (by decide) (p1_7 rfl) ?_ | refine ew_astoreN (pc := 59) dJ29_siftDownUsingComparator_59 (by decide) (p1_7 rfl) ?_
            first
            | exact s61 (2 * k + 1) y1 _ (Or.inl rfl) (by omega) hy1 (fun i h4 h5 h6 => by
                rcases (by omega : i = 2 * k + 1 ∨ i = 2 * k + 2) with e | e
                · rw [e, kq_s hy1]; exact Int.le_refl _
                · rw [e, kq_s hy2]
                  have h7 : ¬ kD y2.2 < kD y1.2 := fun h9 => absurd c49 (Int32.not_le.mpr (kD_gt.mpr h9))
                  exact Int.not_lt.mp h7)
            | exact s61 (2 * k + 2) y2 _ (Or.inr rfl) (by omega) hy2 (fun i h4 h5 h6 => by
                rcases (by omega : i = 2 * k + 1 ∨ i = 2 * k + 2) with e | e
                · rw [e, kq_s hy1]
                  have h7 := kD_gt.mp (Int32.not_le.mp c49)
                  omega
                · rw [e, kq_s hy2]; exact Int.le_refl _)
        · skip
          refine ew_iload_n (pc := 5) dJ29_siftDownUsingComparator_5 rfl ?_
          refine ew_iload (pc := 6) dJ29_siftDownUsingComparator_6 rfl ?_
          refine ew_icmp_ge (pc := 8) (tgt := 88) dJ29_siftDownUsingComparator_8 (by decide) (fun c8 => absurd c8 (nI_ge (by omega) (by omega))) (fun c8 => ?_)
          refine ew_iload_n (pc := 11) dJ29_siftDownUsingComparator_11 rfl ?_
          refine ew_iconst (pc := 12) (v := 1) dJ29_siftDownUsingComparator_12 rfl ?_
          refine ew_ishl (pc := 13) dJ29_siftDownUsingComparator_13 ?_
          rw [nI_shl1]
          refine ew_iconst (pc := 14) (v := 1) dJ29_siftDownUsingComparator_14 rfl ?_
          refine ew_iadd (pc := 15) dJ29_siftDownUsingComparator_15 ?_
          rw [show nI (2 * k) + 1 = nI (2 * k + 1) from nI_add _ _]
          refine ew_istore (pc := 16) dJ29_siftDownUsingComparator_16 (by decide) (p1_6 rfl) ?_
          refine ew_aload_n (pc := 18) dJ29_siftDownUsingComparator_18 rfl ?_
          refine ew_iload (pc := 19) dJ29_siftDownUsingComparator_19 rfl ?_
          refine ew_aaJ (pc := 21) rfl (rd_se _ _ _ _) (j := 2 * k + 1) rfl (by omega) (by omega) dJ29_siftDownUsingComparator_21 ?_
          rw [hfy1]
          first | refine ew_astore (pc := 22) dJ29_siftDownUsingComparator_22 (by decide) (p1_7 rfl) ?_ | refine ew_astoreq (pc := 22) dJ29_siftDownUsingComparator_22 (by decide) (p1_7 rfl) ?_ | refine ew_astoreN (pc := 22) dJ29_siftDownUsingComparator_22 (by decide) (p1_7 rfl) ?_
          refine ew_iload (pc := 24) dJ29_siftDownUsingComparator_24 rfl ?_
          refine ew_iconst (pc := 26) (v := 1) dJ29_siftDownUsingComparator_26 rfl ?_
          refine ew_iadd (pc := 27) dJ29_siftDownUsingComparator_27 ?_
          rw [show nI (2 * k + 1) + 1 = nI (2 * k + 2) from nI_add _ _]
          refine ew_istore (pc := 28) dJ29_siftDownUsingComparator_28 (by decide) (p1_8 rfl) ?_
          refine ew_iload (pc := 30) dJ29_siftDownUsingComparator_30 rfl ?_
          refine ew_iload_n (pc := 32) dJ29_siftDownUsingComparator_32 rfl ?_
          refine ew_icmp_ge (pc := 33) (tgt := 61) dJ29_siftDownUsingComparator_33 (by decide) (fun c33 => ?_) (fun c33 => absurd (nI_le (by omega) (by omega)) c33)
          exact s61 (2 * k + 1) y1 _ (Or.inl rfl) (by omega) hy1 (fun i h4 h5 h6 => by
              rw [show i = 2 * k + 1 by omega, kq_s hy1]; exact Int.le_refl _)
      · skip
        refine ew_iload_n (pc := 5) dJ29_siftDownUsingComparator_5 rfl ?_
        refine ew_iload (pc := 6) dJ29_siftDownUsingComparator_6 rfl ?_
        refine ew_icmp_ge (pc := 8) (tgt := 88) dJ29_siftDownUsingComparator_8 (by decide) (fun c8 => ?_) (fun c8 => absurd (nI_le (by omega) (by omega)) c8)
        exact fin k W F _ _ _ hp hk hf (H.fin (fun i h1 h2 h3 => by omega))
  have hs : eh_set h E (aR 5 cap f) = h := ew_sid hE
  have h8 := main V.length 0 V f no_ no_ no_ (by omega) (List.Perm.refl _) hk hf H
  rw [hs] at h8
  refine ew_enter (by decide +kernel) (ew_a1 rfl (ew_a1 rfl (ew_a1 rfl (ew_a1 rfl (ew_a1 rfl (ew_an (ew_an (ew_an (ew_an ew_az))))))))) (Nat.le_of_ble_eq_true rfl) ?_
  refine ew_iload_n (pc := 0) dJ29_siftDownUsingComparator_0 rfl ?_
  refine ew_iconst (pc := 1) (v := 1) dJ29_siftDownUsingComparator_1 rfl ?_
  refine ew_iushr (pc := 2) dJ29_siftDownUsingComparator_2 rfl ?_
  rw [nI_ush (by omega)]
  refine ew_istore (pc := 3) dJ29_siftDownUsingComparator_3 (by decide) (p1_5 rfl) ?_
  exact h8
end
