/-! EW: a net is laid into a square -/
set_option maxRecDepth 100000
/-- windows below m are laid -/
def lyW (N : Nat → Int32) (wout but : Int32) (f : Nat → Int32) : Nat → Nat → Int32
  | 0 => f
  | w + 1 => if N (2 + 6 * w + 5) = 0 ∧ ¬ hasB wout (nI w) then wlF (nE N) (lyW N wout but f w) (fA N w) (fB N w) (N (2 + 6 * w + 2)) (N (2 + 6 * w + 3)) (bI (¬ but = nI (2 * w))) (bI (¬ but = nI (2 * w + 1))) else lyW N wout but f w
/-- fixed events 1 .. m are laid -/
def lyE (N : Nat → Int32) (f : Nat → Int32) : Nat → Nat → Int32
  | 0 => f
  | m + 1 => if N (146 + (m + 1)) = -1 then lyE N f m else stp (nE N) (stp (nE N) (lyE N f m) 0 (m + 1) (N (146 + (m + 1)))) (m + 1) 0 (-N (146 + (m + 1)))
def lyF (N : Nat → Int32) (wout but : Int32) (f : Nat → Int32) : Nat → Int32 := clK (nE N) (lyE N (lyW N wout but (cl2 (nE N) (cl1 f (nE N * nE N)) (nE N)) (nW N)) (nE N - 1)) (nE N)
section
variable {g : eg} {h : eh} {p nA L E F D W : Nat} {ws : List Nat} {N : Nat → Int32} {Q : Outcome → eh → Prop}
theorem t_nLay {q A : Nat} {f : Nat → Int32} {wout but : Int32} (r : NR g h p nA L E F D W ws N) (hs : Sq g h q A (nE N) f) (hF : A ∉ [F, D, W]) (hq : Q (.returned (some (.ref q))) (eh_set h A (aI (nE N * nE N) (lyF N wout but f)))) : ew_T g kX6_lay 3 [.ref p, .ref q, .int wout, .int but] h Q := by
  have hw := r.ok.w2
  have hE := r.ok.e2
  have hE1 := r.ok.e1
  obtain ⟨n, hn⟩ : ∃ n, n = nE N := ⟨_, rfl⟩
  have close : ∀ G x4 x5, lyF N wout but f = clK (nE N) G (nE N) → ew_G g kX6_lay 3 153 [.ref p, .ref q, .int wout, .int but, x4, x5] [] (eh_set h A (aI (nE N * nE N) G)) Q := by
    intro G x4 x5 hG
    rw [hG] at hq
    refine ew_aload_n (pc := 153) dX6_lay_153 rfl ?_
    refine ew_cV0 (d' := 1) (pc := 154) vX6_93 (hs.set _).1 dX6_lay_154 (by decide) (ew_rm (Nat.le_of_ble_eq_true rfl)) ?_
    refine t_close (hs.set _) ?_
    rw [ew_ss]
    refine ew_Kr ?_
    refine ew_aret (pc := 157) rfl (Or.inl ⟨_, rfl⟩) (Or.inr ⟨_, rfl⟩) dX6_lay_157 ?_
    exact hq
  have ev : ∀ m k x5 G, k + m = nE N - 1 → lyF N wout but f = clK (nE N) (lyE N G (nE N - 1)) (nE N) → ew_G g kX6_lay 3 97 [.ref p, .ref q, .int wout, .int but, .int (nI (k + 1)), x5] [] (eh_set h A (aI (nE N * nE N) (lyE N G k))) Q := by
    intro m
    induction m with
    | zero =>
      intro k x5 G hk hG
      have e9 : k = nE N - 1 := by omega
      have r2 := r.setI (f2 := lyE N G k) hs.2.1 hF
      refine ew_iload (pc := 97) dX6_lay_97 rfl ?_
      refine ew_aload_n (pc := 99) dX6_lay_99 rfl ?_
      refine ew_cV0 (d' := 0) (pc := 100) vX6_82 (rd_of r2.o) dX6_lay_100 (by decide) (ew_rm (Nat.le_of_ble_eq_true rfl)) ?_
      refine t_nEvents r2 ?_
      refine ew_Kr ?_
      refine ew_icmp_ge (pc := 103) (tgt := 153) dX6_lay_103 (by decide) (fun c103 => ?_) (fun c103 => absurd (nI_le (by omega) (by omega)) c103)
      rw [← e9] at hG
      exact close _ _ _ hG
    | succ m ih =>
      intro k x5 G hk hG
      have r2 := r.setI (f2 := lyE N G k) hs.2.1 hF
      have hs2 := hs.set (lyE N G k)
      obtain ⟨fF, hfF, hfF2⟩ := r.F
      have hFA : F ≠ A := fun e => hF (by rw [← e]; exact List.mem_cons_self)
      have hf2 := rd_of (g := g) (sn_1 (e := aI (nE N * nE N) (lyE N G k)) hfF hFA)
      have hf3 := rd_of (g := g) (sn_1 (e := aI (nE N * nE N) (stp (nE N) (lyE N G k) 0 (k + 1) (N (146 + (k + 1))))) (sn_1 (e := aI (nE N * nE N) (lyE N G k)) hfF hFA) hFA)
      have r3 := r2.setI (f2 := stp (nE N) (lyE N G k) 0 (k + 1) (N (146 + (k + 1)))) hs2.2.1 hF
      have hs3 := hs2.set (stp (nE N) (lyE N G k) 0 (k + 1) (N (146 + (k + 1))))
      refine ew_iload (pc := 97) dX6_lay_97 rfl ?_
      refine ew_aload_n (pc := 99) dX6_lay_99 rfl ?_
      refine ew_cV0 (d' := 0) (pc := 100) vX6_82 (rd_of r2.o) dX6_lay_100 (by decide) (ew_rm (Nat.le_of_ble_eq_true rfl)) ?_
      refine t_nEvents r2 ?_
      refine ew_Kr ?_
      refine ew_icmp_ge (pc := 103) (tgt := 153) dX6_lay_103 (by decide) (fun c103 => absurd c103 (nI_ge (by omega) (by omega))) (fun c103 => ?_)
      refine ew_aload_n (pc := 106) dX6_lay_106 rfl ?_
      refine ew_iload (pc := 107) dX6_lay_107 rfl ?_
      refine ew_cV1 (d' := 0) (pc := 109) vX6_85 (rd_of r2.o) dX6_lay_109 (by decide) (ew_rm (Nat.le_of_ble_eq_true rfl)) ?_
      refine t_nFree r2 (by omega) ?_
      refine ew_Kr ?_
      refine ew_if_eq (pc := 112) (tgt := 118) dX6_lay_112 (by decide) (fun c112 => ?_) (fun c112 => ?_)
      · refine ew_aload_n (pc := 118) dX6_lay_118 rfl ?_
        refine ew_iconst (pc := 119) (v := 0) dX6_lay_119 rfl ?_
        refine ew_iload (pc := 120) dX6_lay_120 rfl ?_
        refine ew_aload_n (pc := 122) dX6_lay_122 rfl ?_
        refine ew_getf (pc := 123) fX6_22 (rd_of r2.o) rfl dX6_lay_123 ?_
        refine ew_iload (pc := 126) dX6_lay_126 rfl ?_
        refine ew_iaJ (pc := 128) hf2 (j := k + 1) rfl (by omega) (by omega) dX6_lay_128 ?_
        rw [hfF2 (k + 1) (by omega)]
        refine ew_cV3 (d' := 0) (pc := 129) vX6_89 hs2.1 dX6_lay_129 (by decide) (ew_rm (Nat.le_of_ble_eq_true rfl)) ?_
        refine t_step (a := 0) hs2 (by omega) (by omega) ?_
        refine ew_Kv ?_
        refine ew_aload_n (pc := 132) dX6_lay_132 rfl ?_
        refine ew_iload (pc := 133) dX6_lay_133 rfl ?_
        refine ew_iconst (pc := 135) (v := 0) dX6_lay_135 rfl ?_
        refine ew_aload_n (pc := 136) dX6_lay_136 rfl ?_
        refine ew_getf (pc := 137) fX6_22 (rd_of r3.o) rfl dX6_lay_137 ?_
        refine ew_iload (pc := 140) dX6_lay_140 rfl ?_
        refine ew_iaJ (pc := 142) hf3 (j := k + 1) rfl (by omega) (by omega) dX6_lay_142 ?_
        rw [hfF2 (k + 1) (by omega)]
        refine ew_ineg (pc := 143) dX6_lay_143 ?_
        refine ew_cV3 (d' := 0) (pc := 144) vX6_89 hs3.1 dX6_lay_144 (by decide) (ew_rm (Nat.le_of_ble_eq_true rfl)) ?_
        refine t_step (b := 0) hs3 (by omega) (by omega) ?_
        rw [ew_ss, ew_ss]
        refine ew_Kv ?_
        refine ew_iinc (pc := 147) dX6_lay_147 rfl (nI_inc (k + 1)) (by decide) (p1_4 rfl) ?_
        refine ew_goto (pc := 150) (tgt := 97) dX6_lay_150 (by decide) ?_
        first
        | have c0 : ¬ N (146 + (k + 1)) = -1 := bI_0.mp c112
          have h8 := ih (k + 1) x5 G (by omega) hG
          rw [lyE, if_neg c0] at h8
          exact h8
        | have c0 : N (146 + (k + 1)) = -1 := bI_n.mp c112
          have h8 := ih (k + 1) x5 G (by omega) hG
          rw [lyE, if_pos c0] at h8
          exact h8
      · refine ew_goto (pc := 115) (tgt := 147) dX6_lay_115 (by decide) ?_
        refine ew_iinc (pc := 147) dX6_lay_147 rfl (nI_inc (k + 1)) (by decide) (p1_4 rfl) ?_
        refine ew_goto (pc := 150) (tgt := 97) dX6_lay_150 (by decide) ?_
        first
        | have c0 : ¬ N (146 + (k + 1)) = -1 := bI_0.mp c112
          have h8 := ih (k + 1) x5 G (by omega) hG
          rw [lyE, if_neg c0] at h8
          exact h8
        | have c0 : N (146 + (k + 1)) = -1 := bI_n.mp c112
          have h8 := ih (k + 1) x5 G (by omega) hG
          rw [lyE, if_pos c0] at h8
          exact h8
  have wn : ∀ m k x5 G, k + m = nW N → lyF N wout but f = clK (nE N) (lyE N (lyW N wout but G (nW N)) (nE N - 1)) (nE N) → ew_G g kX6_lay 3 7 [.ref p, .ref q, .int wout, .int but, .int (nI k), x5] [] (eh_set h A (aI (nE N * nE N) (lyW N wout but G k))) Q := by
    intro m
    induction m with
    | zero =>
      intro k x5 G hk hG
      have e9 : k = nW N := by omega
      have r2 := r.setI (f2 := lyW N wout but G k) hs.2.1 hF
      obtain ⟨mc, cap, fl, h1, -⟩ := r2.l
      refine ew_iload (pc := 7) dX6_lay_7 rfl ?_
      refine ew_aload_n (pc := 9) dX6_lay_9 rfl ?_
      refine ew_getf (pc := 10) fX6_12 (rd_of r2.o) rfl dX6_lay_10 ?_
      refine ew_cF0 (d' := 0) (pc := 13) tX6_35_19 (rd_of h1) dX6_lay_13 (by decide) (ew_rm (Nat.le_of_ble_eq_true rfl)) ?_
      refine t_alSize r2.l ?_
      rw [r2.len]
      refine ew_Kr ?_
      refine ew_icmp_ge (pc := 18) (tgt := 94) dX6_lay_18 (by decide) (fun c18 => ?_) (fun c18 => absurd (nI_le (by omega) (by omega)) c18)
      refine ew_iconst (pc := 94) (v := 1) dX6_lay_94 rfl ?_
      refine ew_istore (pc := 95) dX6_lay_95 (by decide) (p1_4 rfl) ?_
      have h8 := ev (nE N - 1) 0 x5 (lyW N wout but G k) (by omega) (by rw [e9]; exact hG)
      exact h8
    | succ m ih =>
      intro k x5 G hk hG
      have r2 := r.setI (f2 := lyW N wout but G k) hs.2.1 hF
      have hs2 := hs.set (lyW N wout but G k)
      obtain ⟨mc, cap, fl, h1, -⟩ := r2.l
      obtain ⟨x, hx, hxw⟩ := r2.at (i := k) (by omega)
      have ha := r.ok.a k (by omega)
      have hb := r.ok.b k (by omega)
      have hxw2 : rd g (eh_set h A (aI (nE N * nE N) (lyW N wout but G k))) x = some (wV (nI (fA N k)) (nI (fB N k)) (N (2 + 6 * k + 2)) (N (2 + 6 * k + 3)) (N (2 + 6 * k + 4)) (N (2 + 6 * k + 5))) := by
        rw [← ha, ← hb]
        exact rd_of hxw
      have e2 : (2 : Int32) * nI k = nI (2 * k) := nI_mul 2 k
      have s85 : ∀ ih' il, ih' = bI (¬ but = nI (2 * k)) → il = bI (¬ but = nI (2 * k + 1)) → (N (2 + 6 * k + 5) = 0 ∧ ¬ hasB wout (nI k)) → ew_G g kX6_lay 3 85 [.ref p, .ref q, .int wout, .int but, .int (nI k), .ref x] [.int il, .int ih', .ref q, .ref x] (eh_set h A (aI (nE N * nE N) (lyW N wout but G k))) Q := by
        intro ih' il e3 e4 hc
        refine ew_cV3 (d' := 1) (pc := 85) vX6_78 hxw2 dX6_lay_85 (by decide) (ew_rm (Nat.le_of_ble_eq_true rfl)) ?_
        refine t_wLay hxw2 hs2 (r.ok.al k (by omega)) (r.ok.bl k (by omega)) ?_
        rw [ew_ss]
        refine ew_Kv ?_
        refine ew_iinc (pc := 88) dX6_lay_88 rfl (nI_inc k) (by decide) (p1_4 rfl) ?_
        refine ew_goto (pc := 91) (tgt := 7) dX6_lay_91 (by decide) ?_
        have h8 := ih (k + 1) (.ref x) G (by omega) hG
        rw [lyW, if_pos hc, ← e3, ← e4] at h8
        exact h8
      refine ew_iload (pc := 7) dX6_lay_7 rfl ?_
      refine ew_aload_n (pc := 9) dX6_lay_9 rfl ?_
      refine ew_getf (pc := 10) fX6_12 (rd_of r2.o) rfl dX6_lay_10 ?_
      refine ew_cF0 (d' := 0) (pc := 13) tX6_35_19 (rd_of h1) dX6_lay_13 (by decide) (ew_rm (Nat.le_of_ble_eq_true rfl)) ?_
      refine t_alSize r2.l ?_
      rw [r2.len]
      refine ew_Kr ?_
      refine ew_icmp_ge (pc := 18) (tgt := 94) dX6_lay_18 (by decide) (fun c18 => absurd c18 (nI_ge (by omega) (by omega))) (fun c18 => ?_)
      refine ew_aload_n (pc := 21) dX6_lay_21 rfl ?_
      refine ew_getf (pc := 22) fX6_12 (rd_of r2.o) rfl dX6_lay_22 ?_
      refine ew_iload (pc := 25) dX6_lay_25 rfl ?_
      refine ew_cF1 (d' := 2) (pc := 27) tX6_41_19 (rd_of h1) dX6_lay_27 (by decide) (ew_rm (Nat.le_of_ble_eq_true rfl)) ?_
      refine t_alGet r2.l hx ?_
      refine ew_Kr ?_
      refine ew_cast (pc := 32) rfl hxw2 (ew_q q1675) (Or.inl rfl) dX6_lay_32 ?_
      first | refine ew_astore (pc := 35) dX6_lay_35 (by decide) (p1_5 rfl) ?_ | refine ew_astoreq (pc := 35) dX6_lay_35 (by decide) (p1_5 rfl) ?_ | refine ew_astoreN (pc := 35) dX6_lay_35 (by decide) (p1_5 rfl) ?_
      refine ew_aload (pc := 37) dX6_lay_37 rfl ?_
      refine ew_getf (pc := 39) fX6_70 hxw2 rfl dX6_lay_39 ?_
      refine ew_if_ne (pc := 42) (tgt := 88) dX6_lay_42 (by decide) (fun c42 => ?_) (fun c42 => ?_)
      · refine ew_iinc (pc := 88) dX6_lay_88 rfl (nI_inc k) (by decide) (p1_4 rfl) ?_
        refine ew_goto (pc := 91) (tgt := 7) dX6_lay_91 (by decide) ?_
        have hc : ¬ (N (2 + 6 * k + 5) = 0 ∧ ¬ hasB wout (nI k)) := by
          first
          | exact fun h9 => c42 h9.1
          | exact fun h9 => h9.2 (bI_n.mp c51)
        have h8 := ih (k + 1) (.ref x) G (by omega) hG
        rw [lyW, if_neg hc] at h8
        exact h8
      · refine ew_iload_n (pc := 45) dX6_lay_45 rfl ?_
        refine ew_iload (pc := 46) dX6_lay_46 rfl ?_
        refine ew_cS2 (d' := 0) (pc := 48) sX6_74 dX6_lay_48 (by decide) (ew_rm (Nat.le_of_ble_eq_true rfl)) ?_
        refine t_hasC ?_
        refine ew_Kr ?_
        refine ew_if_ne (pc := 51) (tgt := 88) dX6_lay_51 (by decide) (fun c51 => ?_) (fun c51 => ?_)
        · refine ew_iinc (pc := 88) dX6_lay_88 rfl (nI_inc k) (by decide) (p1_4 rfl) ?_
          refine ew_goto (pc := 91) (tgt := 7) dX6_lay_91 (by decide) ?_
          have hc : ¬ (N (2 + 6 * k + 5) = 0 ∧ ¬ hasB wout (nI k)) := by
            first
            | exact fun h9 => c42 h9.1
            | exact fun h9 => h9.2 (bI_n.mp c51)
          have h8 := ih (k + 1) (.ref x) G (by omega) hG
          rw [lyW, if_neg hc] at h8
          exact h8
        · refine ew_aload (pc := 54) dX6_lay_54 rfl ?_
          refine ew_aload_n (pc := 56) dX6_lay_56 rfl ?_
          refine ew_iload_n (pc := 57) dX6_lay_57 rfl ?_
          refine ew_iconst (pc := 58) (v := 2) dX6_lay_58 rfl ?_
          refine ew_iload (pc := 59) dX6_lay_59 rfl ?_
          refine ew_imul (pc := 61) dX6_lay_61 ?_
          rw [e2]
          refine ew_icmp_eq (pc := 62) (tgt := 69) dX6_lay_62 (by decide) (fun c62 => ?_) (fun c62 => ?_)
          · refine ew_iconst (pc := 69) (v := 0) dX6_lay_69 rfl ?_
            refine ew_iload_n (pc := 70) dX6_lay_70 rfl ?_
            refine ew_iconst (pc := 71) (v := 2) dX6_lay_71 rfl ?_
            refine ew_iload (pc := 72) dX6_lay_72 rfl ?_
            refine ew_imul (pc := 74) dX6_lay_74 ?_
            refine ew_iconst (pc := 75) (v := 1) dX6_lay_75 rfl ?_
            refine ew_iadd (pc := 76) dX6_lay_76 ?_
            rw [e2, nI_1]
            refine ew_icmp_eq (pc := 77) (tgt := 84) dX6_lay_77 (by decide) (fun c77 => ?_) (fun c77 => ?_)
            · refine ew_iconst (pc := 84) (v := 0) dX6_lay_84 rfl ?_
              first
              | exact s85 _ _ (bI_T c62) (bI_T c77) ⟨c42, bI_0.mp c51⟩
              | exact s85 _ _ (bI_T c62) (bI_F (show ¬ ¬ but = nI (2 * k + 1) from fun h9 => h9 c77)) ⟨c42, bI_0.mp c51⟩
              | exact s85 _ _ (bI_F (show ¬ ¬ but = nI (2 * k) from fun h9 => h9 c62)) (bI_T c77) ⟨c42, bI_0.mp c51⟩
              | exact s85 _ _ (bI_F (show ¬ ¬ but = nI (2 * k) from fun h9 => h9 c62)) (bI_F (show ¬ ¬ but = nI (2 * k + 1) from fun h9 => h9 c77)) ⟨c42, bI_0.mp c51⟩
            · refine ew_iconst (pc := 80) (v := 1) dX6_lay_80 rfl ?_
              refine ew_goto (pc := 81) (tgt := 85) dX6_lay_81 (by decide) ?_
              first
              | exact s85 _ _ (bI_T c62) (bI_T c77) ⟨c42, bI_0.mp c51⟩
              | exact s85 _ _ (bI_T c62) (bI_F (show ¬ ¬ but = nI (2 * k + 1) from fun h9 => h9 c77)) ⟨c42, bI_0.mp c51⟩
              | exact s85 _ _ (bI_F (show ¬ ¬ but = nI (2 * k) from fun h9 => h9 c62)) (bI_T c77) ⟨c42, bI_0.mp c51⟩
              | exact s85 _ _ (bI_F (show ¬ ¬ but = nI (2 * k) from fun h9 => h9 c62)) (bI_F (show ¬ ¬ but = nI (2 * k + 1) from fun h9 => h9 c77)) ⟨c42, bI_0.mp c51⟩
          · refine ew_iconst (pc := 65) (v := 1) dX6_lay_65 rfl ?_
            refine ew_goto (pc := 66) (tgt := 70) dX6_lay_66 (by decide) ?_
            refine ew_iload_n (pc := 70) dX6_lay_70 rfl ?_
            refine ew_iconst (pc := 71) (v := 2) dX6_lay_71 rfl ?_
            refine ew_iload (pc := 72) dX6_lay_72 rfl ?_
            refine ew_imul (pc := 74) dX6_lay_74 ?_
            refine ew_iconst (pc := 75) (v := 1) dX6_lay_75 rfl ?_
            refine ew_iadd (pc := 76) dX6_lay_76 ?_
            rw [e2, nI_1]
            refine ew_icmp_eq (pc := 77) (tgt := 84) dX6_lay_77 (by decide) (fun c77 => ?_) (fun c77 => ?_)
            · refine ew_iconst (pc := 84) (v := 0) dX6_lay_84 rfl ?_
              first
              | exact s85 _ _ (bI_T c62) (bI_T c77) ⟨c42, bI_0.mp c51⟩
              | exact s85 _ _ (bI_T c62) (bI_F (show ¬ ¬ but = nI (2 * k + 1) from fun h9 => h9 c77)) ⟨c42, bI_0.mp c51⟩
              | exact s85 _ _ (bI_F (show ¬ ¬ but = nI (2 * k) from fun h9 => h9 c62)) (bI_T c77) ⟨c42, bI_0.mp c51⟩
              | exact s85 _ _ (bI_F (show ¬ ¬ but = nI (2 * k) from fun h9 => h9 c62)) (bI_F (show ¬ ¬ but = nI (2 * k + 1) from fun h9 => h9 c77)) ⟨c42, bI_0.mp c51⟩
            · refine ew_iconst (pc := 80) (v := 1) dX6_lay_80 rfl ?_
              refine ew_goto (pc := 81) (tgt := 85) dX6_lay_81 (by decide) ?_
              first
              | exact s85 _ _ (bI_T c62) (bI_T c77) ⟨c42, bI_0.mp c51⟩
              | exact s85 _ _ (bI_T c62) (bI_F (show ¬ ¬ but = nI (2 * k + 1) from fun h9 => h9 c77)) ⟨c42, bI_0.mp c51⟩
              | exact s85 _ _ (bI_F (show ¬ ¬ but = nI (2 * k) from fun h9 => h9 c62)) (bI_T c77) ⟨c42, bI_0.mp c51⟩
              | exact s85 _ _ (bI_F (show ¬ ¬ but = nI (2 * k) from fun h9 => h9 c62)) (bI_F (show ¬ ¬ but = nI (2 * k + 1) from fun h9 => h9 c77)) ⟨c42, bI_0.mp c51⟩
  refine ew_enter (by decide +kernel) (ew_a1 rfl (ew_a1 rfl (ew_a1 rfl (ew_a1 rfl (ew_an (ew_an ew_az)))))) (Nat.le_of_ble_eq_true rfl) ?_
  refine ew_aload_n (pc := 0) dX6_lay_0 rfl ?_
  refine ew_cV0 (d' := 0) (pc := 1) vX6_65 hs.1 dX6_lay_1 (by decide) (ew_rm (Nat.le_of_ble_eq_true rfl)) ?_
  refine t_clear hs ?_
  refine ew_Kv ?_
  refine ew_iconst (pc := 4) (v := 0) dX6_lay_4 rfl ?_
  refine ew_istore (pc := 5) dX6_lay_5 (by decide) (p1_4 rfl) ?_
  exact wn (nW N) 0 _ _ (by omega) rfl
end
