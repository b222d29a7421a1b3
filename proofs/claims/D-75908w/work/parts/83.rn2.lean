/-! EW: the round that the component tells, walked -/
set_option maxRecDepth 100000
theorem oI_n {x : Option Nat} {n : Nat} (h : ∀ a, x = some a → a < n) (hn : n < 2 ^ 31) : oI x = -1 ↔ x = none := by
  cases x with
  | none => exact ⟨fun _ => rfl, fun _ => rfl⟩
  | some a =>
    refine ⟨fun h9 => ?_, fun h9 => by cases h9⟩
    have h1 := h a rfl
    have h2 : nI a = -1 := h9
    exact absurd (show nI a < 0 by rw [h2]; decide) (nI_pos (by omega))
theorem jmin_nI {a b : Nat} (ha : a < 2 ^ 31) (hb : b < 2 ^ 31) : jmin (nI a) (nI b) = nI (min a b) := by
  unfold jmin
  by_cases h : b < a
  · rw [if_pos (nI_lt h ha), Nat.min_eq_right (by omega)]
  · rw [if_neg (nI_nlt (by omega) hb), Nat.min_eq_left (by omega)]
section
variable {g : eg} {h : eh} {p nA L E F D W : Nat} {ws : List Nat} {N : Nat → Int32} {Q : Outcome → eh → Prop}
theorem t_round1 (hg : gOC g) (hM : gOM g) (r : NR g h p nA L E F D W ws N)
    (hq : ∀ h' K E' ys, StL g h' K E' ys (roC (nE N) (eN N 0 (-1))) → Ke [] 200 18000 h h' → Q (.returned (some (.ref K))) h') : ew_T g kX1_round 22 [.ref p] h Q := by
  have hE := r.ok.e2
  have hE1 := r.ok.e1
  have nm : ∀ a : Nat, a ∉ ([] : List Nat) := fun a => List.not_mem_nil
  obtain ⟨es, hes⟩ : ∃ es, es = eN N 0 (-1) := ⟨_, rfl⟩
  rw [← hes] at hq
  have hel : es.length < 80 := by rw [hes]; exact eAll_len r.ok
  have hokE : okE (nE N) es := by rw [hes]; exact eAll_ok r.ok
  refine ew_enter (by decide +kernel) (ew_a1 rfl (ew_an (ew_an (ew_an (ew_an (ew_an (ew_an (ew_an ew_az)))))))) (Nat.le_of_ble_eq_true rfl) ?_
  refine ew_ok (fun ho => ?_)
  have main : ∀ h1 K E1 A xs, WyR g h1 h.2.1 (nE N) K E1 A xs es (fun _ => 0) → Ke [] 170 17000 h h1 → eh_ok g h1 → h.2.1 ≤ A → ew_G g kX1_round 22 13 [.ref p, .ref h.2.1, no_, no_, no_, no_, no_, no_] [] h1 Q := by
    intro h1 K E1 A xs wr k1 ho1 hA
    have rr : ∀ G, NR g (eh_set h1 A (aI ((nE N + 1) * nE N) G)) p nA L E F D W ws N := by
      intro G
      have r1 := r.ke k1 hg ho (fun a _ => nm a)
      refine r1.setI wr.2.2.1 ?_
      obtain ⟨f1, hf1, -⟩ := r.F
      obtain ⟨f2, hf2, -⟩ := r.D
      obtain ⟨f3, hf3, -⟩ := r.W
      have a1 := h_l ho hf1
      have a2 := h_l ho hf2
      have a3 := h_l ho hf3
      simp only [List.mem_cons, List.not_mem_nil, or_false, not_or]
      omega
    have kH : ∀ G, Ke [] 170 17000 h (eh_set h1 A (aI ((nE N + 1) * nE N) G)) := fun G => k1.t Ke.set (fun a h9 => absurd h9 (nm a)) (fun a h9 h8 => by rw [List.mem_singleton.mp h9] at h8; omega) (Nat.le_refl _) (Nat.le_refl _)
    have fin : ∀ G x5 x6 x7, ew_G g kX1_round 22 114 [.ref p, .ref h.2.1, .int (nI (rdC (nE N) es (nE N)).1), .int (rdC (nE N) es (nE N)).2.1, .int (oI (rdC (nE N) es (nE N)).2.2), x5, x6, x7] [] (eh_set h1 A (aI ((nE N + 1) * nE N) G)) Q := by
      intro G x5 x6 x7
      have hs := rdC_s (nE N) es (nE N)
      have wr2 := wr.set G
      have hon := oI_n (x := (rdC (nE N) es (nE N)).2.2) (n := nE N) (fun a h9 => (hs.2.2 a h9).1) (by omega)
      cases hf : (rdC (nE N) es (nE N)).2.2 with
      | none =>
        have hro : roC (nE N) es = [] := by rw [roC, hf]
        rw [hro] at hq
        refine ew_iload (pc := 114) dX1_round_114 rfl ?_
        refine ew_iconst (pc := 116) (v := -1) dX1_round_116 rfl ?_
        refine ew_icmp_ne (pc := 117) (tgt := 129) dX1_round_117 (by decide) (fun c117 => absurd rfl c117) (fun c117 => ?_)
        refine ew_new (pc := 120) nX1_32 dX1_round_120 ?_
        refine ew_dup (pc := 123) dX1_round_123 rfl ?_
        refine ew_iconst (pc := 124) (v := 1) dX1_round_124 rfl ?_
        refine ew_cI1 (d' := 20) (pc := 125) iX1_34 dX1_round_125 (by decide) (ew_rm (Nat.le_of_ble_eq_true rfl)) ?_
        refine t_alInitN (ne_1 _ _ _) (n := 1) (by decide) (by decide) (fun h2 q1 q2 => ?_)
        refine ew_Kv ?_
        refine ew_aret (pc := 128) rfl (Or.inl ⟨_, rfl⟩) (Or.inr ⟨_, rfl⟩) dX1_round_128 ?_
        refine hq _ _ _ [] ⟨q1, rfl, fun i x e h9 => by cases h9⟩ ?_
        refine (kH G).t (Ke.new.t q2 (A := []) (c := 2) (s := 4) (fun a h9 => absurd h9 (nm a)) (fun a h9 h8 => ?_) (Nat.le_refl _) (Nat.le_refl _)) (fun a h9 => absurd h9 (nm a)) (fun a h9 => absurd h9 (nm a)) (by decide) (by decide)
        rw [List.mem_singleton.mp h9] at h8
        exact absurd h8 (Nat.lt_irrefl _)
      | some a =>
        have hs2 := hs.2.2 a hf
        have hro : roC (nE N) es = rowC es a (rdC (nE N) es (nE N)).1 a := by rw [roC, hf]
        rw [hro] at hq
        rw [hf] at hon
        have hne : ¬ oI (some a) = -1 := fun h9 => by have := hon.mp h9; cases this
        have hx : ¬ xcR es a (rdC (nE N) es (nE N)).1 a = 100000000 := fun h9 => by rw [h9] at hs2; exact absurd hs2.2.2 (by decide)
        refine ew_iload (pc := 114) dX1_round_114 rfl ?_
        refine ew_iconst (pc := 116) (v := -1) dX1_round_116 rfl ?_
        refine ew_icmp_ne (pc := 117) (tgt := 129) dX1_round_117 (by decide) (fun c117 => ?_) (fun c117 => absurd c117 hne)
        refine ew_aload_n (pc := 129) dX1_round_129 rfl ?_
        refine ew_iload (pc := 130) dX1_round_130 rfl ?_
        refine ew_cV1 (d' := 3) (pc := 132) vX1_19 (rd_of wr2.1) dX1_round_132 (by decide) (ew_rm (Nat.le_of_ble_eq_true rfl)) ?_
        refine t_wyTo wr2 (by omega) hs2.1 (fun G2 hG2 => ?_)
        rw [ew_ss]
        have wr3 := wr.set G2
        refine ew_Kv ?_
        refine ew_aload_n (pc := 135) dX1_round_135 rfl ?_
        refine ew_iload_n (pc := 136) dX1_round_136 rfl ?_
        refine ew_iload (pc := 137) dX1_round_137 rfl ?_
        refine ew_cV2 (d' := 21) (pc := 139) vX1_36 (rd_of wr3.1) dX1_round_139 (by decide) (ew_rm (Nat.le_of_ble_eq_true rfl)) ?_
        refine t_wyRow hg hM wr3 hG2 (by omega) hs2.1 hs2.2.1 hs.2.1 hx (fun h2 E2 ys R hl => ?_)
        refine ew_Kr ?_
        refine ew_aret (pc := 142) rfl (Or.inl ⟨_, rfl⟩) (Or.inr ⟨_, rfl⟩) dX1_round_142 ?_
        refine hq _ _ _ ys R.1 ?_
        refine (kH G2).t R.2.2 (fun a h9 => absurd h9 (nm a)) (fun a h9 => absurd h9 (nm a)) ?_ ?_
        · rw [hl]; omega
        · rw [hl]; omega
    have l28 : ∀ q e G x6 x7, e + q = nE N → ew_G g kX1_round 22 28 [.ref p, .ref h.2.1, .int (nI (rdC (nE N) es e).1), .int (rdC (nE N) es e).2.1, .int (oI (rdC (nE N) es e).2.2), .int (nI e), x6, x7] [] (eh_set h1 A (aI ((nE N + 1) * nE N) G)) Q := by
      intro q
      induction q with
      | zero =>
        intro e G x6 x7 hk
        have e9 : e = nE N := by omega
        rw [e9]
        refine ew_iload (pc := 28) dX1_round_28 rfl ?_
        refine ew_aload_n (pc := 30) dX1_round_30 rfl ?_
        refine ew_cV0 (d' := 0) (pc := 31) vX1_13 (rd_of (rr G).o) dX1_round_31 (by decide) (ew_rm (Nat.le_of_ble_eq_true rfl)) ?_
        refine t_nEvents (rr G) ?_
        refine ew_Kr ?_
        refine ew_icmp_ge (pc := 34) (tgt := 114) dX1_round_34 (by decide) (fun c34 => ?_) (fun c34 => absurd (nI_le (Nat.le_refl _) (by omega)) c34)
        exact fin G _ _ _
      | succ q ih =>
        intro e G x6 x7 hk
        have wr2 := wr.set G
        have hs := rdC_s (nE N) es e
        obtain ⟨M, hM9⟩ : ∃ M, M = (rdC (nE N) es e).1 := ⟨_, rfl⟩
        obtain ⟨l, hl9⟩ : ∃ l, l = (rdC (nE N) es e).2.1 := ⟨_, rfl⟩
        have s108 : ∀ G2 x6 x7 M2 l2 f2, rdC (nE N) es (e + 1) = (M2, l2, f2) → ew_G g kX1_round 22 108 [.ref p, .ref h.2.1, .int (nI M2), .int l2, .int (oI f2), .int (nI e), x6, x7] [] (eh_set h1 A (aI ((nE N + 1) * nE N) G2)) Q := by
          intro G2 x6 x7 M2 l2 f2 hr
          have h8 := fun G2 x6 x7 => ih (e + 1) G2 x6 x7 (by omega)
          rw [hr] at h8
          refine ew_iinc (pc := 108) dX1_round_108 rfl (nI_inc e) (by decide) (p1_5 rfl) ?_
          refine ew_goto (pc := 111) (tgt := 28) dX1_round_111 (by decide) ?_
          exact h8 G2 _ _
        rw [← hM9] at hs
        have hrd : ∀ o, rdCn es e M l (min M (nE N)) 1 = o → rdC (nE N) es (e + 1) = match o with
            | none => rdC (nE N) es e
            | some m => (m, xcR es e m e, some e) := by
          intro o ho9
          rw [rdC, ← hM9, ← hl9, ho9]
          cases o <;> rfl
        have l46 : ∀ G2, (∀ m e', m ≤ nE N → e' < nE N → G2 (nE N * m + e') = xcR es e m e') → ∀ q m x7, m + q = min M (nE N) + 1 → 1 ≤ m → rdCn es e M l q m = rdCn es e M l (min M (nE N)) 1 → ew_G g kX1_round 22 46 [.ref p, .ref h.2.1, .int (nI M), .int l, .int (oI (rdC (nE N) es e).2.2), .int (nI e), .int (nI m), x7] [] (eh_set h1 A (aI ((nE N + 1) * nE N) G2)) Q := by
          intro G2 hG2 q
          induction q with
          | zero =>
            intro m x7 hm hm1 hrn
            have hr := hrd none (by rw [← hrn]; rfl)
            refine ew_iload (pc := 46) dX1_round_46 rfl ?_
            refine ew_iload_n (pc := 48) dX1_round_48 rfl ?_
            refine ew_aload_n (pc := 49) dX1_round_49 rfl ?_
            refine ew_cV0 (d' := 0) (pc := 50) vX1_13 (rd_of (rr G2).o) dX1_round_50 (by decide) (ew_rm (Nat.le_of_ble_eq_true rfl)) ?_
            refine t_nEvents (rr G2) ?_
            refine ew_Kr ?_
            refine ew_mmin (pc := 53) (ew_q q1797) (ew_q q596) (ew_q q141) (ew_q q597) (ew_rm (Nat.le_of_ble_eq_true rfl)) dX1_round_53 ?_
            rw [jmin_nI (by omega) (by omega)]
            refine ew_icmp_gt (pc := 56) (tgt := 108) dX1_round_56 (by decide) (fun c56 => ?_) (fun c56 => absurd (nI_lt (by omega) (by omega)) c56)
            exact s108 G2 _ _ M l _ (hr.trans (by rw [hM9, hl9]))
          | succ q ih2 =>
            intro m x7 hm hm1 hrn
            rw [rdCn] at hrn
            have wr3 := wr.set G2
            have hmn : m ≤ nE N := by omega
            have hGm := hG2 m e hmn (by omega)
            refine ew_iload (pc := 46) dX1_round_46 rfl ?_
            refine ew_iload_n (pc := 48) dX1_round_48 rfl ?_
            refine ew_aload_n (pc := 49) dX1_round_49 rfl ?_
            refine ew_cV0 (d' := 0) (pc := 50) vX1_13 (rd_of (rr G2).o) dX1_round_50 (by decide) (ew_rm (Nat.le_of_ble_eq_true rfl)) ?_
            refine t_nEvents (rr G2) ?_
            refine ew_Kr ?_
            refine ew_mmin (pc := 53) (ew_q q1797) (ew_q q596) (ew_q q141) (ew_q q597) (ew_rm (Nat.le_of_ble_eq_true rfl)) dX1_round_53 ?_
            rw [jmin_nI (by omega) (by omega)]
            refine ew_icmp_gt (pc := 56) (tgt := 108) dX1_round_56 (by decide) (fun c56 => absurd c56 (nI_nlt (by omega) (by omega))) (fun c56 => ?_)
            refine ew_aload_n (pc := 59) dX1_round_59 rfl ?_
            refine ew_iload (pc := 60) dX1_round_60 rfl ?_
            refine ew_iload (pc := 62) dX1_round_62 rfl ?_
            refine ew_cV2 (d' := 0) (pc := 64) vX1_29 (rd_of wr3.1) dX1_round_64 (by decide) (ew_rm (Nat.le_of_ble_eq_true rfl)) ?_
            refine t_wySum wr3 hmn (by omega) ?_
            rw [hGm]
            refine ew_Kr ?_
            refine ew_istore (pc := 67) dX1_round_67 (by decide) (p1_7 rfl) ?_
            refine ew_iload (pc := 69) dX1_round_69 rfl ?_
            refine ew_if_ge (pc := 71) (tgt := 102) dX1_round_71 (by decide) (fun c71 => ?_) (fun c71 => ?_)
            · refine ew_iinc (pc := 102) dX1_round_102 rfl (nI_inc m) (by decide) (p1_6 rfl) ?_
              refine ew_goto (pc := 105) (tgt := 46) dX1_round_105 (by decide) ?_
              have hc : ¬ (xcR es e m e < 0 ∧ ¬ (m = M ∧ l ≤ xcR es e m e)) := by
                first
                | exact fun h9 => absurd h9.1 (Int32.not_lt.mpr c71)
                | exact fun h9 => h9.2 ⟨(nI_eq (by omega) (by omega)).mp c77, Int32.not_lt.mp c83⟩
              rw [if_neg hc] at hrn
              exact ih2 (m + 1) _ (by omega) (by omega) hrn
            · refine ew_iload (pc := 74) dX1_round_74 rfl ?_
              refine ew_iload_n (pc := 76) dX1_round_76 rfl ?_
              refine ew_icmp_ne (pc := 77) (tgt := 89) dX1_round_77 (by decide) (fun c77 => ?_) (fun c77 => ?_)
              · refine ew_iload (pc := 89) dX1_round_89 rfl ?_
                refine ew_istore_n (pc := 91) dX1_round_91 rfl (by decide) (p1_2 rfl) ?_
                refine ew_iload (pc := 92) dX1_round_92 rfl ?_
                refine ew_istore_n (pc := 94) dX1_round_94 rfl (by decide) (p1_3 rfl) ?_
                refine ew_iload (pc := 95) dX1_round_95 rfl ?_
                refine ew_istore (pc := 97) dX1_round_97 (by decide) (p1_4 rfl) ?_
                refine ew_goto (pc := 99) (tgt := 108) dX1_round_99 (by decide) ?_
                have hc : xcR es e m e < 0 ∧ ¬ (m = M ∧ l ≤ xcR es e m e) := by
                  refine ⟨Int32.not_le.mp c71, fun h9 => ?_⟩
                  first
                  | exact c77 (by rw [h9.1])
                  | exact absurd c83 (Int32.not_lt.mpr h9.2)
                rw [if_pos hc] at hrn
                exact s108 G2 _ _ m (xcR es e m e) (some e) (hrd (some m) hrn.symm)
              · refine ew_iload (pc := 80) dX1_round_80 rfl ?_
                refine ew_iload_n (pc := 82) dX1_round_82 rfl ?_
                refine ew_icmp_lt (pc := 83) (tgt := 89) dX1_round_83 (by decide) (fun c83 => ?_) (fun c83 => ?_)
                · refine ew_iload (pc := 89) dX1_round_89 rfl ?_
                  refine ew_istore_n (pc := 91) dX1_round_91 rfl (by decide) (p1_2 rfl) ?_
                  refine ew_iload (pc := 92) dX1_round_92 rfl ?_
                  refine ew_istore_n (pc := 94) dX1_round_94 rfl (by decide) (p1_3 rfl) ?_
                  refine ew_iload (pc := 95) dX1_round_95 rfl ?_
                  refine ew_istore (pc := 97) dX1_round_97 (by decide) (p1_4 rfl) ?_
                  refine ew_goto (pc := 99) (tgt := 108) dX1_round_99 (by decide) ?_
                  have hc : xcR es e m e < 0 ∧ ¬ (m = M ∧ l ≤ xcR es e m e) := by
                    refine ⟨Int32.not_le.mp c71, fun h9 => ?_⟩
                    first
                    | exact c77 (by rw [h9.1])
                    | exact absurd c83 (Int32.not_lt.mpr h9.2)
                  rw [if_pos hc] at hrn
                  exact s108 G2 _ _ m (xcR es e m e) (some e) (hrd (some m) hrn.symm)
                · refine ew_goto (pc := 86) (tgt := 102) dX1_round_86 (by decide) ?_
                  refine ew_iinc (pc := 102) dX1_round_102 rfl (nI_inc m) (by decide) (p1_6 rfl) ?_
                  refine ew_goto (pc := 105) (tgt := 46) dX1_round_105 (by decide) ?_
                  have hc : ¬ (xcR es e m e < 0 ∧ ¬ (m = M ∧ l ≤ xcR es e m e)) := by
                    first
                    | exact fun h9 => absurd h9.1 (Int32.not_lt.mpr c71)
                    | exact fun h9 => h9.2 ⟨(nI_eq (by omega) (by omega)).mp c77, Int32.not_lt.mp c83⟩
                  rw [if_neg hc] at hrn
                  exact ih2 (m + 1) _ (by omega) (by omega) hrn
        rw [← hM9, ← hl9]
        refine ew_iload (pc := 28) dX1_round_28 rfl ?_
        refine ew_aload_n (pc := 30) dX1_round_30 rfl ?_
        refine ew_cV0 (d' := 0) (pc := 31) vX1_13 (rd_of (rr G).o) dX1_round_31 (by decide) (ew_rm (Nat.le_of_ble_eq_true rfl)) ?_
        refine t_nEvents (rr G) ?_
        refine ew_Kr ?_
        refine ew_icmp_ge (pc := 34) (tgt := 114) dX1_round_34 (by decide) (fun c34 => absurd c34 (nI_ge (by omega) (by omega))) (fun c34 => ?_)
        refine ew_aload_n (pc := 37) dX1_round_37 rfl ?_
        refine ew_iload (pc := 38) dX1_round_38 rfl ?_
        refine ew_cV1 (d' := 3) (pc := 40) vX1_19 (rd_of wr2.1) dX1_round_40 (by decide) (ew_rm (Nat.le_of_ble_eq_true rfl)) ?_
        refine t_wyTo wr2 (by omega) (by omega) (fun G2 hG2 => ?_)
        rw [ew_ss]
        refine ew_Kv ?_
        refine ew_iconst (pc := 43) (v := 1) dX1_round_43 rfl ?_
        refine ew_istore (pc := 44) dX1_round_44 (by decide) (p1_6 rfl) ?_
        exact l46 G2 hG2 (min M (nE N)) 1 _ (by omega) (Nat.le_refl _) rfl
    have hid : eh_set h1 A (aI ((nE N + 1) * nE N) (fun _ => 0)) = h1 := ew_sid wr.2.2.1
    have r1 := rr (fun _ => 0)
    have h28 := fun x6 x7 => l28 (nE N) 0 (fun _ => 0) x6 x7 (by omega)
    rw [hid] at r1 h28
    refine ew_aload_n (pc := 13) dX1_round_13 rfl ?_
    refine ew_cV0 (d' := 0) (pc := 14) vX1_13 (rd_of r1.o) dX1_round_14 (by decide) (ew_rm (Nat.le_of_ble_eq_true rfl)) ?_
    refine t_nEvents r1 ?_
    refine ew_Kr ?_
    refine ew_iconst (pc := 17) (v := 1) dX1_round_17 rfl ?_
    refine ew_iadd (pc := 18) dX1_round_18 ?_
    rw [nI_1]
    refine ew_istore_n (pc := 19) dX1_round_19 rfl (by decide) (p1_2 rfl) ?_
    refine ew_iconst (pc := 20) (v := 0) dX1_round_20 rfl ?_
    refine ew_istore_n (pc := 21) dX1_round_21 rfl (by decide) (p1_3 rfl) ?_
    refine ew_iconst (pc := 22) (v := -1) dX1_round_22 rfl ?_
    refine ew_istore (pc := 23) dX1_round_23 (by decide) (p1_4 rfl) ?_
    refine ew_iconst (pc := 25) (v := 0) dX1_round_25 rfl ?_
    refine ew_istore (pc := 26) dX1_round_26 (by decide) (p1_5 rfl) ?_
    exact h28 _ _
  have hp1 : p ≠ h.2.1 := by have := h_l ho r.o; omega
  have r0 : NR g (eh_new h (ob 8 [.null, .int 0, .null]) 3) p nA L E F D W ws N := r.ke Ke.new hg ho (fun a _ => nm a)
  refine ew_new (pc := 0) nX1_1 dX1_round_0 ?_
  refine ew_dup (pc := 3) dX1_round_3 rfl ?_
  refine ew_aload_n (pc := 4) dX1_round_4 rfl ?_
  refine ew_aload_n (pc := 5) dX1_round_5 rfl ?_
  refine ew_cV0 (d' := 21) (pc := 6) vX1_3 (rd_of r0.o) dX1_round_6 (by decide) (ew_rm (Nat.le_of_ble_eq_true rfl)) ?_
  refine t_nSteps hg hM r0 (fun h1 K E1 xs S => ?_)
  rw [← hes] at S
  have k0 := S.2.1
  refine ew_Kr ?_
  refine ew_ok (fun ho1 => ?_)
  have r1 := r0.ke k0 hg ho.new (fun a _ => nm a)
  have hw1 := k0.h ho.new (ne_1 h (ob 8 [.null, .int 0, .null]) 3) (nm _)
  have hk0 := k0.2.1
  refine ew_cI2 (d' := 1) (pc := 9) iX1_9 dX1_round_9 (by decide) (ew_rm (Nat.le_of_ble_eq_true rfl)) ?_
  refine t_wyInit hg hw1 r1 S.1 hokE (fun h2 wr k2 => ?_)
  refine ew_Kv ?_
  refine ew_ok (fun ho2 => ?_)
  first | refine ew_astore_n (pc := 12) dX1_round_12 rfl (by decide) (p1_1 rfl) ?_ | refine ew_astore_nq (pc := 12) dX1_round_12 rfl (by decide) (p1_1 rfl) ?_ | refine ew_astore_nN (pc := 12) dX1_round_12 rfl (by decide) (p1_1 rfl) ?_
  refine main h2 K E1 _ xs wr ?_ ho2 (Nat.le_trans (Nat.le_succ _) hk0)
  refine (Ke.new.t k0 (A := []) (c := 169) (s := 16800) (fun a h9 => absurd h9 (nm a)) (fun a h9 => absurd h9 (nm a)) (by omega) ?_).t k2 (fun a h9 => absurd h9 (nm a)) (fun a h9 h8 => by rw [List.mem_singleton.mp h9] at h8; omega) (by decide) (by decide)
  show 3 + (70 + 200 * es.length) ≤ 16800
  omega
end
