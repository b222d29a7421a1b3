/-! EW: the component's text of a run -/
set_option maxRecDepth 100000
/-- what a run holds may be told -/
def RTC (N : Nat → Int32) : Prop := cSo N 0 (-1) → ∀ k, k < 4 → (rnC N k (-1) 0).2.2.2.1 ≤ nE N ∧ (∀ i, i < (rnC N k (-1) 0).2.2.2.1 → ∃ j, j < nE N ∧ (rnC N k (-1) 0).2.2.1 i = nI j ∧ 0 ≤ (rnC N k (-1) 0).2.1 j) ∧ ((rnC N k (-1) 0).2.2.2.2 = -1 ∨ ∃ e, e < nE N ∧ (rnC N k (-1) 0).2.2.2.2 = nI e)
def rucL (nm : Nat → Int32) (r : ru) : Nat → List Int32
  | 0 => []
  | k + 1 => rucL nm r k ++ (if k = 0 then [] else [nI 32]) ++ nmV nm (ix (r.2.2.1 k)) ++ [nI 64] ++ dgV (ix (r.2.1 (ix (r.2.2.1 k))))
theorem rucL_len (nm : Nat → Int32) (r : ru) : ∀ k, (rucL nm r k).length ≤ 22 * k
  | 0 => Nat.le_refl 0
  | k + 1 => by
    have h1 := rucL_len nm r k
    have h2 := nmV_len nm (ix (r.2.2.1 k))
    have h3 := dg_len 12 (ix (r.2.1 (ix (r.2.2.1 k))))
    rw [rucL]
    simp only [List.length_append, List.length_singleton, dgV]
    split
    · simp only [List.length_nil]; omega
    · simp only [List.length_singleton]; omega
def rucP (nm : Nat → Int32) (r : ru) : List Int32 := rucL nm r r.2.2.2.1 ++ (if r.2.2.2.2 = -1 then [] else [nI 32] ++ nmV nm (ix r.2.2.2.2) ++ [nI 63])
section
variable {g : eg} {h : eh} {a : Nat → Nat} {ws : List Nat} {N : Nat → Int32} {m pe ep : Int32} {fb ft : Nat → Int32} {ρ : ru} {Q : Outcome → eh → Prop}
theorem c_writeRun {p : Int32} {A4 : Nat} {nm : Nat → Int32} {sn vn : Nat → Nat} {tx0 : List Int32} (hg : gOC g) (hc : gCS g) (hd : gDG g) (hR : RC1 N) (hT : RTC N) (C : CV g h a ws N m pe ep fb ft ρ) (T : TS g h a ws N A4 nm sn vn) (S : SB h (a 4) A4 tx0)
    (h0 : ¬ se1 1 (cSb N) (bI (isIx 4 p)) = 0 → ∀ h' y, CQ g a ws N m pe ep h h' → h'.1 y = some (ob (SA (se1 1 (cSb N) (bI (isIx 4 p)))) []) → Q (.threw y) h')
    (hq : se1 1 (cSb N) (bI (isIx 4 p)) = 0 → ∀ h', TQ g a ws N m pe ep A4 nm sn vn (rucP nm (rnC N (ix p) (-1) 0)) h h' → Q (.returned (some (.int (nI (rucP nm (rnC N (ix p) (-1) 0)).length)))) h') : ew_T g kX1_writeRun 26 [.ref (a 0), .int p] h Q := by
  have hE10 := C.n.ok.e2
  refine ew_enter (by decide +kernel) (ew_a1 rfl (ew_a1 rfl (ew_an (ew_an ew_az)))) (Nat.le_of_ble_eq_true rfl) ?_
  refine ew_ok (fun ho => ?_)
  by_cases hz : se1 1 (cSb N) (bI (isIx 4 p)) = 0
  · have hpp := se1_0.mp hz
    have hs := cSb_iff.mp hpp.2.1
    have hi : isIx 4 p := bI_n.mp hpp.2.2
    have hp := hi.to (by decide)
    obtain ⟨t1, t2, t3⟩ := hT hs _ hp.1
    obtain ⟨r, hr⟩ : ∃ r, r = rnC N (ix p) (-1) 0 := ⟨_, rfl⟩
    have hq2 := hq hz
    rw [← hr] at t1 t2 t3 hq2
    have s123 : ∀ h2 f σ x3 k, k ≤ 50 → TW g h h2 a ws N m pe ep f ft σ A4 nm sn vn k (rucP nm r) → ew_G g kX1_writeRun 26 123 [.ref (a 0), .int p, .ref (a 9), x3] [] h2 Q := by
      intro h2 f σ x3 k hk9 W
      obtain ⟨A2, fs, w3, w5, hqo⟩ := W.s
      refine ew_aload_n (pc := 123) dX1_writeRun_123 rfl ?_
      refine ew_getf (pc := 124) fX1_67 (rd_of W.1.o) rfl dX1_writeRun_124 ?_
      refine ew_cV0 (d' := 1) (pc := 127) vX1_390 (rd_of hqo) dX1_writeRun_127 (by decide) (ew_rm (Nat.le_of_ble_eq_true rfl)) ?_
      refine W.len ?_
      refine ew_Kr ?_
      refine ew_iret (pc := 130) rfl dX1_writeRun_130 ?_
      exact hq2 _ (W.fin (by omega))
    have loop : ∀ f σ, ruA (nE N) σ r → ∀ q k h2, k + q = r.2.2.2.1 → TW g h h2 a ws N m pe ep f ft σ A4 nm sn vn (4 * k) (rucL nm r k) → ew_G g kX1_writeRun 26 16 [.ref (a 0), .int p, .ref (a 9), .int (nI k)] [] h2 Q := by
      intro f σ hA q
      obtain ⟨-, A1, A2', A3⟩ := hA
      have em : σ.2.2.2.1 = r.2.2.2.1 := congrArg (·.1) A3
      have eb9 : σ.2.2.2.2 = r.2.2.2.2 := congrArg (·.2) A3
      induction q with
      | zero =>
        intro k h2 hk9 W
        have e9 : k = r.2.2.2.1 := by omega
        subst e9
        obtain ⟨A2, fs, w3, w5, hqo⟩ := W.s
        obtain ⟨fn, m1, m2⟩ := W.nms
        have hll := rucL_len nm r r.2.2.2.1
        have hrun := W.1.c.2.2.2
        rw [em, eb9] at hrun
        by_cases hb : r.2.2.2.2 = -1
        · have e8 : rucP nm r = rucL nm r r.2.2.2.1 := by rw [rucP, if_pos hb, List.append_nil]
          rw [← e8] at W
          refine ew_iload_n (pc := 16) dX1_writeRun_16 rfl ?_
          refine ew_aload_n (pc := 17) dX1_writeRun_17 rfl ?_
          refine ew_getf (pc := 18) fX1_398 (rd_of hrun) rfl dX1_writeRun_18 ?_
          refine ew_icmp_ge (pc := 21) (tgt := 85) dX1_writeRun_21 (by decide) (fun c21 => ?_) (fun c21 => absurd (nI_le (Nat.le_refl _) (by omega)) c21)
          refine ew_aload_n (pc := 85) dX1_writeRun_85 rfl ?_
          refine ew_getf (pc := 86) fX1_363 (rd_of hrun) rfl dX1_writeRun_86 ?_
          refine ew_iconst (pc := 89) (v := -1) dX1_writeRun_89 rfl ?_
          refine ew_icmp_eq (pc := 90) (tgt := 123) dX1_writeRun_90 (by decide) (fun c90 => ?_) (fun c90 => absurd hb c90)
          exact s123 h2 f σ _ _ (by omega) W
        · obtain ⟨e, he, hbe⟩ := t3.resolve_left hb
          have e8 : rucP nm r = rucL nm r r.2.2.2.1 ++ [nI 32] ++ nmV nm e ++ [nI 63] := by
            rw [rucP, if_neg hb, hbe, ix_nI (by omega)]
            simp only [List.append_assoc]
          have hnl := nmV_len nm e
          refine ew_ok (fun ho2 => ?_)
          refine ew_iload_n (pc := 16) dX1_writeRun_16 rfl ?_
          refine ew_aload_n (pc := 17) dX1_writeRun_17 rfl ?_
          refine ew_getf (pc := 18) fX1_398 (rd_of hrun) rfl dX1_writeRun_18 ?_
          refine ew_icmp_ge (pc := 21) (tgt := 85) dX1_writeRun_21 (by decide) (fun c21 => ?_) (fun c21 => absurd (nI_le (Nat.le_refl _) (by omega)) c21)
          refine ew_aload_n (pc := 85) dX1_writeRun_85 rfl ?_
          refine ew_getf (pc := 86) fX1_363 (rd_of hrun) rfl dX1_writeRun_86 ?_
          refine ew_iconst (pc := 89) (v := -1) dX1_writeRun_89 rfl ?_
          refine ew_icmp_eq (pc := 90) (tgt := 123) dX1_writeRun_90 (by decide) (fun c90 => absurd c90 hb) (fun c90 => ?_)
          refine ew_aload_n (pc := 93) dX1_writeRun_93 rfl ?_
          refine ew_getf (pc := 94) fX1_67 (rd_of W.1.o) rfl dX1_writeRun_94 ?_
          refine ew_bipush (pc := 97) (v := 32) dX1_writeRun_97 rfl ?_
          refine ew_cV1 (d' := 18) (pc := 99) vX1_382 (rd_of hqo) dX1_writeRun_99 (by decide) (ew_rm (Nat.le_of_ble_eq_true rfl)) ?_
          refine W.chr (c := 32) hc hg ho C T (by decide) (by omega) (fun h3 W3 sb3 => ?_)
          obtain ⟨A3, fs3, x3, x5, hq3⟩ := W3.s
          obtain ⟨fn3, n1, n2⟩ := W3.nms
          have hrun3 := W3.1.c.2.2.2
          rw [em, eb9] at hrun3
          refine ew_Kr ?_
          refine ew_aload_n (pc := 102) dX1_writeRun_102 rfl ?_
          refine ew_getf (pc := 103) fX1_84 (rd_of W3.1.o) rfl dX1_writeRun_103 ?_
          refine ew_getf (pc := 106) fX1_185 (rd_of W3.1.n.o) rfl dX1_writeRun_106 ?_
          refine ew_aload_n (pc := 109) dX1_writeRun_109 rfl ?_
          refine ew_getf (pc := 110) fX1_363 (rd_of hrun3) rfl dX1_writeRun_110 ?_
          refine ew_aaJ (pc := 113) rfl n1 (j := e) hbe he (by omega) dX1_writeRun_113 ?_
          rw [n2 _ he]
          refine ew_cV1 (d' := 19) (pc := 114) vX1_378 (rd_of hq3) dX1_writeRun_114 (by decide) (ew_rm (Nat.le_of_ble_eq_true rfl)) ?_
          refine W3.nme hc hg ho C T he (by simp only [List.length_append, List.length_singleton]; omega) (fun h4 W4 sb4 => ?_)
          obtain ⟨A4', fs4, y3, y5, hq4⟩ := W4.s
          refine ew_Kr ?_
          refine ew_bipush (pc := 117) (v := 63) dX1_writeRun_117 rfl ?_
          refine ew_cV1 (d' := 18) (pc := 119) vX1_382 (rd_of hq4) dX1_writeRun_119 (by decide) (ew_rm (Nat.le_of_ble_eq_true rfl)) ?_
          refine W4.chr (c := 63) hc hg ho C T (by decide) (by simp only [List.length_append, List.length_singleton]; omega) (fun h5 W5 sb5 => ?_)
          rw [← e8] at W5
          refine ew_Kr ?_
          refine ew_pop (pc := 122) dX1_writeRun_122 rfl ?_
          exact s123 h5 f σ _ _ (by omega) W5
      | succ q ih =>
        intro k h2 hk9 W
        have hkl : k < r.2.2.2.1 := by omega
        obtain ⟨j, hj, hoj, htj⟩ := t2 k hkl
        obtain ⟨tj, htj2, hte⟩ := nI_of (Int32.not_lt.mpr htj)
        have hso : σ.2.2.1 k = nI j := (A2' k (by omega)).trans hoj
        have hst : σ.2.1 j = nI tj := (A1 j hj).trans hte
        have hll := rucL_len nm r k
        have hnl := nmV_len nm j
        have hdl := dg_len 12 tj
        have en : rucL nm r (k + 1) = rucL nm r k ++ (if k = 0 then [] else [nI 32]) ++ nmV nm j ++ [nI 64] ++ dgV tj := by rw [rucL, hoj, ix_nI (by omega), hte, ix_nI (by omega)]
        have s38 : ∀ h3 tx, tx.length ≤ 22 * k + 1 → tx = rucL nm r k ++ (if k = 0 then [] else [nI 32]) → TW g h h3 a ws N m pe ep f ft σ A4 nm sn vn (4 * k + 1) tx → ew_G g kX1_writeRun 26 38 [.ref (a 0), .int p, .ref (a 9), .int (nI k)] [] h3 Q := by
          intro h3 tx htl htx W3
          rw [← htx] at en
          obtain ⟨A3, fs3, x3, x5, hq3⟩ := W3.s
          obtain ⟨fn3, n1, n2⟩ := W3.nms
          refine ew_ok (fun ho3 => ?_)
          refine ew_aload_n (pc := 38) dX1_writeRun_38 rfl ?_
          refine ew_getf (pc := 39) fX1_67 (rd_of W3.1.o) rfl dX1_writeRun_39 ?_
          refine ew_aload_n (pc := 42) dX1_writeRun_42 rfl ?_
          refine ew_getf (pc := 43) fX1_84 (rd_of W3.1.o) rfl dX1_writeRun_43 ?_
          refine ew_getf (pc := 46) fX1_185 (rd_of W3.1.n.o) rfl dX1_writeRun_46 ?_
          refine ew_aload_n (pc := 49) dX1_writeRun_49 rfl ?_
          refine ew_getf (pc := 50) fX1_401 (rd_of W3.1.c.2.2.2) rfl dX1_writeRun_50 ?_
          refine ew_iload_n (pc := 53) dX1_writeRun_53 rfl ?_
          refine ew_iaJ (pc := 54) (rd_of W3.1.c.2.2.1) (j := k) rfl (by omega) (by omega) dX1_writeRun_54 ?_
          rw [hso]
          refine ew_aaJ (pc := 55) rfl n1 (j := j) rfl hj (by omega) dX1_writeRun_55 ?_
          rw [n2 _ hj]
          refine ew_cV1 (d' := 19) (pc := 56) vX1_378 (rd_of hq3) dX1_writeRun_56 (by decide) (ew_rm (Nat.le_of_ble_eq_true rfl)) ?_
          refine W3.nme hc hg ho C T hj (by omega) (fun h4 W4 sb4 => ?_)
          obtain ⟨A4', fs4, y3, y5, hq4⟩ := W4.s
          refine ew_Kr ?_
          refine ew_bipush (pc := 59) (v := 64) dX1_writeRun_59 rfl ?_
          refine ew_cV1 (d' := 18) (pc := 61) vX1_382 (rd_of hq4) dX1_writeRun_61 (by decide) (ew_rm (Nat.le_of_ble_eq_true rfl)) ?_
          refine W4.chr (c := 64) hc hg ho C T (by decide) (by rw [List.length_append]; omega) (fun h5 W5 sb5 => ?_)
          obtain ⟨A5, fs5, z3, z5, hq5⟩ := W5.s
          refine ew_Kr ?_
          refine ew_aload_n (pc := 64) dX1_writeRun_64 rfl ?_
          refine ew_getf (pc := 65) fX1_366 (rd_of W5.1.c.2.2.2) rfl dX1_writeRun_65 ?_
          refine ew_aload_n (pc := 68) dX1_writeRun_68 rfl ?_
          refine ew_getf (pc := 69) fX1_401 (rd_of W5.1.c.2.2.2) rfl dX1_writeRun_69 ?_
          refine ew_iload_n (pc := 72) dX1_writeRun_72 rfl ?_
          refine ew_iaJ (pc := 73) (rd_of W5.1.c.2.2.1) (j := k) rfl (by omega) (by omega) dX1_writeRun_73 ?_
          rw [hso]
          refine ew_iaJ (pc := 74) (rd_of W5.1.c.2.1) (j := j) rfl hj (by omega) dX1_writeRun_74 ?_
          rw [hst]
          refine ew_cV1 (d' := 18) (pc := 75) vX1_385 (rd_of hq5) dX1_writeRun_75 (by decide) (ew_rm (Nat.le_of_ble_eq_true rfl)) ?_
          refine W5.num hc hd hg ho C T htj2 (by simp only [List.length_append, List.length_singleton]; omega) (fun h6 W6 sb6 => ?_)
          rw [← en] at W6
          refine ew_Kr ?_
          refine ew_pop (pc := 78) dX1_writeRun_78 rfl ?_
          refine ew_iinc (pc := 79) dX1_writeRun_79 rfl (nI_inc k) (by decide) (p1_3 rfl) ?_
          refine ew_goto (pc := 82) (tgt := 16) dX1_writeRun_82 (by decide) ?_
          exact ih (k + 1) h6 (by omega) (W6.up (by omega))
        obtain ⟨A2, fs, w3, w5, hqo⟩ := W.s
        have hrun := W.1.c.2.2.2
        rw [em] at hrun
        by_cases h0 : k = 0
        · rw [if_pos h0, List.append_nil] at en s38
          refine ew_iload_n (pc := 16) dX1_writeRun_16 rfl ?_
          refine ew_aload_n (pc := 17) dX1_writeRun_17 rfl ?_
          refine ew_getf (pc := 18) fX1_398 (rd_of hrun) rfl dX1_writeRun_18 ?_
          refine ew_icmp_ge (pc := 21) (tgt := 85) dX1_writeRun_21 (by decide) (fun c21 => absurd c21 (nI_ge hkl (by omega))) (fun c21 => ?_)
          refine ew_iload_n (pc := 24) dX1_writeRun_24 rfl ?_
          refine ew_if_le (pc := 25) (tgt := 38) dX1_writeRun_25 (by decide) (fun c25 => ?_) (fun c25 => absurd (by rw [h0]; decide) c25)
          exact s38 h2 _ (by omega) rfl (W.up (by omega))
        · rw [if_neg h0] at en s38
          refine ew_iload_n (pc := 16) dX1_writeRun_16 rfl ?_
          refine ew_aload_n (pc := 17) dX1_writeRun_17 rfl ?_
          refine ew_getf (pc := 18) fX1_398 (rd_of hrun) rfl dX1_writeRun_18 ?_
          refine ew_icmp_ge (pc := 21) (tgt := 85) dX1_writeRun_21 (by decide) (fun c21 => absurd c21 (nI_ge hkl (by omega))) (fun c21 => ?_)
          refine ew_iload_n (pc := 24) dX1_writeRun_24 rfl ?_
          refine ew_if_le (pc := 25) (tgt := 38) dX1_writeRun_25 (by decide) (fun c25 => absurd c25 (fun h9 => h0 ((nI_gt0 (by omega)).mp h9))) (fun c25 => ?_)
          refine ew_aload_n (pc := 28) dX1_writeRun_28 rfl ?_
          refine ew_getf (pc := 29) fX1_67 (rd_of W.1.o) rfl dX1_writeRun_29 ?_
          refine ew_bipush (pc := 32) (v := 32) dX1_writeRun_32 rfl ?_
          refine ew_cV1 (d' := 18) (pc := 34) vX1_382 (rd_of hqo) dX1_writeRun_34 (by decide) (ew_rm (Nat.le_of_ble_eq_true rfl)) ?_
          refine W.chr (c := 32) hc hg ho C T (by decide) (by omega) (fun h3 W3 sb3 => ?_)
          refine ew_Kr ?_
          refine ew_pop (pc := 37) dX1_writeRun_37 rfl ?_
          exact s38 h3 _ (by rw [List.length_append, List.length_singleton]; omega) rfl W3
    refine ew_aload_n (pc := 0) dX1_writeRun_0 rfl ?_
    refine ew_iload_n (pc := 1) dX1_writeRun_1 rfl ?_
    refine ew_cV1 (d' := 8) (pc := 2) vX1_359 (rd_of C.o) dX1_writeRun_2 (by decide) (ew_rm (Nat.le_of_ble_eq_true rfl)) ?_
    refine t_runs1 hg C hR (fun h9 => absurd hs h9) (fun _ h9 => absurd hi h9) (fun _ _ f σ s1 C2 => ?_)
    rw [← hr] at s1
    have k2 : Ke (rgA a) 0 0 h (RUa a N σ (eh_set h (a 6) (aI (nE N * nE N) f))) := keB.t (keRg σ) (fun b h9 _ => h9) (fun b h9 _ => h9) (by decide) (by decide)
    obtain ⟨fs1, hq1⟩ := (SB.q ho T S k2).o
    refine ew_Kr ?_
    first | refine ew_astore_n (pc := 5) dX1_writeRun_5 rfl (by decide) (p1_2 rfl) ?_ | refine ew_astore_nq (pc := 5) dX1_writeRun_5 rfl (by decide) (p1_2 rfl) ?_ | refine ew_astore_nN (pc := 5) dX1_writeRun_5 rfl (by decide) (p1_2 rfl) ?_
    refine ew_aload_n (pc := 6) dX1_writeRun_6 rfl ?_
    refine ew_getf (pc := 7) fX1_67 (rd_of C2.o) rfl dX1_writeRun_7 ?_
    refine ew_iconst (pc := 10) (v := 0) dX1_writeRun_10 rfl ?_
    refine ew_cV1 (d' := 25) (pc := 11) vX1_375 (rd_of hq1) dX1_writeRun_11 (by decide) (ew_rm (Nat.le_of_ble_eq_true rfl)) ?_
    refine TW.clr hg ho C T S C2 k2 (by decide) (by decide) (fun h2 W2 k3 => ?_)
    refine ew_Kv ?_
    refine ew_iconst (pc := 14) (v := 0) dX1_writeRun_14 rfl ?_
    refine ew_istore_n (pc := 15) dX1_writeRun_15 rfl (by decide) (p1_3 rfl) ?_
    exact loop f σ s1 r.2.2.2.1 0 h2 (by omega) W2
  · have hn := h0 hz
    skip
    refine ew_aload_n (pc := 0) dX1_writeRun_0 rfl ?_
    refine ew_iload_n (pc := 1) dX1_writeRun_1 rfl ?_
    refine ew_cV1 (d' := 8) (pc := 2) vX1_359 (rd_of C.o) dX1_writeRun_2 (by decide) (ew_rm (Nat.le_of_ble_eq_true rfl)) ?_
    refine t_runs1 hg C hR (fun hs f => ?_) (fun hs hi f => ?_) (fun hs hi f σ s1 C2 => absurd (se1_y hs hi) hz)
    · exact ew_Kx (ew_out (fun x hx => nomatch hx) (hn _ _ (CQ.newB hg ho C f (by decide)) (by rw [se1_n hs]; exact ne_1 _ _ _)))
    exact ew_Kx (ew_out (fun x hx => nomatch hx) (hn _ _ (CQ.newB hg ho C f (by decide)) (by rw [se1_i hs hi]; exact ne_1 _ _ _)))
end
