/-! EW: answers on runs -/
set_option maxRecDepth 100000
/-- runs come to their end -/
def RC1 (N : Nat → Int32) : Prop := cSo N 0 (-1) → ∀ k, k < 4 → okRC N k (-1) 0
def RC2 (N : Nat → Int32) : Prop := cSo N 0 (-1) → ∀ k e d, k < 4 → e < nE N → d ≤ 99 → okRC N k (nI e) (nI d)
/-- the end of a run -/
def enR (n : Nat) (T : Nat → Int32) : Nat → Int32
  | 0 => 0
  | e + 1 => jmax (enR n T e) (T e)
section
variable {g : eg} {h : eh} {a : Nat → Nat} {ws : List Nat} {N : Nat → Int32} {m pe ep : Int32} {fb ft : Nat → Int32} {ρ : ru} {Q : Outcome → eh → Prop}
theorem CQ.B2 (hg : gOC g) (ho : eh_ok g h) (C : CV g h a ws N m pe ep fb ft ρ) {f : Nat → Int32} {h' : eh} {σ : ru} {ft2 : Nat → Int32} (C2 : CV g h' a ws N m pe ep f ft2 σ) (k : Ke (rgA a) 0 0 (eh_set h (a 6) (aI (nE N * nE N) f)) h') : CQ g a ws N m pe ep h h' := ⟨_, _, _, C2, keB.t k (fun b h9 _ => h9) (fun b h9 _ => h9) (by decide) (by decide)⟩
theorem t_runs1 {p : Int32} (hg : gOC g) (C : CV g h a ws N m pe ep fb ft ρ) (hR : RC1 N) (h0 : ¬ cSo N 0 (-1) → ∀ f, Q (.threw h.2.1) (eh_new (eh_set h (a 6) (aI (nE N * nE N) f)) (ob 23 []) 6)) (h2 : cSo N 0 (-1) → ¬ isIx 4 p → ∀ f, Q (.threw h.2.1) (eh_new (eh_set h (a 6) (aI (nE N * nE N) f)) (ob 24 []) 6)) (h1 : cSo N 0 (-1) → isIx 4 p → ∀ f σ, ruA (nE N) σ (rnC N (ix p) (-1) 0) → CV g (RUa a N σ (eh_set h (a 6) (aI (nE N * nE N) f))) a ws N m pe ep f ft σ → Q (.returned (some (.ref (a 9)))) (RUa a N σ (eh_set h (a 6) (aI (nE N * nE N) f)))) : ew_T g kX1_runs 8 [.ref (a 0), .int p] h Q := by
  refine ew_enter (by decide +kernel) (ew_a1 rfl (ew_a1 rfl (ew_an ew_az))) (Nat.le_of_ble_eq_true rfl) ?_
  refine ew_aload_n (pc := 0) dX1_runs_0 rfl ?_
  refine ew_cV0 (d' := 7) (pc := 1) vX1_132 (rd_of C.o) dX1_runs_1 (by decide) (ew_rm (Nat.le_of_ble_eq_true rfl)) ?_
  refine t_sound C (fun hs f => ?_) (fun hs f hf => ?_)
  · exact ew_Kx (ew_out (fun x hx => nomatch hx) (h0 hs f))
  have C2 := C.setB f
  refine ew_Kr ?_
  first | refine ew_astore_n (pc := 4) dX1_runs_4 rfl (by decide) (p1_2 rfl) ?_ | refine ew_astore_nq (pc := 4) dX1_runs_4 rfl (by decide) (p1_2 rfl) ?_ | refine ew_astore_nN (pc := 4) dX1_runs_4 rfl (by decide) (p1_2 rfl) ?_
  refine ew_iload_n (pc := 5) dX1_runs_5 rfl ?_
  refine ew_iconst (pc := 6) (v := 0) dX1_runs_6 rfl ?_
  refine ew_iconst (pc := 7) (v := 3) dX1_runs_7 rfl ?_
  refine ew_cS3 (d' := 0) (pc := 8) sX1_74 dX1_runs_8 (by decide) (ew_rm (Nat.le_of_ble_eq_true rfl)) ?_
  refine t_inC ?_
  refine ew_Kr ?_
  refine ew_cS1 (d' := 5) (pc := 11) sX1_198 dX1_runs_11 (by decide) (ew_rm (Nat.le_of_ble_eq_true rfl)) ?_
  refine t_chkA (fun h9 => ?_) (fun h9 => ?_)
  · exact ew_Kx (ew_out (fun x hx => nomatch hx) (h2 hs (fun h8 => bI_0.mp h9 h8) f))
  have hi : isIx 4 p := bI_n.mp h9
  have hp := hi.to (by decide)
  refine ew_Kv ?_
  refine ew_aload_n (pc := 14) dX1_runs_14 rfl ?_
  refine ew_getf (pc := 15) fX1_169 (rd_of C2.o) rfl dX1_runs_15 ?_
  refine ew_aload_n (pc := 18) dX1_runs_18 rfl ?_
  refine ew_getf (pc := 19) fX1_84 (rd_of C2.o) rfl dX1_runs_19 ?_
  first | refine ew_aload_n (pc := 22) dX1_runs_22 rfl ?_ | refine ew_aload_nq (pc := 22) dX1_runs_22 rfl ?_ | refine ew_aload_nN (pc := 22) dX1_runs_22 rfl ?_
  refine ew_iload_n (pc := 23) dX1_runs_23 rfl ?_
  refine ew_iconst (pc := 24) (v := -1) dX1_runs_24 rfl ?_
  refine ew_iconst (pc := 25) (v := 0) dX1_runs_25 rfl ?_
  rw [hp.2]
  refine ew_cV5 (d' := 5) (pc := 26) vX1_355 (rd_of C2.c.2.2.2) dX1_runs_26 (by decide) (ew_rm (Nat.le_of_ble_eq_true rfl)) ?_
  refine t_goesC hg C2 hf hp.1 (hR hs _ hp.1) (fun σ s1 s2 => ?_)
  rw [← hp.2]
  refine ew_Kr ?_
  refine ew_aret (pc := 29) rfl (Or.inl ⟨_, rfl⟩) (Or.inr ⟨_, rfl⟩) dX1_runs_29 ?_
  exact h1 hs hi f σ s1 s2
theorem c_runBreaks {p : Int32} (hg : gOC g) (C : CV g h a ws N m pe ep fb ft ρ) (hR : RC1 N) (hq : ∀ o h', CO SA (se1 1 (cSb N) (bI (isIx 4 p))) (.int (rnC N (ix p) (-1) 0).2.2.2.2) (CQ g a ws N m pe ep h) o h' → Q o h') : ew_T g kX1_runBreaks 9 [.ref (a 0), .int p] h Q := by
  refine ew_enter (by decide +kernel) (ew_a1 rfl (ew_a1 rfl ew_az)) (Nat.le_of_ble_eq_true rfl) ?_
  refine ew_ok (fun ho => ?_)
  refine ew_aload_n (pc := 0) dX1_runBreaks_0 rfl ?_
  refine ew_iload_n (pc := 1) dX1_runBreaks_1 rfl ?_
  refine ew_cV1 (d' := 8) (pc := 2) vX1_359 (rd_of C.o) dX1_runBreaks_2 (by decide) (ew_rm (Nat.le_of_ble_eq_true rfl)) ?_
  refine t_runs1 hg C hR (fun hs f => ?_) (fun hs hi f => ?_) (fun hs hi f σ s1 C2 => ?_)
  · exact ew_Kx (ew_out (fun x hx => nomatch hx) (hq _ _ (CO.n (k := 1) (se1_n hs) (by decide) rfl (ne_1 _ _ _) (CQ.newB hg ho C f (by decide)))))
  · exact ew_Kx (ew_out (fun x hx => nomatch hx) (hq _ _ (CO.n (k := 2) (se1_i hs hi) (by decide) rfl (ne_1 _ _ _) (CQ.newB hg ho C f (by decide)))))
  refine ew_Kr ?_
  refine ew_getf (pc := 5) fX1_363 (rd_of C2.c.2.2.2) rfl dX1_runBreaks_5 ?_
  refine ew_iret (pc := 8) rfl dX1_runBreaks_8 ?_
  have e9 : σ.2.2.2.2 = (rnC N (ix p) (-1) 0).2.2.2.2 := congrArg (·.2) s1.2.2.2
  rw [e9]
  exact hq _ _ (CO.y (se1_y hs hi) (CQ.B2 hg ho C C2 (keRg σ)))
theorem c_runEnd {p : Int32} (hg : gOC g) (C : CV g h a ws N m pe ep fb ft ρ) (hR : RC1 N) (hq : ∀ o h', CO SA (se1 1 (cSb N) (bI (isIx 4 p))) (.int (if (rnC N (ix p) (-1) 0).2.2.2.2 = -1 then enR (nE N) (rnC N (ix p) (-1) 0).2.1 (nE N) else -1)) (CQ g a ws N m pe ep h) o h' → Q o h') : ew_T g kX1_runEnd 9 [.ref (a 0), .int p] h Q := by
  have hE := C.n.ok.e2
  refine ew_enter (by decide +kernel) (ew_a1 rfl (ew_a1 rfl (ew_an (ew_an (ew_an (ew_an (ew_an (ew_an ew_az)))))))) (Nat.le_of_ble_eq_true rfl) ?_
  refine ew_ok (fun ho => ?_)
  have main : ∀ f σ, cSo N 0 (-1) → isIx 4 p → ruA (nE N) σ (rnC N (ix p) (-1) 0) → CV g (RUa a N σ (eh_set h (a 6) (aI (nE N * nE N) f))) a ws N m pe ep f ft σ → ∀ q e x7, e + q = nE N → ew_G g kX1_runEnd 9 22 [.ref (a 0), .int p, .ref (a 9), .int (enR (nE N) (rnC N (ix p) (-1) 0).2.1 e), .ref (a 12), .int (nI (nE N)), .int (nI e), x7] [] (RUa a N σ (eh_set h (a 6) (aI (nE N * nE N) f))) Q := by
    intro f σ hs hi s1 C2 q
    induction q with
    | zero =>
      intro e x7 he
      have e9 : e = nE N := by omega
      rw [e9]
      have e8 : σ.2.2.2.2 = (rnC N (ix p) (-1) 0).2.2.2.2 := congrArg (·.2) s1.2.2.2
      refine ew_iload (pc := 22) dX1_runEnd_22 rfl ?_
      refine ew_iload (pc := 24) dX1_runEnd_24 rfl ?_
      refine ew_icmp_ge (pc := 26) (tgt := 49) dX1_runEnd_26 (by decide) (fun c26 => ?_) (fun c26 => absurd (nI_le (Nat.le_refl _) (by omega)) c26)
      refine ew_aload_n (pc := 49) dX1_runEnd_49 rfl ?_
      refine ew_getf (pc := 50) fX1_363 (rd_of C2.c.2.2.2) rfl dX1_runEnd_50 ?_
      refine ew_iconst (pc := 53) (v := -1) dX1_runEnd_53 rfl ?_
      rw [e8]
      refine ew_icmp_ne (pc := 54) (tgt := 61) dX1_runEnd_54 (by decide) (fun c54 => ?_) (fun c54 => ?_)
      · refine ew_iconst (pc := 61) (v := -1) dX1_runEnd_61 rfl ?_
        refine ew_iret (pc := 62) rfl dX1_runEnd_62 ?_
        first
        | rw [if_neg c54] at hq
          exact hq _ _ (CO.y (se1_y hs hi) (CQ.B2 hg ho C C2 (keRg σ)))
        | rw [if_pos c54] at hq
          exact hq _ _ (CO.y (se1_y hs hi) (CQ.B2 hg ho C C2 (keRg σ)))
      · refine ew_iload_n (pc := 57) dX1_runEnd_57 rfl ?_
        refine ew_goto (pc := 58) (tgt := 62) dX1_runEnd_58 (by decide) ?_
        refine ew_iret (pc := 62) rfl dX1_runEnd_62 ?_
        first
        | rw [if_neg c54] at hq
          exact hq _ _ (CO.y (se1_y hs hi) (CQ.B2 hg ho C C2 (keRg σ)))
        | rw [if_pos c54] at hq
          exact hq _ _ (CO.y (se1_y hs hi) (CQ.B2 hg ho C C2 (keRg σ)))
    | succ q ih =>
      intro e x7 he
      have h8 := ih (e + 1)
      rw [enR] at h8
      refine ew_iload (pc := 22) dX1_runEnd_22 rfl ?_
      refine ew_iload (pc := 24) dX1_runEnd_24 rfl ?_
      refine ew_icmp_ge (pc := 26) (tgt := 49) dX1_runEnd_26 (by decide) (fun c26 => absurd c26 (nI_ge (by omega) (by omega))) (fun c26 => ?_)
      refine ew_aload (pc := 29) dX1_runEnd_29 rfl ?_
      refine ew_iload (pc := 31) dX1_runEnd_31 rfl ?_
      refine ew_iaJ (pc := 33) (rd_of C2.c.2.1) (j := e) rfl (by omega) (by omega) dX1_runEnd_33 ?_
      rw [s1.2.1 e (by omega)]
      refine ew_istore (pc := 34) dX1_runEnd_34 (by decide) (p1_7 rfl) ?_
      refine ew_iload_n (pc := 36) dX1_runEnd_36 rfl ?_
      refine ew_iload (pc := 37) dX1_runEnd_37 rfl ?_
      refine ew_mmax (pc := 39) (ew_q q1994) (ew_q q578) (ew_q q141) (ew_q q579) (ew_rm (Nat.le_of_ble_eq_true rfl)) dX1_runEnd_39 ?_
      refine ew_istore_n (pc := 42) dX1_runEnd_42 rfl (by decide) (p1_3 rfl) ?_
      refine ew_iinc (pc := 43) dX1_runEnd_43 rfl (nI_inc e) (by decide) (p1_6 rfl) ?_
      refine ew_goto (pc := 46) (tgt := 22) dX1_runEnd_46 (by decide) ?_
      exact h8 _ (by omega)
  refine ew_aload_n (pc := 0) dX1_runEnd_0 rfl ?_
  refine ew_iload_n (pc := 1) dX1_runEnd_1 rfl ?_
  refine ew_cV1 (d' := 8) (pc := 2) vX1_359 (rd_of C.o) dX1_runEnd_2 (by decide) (ew_rm (Nat.le_of_ble_eq_true rfl)) ?_
  refine t_runs1 hg C hR (fun hs f => ?_) (fun hs hi f => ?_) (fun hs hi f σ s1 C2 => ?_)
  · exact ew_Kx (ew_out (fun x hx => nomatch hx) (hq _ _ (CO.n (k := 1) (se1_n hs) (by decide) rfl (ne_1 _ _ _) (CQ.newB hg ho C f (by decide)))))
  · exact ew_Kx (ew_out (fun x hx => nomatch hx) (hq _ _ (CO.n (k := 2) (se1_i hs hi) (by decide) rfl (ne_1 _ _ _) (CQ.newB hg ho C f (by decide)))))
  refine ew_Kr ?_
  first | refine ew_astore_n (pc := 5) dX1_runEnd_5 rfl (by decide) (p1_2 rfl) ?_ | refine ew_astore_nq (pc := 5) dX1_runEnd_5 rfl (by decide) (p1_2 rfl) ?_ | refine ew_astore_nN (pc := 5) dX1_runEnd_5 rfl (by decide) (p1_2 rfl) ?_
  refine ew_iconst (pc := 6) (v := 0) dX1_runEnd_6 rfl ?_
  refine ew_istore_n (pc := 7) dX1_runEnd_7 rfl (by decide) (p1_3 rfl) ?_
  refine ew_aload_n (pc := 8) dX1_runEnd_8 rfl ?_
  refine ew_getf (pc := 9) fX1_366 (rd_of C2.c.2.2.2) rfl dX1_runEnd_9 ?_
  first | refine ew_astore (pc := 12) dX1_runEnd_12 (by decide) (p1_4 rfl) ?_ | refine ew_astoreq (pc := 12) dX1_runEnd_12 (by decide) (p1_4 rfl) ?_ | refine ew_astoreN (pc := 12) dX1_runEnd_12 (by decide) (p1_4 rfl) ?_
  refine ew_aload (pc := 14) dX1_runEnd_14 rfl ?_
  refine ew_alen (pc := 16) (rd_of C2.c.2.1) rfl dX1_runEnd_16 ?_
  refine ew_istore (pc := 17) dX1_runEnd_17 (by decide) (p1_5 rfl) ?_
  refine ew_iconst (pc := 19) (v := 0) dX1_runEnd_19 rfl ?_
  refine ew_istore (pc := 20) dX1_runEnd_20 (by decide) (p1_6 rfl) ?_
  exact main f σ hs hi s1 C2 (nE N) 0 _ (by omega)
end
