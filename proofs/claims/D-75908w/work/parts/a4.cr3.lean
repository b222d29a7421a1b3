/-! EW: spare delays -/
set_option maxRecDepth 100000
/-- the longest delay below d that does not break the run -/
def sprF (N : Nat → Int32) (k e : Nat) : Nat → Int32
  | 0 => -1
  | d + 1 => if (rnC N k (nI e) (nI d)).2.2.2.2 = -1 then nI d else sprF N k e d
/-- the weakest event of 1 .. m and what it can spare -/
def wkT1 (N : Nat → Int32) (k e : Nat) (s : Int32 × Int32) : Int32 × Int32 := if ¬ N (146 + e) = -1 ∨ (¬ s.1 = -1 ∧ s.2 ≤ sprF N k e 100) then s else (nI e, sprF N k e 100)
def wkC (N : Nat → Int32) (k : Nat) : Nat → Int32 × Int32
  | 0 => (-1, 0)
  | e + 1 => wkT1 N k (e + 1) (wkC N k e)
section
variable {g : eg} {h : eh} {a : Nat → Nat} {ws : List Nat} {N : Nat → Int32} {m pe ep : Int32} {fb ft : Nat → Int32} {ρ : ru} {Q : Outcome → eh → Prop}
theorem CQ.pre {h1 h' : eh} (k : Ke (rgA a) 0 0 h h1) (C : CQ g a ws N m pe ep h1 h') : CQ g a ws N m pe ep h h' := by
  obtain ⟨f, f2, σ, C2, k2⟩ := C
  exact ⟨f, f2, σ, C2, k.t k2 (fun b h9 _ => h9) (fun b h9 _ => h9) (by decide) (by decide)⟩
theorem se2_n {x y : Int32} (hs : ¬ cSo N 0 (-1)) : se2 1 (cSb N) x y = 1 := by rw [se2, if_pos (Or.inr (cSb_f hs))]
theorem se2_i {p : Prop} [Decidable p] {y : Int32} (hs : cSo N 0 (-1)) (hp : ¬ p) : se2 1 (cSb N) (bI p) y = 2 := by rw [se2, if_neg (fun h9 => h9.elim (fun h8 => absurd h8 (by decide)) (fun h8 => by rw [cSb_iff.mpr hs] at h8; cases h8)), if_pos (bI_f hp)]
theorem se2_j {p q : Prop} [Decidable p] [Decidable q] (hs : cSo N 0 (-1)) (hp : p) (hq : ¬ q) : se2 1 (cSb N) (bI p) (bI q) = 3 := by rw [se2, if_neg (fun h9 => h9.elim (fun h8 => absurd h8 (by decide)) (fun h8 => by rw [cSb_iff.mpr hs] at h8; cases h8)), if_neg (bI_n.mpr hp), if_pos (bI_f hq)]
theorem se2_y {p q : Prop} [Decidable p] [Decidable q] (hs : cSo N 0 (-1)) (hp : p) (hq : q) : se2 1 (cSb N) (bI p) (bI q) = 0 := by rw [se2, if_neg (fun h9 => h9.elim (fun h8 => absurd h8 (by decide)) (fun h8 => by rw [cSb_iff.mpr hs] at h8; cases h8)), if_neg (bI_n.mpr hp), if_neg (bI_n.mpr hq)]
theorem c_runTime {p e : Int32} (hg : gOC g) (C : CV g h a ws N m pe ep fb ft ρ) (hR : RC1 N) (hq : ∀ o h', CO SI (se2 1 (cSb N) (bI (isIx (nE N) e)) (bI (isIx 4 p))) (.int ((rnC N (ix p) (-1) 0).2.1 (ix e))) (CQ g a ws N m pe ep h) o h' → Q o h') : ew_T g kX1_runTime 9 [.ref (a 0), .int p, .int e] h Q := by
  have hE := C.n.ok.e2
  refine ew_enter (by decide +kernel) (ew_a1 rfl (ew_a1 rfl (ew_a1 rfl (ew_an ew_az)))) (Nat.le_of_ble_eq_true rfl) ?_
  refine ew_ok (fun ho => ?_)
  refine ew_aload_n (pc := 0) dX1_runTime_0 rfl ?_
  refine ew_iload_n (pc := 1) dX1_runTime_1 rfl ?_
  refine ew_cV1 (d' := 8) (pc := 2) vX1_136 (rd_of C.o) dX1_runTime_2 (by decide) (ew_rm (Nat.le_of_ble_eq_true rfl)) ?_
  refine t_soundWith1 C (fun hs f => ?_) (fun hs hi f => ?_) (fun hs hi f hf => ?_)
  · exact ew_Kx (ew_out (fun x hx => nomatch hx) (hq _ _ (CO.n (k := 1) (se2_n hs) (by decide) rfl (ne_1 _ _ _) (CQ.newB hg ho C f (by decide)))))
  · exact ew_Kx (ew_out (fun x hx => nomatch hx) (hq _ _ (CO.n (k := 2) (se2_i hs hi) (by decide) rfl (ne_1 _ _ _) (CQ.newB hg ho C f (by decide)))))
  have hx := hi.to (n := nE N) (by omega)
  have C2 := C.setB f
  have ho2 : eh_ok g (eh_set h (a 6) (aI (nE N * nE N) f)) := ho.set C.b.2.1
  refine ew_Kr ?_
  first | refine ew_astore_n (pc := 5) dX1_runTime_5 rfl (by decide) (p1_3 rfl) ?_ | refine ew_astore_nq (pc := 5) dX1_runTime_5 rfl (by decide) (p1_3 rfl) ?_ | refine ew_astore_nN (pc := 5) dX1_runTime_5 rfl (by decide) (p1_3 rfl) ?_
  refine ew_aload_n (pc := 6) dX1_runTime_6 rfl ?_
  refine ew_iload_n (pc := 7) dX1_runTime_7 rfl ?_
  refine ew_cV1 (d' := 8) (pc := 8) vX1_359 (rd_of C2.o) dX1_runTime_8 (by decide) (ew_rm (Nat.le_of_ble_eq_true rfl)) ?_
  refine t_runs1 hg C2 hR (fun hs2 f2 => absurd hs hs2) (fun hs2 hj f2 => ?_) (fun hs2 hj f2 σ s1 C3 => ?_)
  · exact ew_Kx (ew_out (fun x hx => nomatch hx) (hq _ _ (CO.n (k := 3) (se2_j hs hi hj) (by decide) rfl (ne_1 _ _ _) ((CQ.newB hg ho2 C2 f2 (by decide)).pre keB))))
  refine ew_Kr ?_
  refine ew_getf (pc := 11) fX1_366 (rd_of C3.c.2.2.2) rfl dX1_runTime_11 ?_
  refine ew_iload_n (pc := 14) dX1_runTime_14 rfl ?_
  refine ew_iaJ (pc := 15) (rd_of C3.c.2.1) (j := ix e) hx.2 hx.1 (by omega) dX1_runTime_15 ?_
  rw [s1.2.1 _ hx.1]
  refine ew_iret (pc := 16) rfl dX1_runTime_16 ?_
  exact hq _ _ (CO.y (se2_y hs hi hj) ((CQ.B2 hg ho2 C2 C3 (keRg σ)).pre keB))
theorem t_spareOf1 {k e : Nat} (hg : gOC g) (C : CV g h a ws N m pe ep fb ft ρ) (hf : agN (nE N) fb (cSq N 0 (-1))) (hs : cSo N 0 (-1)) (hR : RC2 N) (hk : k < 4) (he : e < nE N) (hq : ∀ h' σ, CV g h' a ws N m pe ep fb ft σ → Ke (rgA a) 0 0 h h' → Q (.returned (some (.int (sprF N k e 100)))) h') : ew_T g kX1_spareOf 6 [.ref (a 0), .int (nI k), .int (nI e)] h Q := by
  have l0 : ∀ h2 σ, CV g h2 a ws N m pe ep fb ft σ → Ke (rgA a) 0 0 h h2 → sprF N k e 0 = sprF N k e 100 → ew_G g kX1_spareOf 6 3 [.ref (a 0), .int (nI k), .int (nI e), .int (-1)] [] h2 Q := by
    intro h2 σ C2 k2 hv
    rw [sprF] at hv
    refine ew_iload_n (pc := 3) dX1_spareOf_3 rfl ?_
    refine ew_if_lt (pc := 4) (tgt := 40) dX1_spareOf_4 (by decide) (fun c4 => ?_) (fun c4 => absurd (by decide) c4)
    refine ew_iconst (pc := 40) (v := -1) dX1_spareOf_40 rfl ?_
    refine ew_iret (pc := 41) rfl dX1_spareOf_41 ?_
    have h8 := hq h2 σ C2 k2
    rw [← hv] at h8
    exact h8
  have main : ∀ d h2 σ, d ≤ 99 → CV g h2 a ws N m pe ep fb ft σ → Ke (rgA a) 0 0 h h2 → sprF N k e (d + 1) = sprF N k e 100 → ew_G g kX1_spareOf 6 3 [.ref (a 0), .int (nI k), .int (nI e), .int (nI d)] [] h2 Q := by
    intro d
    induction d with
    | zero =>
      intro h2 σ hd C2 k2 hv
      rw [sprF] at hv
      refine ew_iload_n (pc := 3) dX1_spareOf_3 rfl ?_
      refine ew_if_lt (pc := 4) (tgt := 40) dX1_spareOf_4 (by decide) (fun c4 => absurd c4 (by decide)) (fun c4 => ?_)
      refine ew_aload_n (pc := 7) dX1_spareOf_7 rfl ?_
      refine ew_getf (pc := 8) fX1_169 (rd_of C2.o) rfl dX1_spareOf_8 ?_
      refine ew_aload_n (pc := 11) dX1_spareOf_11 rfl ?_
      refine ew_getf (pc := 12) fX1_84 (rd_of C2.o) rfl dX1_spareOf_12 ?_
      refine ew_aload_n (pc := 15) dX1_spareOf_15 rfl ?_
      refine ew_getf (pc := 16) fX1_92 (rd_of C2.o) rfl dX1_spareOf_16 ?_
      refine ew_iload_n (pc := 19) dX1_spareOf_19 rfl ?_
      refine ew_iload_n (pc := 20) dX1_spareOf_20 rfl ?_
      refine ew_iload_n (pc := 21) dX1_spareOf_21 rfl ?_
      refine ew_cV5 (d' := 5) (pc := 22) vX1_355 (rd_of C2.c.2.2.2) dX1_spareOf_22 (by decide) (ew_rm (Nat.le_of_ble_eq_true rfl)) ?_
      refine t_goesC hg C2 hf hk (hR hs k e 0 hk he (by omega)) (fun σ2 s1 C3 => ?_)
      have e9 : σ2.2.2.2.2 = (rnC N k (nI e) (nI 0)).2.2.2.2 := congrArg (·.2) s1.2.2.2
      have k3 : Ke (rgA a) 0 0 h (RUa a N σ2 h2) := k2.t (keRg σ2) (fun b h9 _ => h9) (fun b h9 _ => h9) (Nat.le_refl _) (Nat.le_refl _)
      refine ew_Kr ?_
      refine ew_getf (pc := 25) fX1_363 (rd_of C3.c.2.2.2) rfl dX1_spareOf_25 ?_
      rw [e9]
      refine ew_iconst (pc := 28) (v := -1) dX1_spareOf_28 rfl ?_
      refine ew_icmp_ne (pc := 29) (tgt := 34) dX1_spareOf_29 (by decide) (fun c29 => ?_) (fun c29 => ?_)
      · rw [if_neg c29] at hv
        refine ew_iinc (pc := 34) dX1_spareOf_34 rfl rfl (by decide) (p1_3 rfl) ?_
        refine ew_goto (pc := 37) (tgt := 3) dX1_spareOf_37 (by decide) ?_
        exact l0 _ _ C3 k3 hv
      · refine ew_iload_n (pc := 32) dX1_spareOf_32 rfl ?_
        refine ew_iret (pc := 33) rfl dX1_spareOf_33 ?_
        rw [if_pos c29] at hv
        have h8 := hq _ _ C3 k3
        rw [← hv] at h8
        exact h8
    | succ d ih =>
      intro h2 σ hd C2 k2 hv
      rw [sprF] at hv
      refine ew_iload_n (pc := 3) dX1_spareOf_3 rfl ?_
      refine ew_if_lt (pc := 4) (tgt := 40) dX1_spareOf_4 (by decide) (fun c4 => absurd c4 (nI_pos (by omega))) (fun c4 => ?_)
      refine ew_aload_n (pc := 7) dX1_spareOf_7 rfl ?_
      refine ew_getf (pc := 8) fX1_169 (rd_of C2.o) rfl dX1_spareOf_8 ?_
      refine ew_aload_n (pc := 11) dX1_spareOf_11 rfl ?_
      refine ew_getf (pc := 12) fX1_84 (rd_of C2.o) rfl dX1_spareOf_12 ?_
      refine ew_aload_n (pc := 15) dX1_spareOf_15 rfl ?_
      refine ew_getf (pc := 16) fX1_92 (rd_of C2.o) rfl dX1_spareOf_16 ?_
      refine ew_iload_n (pc := 19) dX1_spareOf_19 rfl ?_
      refine ew_iload_n (pc := 20) dX1_spareOf_20 rfl ?_
      refine ew_iload_n (pc := 21) dX1_spareOf_21 rfl ?_
      refine ew_cV5 (d' := 5) (pc := 22) vX1_355 (rd_of C2.c.2.2.2) dX1_spareOf_22 (by decide) (ew_rm (Nat.le_of_ble_eq_true rfl)) ?_
      refine t_goesC hg C2 hf hk (hR hs k e (d + 1) hk he hd) (fun σ2 s1 C3 => ?_)
      have e9 : σ2.2.2.2.2 = (rnC N k (nI e) (nI (d + 1))).2.2.2.2 := congrArg (·.2) s1.2.2.2
      have k3 : Ke (rgA a) 0 0 h (RUa a N σ2 h2) := k2.t (keRg σ2) (fun b h9 _ => h9) (fun b h9 _ => h9) (Nat.le_refl _) (Nat.le_refl _)
      refine ew_Kr ?_
      refine ew_getf (pc := 25) fX1_363 (rd_of C3.c.2.2.2) rfl dX1_spareOf_25 ?_
      rw [e9]
      refine ew_iconst (pc := 28) (v := -1) dX1_spareOf_28 rfl ?_
      refine ew_icmp_ne (pc := 29) (tgt := 34) dX1_spareOf_29 (by decide) (fun c29 => ?_) (fun c29 => ?_)
      · rw [if_neg c29] at hv
        refine ew_iinc (pc := 34) dX1_spareOf_34 rfl (nI_dec d) (by decide) (p1_3 rfl) ?_
        refine ew_goto (pc := 37) (tgt := 3) dX1_spareOf_37 (by decide) ?_
        exact ih _ _ (by omega) C3 k3 hv
      · refine ew_iload_n (pc := 32) dX1_spareOf_32 rfl ?_
        refine ew_iret (pc := 33) rfl dX1_spareOf_33 ?_
        rw [if_pos c29] at hv
        have h8 := hq _ _ C3 k3
        rw [← hv] at h8
        exact h8
  refine ew_enter (by decide +kernel) (ew_a1 rfl (ew_a1 rfl (ew_a1 rfl (ew_an ew_az)))) (Nat.le_of_ble_eq_true rfl) ?_
  refine ew_bipush (pc := 0) (v := 99) dX1_spareOf_0 rfl ?_
  refine ew_istore_n (pc := 2) dX1_spareOf_2 rfl (by decide) (p1_3 rfl) ?_
  exact main 99 h ρ (Nat.le_refl _) C (Ke.r _ _) rfl
theorem c_spare {p e : Int32} (hg : gOC g) (C : CV g h a ws N m pe ep fb ft ρ) (hR : RC2 N) (hq : ∀ o h', CO SI (se2 1 (cSb N) (bI (isIx (nE N) e)) (bI (isIx 4 p ∧ isIx (nE N) e ∧ N (146 + ix e) = -1))) (.int (sprF N (ix p) (ix e) 100)) (CQ g a ws N m pe ep h) o h' → Q o h') : ew_T g kX1_spare 9 [.ref (a 0), .int p, .int e] h Q := by
  have hE := C.n.ok.e2
  refine ew_enter (by decide +kernel) (ew_a1 rfl (ew_a1 rfl (ew_a1 rfl (ew_an ew_az)))) (Nat.le_of_ble_eq_true rfl) ?_
  refine ew_ok (fun ho => ?_)
  have s31 : ∀ fl f L, cSo N 0 (-1) → isIx (nE N) e → agN (nE N) f (cSq N 0 (-1)) → (fl : Int32) = bI (isIx 4 p ∧ isIx (nE N) e ∧ N (146 + ix e) = -1) → L = [.ref (a 0), .int p, .int e, .ref (a 5)] → ew_G g kX1_spare 9 31 L [.int fl] (eh_set h (a 6) (aI (nE N * nE N) f)) Q := by
    intro fl f L hs hi hf hfl hL
    subst hL
    rw [hfl]
    have C2 := C.setB f
    have ho2 : eh_ok g (eh_set h (a 6) (aI (nE N * nE N) f)) := ho.set C.b.2.1
    refine ew_cS1 (d' := 5) (pc := 31) sX1_198 dX1_spare_31 (by decide) (ew_rm (Nat.le_of_ble_eq_true rfl)) ?_
    refine t_chkA (fun h9 => ?_) (fun h9 => ?_)
    · exact ew_Kx (ew_out (fun x hx => nomatch hx) (hq _ _ (CO.n (k := 3) (se2_j hs hi (fun h8 => bI_0.mp h9 h8)) (by decide) rfl (ne_1 _ _ _) (CQ.newB hg ho C f (by decide)))))
    have hx := hi.to (n := nE N) (by omega)
    have h7 := bI_n.mp h9
    have hp := h7.1.to (by decide)
    rw [hx.2, hp.2]
    refine ew_Kv ?_
    refine ew_aload_n (pc := 34) dX1_spare_34 rfl ?_
    refine ew_iload_n (pc := 35) dX1_spare_35 rfl ?_
    refine ew_iload_n (pc := 36) dX1_spare_36 rfl ?_
    refine ew_cV2 (d' := 6) (pc := 37) vX1_372 (rd_of C2.o) dX1_spare_37 (by decide) (ew_rm (Nat.le_of_ble_eq_true rfl)) ?_
    refine t_spareOf1 hg C2 hf hs hR hp.1 hx.1 (fun h3 σ3 C3 k3 => ?_)
    refine ew_Kr ?_
    refine ew_iret (pc := 40) rfl dX1_spare_40 ?_
    exact hq _ _ (CO.y (se2_y hs hi h7) (CQ.B2 hg ho C C3 k3))
  refine ew_aload_n (pc := 0) dX1_spare_0 rfl ?_
  refine ew_iload_n (pc := 1) dX1_spare_1 rfl ?_
  refine ew_cV1 (d' := 8) (pc := 2) vX1_136 (rd_of C.o) dX1_spare_2 (by decide) (ew_rm (Nat.le_of_ble_eq_true rfl)) ?_
  refine t_soundWith1 C (fun hs f => ?_) (fun hs hi f => ?_) (fun hs hi f hf => ?_)
  · exact ew_Kx (ew_out (fun x hx => nomatch hx) (hq _ _ (CO.n (k := 1) (se2_n hs) (by decide) rfl (ne_1 _ _ _) (CQ.newB hg ho C f (by decide)))))
  · exact ew_Kx (ew_out (fun x hx => nomatch hx) (hq _ _ (CO.n (k := 2) (se2_i hs hi) (by decide) rfl (ne_1 _ _ _) (CQ.newB hg ho C f (by decide)))))
  have hx := hi.to (n := nE N) (by omega)
  have C2 := C.setB f
  refine ew_Kr ?_
  first | refine ew_astore_n (pc := 5) dX1_spare_5 rfl (by decide) (p1_3 rfl) ?_ | refine ew_astore_nq (pc := 5) dX1_spare_5 rfl (by decide) (p1_3 rfl) ?_ | refine ew_astore_nN (pc := 5) dX1_spare_5 rfl (by decide) (p1_3 rfl) ?_
  refine ew_iload_n (pc := 6) dX1_spare_6 rfl ?_
  refine ew_iconst (pc := 7) (v := 0) dX1_spare_7 rfl ?_
  refine ew_iconst (pc := 8) (v := 3) dX1_spare_8 rfl ?_
  refine ew_cS3 (d' := 0) (pc := 9) sX1_74 dX1_spare_9 (by decide) (ew_rm (Nat.le_of_ble_eq_true rfl)) ?_
  refine t_inC ?_
  refine ew_Kr ?_
  refine ew_if_eq (pc := 12) (tgt := 30) dX1_spare_12 (by decide) (fun c12 => ?_) (fun c12 => ?_)
  · refine ew_iconst (pc := 30) (v := 0) dX1_spare_30 rfl ?_
    first
    | exact s31 _ f _ hs hi hf (bI_T ⟨bI_n.mp c12, hi, bI_n.mp c23⟩) rfl
    | exact s31 _ f _ hs hi hf (bI_F (fun h9 => bI_0.mp c23 h9.2.2)) rfl
    | exact s31 _ f _ hs hi hf (bI_F (fun h9 => bI_0.mp c12 h9.1)) rfl
  · refine ew_aload_n (pc := 15) dX1_spare_15 rfl ?_
    refine ew_getf (pc := 16) fX1_84 (rd_of C2.o) rfl dX1_spare_16 ?_
    rw [hx.2]
    refine ew_iload_n (pc := 19) dX1_spare_19 rfl ?_
    refine ew_cV1 (d' := 0) (pc := 20) vX1_369 (rd_of C2.n.o) dX1_spare_20 (by decide) (ew_rm (Nat.le_of_ble_eq_true rfl)) ?_
    refine t_nFree C2.n hx.1 ?_
    rw [← hx.2]
    refine ew_Kr ?_
    refine ew_if_eq (pc := 23) (tgt := 30) dX1_spare_23 (by decide) (fun c23 => ?_) (fun c23 => ?_)
    · refine ew_iconst (pc := 30) (v := 0) dX1_spare_30 rfl ?_
      first
      | exact s31 _ f _ hs hi hf (bI_T ⟨bI_n.mp c12, hi, bI_n.mp c23⟩) rfl
      | exact s31 _ f _ hs hi hf (bI_F (fun h9 => bI_0.mp c23 h9.2.2)) rfl
      | exact s31 _ f _ hs hi hf (bI_F (fun h9 => bI_0.mp c12 h9.1)) rfl
    · refine ew_iconst (pc := 26) (v := 1) dX1_spare_26 rfl ?_
      refine ew_goto (pc := 27) (tgt := 31) dX1_spare_27 (by decide) ?_
      first
      | exact s31 _ f _ hs hi hf (bI_T ⟨bI_n.mp c12, hi, bI_n.mp c23⟩) rfl
      | exact s31 _ f _ hs hi hf (bI_F (fun h9 => bI_0.mp c23 h9.2.2)) rfl
      | exact s31 _ f _ hs hi hf (bI_F (fun h9 => bI_0.mp c12 h9.1)) rfl
end
