/-! EW: the component's sets of events, needed windows -/
set_option maxRecDepth 100000
/-- events without a latest time; of no slack; the end; below e -/
def loC (N : Nat → Int32) : Nat → Int32
  | 0 => 0
  | e + 1 => loC N e ||| (if cSq N 0 (-1) e = 100000000 then sh (nI e) else 0)
def crC (N : Nat → Int32) : Nat → Int32
  | 0 => 0
  | e + 1 => crC N e ||| (if sqSlack (nE N) (cSq N 0 (-1)) e = 0 then sh (nI e) else 0)
def enC (N : Nat → Int32) : Nat → Int32
  | 0 => 0
  | e + 1 => jmax (enC N e) (-cSq N 0 (-1) (nE N * e))
section
variable {g : eg} {h : eh} {a : Nat → Nat} {ws : List Nat} {N : Nat → Int32} {m pe ep : Int32} {fb ft : Nat → Int32} {ρ : ru} {Q : Outcome → eh → Prop}
theorem se1_1y (hs : cSo N 0 (-1)) : se1 1 (cSb N) 1 = 0 := by rw [se1, if_neg (fun h9 => h9.elim (fun h8 => absurd h8 (by decide)) (fun h8 => by rw [cSb_iff.mpr hs] at h8; cases h8)), if_neg (by decide)]
theorem c_loose (hg : gOC g) (C : CV g h a ws N m pe ep fb ft ρ) (hq : ∀ o h', CO SI (se1 1 (cSb N) 1) (.int (loC N (nE N))) (CQ g a ws N m pe ep h) o h' → Q o h') : ew_T g kX1_loose 8 [.ref (a 0)] h Q := by
  have hE := C.n.ok.e2
  have main : ∀ f, cSo N 0 (-1) → agN (nE N) f (cSq N 0 (-1)) → ∀ q e, e + q = nE N → ew_G g kX1_loose 8 9 [.ref (a 0), .ref (a 5), .int (loC N e), .int (nI e)] [] (eh_set h (a 6) (aI (nE N * nE N) f)) Q := by
    intro f hs hf q
    have C2 := C.setB f
    induction q with
    | zero =>
      intro e he
      have e9 : e = nE N := by omega
      rw [e9]
      refine ew_iload_n (pc := 9) dX1_loose_9 rfl ?_
      refine ew_aload_n (pc := 10) dX1_loose_10 rfl ?_
      refine ew_getf (pc := 11) fX1_84 (rd_of C2.o) rfl dX1_loose_11 ?_
      refine ew_cV0 (d' := 0) (pc := 14) vX1_13 (rd_of C2.n.o) dX1_loose_14 (by decide) (ew_rm (Nat.le_of_ble_eq_true rfl)) ?_
      refine t_nEvents C2.n ?_
      refine ew_Kr ?_
      refine ew_icmp_ge (pc := 17) (tgt := 44) dX1_loose_17 (by decide) (fun c17 => ?_) (fun c17 => absurd (nI_le (Nat.le_refl _) (by omega)) c17)
      refine ew_iload_n (pc := 44) dX1_loose_44 rfl ?_
      refine ew_iret (pc := 45) rfl dX1_loose_45 ?_
      exact hq _ _ (CO.y (se1_1y hs) (CQ.B C f))
    | succ q ih =>
      intro e he
      have h8 := ih (e + 1) (by omega)
      rw [loC] at h8
      refine ew_iload_n (pc := 9) dX1_loose_9 rfl ?_
      refine ew_aload_n (pc := 10) dX1_loose_10 rfl ?_
      refine ew_getf (pc := 11) fX1_84 (rd_of C2.o) rfl dX1_loose_11 ?_
      refine ew_cV0 (d' := 0) (pc := 14) vX1_13 (rd_of C2.n.o) dX1_loose_14 (by decide) (ew_rm (Nat.le_of_ble_eq_true rfl)) ?_
      refine t_nEvents C2.n ?_
      refine ew_Kr ?_
      refine ew_icmp_ge (pc := 17) (tgt := 44) dX1_loose_17 (by decide) (fun c17 => absurd c17 (nI_ge (by omega) (by omega))) (fun c17 => ?_)
      refine ew_iload_n (pc := 20) dX1_loose_20 rfl ?_
      refine ew_aload_n (pc := 21) dX1_loose_21 rfl ?_
      refine ew_iload_n (pc := 22) dX1_loose_22 rfl ?_
      refine ew_cV1 (d' := 2) (pc := 23) vX1_273 C2.b.1 dX1_loose_23 (by decide) (ew_rm (Nat.le_of_ble_eq_true rfl)) ?_
      refine t_hasLatest C2.b (by omega) (fun x hx => ?_)
      rw [hf.at0 (by omega)] at hx
      refine ew_Kr ?_
      refine ew_if_eq (pc := 26) (tgt := 33) dX1_loose_26 (by decide) (fun c26 => ?_) (fun c26 => ?_)
      · refine ew_iconst (pc := 33) (v := 1) dX1_loose_33 rfl ?_
        refine ew_iload_n (pc := 34) dX1_loose_34 rfl ?_
        refine ew_ishl (pc := 35) dX1_loose_35 ?_
        refine ew_ior (pc := 36) dX1_loose_36 ?_
        refine ew_istore_n (pc := 37) dX1_loose_37 rfl (by decide) (p1_2 rfl) ?_
        refine ew_iinc (pc := 38) dX1_loose_38 rfl (nI_inc e) (by decide) (p1_3 rfl) ?_
        refine ew_goto (pc := 41) (tgt := 9) dX1_loose_41 (by decide) ?_
        first
        | have e1 : cSq N 0 (-1) e = 100000000 := hx.elim (fun h9 => absurd c26 (by rw [h9.1]; decide)) (fun h9 => h9.2)
          rw [if_pos e1] at h8
          exact h8
        | have e1 : ¬ cSq N 0 (-1) e = 100000000 := hx.elim (fun h9 => h9.2) (fun h9 => absurd h9.1 c26)
          rw [if_neg e1] at h8
          exact h8
      · refine ew_iconst (pc := 29) (v := 0) dX1_loose_29 rfl ?_
        refine ew_goto (pc := 30) (tgt := 36) dX1_loose_30 (by decide) ?_
        refine ew_ior (pc := 36) dX1_loose_36 ?_
        refine ew_istore_n (pc := 37) dX1_loose_37 rfl (by decide) (p1_2 rfl) ?_
        refine ew_iinc (pc := 38) dX1_loose_38 rfl (nI_inc e) (by decide) (p1_3 rfl) ?_
        refine ew_goto (pc := 41) (tgt := 9) dX1_loose_41 (by decide) ?_
        first
        | have e1 : cSq N 0 (-1) e = 100000000 := hx.elim (fun h9 => absurd c26 (by rw [h9.1]; decide)) (fun h9 => h9.2)
          rw [if_pos e1] at h8
          exact h8
        | have e1 : ¬ cSq N 0 (-1) e = 100000000 := hx.elim (fun h9 => h9.2) (fun h9 => absurd h9.1 c26)
          rw [if_neg e1] at h8
          exact h8
  refine ew_enter (by decide +kernel) (ew_a1 rfl (ew_an (ew_an (ew_an ew_az)))) (Nat.le_of_ble_eq_true rfl) ?_
  refine ew_ok (fun ho => ?_)
  refine ew_aload_n (pc := 0) dX1_loose_0 rfl ?_
  refine ew_cV0 (d' := 7) (pc := 1) vX1_132 (rd_of C.o) dX1_loose_1 (by decide) (ew_rm (Nat.le_of_ble_eq_true rfl)) ?_
  refine t_sound C (fun hs f => ?_) (fun hs f hf => ?_)
  · exact ew_Kx (ew_out (fun x hx => nomatch hx) (hq _ _ (CO.n (k := 1) (se1_n hs) (by decide) rfl (ne_1 _ _ _) (CQ.newB hg ho C f (by decide)))))
  refine ew_Kr ?_
  first | refine ew_astore_n (pc := 4) dX1_loose_4 rfl (by decide) (p1_1 rfl) ?_ | refine ew_astore_nq (pc := 4) dX1_loose_4 rfl (by decide) (p1_1 rfl) ?_ | refine ew_astore_nN (pc := 4) dX1_loose_4 rfl (by decide) (p1_1 rfl) ?_
  refine ew_iconst (pc := 5) (v := 0) dX1_loose_5 rfl ?_
  refine ew_istore_n (pc := 6) dX1_loose_6 rfl (by decide) (p1_2 rfl) ?_
  refine ew_iconst (pc := 7) (v := 0) dX1_loose_7 rfl ?_
  refine ew_istore_n (pc := 8) dX1_loose_8 rfl (by decide) (p1_3 rfl) ?_
  exact main f hs hf (nE N) 0 (by omega)
theorem c_critical (hg : gOC g) (C : CV g h a ws N m pe ep fb ft ρ) (hq : ∀ o h', CO SI (se1 1 (cSb N) 1) (.int (crC N (nE N))) (CQ g a ws N m pe ep h) o h' → Q o h') : ew_T g kX1_critical 8 [.ref (a 0)] h Q := by
  have hE := C.n.ok.e2
  have main : ∀ f, cSo N 0 (-1) → agN (nE N) f (cSq N 0 (-1)) → ∀ q e, e + q = nE N → ew_G g kX1_critical 8 9 [.ref (a 0), .ref (a 5), .int (crC N e), .int (nI e)] [] (eh_set h (a 6) (aI (nE N * nE N) f)) Q := by
    intro f hs hf q
    have C2 := C.setB f
    induction q with
    | zero =>
      intro e he
      have e9 : e = nE N := by omega
      rw [e9]
      refine ew_iload_n (pc := 9) dX1_critical_9 rfl ?_
      refine ew_aload_n (pc := 10) dX1_critical_10 rfl ?_
      refine ew_getf (pc := 11) fX1_84 (rd_of C2.o) rfl dX1_critical_11 ?_
      refine ew_cV0 (d' := 0) (pc := 14) vX1_13 (rd_of C2.n.o) dX1_critical_14 (by decide) (ew_rm (Nat.le_of_ble_eq_true rfl)) ?_
      refine t_nEvents C2.n ?_
      refine ew_Kr ?_
      refine ew_icmp_ge (pc := 17) (tgt := 44) dX1_critical_17 (by decide) (fun c17 => ?_) (fun c17 => absurd (nI_le (Nat.le_refl _) (by omega)) c17)
      refine ew_iload_n (pc := 44) dX1_critical_44 rfl ?_
      refine ew_iret (pc := 45) rfl dX1_critical_45 ?_
      exact hq _ _ (CO.y (se1_1y hs) (CQ.B C f))
    | succ q ih =>
      intro e he
      have h8 := ih (e + 1) (by omega)
      rw [crC] at h8
      refine ew_iload_n (pc := 9) dX1_critical_9 rfl ?_
      refine ew_aload_n (pc := 10) dX1_critical_10 rfl ?_
      refine ew_getf (pc := 11) fX1_84 (rd_of C2.o) rfl dX1_critical_11 ?_
      refine ew_cV0 (d' := 0) (pc := 14) vX1_13 (rd_of C2.n.o) dX1_critical_14 (by decide) (ew_rm (Nat.le_of_ble_eq_true rfl)) ?_
      refine t_nEvents C2.n ?_
      refine ew_Kr ?_
      refine ew_icmp_ge (pc := 17) (tgt := 44) dX1_critical_17 (by decide) (fun c17 => absurd c17 (nI_ge (by omega) (by omega))) (fun c17 => ?_)
      refine ew_iload_n (pc := 20) dX1_critical_20 rfl ?_
      refine ew_aload_n (pc := 21) dX1_critical_21 rfl ?_
      refine ew_iload_n (pc := 22) dX1_critical_22 rfl ?_
      refine ew_cV1 (d' := 3) (pc := 23) vX1_237 C2.b.1 dX1_critical_23 (by decide) (ew_rm (Nat.le_of_ble_eq_true rfl)) ?_
      refine t_slackS C2.b (by omega) ?_
      rw [sqSlack_ag hf (by omega)]
      refine ew_Kr ?_
      refine ew_if_ne (pc := 26) (tgt := 35) dX1_critical_26 (by decide) (fun c26 => ?_) (fun c26 => ?_)
      · refine ew_iconst (pc := 35) (v := 0) dX1_critical_35 rfl ?_
        refine ew_ior (pc := 36) dX1_critical_36 ?_
        refine ew_istore_n (pc := 37) dX1_critical_37 rfl (by decide) (p1_2 rfl) ?_
        refine ew_iinc (pc := 38) dX1_critical_38 rfl (nI_inc e) (by decide) (p1_3 rfl) ?_
        refine ew_goto (pc := 41) (tgt := 9) dX1_critical_41 (by decide) ?_
        first
        | rw [if_neg c26] at h8
          exact h8
        | rw [if_pos c26] at h8
          exact h8
      · refine ew_iconst (pc := 29) (v := 1) dX1_critical_29 rfl ?_
        refine ew_iload_n (pc := 30) dX1_critical_30 rfl ?_
        refine ew_ishl (pc := 31) dX1_critical_31 ?_
        refine ew_goto (pc := 32) (tgt := 36) dX1_critical_32 (by decide) ?_
        refine ew_ior (pc := 36) dX1_critical_36 ?_
        refine ew_istore_n (pc := 37) dX1_critical_37 rfl (by decide) (p1_2 rfl) ?_
        refine ew_iinc (pc := 38) dX1_critical_38 rfl (nI_inc e) (by decide) (p1_3 rfl) ?_
        refine ew_goto (pc := 41) (tgt := 9) dX1_critical_41 (by decide) ?_
        first
        | rw [if_neg c26] at h8
          exact h8
        | rw [if_pos c26] at h8
          exact h8
  refine ew_enter (by decide +kernel) (ew_a1 rfl (ew_an (ew_an (ew_an ew_az)))) (Nat.le_of_ble_eq_true rfl) ?_
  refine ew_ok (fun ho => ?_)
  refine ew_aload_n (pc := 0) dX1_critical_0 rfl ?_
  refine ew_cV0 (d' := 7) (pc := 1) vX1_132 (rd_of C.o) dX1_critical_1 (by decide) (ew_rm (Nat.le_of_ble_eq_true rfl)) ?_
  refine t_sound C (fun hs f => ?_) (fun hs f hf => ?_)
  · exact ew_Kx (ew_out (fun x hx => nomatch hx) (hq _ _ (CO.n (k := 1) (se1_n hs) (by decide) rfl (ne_1 _ _ _) (CQ.newB hg ho C f (by decide)))))
  refine ew_Kr ?_
  first | refine ew_astore_n (pc := 4) dX1_critical_4 rfl (by decide) (p1_1 rfl) ?_ | refine ew_astore_nq (pc := 4) dX1_critical_4 rfl (by decide) (p1_1 rfl) ?_ | refine ew_astore_nN (pc := 4) dX1_critical_4 rfl (by decide) (p1_1 rfl) ?_
  refine ew_iconst (pc := 5) (v := 0) dX1_critical_5 rfl ?_
  refine ew_istore_n (pc := 6) dX1_critical_6 rfl (by decide) (p1_2 rfl) ?_
  refine ew_iconst (pc := 7) (v := 0) dX1_critical_7 rfl ?_
  refine ew_istore_n (pc := 8) dX1_critical_8 rfl (by decide) (p1_3 rfl) ?_
  exact main f hs hf (nE N) 0 (by omega)
theorem c_end (hg : gOC g) (C : CV g h a ws N m pe ep fb ft ρ) (hq : ∀ o h', CO SI (se1 1 (cSb N) 1) (.int (enC N (nE N))) (CQ g a ws N m pe ep h) o h' → Q o h') : ew_T g kX1_end 8 [.ref (a 0)] h Q := by
  have hE := C.n.ok.e2
  have main : ∀ f, cSo N 0 (-1) → agN (nE N) f (cSq N 0 (-1)) → ∀ q e, e + q = nE N → ew_G g kX1_end 8 9 [.ref (a 0), .ref (a 5), .int (enC N e), .int (nI e)] [] (eh_set h (a 6) (aI (nE N * nE N) f)) Q := by
    intro f hs hf q
    have C2 := C.setB f
    induction q with
    | zero =>
      intro e he
      have e9 : e = nE N := by omega
      rw [e9]
      refine ew_iload_n (pc := 9) dX1_end_9 rfl ?_
      refine ew_aload_n (pc := 10) dX1_end_10 rfl ?_
      refine ew_getf (pc := 11) fX1_84 (rd_of C2.o) rfl dX1_end_11 ?_
      refine ew_cV0 (d' := 0) (pc := 14) vX1_13 (rd_of C2.n.o) dX1_end_14 (by decide) (ew_rm (Nat.le_of_ble_eq_true rfl)) ?_
      refine t_nEvents C2.n ?_
      refine ew_Kr ?_
      refine ew_icmp_ge (pc := 17) (tgt := 36) dX1_end_17 (by decide) (fun c17 => ?_) (fun c17 => absurd (nI_le (Nat.le_refl _) (by omega)) c17)
      refine ew_iload_n (pc := 36) dX1_end_36 rfl ?_
      refine ew_iret (pc := 37) rfl dX1_end_37 ?_
      exact hq _ _ (CO.y (se1_1y hs) (CQ.B C f))
    | succ q ih =>
      intro e he
      have h8 := ih (e + 1) (by omega)
      rw [enC] at h8
      refine ew_iload_n (pc := 9) dX1_end_9 rfl ?_
      refine ew_aload_n (pc := 10) dX1_end_10 rfl ?_
      refine ew_getf (pc := 11) fX1_84 (rd_of C2.o) rfl dX1_end_11 ?_
      refine ew_cV0 (d' := 0) (pc := 14) vX1_13 (rd_of C2.n.o) dX1_end_14 (by decide) (ew_rm (Nat.le_of_ble_eq_true rfl)) ?_
      refine t_nEvents C2.n ?_
      refine ew_Kr ?_
      refine ew_icmp_ge (pc := 17) (tgt := 36) dX1_end_17 (by decide) (fun c17 => absurd c17 (nI_ge (by omega) (by omega))) (fun c17 => ?_)
      refine ew_iload_n (pc := 20) dX1_end_20 rfl ?_
      refine ew_aload_n (pc := 21) dX1_end_21 rfl ?_
      refine ew_iload_n (pc := 22) dX1_end_22 rfl ?_
      refine ew_cV1 (d' := 1) (pc := 23) vX1_228 C2.b.1 dX1_end_23 (by decide) (ew_rm (Nat.le_of_ble_eq_true rfl)) ?_
      refine t_earliestS C2.b (by omega) ?_
      rw [hf.atZ (by omega)]
      refine ew_Kr ?_
      refine ew_mmax (pc := 26) (ew_q q1994) (ew_q q578) (ew_q q141) (ew_q q579) (ew_rm (Nat.le_of_ble_eq_true rfl)) dX1_end_26 ?_
      refine ew_istore_n (pc := 29) dX1_end_29 rfl (by decide) (p1_2 rfl) ?_
      refine ew_iinc (pc := 30) dX1_end_30 rfl (nI_inc e) (by decide) (p1_3 rfl) ?_
      refine ew_goto (pc := 33) (tgt := 9) dX1_end_33 (by decide) ?_
      exact h8
  refine ew_enter (by decide +kernel) (ew_a1 rfl (ew_an (ew_an (ew_an ew_az)))) (Nat.le_of_ble_eq_true rfl) ?_
  refine ew_ok (fun ho => ?_)
  refine ew_aload_n (pc := 0) dX1_end_0 rfl ?_
  refine ew_cV0 (d' := 7) (pc := 1) vX1_132 (rd_of C.o) dX1_end_1 (by decide) (ew_rm (Nat.le_of_ble_eq_true rfl)) ?_
  refine t_sound C (fun hs f => ?_) (fun hs f hf => ?_)
  · exact ew_Kx (ew_out (fun x hx => nomatch hx) (hq _ _ (CO.n (k := 1) (se1_n hs) (by decide) rfl (ne_1 _ _ _) (CQ.newB hg ho C f (by decide)))))
  refine ew_Kr ?_
  first | refine ew_astore_n (pc := 4) dX1_end_4 rfl (by decide) (p1_1 rfl) ?_ | refine ew_astore_nq (pc := 4) dX1_end_4 rfl (by decide) (p1_1 rfl) ?_ | refine ew_astore_nN (pc := 4) dX1_end_4 rfl (by decide) (p1_1 rfl) ?_
  refine ew_iconst (pc := 5) (v := 0) dX1_end_5 rfl ?_
  refine ew_istore_n (pc := 6) dX1_end_6 rfl (by decide) (p1_2 rfl) ?_
  refine ew_iconst (pc := 7) (v := 0) dX1_end_7 rfl ?_
  refine ew_istore_n (pc := 8) dX1_end_8 rfl (by decide) (p1_3 rfl) ?_
  exact main f hs hf (nE N) 0 (by omega)
/-- whether a square is another one without window w -/
def lkB (n : Nat) (f f' : Nat → Int32) : Bool := (List.range (n * n)).all (fun k => decide (f k = f' k))
theorem lkB_iff {n : Nat} {f f' : Nat → Int32} : lkB n f f' = true ↔ agN n f f' := by
  rw [lkB, List.all_eq_true]
  constructor
  · intro h k hk
    exact of_decide_eq_true (h k (List.mem_range.mpr hk))
  · intro h k hk
    exact decide_eq_true (h k (List.mem_range.mp hk))
/-- window w is needed -/
def needB (N : Nat → Int32) (w : Nat) : Bool := decide (N (2 + 6 * w + 5) = 0) && !(lkB (nE N) (cSq N (sh (nI w)) (-1)) (cSq N 0 (-1)))
abbrev needC (N : Nat → Int32) (w : Nat) : Prop := needB N w = true
theorem needC_iff {w : Nat} : needC N w ↔ N (2 + 6 * w + 5) = 0 ∧ ¬ lkB (nE N) (cSq N (sh (nI w)) (-1)) (cSq N 0 (-1)) = true := by
  rw [needC, needB, Bool.and_eq_true, decide_eq_true_iff, Bool.not_eq_true', Bool.not_eq_true]
theorem t_isNeededNow1 {w : Nat} (C : CV g h a ws N m pe ep fb ft ρ) (hf : agN (nE N) fb (cSq N 0 (-1))) (hw : w < nW N)
    (hq : ∀ h' f2, CV g h' a ws N m pe ep fb f2 ρ → Ke [a 8] 0 0 h h' → Q (.returned (some (.int (bI (needC N w))))) h') : ew_T g kX1_isNeededNow 4 [.ref (a 0), .int (nI w)] h Q := by
  obtain ⟨mc, cap, fl, hL, -⟩ := C.n.l
  obtain ⟨x, hx, hxw⟩ := C.n.at hw
  have C2 := C.setT (lyF N (sh (nI w)) (-1) ft)
  refine ew_enter (by decide +kernel) (ew_a1 rfl (ew_a1 rfl ew_az)) (Nat.le_of_ble_eq_true rfl) ?_
  refine ew_aload_n (pc := 0) dX1_isNeededNow_0 rfl ?_
  refine ew_getf (pc := 1) fX1_84 (rd_of C.o) rfl dX1_isNeededNow_1 ?_
  refine ew_getf (pc := 4) fX1_117 (rd_of C.n.o) rfl dX1_isNeededNow_4 ?_
  refine ew_iload_n (pc := 7) dX1_isNeededNow_7 rfl ?_
  refine ew_cF1 (d' := 2) (pc := 8) tX1_126_19 (rd_of hL) dX1_isNeededNow_8 (by decide) (ew_rm (Nat.le_of_ble_eq_true rfl)) ?_
  refine t_alGet C.n.l hx ?_
  refine ew_Kr ?_
  refine ew_cast (pc := 13) rfl (rd_of hxw) (ew_q q1622) (Or.inl rfl) dX1_isNeededNow_13 ?_
  refine ew_getf (pc := 16) fX1_261 (rd_of hxw) rfl dX1_isNeededNow_16 ?_
  refine ew_if_ne (pc := 19) (tgt := 51) dX1_isNeededNow_19 (by decide) (fun c19 => ?_) (fun c19 => ?_)
  · refine ew_iconst (pc := 51) (v := 0) dX1_isNeededNow_51 rfl ?_
    refine ew_zret (pc := 52) (ty := .boolean) rfl rfl dX1_isNeededNow_52 ?_
    first
    | have h9 := hq _ _ C ((Ke.r [a 8] h))
      rw [bI_f (show ¬ needC N w from fun h9 => c19 (needC_iff.mp h9).1)] at h9
      exact h9
    | have h9 := hq _ _ C2 Ke.set
      rw [bI_f (show ¬ needC N w from fun h9 => c44 (hy.elim (fun h8 => absurd h8.2 (needC_iff.mp h9).2) (fun h8 => h8.1)))] at h9
      exact h9
    | have h9 := hq _ _ C2 Ke.set
      rw [bI_t (show needC N w from needC_iff.mpr ⟨c19, hy.elim (fun h8 => absurd c44 (by rw [h8.1]; decide)) (fun h8 => h8.2)⟩)] at h9
      exact h9
  · refine ew_aload_n (pc := 22) dX1_isNeededNow_22 rfl ?_
    refine ew_getf (pc := 23) fX1_84 (rd_of C.o) rfl dX1_isNeededNow_23 ?_
    refine ew_aload_n (pc := 26) dX1_isNeededNow_26 rfl ?_
    refine ew_getf (pc := 27) fX1_163 (rd_of C.o) rfl dX1_isNeededNow_27 ?_
    refine ew_iconst (pc := 30) (v := 1) dX1_isNeededNow_30 rfl ?_
    refine ew_iload_n (pc := 31) dX1_isNeededNow_31 rfl ?_
    refine ew_ishl (pc := 32) dX1_isNeededNow_32 ?_
    refine ew_iconst (pc := 33) (v := -1) dX1_isNeededNow_33 rfl ?_
    refine ew_cV3 (d' := 3) (pc := 34) vX1_96 (rd_of C.n.o) dX1_isNeededNow_34 (by decide) (ew_rm (Nat.le_of_ble_eq_true rfl)) ?_
    refine t_nLay C.n C.t C.ne.2.1.2.2.2 ?_
    refine ew_Kr ?_
    refine ew_aload_n (pc := 37) dX1_isNeededNow_37 rfl ?_
    refine ew_getf (pc := 38) fX1_92 (rd_of C2.o) rfl dX1_isNeededNow_38 ?_
    refine ew_cV1 (d' := 0) (pc := 41) vX1_265 C2.t.1 dX1_isNeededNow_41 (by decide) (ew_rm (Nat.le_of_ble_eq_true rfl)) ?_
    refine t_isLike C2.t C2.b (fun y hy => ?_)
    have key : (∀ k, k < nE N * nE N → lyF N (sh (nI w)) (-1) ft k = fb k) ↔ lkB (nE N) (cSq N (sh (nI w)) (-1)) (cSq N 0 (-1)) = true := by
      rw [lkB_iff]
      have e1 := lyF_cSq C.n.ok (sh (nI w)) (-1) ft
      exact ⟨fun h9 k hk => (e1 k hk).symm.trans ((h9 k hk).trans (hf k hk)), fun h9 k hk => (e1 k hk).trans ((h9 k hk).trans (hf k hk).symm)⟩
    rw [key] at hy
    refine ew_Kr ?_
    refine ew_if_ne (pc := 44) (tgt := 51) dX1_isNeededNow_44 (by decide) (fun c44 => ?_) (fun c44 => ?_)
    · refine ew_iconst (pc := 51) (v := 0) dX1_isNeededNow_51 rfl ?_
      refine ew_zret (pc := 52) (ty := .boolean) rfl rfl dX1_isNeededNow_52 ?_
      first
      | have h9 := hq _ _ C ((Ke.r [a 8] h))
        rw [bI_f (show ¬ needC N w from fun h9 => c19 (needC_iff.mp h9).1)] at h9
        exact h9
      | have h9 := hq _ _ C2 Ke.set
        rw [bI_f (show ¬ needC N w from fun h9 => c44 (hy.elim (fun h8 => absurd h8.2 (needC_iff.mp h9).2) (fun h8 => h8.1)))] at h9
        exact h9
      | have h9 := hq _ _ C2 Ke.set
        rw [bI_t (show needC N w from needC_iff.mpr ⟨c19, hy.elim (fun h8 => absurd c44 (by rw [h8.1]; decide)) (fun h8 => h8.2)⟩)] at h9
        exact h9
    · refine ew_iconst (pc := 47) (v := 1) dX1_isNeededNow_47 rfl ?_
      refine ew_goto (pc := 48) (tgt := 52) dX1_isNeededNow_48 (by decide) ?_
      refine ew_zret (pc := 52) (ty := .boolean) rfl rfl dX1_isNeededNow_52 ?_
      first
      | have h9 := hq _ _ C ((Ke.r [a 8] h))
        rw [bI_f (show ¬ needC N w from fun h9 => c19 (needC_iff.mp h9).1)] at h9
        exact h9
      | have h9 := hq _ _ C2 Ke.set
        rw [bI_f (show ¬ needC N w from fun h9 => c44 (hy.elim (fun h8 => absurd h8.2 (needC_iff.mp h9).2) (fun h8 => h8.1)))] at h9
        exact h9
      | have h9 := hq _ _ C2 Ke.set
        rw [bI_t (show needC N w from needC_iff.mpr ⟨c19, hy.elim (fun h8 => absurd c44 (by rw [h8.1]; decide)) (fun h8 => h8.2)⟩)] at h9
        exact h9
theorem c_isNeeded {w : Int32} (hg : gOC g) (C : CV g h a ws N m pe ep fb ft ρ) (hq : ∀ o h', CO SI (se1 1 (cSb N) (bI (isIx (nW N) w))) (.int (bI (needC N (ix w)))) (CQ g a ws N m pe ep h) o h' → Q o h') : ew_T g kX1_isNeeded 9 [.ref (a 0), .int w] h Q := by
  have hW := C.n.ok.w2
  refine ew_enter (by decide +kernel) (ew_a1 rfl (ew_a1 rfl (ew_an ew_az))) (Nat.le_of_ble_eq_true rfl) ?_
  refine ew_ok (fun ho => ?_)
  refine ew_aload_n (pc := 0) dX1_isNeeded_0 rfl ?_
  refine ew_iload_n (pc := 1) dX1_isNeeded_1 rfl ?_
  refine ew_cV1 (d' := 8) (pc := 2) vX1_243 (rd_of C.o) dX1_isNeeded_2 (by decide) (ew_rm (Nat.le_of_ble_eq_true rfl)) ?_
  refine t_soundWindow C (fun hs f => ?_) (fun hs hi f => ?_) (fun hs hi f hf x hx hxw => ?_)
  · exact ew_Kx (ew_out (fun x hx => nomatch hx) (hq _ _ (CO.n (k := 1) (se1_n hs) (by decide) rfl (ne_1 _ _ _) (CQ.newB hg ho C f (by decide)))))
  · exact ew_Kx (ew_out (fun x hx => nomatch hx) (hq _ _ (CO.n (k := 2) (se1_i hs hi) (by decide) rfl (ne_1 _ _ _) (CQ.newB hg ho C f (by decide)))))
  have hw := hi.to hW
  have C2 := C.setB f
  refine ew_Kr ?_
  first | refine ew_astore_n (pc := 5) dX1_isNeeded_5 rfl (by decide) (p1_2 rfl) ?_ | refine ew_astore_nq (pc := 5) dX1_isNeeded_5 rfl (by decide) (p1_2 rfl) ?_ | refine ew_astore_nN (pc := 5) dX1_isNeeded_5 rfl (by decide) (p1_2 rfl) ?_
  refine ew_aload_n (pc := 6) dX1_isNeeded_6 rfl ?_
  refine ew_iload_n (pc := 7) dX1_isNeeded_7 rfl ?_
  rw [hw.2]
  refine ew_cV1 (d' := 4) (pc := 8) vX1_269 (rd_of C2.o) dX1_isNeeded_8 (by decide) (ew_rm (Nat.le_of_ble_eq_true rfl)) ?_
  refine t_isNeededNow1 C2 hf hw.1 (fun h2 f2 C3 k => ?_)
  rw [← hw.2]
  refine ew_Kr ?_
  refine ew_zret (pc := 11) (ty := .boolean) rfl bI_nar dX1_isNeeded_11 ?_
  refine hq _ _ (CO.y (se1_y hs hi) ⟨_, _, _, C3, keB.t k (fun b h9 _ => h9) (fun b h9 _ => ?_) (by decide) (by decide)⟩)
  rw [List.mem_singleton.mp h9]
  exact List.mem_cons_of_mem _ List.mem_cons_self
end
