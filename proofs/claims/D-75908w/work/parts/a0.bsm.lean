/-! EW: answers on the best mend -/
set_option maxRecDepth 100000
def oM (k : mnd → Int32) : Option mnd → Int32
  | none => -1
  | some x => k x
section
variable {g : eg} {h : eh} {a : Nat → Nat} {ws : List Nat} {N : Nat → Int32} {m pe ep : Int32} {fb ft : Nat → Int32} {ρ : ru} {Q : Outcome → eh → Prop}
theorem c_bestMend (hg : gOC g) (hM : gOM g) (hD : gDE g) (C : CV g h a ws N m pe ep fb ft ρ) (hq : ∀ o h', CO SI 0 (.int (oM (fun x => x.1) (beC N))) (CQ g a ws N m pe ep h) o h' → Q o h') : ew_T g kX1_bestMend 20 [.ref (a 0)] h Q := by
  have s10 : ∀ h2 r, CQ g a ws N m pe ep h h2 → beR g h2 r (beC N) → ew_G g kX1_bestMend 20 10 [.ref (a 0), r] [] h2 Q := by
    intro h2 r hQ hr
    cases hb : beC N with
    | none =>
      rw [hb] at hr hq
      have e9 : r = .null := hr
      subst e9
      first | refine ew_aload_n (pc := 10) dX1_bestMend_10 rfl ?_ | refine ew_aload_nq (pc := 10) dX1_bestMend_10 rfl ?_ | refine ew_aload_nN (pc := 10) dX1_bestMend_10 rfl ?_
      refine ew_ifnonnullN (pc := 11) dX1_bestMend_11 ?_
      refine ew_iconst (pc := 14) (v := -1) dX1_bestMend_14 rfl ?_
      refine ew_goto (pc := 15) (tgt := 22) dX1_bestMend_15 (by decide) ?_
      refine ew_iret (pc := 22) rfl dX1_bestMend_22 ?_
      exact hq _ _ (CO.y rfl hQ)
    | some v =>
      rw [hb] at hr hq
      obtain ⟨y, e9, hy⟩ := hr
      subst e9
      refine ew_aload_n (pc := 10) dX1_bestMend_10 rfl ?_
      refine ew_ifnonnull (pc := 11) (tgt := 18) dX1_bestMend_11 (by decide) ?_
      refine ew_aload_n (pc := 18) dX1_bestMend_18 rfl ?_
      refine ew_getf (pc := 19) fX1_324 hy rfl dX1_bestMend_19 ?_
      refine ew_iret (pc := 22) rfl dX1_bestMend_22 ?_
      exact hq _ _ (CO.y rfl hQ)
  refine ew_enter (by decide +kernel) (ew_a1 rfl (ew_an ew_az)) (Nat.le_of_ble_eq_true rfl) ?_
  refine ew_aload_n (pc := 0) dX1_bestMend_0 rfl ?_
  refine ew_cV0 (d' := 6) (pc := 1) vX1_106 (rd_of C.o) dX1_bestMend_1 (by decide) (ew_rm (Nat.le_of_ble_eq_true rfl)) ?_
  refine t_there C ?_
  refine ew_Kr ?_
  refine ew_pop (pc := 4) dX1_bestMend_4 rfl ?_
  refine ew_aload_n (pc := 5) dX1_bestMend_5 rfl ?_
  refine ew_cV0 (d' := 19) (pc := 6) vX1_320 (rd_of C.o) dX1_bestMend_6 (by decide) (ew_rm (Nat.le_of_ble_eq_true rfl)) ?_
  refine t_best hg hM hD C (fun h2 r hQ hr => ?_)
  refine ew_Kr ?_
  have h8 := s10 h2 r hQ hr
  cases hb : beC N with
  | none =>
    rw [hb] at hr
    have e9 : r = .null := hr
    subst e9
    refine ew_astore_nN (pc := 9) dX1_bestMend_9 rfl (by decide) (p1_1 rfl) ?_
    exact h8
  | some v =>
    rw [hb] at hr
    obtain ⟨y, e9, hy⟩ := hr
    subst e9
    refine ew_astore_n (pc := 9) dX1_bestMend_9 rfl (by decide) (p1_1 rfl) ?_
    exact h8
  skip
theorem c_mendCost (hg : gOC g) (hM : gOM g) (hD : gDE g) (C : CV g h a ws N m pe ep fb ft ρ) (hq : ∀ o h', CO SI 0 (.int (oM (fun x => x.2.2) (beC N))) (CQ g a ws N m pe ep h) o h' → Q o h') : ew_T g kX1_mendCost 20 [.ref (a 0)] h Q := by
  have s10 : ∀ h2 r, CQ g a ws N m pe ep h h2 → beR g h2 r (beC N) → ew_G g kX1_mendCost 20 10 [.ref (a 0), r] [] h2 Q := by
    intro h2 r hQ hr
    cases hb : beC N with
    | none =>
      rw [hb] at hr hq
      have e9 : r = .null := hr
      subst e9
      first | refine ew_aload_n (pc := 10) dX1_mendCost_10 rfl ?_ | refine ew_aload_nq (pc := 10) dX1_mendCost_10 rfl ?_ | refine ew_aload_nN (pc := 10) dX1_mendCost_10 rfl ?_
      refine ew_ifnonnullN (pc := 11) dX1_mendCost_11 ?_
      refine ew_iconst (pc := 14) (v := -1) dX1_mendCost_14 rfl ?_
      refine ew_goto (pc := 15) (tgt := 22) dX1_mendCost_15 (by decide) ?_
      refine ew_iret (pc := 22) rfl dX1_mendCost_22 ?_
      exact hq _ _ (CO.y rfl hQ)
    | some v =>
      rw [hb] at hr hq
      obtain ⟨y, e9, hy⟩ := hr
      subst e9
      refine ew_aload_n (pc := 10) dX1_mendCost_10 rfl ?_
      refine ew_ifnonnull (pc := 11) (tgt := 18) dX1_mendCost_11 (by decide) ?_
      refine ew_aload_n (pc := 18) dX1_mendCost_18 rfl ?_
      refine ew_getf (pc := 19) fX1_325 hy rfl dX1_mendCost_19 ?_
      refine ew_iret (pc := 22) rfl dX1_mendCost_22 ?_
      exact hq _ _ (CO.y rfl hQ)
  refine ew_enter (by decide +kernel) (ew_a1 rfl (ew_an ew_az)) (Nat.le_of_ble_eq_true rfl) ?_
  refine ew_aload_n (pc := 0) dX1_mendCost_0 rfl ?_
  refine ew_cV0 (d' := 6) (pc := 1) vX1_106 (rd_of C.o) dX1_mendCost_1 (by decide) (ew_rm (Nat.le_of_ble_eq_true rfl)) ?_
  refine t_there C ?_
  refine ew_Kr ?_
  refine ew_pop (pc := 4) dX1_mendCost_4 rfl ?_
  refine ew_aload_n (pc := 5) dX1_mendCost_5 rfl ?_
  refine ew_cV0 (d' := 19) (pc := 6) vX1_320 (rd_of C.o) dX1_mendCost_6 (by decide) (ew_rm (Nat.le_of_ble_eq_true rfl)) ?_
  refine t_best hg hM hD C (fun h2 r hQ hr => ?_)
  refine ew_Kr ?_
  have h8 := s10 h2 r hQ hr
  cases hb : beC N with
  | none =>
    rw [hb] at hr
    have e9 : r = .null := hr
    subst e9
    refine ew_astore_nN (pc := 9) dX1_mendCost_9 rfl (by decide) (p1_1 rfl) ?_
    exact h8
  | some v =>
    rw [hb] at hr
    obtain ⟨y, e9, hy⟩ := hr
    subst e9
    refine ew_astore_n (pc := 9) dX1_mendCost_9 rfl (by decide) (p1_1 rfl) ?_
    exact h8
  skip
end
