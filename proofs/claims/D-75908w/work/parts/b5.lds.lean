/-! EW: the component's answers on sets to drop -/
set_option maxRecDepth 100000
/-- a number of what may be nothing -/
def oL (k : drp → Int32) : Option drp → Int32
  | none => -1
  | some x => k x
section
variable {g : eg} {h : eh} {a : Nat → Nat} {ws : List Nat} {N : Nat → Int32} {m pe ep : Int32} {fb ft : Nat → Int32} {ρ : ru} {Q : Outcome → eh → Prop}
theorem c_leastDrop (hg : gOC g) (hM : gOM g) (hS : sfn N (nW N) ≤ 10) (C : CV g h a ws N m pe ep fb ft ρ) (hq : ∀ o h' v, isLd N v → CO SI 0 (.int (oL (fun x => x.1) v)) (CQ g a ws N m pe ep h) o h' → Q o h') : ew_T g kX1_leastDrop 19 [.ref (a 0)] h Q := by
  have s10 : ∀ h2 r v, CQ g a ws N m pe ep h h2 → isLd N v → ldR g h2 r v → ew_G g kX1_leastDrop 19 10 [.ref (a 0), r] [] h2 Q := by
    intro h2 r v hQ hL hr
    cases v with
    | none =>
      have e9 : r = .null := hr
      subst e9
      first | refine ew_aload_n (pc := 10) dX1_leastDrop_10 rfl ?_ | refine ew_aload_nq (pc := 10) dX1_leastDrop_10 rfl ?_ | refine ew_aload_nN (pc := 10) dX1_leastDrop_10 rfl ?_
      refine ew_ifnonnullN (pc := 11) dX1_leastDrop_11 ?_
      refine ew_iconst (pc := 14) (v := -1) dX1_leastDrop_14 rfl ?_
      refine ew_goto (pc := 15) (tgt := 22) dX1_leastDrop_15 (by decide) ?_
      refine ew_iret (pc := 22) rfl dX1_leastDrop_22 ?_
      exact hq _ _ none hL (CO.y rfl hQ)
    | some v =>
      obtain ⟨y, e9, hy⟩ := hr
      subst e9
      refine ew_aload_n (pc := 10) dX1_leastDrop_10 rfl ?_
      refine ew_ifnonnull (pc := 11) (tgt := 18) dX1_leastDrop_11 (by decide) ?_
      refine ew_aload_n (pc := 18) dX1_leastDrop_18 rfl ?_
      refine ew_getf (pc := 19) fX1_341 hy rfl dX1_leastDrop_19 ?_
      refine ew_iret (pc := 22) rfl dX1_leastDrop_22 ?_
      exact hq _ _ (some v) hL (CO.y rfl hQ)
  refine ew_enter (by decide +kernel) (ew_a1 rfl (ew_an ew_az)) (Nat.le_of_ble_eq_true rfl) ?_
  refine ew_aload_n (pc := 0) dX1_leastDrop_0 rfl ?_
  refine ew_cV0 (d' := 6) (pc := 1) vX1_106 (rd_of C.o) dX1_leastDrop_1 (by decide) (ew_rm (Nat.le_of_ble_eq_true rfl)) ?_
  refine t_there C ?_
  refine ew_Kr ?_
  refine ew_pop (pc := 4) dX1_leastDrop_4 rfl ?_
  refine ew_aload_n (pc := 5) dX1_leastDrop_5 rfl ?_
  refine ew_cV0 (d' := 18) (pc := 6) vX1_350 (rd_of C.o) dX1_leastDrop_6 (by decide) (ew_rm (Nat.le_of_ble_eq_true rfl)) ?_
  refine t_cheapest hg hM hS C (fun h2 r v hQ hL hr => ?_)
  refine ew_Kr ?_
  have h8 := s10 h2 r v hQ hL hr
  cases v with
  | none =>
    have e9 : r = .null := hr
    subst e9
    refine ew_astore_nN (pc := 9) dX1_leastDrop_9 rfl (by decide) (p1_1 rfl) ?_
    exact h8
  | some v =>
    obtain ⟨y, e9, hy⟩ := hr
    subst e9
    refine ew_astore_n (pc := 9) dX1_leastDrop_9 rfl (by decide) (p1_1 rfl) ?_
    exact h8
  skip
theorem c_dropCost (hg : gOC g) (hM : gOM g) (hS : sfn N (nW N) ≤ 10) (C : CV g h a ws N m pe ep fb ft ρ) (hq : ∀ o h' v, isLd N v → CO SI 0 (.int (oL (fun x => x.2.1) v)) (CQ g a ws N m pe ep h) o h' → Q o h') : ew_T g kX1_dropCost 19 [.ref (a 0)] h Q := by
  have s10 : ∀ h2 r v, CQ g a ws N m pe ep h h2 → isLd N v → ldR g h2 r v → ew_G g kX1_dropCost 19 10 [.ref (a 0), r] [] h2 Q := by
    intro h2 r v hQ hL hr
    cases v with
    | none =>
      have e9 : r = .null := hr
      subst e9
      first | refine ew_aload_n (pc := 10) dX1_dropCost_10 rfl ?_ | refine ew_aload_nq (pc := 10) dX1_dropCost_10 rfl ?_ | refine ew_aload_nN (pc := 10) dX1_dropCost_10 rfl ?_
      refine ew_ifnonnullN (pc := 11) dX1_dropCost_11 ?_
      refine ew_iconst (pc := 14) (v := -1) dX1_dropCost_14 rfl ?_
      refine ew_goto (pc := 15) (tgt := 22) dX1_dropCost_15 (by decide) ?_
      refine ew_iret (pc := 22) rfl dX1_dropCost_22 ?_
      exact hq _ _ none hL (CO.y rfl hQ)
    | some v =>
      obtain ⟨y, e9, hy⟩ := hr
      subst e9
      refine ew_aload_n (pc := 10) dX1_dropCost_10 rfl ?_
      refine ew_ifnonnull (pc := 11) (tgt := 18) dX1_dropCost_11 (by decide) ?_
      refine ew_aload_n (pc := 18) dX1_dropCost_18 rfl ?_
      refine ew_getf (pc := 19) fX1_354 hy rfl dX1_dropCost_19 ?_
      refine ew_iret (pc := 22) rfl dX1_dropCost_22 ?_
      exact hq _ _ (some v) hL (CO.y rfl hQ)
  refine ew_enter (by decide +kernel) (ew_a1 rfl (ew_an ew_az)) (Nat.le_of_ble_eq_true rfl) ?_
  refine ew_aload_n (pc := 0) dX1_dropCost_0 rfl ?_
  refine ew_cV0 (d' := 6) (pc := 1) vX1_106 (rd_of C.o) dX1_dropCost_1 (by decide) (ew_rm (Nat.le_of_ble_eq_true rfl)) ?_
  refine t_there C ?_
  refine ew_Kr ?_
  refine ew_pop (pc := 4) dX1_dropCost_4 rfl ?_
  refine ew_aload_n (pc := 5) dX1_dropCost_5 rfl ?_
  refine ew_cV0 (d' := 18) (pc := 6) vX1_350 (rd_of C.o) dX1_dropCost_6 (by decide) (ew_rm (Nat.le_of_ble_eq_true rfl)) ?_
  refine t_cheapest hg hM hS C (fun h2 r v hQ hL hr => ?_)
  refine ew_Kr ?_
  have h8 := s10 h2 r v hQ hL hr
  cases v with
  | none =>
    have e9 : r = .null := hr
    subst e9
    refine ew_astore_nN (pc := 9) dX1_dropCost_9 rfl (by decide) (p1_1 rfl) ?_
    exact h8
  | some v =>
    obtain ⟨y, e9, hy⟩ := hr
    subst e9
    refine ew_astore_n (pc := 9) dX1_dropCost_9 rfl (by decide) (p1_1 rfl) ?_
    exact h8
  skip
end
