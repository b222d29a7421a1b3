/-! EW: the component's exceptions -/
set_option maxRecDepth 100000
abbrev xcN : List String := ["java/lang/RuntimeException", "java/lang/Exception"]
theorem xat_X1_83 : ∀ w ∈ vx_at0 RX1 83 "java/lang/IllegalStateException" xcN, ew_w w := fun w hw => ⟨(by decide +kernel : ∀ w ∈ vx_at0 RX1 83 "java/lang/IllegalStateException" xcN, w ∈ lw_tbl) w hw, (by decide +kernel : ∀ w ∈ vx_at0 RX1 83 "java/lang/IllegalStateException" xcN, ew_kind w = true) w hw⟩
theorem xat_X1_73 : ∀ w ∈ vx_at0 RX1 73 "java/lang/IllegalArgumentException" xcN, ew_w w := fun w hw => ⟨(by decide +kernel : ∀ w ∈ vx_at0 RX1 73 "java/lang/IllegalArgumentException" xcN, w ∈ lw_tbl) w hw, (by decide +kernel : ∀ w ∈ vx_at0 RX1 73 "java/lang/IllegalArgumentException" xcN, ew_kind w = true) w hw⟩
theorem xat_X1_80 : ∀ w ∈ vx_at0 RX1 80 "java/lang/IndexOutOfBoundsException" xcN, ew_w w := fun w hw => ⟨(by decide +kernel : ∀ w ∈ vx_at0 RX1 80 "java/lang/IndexOutOfBoundsException" xcN, w ∈ lw_tbl) w hw, (by decide +kernel : ∀ w ∈ vx_at0 RX1 80 "java/lang/IndexOutOfBoundsException" xcN, ew_kind w = true) w hw⟩
theorem t_chkS {g : eg} {h : eh} {x : Int32} {Q : Outcome → eh → Prop} (h0 : x = 0 → Q (.threw h.2.1) (eh_new h (ob 23 []) 6)) (h1 : ¬ x = 0 → Q (.returned none) h) : ew_T g kX1_checkState 5 [.int x] h Q := by
  refine ew_enter (by decide +kernel) (ew_a1 rfl ew_az) (Nat.le_of_ble_eq_true rfl) ?_
  refine ew_iload_n (pc := 0) dX1_checkState_0 rfl ?_
  refine ew_if_ne (pc := 1) (tgt := 12) dX1_checkState_1 (by decide) (fun c1 => ?_) (fun c1 => ?_)
  · refine ew_vret (pc := 12) rfl dX1_checkState_12 ?_
    first
    | exact h1 c1
    | exact h1 (fun h9 => h9 c1)
  · refine ew_mk0 (pc := 4) (ci := 23) rfl (by decide) (by decide) (ew_q q1592) (ew_q q160) xat_X1_83 (by decide) (ew_rm (Nat.le_of_ble_eq_true rfl)) dX1_checkState_4 dX1_checkState_7 dX1_checkState_8 ?_
    refine ew_athrow (pc := 11) dX1_checkState_11 ?_
    refine ew_out (fun x hx => nomatch hx) ?_
    first
| exact h0 c1
| exact h0 (Decidable.not_not.mp c1)
theorem t_chkA {g : eg} {h : eh} {x : Int32} {Q : Outcome → eh → Prop} (h0 : x = 0 → Q (.threw h.2.1) (eh_new h (ob 24 []) 6)) (h1 : ¬ x = 0 → Q (.returned none) h) : ew_T g kX1_checkArgument 5 [.int x] h Q := by
  refine ew_enter (by decide +kernel) (ew_a1 rfl ew_az) (Nat.le_of_ble_eq_true rfl) ?_
  refine ew_iload_n (pc := 0) dX1_checkArgument_0 rfl ?_
  refine ew_if_ne (pc := 1) (tgt := 12) dX1_checkArgument_1 (by decide) (fun c1 => ?_) (fun c1 => ?_)
  · refine ew_vret (pc := 12) rfl dX1_checkArgument_12 ?_
    first
    | exact h1 c1
    | exact h1 (fun h9 => h9 c1)
  · refine ew_mk0 (pc := 4) (ci := 24) rfl (by decide) (by decide) (ew_q q1568) (ew_q q146) xat_X1_73 (by decide) (ew_rm (Nat.le_of_ble_eq_true rfl)) dX1_checkArgument_4 dX1_checkArgument_7 dX1_checkArgument_8 ?_
    refine ew_athrow (pc := 11) dX1_checkArgument_11 ?_
    refine ew_out (fun x hx => nomatch hx) ?_
    first
| exact h0 c1
| exact h0 (Decidable.not_not.mp c1)
/-- an index below n -/
theorem t_chkI {g : eg} {h : eh} {a : Int32} {n : Nat} {Q : Outcome → eh → Prop} (h0 : ¬ isIx n a → Q (.threw h.2.1) (eh_new h (ob 25 []) 6)) (h1 : isIx n a → Q (.returned none) h) : ew_T g kX1_checkIndex 5 [.int a, .int (nI n)] h Q := by
  refine ew_enter (by decide +kernel) (ew_a1 rfl (ew_a1 rfl ew_az)) (Nat.le_of_ble_eq_true rfl) ?_
  refine ew_iload_n (pc := 0) dX1_checkIndex_0 rfl ?_
  refine ew_iconst (pc := 1) (v := 0) dX1_checkIndex_1 rfl ?_
  refine ew_iload_n (pc := 2) dX1_checkIndex_2 rfl ?_
  refine ew_iconst (pc := 3) (v := 1) dX1_checkIndex_3 rfl ?_
  refine ew_isub (pc := 4) dX1_checkIndex_4 ?_
  refine ew_cS3 (d' := 0) (pc := 5) sX1_74 dX1_checkIndex_5 (by decide) (ew_rm (Nat.le_of_ble_eq_true rfl)) ?_
  refine t_inC ?_
  refine ew_Kr ?_
  refine ew_if_ne (pc := 8) (tgt := 19) dX1_checkIndex_8 (by decide) (fun c8 => ?_) (fun c8 => ?_)
  · refine ew_vret (pc := 19) rfl dX1_checkIndex_19 ?_
    first
    | exact h1 (bI_n.mp c8)
    | exact h1 (bI_n.mp (fun h9 => h9 c8))
  · refine ew_mk0 (pc := 11) (ci := 25) rfl (by decide) (by decide) (ew_q q412) (ew_q q133) xat_X1_80 (by decide) (ew_rm (Nat.le_of_ble_eq_true rfl)) dX1_checkIndex_11 dX1_checkIndex_14 dX1_checkIndex_15 ?_
    refine ew_athrow (pc := 18) dX1_checkIndex_18 ?_
    refine ew_out (fun x hx => nomatch hx) ?_
    first
| exact h0 (bI_0.mp c8)
| exact h0 (bI_0.mp (Decidable.not_not.mp c8))
