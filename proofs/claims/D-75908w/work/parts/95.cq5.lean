/-! EW: the component's answers on tight windows, mean slack, share of needed windows -/
set_option maxRecDepth 100000
/-- a bound of window w that the bounds meet -/
def tiC (N : Nat → Int32) (w : Nat) (l : Int32) : Bool := decide (N (2 + 6 * w + 5) = 0 ∧ (l = 0 → ¬ N (2 + 6 * w + 3) = -1)) && (if l = 0 then decide (cSq N 0 (-1) (nE N * fA N w + fB N w) = N (2 + 6 * w + 3)) else decide (cSq N 0 (-1) (nE N * fB N w + fA N w) = -N (2 + 6 * w + 2)))
def scC (N : Nat → Int32) : Nat → Int32 × Nat
  | 0 => (0, 0)
  | e + 1 => if cSq N 0 (-1) e = 100000000 then scC N e else ((scC N e).1 + sqSlack (nE N) (cSq N 0 (-1)) e, (scC N e).2 + 1)
def mdC (N : Nat → Int32) : UInt64 := FP.ddiv (FP.i2d (scC N (nE N)).1) (FP.i2d (nI (scC N (nE N)).2))
/-- needed windows below w -/
def neC (N : Nat → Int32) : Nat → Nat
  | 0 => 0
  | w + 1 => neC N w + if needC N w then 1 else 0
theorem neC_le (N : Nat → Int32) : ∀ m, neC N m ≤ m
  | 0 => Nat.le_refl 0
  | m + 1 => by
    have := neC_le N m
    rw [neC]
    split <;> omega
def shC (N : Nat → Int32) : UInt32 := if thC N (nW N) = 0 then FP.fconst0 else FP.fdiv (FP.i2f (nI (neC N (nW N)))) (FP.i2f (nI (thC N (nW N))))
section
variable {g : eg} {h : eh} {a : Nat → Nat} {ws : List Nat} {N : Nat → Int32} {m pe ep : Int32} {fb ft : Nat → Int32} {ρ : ru} {Q : Outcome → eh → Prop}
theorem c_isTight {w l : Int32} (hg : gOC g) (C : CV g h a ws N m pe ep fb ft ρ) (hq : ∀ o h', CO SI (se1 1 (cSb N) (bI (isIx (nW N) w))) (.int (bI (tiC N (ix w) l = true))) (CQ g a ws N m pe ep h) o h' → Q o h') : ew_T g kX1_isTight 9 [.ref (a 0), .int w, .int l] h Q := by
  have hW := C.n.ok.w2
  refine ew_enter (by decide +kernel) (ew_a1 rfl (ew_a1 rfl (ew_a1 rfl (ew_an ew_az)))) (Nat.le_of_ble_eq_true rfl) ?_
  refine ew_ok (fun ho => ?_)
  refine ew_aload_n (pc := 0) dX1_isTight_0 rfl ?_
  refine ew_iload_n (pc := 1) dX1_isTight_1 rfl ?_
  refine ew_cV1 (d' := 8) (pc := 2) vX1_243 (rd_of C.o) dX1_isTight_2 (by decide) (ew_rm (Nat.le_of_ble_eq_true rfl)) ?_
  refine t_soundWindow C (fun hs f => ?_) (fun hs hi f => ?_) (fun hs hi f hf x hx hxw => ?_)
  · exact ew_Kx (ew_out (fun x hx => nomatch hx) (hq _ _ (CO.n (k := 1) (se1_n hs) (by decide) rfl (ne_1 _ _ _) (CQ.newB hg ho C f (by decide)))))
  · exact ew_Kx (ew_out (fun x hx => nomatch hx) (hq _ _ (CO.n (k := 2) (se1_i hs hi) (by decide) rfl (ne_1 _ _ _) (CQ.newB hg ho C f (by decide)))))
  have hw := hi.to hW
  have C2 := C.setB f
  have ha := C.n.ok.a _ hw.1
  have hb := C.n.ok.b _ hw.1
  have hal := C.n.ok.al _ hw.1
  have hbl := C.n.ok.bl _ hw.1
  rw [wN, ha, hb] at hxw
  have fin : ∀ v, v = bI (tiC N (ix w) l = true) → Q (.returned (some (.int v))) (eh_set h (a 6) (aI (nE N * nE N) f)) := fun v hv => by
    rw [hv]
    exact hq _ _ (CO.y (se1_y hs hi) (CQ.B C f))
  refine ew_Kr ?_
  first | refine ew_astore_n (pc := 5) dX1_isTight_5 rfl (by decide) (p1_3 rfl) ?_ | refine ew_astore_nq (pc := 5) dX1_isTight_5 rfl (by decide) (p1_3 rfl) ?_ | refine ew_astore_nN (pc := 5) dX1_isTight_5 rfl (by decide) (p1_3 rfl) ?_
  refine ew_aload_n (pc := 6) dX1_isTight_6 rfl ?_
  refine ew_iload_n (pc := 7) dX1_isTight_7 rfl ?_
  refine ew_cV1 (d' := 0) (pc := 8) vX1_246 (rd_of hxw) dX1_isTight_8 (by decide) (ew_rm (Nat.le_of_ble_eq_true rfl)) ?_
  refine t_wHas (rd_of hxw) ?_
  refine ew_Kr ?_
  refine ew_if_ne (pc := 11) (tgt := 16) dX1_isTight_11 (by decide) (fun c11 => ?_) (fun c11 => ?_)
  · refine ew_iload_n (pc := 16) dX1_isTight_16 rfl ?_
    refine ew_if_eq (pc := 17) (tgt := 51) dX1_isTight_17 (by decide) (fun c17 => ?_) (fun c17 => ?_)
    · refine ew_aload_n (pc := 51) dX1_isTight_51 rfl ?_
      refine ew_getf (pc := 52) fX1_92 (rd_of C2.o) rfl dX1_isTight_52 ?_
      refine ew_aload_n (pc := 55) dX1_isTight_55 rfl ?_
      refine ew_getf (pc := 56) fX1_252 (rd_of hxw) rfl dX1_isTight_56 ?_
      refine ew_aload_n (pc := 59) dX1_isTight_59 rfl ?_
      refine ew_getf (pc := 60) fX1_250 (rd_of hxw) rfl dX1_isTight_60 ?_
      refine ew_cV2 (d' := 0) (pc := 63) vX1_227 C2.b.1 dX1_isTight_63 (by decide) (ew_rm (Nat.le_of_ble_eq_true rfl)) ?_
      refine t_sum C2.b hal hbl ?_
      rw [hf.at hal hbl]
      refine ew_Kr ?_
      refine ew_aload_n (pc := 66) dX1_isTight_66 rfl ?_
      refine ew_getf (pc := 67) fX1_258 (rd_of hxw) rfl dX1_isTight_67 ?_
      refine ew_icmp_ne (pc := 70) (tgt := 77) dX1_isTight_70 (by decide) (fun c70 => ?_) (fun c70 => ?_)
      · refine ew_iconst (pc := 77) (v := 0) dX1_isTight_77 rfl ?_
        refine ew_zret (pc := 78) (ty := .boolean) rfl rfl dX1_isTight_78 ?_
        first
        | refine fin 0 (bI_F (fun h9 => bI_0.mp c11 ?_))
          rw [tiC, Bool.and_eq_true] at h9
          exact of_decide_eq_true h9.1
        | refine fin 1 (bI_T ?_)
          rw [tiC, if_neg c17, Bool.and_eq_true]
          exact ⟨decide_eq_true (bI_n.mp c11), decide_eq_true c40⟩
        | refine fin 0 (bI_F (fun h9 => c40 ?_))
          rw [tiC, if_neg c17, Bool.and_eq_true] at h9
          exact of_decide_eq_true h9.2
        | refine fin 1 (bI_T ?_)
          rw [tiC, if_pos c17, Bool.and_eq_true]
          exact ⟨decide_eq_true (bI_n.mp c11), decide_eq_true c70⟩
        | refine fin 0 (bI_F (fun h9 => c70 ?_))
          rw [tiC, if_pos c17, Bool.and_eq_true] at h9
          exact of_decide_eq_true h9.2
      · refine ew_iconst (pc := 73) (v := 1) dX1_isTight_73 rfl ?_
        refine ew_goto (pc := 74) (tgt := 78) dX1_isTight_74 (by decide) ?_
        refine ew_zret (pc := 78) (ty := .boolean) rfl rfl dX1_isTight_78 ?_
        first
        | refine fin 0 (bI_F (fun h9 => bI_0.mp c11 ?_))
          rw [tiC, Bool.and_eq_true] at h9
          exact of_decide_eq_true h9.1
        | refine fin 1 (bI_T ?_)
          rw [tiC, if_neg c17, Bool.and_eq_true]
          exact ⟨decide_eq_true (bI_n.mp c11), decide_eq_true c40⟩
        | refine fin 0 (bI_F (fun h9 => c40 ?_))
          rw [tiC, if_neg c17, Bool.and_eq_true] at h9
          exact of_decide_eq_true h9.2
        | refine fin 1 (bI_T ?_)
          rw [tiC, if_pos c17, Bool.and_eq_true]
          exact ⟨decide_eq_true (bI_n.mp c11), decide_eq_true c70⟩
        | refine fin 0 (bI_F (fun h9 => c70 ?_))
          rw [tiC, if_pos c17, Bool.and_eq_true] at h9
          exact of_decide_eq_true h9.2
    · refine ew_aload_n (pc := 20) dX1_isTight_20 rfl ?_
      refine ew_getf (pc := 21) fX1_92 (rd_of C2.o) rfl dX1_isTight_21 ?_
      refine ew_aload_n (pc := 24) dX1_isTight_24 rfl ?_
      refine ew_getf (pc := 25) fX1_250 (rd_of hxw) rfl dX1_isTight_25 ?_
      refine ew_aload_n (pc := 28) dX1_isTight_28 rfl ?_
      refine ew_getf (pc := 29) fX1_252 (rd_of hxw) rfl dX1_isTight_29 ?_
      refine ew_cV2 (d' := 0) (pc := 32) vX1_227 C2.b.1 dX1_isTight_32 (by decide) (ew_rm (Nat.le_of_ble_eq_true rfl)) ?_
      refine t_sum C2.b hbl hal ?_
      rw [hf.at hbl hal]
      refine ew_Kr ?_
      refine ew_aload_n (pc := 35) dX1_isTight_35 rfl ?_
      refine ew_getf (pc := 36) fX1_255 (rd_of hxw) rfl dX1_isTight_36 ?_
      refine ew_ineg (pc := 39) dX1_isTight_39 ?_
      refine ew_icmp_ne (pc := 40) (tgt := 47) dX1_isTight_40 (by decide) (fun c40 => ?_) (fun c40 => ?_)
      · refine ew_iconst (pc := 47) (v := 0) dX1_isTight_47 rfl ?_
        refine ew_goto (pc := 48) (tgt := 78) dX1_isTight_48 (by decide) ?_
        refine ew_zret (pc := 78) (ty := .boolean) rfl rfl dX1_isTight_78 ?_
        first
        | refine fin 0 (bI_F (fun h9 => bI_0.mp c11 ?_))
          rw [tiC, Bool.and_eq_true] at h9
          exact of_decide_eq_true h9.1
        | refine fin 1 (bI_T ?_)
          rw [tiC, if_neg c17, Bool.and_eq_true]
          exact ⟨decide_eq_true (bI_n.mp c11), decide_eq_true c40⟩
        | refine fin 0 (bI_F (fun h9 => c40 ?_))
          rw [tiC, if_neg c17, Bool.and_eq_true] at h9
          exact of_decide_eq_true h9.2
        | refine fin 1 (bI_T ?_)
          rw [tiC, if_pos c17, Bool.and_eq_true]
          exact ⟨decide_eq_true (bI_n.mp c11), decide_eq_true c70⟩
        | refine fin 0 (bI_F (fun h9 => c70 ?_))
          rw [tiC, if_pos c17, Bool.and_eq_true] at h9
          exact of_decide_eq_true h9.2
      · refine ew_iconst (pc := 43) (v := 1) dX1_isTight_43 rfl ?_
        refine ew_goto (pc := 44) (tgt := 78) dX1_isTight_44 (by decide) ?_
        refine ew_zret (pc := 78) (ty := .boolean) rfl rfl dX1_isTight_78 ?_
        first
        | refine fin 0 (bI_F (fun h9 => bI_0.mp c11 ?_))
          rw [tiC, Bool.and_eq_true] at h9
          exact of_decide_eq_true h9.1
        | refine fin 1 (bI_T ?_)
          rw [tiC, if_neg c17, Bool.and_eq_true]
          exact ⟨decide_eq_true (bI_n.mp c11), decide_eq_true c40⟩
        | refine fin 0 (bI_F (fun h9 => c40 ?_))
          rw [tiC, if_neg c17, Bool.and_eq_true] at h9
          exact of_decide_eq_true h9.2
        | refine fin 1 (bI_T ?_)
          rw [tiC, if_pos c17, Bool.and_eq_true]
          exact ⟨decide_eq_true (bI_n.mp c11), decide_eq_true c70⟩
        | refine fin 0 (bI_F (fun h9 => c70 ?_))
          rw [tiC, if_pos c17, Bool.and_eq_true] at h9
          exact of_decide_eq_true h9.2
  · refine ew_iconst (pc := 14) (v := 0) dX1_isTight_14 rfl ?_
    refine ew_zret (pc := 15) (ty := .boolean) rfl rfl dX1_isTight_15 ?_
    first
    | refine fin 0 (bI_F (fun h9 => bI_0.mp c11 ?_))
      rw [tiC, Bool.and_eq_true] at h9
      exact of_decide_eq_true h9.1
    | refine fin 1 (bI_T ?_)
      rw [tiC, if_neg c17, Bool.and_eq_true]
      exact ⟨decide_eq_true (bI_n.mp c11), decide_eq_true c40⟩
    | refine fin 0 (bI_F (fun h9 => c40 ?_))
      rw [tiC, if_neg c17, Bool.and_eq_true] at h9
      exact of_decide_eq_true h9.2
    | refine fin 1 (bI_T ?_)
      rw [tiC, if_pos c17, Bool.and_eq_true]
      exact ⟨decide_eq_true (bI_n.mp c11), decide_eq_true c70⟩
    | refine fin 0 (bI_F (fun h9 => c70 ?_))
      rw [tiC, if_pos c17, Bool.and_eq_true] at h9
      exact of_decide_eq_true h9.2
theorem c_meanSlack (hg : gOC g) (C : CV g h a ws N m pe ep fb ft ρ) (hV : cSo N 0 (-1) → vf_n64 (mdC N)) (hq : ∀ o h', CO SI (se1 1 (cSb N) 1) (.double (mdC N)) (CQ g a ws N m pe ep h) o h' → Q o h') : ew_T g kX1_meanSlack 8 [.ref (a 0)] h Q := by
  have hE := C.n.ok.e2
  have main : ∀ f, cSo N 0 (-1) → agN (nE N) f (cSq N 0 (-1)) → ∀ q e, e + q = nE N → ew_G g kX1_meanSlack 8 12 [.ref (a 0), .ref (a 5), .int (scC N e).1, .int (nI (scC N e).2), .int (nI e)] [] (eh_set h (a 6) (aI (nE N * nE N) f)) Q := by
    intro f hs hf q
    have C2 := C.setB f
    induction q with
    | zero =>
      intro e he
      have e9 : e = nE N := by omega
      rw [e9]
      have hv := hV hs
      refine ew_iload (pc := 12) dX1_meanSlack_12 rfl ?_
      refine ew_aload_n (pc := 14) dX1_meanSlack_14 rfl ?_
      refine ew_getf (pc := 15) fX1_84 (rd_of C2.o) rfl dX1_meanSlack_15 ?_
      refine ew_cV0 (d' := 0) (pc := 18) vX1_13 (rd_of C2.n.o) dX1_meanSlack_18 (by decide) (ew_rm (Nat.le_of_ble_eq_true rfl)) ?_
      refine t_nEvents C2.n ?_
      refine ew_Kr ?_
      refine ew_icmp_ge (pc := 21) (tgt := 54) dX1_meanSlack_21 (by decide) (fun c21 => ?_) (fun c21 => absurd (nI_le (Nat.le_refl _) (by omega)) c21)
      refine ew_iload_n (pc := 54) dX1_meanSlack_54 rfl ?_
      refine ew_i2d (pc := 55) dX1_meanSlack_55 ?_
      refine ew_iload_n (pc := 56) dX1_meanSlack_56 rfl ?_
      refine ew_i2d (pc := 57) dX1_meanSlack_57 ?_
      refine ew_ddiv (pc := 58) dX1_meanSlack_58 hv ?_
      refine ew_dret (pc := 59) rfl dX1_meanSlack_59 ?_
      exact hq _ _ (CO.y (se1_1y hs) (CQ.B C f))
    | succ q ih =>
      intro e he
      have h8 := ih (e + 1) (by omega)
      rw [scC] at h8
      refine ew_iload (pc := 12) dX1_meanSlack_12 rfl ?_
      refine ew_aload_n (pc := 14) dX1_meanSlack_14 rfl ?_
      refine ew_getf (pc := 15) fX1_84 (rd_of C2.o) rfl dX1_meanSlack_15 ?_
      refine ew_cV0 (d' := 0) (pc := 18) vX1_13 (rd_of C2.n.o) dX1_meanSlack_18 (by decide) (ew_rm (Nat.le_of_ble_eq_true rfl)) ?_
      refine t_nEvents C2.n ?_
      refine ew_Kr ?_
      refine ew_icmp_ge (pc := 21) (tgt := 54) dX1_meanSlack_21 (by decide) (fun c21 => absurd c21 (nI_ge (by omega) (by omega))) (fun c21 => ?_)
      refine ew_aload_n (pc := 24) dX1_meanSlack_24 rfl ?_
      refine ew_iload (pc := 25) dX1_meanSlack_25 rfl ?_
      refine ew_cV1 (d' := 2) (pc := 27) vX1_273 C2.b.1 dX1_meanSlack_27 (by decide) (ew_rm (Nat.le_of_ble_eq_true rfl)) ?_
      refine t_hasLatest C2.b (by omega) (fun x hx => ?_)
      rw [hf.at0 (by omega)] at hx
      refine ew_Kr ?_
      refine ew_if_ne (pc := 30) (tgt := 36) dX1_meanSlack_30 (by decide) (fun c30 => ?_) (fun c30 => ?_)
      · refine ew_iload_n (pc := 36) dX1_meanSlack_36 rfl ?_
        refine ew_aload_n (pc := 37) dX1_meanSlack_37 rfl ?_
        refine ew_iload (pc := 38) dX1_meanSlack_38 rfl ?_
        refine ew_cV1 (d' := 3) (pc := 40) vX1_237 C2.b.1 dX1_meanSlack_40 (by decide) (ew_rm (Nat.le_of_ble_eq_true rfl)) ?_
        refine t_slackS C2.b (by omega) ?_
        rw [sqSlack_ag hf (by omega)]
        refine ew_Kr ?_
        refine ew_iadd (pc := 43) dX1_meanSlack_43 ?_
        refine ew_istore_n (pc := 44) dX1_meanSlack_44 rfl (by decide) (p1_2 rfl) ?_
        refine ew_iinc (pc := 45) dX1_meanSlack_45 rfl (nI_inc (scC N e).2) (by decide) (p1_3 rfl) ?_
        refine ew_iinc (pc := 48) dX1_meanSlack_48 rfl (nI_inc e) (by decide) (p1_4 rfl) ?_
        refine ew_goto (pc := 51) (tgt := 12) dX1_meanSlack_51 (by decide) ?_
        first
        | have e1 : cSq N 0 (-1) e = 100000000 := hx.elim (fun h9 => absurd c30 (by rw [h9.1]; decide)) (fun h9 => h9.2)
          rw [if_pos e1] at h8
          exact h8
        | have e1 : ¬ cSq N 0 (-1) e = 100000000 := hx.elim (fun h9 => h9.2) (fun h9 => absurd h9.1 c30)
          rw [if_neg e1] at h8
          exact h8
      · refine ew_goto (pc := 33) (tgt := 48) dX1_meanSlack_33 (by decide) ?_
        refine ew_iinc (pc := 48) dX1_meanSlack_48 rfl (nI_inc e) (by decide) (p1_4 rfl) ?_
        refine ew_goto (pc := 51) (tgt := 12) dX1_meanSlack_51 (by decide) ?_
        first
        | have e1 : cSq N 0 (-1) e = 100000000 := hx.elim (fun h9 => absurd c30 (by rw [h9.1]; decide)) (fun h9 => h9.2)
          rw [if_pos e1] at h8
          exact h8
        | have e1 : ¬ cSq N 0 (-1) e = 100000000 := hx.elim (fun h9 => h9.2) (fun h9 => absurd h9.1 c30)
          rw [if_neg e1] at h8
          exact h8
  refine ew_enter (by decide +kernel) (ew_a1 rfl (ew_an (ew_an (ew_an (ew_an ew_az))))) (Nat.le_of_ble_eq_true rfl) ?_
  refine ew_ok (fun ho => ?_)
  refine ew_aload_n (pc := 0) dX1_meanSlack_0 rfl ?_
  refine ew_cV0 (d' := 7) (pc := 1) vX1_132 (rd_of C.o) dX1_meanSlack_1 (by decide) (ew_rm (Nat.le_of_ble_eq_true rfl)) ?_
  refine t_sound C (fun hs f => ?_) (fun hs f hf => ?_)
  · exact ew_Kx (ew_out (fun x hx => nomatch hx) (hq _ _ (CO.n (k := 1) (se1_n hs) (by decide) rfl (ne_1 _ _ _) (CQ.newB hg ho C f (by decide)))))
  refine ew_Kr ?_
  first | refine ew_astore_n (pc := 4) dX1_meanSlack_4 rfl (by decide) (p1_1 rfl) ?_ | refine ew_astore_nq (pc := 4) dX1_meanSlack_4 rfl (by decide) (p1_1 rfl) ?_ | refine ew_astore_nN (pc := 4) dX1_meanSlack_4 rfl (by decide) (p1_1 rfl) ?_
  refine ew_iconst (pc := 5) (v := 0) dX1_meanSlack_5 rfl ?_
  refine ew_istore_n (pc := 6) dX1_meanSlack_6 rfl (by decide) (p1_2 rfl) ?_
  refine ew_iconst (pc := 7) (v := 0) dX1_meanSlack_7 rfl ?_
  refine ew_istore_n (pc := 8) dX1_meanSlack_8 rfl (by decide) (p1_3 rfl) ?_
  refine ew_iconst (pc := 9) (v := 0) dX1_meanSlack_9 rfl ?_
  refine ew_istore (pc := 10) dX1_meanSlack_10 (by decide) (p1_4 rfl) ?_
  exact main f hs hf (nE N) 0 (by omega)
end
