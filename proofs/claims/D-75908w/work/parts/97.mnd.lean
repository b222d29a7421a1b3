/-! EW: mends and what is chosen -/
set_option maxRecDepth 100000
def cmI (x y : Int32) : Int32 := if x < y then -1 else if x = y then 0 else 1
/-- a mend: code, units, cost -/
abbrev mnd : Type := Int32 × Int32 × Int32
def mdO (x : mnd) : ac := ob 10 [.int x.1, .int x.2.1, .int x.2.2]
def mnC (x y : mnd) : Int32 := if ¬ x.2.2 = y.2.2 then cmI x.2.2 y.2.2 else cmI x.1 y.1
/-- the best of some, the first of like ones -/
def mdB (b : Option mnd) (x : mnd) : Option mnd := match b with
  | none => some x
  | some y => if mnC x y < 0 then some x else some y
section
variable {g : eg} {h : eh} {Q : Outcome → eh → Prop}
theorem t_icmp {x y : Int32} (hq : Q (.returned (some (.int (cmI x y)))) h) : ew_T g kJ22_compare 0 [.int x, .int y] h Q := by
  rw [cmI] at hq
  refine ew_enter (by decide +kernel) (ew_a1 rfl (ew_a1 rfl ew_az)) (Nat.le_of_ble_eq_true rfl) ?_
  refine ew_iload_n (pc := 0) dJ22_compare_0 rfl ?_
  refine ew_iload_n (pc := 1) dJ22_compare_1 rfl ?_
  refine ew_icmp_ge (pc := 2) (tgt := 9) dJ22_compare_2 (by decide) (fun c2 => ?_) (fun c2 => ?_)
  · refine ew_iload_n (pc := 9) dJ22_compare_9 rfl ?_
    refine ew_iload_n (pc := 10) dJ22_compare_10 rfl ?_
    refine ew_icmp_ne (pc := 11) (tgt := 18) dJ22_compare_11 (by decide) (fun c11 => ?_) (fun c11 => ?_)
    · refine ew_iconst (pc := 18) (v := 1) dJ22_compare_18 rfl ?_
      refine ew_iret (pc := 19) rfl dJ22_compare_19 ?_
      first
      | rw [if_neg (Int32.not_lt.mpr c2), if_neg c11] at hq
        exact hq
      | rw [if_neg (Int32.not_lt.mpr c2), if_pos c11] at hq
        exact hq
      | rw [if_pos (Int32.not_le.mp c2)] at hq
        exact hq
    · refine ew_iconst (pc := 14) (v := 0) dJ22_compare_14 rfl ?_
      refine ew_goto (pc := 15) (tgt := 19) dJ22_compare_15 (by decide) ?_
      refine ew_iret (pc := 19) rfl dJ22_compare_19 ?_
      first
      | rw [if_neg (Int32.not_lt.mpr c2), if_neg c11] at hq
        exact hq
      | rw [if_neg (Int32.not_lt.mpr c2), if_pos c11] at hq
        exact hq
      | rw [if_pos (Int32.not_le.mp c2)] at hq
        exact hq
  · refine ew_iconst (pc := 5) (v := -1) dJ22_compare_5 rfl ?_
    refine ew_goto (pc := 6) (tgt := 19) dJ22_compare_6 (by decide) ?_
    refine ew_iret (pc := 19) rfl dJ22_compare_19 ?_
    first
    | rw [if_neg (Int32.not_lt.mpr c2), if_neg c11] at hq
      exact hq
    | rw [if_neg (Int32.not_lt.mpr c2), if_pos c11] at hq
      exact hq
    | rw [if_pos (Int32.not_le.mp c2)] at hq
      exact hq
theorem t_mdInit {x : Nat} {c u k : Int32} (h1 : h.1 x = some (mdO (0, 0, 0))) (hq : Q (.returned none) (eh_set h x (mdO (c, u, k)))) : ew_T g kX11_init 1 [.ref x, .int c, .int u, .int k] h Q := by
  refine ew_enter (by decide +kernel) (ew_a1 rfl (ew_a1 rfl (ew_a1 rfl (ew_a1 rfl ew_az)))) (Nat.le_of_ble_eq_true rfl) ?_
  refine ew_aload_n (pc := 0) dX11_init_0 rfl ?_
  refine ew_obj (pc := 1) (ew_q q2041) (ew_q q177) (ew_q q178) (ew_rm (Nat.le_of_ble_eq_true rfl)) dX11_init_1 ?_
  refine ew_aload_n (pc := 4) dX11_init_4 rfl ?_
  refine ew_iload_n (pc := 5) dX11_init_5 rfl ?_
  refine ew_putf (pc := 6) pX11_7 h1 st_0 (Nat.le_of_ble_eq_true rfl) rfl rfl (fun _ => rfl) dX11_init_6 ?_
  have j1 := se_1 h x (ob 10 [.int c, .int 0, .int 0])
  refine ew_aload_n (pc := 9) dX11_init_9 rfl ?_
  refine ew_iload_n (pc := 10) dX11_init_10 rfl ?_
  refine ew_putf (pc := 11) pX11_13 j1 st_1 (Nat.le_of_ble_eq_true rfl) rfl rfl (fun _ => rfl) dX11_init_11 ?_
  rw [ew_ss]
  have j2 := se_1 h x (ob 10 [.int c, .int u, .int 0])
  refine ew_aload_n (pc := 14) dX11_init_14 rfl ?_
  refine ew_iload_n (pc := 15) dX11_init_15 rfl ?_
  refine ew_putf (pc := 16) pX11_16 j2 st_2 (Nat.le_of_ble_eq_true rfl) rfl rfl (fun _ => rfl) dX11_init_16 ?_
  rw [ew_ss]
  refine ew_vret (pc := 19) rfl dX11_init_19 ?_
  exact hq
theorem t_mdCmp {x y : Nat} {v w : mnd} (hx : rd g h x = some (mdO v)) (hy : rd g h y = some (mdO w)) (hq : Q (.returned (some (.int (mnC v w)))) h) : ew_T g kX11_compareTo_2 1 [.ref x, .ref y] h Q := by
  rw [mnC] at hq
  refine ew_enter (by decide +kernel) (ew_a1 rfl (ew_a1 rfl ew_az)) (Nat.le_of_ble_eq_true rfl) ?_
  refine ew_aload_n (pc := 0) dX11_compareTo_2_0 rfl ?_
  refine ew_getf (pc := 1) fX11_16 hx rfl dX11_compareTo_2_1 ?_
  refine ew_aload_n (pc := 4) dX11_compareTo_2_4 rfl ?_
  refine ew_getf (pc := 5) fX11_16 hy rfl dX11_compareTo_2_5 ?_
  refine ew_icmp_eq (pc := 8) (tgt := 25) dX11_compareTo_2_8 (by decide) (fun c8 => ?_) (fun c8 => ?_)
  · refine ew_aload_n (pc := 25) dX11_compareTo_2_25 rfl ?_
    refine ew_getf (pc := 26) fX11_7 hx rfl dX11_compareTo_2_26 ?_
    refine ew_aload_n (pc := 29) dX11_compareTo_2_29 rfl ?_
    refine ew_getf (pc := 30) fX11_7 hy rfl dX11_compareTo_2_30 ?_
    refine ew_cS2 (d' := 0) (pc := 33) sX11_19 dX11_compareTo_2_33 (by decide) (ew_rm (Nat.le_of_ble_eq_true rfl)) ?_
    refine t_icmp ?_
    refine ew_Kr ?_
    refine ew_iret (pc := 36) rfl dX11_compareTo_2_36 ?_
    first
    | rw [if_neg (fun h9 => h9 c8)] at hq
      exact hq
    | rw [if_pos c8] at hq
      exact hq
  · refine ew_aload_n (pc := 11) dX11_compareTo_2_11 rfl ?_
    refine ew_getf (pc := 12) fX11_16 hx rfl dX11_compareTo_2_12 ?_
    refine ew_aload_n (pc := 15) dX11_compareTo_2_15 rfl ?_
    refine ew_getf (pc := 16) fX11_16 hy rfl dX11_compareTo_2_16 ?_
    refine ew_cS2 (d' := 0) (pc := 19) sX11_19 dX11_compareTo_2_19 (by decide) (ew_rm (Nat.le_of_ble_eq_true rfl)) ?_
    refine t_icmp ?_
    refine ew_Kr ?_
    refine ew_goto (pc := 22) (tgt := 36) dX11_compareTo_2_22 (by decide) ?_
    refine ew_iret (pc := 36) rfl dX11_compareTo_2_36 ?_
    first
    | rw [if_neg (fun h9 => h9 c8)] at hq
      exact hq
    | rw [if_pos c8] at hq
      exact hq
theorem t_mdCmpO {x y : Nat} {v w : mnd} (hx : rd g h x = some (mdO v)) (hy : rd g h y = some (mdO w)) (hq : Q (.returned (some (.int (mnC v w)))) h) : ew_T g kX11_compareTo 2 [.ref x, .ref y] h Q := by
  refine ew_enter (by decide +kernel) (ew_a1 rfl (ew_a1 rfl ew_az)) (Nat.le_of_ble_eq_true rfl) ?_
  refine ew_aload_n (pc := 0) dX11_compareTo_0 rfl ?_
  refine ew_aload_n (pc := 1) dX11_compareTo_1 rfl ?_
  refine ew_cast (pc := 2) rfl hy (ew_q q930) (Or.inl rfl) dX11_compareTo_2 ?_
  refine ew_cV1 (d' := 1) (pc := 5) vX11_25 hx dX11_compareTo_5 (by decide) (ew_rm (Nat.le_of_ble_eq_true rfl)) ?_
  refine t_mdCmp hx hy ?_
  refine ew_Kr ?_
  refine ew_iret (pc := 8) rfl dX11_compareTo_8 ?_
  exact hq
theorem t_natCmp {o x y : Nat} {v w : mnd} (ho : rd g h o = some (ob 12 [])) (hx : rd g h x = some (mdO v)) (hy : rd g h y = some (mdO w)) (hq : Q (.returned (some (.int (mnC v w)))) h) : ew_T g kX13_compare 10 [.ref o, .ref x, .ref y] h Q := by
  have c2 : ∀ Q : Outcome → eh → Prop, Q (.returned (some (.int (mnC v w)))) h → ew_T g kX13_compare_2 9 [.ref o, .ref x, .ref y] h Q := by
    intro Q hq
    refine ew_enter (by decide +kernel) (ew_a1 rfl (ew_a1 rfl (ew_a1 rfl ew_az))) (Nat.le_of_ble_eq_true rfl) ?_
    refine ew_aload_n (pc := 0) dX13_compare_2_0 rfl ?_
    refine ew_aload_n (pc := 1) dX13_compare_2_1 rfl ?_
    refine ew_cF1 (d' := 2) (pc := 2) tX13_7_10 hx dX13_compare_2_2 (by decide) (ew_rm (Nat.le_of_ble_eq_true rfl)) ?_
    refine t_mdCmpO hx hy ?_
    refine ew_Kr ?_
    refine ew_iret (pc := 7) rfl dX13_compare_2_7 ?_
    exact hq
  refine ew_enter (by decide +kernel) (ew_a1 rfl (ew_a1 rfl (ew_a1 rfl ew_az))) (Nat.le_of_ble_eq_true rfl) ?_
  refine ew_aload_n (pc := 0) dX13_compare_0 rfl ?_
  refine ew_aload_n (pc := 1) dX13_compare_1 rfl ?_
  refine ew_cast (pc := 2) rfl hx (ew_q q915) (Or.inr (ew_qt q924 rfl)) dX13_compare_2 ?_
  refine ew_aload_n (pc := 5) dX13_compare_5 rfl ?_
  refine ew_cast (pc := 6) rfl hy (ew_q q915) (Or.inr (ew_qt q924 rfl)) dX13_compare_6 ?_
  refine ew_cV2 (d' := 9) (pc := 9) vX13_13 ho dX13_compare_9 (by decide) (ew_rm (Nat.le_of_ble_eq_true rfl)) ?_
  refine c2 _ ?_
  refine ew_Kr ?_
  refine ew_iret (pc := 12) rfl dX13_compare_12 ?_
  exact hq
/-- what a choice holds: nothing, or a mend -/
def chF (g : eg) (h : eh) (c o : Nat) (b : Option mnd) : Prop := rd g h o = some (ob 12 []) ∧ match b with
  | none => h.1 c = some (ob 11 [.ref o, .null])
  | some v => ∃ y, h.1 c = some (ob 11 [.ref o, .ref y]) ∧ rd g h y = some (mdO v)
theorem t_offer {c o x : Nat} {b : Option mnd} {v : mnd} (hc : chF g h c o b) (hx : rd g h x = some (mdO v)) (hq : ∀ h', chF g h' c o (mdB b v) → Ke [c] 0 0 h h' → Q (.returned none) h') : ew_T g kX12_offer 11 [.ref c, .ref x] h Q := by
  obtain ⟨ho, hb⟩ := hc
  have hoc : ∀ fs, h.1 c = some (ob 11 fs) → o ≠ c ∧ x ≠ c := fun fs h9 => ⟨fun e => (by rw [e, rd_of h9] at ho; cases ho), fun e => (by rw [e, rd_of h9] at hx; cases hx)⟩
  cases b with
  | none =>
    have hcc : h.1 c = some (ob 11 [.ref o, .null]) := hb
    have hn := hoc _ hcc
    refine ew_enter (by decide +kernel) (ew_a1 rfl (ew_a1 rfl ew_az)) (Nat.le_of_ble_eq_true rfl) ?_
    refine ew_aload_n (pc := 0) dX12_offer_0 rfl ?_
    refine ew_getf (pc := 1) fX12_13 (rd_of hcc) rfl dX12_offer_1 ?_
    refine ew_ifnullN (pc := 4) (tgt := 24) dX12_offer_4 (by decide) ?_
    refine ew_aload_n (pc := 24) dX12_offer_24 rfl ?_
    refine ew_aload_n (pc := 25) dX12_offer_25 rfl ?_
    refine ew_putf (pc := 26) pX12_13 hcc st_1 (Nat.le_of_ble_eq_true rfl) rfl rfl (fun h9 => absurd h9 Bool.false_ne_true) dX12_offer_26 ?_
    refine ew_vret (pc := 29) rfl dX12_offer_29 ?_
    exact hq _ ⟨rd_sn ho hn.1, x, se_1 _ _ _, rd_sn hx hn.2⟩ Ke.set
  | some w =>
    obtain ⟨y, hcc, hy⟩ := hb
    have hn := hoc _ hcc
    refine ew_enter (by decide +kernel) (ew_a1 rfl (ew_a1 rfl ew_az)) (Nat.le_of_ble_eq_true rfl) ?_
    refine ew_aload_n (pc := 0) dX12_offer_0 rfl ?_
    refine ew_getf (pc := 1) fX12_13 (rd_of hcc) rfl dX12_offer_1 ?_
    refine ew_ifnull (pc := 4) dX12_offer_4 ?_
    refine ew_aload_n (pc := 7) dX12_offer_7 rfl ?_
    refine ew_getf (pc := 8) fX12_7 (rd_of hcc) rfl dX12_offer_8 ?_
    refine ew_aload_n (pc := 11) dX12_offer_11 rfl ?_
    refine ew_aload_n (pc := 12) dX12_offer_12 rfl ?_
    refine ew_getf (pc := 13) fX12_13 (rd_of hcc) rfl dX12_offer_13 ?_
    refine ew_cF2 (d' := 10) (pc := 16) tX12_17_12 ho dX12_offer_16 (by decide) (ew_rm (Nat.le_of_ble_eq_true rfl)) ?_
    refine t_natCmp ho hx hy ?_
    refine ew_Kr ?_
    refine ew_if_ge (pc := 21) (tgt := 29) dX12_offer_21 (by decide) (fun c21 => ?_) (fun c21 => ?_)
    · refine ew_vret (pc := 29) rfl dX12_offer_29 ?_
      first
      | refine hq _ ?_ ((Ke.r _ _))
        rw [mdB, if_neg (Int32.not_lt.mpr c21)]
        exact ⟨ho, y, hcc, hy⟩
      | refine hq _ ?_ Ke.set
        rw [mdB, if_pos (Int32.not_le.mp c21)]
        exact ⟨rd_sn ho hn.1, x, se_1 _ _ _, rd_sn hx hn.2⟩
    · refine ew_aload_n (pc := 24) dX12_offer_24 rfl ?_
      refine ew_aload_n (pc := 25) dX12_offer_25 rfl ?_
      refine ew_putf (pc := 26) pX12_13 hcc st_1 (Nat.le_of_ble_eq_true rfl) rfl rfl (fun h9 => absurd h9 Bool.false_ne_true) dX12_offer_26 ?_
      refine ew_vret (pc := 29) rfl dX12_offer_29 ?_
      first
      | refine hq _ ?_ ((Ke.r _ _))
        rw [mdB, if_neg (Int32.not_lt.mpr c21)]
        exact ⟨ho, y, hcc, hy⟩
      | refine hq _ ?_ Ke.set
        rw [mdB, if_pos (Int32.not_le.mp c21)]
        exact ⟨rd_sn ho hn.1, x, se_1 _ _ _, rd_sn hx hn.2⟩
end
