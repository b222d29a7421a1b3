/-! EW: sets to drop, held against one another -/
set_option maxRecDepth 100000
/-- windows, cost, many, last -/
abbrev drp : Type := Int32 × Int32 × Int32 × Int32
def drO (x : drp) : ac := ob 14 [.int x.1, .int x.2.1, .int x.2.2.1, .int x.2.2.2]
def kD (x : drp) : Int := x.2.1.toInt * 73786976294838206464 + x.2.2.1.toInt * 8589934592 + x.1.toInt
def drC (x y : drp) : Int32 := if ¬ x.2.1 = y.2.1 then cmI x.2.1 y.2.1 else if ¬ x.2.2.1 = y.2.2.1 then cmI x.2.2.1 y.2.2.1 else cmI x.1 y.1
theorem cmI_lt {x y : Int32} : cmI x y < 0 ↔ x.toInt < y.toInt := by
  unfold cmI
  by_cases h1 : x < y
  · rw [if_pos h1]
    exact ⟨fun _ => Int32.lt_iff_toInt_lt.mp h1, fun _ => by decide⟩
  · rw [if_neg h1]
    have h2 : ¬ x.toInt < y.toInt := fun h9 => h1 (Int32.lt_iff_toInt_lt.mpr h9)
    by_cases h3 : x = y
    · rw [if_pos h3]; exact ⟨fun h9 => absurd h9 (by decide), fun h9 => absurd h9 h2⟩
    · rw [if_neg h3]; exact ⟨fun h9 => absurd h9 (by decide), fun h9 => absurd h9 h2⟩
theorem cmI_gt {x y : Int32} : 0 < cmI x y ↔ y.toInt < x.toInt := by
  unfold cmI
  by_cases h1 : x < y
  · rw [if_pos h1]
    have := Int32.lt_iff_toInt_lt.mp h1
    exact ⟨fun h9 => absurd h9 (by decide), fun h9 => by omega⟩
  · rw [if_neg h1]
    have h2 : ¬ x.toInt < y.toInt := fun h9 => h1 (Int32.lt_iff_toInt_lt.mpr h9)
    by_cases h3 : x = y
    · rw [if_pos h3]; exact ⟨fun h9 => absurd h9 (by decide), fun h9 => by rw [h3] at h9; omega⟩
    · rw [if_neg h3]
      have h4 : x.toInt ≠ y.toInt := fun h9 => h3 (i_inj h9)
      exact ⟨fun _ => by omega, fun _ => by decide⟩
theorem kD_lt {x y : drp} : drC x y < 0 ↔ kD x < kD y := by
  obtain ⟨a, b, c, e⟩ := x
  obtain ⟨a2, b2, c2, e2⟩ := y
  have ha := Int32.le_toInt a
  have ha' := Int32.toInt_lt a
  have hb := Int32.le_toInt c
  have hb' := Int32.toInt_lt c
  have hc := Int32.le_toInt a2
  have hc' := Int32.toInt_lt a2
  have hd := Int32.le_toInt c2
  have hd' := Int32.toInt_lt c2
  unfold drC kD
  simp only
  by_cases h1 : b = b2
  · rw [if_neg (fun h9 => h9 h1)]
    by_cases h2 : c = c2
    · rw [if_neg (fun h9 => h9 h2), cmI_lt, h1, h2]; omega
    · have h3 : c.toInt ≠ c2.toInt := fun h9 => h2 (i_inj h9)
      rw [if_pos h2, cmI_lt, h1]; omega
  · have h3 : b.toInt ≠ b2.toInt := fun h9 => h1 (i_inj h9)
    rw [if_pos h1, cmI_lt]; omega
theorem kD_gt {x y : drp} : 0 < drC x y ↔ kD y < kD x := by
  obtain ⟨a, b, c, e⟩ := x
  obtain ⟨a2, b2, c2, e2⟩ := y
  have ha := Int32.le_toInt a
  have ha' := Int32.toInt_lt a
  have hb := Int32.le_toInt c
  have hb' := Int32.toInt_lt c
  have hc := Int32.le_toInt a2
  have hc' := Int32.toInt_lt a2
  have hd := Int32.le_toInt c2
  have hd' := Int32.toInt_lt c2
  unfold drC kD
  simp only
  by_cases h1 : b = b2
  · rw [if_neg (fun h9 => h9 h1)]
    by_cases h2 : c = c2
    · rw [if_neg (fun h9 => h9 h2), cmI_gt, h1, h2]; omega
    · have h3 : c.toInt ≠ c2.toInt := fun h9 => h2 (i_inj h9)
      rw [if_pos h2, cmI_gt, h1]; omega
  · have h3 : b.toInt ≠ b2.toInt := fun h9 => h1 (i_inj h9)
    rw [if_pos h1, cmI_gt]; omega
section
variable {g : eg} {h : eh} {Q : Outcome → eh → Prop}
theorem t_drInit {x : Nat} {c u k l : Int32} (h1 : h.1 x = some (drO (0, 0, 0, 0))) (hq : Q (.returned none) (eh_set h x (drO (c, u, k, l)))) : ew_T g kX15_init 1 [.ref x, .int c, .int u, .int k, .int l] h Q := by
  refine ew_enter (by decide +kernel) (ew_a1 rfl (ew_a1 rfl (ew_a1 rfl (ew_a1 rfl (ew_a1 rfl ew_az))))) (Nat.le_of_ble_eq_true rfl) ?_
  refine ew_aload_n (pc := 0) dX15_init_0 rfl ?_
  refine ew_obj (pc := 1) (ew_q q2153) (ew_q q177) (ew_q q178) (ew_rm (Nat.le_of_ble_eq_true rfl)) dX15_init_1 ?_
  refine ew_aload_n (pc := 4) dX15_init_4 rfl ?_
  refine ew_iload_n (pc := 5) dX15_init_5 rfl ?_
  refine ew_putf (pc := 6) pX15_7 h1 st_0 (Nat.le_of_ble_eq_true rfl) rfl rfl (fun _ => rfl) dX15_init_6 ?_
  have j1 := se_1 h x (ob 14 [.int c, .int 0, .int 0, .int 0])
  refine ew_aload_n (pc := 9) dX15_init_9 rfl ?_
  refine ew_iload_n (pc := 10) dX15_init_10 rfl ?_
  refine ew_putf (pc := 11) pX15_13 j1 st_1 (Nat.le_of_ble_eq_true rfl) rfl rfl (fun _ => rfl) dX15_init_11 ?_
  rw [ew_ss]
  have j2 := se_1 h x (ob 14 [.int c, .int u, .int 0, .int 0])
  refine ew_aload_n (pc := 14) dX15_init_14 rfl ?_
  refine ew_iload_n (pc := 15) dX15_init_15 rfl ?_
  refine ew_putf (pc := 16) pX15_16 j2 st_2 (Nat.le_of_ble_eq_true rfl) rfl rfl (fun _ => rfl) dX15_init_16 ?_
  rw [ew_ss]
  have j3 := se_1 h x (ob 14 [.int c, .int u, .int k, .int 0])
  refine ew_aload_n (pc := 19) dX15_init_19 rfl ?_
  refine ew_iload (pc := 20) dX15_init_20 rfl ?_
  refine ew_putf (pc := 22) pX15_19 j3 st_3 (Nat.le_of_ble_eq_true rfl) rfl rfl (fun _ => rfl) dX15_init_22 ?_
  rw [ew_ss]
  refine ew_vret (pc := 25) rfl dX15_init_25 ?_
  exact hq
theorem t_drWith {x : Nat} {v : drp} {w c : Int32} (h1 : h.1 x = some (drO v)) (hq : Q (.returned (some (.ref h.2.1))) (eh_set (eh_new h (drO (0, 0, 0, 0)) 4) h.2.1 (drO (v.1 ||| sh w, v.2.1 + c, v.2.2.1 + 1, w)))) : ew_T g kX15_with 2 [.ref x, .int w, .int c] h Q := by
  refine ew_enter (by decide +kernel) (ew_a1 rfl (ew_a1 rfl (ew_a1 rfl ew_az))) (Nat.le_of_ble_eq_true rfl) ?_
  refine ew_ok (fun ho => ?_)
  have hl := h_l ho h1
  refine ew_new (pc := 0) nX15_8 dX15_with_0 ?_
  refine ew_dup (pc := 3) dX15_with_3 rfl ?_
  refine ew_aload_n (pc := 4) dX15_with_4 rfl ?_
  refine ew_getf (pc := 5) fX15_7 (rd_nn (rd_of h1) (by omega)) rfl dX15_with_5 ?_
  refine ew_iconst (pc := 8) (v := 1) dX15_with_8 rfl ?_
  refine ew_iload_n (pc := 9) dX15_with_9 rfl ?_
  refine ew_ishl (pc := 10) dX15_with_10 ?_
  refine ew_ior (pc := 11) dX15_with_11 ?_
  refine ew_aload_n (pc := 12) dX15_with_12 rfl ?_
  refine ew_getf (pc := 13) fX15_13 (rd_nn (rd_of h1) (by omega)) rfl dX15_with_13 ?_
  refine ew_iload_n (pc := 16) dX15_with_16 rfl ?_
  refine ew_iadd (pc := 17) dX15_with_17 ?_
  refine ew_aload_n (pc := 18) dX15_with_18 rfl ?_
  refine ew_getf (pc := 19) fX15_16 (rd_nn (rd_of h1) (by omega)) rfl dX15_with_19 ?_
  refine ew_iconst (pc := 22) (v := 1) dX15_with_22 rfl ?_
  refine ew_iadd (pc := 23) dX15_with_23 ?_
  refine ew_iload_n (pc := 24) dX15_with_24 rfl ?_
  refine ew_cI4 (d' := 1) (pc := 25) iX15_22 dX15_with_25 (by decide) (ew_rm (Nat.le_of_ble_eq_true rfl)) ?_
  refine t_drInit (ne_1 _ _ _) ?_
  refine ew_Kv ?_
  refine ew_aret (pc := 28) rfl (Or.inl ⟨_, rfl⟩) (Or.inr ⟨_, rfl⟩) dX15_with_28 ?_
  exact hq
theorem t_drCmp {o x y : Nat} {v w : drp} (ho : rd g h o = some (ob 13 [])) (hx : rd g h x = some (drO v)) (hy : rd g h y = some (drO w)) (hq : Q (.returned (some (.int (drC v w)))) h) : ew_T g kX14_compare 2 [.ref o, .ref x, .ref y] h Q := by
  have c2 : ∀ Q : Outcome → eh → Prop, Q (.returned (some (.int (drC v w)))) h → ew_T g kX14_compare_2 1 [.ref o, .ref x, .ref y] h Q := by
    intro Q hq
    rw [drC] at hq
    refine ew_enter (by decide +kernel) (ew_a1 rfl (ew_a1 rfl (ew_a1 rfl ew_az))) (Nat.le_of_ble_eq_true rfl) ?_
    refine ew_aload_n (pc := 0) dX14_compare_2_0 rfl ?_
    refine ew_getf (pc := 1) fX14_7 hx rfl dX14_compare_2_1 ?_
    refine ew_aload_n (pc := 4) dX14_compare_2_4 rfl ?_
    refine ew_getf (pc := 5) fX14_7 hy rfl dX14_compare_2_5 ?_
    refine ew_icmp_eq (pc := 8) (tgt := 23) dX14_compare_2_8 (by decide) (fun c8 => ?_) (fun c8 => ?_)
    · refine ew_aload_n (pc := 23) dX14_compare_2_23 rfl ?_
      refine ew_getf (pc := 24) fX14_19 hx rfl dX14_compare_2_24 ?_
      refine ew_aload_n (pc := 27) dX14_compare_2_27 rfl ?_
      refine ew_getf (pc := 28) fX14_19 hy rfl dX14_compare_2_28 ?_
      refine ew_icmp_eq (pc := 31) (tgt := 46) dX14_compare_2_31 (by decide) (fun c31 => ?_) (fun c31 => ?_)
      · refine ew_aload_n (pc := 46) dX14_compare_2_46 rfl ?_
        refine ew_getf (pc := 47) fX14_22 hx rfl dX14_compare_2_47 ?_
        refine ew_aload_n (pc := 50) dX14_compare_2_50 rfl ?_
        refine ew_getf (pc := 51) fX14_22 hy rfl dX14_compare_2_51 ?_
        refine ew_cS2 (d' := 0) (pc := 54) sX14_13 dX14_compare_2_54 (by decide) (ew_rm (Nat.le_of_ble_eq_true rfl)) ?_
        refine t_icmp ?_
        refine ew_Kr ?_
        refine ew_iret (pc := 57) rfl dX14_compare_2_57 ?_
        first
        | rw [if_pos c8] at hq
          exact hq
        | rw [if_neg (fun h9 => h9 c8), if_pos c31] at hq
          exact hq
        | rw [if_neg (fun h9 => h9 c8), if_neg (fun h9 => h9 c31)] at hq
          exact hq
      · refine ew_aload_n (pc := 34) dX14_compare_2_34 rfl ?_
        refine ew_getf (pc := 35) fX14_19 hx rfl dX14_compare_2_35 ?_
        refine ew_aload_n (pc := 38) dX14_compare_2_38 rfl ?_
        refine ew_getf (pc := 39) fX14_19 hy rfl dX14_compare_2_39 ?_
        refine ew_cS2 (d' := 0) (pc := 42) sX14_13 dX14_compare_2_42 (by decide) (ew_rm (Nat.le_of_ble_eq_true rfl)) ?_
        refine t_icmp ?_
        refine ew_Kr ?_
        refine ew_iret (pc := 45) rfl dX14_compare_2_45 ?_
        first
        | rw [if_pos c8] at hq
          exact hq
        | rw [if_neg (fun h9 => h9 c8), if_pos c31] at hq
          exact hq
        | rw [if_neg (fun h9 => h9 c8), if_neg (fun h9 => h9 c31)] at hq
          exact hq
    · refine ew_aload_n (pc := 11) dX14_compare_2_11 rfl ?_
      refine ew_getf (pc := 12) fX14_7 hx rfl dX14_compare_2_12 ?_
      refine ew_aload_n (pc := 15) dX14_compare_2_15 rfl ?_
      refine ew_getf (pc := 16) fX14_7 hy rfl dX14_compare_2_16 ?_
      refine ew_cS2 (d' := 0) (pc := 19) sX14_13 dX14_compare_2_19 (by decide) (ew_rm (Nat.le_of_ble_eq_true rfl)) ?_
      refine t_icmp ?_
      refine ew_Kr ?_
      refine ew_iret (pc := 22) rfl dX14_compare_2_22 ?_
      first
      | rw [if_pos c8] at hq
        exact hq
      | rw [if_neg (fun h9 => h9 c8), if_pos c31] at hq
        exact hq
      | rw [if_neg (fun h9 => h9 c8), if_neg (fun h9 => h9 c31)] at hq
        exact hq
  refine ew_enter (by decide +kernel) (ew_a1 rfl (ew_a1 rfl (ew_a1 rfl ew_az))) (Nat.le_of_ble_eq_true rfl) ?_
  refine ew_aload_n (pc := 0) dX14_compare_0 rfl ?_
  refine ew_aload_n (pc := 1) dX14_compare_1 rfl ?_
  refine ew_cast (pc := 2) rfl hx (ew_q q901) (Or.inl rfl) dX14_compare_2 ?_
  refine ew_aload_n (pc := 5) dX14_compare_5 rfl ?_
  refine ew_cast (pc := 6) rfl hy (ew_q q901) (Or.inl rfl) dX14_compare_6 ?_
  refine ew_cV2 (d' := 1) (pc := 9) vX14_25 ho dX14_compare_9 (by decide) (ew_rm (Nat.le_of_ble_eq_true rfl)) ?_
  refine c2 _ ?_
  refine ew_Kr ?_
  refine ew_iret (pc := 12) rfl dX14_compare_12 ?_
  exact hq
end
