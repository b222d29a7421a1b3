/-! EW: windows -/
set_option maxRecDepth 100000
/-- the fields of a window -/
abbrev wV (a b lo hi co dr : Int32) : ac := ob 4 [.int a, .int b, .int lo, .int hi, .int co, .int dr]
theorem t_wInit {g : eg} {h : eh} {x : Nat} {a b lo hi co : Int32} {Q : Outcome → eh → Prop} (h1 : h.1 x = some (wV 0 0 0 0 0 0)) (hq : Q (.returned none) (eh_set h x (wV a b lo hi co 0))) : ew_T g kX5_init 1 [.ref x, .int a, .int b, .int lo, .int hi, .int co] h Q := by
  refine ew_enter (by decide +kernel) (ew_a1 rfl (ew_a1 rfl (ew_a1 rfl (ew_a1 rfl (ew_a1 rfl (ew_a1 rfl ew_az)))))) (Nat.le_of_ble_eq_true rfl) ?_
  refine ew_aload_n (pc := 0) dX5_init_0 rfl ?_
  refine ew_obj (pc := 1) (ew_q q1391) (ew_q q177) (ew_q q178) (ew_rm (Nat.le_of_ble_eq_true rfl)) dX5_init_1 ?_
  refine ew_aload_n (pc := 4) dX5_init_4 rfl ?_
  refine ew_iload_n (pc := 5) dX5_init_5 rfl ?_
  refine ew_putf (pc := 6) pX5_9 h1 st_0 (Nat.le_of_ble_eq_true rfl) rfl rfl (fun _ => rfl) dX5_init_6 ?_
  have j1 := se_1 h x (wV a 0 0 0 0 0)
  refine ew_aload_n (pc := 9) dX5_init_9 rfl ?_
  refine ew_iload_n (pc := 10) dX5_init_10 rfl ?_
  refine ew_putf (pc := 11) pX5_15 j1 st_1 (Nat.le_of_ble_eq_true rfl) rfl rfl (fun _ => rfl) dX5_init_11 ?_
  rw [ew_ss]
  have j2 := se_1 h x (wV a b 0 0 0 0)
  refine ew_aload_n (pc := 14) dX5_init_14 rfl ?_
  refine ew_iload_n (pc := 15) dX5_init_15 rfl ?_
  refine ew_putf (pc := 16) pX5_18 j2 st_2 (Nat.le_of_ble_eq_true rfl) rfl rfl (fun h9 => absurd h9 Bool.false_ne_true) dX5_init_16 ?_
  rw [ew_ss]
  have j3 := se_1 h x (wV a b lo 0 0 0)
  refine ew_aload_n (pc := 19) dX5_init_19 rfl ?_
  refine ew_iload (pc := 20) dX5_init_20 rfl ?_
  refine ew_putf (pc := 22) pX5_21 j3 st_3 (Nat.le_of_ble_eq_true rfl) rfl rfl (fun h9 => absurd h9 Bool.false_ne_true) dX5_init_22 ?_
  rw [ew_ss]
  have j4 := se_1 h x (wV a b lo hi 0 0)
  refine ew_aload_n (pc := 25) dX5_init_25 rfl ?_
  refine ew_iload (pc := 26) dX5_init_26 rfl ?_
  refine ew_putf (pc := 28) pX5_24 j4 st_4 (Nat.le_of_ble_eq_true rfl) rfl rfl (fun h9 => absurd h9 Bool.false_ne_true) dX5_init_28 ?_
  rw [ew_ss]
  refine ew_vret (pc := 31) rfl dX5_init_31 ?_
  exact hq
theorem t_wCopy {g : eg} {h : eh} {x : Nat} {a b lo hi co dr : Int32} {Q : Outcome → eh → Prop} (hg : gOC g) (h1 : rd g h x = some (wV a b lo hi co dr)) (hd : dr = 0 ∨ dr = 1)
    (hq : ∀ h', h'.1 h.2.1 = some (wV a b lo hi co dr) → Ke [] 1 6 h h' → Q (.returned (some (.ref h.2.1))) h') : ew_T g kX5_copy 2 [.ref x] h Q := by
  refine ew_enter (by decide +kernel) (ew_a1 rfl (ew_an ew_az)) (Nat.le_of_ble_eq_true rfl) ?_
  refine ew_ok (fun ho => ?_)
  have hl := rd_l hg ho h1
  have h2 := rd_nn (e := wV 0 0 0 0 0 0) (n := 6) h1 (by omega)
  have h3 : rd g (eh_set (eh_new h (wV 0 0 0 0 0 0) 6) h.2.1 (wV a b lo hi co 0)) x = some (wV a b lo hi co dr) := rd_sn h2 (by omega)
  have hnar : narrow .boolean (.int dr) = .int dr ∧ fits .boolean (.int dr) = true := by rcases hd with rfl | rfl <;> exact ⟨rfl, rfl⟩
  refine ew_new (pc := 0) nX5_10 dX5_copy_0 ?_
  refine ew_dup (pc := 3) dX5_copy_3 rfl ?_
  refine ew_aload_n (pc := 4) dX5_copy_4 rfl ?_
  refine ew_getf (pc := 5) fX5_9 h2 rfl dX5_copy_5 ?_
  refine ew_aload_n (pc := 8) dX5_copy_8 rfl ?_
  refine ew_getf (pc := 9) fX5_15 h2 rfl dX5_copy_9 ?_
  refine ew_aload_n (pc := 12) dX5_copy_12 rfl ?_
  refine ew_getf (pc := 13) fX5_18 h2 rfl dX5_copy_13 ?_
  refine ew_aload_n (pc := 16) dX5_copy_16 rfl ?_
  refine ew_getf (pc := 17) fX5_21 h2 rfl dX5_copy_17 ?_
  refine ew_aload_n (pc := 20) dX5_copy_20 rfl ?_
  refine ew_getf (pc := 21) fX5_24 h2 rfl dX5_copy_21 ?_
  refine ew_cI5 (d' := 1) (pc := 24) iX5_27 dX5_copy_24 (by decide) (ew_rm (Nat.le_of_ble_eq_true rfl)) ?_
  refine t_wInit (ne_1 _ _ _) ?_
  refine ew_Kv ?_
  first | refine ew_astore_n (pc := 27) dX5_copy_27 rfl (by decide) (p1_1 rfl) ?_ | refine ew_astore_nq (pc := 27) dX5_copy_27 rfl (by decide) (p1_1 rfl) ?_ | refine ew_astore_nN (pc := 27) dX5_copy_27 rfl (by decide) (p1_1 rfl) ?_
  refine ew_aload_n (pc := 28) dX5_copy_28 rfl ?_
  refine ew_aload_n (pc := 29) dX5_copy_29 rfl ?_
  refine ew_getf (pc := 30) fX5_30 h3 rfl dX5_copy_30 ?_
  refine ew_putf (pc := 33) pX5_30 (se_1 _ _ _) st_5 (Nat.le_of_ble_eq_true rfl) hnar.1 hnar.2 (fun h9 => absurd h9 Bool.false_ne_true) dX5_copy_33 ?_
  rw [ew_ss]
  refine ew_aload_n (pc := 36) dX5_copy_36 rfl ?_
  refine ew_aret (pc := 37) rfl (Or.inl ⟨_, rfl⟩) (Or.inr ⟨_, rfl⟩) dX5_copy_37 ?_
  refine hq _ (se_1 _ _ _) ?_
  exact Ke.new.t Ke.set (fun a h9 => absurd h9 (List.not_mem_nil)) (fun a h9 h8 => by rw [List.mem_singleton.mp h9] at h8; omega) (by decide) (by decide)
theorem t_wSoft {g : eg} {h : eh} {x : Nat} {a b lo hi co dr : Int32} {Q : Outcome → eh → Prop} (h1 : rd g h x = some (wV a b lo hi co dr)) (hq : Q (.returned (some (.int (bI (0 < co ∧ dr = 0))))) h) : ew_T g kX5_isSoft 0 [.ref x] h Q := by
  refine ew_enter (by decide +kernel) (ew_a1 rfl ew_az) (Nat.le_of_ble_eq_true rfl) ?_
  refine ew_aload_n (pc := 0) dX5_isSoft_0 rfl ?_
  refine ew_getf (pc := 1) fX5_24 h1 rfl dX5_isSoft_1 ?_
  refine ew_if_le (pc := 4) (tgt := 18) dX5_isSoft_4 (by decide) (fun c4 => ?_) (fun c4 => ?_)
  · refine ew_iconst (pc := 18) (v := 0) dX5_isSoft_18 rfl ?_
    refine ew_zret (pc := 19) (ty := .boolean) rfl rfl dX5_isSoft_19 ?_
    first
    | rw [bI_f (fun h9 => absurd h9.1 (Int32.not_lt.mpr c4))] at hq
      exact hq
    | rw [bI_f (fun h9 => c11 h9.2)] at hq
      exact hq
    | rw [bI_t ⟨Int32.not_le.mp c4, c11⟩] at hq
      exact hq
    | rw [bI_t ⟨Int32.not_le.mp c4, Decidable.not_not.mp c11⟩] at hq
      exact hq
  · refine ew_aload_n (pc := 7) dX5_isSoft_7 rfl ?_
    refine ew_getf (pc := 8) fX5_30 h1 rfl dX5_isSoft_8 ?_
    refine ew_if_ne (pc := 11) (tgt := 18) dX5_isSoft_11 (by decide) (fun c11 => ?_) (fun c11 => ?_)
    · refine ew_iconst (pc := 18) (v := 0) dX5_isSoft_18 rfl ?_
      refine ew_zret (pc := 19) (ty := .boolean) rfl rfl dX5_isSoft_19 ?_
      first
      | rw [bI_f (fun h9 => absurd h9.1 (Int32.not_lt.mpr c4))] at hq
        exact hq
      | rw [bI_f (fun h9 => c11 h9.2)] at hq
        exact hq
      | rw [bI_t ⟨Int32.not_le.mp c4, c11⟩] at hq
        exact hq
      | rw [bI_t ⟨Int32.not_le.mp c4, Decidable.not_not.mp c11⟩] at hq
        exact hq
    · refine ew_iconst (pc := 14) (v := 1) dX5_isSoft_14 rfl ?_
      refine ew_goto (pc := 15) (tgt := 19) dX5_isSoft_15 (by decide) ?_
      refine ew_zret (pc := 19) (ty := .boolean) rfl rfl dX5_isSoft_19 ?_
      first
      | rw [bI_f (fun h9 => absurd h9.1 (Int32.not_lt.mpr c4))] at hq
        exact hq
      | rw [bI_f (fun h9 => c11 h9.2)] at hq
        exact hq
      | rw [bI_t ⟨Int32.not_le.mp c4, c11⟩] at hq
        exact hq
      | rw [bI_t ⟨Int32.not_le.mp c4, Decidable.not_not.mp c11⟩] at hq
        exact hq
theorem t_wHas {g : eg} {h : eh} {x : Nat} {a b lo hi co dr l : Int32} {Q : Outcome → eh → Prop} (h1 : rd g h x = some (wV a b lo hi co dr)) (hq : Q (.returned (some (.int (bI (dr = 0 ∧ (l = 0 → ¬ hi = -1)))))) h) : ew_T g kX5_hasBound 0 [.ref x, .int l] h Q := by
  refine ew_enter (by decide +kernel) (ew_a1 rfl (ew_a1 rfl ew_az)) (Nat.le_of_ble_eq_true rfl) ?_
  refine ew_aload_n (pc := 0) dX5_hasBound_0 rfl ?_
  refine ew_getf (pc := 1) fX5_30 h1 rfl dX5_hasBound_1 ?_
  refine ew_if_ne (pc := 4) (tgt := 23) dX5_hasBound_4 (by decide) (fun c4 => ?_) (fun c4 => ?_)
  · refine ew_iconst (pc := 23) (v := 0) dX5_hasBound_23 rfl ?_
    refine ew_zret (pc := 24) (ty := .boolean) rfl rfl dX5_hasBound_24 ?_
    first
    | rw [bI_f (show ¬ (dr = 0 ∧ (l = 0 → ¬ hi = -1)) from fun h9 => c4 h9.1)] at hq
      exact hq
    | rw [bI_f (show ¬ (dr = 0 ∧ (l = 0 → ¬ hi = -1)) from fun h9 => h9.2 c8 c16)] at hq
      exact hq
    | rw [bI_t (show dr = 0 ∧ (l = 0 → ¬ hi = -1) from ⟨c4, fun h9 => absurd h9 c8⟩)] at hq
      exact hq
    | rw [bI_t (show dr = 0 ∧ (l = 0 → ¬ hi = -1) from ⟨c4, fun _ => c16⟩)] at hq
      exact hq
  · refine ew_iload_n (pc := 7) dX5_hasBound_7 rfl ?_
    refine ew_if_ne (pc := 8) (tgt := 19) dX5_hasBound_8 (by decide) (fun c8 => ?_) (fun c8 => ?_)
    · refine ew_iconst (pc := 19) (v := 1) dX5_hasBound_19 rfl ?_
      refine ew_goto (pc := 20) (tgt := 24) dX5_hasBound_20 (by decide) ?_
      refine ew_zret (pc := 24) (ty := .boolean) rfl rfl dX5_hasBound_24 ?_
      first
      | rw [bI_f (show ¬ (dr = 0 ∧ (l = 0 → ¬ hi = -1)) from fun h9 => c4 h9.1)] at hq
        exact hq
      | rw [bI_f (show ¬ (dr = 0 ∧ (l = 0 → ¬ hi = -1)) from fun h9 => h9.2 c8 c16)] at hq
        exact hq
      | rw [bI_t (show dr = 0 ∧ (l = 0 → ¬ hi = -1) from ⟨c4, fun h9 => absurd h9 c8⟩)] at hq
        exact hq
      | rw [bI_t (show dr = 0 ∧ (l = 0 → ¬ hi = -1) from ⟨c4, fun _ => c16⟩)] at hq
        exact hq
    · refine ew_aload_n (pc := 11) dX5_hasBound_11 rfl ?_
      refine ew_getf (pc := 12) fX5_21 h1 rfl dX5_hasBound_12 ?_
      refine ew_iconst (pc := 15) (v := -1) dX5_hasBound_15 rfl ?_
      refine ew_icmp_eq (pc := 16) (tgt := 23) dX5_hasBound_16 (by decide) (fun c16 => ?_) (fun c16 => ?_)
      · refine ew_iconst (pc := 23) (v := 0) dX5_hasBound_23 rfl ?_
        refine ew_zret (pc := 24) (ty := .boolean) rfl rfl dX5_hasBound_24 ?_
        first
        | rw [bI_f (show ¬ (dr = 0 ∧ (l = 0 → ¬ hi = -1)) from fun h9 => c4 h9.1)] at hq
          exact hq
        | rw [bI_f (show ¬ (dr = 0 ∧ (l = 0 → ¬ hi = -1)) from fun h9 => h9.2 c8 c16)] at hq
          exact hq
        | rw [bI_t (show dr = 0 ∧ (l = 0 → ¬ hi = -1) from ⟨c4, fun h9 => absurd h9 c8⟩)] at hq
          exact hq
        | rw [bI_t (show dr = 0 ∧ (l = 0 → ¬ hi = -1) from ⟨c4, fun _ => c16⟩)] at hq
          exact hq
      · refine ew_iconst (pc := 19) (v := 1) dX5_hasBound_19 rfl ?_
        refine ew_goto (pc := 20) (tgt := 24) dX5_hasBound_20 (by decide) ?_
        refine ew_zret (pc := 24) (ty := .boolean) rfl rfl dX5_hasBound_24 ?_
        first
        | rw [bI_f (show ¬ (dr = 0 ∧ (l = 0 → ¬ hi = -1)) from fun h9 => c4 h9.1)] at hq
          exact hq
        | rw [bI_f (show ¬ (dr = 0 ∧ (l = 0 → ¬ hi = -1)) from fun h9 => h9.2 c8 c16)] at hq
          exact hq
        | rw [bI_t (show dr = 0 ∧ (l = 0 → ¬ hi = -1) from ⟨c4, fun h9 => absurd h9 c8⟩)] at hq
          exact hq
        | rw [bI_t (show dr = 0 ∧ (l = 0 → ¬ hi = -1) from ⟨c4, fun _ => c16⟩)] at hq
          exact hq
theorem t_wPart {g : eg} {h : eh} {x k : Nat} {a b lo hi co dr : Int32} {Q : Outcome → eh → Prop} (h1 : rd g h x = some (wV a b lo hi co dr)) (hd : dr = 0 ∨ dr = 1) (hk : k < 6) (hq : Q (.returned (some (.int ([a, b, lo, hi, co, dr].getD k 0)))) h) : ew_T g kX5_part 0 [.ref x, .int (nI k)] h Q := by
  rcases (by omega : k = 0 ∨ k = 1 ∨ k = 2 ∨ k = 3 ∨ k = 4 ∨ k = 5) with rfl | rfl | rfl | rfl | rfl | rfl
  · skip
    refine ew_enter (by decide +kernel) (ew_a1 rfl (ew_a1 rfl ew_az)) (Nat.le_of_ble_eq_true rfl) ?_
    refine ew_iload_n (pc := 0) dX5_part_0 rfl ?_
    refine ew_tableIn (pc := 1) (tgt := 36) dX5_part_1 (by decide) (by decide) rfl (by decide) ?_
    refine ew_aload_n (pc := 36) dX5_part_36 rfl ?_
    refine ew_getf (pc := 37) fX5_9 h1 rfl dX5_part_37 ?_
    refine ew_goto (pc := 40) (tgt := 83) dX5_part_40 (by decide) ?_
    refine ew_iret (pc := 83) rfl dX5_part_83 ?_
    exact hq
  · skip
    refine ew_enter (by decide +kernel) (ew_a1 rfl (ew_a1 rfl ew_az)) (Nat.le_of_ble_eq_true rfl) ?_
    refine ew_iload_n (pc := 0) dX5_part_0 rfl ?_
    refine ew_tableIn (pc := 1) (tgt := 43) dX5_part_1 (by decide) (by decide) rfl (by decide) ?_
    refine ew_aload_n (pc := 43) dX5_part_43 rfl ?_
    refine ew_getf (pc := 44) fX5_15 h1 rfl dX5_part_44 ?_
    refine ew_goto (pc := 47) (tgt := 83) dX5_part_47 (by decide) ?_
    refine ew_iret (pc := 83) rfl dX5_part_83 ?_
    exact hq
  · skip
    refine ew_enter (by decide +kernel) (ew_a1 rfl (ew_a1 rfl ew_az)) (Nat.le_of_ble_eq_true rfl) ?_
    refine ew_iload_n (pc := 0) dX5_part_0 rfl ?_
    refine ew_tableIn (pc := 1) (tgt := 50) dX5_part_1 (by decide) (by decide) rfl (by decide) ?_
    refine ew_aload_n (pc := 50) dX5_part_50 rfl ?_
    refine ew_getf (pc := 51) fX5_18 h1 rfl dX5_part_51 ?_
    refine ew_goto (pc := 54) (tgt := 83) dX5_part_54 (by decide) ?_
    refine ew_iret (pc := 83) rfl dX5_part_83 ?_
    exact hq
  · skip
    refine ew_enter (by decide +kernel) (ew_a1 rfl (ew_a1 rfl ew_az)) (Nat.le_of_ble_eq_true rfl) ?_
    refine ew_iload_n (pc := 0) dX5_part_0 rfl ?_
    refine ew_tableIn (pc := 1) (tgt := 57) dX5_part_1 (by decide) (by decide) rfl (by decide) ?_
    refine ew_aload_n (pc := 57) dX5_part_57 rfl ?_
    refine ew_getf (pc := 58) fX5_21 h1 rfl dX5_part_58 ?_
    refine ew_goto (pc := 61) (tgt := 83) dX5_part_61 (by decide) ?_
    refine ew_iret (pc := 83) rfl dX5_part_83 ?_
    exact hq
  · skip
    refine ew_enter (by decide +kernel) (ew_a1 rfl (ew_a1 rfl ew_az)) (Nat.le_of_ble_eq_true rfl) ?_
    refine ew_iload_n (pc := 0) dX5_part_0 rfl ?_
    refine ew_tableIn (pc := 1) (tgt := 64) dX5_part_1 (by decide) (by decide) rfl (by decide) ?_
    refine ew_aload_n (pc := 64) dX5_part_64 rfl ?_
    refine ew_getf (pc := 65) fX5_24 h1 rfl dX5_part_65 ?_
    refine ew_goto (pc := 68) (tgt := 83) dX5_part_68 (by decide) ?_
    refine ew_iret (pc := 83) rfl dX5_part_83 ?_
    exact hq
  · skip
    refine ew_enter (by decide +kernel) (ew_a1 rfl (ew_a1 rfl ew_az)) (Nat.le_of_ble_eq_true rfl) ?_
    refine ew_iload_n (pc := 0) dX5_part_0 rfl ?_
    refine ew_tableOut (pc := 1) (tgt := 71) dX5_part_1 (by decide) (by decide) ?_
    refine ew_aload_n (pc := 71) dX5_part_71 rfl ?_
    refine ew_getf (pc := 72) fX5_30 h1 rfl dX5_part_72 ?_
    refine ew_if_eq (pc := 75) (tgt := 82) dX5_part_75 (by decide) (fun c75 => ?_) (fun c75 => ?_)
    · refine ew_iconst (pc := 82) (v := 0) dX5_part_82 rfl ?_
      refine ew_iret (pc := 83) rfl dX5_part_83 ?_
      rcases hd with rfl | rfl
      · first
      | exact hq
      | exact absurd rfl c75
      · first
      | exact hq
      | exact absurd c75 (by decide)
    · refine ew_iconst (pc := 78) (v := 1) dX5_part_78 rfl ?_
      refine ew_goto (pc := 79) (tgt := 83) dX5_part_79 (by decide) ?_
      refine ew_iret (pc := 83) rfl dX5_part_83 ?_
      rcases hd with rfl | rfl
      · first
      | exact hq
      | exact absurd rfl c75
      · first
      | exact hq
      | exact absurd c75 (by decide)
def wlH (n : Nat) (f : Nat → Int32) (a b : Nat) (hi ih : Int32) : Nat → Int32 := if ¬ ih = 0 ∧ ¬ hi = -1 then stp n f a b hi else f
def wlF (n : Nat) (f : Nat → Int32) (a b : Nat) (lo hi ih il : Int32) : Nat → Int32 := if ¬ il = 0 then stp n (wlH n f a b hi ih) b a (-lo) else wlH n f a b hi ih
theorem t_wLay {g : eg} {h : eh} {x q A n a b : Nat} {lo hi co dr ih il : Int32} {f : Nat → Int32} {Q : Outcome → eh → Prop} (h1 : rd g h x = some (wV (nI a) (nI b) lo hi co dr)) (hs : Sq g h q A n f) (ha : a < n) (hb : b < n)
    (hq : Q (.returned none) (eh_set h A (aI (n * n) (wlF n f a b lo hi ih il)))) : ew_T g kX5_lay 1 [.ref x, .ref q, .int ih, .int il] h Q := by
  have hxA : x ≠ A := by
    intro e
    rw [e, rd_of hs.2.1] at h1
    cases h1
  have s28 : ∀ F, wlH n f a b hi ih = F → ew_G g kX5_lay 1 28 [.ref x, .ref q, .int ih, .int il] [] (eh_set h A (aI (n * n) F)) Q := by
    intro F hF
    have hs2 := hs.set F
    have h2 := rd_sn (e := aI (n * n) F) h1 hxA
    rw [wlF, hF] at hq
    refine ew_iload_n (pc := 28) dX5_lay_28 rfl ?_
    refine ew_if_eq (pc := 29) (tgt := 49) dX5_lay_29 (by decide) (fun c29 => ?_) (fun c29 => ?_)
    · refine ew_vret (pc := 49) rfl dX5_lay_49 ?_
      first
      | rw [if_neg (fun h9 => h9 c29)] at hq
        exact hq
      | rw [if_pos c29] at hq
        exact hq
    · refine ew_aload_n (pc := 32) dX5_lay_32 rfl ?_
      refine ew_aload_n (pc := 33) dX5_lay_33 rfl ?_
      refine ew_getf (pc := 34) fX5_15 h2 rfl dX5_lay_34 ?_
      refine ew_aload_n (pc := 37) dX5_lay_37 rfl ?_
      refine ew_getf (pc := 38) fX5_9 h2 rfl dX5_lay_38 ?_
      refine ew_aload_n (pc := 41) dX5_lay_41 rfl ?_
      refine ew_getf (pc := 42) fX5_18 h2 rfl dX5_lay_42 ?_
      refine ew_ineg (pc := 45) dX5_lay_45 ?_
      refine ew_cV3 (d' := 0) (pc := 46) vX5_34 hs2.1 dX5_lay_46 (by decide) (ew_rm (Nat.le_of_ble_eq_true rfl)) ?_
      refine t_step hs2 hb ha ?_
      rw [ew_ss]
      refine ew_Kv ?_
      refine ew_vret (pc := 49) rfl dX5_lay_49 ?_
      first
      | rw [if_neg (fun h9 => h9 c29)] at hq
        exact hq
      | rw [if_pos c29] at hq
        exact hq
  refine ew_enter (by decide +kernel) (ew_a1 rfl (ew_a1 rfl (ew_a1 rfl (ew_a1 rfl ew_az)))) (Nat.le_of_ble_eq_true rfl) ?_
  refine ew_iload_n (pc := 0) dX5_lay_0 rfl ?_
  refine ew_if_eq (pc := 1) (tgt := 28) dX5_lay_1 (by decide) (fun c1 => ?_) (fun c1 => ?_)
  · first
    | exact s28 _ (if_pos (show ¬ ih = 0 ∧ ¬ hi = -1 from ⟨c1, c9⟩))
    | have h9 := s28 f (if_neg (show ¬ (¬ ih = 0 ∧ ¬ hi = -1) from fun h9 => h9.1 c1))
      rw [ew_sid hs.2.1] at h9
      exact h9
    | have h9 := s28 f (if_neg (show ¬ (¬ ih = 0 ∧ ¬ hi = -1) from fun h9 => h9.2 c9))
      rw [ew_sid hs.2.1] at h9
      exact h9
  · refine ew_aload_n (pc := 4) dX5_lay_4 rfl ?_
    refine ew_getf (pc := 5) fX5_21 h1 rfl dX5_lay_5 ?_
    refine ew_iconst (pc := 8) (v := -1) dX5_lay_8 rfl ?_
    refine ew_icmp_eq (pc := 9) (tgt := 28) dX5_lay_9 (by decide) (fun c9 => ?_) (fun c9 => ?_)
    · first
      | exact s28 _ (if_pos (show ¬ ih = 0 ∧ ¬ hi = -1 from ⟨c1, c9⟩))
      | have h9 := s28 f (if_neg (show ¬ (¬ ih = 0 ∧ ¬ hi = -1) from fun h9 => h9.1 c1))
        rw [ew_sid hs.2.1] at h9
        exact h9
      | have h9 := s28 f (if_neg (show ¬ (¬ ih = 0 ∧ ¬ hi = -1) from fun h9 => h9.2 c9))
        rw [ew_sid hs.2.1] at h9
        exact h9
    · refine ew_aload_n (pc := 12) dX5_lay_12 rfl ?_
      refine ew_aload_n (pc := 13) dX5_lay_13 rfl ?_
      refine ew_getf (pc := 14) fX5_9 h1 rfl dX5_lay_14 ?_
      refine ew_aload_n (pc := 17) dX5_lay_17 rfl ?_
      refine ew_getf (pc := 18) fX5_15 h1 rfl dX5_lay_18 ?_
      refine ew_aload_n (pc := 21) dX5_lay_21 rfl ?_
      refine ew_getf (pc := 22) fX5_21 h1 rfl dX5_lay_22 ?_
      refine ew_cV3 (d' := 0) (pc := 25) vX5_34 hs.1 dX5_lay_25 (by decide) (ew_rm (Nat.le_of_ble_eq_true rfl)) ?_
      refine t_step hs ha hb ?_
      refine ew_Kv ?_
      first
      | exact s28 _ (if_pos (show ¬ ih = 0 ∧ ¬ hi = -1 from ⟨c1, c9⟩))
      | have h9 := s28 f (if_neg (show ¬ (¬ ih = 0 ∧ ¬ hi = -1) from fun h9 => h9.1 c1))
        rw [ew_sid hs.2.1] at h9
        exact h9
      | have h9 := s28 f (if_neg (show ¬ (¬ ih = 0 ∧ ¬ hi = -1) from fun h9 => h9.2 c9))
        rw [ew_sid hs.2.1] at h9
        exact h9
