/-! EW: the reference: numbers, windows, steps -/
set_option maxRecDepth 100000
/-- a boolean as an int -/
def bI (p : Prop) [Decidable p] : Int32 := if p then 1 else 0
theorem bI_t {p : Prop} [Decidable p] (h : p) : bI p = 1 := if_pos h
theorem bI_f {p : Prop} [Decidable p] (h : ¬ p) : bI p = 0 := if_neg h
theorem bI_T {p : Prop} [Decidable p] (h : p) : 1 = bI p := (bI_t h).symm
theorem bI_F {p : Prop} [Decidable p] (h : ¬ p) : 0 = bI p := (bI_f h).symm
theorem bI_0 {p : Prop} [Decidable p] : bI p = 0 ↔ ¬ p := by
  by_cases h : p
  · rw [bI_t h]; exact ⟨fun h9 => absurd h9 (by decide), fun h9 => absurd h h9⟩
  · rw [bI_f h]; exact ⟨fun _ => h, fun _ => rfl⟩
theorem bI_n {p : Prop} [Decidable p] : ¬ bI p = 0 ↔ p := by
  rw [bI_0]; exact Decidable.not_not
theorem bI_1 {p : Prop} [Decidable p] : bI p = 1 ↔ p := by
  by_cases h : p
  · rw [bI_t h]; exact ⟨fun _ => h, fun _ => rfl⟩
  · rw [bI_f h]; exact ⟨fun h9 => absurd h9 (by decide), fun h9 => absurd h9 h⟩
theorem bI_nar {p : Prop} [Decidable p] : narrow .boolean (.int (bI p)) = .int (bI p) := by
  by_cases h : p
  · rw [bI_t h]; rfl
  · rw [bI_f h]; rfl
theorem bI_c {p q : Prop} [Decidable p] [Decidable q] (h : p ↔ q) : bI p = bI q := by
  by_cases h9 : p
  · rw [bI_t h9, bI_t (h.mp h9)]
  · rw [bI_f h9, bI_f (fun h8 => h9 (h.mpr h8))]
theorem t_inT {g : eg} {h : eh} {v low high : Int32} {Q : Outcome → eh → Prop} (hq : Q (.returned (some (.int (bI (low ≤ v ∧ v ≤ high))))) h) : ew_T g kX2_in 0 [.int v, .int low, .int high] h Q := by
  refine ew_enter (by decide +kernel) (ew_a1 rfl (ew_a1 rfl (ew_a1 rfl ew_az))) (Nat.le_of_ble_eq_true rfl) ?_
  refine ew_iload_n (pc := 0) dX2_in_0 rfl ?_
  refine ew_iload_n (pc := 1) dX2_in_1 rfl ?_
  refine ew_icmp_gt (pc := 2) (tgt := 14) dX2_in_2 (by decide) (fun c2 => ?_) (fun c2 => ?_)
  · refine ew_iconst (pc := 14) (v := 0) dX2_in_14 rfl ?_
    refine ew_zret (pc := 15) (ty := .boolean) rfl rfl dX2_in_15 ?_
    first | (rw [bI_f (fun h9 => absurd h9.1 (Int32.not_le.mpr c2))] at hq; exact hq) | (rw [bI_f (fun h9 => absurd h9.2 (Int32.not_le.mpr c7))] at hq; exact hq) | (rw [bI_t ⟨Int32.not_lt.mp c2, Int32.not_lt.mp c7⟩] at hq; exact hq)
  · refine ew_iload_n (pc := 5) dX2_in_5 rfl ?_
    refine ew_iload_n (pc := 6) dX2_in_6 rfl ?_
    refine ew_icmp_gt (pc := 7) (tgt := 14) dX2_in_7 (by decide) (fun c7 => ?_) (fun c7 => ?_)
    · refine ew_iconst (pc := 14) (v := 0) dX2_in_14 rfl ?_
      refine ew_zret (pc := 15) (ty := .boolean) rfl rfl dX2_in_15 ?_
      first | (rw [bI_f (fun h9 => absurd h9.1 (Int32.not_le.mpr c2))] at hq; exact hq) | (rw [bI_f (fun h9 => absurd h9.2 (Int32.not_le.mpr c7))] at hq; exact hq) | (rw [bI_t ⟨Int32.not_lt.mp c2, Int32.not_lt.mp c7⟩] at hq; exact hq)
    · refine ew_iconst (pc := 10) (v := 1) dX2_in_10 rfl ?_
      refine ew_goto (pc := 11) (tgt := 15) dX2_in_11 (by decide) ?_
      refine ew_zret (pc := 15) (ty := .boolean) rfl rfl dX2_in_15 ?_
      first | (rw [bI_f (fun h9 => absurd h9.1 (Int32.not_le.mpr c2))] at hq; exact hq) | (rw [bI_f (fun h9 => absurd h9.2 (Int32.not_le.mpr c7))] at hq; exact hq) | (rw [bI_t ⟨Int32.not_lt.mp c2, Int32.not_lt.mp c7⟩] at hq; exact hq)
theorem t_hasT {g : eg} {h : eh} {set k : Int32} {Q : Outcome → eh → Prop} (hq : Q (.returned (some (.int (bI (hasB set k))))) h) : ew_T g kX2_has 0 [.int set, .int k] h Q := by
  refine ew_enter (by decide +kernel) (ew_a1 rfl (ew_a1 rfl ew_az)) (Nat.le_of_ble_eq_true rfl) ?_
  refine ew_iload_n (pc := 0) dX2_has_0 rfl ?_
  refine ew_iload_n (pc := 1) dX2_has_1 rfl ?_
  refine ew_ishr (pc := 2) dX2_has_2 ?_
  refine ew_iconst (pc := 3) (v := 1) dX2_has_3 rfl ?_
  refine ew_iand (pc := 4) dX2_has_4 ?_
  refine ew_iconst (pc := 5) (v := 1) dX2_has_5 rfl ?_
  refine ew_icmp_ne (pc := 6) (tgt := 13) dX2_has_6 (by decide) (fun c6 => ?_) (fun c6 => ?_)
  · refine ew_iconst (pc := 13) (v := 0) dX2_has_13 rfl ?_
    refine ew_zret (pc := 14) (ty := .boolean) rfl rfl dX2_has_14 ?_
    first | (rw [bI_f c6] at hq; exact hq) | (rw [bI_t c6] at hq; exact hq)
  · refine ew_iconst (pc := 9) (v := 1) dX2_has_9 rfl ?_
    refine ew_goto (pc := 10) (tgt := 14) dX2_has_10 (by decide) ?_
    refine ew_zret (pc := 14) (ty := .boolean) rfl rfl dX2_has_14 ?_
    first | (rw [bI_f c6] at hq; exact hq) | (rw [bI_t c6] at hq; exact hq)
theorem t_atT {g : eg} {h : eh} {w i : Int32} {Q : Outcome → eh → Prop} (hq : Q (.returned (some (.int (2 + 6 * w + i)))) h) : ew_T g kX2_at 0 [.int w, .int i] h Q := by
  refine ew_enter (by decide +kernel) (ew_a1 rfl (ew_a1 rfl ew_az)) (Nat.le_of_ble_eq_true rfl) ?_
  refine ew_iconst (pc := 0) (v := 2) dX2_at_0 rfl ?_
  refine ew_bipush (pc := 1) (v := 6) dX2_at_1 rfl ?_
  refine ew_iload_n (pc := 3) dX2_at_3 rfl ?_
  refine ew_imul (pc := 4) dX2_at_4 ?_
  refine ew_iadd (pc := 5) dX2_at_5 ?_
  refine ew_iload_n (pc := 6) dX2_at_6 rfl ?_
  refine ew_iadd (pc := 7) dX2_at_7 ?_
  refine ew_iret (pc := 8) rfl dX2_at_8 ?_
  exact hq
theorem at_nI (w i : Nat) : 2 + 6 * nI w + nI i = nI (2 + 6 * w + i) := by
  rw [show (2 : Int32) = nI 2 from rfl, show (6 : Int32) = nI 6 from rfl, nI_mul, nI_add, nI_add]
theorem t_ofT {g : eg} {h : eh} {t w i : Nat} {σ : tS} {Q : Outcome → eh → Prop} (hw : w < 24) (hi : i < 6) (hq : Q (.returned (some (.int (σ.2 16 (2 + 6 * w + i))))) (tw t σ h)) : ew_T g kX2_of 1 [.ref t, .int (nI w), .int (nI i)] (tw t σ h) Q := by
  refine ew_enter (by decide +kernel) (ew_a1 rfl (ew_a1 rfl (ew_a1 rfl ew_az))) (Nat.le_of_ble_eq_true rfl) ?_
  refine ew_aload_n (pc := 0) dX2_of_0 rfl ?_
  refine tg_g16 (pc := 1) rfl dX2_of_1 ?_
  refine ew_iload_n (pc := 4) dX2_of_4 rfl ?_
  refine ew_iload_n (pc := 5) dX2_of_5 rfl ?_
  refine ew_cS2 (d' := 0) (pc := 6) sX2_162 dX2_of_6 (by decide) (ew_rm (Nat.le_of_ble_eq_true rfl)) ?_
  refine t_atT ?_
  refine ew_Kr ?_
  refine tg_l16 (pc := 9) (j := 2 + 6 * w + i) (at_nI w i) (by omega) dX2_of_9 ?_
  refine ew_iret (pc := 10) rfl dX2_of_10 ?_
  exact hq
theorem t_eventsNow {g : eg} {h : eh} {t : Nat} {σ : tS} {Q : Outcome → eh → Prop} (hq : Q (.returned (some (.int (σ.2 16 0)))) (tw t σ h)) : ew_T g kX2_eventsNow 0 [.ref t] (tw t σ h) Q := by
  refine ew_enter (by decide +kernel) (ew_a1 rfl ew_az) (Nat.le_of_ble_eq_true rfl) ?_
  refine ew_aload_n (pc := 0) dX2_eventsNow_0 rfl ?_
  refine tg_g16 (pc := 1) rfl dX2_eventsNow_1 ?_
  refine ew_iconst (pc := 4) (v := 0) dX2_eventsNow_4 rfl ?_
  refine tg_l16 (pc := 5) (j := 0) rfl (by decide) dX2_eventsNow_5 ?_
  refine ew_iret (pc := 6) rfl dX2_eventsNow_6 ?_
  exact hq
theorem t_windowsNow {g : eg} {h : eh} {t : Nat} {σ : tS} {Q : Outcome → eh → Prop} (hq : Q (.returned (some (.int (σ.2 16 1)))) (tw t σ h)) : ew_T g kX2_windowsNow 0 [.ref t] (tw t σ h) Q := by
  refine ew_enter (by decide +kernel) (ew_a1 rfl ew_az) (Nat.le_of_ble_eq_true rfl) ?_
  refine ew_aload_n (pc := 0) dX2_windowsNow_0 rfl ?_
  refine tg_g16 (pc := 1) rfl dX2_windowsNow_1 ?_
  refine ew_iconst (pc := 4) (v := 1) dX2_windowsNow_4 rfl ?_
  refine tg_l16 (pc := 5) (j := 1) rfl (by decide) dX2_windowsNow_5 ?_
  refine ew_iret (pc := 6) rfl dX2_windowsNow_6 ?_
  exact hq
theorem t_isFirm {g : eg} {h : eh} {t w : Nat} {σ : tS} {Q : Outcome → eh → Prop} (hw : w < 24) (hq : Q (.returned (some (.int (bI (σ.2 16 (2 + 6 * w + 4) = 0))))) (tw t σ h)) : ew_T g kX2_isFirm 2 [.ref t, .int (nI w)] (tw t σ h) Q := by
  refine ew_enter (by decide +kernel) (ew_a1 rfl (ew_a1 rfl ew_az)) (Nat.le_of_ble_eq_true rfl) ?_
  refine ew_aload_n (pc := 0) dX2_isFirm_0 rfl ?_
  refine ew_iload_n (pc := 1) dX2_isFirm_1 rfl ?_
  refine ew_iconst (pc := 2) (v := 4) dX2_isFirm_2 rfl ?_
  refine ew_cV2 (d' := 1) (pc := 3) vX2_214 (tw_ro _ _ _ _) dX2_isFirm_3 (by decide) (ew_rm (Nat.le_of_ble_eq_true rfl)) ?_
  refine t_ofT (i := 4) hw (by decide) ?_
  refine ew_Kr ?_
  refine ew_if_ne (pc := 6) (tgt := 13) dX2_isFirm_6 (by decide) (fun c6 => ?_) (fun c6 => ?_)
  · refine ew_iconst (pc := 13) (v := 0) dX2_isFirm_13 rfl ?_
    refine ew_zret (pc := 14) (ty := .boolean) rfl rfl dX2_isFirm_14 ?_
    first | (rw [bI_f c6] at hq; exact hq) | (rw [bI_t c6] at hq; exact hq)
  · refine ew_iconst (pc := 9) (v := 1) dX2_isFirm_9 rfl ?_
    refine ew_goto (pc := 10) (tgt := 14) dX2_isFirm_10 (by decide) ?_
    refine ew_zret (pc := 14) (ty := .boolean) rfl rfl dX2_isFirm_14 ?_
    first | (rw [bI_f c6] at hq; exact hq) | (rw [bI_t c6] at hq; exact hq)
theorem t_isDropped {g : eg} {h : eh} {t w : Nat} {σ : tS} {Q : Outcome → eh → Prop} (hw : w < 24) (hq : Q (.returned (some (.int (bI (σ.2 16 (2 + 6 * w + 5) = 1))))) (tw t σ h)) : ew_T g kX2_isDropped 2 [.ref t, .int (nI w)] (tw t σ h) Q := by
  refine ew_enter (by decide +kernel) (ew_a1 rfl (ew_a1 rfl ew_az)) (Nat.le_of_ble_eq_true rfl) ?_
  refine ew_aload_n (pc := 0) dX2_isDropped_0 rfl ?_
  refine ew_iload_n (pc := 1) dX2_isDropped_1 rfl ?_
  refine ew_iconst (pc := 2) (v := 5) dX2_isDropped_2 rfl ?_
  refine ew_cV2 (d' := 1) (pc := 3) vX2_214 (tw_ro _ _ _ _) dX2_isDropped_3 (by decide) (ew_rm (Nat.le_of_ble_eq_true rfl)) ?_
  refine t_ofT (i := 5) hw (by decide) ?_
  refine ew_Kr ?_
  refine ew_iconst (pc := 6) (v := 1) dX2_isDropped_6 rfl ?_
  refine ew_icmp_ne (pc := 7) (tgt := 14) dX2_isDropped_7 (by decide) (fun c7 => ?_) (fun c7 => ?_)
  · refine ew_iconst (pc := 14) (v := 0) dX2_isDropped_14 rfl ?_
    refine ew_zret (pc := 15) (ty := .boolean) rfl rfl dX2_isDropped_15 ?_
    first | (rw [bI_f c7] at hq; exact hq) | (rw [bI_t c7] at hq; exact hq)
  · refine ew_iconst (pc := 10) (v := 1) dX2_isDropped_10 rfl ?_
    refine ew_goto (pc := 11) (tgt := 15) dX2_isDropped_11 (by decide) ?_
    refine ew_zret (pc := 15) (ty := .boolean) rfl rfl dX2_isDropped_15 ?_
    first | (rw [bI_f c7] at hq; exact hq) | (rw [bI_t c7] at hq; exact hq)
/-- one step more in the list of steps -/
def tStep (σ : tS) (m : Nat) (a b s c : Int32) : tS := tI (tA (tA (tA (tA σ 23 (upd (σ.2 23) m a)) 24 (upd (σ.2 24) m b)) 25 (upd (σ.2 25) m s)) 26 (upd (σ.2 26) m c)) 28 (nI (m + 1))
theorem t_stepT {g : eg} {h : eh} {t m : Nat} {σ : tS} {a b s c : Int32} {Q : Outcome → eh → Prop} (hm : σ.1 28 = nI m) (hlt : m < 80) (hq : Q (.returned none) (tw t (tStep σ m a b s c) h)) : ew_T g kX2_step 0 [.ref t, .int a, .int b, .int s, .int c] (tw t σ h) Q := by
  have hm1 : σ.1 28 + 1 = nI (m + 1) := by rw [hm]; exact nI_1 m
  refine ew_enter (by decide +kernel) (ew_a1 rfl (ew_a1 rfl (ew_a1 rfl (ew_a1 rfl (ew_a1 rfl ew_az))))) (Nat.le_of_ble_eq_true rfl) ?_
  refine ew_aload_n (pc := 0) dX2_step_0 rfl ?_
  refine tg_g23 (pc := 1) rfl dX2_step_1 ?_
  refine ew_aload_n (pc := 4) dX2_step_4 rfl ?_
  refine tg_g28 (pc := 5) rfl dX2_step_5 ?_
  refine ew_iload_n (pc := 8) dX2_step_8 rfl ?_
  refine tg_s23 (pc := 9) (j := m) hm hlt dX2_step_9 ?_
  refine ew_aload_n (pc := 10) dX2_step_10 rfl ?_
  refine tg_g24 (pc := 11) rfl dX2_step_11 ?_
  refine ew_aload_n (pc := 14) dX2_step_14 rfl ?_
  refine tg_g28 (pc := 15) rfl dX2_step_15 ?_
  refine ew_iload_n (pc := 18) dX2_step_18 rfl ?_
  refine tg_s24 (pc := 19) (j := m) hm hlt dX2_step_19 ?_
  refine ew_aload_n (pc := 20) dX2_step_20 rfl ?_
  refine tg_g25 (pc := 21) rfl dX2_step_21 ?_
  refine ew_aload_n (pc := 24) dX2_step_24 rfl ?_
  refine tg_g28 (pc := 25) rfl dX2_step_25 ?_
  refine ew_iload_n (pc := 28) dX2_step_28 rfl ?_
  refine tg_s25 (pc := 29) (j := m) hm hlt dX2_step_29 ?_
  refine ew_aload_n (pc := 30) dX2_step_30 rfl ?_
  refine tg_g26 (pc := 31) rfl dX2_step_31 ?_
  refine ew_aload_n (pc := 34) dX2_step_34 rfl ?_
  refine tg_g28 (pc := 35) rfl dX2_step_35 ?_
  refine ew_iload (pc := 38) dX2_step_38 rfl ?_
  refine tg_s26 (pc := 40) (j := m) hm hlt dX2_step_40 ?_
  refine ew_aload_n (pc := 41) dX2_step_41 rfl ?_
  refine ew_dup (pc := 42) dX2_step_42 rfl ?_
  refine tg_g28 (pc := 43) rfl dX2_step_43 ?_
  refine ew_iconst (pc := 46) (v := 1) dX2_step_46 rfl ?_
  refine ew_iadd (pc := 47) dX2_step_47 ?_
  refine tg_p28 (pc := 48) rfl dX2_step_48 ?_
  refine ew_vret (pc := 51) rfl dX2_step_51 ?_
  rw [tStep, ← hm1] at hq
  exact hq
/-- the times as the net has them -/
def tTimes (N f : Nat → Int32) : Nat → Nat → Int32
  | 0 => f
  | e + 1 => upd (tTimes N f e) e (N (146 + e))
theorem t_timesAsFixed {g : eg} {h : eh} {t : Nat} {σ : tS} {Q : Outcome → eh → Prop} (hq : Q (.returned none) (tw t (tA σ 27 (tTimes (σ.2 16) (σ.2 27) 10)) h)) : ew_T g kX2_timesAsFixed 0 [.ref t] (tw t σ h) Q := by
  have loop : ∀ m e, e + m = 10 → ew_G g kX2_timesAsFixed 0 2 [.ref t, .int (nI e)] [] (tw t (tA σ 27 (tTimes (σ.2 16) (σ.2 27) e)) h) Q := by
    intro m
    induction m with
    | zero =>
      intro e hb
      have e9 : e = 10 := by omega
      subst e9
      refine ew_iload_n (pc := 2) dX2_timesAsFixed_2 rfl ?_
      refine ew_bipush (pc := 3) (v := 10) dX2_timesAsFixed_3 rfl ?_
      refine ew_icmp_ge (pc := 5) (tgt := 30) dX2_timesAsFixed_5 (by decide) (fun c5 => ?_) (fun c5 => absurd (nI_le (Nat.le_refl 10) (by omega)) c5)
      refine ew_vret (pc := 30) rfl dX2_timesAsFixed_30 ?_
      exact hq
    | succ m ih =>
      intro e hb
      have he : e < 10 := by omega
      refine ew_iload_n (pc := 2) dX2_timesAsFixed_2 rfl ?_
      refine ew_bipush (pc := 3) (v := 10) dX2_timesAsFixed_3 rfl ?_
      refine ew_icmp_ge (pc := 5) (tgt := 30) dX2_timesAsFixed_5 (by decide) (fun c5 => absurd c5 (nI_ge (b := 10) he (by decide))) (fun c5 => ?_)
      refine ew_aload_n (pc := 8) dX2_timesAsFixed_8 rfl ?_
      refine tg_g27 (pc := 9) rfl dX2_timesAsFixed_9 ?_
      refine ew_iload_n (pc := 12) dX2_timesAsFixed_12 rfl ?_
      refine ew_aload_n (pc := 13) dX2_timesAsFixed_13 rfl ?_
      refine tg_g16 (pc := 14) rfl dX2_timesAsFixed_14 ?_
      refine ew_sipush (pc := 17) (v := 146) dX2_timesAsFixed_17 rfl ?_
      refine ew_iload_n (pc := 20) dX2_timesAsFixed_20 rfl ?_
      refine ew_iadd (pc := 21) dX2_timesAsFixed_21 ?_
      refine tg_l16 (pc := 22) (j := 146 + e) (by rw [show (146 : Int32) = nI 146 from rfl, nI_add]) (by omega) dX2_timesAsFixed_22 ?_
      refine tg_s27 (pc := 23) (j := e) rfl he dX2_timesAsFixed_23 ?_
      rw [tA_tA]
      refine ew_iinc (pc := 24) dX2_timesAsFixed_24 rfl (nI_inc e) (by decide) (p1_1 rfl) ?_
      refine ew_goto (pc := 27) (tgt := 2) dX2_timesAsFixed_27 (by decide) ?_
      exact ih (e + 1) (by omega)
  have h0 := loop 10 0 (by omega)
  rw [tTimes, tA_id] at h0
  refine ew_enter (by decide +kernel) (ew_a1 rfl (ew_an ew_az)) (Nat.le_of_ble_eq_true rfl) ?_
  refine ew_iconst (pc := 0) (v := 0) dX2_timesAsFixed_0 rfl ?_
  refine ew_istore_n (pc := 1) dX2_timesAsFixed_1 rfl (by decide) (p1_1 rfl) ?_
  exact h0
