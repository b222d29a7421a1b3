/-! EW: the reference: what is remembered -/
set_option maxRecDepth 100000
def cpG (f G : Nat → Int32) (i j : Nat) : Nat → Nat → Int32
  | 0 => G
  | k + 1 => upd (cpG f G i j k) (j + k) (f (i + k))
theorem cpG_at (f G : Nat → Int32) (i j : Nat) : ∀ m k, cpG f G i j m k = if j ≤ k ∧ k < j + m then f (i + (k - j)) else G k
  | 0, k => by rw [cpG, if_neg (by omega)]
  | m + 1, k => by
    have := cpG_at f G i j m k
    by_cases h1 : k = j + m
    · subst h1
      rw [cpG, if_pos (by omega)]
      simp [upd]
    · rw [cpG, upd, if_neg h1, this]
      by_cases h2 : j ≤ k ∧ k < j + m
      · rw [if_pos h2, if_pos (by omega)]
      · rw [if_neg h2, if_neg (by omega)]
theorem t_copies {g : eg} {h : eh} {a b na nb i j : Nat} {f G : Nat → Int32} {Q : Outcome → eh → Prop} (ha : rd g h a = some (aI na f)) (hb : h.1 b = some (aI nb G)) (hne : a ≠ b) (hi : i + 176 ≤ na) (hj : j + 176 ≤ nb) (hna : na < 2 ^ 31) (hnb : nb < 2 ^ 31)
    (hq : Q (.returned none) (eh_set h b (aI nb (cpG f G i j 176)))) : ew_T g kX2_copies 0 [.ref a, .int (nI i), .ref b, .int (nI j)] h Q := by
  have main : ∀ m k, k + m = 176 → ew_G g kX2_copies 0 3 [.ref a, .int (nI i), .ref b, .int (nI j), .int (nI k)] [] (eh_set h b (aI nb (cpG f G i j k))) Q := by
    intro m
    induction m with
    | zero =>
      intro k hk
      have e9 : k = 176 := by omega
      subst e9
      refine ew_iload (pc := 3) dX2_copies_3 rfl ?_
      refine ew_sipush (pc := 5) (v := 176) dX2_copies_5 rfl ?_
      refine ew_icmp_ge (pc := 8) (tgt := 29) dX2_copies_8 (by decide) (fun c8 => ?_) (fun c8 => absurd (by decide) c8)
      refine ew_vret (pc := 29) rfl dX2_copies_29 ?_
      exact hq
    | succ m ih =>
      intro k hk
      have ra := rd_sn (e := aI nb (cpG f G i j k)) ha hne
      have rb := se_1 h b (aI nb (cpG f G i j k))
      refine ew_iload (pc := 3) dX2_copies_3 rfl ?_
      refine ew_sipush (pc := 5) (v := 176) dX2_copies_5 rfl ?_
      refine ew_icmp_ge (pc := 8) (tgt := 29) dX2_copies_8 (by decide) (fun c8 => absurd c8 (nI_ge (b := 176) (by omega) (by decide))) (fun c8 => ?_)
      refine ew_aload_n (pc := 11) dX2_copies_11 rfl ?_
      refine ew_iload_n (pc := 12) dX2_copies_12 rfl ?_
      refine ew_iload (pc := 13) dX2_copies_13 rfl ?_
      refine ew_iadd (pc := 15) dX2_copies_15 ?_
      refine ew_aload_n (pc := 16) dX2_copies_16 rfl ?_
      refine ew_iload_n (pc := 17) dX2_copies_17 rfl ?_
      refine ew_iload (pc := 18) dX2_copies_18 rfl ?_
      refine ew_iadd (pc := 20) dX2_copies_20 ?_
      refine ew_iaJ (pc := 21) ra (j := i + k) (nI_add i k) (by omega) hna dX2_copies_21 ?_
      refine ew_iaS (pc := 22) rb (j := j + k) (nI_add j k) (by omega) hnb dX2_copies_22 ?_
      rw [ew_ss]
      refine ew_iinc (pc := 23) dX2_copies_23 rfl (nI_inc k) (by decide) (p1_4 rfl) ?_
      refine ew_goto (pc := 26) (tgt := 3) dX2_copies_26 (by decide) ?_
      exact ih (k + 1) (by omega)
  refine ew_enter (by decide +kernel) (ew_a1 rfl (ew_a1 rfl (ew_a1 rfl (ew_a1 rfl (ew_an ew_az))))) (Nat.le_of_ble_eq_true rfl) ?_
  refine ew_iconst (pc := 0) (v := 0) dX2_copies_0 rfl ?_
  refine ew_istore (pc := 1) dX2_copies_1 (by decide) (p1_4 rfl) ?_
  have h8 := main 176 0 (by omega)
  rw [cpG, ew_sid hb] at h8
  exact h8
theorem tw_r (g : eg) (t j : Nat) (σ : tS) (h : eh) (hj : j < 20) : rd g (tw t σ h) (t + j) = some (twC t σ j) := rd_of (tw_at t j σ h hj)
/-- the nets that were kept, the oldest first -/
def Pa (σ : tS) (P : List (Nat → Int32)) : Prop := σ.1 22 = nI P.length ∧ P.length ≤ 8 ∧ ∀ (i : Nat) (N : Nat → Int32), P[i]? = some N → ∀ k, k < 176 → σ.2 18 (176 * i + k) = N k
def reP (P : List (Nat → Int32)) (N : Nat → Int32) : List (Nat → Int32) := (if P.length = 8 then P.tail else P) ++ [N]
theorem Pa.fq {S : List Nat} {σ σ' : tS} {P : List (Nat → Int32)} (h : Pa σ P) (hF : Fq S σ σ') (h1 : S.contains 18 = false) (h2 : S.contains 22 = false) : Pa σ' P := by
  refine ⟨(hF.s 22 h2).trans h.1, h.2.1, ?_⟩
  rw [hF.a 18 h1]
  exact h.2.2
def shF (f : Nat → Int32) : Nat → Nat → Int32
  | 0 => f
  | k + 1 => upd (shF f k) k (f (k + 176))
theorem shF_at (f : Nat → Int32) : ∀ m k, shF f m k = if k < m then f (k + 176) else f k
  | 0, k => by simp [shF]
  | m + 1, k => by
    have := shF_at f m k
    by_cases h1 : k = m
    · subst h1; simp [shF, upd]
    · rw [shF, upd, if_neg h1, this]
      by_cases h2 : k < m
      · rw [if_pos h2, if_pos (by omega)]
      · rw [if_neg h2, if_neg (by omega)]
theorem Pa.push {σ : tS} {P : List (Nat → Int32)} (h : Pa σ P) (hl : P.length < 8) (N : Nat → Int32) (x : Int32) (hx : x = nI (P.length + 1)) : Pa (tI (tA σ 18 (cpG N (σ.2 18) 0 (P.length * 176) 176)) 22 x) (P ++ [N]) := by
  refine ⟨?_, ?_, ?_⟩
  · rw [List.length_append, hx]; rfl
  · rw [List.length_append, List.length_singleton]; omega
  · intro i M hM k hk
    show cpG N (σ.2 18) 0 (P.length * 176) 176 (176 * i + k) = M k
    rw [cpG_at]
    by_cases hi : i = P.length
    · subst hi
      rw [List.getElem?_append_right (Nat.le_refl _), Nat.sub_self] at hM
      injection hM with hM
      subst hM
      rw [if_pos (by omega)]
      congr 1
      omega
    · have hlt : i < P.length := by
        have := (List.getElem?_eq_some_iff.mp hM).1
        rw [List.length_append, List.length_singleton] at this
        omega
      rw [List.getElem?_append_left hlt] at hM
      rw [if_neg (by omega)]
      exact h.2.2 i M hM k hk
theorem t_remembers {g : eg} {h : eh} {t : Nat} {σ : tS} {N : Nat → Int32} {P : List (Nat → Int32)} {Q : Outcome → eh → Prop} (hN : σ.2 16 = N) (hP : Pa σ P)
    (hq : ∀ σ', Fq [18, 22] σ σ' → Pa σ' (reP P N) → Q (.returned none) (tw t σ' h)) : ew_T g kX2_remembers 1 [.ref t] (tw t σ h) Q := by
  have fin : ∀ σ1 P1 x1, Fq [18, 22] σ σ1 → Pa σ1 P1 → P1.length < 8 → P1 ++ [N] = reP P N → ew_G g kX2_remembers 1 50 [.ref t, x1] [] (tw t σ1 h) Q := by
    intro σ1 P1 x1 F1 hP1 hl he
    have h22 := hP1.1
    have hN1 := (F1.a 16 rfl).trans hN
    refine ew_aload_n (pc := 50) dX2_remembers_50 rfl ?_
    refine tg_g16 (pc := 51) rfl dX2_remembers_51 ?_
    refine ew_iconst (pc := 54) (v := 0) dX2_remembers_54 rfl ?_
    refine ew_aload_n (pc := 55) dX2_remembers_55 rfl ?_
    refine tg_g18 (pc := 56) rfl dX2_remembers_56 ?_
    refine ew_aload_n (pc := 59) dX2_remembers_59 rfl ?_
    refine tg_g22 (pc := 60) rfl dX2_remembers_60 ?_
    refine ew_sipush (pc := 63) (v := 176) dX2_remembers_63 rfl ?_
    rw [h22, show (176 : Int32) = nI 176 from rfl]
    refine ew_imul (pc := 66) dX2_remembers_66 ?_
    rw [nI_mul]
    refine ew_cS4 (d' := 0) (pc := 67) sX2_200 dX2_remembers_67 (by decide) (ew_rm (Nat.le_of_ble_eq_true rfl)) ?_
    refine t_copies (a := t + 4) (b := t + 6) (f := σ1.2 16) (G := σ1.2 18) (na := 176) (nb := 1408) (i := 0) (tw_r g t 4 σ1 h (by decide)) (tw_at t 6 σ1 h (by decide)) (by omega) (by omega) (by omega) (by decide) (by decide) ?_
    rw [tw_s18, hN1]
    refine ew_Kv ?_
    refine ew_aload_n (pc := 70) dX2_remembers_70 rfl ?_
    refine ew_dup (pc := 71) dX2_remembers_71 rfl ?_
    refine tg_g22 (pc := 72) rfl dX2_remembers_72 ?_
    refine ew_iconst (pc := 75) (v := 1) dX2_remembers_75 rfl ?_
    refine ew_iadd (pc := 76) dX2_remembers_76 ?_
    refine tg_p22 (pc := 77) rfl dX2_remembers_77 ?_
    refine ew_vret (pc := 80) rfl dX2_remembers_80 ?_
    refine hq _ ((F1.xA 18 _ rfl).xI 22 _ rfl) ?_
    rw [← he]
    exact hP1.push hl N _ (by show σ1.1 22 + 1 = _; rw [h22]; exact nI_1 _)
  have lp : ∀ m k, k + m = 1232 → P.length = 8 → ew_G g kX2_remembers 1 11 [.ref t, .int (nI k)] [] (tw t (tA σ 18 (shF (σ.2 18) k)) h) Q := by
    intro m
    induction m with
    | zero =>
      intro k hk hl
      have e9 : k = 1232 := by omega
      subst e9
      have h22 : σ.1 22 - 1 = nI 7 := by rw [hP.1, hl]; rfl
      refine ew_iload_n (pc := 11) dX2_remembers_11 rfl ?_
      refine ew_sipush (pc := 12) (v := 1232) dX2_remembers_12 rfl ?_
      refine ew_icmp_ge (pc := 15) (tgt := 40) dX2_remembers_15 (by decide) (fun c15 => ?_) (fun c15 => absurd (by decide) c15)
      refine ew_aload_n (pc := 40) dX2_remembers_40 rfl ?_
      refine ew_dup (pc := 41) dX2_remembers_41 rfl ?_
      refine tg_g22 (pc := 42) rfl dX2_remembers_42 ?_
      refine ew_iconst (pc := 45) (v := 1) dX2_remembers_45 rfl ?_
      refine ew_isub (pc := 46) dX2_remembers_46 ?_
      refine tg_p22 (pc := 47) rfl dX2_remembers_47 ?_
      refine fin _ P.tail _ (((Fq.r _ σ).xA 18 _ rfl).xI 22 _ rfl) ?_ (by rw [List.length_tail]; omega) (by rw [reP, if_pos hl])
      refine ⟨?_, by rw [List.length_tail]; omega, ?_⟩
      · show σ.1 22 - 1 = _
        rw [h22, List.length_tail, hl]
      · intro i M hM k hk
        show shF (σ.2 18) 1232 (176 * i + k) = M k
        rw [List.getElem?_tail] at hM
        have hlt := (List.getElem?_eq_some_iff.mp hM).1
        rw [shF_at, if_pos (by omega)]
        rw [show 176 * i + k + 176 = 176 * (i + 1) + k by omega]
        exact hP.2.2 (i + 1) M hM k hk
    | succ m ih =>
      intro k hk hl
      have hv : shF (σ.2 18) k (k + 176) = σ.2 18 (k + 176) := by rw [shF_at, if_neg (by omega)]
      refine ew_iload_n (pc := 11) dX2_remembers_11 rfl ?_
      refine ew_sipush (pc := 12) (v := 1232) dX2_remembers_12 rfl ?_
      refine ew_icmp_ge (pc := 15) (tgt := 40) dX2_remembers_15 (by decide) (fun c15 => absurd c15 (nI_ge (b := 1232) (by omega) (by decide))) (fun c15 => ?_)
      refine ew_aload_n (pc := 18) dX2_remembers_18 rfl ?_
      refine tg_g18 (pc := 19) rfl dX2_remembers_19 ?_
      refine ew_iload_n (pc := 22) dX2_remembers_22 rfl ?_
      refine ew_aload_n (pc := 23) dX2_remembers_23 rfl ?_
      refine tg_g18 (pc := 24) rfl dX2_remembers_24 ?_
      refine ew_iload_n (pc := 27) dX2_remembers_27 rfl ?_
      refine ew_sipush (pc := 28) (v := 176) dX2_remembers_28 rfl ?_
      refine ew_iadd (pc := 31) dX2_remembers_31 ?_
      refine tg_l18 (pc := 32) (j := k + 176) (nI_add k 176) (by omega) dX2_remembers_32 ?_
      refine tg_s18 (pc := 33) (j := k) rfl (by omega) dX2_remembers_33 ?_
      rw [tA_tA]
      refine ew_iinc (pc := 34) dX2_remembers_34 rfl (nI_inc k) (by decide) (p1_1 rfl) ?_
      refine ew_goto (pc := 37) (tgt := 11) dX2_remembers_37 (by decide) ?_
      have h8 := ih (k + 1) (by omega) hl
      rw [shF, ← hv] at h8
      exact h8
  refine ew_enter (by decide +kernel) (ew_a1 rfl (ew_an ew_az)) (Nat.le_of_ble_eq_true rfl) ?_
  refine ew_aload_n (pc := 0) dX2_remembers_0 rfl ?_
  refine tg_g22 (pc := 1) rfl dX2_remembers_1 ?_
  refine ew_bipush (pc := 4) (v := 8) dX2_remembers_4 rfl ?_
  refine ew_icmp_ne (pc := 6) (tgt := 50) dX2_remembers_6 (by decide) (fun c6 => ?_) (fun c6 => ?_)
  · have hl : ¬ P.length = 8 := fun h9 => c6 (hP.1.trans (congrArg nI h9))
    exact fin σ P _ (Fq.r _ _) hP (by have := hP.2.1; omega) (by rw [reP, if_neg hl])
  · refine ew_iconst (pc := 9) (v := 0) dX2_remembers_9 rfl ?_
    refine ew_istore_n (pc := 10) dX2_remembers_10 rfl (by decide) (p1_1 rfl) ?_
    have hl : P.length = 8 := (nI_eq (b := 8) (by have := hP.2.1; omega) (by decide)).mp (hP.1.symm.trans c6)
    have h8 := lp 1232 0 (by omega) hl
    rw [shF, tA_id] at h8
    exact h8
theorem t_sets {g : eg} {h : eh} {t a : Nat} {σ : tS} {N : Nat → Int32} {P : List (Nat → Int32)} {x : Int32} {Q : Outcome → eh → Prop} (hN : σ.2 16 = N) (hP : Pa σ P) (ha : a < 176)
    (hq : ∀ σ', Fq [16, 18, 22] σ σ' → σ'.2 16 = upd N a x → Pa σ' (reP P N) → Q (.returned (some (.int (N a)))) (tw t σ' h)) : ew_T g kX2_sets 2 [.ref t, .int (nI a), .int x] (tw t σ h) Q := by
  refine ew_enter (by decide +kernel) (ew_a1 rfl (ew_a1 rfl (ew_a1 rfl (ew_an ew_az)))) (Nat.le_of_ble_eq_true rfl) ?_
  refine ew_aload_n (pc := 0) dX2_sets_0 rfl ?_
  refine tg_g16 (pc := 1) rfl dX2_sets_1 ?_
  refine ew_iload_n (pc := 4) dX2_sets_4 rfl ?_
  refine tg_l16 (pc := 5) (j := a) rfl ha dX2_sets_5 ?_
  refine ew_istore_n (pc := 6) dX2_sets_6 rfl (by decide) (p1_3 rfl) ?_
  refine ew_aload_n (pc := 7) dX2_sets_7 rfl ?_
  refine ew_cV0 (d' := 1) (pc := 8) vX2_432 (tw_ro _ _ _ _) dX2_sets_8 (by decide) (ew_rm (Nat.le_of_ble_eq_true rfl)) ?_
  refine t_remembers hN hP (fun σ1 F1 P1 => ?_)
  refine ew_Kv ?_
  refine ew_aload_n (pc := 11) dX2_sets_11 rfl ?_
  refine tg_g16 (pc := 12) rfl dX2_sets_12 ?_
  refine ew_iload_n (pc := 15) dX2_sets_15 rfl ?_
  refine ew_iload_n (pc := 16) dX2_sets_16 rfl ?_
  refine tg_s16 (pc := 17) (j := a) rfl ha dX2_sets_17 ?_
  refine ew_iload_n (pc := 18) dX2_sets_18 rfl ?_
  refine ew_iret (pc := 19) rfl dX2_sets_19 ?_
  rw [hN]
  refine hq _ ((F1.w rfl).xA 16 _ rfl) ?_ (P1.fq (Fq.A (S := [16]) _ 16 _ rfl) rfl rfl)
  show upd (σ1.2 16) a x = upd N a x
  rw [F1.a 16 rfl, hN]
