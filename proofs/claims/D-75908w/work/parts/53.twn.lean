/-! EW: the reference: input, names, small queries -/
set_option maxRecDepth 100000
/-- bytes that lie in the buffer -/
def Bf (σ : tS) (B : List Int32) : Prop := σ.1 2 = nI B.length ∧ B.length ≤ 700 ∧ ∀ (i : Nat) (x : Int32), B[i]? = some x → σ.2 1 i = x
theorem Bf.fq {S : List Nat} {σ σ' : tS} {B : List Int32} (h : Bf σ B) (hF : Fq S σ σ') (h1 : S.contains 1 = false) (h2 : S.contains 2 = false) : Bf σ' B := by
  refine ⟨(hF.s 2 h2).trans h.1, h.2.1, ?_⟩
  rw [hF.a 1 h1]
  exact h.2.2
def by4 (v : Int32) (k : Nat) : Int32 := vp_nar .byte ((v >>> (8 * nI k &&& 31)).toInt8.toInt32)
def byR (v : Int32) : Nat → List Int32
  | 0 => []
  | k + 1 => by4 v k :: byR v k
theorem byR_len (v : Int32) : ∀ k, (byR v k).length = k
  | 0 => rfl
  | k + 1 => congrArg (· + 1) (byR_len v k)
theorem Bf.push {σ : tS} {B : List Int32} (h : Bf σ B) (hl : B.length < 700) (x : Int32) : Bf (tI (tA σ 1 (upd (σ.2 1) B.length x)) 2 (nI (B.length + 1))) (B ++ [x]) := by
  refine ⟨?_, ?_, ?_⟩
  · rw [List.length_append]; rfl
  · rw [List.length_append, List.length_singleton]; omega
  · intro i y hy
    show upd (σ.2 1) B.length x i = y
    by_cases hi : i = B.length
    · subst hi
      rw [List.getElem?_append_right (Nat.le_refl _), Nat.sub_self] at hy
      injection hy with hy
      subst hy
      simp [upd]
    · have hlt : i < B.length := by
        have := (List.getElem?_eq_some_iff.mp hy).1
        rw [List.length_append, List.length_singleton] at this
        omega
      rw [List.getElem?_append_left hlt] at hy
      rw [upd, if_neg hi]
      exact h.2.2 i y hy
theorem t_four {g : eg} {h : eh} {t : Nat} {σ : tS} {v : Int32} {B : List Int32} {Q : Outcome → eh → Prop} (hB : Bf σ B) (hl : B.length + 4 ≤ 700)
    (hq : ∀ σ', Fq [1, 2] σ σ' → Bf σ' (B ++ byR v 4) → Q (.returned none) (tw t σ' h)) : ew_T g kX2_four 0 [.ref t, .int v] (tw t σ h) Q := by
  have l0 : ∀ σ', Fq [1, 2] σ σ' → Bf σ' (B ++ byR v 4) → ew_G g kX2_four 0 2 [.ref t, .int v, .int (-1)] [] (tw t σ' h) Q := by
    intro σ' hF hB'
    refine ew_iload_n (pc := 2) dX2_four_2 rfl ?_
    refine ew_if_lt (pc := 3) (tgt := 38) dX2_four_3 (by decide) (fun c3 => ?_) (fun c3 => absurd (by decide) c3)
    refine ew_vret (pc := 38) rfl dX2_four_38 ?_
    exact hq σ' hF hB'
  have s6 : ∀ k B' σ', k < 4 → B'.length < 700 → Bf σ' B' → (∀ x, x = nI k + Int32.ofInt (-1) → ew_G g kX2_four 0 2 [.ref t, .int v, .int x] [] (tw t (tI (tA σ' 1 (upd (σ'.2 1) B'.length (by4 v k))) 2 (nI (B'.length + 1))) h) Q) → ew_G g kX2_four 0 2 [.ref t, .int v, .int (nI k)] [] (tw t σ' h) Q := by
    intro k B' σ' hk hl' hB' hc
    have h2 : σ'.1 2 + 1 = nI (B'.length + 1) := by rw [hB'.1]; exact nI_1 _
    rw [← h2] at hc
    refine ew_iload_n (pc := 2) dX2_four_2 rfl ?_
    refine ew_if_lt (pc := 3) (tgt := 38) dX2_four_3 (by decide) (fun c3 => absurd c3 (nI_pos (by omega))) (fun c3 => ?_)
    refine ew_aload_n (pc := 6) dX2_four_6 rfl ?_
    refine tg_g1 (pc := 7) rfl dX2_four_7 ?_
    refine ew_aload_n (pc := 10) dX2_four_10 rfl ?_
    refine tg_g2 (pc := 11) rfl dX2_four_11 ?_
    refine ew_iload_n (pc := 14) dX2_four_14 rfl ?_
    refine ew_bipush (pc := 15) (v := 8) dX2_four_15 rfl ?_
    refine ew_iload_n (pc := 17) dX2_four_17 rfl ?_
    refine ew_imul (pc := 18) dX2_four_18 ?_
    refine ew_ishr (pc := 19) dX2_four_19 ?_
    refine ew_i2b (pc := 20) dX2_four_20 rfl ?_
    refine tg_s1 (pc := 21) (j := B'.length) hB'.1 hl' dX2_four_21 ?_
    refine ew_aload_n (pc := 22) dX2_four_22 rfl ?_
    refine ew_dup (pc := 23) dX2_four_23 rfl ?_
    refine tg_g2 (pc := 24) rfl dX2_four_24 ?_
    refine ew_iconst (pc := 27) (v := 1) dX2_four_27 rfl ?_
    refine ew_iadd (pc := 28) dX2_four_28 ?_
    refine tg_p2 (pc := 29) rfl dX2_four_29 ?_
    refine ew_iinc (pc := 32) dX2_four_32 rfl rfl (by decide) (p1_2 rfl) ?_
    refine ew_goto (pc := 35) (tgt := 2) dX2_four_35 (by decide) ?_
    exact hc _ rfl
  have main : ∀ k B' σ', k < 4 → B'.length + (k + 1) ≤ 700 → Fq [1, 2] σ σ' → Bf σ' B' → B' ++ byR v (k + 1) = B ++ byR v 4 → ew_G g kX2_four 0 2 [.ref t, .int v, .int (nI k)] [] (tw t σ' h) Q := by
    intro k
    induction k with
    | zero =>
      intro B' σ' hk hl' hF hB' he
      refine s6 0 B' σ' (by decide) (by omega) hB' (fun x hx => ?_)
      rw [hx]
      refine l0 _ ((hF.xA 1 _ rfl).xI 2 _ rfl) ?_
      rw [← he]
      exact hB'.push (by omega) _
    | succ k ih =>
      intro B' σ' hk hl' hF hB' he
      refine s6 (k + 1) B' σ' hk (by omega) hB' (fun x hx => ?_)
      rw [hx, nI_dec]
      refine ih _ _ (by omega) (by rw [List.length_append, List.length_singleton]; omega) ((hF.xA 1 _ rfl).xI 2 _ rfl) (hB'.push (by omega) (by4 v (k + 1))) ?_
      rw [← he, List.append_assoc]
      rfl
  refine ew_enter (by decide +kernel) (ew_a1 rfl (ew_a1 rfl (ew_an ew_az))) (Nat.le_of_ble_eq_true rfl) ?_
  refine ew_iconst (pc := 0) (v := 3) dX2_four_0 rfl ?_
  refine ew_istore_n (pc := 1) dX2_four_1 rfl (by decide) (p1_2 rfl) ?_
  exact main 3 B σ (by decide) hl (Fq.r _ _) hB rfl
def byA (a b c d e : Int32) : List Int32 := byR a 4 ++ byR b 4 ++ byR c 4 ++ byR d 4 ++ byR e 4
theorem o_append {g : eg} {h : eh} {t : Nat} {σ : tS} {B : List Int32} {a b c d e : Int32} {Q : Outcome → eh → Prop} (hB : Bf σ B)
    (h0 : 680 < B.length → ∀ σ', Fq [0] σ σ' → Q (.returned (some (.int (-1)))) (tw t σ' h))
    (h1 : B.length ≤ 680 → ∀ σ', Fq [0, 1, 2] σ σ' → Bf σ' (B ++ byA a b c d e) → Q (.returned (some (.int (nI (B.length + 20))))) (tw t σ' h)) : ew_T g kX2_append 1 [.ref t, .int a, .int b, .int c, .int d, .int e] (tw t σ h) Q := by
  have hl := hB.2.1
  have hc : σ.1 2 ≤ 680 ↔ B.length ≤ 680 := by rw [hB.1]; exact nI_leI (b := 680) (by omega) (by decide)
  refine ew_enter (by decide +kernel) (ew_a1 rfl (ew_a1 rfl (ew_a1 rfl (ew_a1 rfl (ew_a1 rfl (ew_a1 rfl ew_az)))))) (Nat.le_of_ble_eq_true rfl) ?_
  refine ew_aload_n (pc := 0) dX2_append_0 rfl ?_
  refine ew_iconst (pc := 1) (v := 0) dX2_append_1 rfl ?_
  refine tg_p0 (pc := 2) rfl dX2_append_2 ?_
  refine ew_aload_n (pc := 5) dX2_append_5 rfl ?_
  refine tg_g2 (pc := 6) rfl dX2_append_6 ?_
  refine ew_sipush (pc := 9) (v := 680) dX2_append_9 rfl ?_
  refine ew_icmp_le (pc := 12) (tgt := 17) dX2_append_12 (by decide) (fun c12 => ?_) (fun c12 => ?_)
  · have hl2 : B.length ≤ 680 := hc.mp c12
    refine ew_aload_n (pc := 17) dX2_append_17 rfl ?_
    refine ew_iload_n (pc := 18) dX2_append_18 rfl ?_
    refine ew_cV1 (d' := 0) (pc := 19) vX2_79 (tw_ro _ _ _ _) dX2_append_19 (by decide) (ew_rm (Nat.le_of_ble_eq_true rfl)) ?_
    refine t_four (B := B) (hB.fq (Fq.I (S := [0]) σ 0 _ rfl) rfl rfl) (by omega) (fun σ1 F1 B1 => ?_)
    refine ew_Kv ?_
    refine ew_aload_n (pc := 22) dX2_append_22 rfl ?_
    refine ew_iload_n (pc := 23) dX2_append_23 rfl ?_
    refine ew_cV1 (d' := 0) (pc := 24) vX2_79 (tw_ro _ _ _ _) dX2_append_24 (by decide) (ew_rm (Nat.le_of_ble_eq_true rfl)) ?_
    refine t_four B1 (by rw [List.length_append, byR_len]; omega) (fun σ2 F2 B2 => ?_)
    refine ew_Kv ?_
    refine ew_aload_n (pc := 27) dX2_append_27 rfl ?_
    refine ew_iload_n (pc := 28) dX2_append_28 rfl ?_
    refine ew_cV1 (d' := 0) (pc := 29) vX2_79 (tw_ro _ _ _ _) dX2_append_29 (by decide) (ew_rm (Nat.le_of_ble_eq_true rfl)) ?_
    refine t_four B2 (by rw [List.length_append, List.length_append, byR_len, byR_len]; omega) (fun σ3 F3 B3 => ?_)
    refine ew_Kv ?_
    refine ew_aload_n (pc := 32) dX2_append_32 rfl ?_
    refine ew_iload (pc := 33) dX2_append_33 rfl ?_
    refine ew_cV1 (d' := 0) (pc := 35) vX2_79 (tw_ro _ _ _ _) dX2_append_35 (by decide) (ew_rm (Nat.le_of_ble_eq_true rfl)) ?_
    refine t_four B3 (by simp only [List.length_append, byR_len]; omega) (fun σ4 F4 B4 => ?_)
    refine ew_Kv ?_
    refine ew_aload_n (pc := 38) dX2_append_38 rfl ?_
    refine ew_iload (pc := 39) dX2_append_39 rfl ?_
    refine ew_cV1 (d' := 0) (pc := 41) vX2_79 (tw_ro _ _ _ _) dX2_append_41 (by decide) (ew_rm (Nat.le_of_ble_eq_true rfl)) ?_
    refine t_four B4 (by simp only [List.length_append, byR_len]; omega) (fun σ5 F5 B5 => ?_)
    refine ew_Kv ?_
    refine ew_aload_n (pc := 44) dX2_append_44 rfl ?_
    refine tg_g2 (pc := 45) rfl dX2_append_45 ?_
    refine ew_iret (pc := 48) rfl dX2_append_48 ?_
    rw [show σ5.1 2 = nI (B.length + 20) by rw [B5.1]; simp only [List.length_append, byR_len]]
    refine h1 hl2 _ (((((((Fq.r _ σ).xI 0 _ rfl).u F1 rfl).u F2 rfl).u F3 rfl).u F4 rfl).u F5 rfl) ?_
    rw [byA]
    simp only [List.append_assoc] at B5 ⊢
    exact B5
  · refine ew_iconst (pc := 15) (v := -1) dX2_append_15 rfl ?_
    refine ew_iret (pc := 16) rfl dX2_append_16 ?_
    exact h0 (Nat.lt_of_not_le (fun h8 => c12 (hc.mpr h8))) _ (Fq.I σ 0 _ rfl)
theorem o_thrown {g : eg} {h : eh} {t : Nat} {σ : tS} {Q : Outcome → eh → Prop} (hq : Q (.returned (some (.int (σ.1 0)))) (tw t σ h)) : ew_T g kX2_thrown 0 [.ref t] (tw t σ h) Q := by
  refine ew_enter (by decide +kernel) (ew_a1 rfl ew_az) (Nat.le_of_ble_eq_true rfl) ?_
  refine ew_aload_n (pc := 0) dX2_thrown_0 rfl ?_
  refine tg_g0 (pc := 1) rfl dX2_thrown_1 ?_
  refine ew_iret (pc := 4) rfl dX2_thrown_4 ?_
  exact hq
theorem o_buffered {g : eg} {h : eh} {t : Nat} {σ : tS} {Q : Outcome → eh → Prop} (hq : ∀ σ', Fq [0] σ σ' → Q (.returned (some (.int (σ.1 2)))) (tw t σ' h)) : ew_T g kX2_buffered 0 [.ref t] (tw t σ h) Q := by
  refine ew_enter (by decide +kernel) (ew_a1 rfl ew_az) (Nat.le_of_ble_eq_true rfl) ?_
  refine ew_aload_n (pc := 0) dX2_buffered_0 rfl ?_
  refine ew_iconst (pc := 1) (v := 0) dX2_buffered_1 rfl ?_
  refine tg_p0 (pc := 2) rfl dX2_buffered_2 ?_
  refine ew_aload_n (pc := 5) dX2_buffered_5 rfl ?_
  refine tg_g2 (pc := 6) rfl dX2_buffered_6 ?_
  refine ew_iret (pc := 9) rfl dX2_buffered_9 ?_
  exact hq _ (Fq.I σ 0 _ rfl)
theorem o_parseError {g : eg} {h : eh} {t : Nat} {σ : tS} {Q : Outcome → eh → Prop} (hq : ∀ σ', Fq [0] σ σ' → Q (.returned (some (.int (σ.1 3)))) (tw t σ' h)) : ew_T g kX2_parseError 0 [.ref t] (tw t σ h) Q := by
  refine ew_enter (by decide +kernel) (ew_a1 rfl ew_az) (Nat.le_of_ble_eq_true rfl) ?_
  refine ew_aload_n (pc := 0) dX2_parseError_0 rfl ?_
  refine ew_iconst (pc := 1) (v := 0) dX2_parseError_1 rfl ?_
  refine tg_p0 (pc := 2) rfl dX2_parseError_2 ?_
  refine ew_aload_n (pc := 5) dX2_parseError_5 rfl ?_
  refine tg_g3 (pc := 6) rfl dX2_parseError_6 ?_
  refine ew_iret (pc := 9) rfl dX2_parseError_9 ?_
  exact hq _ (Fq.I σ 0 _ rfl)
theorem o_errorPosition {g : eg} {h : eh} {t : Nat} {σ : tS} {Q : Outcome → eh → Prop} (hq : ∀ σ', Fq [0] σ σ' → Q (.returned (some (.int (σ.1 4)))) (tw t σ' h)) : ew_T g kX2_errorPosition 0 [.ref t] (tw t σ h) Q := by
  refine ew_enter (by decide +kernel) (ew_a1 rfl ew_az) (Nat.le_of_ble_eq_true rfl) ?_
  refine ew_aload_n (pc := 0) dX2_errorPosition_0 rfl ?_
  refine ew_iconst (pc := 1) (v := 0) dX2_errorPosition_1 rfl ?_
  refine tg_p0 (pc := 2) rfl dX2_errorPosition_2 ?_
  refine ew_aload_n (pc := 5) dX2_errorPosition_5 rfl ?_
  refine tg_g4 (pc := 6) rfl dX2_errorPosition_6 ?_
  refine ew_iret (pc := 9) rfl dX2_errorPosition_9 ?_
  exact hq _ (Fq.I σ 0 _ rfl)
theorem o_window {g : eg} {h : eh} {t : Nat} {σ : tS} {N : Nat → Int32} {a b : Int32} {Q : Outcome → eh → Prop} (hJ : TJ σ N)
    (hq : ∀ σ' v, An SC σ (as2 (σ.1 21) (bI (isIx (nW N) a)) (bI (0 ≤ b ∧ b ≤ 5))) (N (2 + 6 * ix a + ix b)) σ' v → Q (.returned (some (.int v))) (tw t σ' h)) : ew_T g kX2_window 2 [.ref t, .int a, .int b] (tw t σ h) Q := by
  have hw : nW N ≤ 24 := hJ.z.2.2.2
  refine ew_enter (by decide +kernel) (ew_a1 rfl (ew_a1 rfl (ew_a1 rfl ew_az))) (Nat.le_of_ble_eq_true rfl) ?_
  refine ew_aload_n (pc := 0) dX2_window_0 rfl ?_
  refine ew_aload_n (pc := 1) dX2_window_1 rfl ?_
  refine ew_iload_n (pc := 2) dX2_window_2 rfl ?_
  refine ew_cV1 (d' := 1) (pc := 3) vX2_295 (tw_ro _ _ _ _) dX2_window_3 (by decide) (ew_rm (Nat.le_of_ble_eq_true rfl)) ?_
  refine t_isWindow hJ.n hJ.z ?_
  refine ew_Kr ?_
  refine ew_iload_n (pc := 6) dX2_window_6 rfl ?_
  refine ew_iconst (pc := 7) (v := 0) dX2_window_7 rfl ?_
  refine ew_iconst (pc := 8) (v := 5) dX2_window_8 rfl ?_
  refine ew_cS3 (d' := 0) (pc := 9) sX2_102 dX2_window_9 (by decide) (ew_rm (Nat.le_of_ble_eq_true rfl)) ?_
  refine t_inT ?_
  refine ew_Kr ?_
  refine ew_cV2 (d' := 0) (pc := 12) vX2_298 (tw_ro _ _ _ _) dX2_window_12 (by decide) (ew_rm (Nat.le_of_ble_eq_true rfl)) ?_
  refine t_ask2 (fun σ1 F1 h0 => ?_)
  refine ew_Kr ?_
  refine ew_if_eq (pc := 15) (tgt := 27) dX2_window_15 (by decide) (fun c15 => ?_) (fun c15 => ?_)
  · refine ew_iconst (pc := 27) (v := 0) dX2_window_27 rfl ?_
    refine ew_iret (pc := 28) rfl dX2_window_28 ?_
    first
    | exact hq _ _ ⟨F1.w rfl, h0, fun h9 => absurd h9 (bI_0.mp c15)⟩
    | exact hq _ _ ⟨F1.w rfl, h0, fun _ => rfl⟩
  · have hp := as2_0.mp (bI_n.mp c15)
    have ha := (bI_n.mp hp.2.1).to (by omega)
    have hb := (isIx.to (n := 6) (bI_n.mp hp.2.2)) (by decide)
    rw [ha.2, hb.2]
    refine ew_aload_n (pc := 18) dX2_window_18 rfl ?_
    refine ew_iload_n (pc := 19) dX2_window_19 rfl ?_
    refine ew_iload_n (pc := 20) dX2_window_20 rfl ?_
    refine ew_cV2 (d' := 1) (pc := 21) vX2_214 (tw_ro _ _ _ _) dX2_window_21 (by decide) (ew_rm (Nat.le_of_ble_eq_true rfl)) ?_
    refine t_ofN ((F1.a 16 rfl).trans hJ.n) (by omega) hb.1 ?_
    refine ew_Kr ?_
    refine ew_goto (pc := 24) (tgt := 28) dX2_window_24 (by decide) ?_
    refine ew_iret (pc := 28) rfl dX2_window_28 ?_
    first
    | exact hq _ _ ⟨F1.w rfl, h0, fun h9 => absurd h9 (bI_0.mp c15)⟩
    | exact hq _ _ ⟨F1.w rfl, h0, fun _ => rfl⟩
theorem o_isSound {g : eg} {h : eh} {t : Nat} {σ : tS} {N : Nat → Int32} {Q : Outcome → eh → Prop} (hJ : TJ σ N)
    (hq : ∀ σ' v, An SC σ (as1 (σ.1 21) 1) (bI (sB N = true)) σ' v → Q (.returned (some (.int v))) (tw t σ' h)) : ew_T g kX2_isSound 6 [.ref t] (tw t σ h) Q := by
  refine ew_enter (by decide +kernel) (ew_a1 rfl ew_az) (Nat.le_of_ble_eq_true rfl) ?_
  refine ew_aload_n (pc := 0) dX2_isSound_0 rfl ?_
  refine ew_iconst (pc := 1) (v := 1) dX2_isSound_1 rfl ?_
  refine ew_cV1 (d' := 0) (pc := 2) vX2_291 (tw_ro _ _ _ _) dX2_isSound_2 (by decide) (ew_rm (Nat.le_of_ble_eq_true rfl)) ?_
  refine t_ask1 (fun σ1 F1 h0 => ?_)
  refine ew_Kr ?_
  refine ew_if_eq (pc := 5) (tgt := 19) dX2_isSound_5 (by decide) (fun c5 => ?_) (fun c5 => ?_)
  · refine ew_iconst (pc := 19) (v := 0) dX2_isSound_19 rfl ?_
    refine ew_zret (pc := 20) (ty := .boolean) rfl rfl dX2_isSound_20 ?_
    first
    | exact hq _ _ ⟨F1.w rfl, h0, fun h9 => absurd h9 (bI_0.mp c5)⟩
    | exact hq _ _ ⟨(F1.w rfl).u F2 rfl, (F2.s 0 rfl).trans h0, fun _ => bI_T (bI_n.mp c12)⟩
    | exact hq _ _ ⟨(F1.w rfl).u F2 rfl, (F2.s 0 rfl).trans h0, fun _ => bI_F (bI_0.mp c12)⟩
  · have hp := as1_0.mp (bI_n.mp c5)
    refine ew_aload_n (pc := 8) dX2_isSound_8 rfl ?_
    refine ew_cV0 (d' := 5) (pc := 9) vX2_276 (tw_ro _ _ _ _) dX2_isSound_9 (by decide) (ew_rm (Nat.le_of_ble_eq_true rfl)) ?_
    refine t_sB ((F1.a 16 rfl).trans hJ.n) (hJ.ok hp.1) (fun σ2 F2 L2 => ?_)
    refine ew_Kr ?_
    refine ew_if_eq (pc := 12) (tgt := 19) dX2_isSound_12 (by decide) (fun c12 => ?_) (fun c12 => ?_)
    · refine ew_iconst (pc := 19) (v := 0) dX2_isSound_19 rfl ?_
      refine ew_zret (pc := 20) (ty := .boolean) rfl rfl dX2_isSound_20 ?_
      first
      | exact hq _ _ ⟨F1.w rfl, h0, fun h9 => absurd h9 (bI_0.mp c5)⟩
      | exact hq _ _ ⟨(F1.w rfl).u F2 rfl, (F2.s 0 rfl).trans h0, fun _ => bI_T (bI_n.mp c12)⟩
      | exact hq _ _ ⟨(F1.w rfl).u F2 rfl, (F2.s 0 rfl).trans h0, fun _ => bI_F (bI_0.mp c12)⟩
    · refine ew_iconst (pc := 15) (v := 1) dX2_isSound_15 rfl ?_
      refine ew_goto (pc := 16) (tgt := 20) dX2_isSound_16 (by decide) ?_
      refine ew_zret (pc := 20) (ty := .boolean) rfl rfl dX2_isSound_20 ?_
      first
      | exact hq _ _ ⟨F1.w rfl, h0, fun h9 => absurd h9 (bI_0.mp c5)⟩
      | exact hq _ _ ⟨(F1.w rfl).u F2 rfl, (F2.s 0 rfl).trans h0, fun _ => bI_T (bI_n.mp c12)⟩
      | exact hq _ _ ⟨(F1.w rfl).u F2 rfl, (F2.s 0 rfl).trans h0, fun _ => bI_F (bI_0.mp c12)⟩
