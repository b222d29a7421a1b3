/-! EW: the reference: bounds of a net, sums of just so many steps -/
set_option maxRecDepth 100000
/-- what the bounds become -/
def Bd (n : Nat) (E : List ed) (b : Bool) (F : Nat → Int32) : Prop := ∃ f, tBd n E f = (b, F)
theorem t_boundsWithout {g : eg} {h : eh} {t : Nat} {σ : tS} {N T : Nat → Int32} {wout code : Int32} {Q : Outcome → eh → Prop} (hN : σ.2 16 = N) (hT : σ.2 27 = T) (ok : okN N)
    (hq : ∀ σ' b, Fq [23, 24, 25, 26, 28, 29] σ σ' → Sts σ' (eAll N T wout code) → Bd (nE N) (eAll N T wout code) b (σ'.2 29) → Q (.returned (some (.int (bI (b = true))))) (tw t σ' h)) : ew_T g kX2_boundsWithout 4 [.ref t, .int wout, .int code] (tw t σ h) Q := by
  refine ew_enter (by decide +kernel) (ew_a1 rfl (ew_a1 rfl (ew_a1 rfl ew_az))) (Nat.le_of_ble_eq_true rfl) ?_
  refine ew_aload_n (pc := 0) dX2_boundsWithout_0 rfl ?_
  refine ew_iload_n (pc := 1) dX2_boundsWithout_1 rfl ?_
  refine ew_iload_n (pc := 2) dX2_boundsWithout_2 rfl ?_
  refine ew_cV2 (d' := 3) (pc := 3) vX2_246 (tw_ro _ _ _ _) dX2_boundsWithout_3 (by decide) (ew_rm (Nat.le_of_ble_eq_true rfl)) ?_
  refine t_stepsWithout hN hT ok (fun σ1 F1 S1 => ?_)
  refine ew_Kv ?_
  refine ew_aload_n (pc := 6) dX2_boundsWithout_6 rfl ?_
  refine ew_cV0 (d' := 2) (pc := 7) vX2_250 (tw_ro _ _ _ _) dX2_boundsWithout_7 (by decide) (ew_rm (Nat.le_of_ble_eq_true rfl)) ?_
  refine t_bounds ((F1.a 16 rfl).trans hN) ok S1 (eAll_ok ok) (eAll_len ok) ?_
  refine ew_Kr ?_
  refine ew_zret (pc := 10) (ty := .boolean) rfl bI_nar dX2_boundsWithout_10 ?_
  exact hq _ _ ((F1.w rfl).t1 (Fq.A _ 29 _ rfl)) (S1.fq (Fq.A (S := [29]) _ 29 _ rfl) rfl) ⟨_, rfl⟩
/-- the times that the net tells -/
def TN (N : Nat → Int32) (T : Nat → Int32) : Prop := ∀ e, e < 10 → T e = N (146 + e)
theorem tTimes_eq (N f : Nat → Int32) : ∀ m e, e < m → tTimes N f m e = N (146 + e)
  | 0, e, h => absurd h (Nat.not_lt_zero _)
  | m + 1, e, h => by
    by_cases h1 : e = m
    · subst h1
      simp [tTimes, upd]
    · have := tTimes_eq N f m e (by omega)
      simp [tTimes, upd, h1, this]
theorem t_timesN {g : eg} {h : eh} {t : Nat} {σ : tS} {N : Nat → Int32} {Q : Outcome → eh → Prop} (hN : σ.2 16 = N) (hq : ∀ σ', Fq [27] σ σ' → TN N (σ'.2 27) → Q (.returned none) (tw t σ' h)) : ew_T g kX2_timesAsFixed 0 [.ref t] (tw t σ h) Q := by
  refine t_timesAsFixed (hq _ (Fq.A _ 27 _ rfl) ?_)
  intro e he
  rw [hN]
  exact tTimes_eq N (σ.2 27) 10 e he
theorem eFs_T {T T' : Nat → Int32} : ∀ m, (∀ e, e ≤ m → T e = T' e) → eFs T m = eFs T' m
  | 0, _ => rfl
  | m + 1, h => by rw [eFs, eFs, eFs_T m (fun e he => h e (by omega)), h (m + 1) (by omega)]
theorem eUs_T {T T' : Nat → Int32} : ∀ m, (∀ e, e ≤ m → T e = T' e) → eUs T m = eUs T' m
  | 0, _ => rfl
  | m + 1, h => by rw [eUs, eUs, eUs_T m (fun e he => h e (by omega)), h (m + 1) (by omega)]
theorem eAll_T {N T T' : Nat → Int32} {wout code : Int32} (h : ∀ e, e < nE N → T e = T' e) (h1 : 1 ≤ nE N) : eAll N T wout code = eAll N T' wout code := by
  rw [eAll, eAll, eFs_T _ (fun e he => h e (by omega)), eUs_T _ (fun e he => h e (by omega))]
/-- the steps of the net, all but some -/
def eN (N : Nat → Int32) (wout code : Int32) : List ed := eAll N (fun e => N (146 + e)) wout code
theorem eN_T {N T : Nat → Int32} {wout code : Int32} (ok : okN N) (h : TN N T) : eAll N T wout code = eN N wout code := eAll_T (fun e he => h e (by have := ok.e2; omega)) ok.e1
theorem t_boundsNow {g : eg} {h : eh} {t : Nat} {σ : tS} {N : Nat → Int32} {Q : Outcome → eh → Prop} (hN : σ.2 16 = N) (ok : okN N)
    (hq : ∀ σ' b, Fq [23, 24, 25, 26, 27, 28, 29] σ σ' → TN N (σ'.2 27) → Sts σ' (eN N 0 (-1)) → Bd (nE N) (eN N 0 (-1)) b (σ'.2 29) → Q (.returned (some (.int (bI (b = true))))) (tw t σ' h)) : ew_T g kX2_boundsNow 5 [.ref t] (tw t σ h) Q := by
  refine ew_enter (by decide +kernel) (ew_a1 rfl ew_az) (Nat.le_of_ble_eq_true rfl) ?_
  refine ew_aload_n (pc := 0) dX2_boundsNow_0 rfl ?_
  refine ew_cV0 (d' := 0) (pc := 1) vX2_254 (tw_ro _ _ _ _) dX2_boundsNow_1 (by decide) (ew_rm (Nat.le_of_ble_eq_true rfl)) ?_
  refine t_timesN hN (fun σ1 F1 T1 => ?_)
  refine ew_Kv ?_
  refine ew_aload_n (pc := 4) dX2_boundsNow_4 rfl ?_
  refine ew_iconst (pc := 5) (v := 0) dX2_boundsNow_5 rfl ?_
  refine ew_iconst (pc := 6) (v := -1) dX2_boundsNow_6 rfl ?_
  refine ew_cV2 (d' := 4) (pc := 7) vX2_257 (tw_ro _ _ _ _) dX2_boundsNow_7 (by decide) (ew_rm (Nat.le_of_ble_eq_true rfl)) ?_
  refine t_boundsWithout ((F1.a 16 rfl).trans hN) rfl ok (fun σ2 b F2 S2 B2 => ?_)
  rw [eN_T ok T1] at S2 B2
  have T2 : TN N (σ2.2 27) := by rw [F2.a 27 rfl]; exact T1
  refine ew_Kr ?_
  refine ew_zret (pc := 10) (ty := .boolean) rfl bI_nar dX2_boundsNow_10 ?_
  exact hq _ _ (F1.t F2 rfl rfl) T2 S2 B2
theorem ex_ix {k a b : Nat} (hk : k ≤ 10) (ha : a < 10) (hb : b < 10) : (10 * k + a) * 10 + b < 1100 := by omega
theorem ex_nI (k a b : Nat) : ((10 : Int32) * nI k + nI a) * 10 + nI b = nI ((10 * k + a) * 10 + b) := by
  rw [show (10 : Int32) = nI 10 from rfl, nI_mul, nI_add, nI_mul, nI_add]
theorem t_exactOf {g : eg} {h : eh} {t k a b : Nat} {σ : tS} {f : Nat → Int32} {Q : Outcome → eh → Prop} (hf : σ.2 31 = f) (hk : k ≤ 10) (ha : a < 10) (hb : b < 10) (hq : Q (.returned (some (.int (f ((10 * k + a) * 10 + b))))) (tw t σ h)) : ew_T g kX2_exactOf 0 [.ref t, .int (nI k), .int (nI a), .int (nI b)] (tw t σ h) Q := by
  subst hf
  refine ew_enter (by decide +kernel) (ew_a1 rfl (ew_a1 rfl (ew_a1 rfl (ew_a1 rfl ew_az)))) (Nat.le_of_ble_eq_true rfl) ?_
  refine ew_aload_n (pc := 0) dX2_exactOf_0 rfl ?_
  refine tg_g31 (pc := 1) rfl dX2_exactOf_1 ?_
  refine ew_bipush (pc := 4) (v := 10) dX2_exactOf_4 rfl ?_
  refine ew_iload_n (pc := 6) dX2_exactOf_6 rfl ?_
  refine ew_imul (pc := 7) dX2_exactOf_7 ?_
  refine ew_iload_n (pc := 8) dX2_exactOf_8 rfl ?_
  refine ew_iadd (pc := 9) dX2_exactOf_9 ?_
  refine ew_bipush (pc := 10) (v := 10) dX2_exactOf_10 rfl ?_
  refine ew_imul (pc := 12) dX2_exactOf_12 ?_
  refine ew_iload_n (pc := 13) dX2_exactOf_13 rfl ?_
  refine ew_iadd (pc := 14) dX2_exactOf_14 ?_
  refine tg_l31 (pc := 15) (j := (10 * k + a) * 10 + b) (ex_nI k a b) (ex_ix hk ha hb) dX2_exactOf_15 ?_
  refine ew_iret (pc := 16) rfl dX2_exactOf_16 ?_
  exact hq
/-- the table of sums of just so many steps -/
def Ex (n : Nat) (E : List ed) (f : Nat → Int32) : Prop := ∀ k a b, k ≤ 10 → a < 10 → b < n → f ((10 * k + a) * 10 + b) = xI 268435456 E k a b
/-- what stands there within a round: rounds below k, steps below i for all, one more for events below b -/
def Ex3 (n : Nat) (E : List ed) (k i b : Nat) (f : Nat → Int32) : Prop := (∀ k' a' b', k' < k → a' < 10 → b' < n → f ((10 * k' + a') * 10 + b') = xI 268435456 E k' a' b') ∧ (∀ a' b', a' < 10 → b' < n → f ((10 * k + a') * 10 + b') = xP 268435456 (xI 268435456 E (k - 1)) (E.take (if b' < b then i + 1 else i)) a' b') ∧ (∀ k' a' b', k < k' → k' ≤ 10 → a' < 10 → b' < n → f ((10 * k' + a') * 10 + b') = 268435456)
theorem Ex3.step {n k i b : Nat} {E : List ed} {f : Nat → Int32} (hx : Ex3 n E k i b f) (hk : 1 ≤ k) (hn : n ≤ 10) (hb : b < n) (hi : i < E.length) (ha : (E[i]).1 < 10) (ha2 : (E[i]).2.1 < 10) :
    Ex3 n E k i (b + 1) (if f ((10 * (k - 1) + (E[i]).2.1) * 10 + b) < 268435456 then upd f ((10 * k + (E[i]).1) * 10 + b) (jmin (f ((10 * k + (E[i]).1) * 10 + b)) ((E[i]).2.2.1 + f ((10 * (k - 1) + (E[i]).2.1) * 10 + b))) else f) := by
  obtain ⟨h1, h2, h3⟩ := hx
  have hr : f ((10 * (k - 1) + (E[i]).2.1) * 10 + b) = xI 268435456 E (k - 1) (E[i]).2.1 b := h1 (k - 1) _ b (by omega) ha2 hb
  have ht : E.take (i + 1) = E.take i ++ [E[i]] := by rw [List.take_add_one, List.getElem?_eq_getElem hi]; rfl
  rw [hr]
  refine ⟨?_, ?_, ?_⟩
  · intro k' a' b' hk' ha' hb'
    have hne : (10 * k' + a') * 10 + b' ≠ (10 * k + (E[i]).1) * 10 + b := by omega
    split
    · rw [upd, if_neg hne]; exact h1 k' a' b' hk' ha' hb'
    · exact h1 k' a' b' hk' ha' hb'
  · intro a' b' ha' hb'
    by_cases hbb : b' = b
    · subst hbb
      rw [if_pos (Nat.lt_succ_self _), ht, xP_snoc]
      have h2b := h2 a' b' ha' hb'
      rw [if_neg (Nat.lt_irrefl _)] at h2b
      by_cases hc : xI 268435456 E (k - 1) (E[i]).2.1 b' < 268435456
      · rw [if_pos hc]
        by_cases hea : (E[i]).1 = a'
        · subst hea
          rw [if_pos ⟨rfl, hc⟩, ← h2b]
          simp [upd]
        · rw [if_neg (fun h9 => hea h9.1), upd, if_neg (by omega)]
          exact h2b
      · rw [if_neg hc, if_neg (fun h9 => hc h9.2)]
        exact h2b
    · have e9 : (if b' < b + 1 then i + 1 else i) = (if b' < b then i + 1 else i) := by
        by_cases h9 : b' < b
        · rw [if_pos h9, if_pos (by omega)]
        · rw [if_neg h9, if_neg (by omega)]
      rw [e9]
      split
      · rw [upd, if_neg (by omega)]; exact h2 a' b' ha' hb'
      · exact h2 a' b' ha' hb'
  · intro k' a' b' hk' hk2 ha' hb'
    split
    · rw [upd, if_neg (by omega)]; exact h3 k' a' b' hk' hk2 ha' hb'
    · exact h3 k' a' b' hk' hk2 ha' hb'
theorem Ex3.row {n k i : Nat} {E : List ed} {f : Nat → Int32} (hx : Ex3 n E k i n f) : Ex3 n E k (i + 1) 0 f := by
  refine ⟨hx.1, ?_, hx.2.2⟩
  intro a' b' ha' hb'
  have := hx.2.1 a' b' ha' hb'
  rw [if_pos hb'] at this
  rw [if_neg (Nat.not_lt_zero _)]
  exact this
theorem Ex3.next {n k : Nat} {E : List ed} {f : Nat → Int32} (hx : Ex3 n E k E.length 0 f) (hk : 1 ≤ k) (hk2 : k + 1 ≤ 10) : Ex3 n E (k + 1) 0 0 f := by
  refine ⟨?_, ?_, ?_⟩
  · intro k' a' b' hk' ha' hb'
    by_cases e : k' = k
    · subst e
      have := hx.2.1 a' b' ha' hb'
      rw [if_neg (Nat.not_lt_zero _), List.take_length] at this
      rw [this]
      obtain ⟨m, rfl⟩ : ∃ m, k' = m + 1 := ⟨k' - 1, by omega⟩
      rfl
    · exact hx.1 k' a' b' (by omega) ha' hb'
  · intro a' b' ha' hb'
    rw [if_neg (Nat.not_lt_zero _), List.take_zero]
    exact hx.2.2 (k + 1) a' b' (by omega) hk2 ha' hb'
  · intro k' a' b' hk' hk2 ha' hb'
    exact hx.2.2 k' a' b' (by omega) hk2 ha' hb'
theorem Ex3.done {n : Nat} {E : List ed} {f : Nat → Int32} (hx : Ex3 n E 10 E.length 0 f) : Ex n E f := by
  intro k a b hk ha hb
  by_cases e : k = 10
  · subst e
    have := hx.2.1 a b ha hb
    rw [if_neg (Nat.not_lt_zero _), List.take_length] at this
    rw [this]
    rfl
  · exact hx.1 k a b (by omega) ha hb
def xClr (f : Nat → Int32) : Nat → Nat → Int32
  | 0 => f
  | k + 1 => upd (xClr f k) k 268435456
def xDia (f : Nat → Int32) : Nat → Nat → Int32
  | 0 => f
  | a + 1 => upd (xDia f a) (10 * a + a) 0
theorem xClr_at (f : Nat → Int32) : ∀ m k, k < m → xClr f m k = 268435456
  | 0, k, h => absurd h (Nat.not_lt_zero _)
  | m + 1, k, h => by
    by_cases h1 : k = m
    · subst h1; simp [xClr, upd]
    · have := xClr_at f m k (by omega)
      simp [xClr, upd, h1, this]
theorem xDia_at (f : Nat → Int32) : ∀ m k, xDia f m k = if k < 11 * m ∧ k % 11 = 0 then 0 else f k
  | 0, k => by simp [xDia]
  | m + 1, k => by
    have := xDia_at f m k
    by_cases h1 : k = 11 * m
    · subst h1
      have e9 : 10 * m + m = 11 * m := by omega
      rw [if_pos ⟨by omega, Nat.mul_mod_right 11 m⟩, xDia, upd, if_pos e9.symm]
    · rw [xDia, upd, if_neg (by omega), this]
      by_cases h2 : k < 11 * m ∧ k % 11 = 0
      · rw [if_pos h2, if_pos ⟨by omega, h2.2⟩]
      · rw [if_neg h2, if_neg (by omega)]
theorem Ex3.start (n : Nat) (E : List ed) (f : Nat → Int32) (hn : n ≤ 10) : Ex3 n E 1 0 0 (xDia (xClr f 1100) 10) := by
  refine ⟨?_, ?_, ?_⟩
  · intro k' a' b' hk' ha' hb'
    have e : k' = 0 := by omega
    subst e
    rw [xDia_at, xClr_at _ _ _ (by omega), xI]
    by_cases h1 : a' = b'
    · rw [if_pos h1, if_pos (by omega)]
    · rw [if_neg h1, if_neg (by omega)]
  · intro a' b' ha' hb'
    rw [xDia_at, xClr_at _ _ _ (by omega), if_neg (by omega), if_neg (Nat.not_lt_zero _)]
    rfl
  · intro k' a' b' hk' hk2 ha' hb'
    rw [xDia_at, xClr_at _ _ _ (by omega), if_neg (by omega)]
theorem t_exactly {g : eg} {h : eh} {t : Nat} {σ : tS} {N : Nat → Int32} {E : List ed} {Q : Outcome → eh → Prop} (hN : σ.2 16 = N) (ok : okN N) (hS : Sts σ E) (hE : okE (nE N) E) (hl : E.length < 80)
    (hq : ∀ σ', Fq [31] σ σ' → Ex (nE N) E (σ'.2 31) → Q (.returned none) (tw t σ' h)) : ew_T g kX2_exactly 1 [.ref t] (tw t σ h) Q := by
  have hn1 := ok.e1
  have hn2 := ok.e2
  have lB : ∀ (k i : Nat), 1 ≤ k → k ≤ 10 → i < E.length → (∀ f x4 x5, Ex3 (nE N) E k i (nE N) f → ew_G g kX2_exactly 1 152 [.ref t, .int (nI k), .int (nI i), .int (nI (nE N)), x4, x5] [] (tw t (tA σ 31 f) h) Q) → ∀ m b f x4 x5, b + m = nE N → Ex3 (nE N) E k i b f → ew_G g kX2_exactly 1 71 [.ref t, .int (nI k), .int (nI i), .int (nI b), x4, x5] [] (tw t (tA σ 31 f) h) Q := by
    intro k i hk1 hk2 hi k1 m
    induction m with
    | zero =>
      intro b f x4 x5 hb hx
      have e9 : b = nE N := by omega
      subst e9
      refine ew_iload_n (pc := 71) dX2_exactly_71 rfl ?_
      refine ew_aload_n (pc := 72) dX2_exactly_72 rfl ?_
      refine ew_cV0 (d' := 0) (pc := 73) vX2_230 (tw_ro _ _ _ _) dX2_exactly_73 (by decide) (ew_rm (Nat.le_of_ble_eq_true rfl)) ?_
      refine t_eventsN (N := N) hN ok ?_
      refine ew_Kr ?_
      refine ew_icmp_ge (pc := 76) (tgt := 152) dX2_exactly_76 (by decide) (fun c76 => ?_) (fun c76 => absurd (nI_le (Nat.le_refl _) (by omega)) c76)
      exact k1 f _ _ hx
    | succ m ih =>
      intro b f x4 x5 hb hx
      have he := List.getElem?_eq_getElem hi
      have h1 := hS.2 i _ he
      have h2 := hE i _ he
      have hx1 := hx.step hk1 hn2 (by omega) hi (by omega) (by omega)
      refine ew_iload_n (pc := 71) dX2_exactly_71 rfl ?_
      refine ew_aload_n (pc := 72) dX2_exactly_72 rfl ?_
      refine ew_cV0 (d' := 0) (pc := 73) vX2_230 (tw_ro _ _ _ _) dX2_exactly_73 (by decide) (ew_rm (Nat.le_of_ble_eq_true rfl)) ?_
      refine t_eventsN (N := N) hN ok ?_
      refine ew_Kr ?_
      refine ew_icmp_ge (pc := 76) (tgt := 152) dX2_exactly_76 (by decide) (fun c76 => absurd c76 (nI_ge (by omega) (by omega))) (fun c76 => ?_)
      refine ew_aload_n (pc := 79) dX2_exactly_79 rfl ?_
      refine ew_iload_n (pc := 80) dX2_exactly_80 rfl ?_
      refine ew_iconst (pc := 81) (v := 1) dX2_exactly_81 rfl ?_
      refine ew_isub (pc := 82) dX2_exactly_82 ?_
      refine ew_aload_n (pc := 83) dX2_exactly_83 rfl ?_
      refine tg_g24 (pc := 84) rfl dX2_exactly_84 ?_
      refine ew_iload_n (pc := 87) dX2_exactly_87 rfl ?_
      refine tg_l24 (pc := 88) (j := i) rfl (by omega) dX2_exactly_88 ?_
      refine ew_iload_n (pc := 89) dX2_exactly_89 rfl ?_
      rw [show (tA σ 31 f).2 24 i = nI (E[i]).2.1 from h1.2.1, show nI k - 1 = nI (k - 1) from nI_sub hk1]
      refine ew_cV3 (d' := 0) (pc := 90) vX2_260 (tw_ro _ _ _ _) dX2_exactly_90 (by decide) (ew_rm (Nat.le_of_ble_eq_true rfl)) ?_
      refine t_exactOf (f := f) rfl (by omega) (by omega) (by omega) ?_
      refine ew_Kr ?_
      refine ew_istore (pc := 93) dX2_exactly_93 (by decide) (p1_4 rfl) ?_
      refine ew_bipush (pc := 95) (v := 10) dX2_exactly_95 rfl ?_
      refine ew_iload_n (pc := 97) dX2_exactly_97 rfl ?_
      refine ew_imul (pc := 98) dX2_exactly_98 ?_
      refine ew_aload_n (pc := 99) dX2_exactly_99 rfl ?_
      refine tg_g23 (pc := 100) rfl dX2_exactly_100 ?_
      refine ew_iload_n (pc := 103) dX2_exactly_103 rfl ?_
      refine tg_l23 (pc := 104) (j := i) rfl (by omega) dX2_exactly_104 ?_
      refine ew_iadd (pc := 105) dX2_exactly_105 ?_
      refine ew_bipush (pc := 106) (v := 10) dX2_exactly_106 rfl ?_
      refine ew_imul (pc := 108) dX2_exactly_108 ?_
      refine ew_iload_n (pc := 109) dX2_exactly_109 rfl ?_
      refine ew_iadd (pc := 110) dX2_exactly_110 ?_
      rw [show (tA σ 31 f).2 23 i = nI (E[i]).1 from h1.1, ex_nI]
      refine ew_istore (pc := 111) dX2_exactly_111 (by decide) (p1_5 rfl) ?_
      refine ew_iload (pc := 113) dX2_exactly_113 rfl ?_
      refine ew_ldc (pc := 115) (v := 268435456) (ew_q q2936) dX2_exactly_115 ?_
      refine ew_icmp_ge (pc := 117) (tgt := 146) dX2_exactly_117 (by decide) (fun c117 => ?_) (fun c117 => ?_)
      · refine ew_iinc (pc := 146) dX2_exactly_146 rfl (nI_inc b) (by decide) (p1_3 rfl) ?_
        refine ew_goto (pc := 149) (tgt := 71) dX2_exactly_149 (by decide) ?_
        first
        | rw [if_pos (Int32.not_le.mp c117)] at hx1
          rw [tA_tA]
          exact ih (b + 1) _ _ _ (by omega) hx1
        | rw [if_neg (Int32.not_lt.mpr c117)] at hx1
          exact ih (b + 1) _ _ _ (by omega) hx1
      · refine ew_aload_n (pc := 120) dX2_exactly_120 rfl ?_
        refine tg_g31 (pc := 121) rfl dX2_exactly_121 ?_
        refine ew_iload (pc := 124) dX2_exactly_124 rfl ?_
        refine ew_aload_n (pc := 126) dX2_exactly_126 rfl ?_
        refine tg_g31 (pc := 127) rfl dX2_exactly_127 ?_
        refine ew_iload (pc := 130) dX2_exactly_130 rfl ?_
        refine tg_l31 (pc := 132) (j := (10 * k + (E[i]).1) * 10 + b) rfl (by omega) dX2_exactly_132 ?_
        refine ew_aload_n (pc := 133) dX2_exactly_133 rfl ?_
        refine tg_g25 (pc := 134) rfl dX2_exactly_134 ?_
        refine ew_iload_n (pc := 137) dX2_exactly_137 rfl ?_
        refine tg_l25 (pc := 138) (j := i) rfl (by omega) dX2_exactly_138 ?_
        refine ew_iload (pc := 139) dX2_exactly_139 rfl ?_
        rw [show (tA σ 31 f).2 25 i = (E[i]).2.2.1 from h1.2.2.1]
        refine ew_iadd (pc := 141) dX2_exactly_141 ?_
        refine ew_mmin (pc := 142) (ew_q q2937) (ew_q q596) (ew_q q141) (ew_q q597) (ew_rm (Nat.le_of_ble_eq_true rfl)) dX2_exactly_142 ?_
        refine tg_s31 (pc := 145) (j := (10 * k + (E[i]).1) * 10 + b) rfl (by omega) dX2_exactly_145 ?_
        refine ew_iinc (pc := 146) dX2_exactly_146 rfl (nI_inc b) (by decide) (p1_3 rfl) ?_
        refine ew_goto (pc := 149) (tgt := 71) dX2_exactly_149 (by decide) ?_
        first
        | rw [if_pos (Int32.not_le.mp c117)] at hx1
          rw [tA_tA]
          exact ih (b + 1) _ _ _ (by omega) hx1
        | rw [if_neg (Int32.not_lt.mpr c117)] at hx1
          exact ih (b + 1) _ _ _ (by omega) hx1
  have lI : ∀ (k : Nat), 1 ≤ k → k ≤ 10 → (∀ f x3 x4 x5, Ex3 (nE N) E k E.length 0 f → ew_G g kX2_exactly 1 158 [.ref t, .int (nI k), .int (nI E.length), x3, x4, x5] [] (tw t (tA σ 31 f) h) Q) → ∀ m i f x3 x4 x5, i + m = E.length → Ex3 (nE N) E k i 0 f → ew_G g kX2_exactly 1 61 [.ref t, .int (nI k), .int (nI i), x3, x4, x5] [] (tw t (tA σ 31 f) h) Q := by
    intro k hk1 hk2 k1 m
    induction m with
    | zero =>
      intro i f x3 x4 x5 hi hx
      have e9 : i = E.length := by omega
      subst e9
      refine ew_iload_n (pc := 61) dX2_exactly_61 rfl ?_
      refine ew_aload_n (pc := 62) dX2_exactly_62 rfl ?_
      refine tg_g28 (pc := 63) rfl dX2_exactly_63 ?_
      rw [show (tA σ 31 f).1 28 = nI E.length from hS.1]
      refine ew_icmp_ge (pc := 66) (tgt := 158) dX2_exactly_66 (by decide) (fun c66 => ?_) (fun c66 => absurd (nI_le (Nat.le_refl _) (by omega)) c66)
      exact k1 f _ _ _ hx
    | succ m ih =>
      intro i f x3 x4 x5 hi hx
      have k2 : ∀ f x4 x5, Ex3 (nE N) E k i (nE N) f → ew_G g kX2_exactly 1 152 [.ref t, .int (nI k), .int (nI i), .int (nI (nE N)), x4, x5] [] (tw t (tA σ 31 f) h) Q := by
        intro f x4 x5 hx
        refine ew_iinc (pc := 152) dX2_exactly_152 rfl (nI_inc i) (by decide) (p1_2 rfl) ?_
        refine ew_goto (pc := 155) (tgt := 61) dX2_exactly_155 (by decide) ?_
        exact ih (i + 1) f _ _ _ (by omega) hx.row
      refine ew_iload_n (pc := 61) dX2_exactly_61 rfl ?_
      refine ew_aload_n (pc := 62) dX2_exactly_62 rfl ?_
      refine tg_g28 (pc := 63) rfl dX2_exactly_63 ?_
      rw [show (tA σ 31 f).1 28 = nI E.length from hS.1]
      refine ew_icmp_ge (pc := 66) (tgt := 158) dX2_exactly_66 (by decide) (fun c66 => absurd c66 (nI_ge (by omega) (by omega))) (fun c66 => ?_)
      refine ew_iconst (pc := 69) (v := 0) dX2_exactly_69 rfl ?_
      refine ew_istore_n (pc := 70) dX2_exactly_70 rfl (by decide) (p1_3 rfl) ?_
      exact lB k i hk1 hk2 (by omega) k2 (nE N) 0 f _ _ (by omega) hx
  have lK : ∀ m k f x2 x3 x4 x5, k + m = 10 → 1 ≤ k → Ex3 (nE N) E k 0 0 f → ew_G g kX2_exactly 1 53 [.ref t, .int (nI k), x2, x3, x4, x5] [] (tw t (tA σ 31 f) h) Q := by
    have kE : ∀ f x2 x3 x4 x5, Ex (nE N) E f → ew_G g kX2_exactly 1 53 [.ref t, .int (nI 11), x2, x3, x4, x5] [] (tw t (tA σ 31 f) h) Q := by
      intro f x2 x3 x4 x5 hx
      refine ew_iload_n (pc := 53) dX2_exactly_53 rfl ?_
      refine ew_bipush (pc := 54) (v := 10) dX2_exactly_54 rfl ?_
      refine ew_icmp_gt (pc := 56) (tgt := 164) dX2_exactly_56 (by decide) (fun c56 => ?_) (fun c56 => absurd (by decide) c56)
      refine ew_vret (pc := 164) rfl dX2_exactly_164 ?_
      exact hq _ (Fq.A _ 31 _ rfl) hx
    intro m
    induction m with
    | zero =>
      intro k f x2 x3 x4 x5 hk hk1 hx
      have e9 : k = 10 := by omega
      subst e9
      have k1 : ∀ f x3 x4 x5, Ex3 (nE N) E 10 E.length 0 f → ew_G g kX2_exactly 1 158 [.ref t, .int (nI 10), .int (nI E.length), x3, x4, x5] [] (tw t (tA σ 31 f) h) Q := by
        intro f x3 x4 x5 hx
        refine ew_iinc (pc := 158) dX2_exactly_158 rfl (nI_inc 10) (by decide) (p1_1 rfl) ?_
        refine ew_goto (pc := 161) (tgt := 53) dX2_exactly_161 (by decide) ?_
        exact kE f _ _ _ _ hx.done
      refine ew_iload_n (pc := 53) dX2_exactly_53 rfl ?_
      refine ew_bipush (pc := 54) (v := 10) dX2_exactly_54 rfl ?_
      refine ew_icmp_gt (pc := 56) (tgt := 164) dX2_exactly_56 (by decide) (fun c56 => absurd c56 (by decide)) (fun c56 => ?_)
      refine ew_iconst (pc := 59) (v := 0) dX2_exactly_59 rfl ?_
      refine ew_istore_n (pc := 60) dX2_exactly_60 rfl (by decide) (p1_2 rfl) ?_
      exact lI 10 (by omega) (by omega) k1 E.length 0 f _ _ _ (by omega) hx
    | succ m ih =>
      intro k f x2 x3 x4 x5 hk hk1 hx
      have k1 : ∀ f x3 x4 x5, Ex3 (nE N) E k E.length 0 f → ew_G g kX2_exactly 1 158 [.ref t, .int (nI k), .int (nI E.length), x3, x4, x5] [] (tw t (tA σ 31 f) h) Q := by
        intro f x3 x4 x5 hx
        refine ew_iinc (pc := 158) dX2_exactly_158 rfl (nI_inc k) (by decide) (p1_1 rfl) ?_
        refine ew_goto (pc := 161) (tgt := 53) dX2_exactly_161 (by decide) ?_
        exact ih (k + 1) f _ _ _ _ (by omega) (by omega) (hx.next hk1 (by omega))
      refine ew_iload_n (pc := 53) dX2_exactly_53 rfl ?_
      refine ew_bipush (pc := 54) (v := 10) dX2_exactly_54 rfl ?_
      refine ew_icmp_gt (pc := 56) (tgt := 164) dX2_exactly_56 (by decide) (fun c56 => absurd c56 (nI_nlt (a := 10) (b := k) (by omega) (by omega))) (fun c56 => ?_)
      refine ew_iconst (pc := 59) (v := 0) dX2_exactly_59 rfl ?_
      refine ew_istore_n (pc := 60) dX2_exactly_60 rfl (by decide) (p1_2 rfl) ?_
      exact lI k (by omega) (by omega) k1 E.length 0 f _ _ _ (by omega) hx
  have lD : ∀ m a f x2 x3 x4 x5, a + m = 10 → ew_G g kX2_exactly 1 27 [.ref t, .int (nI a), x2, x3, x4, x5] [] (tw t (tA σ 31 (xDia (xClr f 1100) a)) h) Q := by
    intro m
    induction m with
    | zero =>
      intro a f x2 x3 x4 x5 ha
      have e9 : a = 10 := by omega
      subst e9
      refine ew_iload_n (pc := 27) dX2_exactly_27 rfl ?_
      refine ew_bipush (pc := 28) (v := 10) dX2_exactly_28 rfl ?_
      refine ew_icmp_ge (pc := 30) (tgt := 51) dX2_exactly_30 (by decide) (fun c30 => ?_) (fun c30 => absurd (by decide) c30)
      refine ew_iconst (pc := 51) (v := 1) dX2_exactly_51 rfl ?_
      refine ew_istore_n (pc := 52) dX2_exactly_52 rfl (by decide) (p1_1 rfl) ?_
      exact lK 9 1 _ _ _ _ _ (by omega) (by omega) (Ex3.start _ _ _ hn2)
    | succ m ih =>
      intro a f x2 x3 x4 x5 ha
      refine ew_iload_n (pc := 27) dX2_exactly_27 rfl ?_
      refine ew_bipush (pc := 28) (v := 10) dX2_exactly_28 rfl ?_
      refine ew_icmp_ge (pc := 30) (tgt := 51) dX2_exactly_30 (by decide) (fun c30 => absurd c30 (nI_ge (b := 10) (by omega) (by decide))) (fun c30 => ?_)
      refine ew_aload_n (pc := 33) dX2_exactly_33 rfl ?_
      refine tg_g31 (pc := 34) rfl dX2_exactly_34 ?_
      refine ew_bipush (pc := 37) (v := 10) dX2_exactly_37 rfl ?_
      refine ew_iload_n (pc := 39) dX2_exactly_39 rfl ?_
      refine ew_imul (pc := 40) dX2_exactly_40 ?_
      refine ew_iload_n (pc := 41) dX2_exactly_41 rfl ?_
      refine ew_iadd (pc := 42) dX2_exactly_42 ?_
      refine ew_iconst (pc := 43) (v := 0) dX2_exactly_43 rfl ?_
      refine tg_s31 (pc := 44) (j := 10 * a + a) (by rw [show (10 : Int32) = nI 10 from rfl, nI_mul, nI_add]) (by omega) dX2_exactly_44 ?_
      rw [tA_tA]
      refine ew_iinc (pc := 45) dX2_exactly_45 rfl (nI_inc a) (by decide) (p1_1 rfl) ?_
      refine ew_goto (pc := 48) (tgt := 27) dX2_exactly_48 (by decide) ?_
      exact ih (a + 1) f _ _ _ _ (by omega)
  have lC : ∀ m k f x2 x3 x4 x5, k + m = 1100 → ew_G g kX2_exactly 1 2 [.ref t, .int (nI k), x2, x3, x4, x5] [] (tw t (tA σ 31 (xClr f k)) h) Q := by
    intro m
    induction m with
    | zero =>
      intro k f x2 x3 x4 x5 hk
      have e9 : k = 1100 := by omega
      subst e9
      refine ew_iload_n (pc := 2) dX2_exactly_2 rfl ?_
      refine ew_aload_n (pc := 3) dX2_exactly_3 rfl ?_
      refine tg_g31 (pc := 4) rfl dX2_exactly_4 ?_
      refine tg_n31 (pc := 7) dX2_exactly_7 ?_
      refine ew_icmp_ge (pc := 8) (tgt := 25) dX2_exactly_8 (by decide) (fun c8 => ?_) (fun c8 => absurd (nI_le (Nat.le_refl 1100) (by decide)) c8)
      refine ew_iconst (pc := 25) (v := 0) dX2_exactly_25 rfl ?_
      refine ew_istore_n (pc := 26) dX2_exactly_26 rfl (by decide) (p1_1 rfl) ?_
      exact lD 10 0 f _ _ _ _ (by omega)
    | succ m ih =>
      intro k f x2 x3 x4 x5 hk
      refine ew_iload_n (pc := 2) dX2_exactly_2 rfl ?_
      refine ew_aload_n (pc := 3) dX2_exactly_3 rfl ?_
      refine tg_g31 (pc := 4) rfl dX2_exactly_4 ?_
      refine tg_n31 (pc := 7) dX2_exactly_7 ?_
      refine ew_icmp_ge (pc := 8) (tgt := 25) dX2_exactly_8 (by decide) (fun c8 => absurd c8 (nI_ge (b := 1100) (by omega) (by decide))) (fun c8 => ?_)
      refine ew_aload_n (pc := 11) dX2_exactly_11 rfl ?_
      refine tg_g31 (pc := 12) rfl dX2_exactly_12 ?_
      refine ew_iload_n (pc := 15) dX2_exactly_15 rfl ?_
      refine ew_ldc (pc := 16) (v := 268435456) (ew_q q2936) dX2_exactly_16 ?_
      refine tg_s31 (pc := 18) (j := k) rfl (by omega) dX2_exactly_18 ?_
      rw [tA_tA]
      refine ew_iinc (pc := 19) dX2_exactly_19 rfl (nI_inc k) (by decide) (p1_1 rfl) ?_
      refine ew_goto (pc := 22) (tgt := 2) dX2_exactly_22 (by decide) ?_
      exact ih (k + 1) f _ _ _ _ (by omega)
  refine ew_enter (by decide +kernel) (ew_a1 rfl (ew_an (ew_an (ew_an (ew_an (ew_an ew_az)))))) (Nat.le_of_ble_eq_true rfl) ?_
  refine ew_iconst (pc := 0) (v := 0) dX2_exactly_0 rfl ?_
  refine ew_istore_n (pc := 1) dX2_exactly_1 rfl (by decide) (p1_1 rfl) ?_
  have e := lC 1100 0 (σ.2 31) no_ no_ no_ no_ (by omega)
  rw [xClr, tA_id] at e
  exact e
