/-! EW: the reference: ways, rounds, what may be asked -/
set_option maxRecDepth 100000
/-- scratch -/
abbrev SC : List Nat := [0, 23, 24, 25, 26, 27, 28, 29, 30, 31, 32, 33, 34, 35, 36, 37, 38, 39]
theorem rowL_len {F : Int32} {E : List ed} {b : Nat} : ∀ m a, (m = 0 ∨ xI F E m a b ≠ F) → (rowL F E b m a).length = m
  | 0, _, _ => rfl
  | m + 1, a, h => by
    obtain ⟨e, he, _, h2, _⟩ := rowP_is (h.resolve_left (by omega))
    rw [rowL, he]
    show (rowL F E b m e.2.1).length + 1 = m + 1
    rw [rowL_len m e.2.1 (Or.inr (fun h9 => absurd h2 (by rw [h9]; exact fun h8 => Int32.lt_irrefl h8)))]
/-- a told way: the first number of steps, below 10 of them, with the sum s -/
def fewI (F : Int32) (E : List ed) (s : Int32) (a b : Nat) : Nat → Nat → Option Nat
  | 0, _ => none
  | r + 1, m => if xI F E m a b = s then some m else fewI F E s a b r (m + 1)
theorem t_wayOf {g : eg} {h : eh} {t a b : Nat} {σ : tS} {N : Nat → Int32} {E : List ed} {G : Nat → Int32} {Q : Outcome → eh → Prop} (hN : σ.2 16 = N) (ok : okN N) (hS : Sts σ E) (hE : okE (nE N) E) (hl : E.length < 80) (ha : a < nE N) (hb : b < nE N) (hG : Ag (σ.2 29) G) (hB : G (10 * a + b) ≠ 268435456 ∨ a ≠ b)
    (hq : ∀ σ' r, Fq [31, 32, 33, 34] σ σ' → (∀ m, fewI 268435456 E (G (10 * a + b)) a b 10 0 = some m → Row σ' m (xI 268435456 E m a b) (rowL 268435456 E b m a)) → r = bI (G (10 * a + b) < 268435456 ∧ fewI 268435456 E (G (10 * a + b)) a b 10 0 ≠ none) → Q (.returned (some (.int r))) (tw t σ' h)) : ew_T g kX2_wayOf 2 [.ref t, .int (nI a), .int (nI b)] (tw t σ h) Q := by
  have hn2 := ok.e2
  have ky : ∀ m σ', Fq [31] σ σ' → Ex (nE N) E (σ'.2 31) → fewI 268435456 E (G (10 * a + b)) a b 10 0 = some m → m ≤ 10 → (m = 0 ∨ xI 268435456 E m a b ≠ 268435456) → ew_G g kX2_wayOf 2 31 [.ref t, .int (nI a), .int (nI b), .int (nI m)] [] (tw t σ' h) Q := by
    intro m σ' hF hX hf hm hx
    refine ew_aload_n (pc := 31) dX2_wayOf_31 rfl ?_
    refine ew_iload_n (pc := 32) dX2_wayOf_32 rfl ?_
    refine ew_iload_n (pc := 33) dX2_wayOf_33 rfl ?_
    refine ew_iload_n (pc := 34) dX2_wayOf_34 rfl ?_
    refine ew_cV3 (d' := 1) (pc := 35) vX2_273 (tw_ro _ _ _ _) dX2_wayOf_35 (by decide) (ew_rm (Nat.le_of_ble_eq_true rfl)) ?_
    refine t_rowOf hn2 (hS.fq hF rfl) hE hl hX hm ha hb hx (fun σ2 F2 R2 => ?_)
    refine ew_Kv ?_
    refine ew_aload_n (pc := 38) dX2_wayOf_38 rfl ?_
    refine ew_iload_n (pc := 39) dX2_wayOf_39 rfl ?_
    refine ew_iload_n (pc := 40) dX2_wayOf_40 rfl ?_
    refine ew_cV2 (d' := 0) (pc := 41) vX2_233 (tw_ro _ _ _ _) dX2_wayOf_41 (by decide) (ew_rm (Nat.le_of_ble_eq_true rfl)) ?_
    refine t_boundOf (f := σ2.2 29) rfl (by omega) (by omega) ?_
    rw [show σ2.2 29 (10 * a + b) = G (10 * a + b) by rw [F2.a 29 rfl, hF.a 29 rfl]; exact hG _ (by omega)]
    refine ew_Kr ?_
    refine ew_ldc (pc := 44) (v := 268435456) (ew_q q2936) dX2_wayOf_44 ?_
    refine ew_icmp_ge (pc := 46) (tgt := 53) dX2_wayOf_46 (by decide) (fun c46 => ?_) (fun c46 => ?_)
    · refine ew_iconst (pc := 53) (v := 0) dX2_wayOf_53 rfl ?_
      refine ew_zret (pc := 54) (ty := .boolean) rfl rfl dX2_wayOf_54 ?_
      refine hq σ2 _ (hF.t F2 rfl rfl) (fun m' h9 => ?_) ?_
      · rw [hf] at h9
        injection h9 with h9
        subst h9
        exact R2
      · first
        | exact (bI_t ⟨Int32.not_le.mp c46, by rw [hf]; exact fun h9 => nomatch h9⟩).symm
        | exact (bI_f (fun h9 => absurd h9.1 (Int32.not_lt.mpr c46))).symm
    · refine ew_iconst (pc := 49) (v := 1) dX2_wayOf_49 rfl ?_
      refine ew_goto (pc := 50) (tgt := 54) dX2_wayOf_50 (by decide) ?_
      refine ew_zret (pc := 54) (ty := .boolean) rfl rfl dX2_wayOf_54 ?_
      refine hq σ2 _ (hF.t F2 rfl rfl) (fun m' h9 => ?_) ?_
      · rw [hf] at h9
        injection h9 with h9
        subst h9
        exact R2
      · first
        | exact (bI_t ⟨Int32.not_le.mp c46, by rw [hf]; exact fun h9 => nomatch h9⟩).symm
        | exact (bI_f (fun h9 => absurd h9.1 (Int32.not_lt.mpr c46))).symm
  have main : ∀ r m σ', m + r = 10 → Fq [31] σ σ' → Ex (nE N) E (σ'.2 31) → fewI 268435456 E (G (10 * a + b)) a b r m = fewI 268435456 E (G (10 * a + b)) a b 10 0 → (m ≠ 0 → G (10 * a + b) ≠ 268435456) → ew_G g kX2_wayOf 2 6 [.ref t, .int (nI a), .int (nI b), .int (nI m)] [] (tw t σ' h) Q := by
    intro r
    induction r with
    | zero =>
      intro m σ' hm hF hX hf hG9
      have e9 : m = 10 := by omega
      subst e9
      refine ew_iload_n (pc := 6) dX2_wayOf_6 rfl ?_
      refine ew_bipush (pc := 7) (v := 10) dX2_wayOf_7 rfl ?_
      refine ew_icmp_ge (pc := 9) (tgt := 61) dX2_wayOf_9 (by decide) (fun c9 => ?_) (fun c9 => absurd (by decide) c9)
      refine ew_iconst (pc := 61) (v := 0) dX2_wayOf_61 rfl ?_
      refine ew_zret (pc := 62) (ty := .boolean) rfl rfl dX2_wayOf_62 ?_
      refine hq σ' 0 (hF.w rfl) (fun m h9 => ?_) (bI_f (fun h9 => h9.2 ?_)).symm
      · rw [← hf] at h9; cases h9
      · rw [← hf]; rfl
    | succ r ih =>
      intro m σ' hm hF hX hf hG9
      have hXm := hX m a b (by omega) (by omega) hb
      have hGa : σ'.2 29 (10 * a + b) = G (10 * a + b) := by rw [hF.a 29 rfl]; exact hG _ (by omega)
      refine ew_iload_n (pc := 6) dX2_wayOf_6 rfl ?_
      refine ew_bipush (pc := 7) (v := 10) dX2_wayOf_7 rfl ?_
      refine ew_icmp_ge (pc := 9) (tgt := 61) dX2_wayOf_9 (by decide) (fun c9 => absurd c9 (nI_ge (b := 10) (by omega) (by decide))) (fun c9 => ?_)
      refine ew_aload_n (pc := 12) dX2_wayOf_12 rfl ?_
      refine ew_iload_n (pc := 13) dX2_wayOf_13 rfl ?_
      refine ew_iload_n (pc := 14) dX2_wayOf_14 rfl ?_
      refine ew_iload_n (pc := 15) dX2_wayOf_15 rfl ?_
      refine ew_cV3 (d' := 0) (pc := 16) vX2_260 (tw_ro _ _ _ _) dX2_wayOf_16 (by decide) (ew_rm (Nat.le_of_ble_eq_true rfl)) ?_
      refine t_exactOf (f := σ'.2 31) rfl (by omega) (by omega) (by omega) ?_
      rw [hXm]
      refine ew_Kr ?_
      refine ew_aload_n (pc := 19) dX2_wayOf_19 rfl ?_
      refine ew_iload_n (pc := 20) dX2_wayOf_20 rfl ?_
      refine ew_iload_n (pc := 21) dX2_wayOf_21 rfl ?_
      refine ew_cV2 (d' := 0) (pc := 22) vX2_233 (tw_ro _ _ _ _) dX2_wayOf_22 (by decide) (ew_rm (Nat.le_of_ble_eq_true rfl)) ?_
      refine t_boundOf (f := σ'.2 29) rfl (by omega) (by omega) ?_
      rw [hGa]
      refine ew_Kr ?_
      refine ew_icmp_eq (pc := 25) (tgt := 31) dX2_wayOf_25 (by decide) (fun c25 => ?_) (fun c25 => ?_)
      · have hf2 : fewI 268435456 E (G (10 * a + b)) a b 10 0 = some m := by rw [← hf, fewI, if_pos c25]
        have hx9 : m = 0 ∨ xI 268435456 E m a b ≠ 268435456 := by
          by_cases h0 : m = 0
          · exact Or.inl h0
          · exact Or.inr (by rw [c25]; exact hG9 h0)
        exact ky m σ' hF hX hf2 (by omega) hx9
      · refine ew_goto (pc := 28) (tgt := 55) dX2_wayOf_28 (by decide) ?_
        refine ew_iinc (pc := 55) dX2_wayOf_55 rfl (nI_inc m) (by decide) (p1_3 rfl) ?_
        refine ew_goto (pc := 58) (tgt := 6) dX2_wayOf_58 (by decide) ?_
        rw [fewI, if_neg c25] at hf
        refine ih (m + 1) σ' (by omega) hF hX hf ?_
        intro _
        by_cases h0 : m = 0
        · subst h0
          rcases hB with hB | hB
          · exact hB
          · rw [xI, if_neg hB] at c25
            exact fun h9 => c25 h9.symm
        · exact hG9 h0
  refine ew_enter (by decide +kernel) (ew_a1 rfl (ew_a1 rfl (ew_a1 rfl (ew_an ew_az)))) (Nat.le_of_ble_eq_true rfl) ?_
  refine ew_aload_n (pc := 0) dX2_wayOf_0 rfl ?_
  refine ew_cV0 (d' := 1) (pc := 1) vX2_270 (tw_ro _ _ _ _) dX2_wayOf_1 (by decide) (ew_rm (Nat.le_of_ble_eq_true rfl)) ?_
  refine t_exactly hN ok hS hE hl (fun σ1 F1 X1 => ?_)
  refine ew_Kv ?_
  refine ew_iconst (pc := 4) (v := 0) dX2_wayOf_4 rfl ?_
  refine ew_istore_n (pc := 5) dX2_wayOf_5 rfl (by decide) (p1_3 rfl) ?_
  exact main 10 0 σ1 (by omega) F1 X1 rfl (fun h9 => absurd rfl h9)
/-- where the least round of so many steps begins, if its sum is below 0 -/
def rV (X : Nat → Int32) : Option Nat → Int32
  | none => 0
  | some b => X b
def rB (X : Nat → Int32) : Nat → Option Nat
  | 0 => none
  | a + 1 => if X a < rV X (rB X a) then some a else rB X a
def oI : Option Nat → Int32
  | none => -1
  | some b => nI b
theorem rB_lt (X : Nat → Int32) : ∀ n b, rB X n = some b → b < n
  | 0, _, h => by cases h
  | n + 1, b, h => by
    rw [rB] at h
    split at h
    · injection h with h; omega
    · have := rB_lt X n b h; omega
theorem rB_neg (X : Nat → Int32) : ∀ n b, rB X n = some b → X b < 0
  | 0, _, h => by cases h
  | n + 1, b, h => by
    rw [rB] at h
    split at h
    · rename_i h9
      injection h with h
      subst h
      cases hr : rB X n with
      | none => rw [hr] at h9; exact h9
      | some c => rw [hr] at h9; exact Int32.lt_trans h9 (rB_neg X n c hr)
    · exact rB_neg X n b h
theorem nI_m1 {n : Nat} (hn : n < 2 ^ 31) : nI n ≠ -1 := by
  intro h
  have h1 := nI_toInt hn
  rw [h] at h1
  have h2 : (-1 : Int32).toInt = -1 := by decide
  omega
theorem oI_m1 {o : Option Nat} {n : Nat} (ho : ∀ b, o = some b → b < n) (hn : n < 2 ^ 31) : oI o = -1 ↔ o = none := by
  cases o with
  | none => exact ⟨fun _ => rfl, fun _ => rfl⟩
  | some b =>
    refine ⟨fun h => absurd h (nI_m1 (Nat.lt_trans (ho b rfl) hn)), fun h => nomatch h⟩
theorem t_roundOf {g : eg} {h : eh} {t m : Nat} {σ : tS} {N : Nat → Int32} {E : List ed} {Q : Outcome → eh → Prop} (hN : σ.2 16 = N) (ok : okN N) (hX : Ex (nE N) E (σ.2 31)) (hm : m ≤ 10) (hq : Q (.returned (some (.int (oI (rB (fun a => xI 268435456 E m a a) (nE N)))))) (tw t σ h)) : ew_T g kX2_roundOf 1 [.ref t, .int (nI m)] (tw t σ h) Q := by
  have hn2 := ok.e2
  have main : ∀ r a, a + r = nE N → ew_G g kX2_roundOf 1 4 [.ref t, .int (nI m), .int (oI (rB (fun a => xI 268435456 E m a a) a)), .int (nI a)] [] (tw t σ h) Q := by
    intro r
    induction r with
    | zero =>
      intro a ha
      have e9 : a = nE N := by omega
      subst e9
      refine ew_iload_n (pc := 4) dX2_roundOf_4 rfl ?_
      refine ew_aload_n (pc := 5) dX2_roundOf_5 rfl ?_
      refine ew_cV0 (d' := 0) (pc := 6) vX2_230 (tw_ro _ _ _ _) dX2_roundOf_6 (by decide) (ew_rm (Nat.le_of_ble_eq_true rfl)) ?_
      refine t_eventsN hN ok ?_
      refine ew_Kr ?_
      refine ew_icmp_ge (pc := 9) (tgt := 46) dX2_roundOf_9 (by decide) (fun c9 => ?_) (fun c9 => absurd (nI_le (Nat.le_refl _) (by omega)) c9)
      refine ew_iload_n (pc := 46) dX2_roundOf_46 rfl ?_
      refine ew_iret (pc := 47) rfl dX2_roundOf_47 ?_
      exact hq
    | succ r ih =>
      intro a ha
      have hXa := hX m a a hm (by omega) (by omega)
      have ho := oI_m1 (o := rB (fun a => xI 268435456 E m a a) a) (rB_lt _ a) (by omega)
      cases hr : rB (fun a => xI 268435456 E m a a) a with
      | none =>
        rw [hr] at ho
        have ih1 := ih (a + 1) (by omega)
        rw [rB, hr, rV] at ih1
        refine ew_iload_n (pc := 4) dX2_roundOf_4 rfl ?_
        refine ew_aload_n (pc := 5) dX2_roundOf_5 rfl ?_
        refine ew_cV0 (d' := 0) (pc := 6) vX2_230 (tw_ro _ _ _ _) dX2_roundOf_6 (by decide) (ew_rm (Nat.le_of_ble_eq_true rfl)) ?_
        refine t_eventsN hN ok ?_
        refine ew_Kr ?_
        refine ew_icmp_ge (pc := 9) (tgt := 46) dX2_roundOf_9 (by decide) (fun c9 => absurd c9 (nI_ge (by omega) (by omega))) (fun c9 => ?_)
        refine ew_aload_n (pc := 12) dX2_roundOf_12 rfl ?_
        refine ew_iload_n (pc := 13) dX2_roundOf_13 rfl ?_
        refine ew_iload_n (pc := 14) dX2_roundOf_14 rfl ?_
        refine ew_iload_n (pc := 15) dX2_roundOf_15 rfl ?_
        refine ew_cV3 (d' := 0) (pc := 16) vX2_260 (tw_ro _ _ _ _) dX2_roundOf_16 (by decide) (ew_rm (Nat.le_of_ble_eq_true rfl)) ?_
        refine t_exactOf (f := σ.2 31) rfl hm (by omega) (by omega) ?_
        rw [hXa]
        refine ew_Kr ?_
        refine ew_iload_n (pc := 19) dX2_roundOf_19 rfl ?_
        refine ew_iconst (pc := 20) (v := -1) dX2_roundOf_20 rfl ?_
        refine ew_icmp_ne (pc := 21) (tgt := 28) dX2_roundOf_21 (by decide) (fun c21 => absurd rfl c21) (fun c21 => ?_)
        refine ew_iconst (pc := 24) (v := 0) dX2_roundOf_24 rfl ?_
        refine ew_goto (pc := 25) (tgt := 35) dX2_roundOf_25 (by decide) ?_
        refine ew_icmp_ge (pc := 35) (tgt := 40) dX2_roundOf_35 (by decide) (fun c35 => ?_) (fun c35 => ?_)
        · refine ew_iinc (pc := 40) dX2_roundOf_40 rfl (nI_inc a) (by decide) (p1_3 rfl) ?_
          refine ew_goto (pc := 43) (tgt := 4) dX2_roundOf_43 (by decide) ?_
          first
          | rw [if_pos (Int32.not_le.mp c35)] at ih1
            exact ih1
          | rw [if_neg (Int32.not_lt.mpr c35)] at ih1
            exact ih1
        · refine ew_iload_n (pc := 38) dX2_roundOf_38 rfl ?_
          refine ew_istore_n (pc := 39) dX2_roundOf_39 rfl (by decide) (p1_2 rfl) ?_
          refine ew_iinc (pc := 40) dX2_roundOf_40 rfl (nI_inc a) (by decide) (p1_3 rfl) ?_
          refine ew_goto (pc := 43) (tgt := 4) dX2_roundOf_43 (by decide) ?_
          first
          | rw [if_pos (Int32.not_le.mp c35)] at ih1
            exact ih1
          | rw [if_neg (Int32.not_lt.mpr c35)] at ih1
            exact ih1
      | some c =>
        have hc := rB_lt _ _ _ hr
        have hXc := hX m c c hm (by omega) (by omega)
        have ih1 := ih (a + 1) (by omega)
        rw [rB, hr, rV] at ih1
        refine ew_iload_n (pc := 4) dX2_roundOf_4 rfl ?_
        refine ew_aload_n (pc := 5) dX2_roundOf_5 rfl ?_
        refine ew_cV0 (d' := 0) (pc := 6) vX2_230 (tw_ro _ _ _ _) dX2_roundOf_6 (by decide) (ew_rm (Nat.le_of_ble_eq_true rfl)) ?_
        refine t_eventsN hN ok ?_
        refine ew_Kr ?_
        refine ew_icmp_ge (pc := 9) (tgt := 46) dX2_roundOf_9 (by decide) (fun c9 => absurd c9 (nI_ge (by omega) (by omega))) (fun c9 => ?_)
        refine ew_aload_n (pc := 12) dX2_roundOf_12 rfl ?_
        refine ew_iload_n (pc := 13) dX2_roundOf_13 rfl ?_
        refine ew_iload_n (pc := 14) dX2_roundOf_14 rfl ?_
        refine ew_iload_n (pc := 15) dX2_roundOf_15 rfl ?_
        refine ew_cV3 (d' := 0) (pc := 16) vX2_260 (tw_ro _ _ _ _) dX2_roundOf_16 (by decide) (ew_rm (Nat.le_of_ble_eq_true rfl)) ?_
        refine t_exactOf (f := σ.2 31) rfl hm (by omega) (by omega) ?_
        rw [hXa]
        refine ew_Kr ?_
        refine ew_iload_n (pc := 19) dX2_roundOf_19 rfl ?_
        refine ew_iconst (pc := 20) (v := -1) dX2_roundOf_20 rfl ?_
        refine ew_icmp_ne (pc := 21) (tgt := 28) dX2_roundOf_21 (by decide) (fun c21 => ?_) (fun c21 => absurd c21 (nI_m1 (n := c) (by omega)))
        refine ew_aload_n (pc := 28) dX2_roundOf_28 rfl ?_
        refine ew_iload_n (pc := 29) dX2_roundOf_29 rfl ?_
        refine ew_iload_n (pc := 30) dX2_roundOf_30 rfl ?_
        refine ew_iload_n (pc := 31) dX2_roundOf_31 rfl ?_
        refine ew_cV3 (d' := 0) (pc := 32) vX2_260 (tw_ro _ _ _ _) dX2_roundOf_32 (by decide) (ew_rm (Nat.le_of_ble_eq_true rfl)) ?_
        refine t_exactOf (a := c) (b := c) (f := σ.2 31) rfl hm (by omega) (by omega) ?_
        rw [hXc]
        refine ew_Kr ?_
        refine ew_icmp_ge (pc := 35) (tgt := 40) dX2_roundOf_35 (by decide) (fun c35 => ?_) (fun c35 => ?_)
        · refine ew_iinc (pc := 40) dX2_roundOf_40 rfl (nI_inc a) (by decide) (p1_3 rfl) ?_
          refine ew_goto (pc := 43) (tgt := 4) dX2_roundOf_43 (by decide) ?_
          first
          | rw [if_pos (Int32.not_le.mp c35)] at ih1
            exact ih1
          | rw [if_neg (Int32.not_lt.mpr c35)] at ih1
            exact ih1
        · refine ew_iload_n (pc := 38) dX2_roundOf_38 rfl ?_
          refine ew_istore_n (pc := 39) dX2_roundOf_39 rfl (by decide) (p1_2 rfl) ?_
          refine ew_iinc (pc := 40) dX2_roundOf_40 rfl (nI_inc a) (by decide) (p1_3 rfl) ?_
          refine ew_goto (pc := 43) (tgt := 4) dX2_roundOf_43 (by decide) ?_
          first
          | rw [if_pos (Int32.not_le.mp c35)] at ih1
            exact ih1
          | rw [if_neg (Int32.not_lt.mpr c35)] at ih1
            exact ih1
  refine ew_enter (by decide +kernel) (ew_a1 rfl (ew_a1 rfl (ew_an (ew_an ew_az)))) (Nat.le_of_ble_eq_true rfl) ?_
  refine ew_iconst (pc := 0) (v := -1) dX2_roundOf_0 rfl ?_
  refine ew_istore_n (pc := 1) dX2_roundOf_1 rfl (by decide) (p1_2 rfl) ?_
  refine ew_iconst (pc := 2) (v := 0) dX2_roundOf_2 rfl ?_
  refine ew_istore_n (pc := 3) dX2_roundOf_3 rfl (by decide) (p1_3 rfl) ?_
  exact main (nE N) 0 (by omega)
