/-! EW: the reference: the page -/
set_option maxRecDepth 100000
/-- bytes that stand on the page -/
def Pg (σ : tS) (L : List Int32) : Prop := σ.1 41 = nI L.length ∧ L.length ≤ 300 ∧ ∀ (i : Nat) (x : Int32), L[i]? = some x → σ.2 40 i = x
theorem Pg.fq {S : List Nat} {σ σ' : tS} {L : List Int32} (h : Pg σ L) (hF : Fq S σ σ') (h1 : S.contains 40 = false) (h2 : S.contains 41 = false) : Pg σ' L := by
  refine ⟨(hF.s 41 h2).trans h.1, h.2.1, ?_⟩
  rw [hF.a 40 h1]
  exact h.2.2
def wb (c : Int32) : Int32 := vp_nar .byte c.toInt8.toInt32
theorem Pg.push {σ : tS} {L : List Int32} (h : Pg σ L) (hl : L.length < 300) (x : Int32) : Pg (tI (tA σ 40 (upd (σ.2 40) L.length x)) 41 (nI (L.length + 1))) (L ++ [x]) := by
  refine ⟨?_, ?_, ?_⟩
  · rw [List.length_append]; rfl
  · rw [List.length_append, List.length_singleton]; omega
  · intro i y hy
    show upd (σ.2 40) L.length x i = y
    by_cases hi : i = L.length
    · subst hi
      rw [List.getElem?_append_right (Nat.le_refl _), Nat.sub_self] at hy
      injection hy with hy
      subst hy
      simp [upd]
    · have hlt : i < L.length := by
        have := (List.getElem?_eq_some_iff.mp hy).1
        rw [List.length_append, List.length_singleton] at this
        omega
      rw [List.getElem?_append_left hlt] at hy
      rw [upd, if_neg hi]
      exact h.2.2 i y hy
theorem t_writesByte {g : eg} {h : eh} {t : Nat} {σ : tS} {L : List Int32} {c : Int32} {Q : Outcome → eh → Prop} (hL : Pg σ L) (hl : L.length < 300) (hq : ∀ σ', Fq [40, 41] σ σ' → Pg σ' (L ++ [wb c]) → Q (.returned none) (tw t σ' h)) : ew_T g kX2_writesByte 0 [.ref t, .int c] (tw t σ h) Q := by
  have h41 : σ.1 41 + 1 = nI (L.length + 1) := by rw [hL.1]; exact nI_1 _
  refine ew_enter (by decide +kernel) (ew_a1 rfl (ew_a1 rfl ew_az)) (Nat.le_of_ble_eq_true rfl) ?_
  refine ew_aload_n (pc := 0) dX2_writesByte_0 rfl ?_
  refine tg_g40 (pc := 1) rfl dX2_writesByte_1 ?_
  refine ew_aload_n (pc := 4) dX2_writesByte_4 rfl ?_
  refine tg_g41 (pc := 5) rfl dX2_writesByte_5 ?_
  refine ew_iload_n (pc := 8) dX2_writesByte_8 rfl ?_
  refine ew_i2b (pc := 9) dX2_writesByte_9 rfl ?_
  refine tg_s40 (pc := 10) (j := L.length) hL.1 hl dX2_writesByte_10 ?_
  refine ew_aload_n (pc := 11) dX2_writesByte_11 rfl ?_
  refine ew_dup (pc := 12) dX2_writesByte_12 rfl ?_
  refine tg_g41 (pc := 13) rfl dX2_writesByte_13 ?_
  refine ew_iconst (pc := 16) (v := 1) dX2_writesByte_16 rfl ?_
  refine ew_iadd (pc := 17) dX2_writesByte_17 ?_
  refine tg_p41 (pc := 18) rfl dX2_writesByte_18 ?_
  refine ew_vret (pc := 21) rfl dX2_writesByte_21 ?_
  refine hq _ (((Fq.r _ σ).xA 40 _ rfl).xI 41 _ rfl) ?_
  have h8 := hL.push hl (wb c)
  rw [← h41] at h8
  exact h8
/-- the digits of a number -/
def dg : Nat → Nat → List Int32
  | 0, _ => []
  | k + 1, v => (if v ≤ 9 then [] else dg k (v / 10)) ++ [wb (nI (48 + v % 10))]
theorem dg_len : ∀ k v, (dg k v).length ≤ k
  | 0, _ => Nat.le_refl 0
  | k + 1, v => by
    rw [dg, List.length_append, List.length_singleton]
    split
    · simp
    · have := dg_len k (v / 10)
      omega
theorem t_writesNumber {g : eg} {h : eh} {t : Nat} {Q : Outcome → eh → Prop} : ∀ k v (σ : tS) (L : List Int32), v < 10 ^ k → v < 2 ^ 31 → 1 ≤ k → Pg σ L → L.length + k ≤ 300 → (∀ σ', Fq [40, 41] σ σ' → Pg σ' (L ++ dg k v) → Q (.returned none) (tw t σ' h)) → ew_T g kX2_writesNumber k [.ref t, .int (nI v)] (tw t σ h) Q := by
  intro k
  induction k generalizing Q with
  | zero =>
    intro v σ L hv hv2 hk
    exact absurd hk (by decide)
  | succ k ih =>
    intro v σ L hv hv2 hk hL hl hq
    have hrem : (48 : Int32) + (nI v - nI v / 10 * 10) = nI (48 + v % 10) := by
      rw [show nI v - nI v / 10 * 10 = nI (v % 10) from nI_rem (b := 10) hv2 (by decide) (by decide), show (48 : Int32) = nI 48 from rfl, nI_add]
    have hdiv : nI v / 10 = nI (v / 10) := nI_div (b := 10) hv2 (by decide) (by decide)
    rw [dg] at hq
    refine ew_enter (by decide +kernel) (ew_a1 rfl (ew_a1 rfl ew_az)) (Nat.le_of_ble_eq_true rfl) ?_
    by_cases h9 : v ≤ 9
    · rw [if_pos h9, List.nil_append] at hq
      refine ew_iload_n (pc := 0) dX2_writesNumber_0 rfl ?_
      refine ew_bipush (pc := 1) (v := 9) dX2_writesNumber_1 rfl ?_
      refine ew_icmp_le (pc := 3) (tgt := 14) dX2_writesNumber_3 (by decide) (fun c3 => ?_) (fun c3 => absurd (nI_le (b := 9) h9 (by decide)) c3)
      refine ew_aload_n (pc := 14) dX2_writesNumber_14 rfl ?_
      refine ew_bipush (pc := 15) (v := 48) dX2_writesNumber_15 rfl ?_
      refine ew_iload_n (pc := 17) dX2_writesNumber_17 rfl ?_
      refine ew_bipush (pc := 18) (v := 10) dX2_writesNumber_18 rfl ?_
      refine ew_irem (pc := 20) dX2_writesNumber_20 (by decide) ?_
      refine ew_iadd (pc := 21) dX2_writesNumber_21 ?_
      rw [hrem]
      refine ew_cV1 (d' := 0) (pc := 22) vX2_410 (tw_ro _ _ _ _) dX2_writesNumber_22 (by omega) (ew_rm (Nat.le_of_ble_eq_true rfl)) ?_
      refine t_writesByte hL (by omega) (fun σ1 F1 L1 => ?_)
      refine ew_Kv ?_
      refine ew_vret (pc := 25) rfl dX2_writesNumber_25 ?_
      exact hq σ1 F1 L1
    · rw [if_neg h9] at hq
      have hk1 : 1 ≤ k := by
        rcases Nat.eq_zero_or_pos k with h0 | h0
        · subst h0
          have : v < 10 := hv
          omega
        · exact h0
      have hlt : v / 10 < 10 ^ k := by
        rw [Nat.pow_succ] at hv
        exact Nat.div_lt_of_lt_mul (by rw [Nat.mul_comm]; exact hv)
      refine ew_iload_n (pc := 0) dX2_writesNumber_0 rfl ?_
      refine ew_bipush (pc := 1) (v := 9) dX2_writesNumber_1 rfl ?_
      refine ew_icmp_le (pc := 3) (tgt := 14) dX2_writesNumber_3 (by decide) (fun c3 => absurd c3 (nI_ge (a := 9) (by omega) (by omega))) (fun c3 => ?_)
      refine ew_aload_n (pc := 6) dX2_writesNumber_6 rfl ?_
      refine ew_iload_n (pc := 7) dX2_writesNumber_7 rfl ?_
      refine ew_bipush (pc := 8) (v := 10) dX2_writesNumber_8 rfl ?_
      refine ew_idiv (pc := 10) dX2_writesNumber_10 (by decide) ?_
      rw [hdiv]
      refine ew_cV1 (d' := k) (pc := 11) vX2_407 (tw_ro _ _ _ _) dX2_writesNumber_11 (by omega) (ew_rm (Nat.le_of_ble_eq_true rfl)) ?_
      refine ih (v / 10) σ L hlt (by omega) hk1 hL (by omega) (fun σ1 F1 L1 => ?_)
      refine ew_Kv ?_
      refine ew_aload_n (pc := 14) dX2_writesNumber_14 rfl ?_
      refine ew_bipush (pc := 15) (v := 48) dX2_writesNumber_15 rfl ?_
      refine ew_iload_n (pc := 17) dX2_writesNumber_17 rfl ?_
      refine ew_bipush (pc := 18) (v := 10) dX2_writesNumber_18 rfl ?_
      refine ew_irem (pc := 20) dX2_writesNumber_20 (by decide) ?_
      refine ew_iadd (pc := 21) dX2_writesNumber_21 ?_
      rw [hrem]
      refine ew_cV1 (d' := 0) (pc := 22) vX2_410 (tw_ro _ _ _ _) dX2_writesNumber_22 (by omega) (ew_rm (Nat.le_of_ble_eq_true rfl)) ?_
      refine t_writesByte L1 (by rw [List.length_append]; have := dg_len k (v / 10); omega) (fun σ2 F2 L2 => ?_)
      refine ew_Kv ?_
      refine ew_vret (pc := 25) rfl dX2_writesNumber_25 ?_
      refine hq σ2 (F1.t1 F2) ?_
      rw [← List.append_assoc]
      exact L2
def dgV (v : Nat) : List Int32 := dg 12 v
theorem t_number {g : eg} {h : eh} {t v : Nat} {σ : tS} {L : List Int32} {Q : Outcome → eh → Prop} (hv : v < 2 ^ 31) (hL : Pg σ L) (hl : L.length + 12 ≤ 300) (hq : ∀ σ', Fq [40, 41] σ σ' → Pg σ' (L ++ dgV v) → Q (.returned none) (tw t σ' h)) : ew_T g kX2_writesNumber 12 [.ref t, .int (nI v)] (tw t σ h) Q := t_writesNumber 12 v σ L (Nat.lt_of_lt_of_le hv (by decide)) hv (by decide) hL hl hq
/-- an event's name on the page -/
def nmL (nm : Nat → Int32) (e : Nat) : Nat → List Int32
  | 0 => []
  | k + 1 => nmL nm e k ++ [wb (nm (8 * e + k))]
theorem nmL_len (nm : Nat → Int32) (e : Nat) : ∀ k, (nmL nm e k).length = k
  | 0 => rfl
  | k + 1 => by rw [nmL, List.length_append, nmL_len nm e k, List.length_singleton]
def nmV (nm : Nat → Int32) (e : Nat) : List Int32 := nmL nm e (ltV nm e)
theorem nmV_len (nm : Nat → Int32) (e : Nat) : (nmV nm e).length ≤ 8 := by
  rw [nmV, nmL_len]
  exact ltV_le nm e
theorem t_writesName {g : eg} {h : eh} {t e : Nat} {σ : tS} {L : List Int32} {nm : Nat → Int32} {Q : Outcome → eh → Prop} (hM : σ.2 10 = nm) (he : e < 10) (hL : Pg σ L) (hl : L.length + 8 ≤ 300) (hq : ∀ σ', Fq [40, 41] σ σ' → Pg σ' (L ++ nmV nm e) → Q (.returned none) (tw t σ' h)) : ew_T g kX2_writesName 1 [.ref t, .int (nI e)] (tw t σ h) Q := by
  have hle := ltV_le nm e
  have main : ∀ m k σ', k + m = ltV nm e → Fq [40, 41] σ σ' → Pg σ' (L ++ nmL nm e k) → ew_G g kX2_writesName 1 2 [.ref t, .int (nI e), .int (nI k)] [] (tw t σ' h) Q := by
    intro m
    induction m with
    | zero =>
      intro k σ' hk hF hP
      have e9 : k = ltV nm e := by omega
      subst e9
      refine ew_iload_n (pc := 2) dX2_writesName_2 rfl ?_
      refine ew_aload_n (pc := 3) dX2_writesName_3 rfl ?_
      refine ew_iload_n (pc := 4) dX2_writesName_4 rfl ?_
      refine ew_cV1 (d' := 0) (pc := 5) vX2_125 (tw_ro _ _ _ _) dX2_writesName_5 (by decide) (ew_rm (Nat.le_of_ble_eq_true rfl)) ?_
      refine t_lettersOf (nm := nm) ((hF.a 10 rfl).trans hM) he ?_
      refine ew_Kr ?_
      refine ew_icmp_ge (pc := 8) (tgt := 32) dX2_writesName_8 (by decide) (fun c8 => ?_) (fun c8 => absurd (nI_le (Nat.le_refl _) (by omega)) c8)
      refine ew_vret (pc := 32) rfl dX2_writesName_32 ?_
      exact hq σ' hF hP
    | succ m ih =>
      intro k σ' hk hF hP
      have hM1 := (hF.a 10 rfl).trans hM
      refine ew_iload_n (pc := 2) dX2_writesName_2 rfl ?_
      refine ew_aload_n (pc := 3) dX2_writesName_3 rfl ?_
      refine ew_iload_n (pc := 4) dX2_writesName_4 rfl ?_
      refine ew_cV1 (d' := 0) (pc := 5) vX2_125 (tw_ro _ _ _ _) dX2_writesName_5 (by decide) (ew_rm (Nat.le_of_ble_eq_true rfl)) ?_
      refine t_lettersOf (nm := nm) hM1 he ?_
      refine ew_Kr ?_
      refine ew_icmp_ge (pc := 8) (tgt := 32) dX2_writesName_8 (by decide) (fun c8 => absurd c8 (nI_ge (by omega) (by omega))) (fun c8 => ?_)
      refine ew_aload_n (pc := 11) dX2_writesName_11 rfl ?_
      refine ew_aload_n (pc := 12) dX2_writesName_12 rfl ?_
      refine tg_g10 (pc := 13) rfl dX2_writesName_13 ?_
      refine ew_bipush (pc := 16) (v := 8) dX2_writesName_16 rfl ?_
      refine ew_iload_n (pc := 18) dX2_writesName_18 rfl ?_
      refine ew_imul (pc := 19) dX2_writesName_19 ?_
      refine ew_iload_n (pc := 20) dX2_writesName_20 rfl ?_
      refine ew_iadd (pc := 21) dX2_writesName_21 ?_
      refine tg_l10 (pc := 22) (j := 8 * e + k) (nm_nI e k) (by omega) dX2_writesName_22 ?_
      rw [hM1]
      refine ew_cV1 (d' := 0) (pc := 23) vX2_410 (tw_ro _ _ _ _) dX2_writesName_23 (by decide) (ew_rm (Nat.le_of_ble_eq_true rfl)) ?_
      refine t_writesByte hP (by rw [List.length_append, nmL_len]; omega) (fun σ2 F2 P2 => ?_)
      refine ew_Kv ?_
      refine ew_iinc (pc := 26) dX2_writesName_26 rfl (nI_inc k) (by decide) (p1_2 rfl) ?_
      refine ew_goto (pc := 29) (tgt := 2) dX2_writesName_29 (by decide) ?_
      refine ih (k + 1) σ2 (by omega) (hF.t1 F2) ?_
      rw [nmL, ← List.append_assoc]
      exact P2
  refine ew_enter (by decide +kernel) (ew_a1 rfl (ew_a1 rfl (ew_an ew_az))) (Nat.le_of_ble_eq_true rfl) ?_
  refine ew_iconst (pc := 0) (v := 0) dX2_writesName_0 rfl ?_
  refine ew_istore_n (pc := 1) dX2_writesName_1 rfl (by decide) (p1_2 rfl) ?_
  exact main (ltV nm e) 0 σ (by omega) (Fq.r _ _) (by rw [nmL, List.append_nil]; exact hL)
/-- a time, or an asterisk -/
def tmV (v : Int32) : List Int32 := if v = -1 then [wb 42] else dgV (ix v)
theorem tmV_len (v : Int32) : (tmV v).length ≤ 12 := by
  rw [tmV]
  split
  · simp
  · exact dg_len 12 _
theorem t_writesTime {g : eg} {h : eh} {t : Nat} {σ : tS} {L : List Int32} {v : Int32} {Q : Outcome → eh → Prop} (hv : v = -1 ∨ 0 ≤ v) (hL : Pg σ L) (hl : L.length + 12 ≤ 300) (hq : ∀ σ', Fq [40, 41] σ σ' → Pg σ' (L ++ tmV v) → Q (.returned none) (tw t σ' h)) : ew_T g kX2_writesTime 13 [.ref t, .int v] (tw t σ h) Q := by
  rw [tmV] at hq
  refine ew_enter (by decide +kernel) (ew_a1 rfl (ew_a1 rfl ew_az)) (Nat.le_of_ble_eq_true rfl) ?_
  refine ew_iload_n (pc := 0) dX2_writesTime_0 rfl ?_
  refine ew_iconst (pc := 1) (v := -1) dX2_writesTime_1 rfl ?_
  refine ew_icmp_ne (pc := 2) (tgt := 14) dX2_writesTime_2 (by decide) (fun c2 => ?_) (fun c2 => ?_)
  · refine ew_aload_n (pc := 14) dX2_writesTime_14 rfl ?_
    refine ew_iload_n (pc := 15) dX2_writesTime_15 rfl ?_
    obtain ⟨j, hj, hjv⟩ := nI_of (Int32.not_lt.mpr (hv.resolve_left c2))
    rw [hjv]
    refine ew_cV1 (d' := 12) (pc := 16) vX2_407 (tw_ro _ _ _ _) dX2_writesTime_16 (by decide) (ew_rm (Nat.le_of_ble_eq_true rfl)) ?_
    refine t_number hj hL hl (fun σ1 F1 L1 => ?_)
    refine ew_Kv ?_
    refine ew_vret (pc := 19) rfl dX2_writesTime_19 ?_
    first
    | rw [if_pos c2] at hq
      exact hq σ1 F1 L1
    | rw [if_neg c2, hjv, ix_nI hj] at hq
      exact hq σ1 F1 L1
  · refine ew_aload_n (pc := 5) dX2_writesTime_5 rfl ?_
    refine ew_bipush (pc := 6) (v := 42) dX2_writesTime_6 rfl ?_
    refine ew_cV1 (d' := 0) (pc := 8) vX2_410 (tw_ro _ _ _ _) dX2_writesTime_8 (by decide) (ew_rm (Nat.le_of_ble_eq_true rfl)) ?_
    refine t_writesByte hL (by omega) (fun σ1 F1 L1 => ?_)
    refine ew_Kv ?_
    refine ew_goto (pc := 11) (tgt := 19) dX2_writesTime_11 (by decide) ?_
    refine ew_vret (pc := 19) rfl dX2_writesTime_19 ?_
    first
    | rw [if_pos c2] at hq
      exact hq σ1 F1 L1
    | rw [if_neg c2, hjv, ix_nI hj] at hq
      exact hq σ1 F1 L1
theorem o_textByte {g : eg} {h : eh} {t : Nat} {σ : tS} {L : List Int32} {a : Int32} {Q : Outcome → eh → Prop} (hL : Pg σ L)
    (h0 : ¬ isIx L.length a → ∀ σ' r, Fq [0] σ σ' → σ'.1 0 = 1 → Q (.returned (some (.int r))) (tw t σ' h))
    (h1 : isIx L.length a → ∀ σ' x, Fq [0] σ σ' → σ'.1 0 = 0 → L[ix a]? = some x → Q (.returned (some (.int x))) (tw t σ' h)) : ew_T g kX2_textByte 1 [.ref t, .int a] (tw t σ h) Q := by
  refine ew_enter (by decide +kernel) (ew_a1 rfl (ew_a1 rfl ew_az)) (Nat.le_of_ble_eq_true rfl) ?_
  refine ew_aload_n (pc := 0) dX2_textByte_0 rfl ?_
  refine ew_iload_n (pc := 1) dX2_textByte_1 rfl ?_
  refine ew_iconst (pc := 2) (v := 0) dX2_textByte_2 rfl ?_
  refine ew_aload_n (pc := 3) dX2_textByte_3 rfl ?_
  refine tg_g41 (pc := 4) rfl dX2_textByte_4 ?_
  refine ew_iconst (pc := 7) (v := 1) dX2_textByte_7 rfl ?_
  rw [hL.1]
  refine ew_isub (pc := 8) dX2_textByte_8 ?_
  refine ew_cS3 (d' := 0) (pc := 9) sX2_102 dX2_textByte_9 (by decide) (ew_rm (Nat.le_of_ble_eq_true rfl)) ?_
  refine t_inT ?_
  refine ew_Kr ?_
  refine ew_if_eq (pc := 12) (tgt := 19) dX2_textByte_12 (by decide) (fun c12 => ?_) (fun c12 => ?_)
  · refine ew_iconst (pc := 19) (v := 1) dX2_textByte_19 rfl ?_
    refine tg_p0 (pc := 20) rfl dX2_textByte_20 ?_
    refine ew_aload_n (pc := 23) dX2_textByte_23 rfl ?_
    refine tg_g0 (pc := 24) rfl dX2_textByte_24 ?_
    refine ew_if_le (pc := 27) (tgt := 34) dX2_textByte_27 (by decide) (fun c27 => absurd c27 (show ¬ ((1 : Int32) ≤ (0 : Int32)) by decide)) (fun c27 => ?_)
    refine ew_iconst (pc := 30) (v := 0) dX2_textByte_30 rfl ?_
    refine ew_goto (pc := 31) (tgt := 40) dX2_textByte_31 (by decide) ?_
    refine ew_iret (pc := 40) rfl dX2_textByte_40 ?_
    first
    | exact h0 (bI_0.mp c12) _ _ (Fq.I σ 0 _ rfl) rfl
    | have he := List.getElem?_eq_getElem hj
      rw [show (tI σ 0 0).2 40 j = L[j] from hL.2.2 j _ he]
      exact h1 hi _ _ (Fq.I σ 0 _ rfl) rfl (by rw [hja, ix_nI (by omega)]; exact he)
  · refine ew_iconst (pc := 15) (v := 0) dX2_textByte_15 rfl ?_
    refine ew_goto (pc := 16) (tgt := 20) dX2_textByte_16 (by decide) ?_
    refine tg_p0 (pc := 20) rfl dX2_textByte_20 ?_
    refine ew_aload_n (pc := 23) dX2_textByte_23 rfl ?_
    refine tg_g0 (pc := 24) rfl dX2_textByte_24 ?_
    refine ew_if_le (pc := 27) (tgt := 34) dX2_textByte_27 (by decide) (fun c27 => ?_) (fun c27 => absurd (show (0 : Int32) ≤ (0 : Int32) by decide) c27)
    have hi : isIx L.length a := bI_n.mp c12
    have hl := hL.2.1
    obtain ⟨j, hj, hja⟩ := (isIx_iff (by omega)).mp hi
    refine ew_aload_n (pc := 34) dX2_textByte_34 rfl ?_
    refine tg_g40 (pc := 35) rfl dX2_textByte_35 ?_
    refine ew_iload_n (pc := 38) dX2_textByte_38 rfl ?_
    refine tg_l40 (pc := 39) (j := j) hja (by omega) dX2_textByte_39 ?_
    refine ew_iret (pc := 40) rfl dX2_textByte_40 ?_
    first
    | exact h0 (bI_0.mp c12) _ _ (Fq.I σ 0 _ rfl) rfl
    | have he := List.getElem?_eq_getElem hj
      rw [show (tI σ 0 0).2 40 j = L[j] from hL.2.2 j _ he]
      exact h1 hi _ _ (Fq.I σ 0 _ rfl) rfl (by rw [hja, ix_nI (by omega)]; exact he)
