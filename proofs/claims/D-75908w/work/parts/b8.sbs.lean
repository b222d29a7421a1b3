/-! EW: a StringBuilder takes Strings, is cleared, read -/
set_option maxRecDepth 100000
/-- what a String holds, as a text -/
def tx1 (f : Nat → Int32) : Nat → List Int32
  | 0 => []
  | k + 1 => tx1 f k ++ [f k]
theorem tx1_len (f : Nat → Int32) : ∀ k, (tx1 f k).length = k
  | 0 => rfl
  | k + 1 => by rw [tx1, List.length_append, tx1_len f k]; rfl
theorem tx1_get (f : Nat → Int32) : ∀ k i, i < k → (tx1 f k)[i]? = some (f i)
  | k + 1, i, h => by
    rw [tx1]
    by_cases e : i < k
    · rw [List.getElem?_append_left (by rw [tx1_len]; exact e), tx1_get f k i e]
    · have e2 : i = k := by omega
      rw [List.getElem?_append_right (by rw [tx1_len]; omega), tx1_len, e2, Nat.sub_self]
      rfl
theorem tx1_ok {f : Nat → Int32} : ∀ {k}, (∀ i, i < k → ∃ c : Nat, c < 128 ∧ f i = nI c) → tOk (tx1 f k)
  | 0, _ => fun x hx => absurd hx List.not_mem_nil
  | k + 1, h => (tx1_ok (fun i hi => h i (by omega))).app (fun x hx => by rw [List.mem_singleton.mp hx]; exact h k (by omega))
section
variable {g : eg} {h : eh} {Q : Outcome → eh → Prop}
theorem SB.ok {q A : Nat} {tx : List Int32} (S : SB h q A tx) : tOk tx := by
  obtain ⟨_, _, _, _, _, _, _, _, _, x, _⟩ := S
  exact x
theorem Str.ke {p n c s : Nat} {f : Nat → Int32} {B : List Nat} {h' : eh} (S : Str g h p n f) (k : Ke B c s h h') (hg : gOC g) (ho : eh_ok g h) (h1 : ∀ b, b ∈ B → (∀ fs, rd g h b ≠ some (ob 17 fs)) ∧ ∀ v hs hz, rd g h p = some (ob 17 [.ref v, .int 0, .int hs, .int hz]) → b ≠ v) : Str g h' p n f := by
  obtain ⟨v, hs, hz, s1, s2, s3⟩ := S
  refine ⟨v, hs, hz, k.rd hg ho s1 (fun h9 => (h1 p h9).1 _ s1), k.rd hg ho s2 (fun h9 => (h1 v h9).2 v hs hz s1 rfl), s3⟩
/-- a String's bytes go into a byte array -/
theorem t_getBytes {p n A cap d : Nat} {f f1 : Nat → Int32} (hg : gCS g) (hs : Str g h p n f) (hA : h.1 A = some (aB cap f1)) (hd : d + n ≤ cap) (hcap : cap < 2 ^ 20)
    (hq : ∀ F : Nat → Int32, (∀ i, i < cap → F i = if d ≤ i ∧ i < d + n then f (i - d) else f1 i) → Q (.returned none) (eh_set h A (aB cap F))) : ew_T g kJ4_getBytes 5 [.ref p, .ref A, .int (nI d), .int 0] h Q := by
  have hs9 := hs
  obtain ⟨v, hs, hz, h1, h2, h3, h4⟩ := hs
  refine ew_enter (by decide +kernel) (ew_a1 rfl (ew_a1 rfl (ew_a1 rfl (ew_a1 rfl ew_az)))) (Nat.le_of_ble_eq_true rfl) ?_
  have cl := nI_clamp (n := n) (by omega)
  have cd := nI_clamp (n := d) (by omega)
  have e0 : (0 : Int32).toNatClampNeg = 0 := rfl
  refine ew_aload_n (pc := 0) dJ4_getBytes_0 rfl ?_
  refine ew_cV0 (d' := 0) (pc := 1) vJ4_335 h1 dJ4_getBytes_1 (by decide) (ew_rm (Nat.le_of_ble_eq_true rfl)) ?_
  refine t_coder hg hs9 ?_
  refine ew_Kr ?_
  refine ew_iload_n (pc := 4) dJ4_getBytes_4 rfl ?_
  refine ew_icmp_ne (pc := 5) (tgt := 28) dJ4_getBytes_5 (by decide) (fun c5 => absurd rfl c5) (fun c5 => ?_)
  refine ew_aload_n (pc := 8) dJ4_getBytes_8 rfl ?_
  refine ew_getf (pc := 9) fJ4_9 h1 rfl dJ4_getBytes_9 ?_
  refine ew_iconst (pc := 12) (v := 0) dJ4_getBytes_12 rfl ?_
  first | refine ew_aload_n (pc := 13) dJ4_getBytes_13 rfl ?_ | refine ew_aload_nq (pc := 13) dJ4_getBytes_13 rfl ?_ | refine ew_aload_nN (pc := 13) dJ4_getBytes_13 rfl ?_
  refine ew_iload_n (pc := 14) dJ4_getBytes_14 rfl ?_
  refine ew_iload_n (pc := 15) dJ4_getBytes_15 rfl ?_
  refine ew_ishl (pc := 16) dJ4_getBytes_16 ?_
  rw [i_shl0]
  refine ew_aload_n (pc := 17) dJ4_getBytes_17 rfl ?_
  refine ew_getf (pc := 18) fJ4_9 h1 rfl dJ4_getBytes_18 ?_
  refine ew_alen (pc := 21) h2 rfl dJ4_getBytes_21 ?_
  rw [show Int32.ofNat n = nI n from rfl]
  refine ew_copyi (pc := 22) (ty := .byte) rfl rfl (ew_q q772) (ew_q q600) (ew_q q599) (ew_q q143) h2 hA (by decide) (nI_pos (by omega)) (nI_pos (by omega)) (by rw [cl, e0]; omega) (by rw [cl, cd]; omega) (fun i hi => by
  rw [cl] at hi
  rw [e0, Nat.zero_add]
  obtain ⟨c, hc, e⟩ := h4 i hi
  rw [e]
  exact (byte_ok ⟨c, hc⟩).1) (ew_rm (Nat.le_of_ble_eq_true rfl)) dJ4_getBytes_22 ?_
  refine ew_goto (pc := 25) (tgt := 43) dJ4_getBytes_25 (by decide) ?_
  refine ew_vret (pc := 43) rfl dJ4_getBytes_43 ?_
  refine hq _ (fun i hi => ?_)
  rw [cl, cd, e0]
  by_cases h9 : d ≤ i ∧ i < d + n
  · rw [if_pos h9, pk_cpy_in h9.1 (by omega), Nat.zero_add]
  · rw [if_neg h9, pk_cpy_out (by omega)]
theorem t_sbPut {q A p n cap d : Nat} {ml c : Int32} {f F : Nat → Int32} (hg : gCS g) (h1 : h.1 q = some (ob 16 [.ref A, .int 0, .int ml, .int c])) (hs : Str g h p n f) (hA : h.1 A = some (aB cap F)) (hd : d + n ≤ cap) (hcap : cap < 2 ^ 20)
    (hq : ∀ F2 : Nat → Int32, (∀ i, i < cap → F2 i = if d ≤ i ∧ i < d + n then f (i - d) else F i) → Q (.returned none) (eh_set h A (aB cap F2))) : ew_T g kJ2_putStringAt 7 [.ref q, .int (nI d), .ref p] h Q := by
  have hg1 : eg_s g "java/lang/String" "COMPACT_STRINGS" "Z" = some (.int 1) := hg
  have hso := hs
  obtain ⟨v, hs1, hz1, p1, -⟩ := hso
  have inf : ∀ Q : Outcome → eh → Prop, Q (.returned none) h → ew_T g kJ2_inflateIfNeededFor 6 [.ref q, .ref p] h Q := by
    intro Q hq
    refine ew_enter (by decide +kernel) (ew_a1 rfl (ew_a1 rfl ew_az)) (Nat.le_of_ble_eq_true rfl) ?_
    refine ew_gets (pc := 0) (C := "java/lang/String") (n := "COMPACT_STRINGS") (dd := "Z") (v := (.int 1)) hg1 (ew_q q212) (Or.inl rfl) dJ2_inflateIfNeededFor_0 ?_
    refine ew_if_eq (pc := 3) (tgt := 21) dJ2_inflateIfNeededFor_3 (by decide) (fun c3 => absurd c3 (by decide)) (fun c3 => ?_)
    refine ew_aload_n (pc := 6) dJ2_inflateIfNeededFor_6 rfl ?_
    refine ew_getf (pc := 7) fJ2_22 (rd_of h1) rfl dJ2_inflateIfNeededFor_7 ?_
    refine ew_aload_n (pc := 10) dJ2_inflateIfNeededFor_10 rfl ?_
    refine ew_cV0 (d' := 0) (pc := 11) vJ2_40 p1 dJ2_inflateIfNeededFor_11 (by decide) (ew_rm (Nat.le_of_ble_eq_true rfl)) ?_
    refine t_coder hg hs ?_
    refine ew_Kr ?_
    refine ew_icmp_eq (pc := 14) (tgt := 21) dJ2_inflateIfNeededFor_14 (by decide) (fun c14 => ?_) (fun c14 => absurd rfl c14)
    refine ew_vret (pc := 21) rfl dJ2_inflateIfNeededFor_21 ?_
    exact hq
  refine ew_enter (by decide +kernel) (ew_a1 rfl (ew_a1 rfl (ew_a1 rfl ew_az))) (Nat.le_of_ble_eq_true rfl) ?_
  refine ew_aload_n (pc := 0) dJ2_putStringAt_0 rfl ?_
  refine ew_aload_n (pc := 1) dJ2_putStringAt_1 rfl ?_
  refine ew_cW1 (d' := 6) (pc := 2) wJ2_397 (rd_of h1) dJ2_putStringAt_2 (by decide) (ew_rm (Nat.le_of_ble_eq_true rfl)) ?_
  refine inf _ ?_
  refine ew_Kv ?_
  refine ew_aload_n (pc := 5) dJ2_putStringAt_5 rfl ?_
  refine ew_aload_n (pc := 6) dJ2_putStringAt_6 rfl ?_
  refine ew_getf (pc := 7) fJ2_15 (rd_of h1) rfl dJ2_putStringAt_7 ?_
  refine ew_iload_n (pc := 10) dJ2_putStringAt_10 rfl ?_
  refine ew_aload_n (pc := 11) dJ2_putStringAt_11 rfl ?_
  refine ew_getf (pc := 12) fJ2_22 (rd_of h1) rfl dJ2_putStringAt_12 ?_
  refine ew_cV3 (d' := 5) (pc := 15) vJ2_399 p1 dJ2_putStringAt_15 (by decide) (ew_rm (Nat.le_of_ble_eq_true rfl)) ?_
  refine t_getBytes hg hs hA hd hcap (fun F2 hF => ?_)
  refine ew_Kv ?_
  refine ew_vret (pc := 18) rfl dJ2_putStringAt_18 ?_
  exact hq F2 hF
theorem t_sbAppS {q A p n : Nat} {tx : List Int32} {f : Nat → Int32} (hg : gCS g) (hgo : gOC g) (S : SB h q A tx) (hs : Str g h p n f) (hl : tx.length + n ≤ 400) (hq : ∀ h', SBq h q A (tx ++ tx1 f n) h' → Q (.returned (some (.ref q))) h') : ew_T g kJ3_append_3 19 [.ref q, .ref p] h Q := by
  obtain ⟨fs, hqo⟩ := S.o
  have hso := hs
  obtain ⟨v, hs1, hz1, h1, h2, h3, h4⟩ := hso
  have a2 : ∀ Q : Outcome → eh → Prop, (∀ h' fs, h'.1 q = some (ob 16 fs) → SBq h q A (tx ++ tx1 f n) h' → Q (.returned (some (.ref q))) h') → ew_T g kJ2_append_3 18 [.ref q, .ref p] h Q := by
    intro Q hq
    have hln := S
    obtain ⟨ml0, cap0, f0, s1, s2, -⟩ := hln
    have hpq : p ≠ q := fun e => by
      rw [e, rd_of s1] at h1
      cases h1
    refine ew_enter (by decide +kernel) (ew_a1 rfl (ew_a1 rfl (ew_an ew_az))) (Nat.le_of_ble_eq_true rfl) ?_
    refine ew_ok (fun ho => ?_)
    have hql := h_l ho s1
    refine ew_aload_n (pc := 0) dJ2_append_3_0 rfl ?_
    refine ew_ifnonnull (pc := 1) (tgt := 9) dJ2_append_3_1 (by decide) ?_
    refine ew_aload_n (pc := 9) dJ2_append_3_9 rfl ?_
    refine ew_cV0 (d' := 1) (pc := 10) vJ2_32 h1 dJ2_append_3_10 (by decide) (ew_rm (Nat.le_of_ble_eq_true rfl)) ?_
    refine t_length hg hs ?_
    refine ew_Kr ?_
    refine ew_istore_n (pc := 13) dJ2_append_3_13 rfl (by decide) (p1_2 rfl) ?_
    refine ew_aload_n (pc := 14) dJ2_append_3_14 rfl ?_
    refine ew_aload_n (pc := 15) dJ2_append_3_15 rfl ?_
    refine ew_getf (pc := 16) fJ2_79 (rd_of s1) rfl dJ2_append_3_16 ?_
    refine ew_iload_n (pc := 19) dJ2_append_3_19 rfl ?_
    refine ew_iadd (pc := 20) dJ2_append_3_20 ?_
    rw [nI_add]
    refine ew_cW1 (d' := 16) (pc := 21) wJ2_100 (rd_of s1) dJ2_append_3_21 (by decide) (ew_rm (Nat.le_of_ble_eq_true rfl)) ?_
    refine t_sbEns S hl (fun h2' A2 ml cap F e1 e2 e3 e4 e5 e6 e7 e8 e9 k1 => ?_)
    refine ew_Kv ?_
    refine ew_ok (fun ho2 => ?_)
    have hs2 : Str g h2' p n f := hs.ke k1 hgo ho (fun b hb => by
      rw [List.mem_singleton.mp hb]
      refine ⟨fun fs h9 => ?_, fun v2 hs2 hz2 h9 e => ?_⟩
      · rw [rd_of s1] at h9
        cases h9
      · rw [h1] at h9
        cases h9
        rw [← e, rd_of s1] at h2
        cases h2)
    have hqA : q ≠ A2 := fun e => by
      rw [e, e2] at e1
      cases e1
    have j1 := sn_1 (e := aB cap F) e1 hqA
    refine ew_aload_n (pc := 24) dJ2_append_3_24 rfl ?_
    refine ew_aload_n (pc := 25) dJ2_append_3_25 rfl ?_
    refine ew_getf (pc := 26) fJ2_79 (rd_of e1) rfl dJ2_append_3_26 ?_
    refine ew_aload_n (pc := 29) dJ2_append_3_29 rfl ?_
    refine ew_cW2 (d' := 7) (pc := 30) wJ2_208 (rd_of e1) dJ2_append_3_30 (by decide) (ew_rm (Nat.le_of_ble_eq_true rfl)) ?_
    refine t_sbPut hg e1 hs2 e2 e4 (by omega) (fun F2 hF2 => ?_)
    have j1 := sn_1 (e := aB cap F2) e1 hqA
    refine ew_Kv ?_
    refine ew_aload_n (pc := 33) dJ2_append_3_33 rfl ?_
    refine ew_dup (pc := 34) dJ2_append_3_34 rfl ?_
    refine ew_getf (pc := 35) fJ2_79 (rd_of j1) rfl dJ2_append_3_35 ?_
    refine ew_iload_n (pc := 38) dJ2_append_3_38 rfl ?_
    refine ew_iadd (pc := 39) dJ2_append_3_39 ?_
    rw [nI_add]
    refine ew_putf (pc := 40) pJ2_79 j1 st_3 (Nat.le_of_ble_eq_true rfl) rfl rfl (fun h9 => absurd h9 Bool.false_ne_true) dJ2_append_3_40 ?_
    have j3 := se_1 (eh_set h2' A2 (aB cap F2)) q (ob 16 [.ref A2, .int 0, .int ml, .int (nI (tx.length + n))])
    refine ew_aload_n (pc := 43) dJ2_append_3_43 rfl ?_
    refine ew_aret (pc := 44) rfl (Or.inl ⟨_, rfl⟩) (Or.inr ⟨_, rfl⟩) dJ2_append_3_44 ?_
    refine hq _ _ j3 ⟨A2, ⟨ml, cap, F2, ?_, sn_1 (se_1 _ _ _) hqA.symm, ?_, e5, e6, fun i x hx => ?_, S.ok.app (tx1_ok h4), fun i hi => ?_⟩, e9, ?_⟩
    · rw [List.length_append, tx1_len]; exact j3
    · rw [List.length_append, tx1_len]; exact e4
    · have hi : i < (tx ++ tx1 f n).length := (List.getElem?_eq_some_iff.mp hx).1
      rw [List.length_append, tx1_len] at hi
      rw [hF2 i (by omega)]
      by_cases h9 : i < tx.length
      · rw [if_neg (by omega)]
        rw [List.getElem?_append_left h9] at hx
        exact e7 i x hx
      · rw [if_pos (by omega)]
        rw [List.getElem?_append_right (by omega), tx1_get f n _ (by omega)] at hx
        exact Option.some.inj hx
    · rw [hF2 i hi]
      by_cases h9 : tx.length ≤ i ∧ i < tx.length + n
      · rw [if_pos h9]
        obtain ⟨c, hc, e⟩ := h4 (i - tx.length) (by omega)
        rw [e]
        exact (byte_ok ⟨c, hc⟩).1
      · rw [if_neg h9]
        exact e8 i hi
    · refine (k1.t Ke.set (A := [q, A]) (c := 1) (s := 1000) (fun b h9 _ => by rw [List.mem_singleton.mp h9]; exact List.mem_cons_self) (fun b h9 h8 => ?_) (by decide) (by decide)).t Ke.set (fun b h9 _ => h9) (fun b h9 _ => by rw [List.mem_singleton.mp h9]; exact List.mem_cons_self) (by decide) (by decide)
      rw [List.mem_singleton.mp h9] at h8 ⊢
      rcases e9 with e | e
      · rw [e]; simp
      · omega
  refine ew_enter (by decide +kernel) (ew_a1 rfl (ew_a1 rfl ew_az)) (Nat.le_of_ble_eq_true rfl) ?_
  refine ew_aload_n (pc := 0) dJ3_append_3_0 rfl ?_
  first | refine ew_aload_n (pc := 1) dJ3_append_3_1 rfl ?_ | refine ew_aload_nq (pc := 1) dJ3_append_3_1 rfl ?_ | refine ew_aload_nN (pc := 1) dJ3_append_3_1 rfl ?_
  refine ew_cP1 (d' := 18) (pc := 2) uJ3_29 rfl (rd_of hqo) dJ3_append_3_2 (by decide) (ew_rm (Nat.le_of_ble_eq_true rfl)) ?_
  refine a2 _ (fun h' fs q1 q2 => ?_)
  refine ew_Kr ?_
  refine ew_pop (pc := 5) dJ3_append_3_5 rfl ?_
  refine ew_aload_n (pc := 6) dJ3_append_3_6 rfl ?_
  refine ew_aret (pc := 7) rfl (Or.inl ⟨_, rfl⟩) (Or.inr ⟨_, rfl⟩) dJ3_append_3_7 ?_
  exact hq h' q2
theorem t_sbSet0 {q A : Nat} {tx : List Int32} (S : SB h q A tx) (hq : ∀ h', SB h' q A [] → Ke [q] 0 0 h h' → Q (.returned none) h') : ew_T g kJ3_setLength 25 [.ref q, .int 0] h Q := by
  obtain ⟨ml, cap, f, s1, s2, s3, s4, s5, s6, s7, s8⟩ := S
  have hqA : q ≠ A := fun e => by
    rw [e, s2] at s1
    cases s1
  have ens : ∀ Q : Outcome → eh → Prop, Q (.returned none) h → ew_T g kJ2_ensureCapacityInternal 16 [.ref q, .int 0] h Q := by
    intro Q hq
    refine ew_enter (by decide +kernel) (ew_a1 rfl (ew_a1 rfl (ew_an ew_az))) (Nat.le_of_ble_eq_true rfl) ?_
    refine ew_aload_n (pc := 0) dJ2_ensureCapacityInternal_0 rfl ?_
    refine ew_getf (pc := 1) fJ2_15 (rd_of s1) rfl dJ2_ensureCapacityInternal_1 ?_
    refine ew_alen (pc := 4) (rd_of s2) rfl dJ2_ensureCapacityInternal_4 ?_
    refine ew_aload_n (pc := 5) dJ2_ensureCapacityInternal_5 rfl ?_
    refine ew_getf (pc := 6) fJ2_22 (rd_of s1) rfl dJ2_ensureCapacityInternal_6 ?_
    refine ew_ishr (pc := 9) dJ2_ensureCapacityInternal_9 ?_
    rw [i_sar0]
    refine ew_istore_n (pc := 10) dJ2_ensureCapacityInternal_10 rfl (by decide) (p1_2 rfl) ?_
    refine ew_iload_n (pc := 11) dJ2_ensureCapacityInternal_11 rfl ?_
    refine ew_iload_n (pc := 12) dJ2_ensureCapacityInternal_12 rfl ?_
    refine ew_isub (pc := 13) dJ2_ensureCapacityInternal_13 ?_
    refine ew_if_le (pc := 14) (tgt := 38) dJ2_ensureCapacityInternal_14 (by decide) (fun c14 => ?_) (fun c14 => absurd ((nI_sub0 (a := 0) (b := cap) (by decide) (by omega)).mpr (Nat.zero_le _)) c14)
    refine ew_vret (pc := 38) rfl dJ2_ensureCapacityInternal_38 ?_
    exact hq
  have a2 : ∀ Q : Outcome → eh → Prop, (∀ h', SB h' q A [] → Ke [q] 0 0 h h' → Q (.returned none) h') → ew_T g kJ2_setLength 24 [.ref q, .int 0] h Q := by
    intro Q hq
    have j1 := se_1 h q (ob 16 [.ref A, .int 0, .int 1, .int (nI tx.length)])
    have sb : ∀ ml2, SB (eh_set h q (ob 16 [.ref A, .int 0, .int ml2, .int 0])) q A [] := fun ml2 => ⟨ml2, cap, f, se_1 _ _ _, sn_1 s2 hqA.symm, Nat.zero_le _, s4, s5, fun i x hx => (by cases hx), fun x hx => absurd hx List.not_mem_nil, s8⟩
    refine ew_enter (by decide +kernel) (ew_a1 rfl (ew_a1 rfl ew_az)) (Nat.le_of_ble_eq_true rfl) ?_
    by_cases hz : tx.length = 0
    · skip
      refine ew_iload_n (pc := 0) dJ2_setLength_0 rfl ?_
      refine ew_if_ge (pc := 1) (tgt := 13) dJ2_setLength_1 (by decide) (fun c1 => ?_) (fun c1 => absurd (by decide) c1)
      refine ew_aload_n (pc := 13) dJ2_setLength_13 rfl ?_
      refine ew_iload_n (pc := 14) dJ2_setLength_14 rfl ?_
      refine ew_cW1 (d' := 16) (pc := 15) wJ2_100 (rd_of s1) dJ2_setLength_15 (by decide) (ew_rm (Nat.le_of_ble_eq_true rfl)) ?_
      refine ens _ ?_
      refine ew_Kv ?_
      refine ew_aload_n (pc := 18) dJ2_setLength_18 rfl ?_
      refine ew_getf (pc := 19) fJ2_79 (rd_of s1) rfl dJ2_setLength_19 ?_
      refine ew_iload_n (pc := 22) dJ2_setLength_22 rfl ?_
      refine ew_icmp_ge (pc := 23) (tgt := 63) dJ2_setLength_23 (by decide) (fun c23 => ?_) (fun c23 => absurd (nI_le (a := 0) (Nat.zero_le _) (by omega)) c23)
      refine ew_aload_n (pc := 63) dJ2_setLength_63 rfl ?_
      refine ew_getf (pc := 64) fJ2_79 (rd_of s1) rfl dJ2_setLength_64 ?_
      refine ew_iload_n (pc := 67) dJ2_setLength_67 rfl ?_
      refine ew_icmp_le (pc := 68) (tgt := 76) dJ2_setLength_68 (by decide) (fun c68 => ?_) (fun c68 => absurd (by rw [hz]; decide) c68)
      refine ew_aload_n (pc := 76) dJ2_setLength_76 rfl ?_
      refine ew_iload_n (pc := 77) dJ2_setLength_77 rfl ?_
      refine ew_putf (pc := 78) pJ2_79 s1 st_3 (Nat.le_of_ble_eq_true rfl) rfl rfl (fun h9 => absurd h9 Bool.false_ne_true) dJ2_setLength_78 ?_
      refine ew_vret (pc := 81) rfl dJ2_setLength_81 ?_
      exact hq _ (sb ml) Ke.set
    · skip
      refine ew_iload_n (pc := 0) dJ2_setLength_0 rfl ?_
      refine ew_if_ge (pc := 1) (tgt := 13) dJ2_setLength_1 (by decide) (fun c1 => ?_) (fun c1 => absurd (by decide) c1)
      refine ew_aload_n (pc := 13) dJ2_setLength_13 rfl ?_
      refine ew_iload_n (pc := 14) dJ2_setLength_14 rfl ?_
      refine ew_cW1 (d' := 16) (pc := 15) wJ2_100 (rd_of s1) dJ2_setLength_15 (by decide) (ew_rm (Nat.le_of_ble_eq_true rfl)) ?_
      refine ens _ ?_
      refine ew_Kv ?_
      refine ew_aload_n (pc := 18) dJ2_setLength_18 rfl ?_
      refine ew_getf (pc := 19) fJ2_79 (rd_of s1) rfl dJ2_setLength_19 ?_
      refine ew_iload_n (pc := 22) dJ2_setLength_22 rfl ?_
      refine ew_icmp_ge (pc := 23) (tgt := 63) dJ2_setLength_23 (by decide) (fun c23 => ?_) (fun c23 => absurd (nI_le (a := 0) (Nat.zero_le _) (by omega)) c23)
      refine ew_aload_n (pc := 63) dJ2_setLength_63 rfl ?_
      refine ew_getf (pc := 64) fJ2_79 (rd_of s1) rfl dJ2_setLength_64 ?_
      refine ew_iload_n (pc := 67) dJ2_setLength_67 rfl ?_
      refine ew_icmp_le (pc := 68) (tgt := 76) dJ2_setLength_68 (by decide) (fun c68 => absurd c68 (nI_ge (a := 0) (by omega) (by omega))) (fun c68 => ?_)
      refine ew_aload_n (pc := 71) dJ2_setLength_71 rfl ?_
      refine ew_iconst (pc := 72) (v := 1) dJ2_setLength_72 rfl ?_
      refine ew_putf (pc := 73) pJ2_73 s1 st_2 (Nat.le_of_ble_eq_true rfl) rfl rfl (fun h9 => absurd h9 Bool.false_ne_true) dJ2_setLength_73 ?_
      refine ew_aload_n (pc := 76) dJ2_setLength_76 rfl ?_
      refine ew_iload_n (pc := 77) dJ2_setLength_77 rfl ?_
      refine ew_putf (pc := 78) pJ2_79 j1 st_3 (Nat.le_of_ble_eq_true rfl) rfl rfl (fun h9 => absurd h9 Bool.false_ne_true) dJ2_setLength_78 ?_
      refine ew_vret (pc := 81) rfl dJ2_setLength_81 ?_
      rw [ew_ss]
      exact hq _ (sb 1) Ke.set
  refine ew_enter (by decide +kernel) (ew_a1 rfl (ew_a1 rfl ew_az)) (Nat.le_of_ble_eq_true rfl) ?_
  refine ew_aload_n (pc := 0) dJ3_setLength_0 rfl ?_
  refine ew_iload_n (pc := 1) dJ3_setLength_1 rfl ?_
  refine ew_cP1 (d' := 24) (pc := 2) uJ3_333 rfl (rd_of s1) dJ3_setLength_2 (by decide) (ew_rm (Nat.le_of_ble_eq_true rfl)) ?_
  refine a2 _ (fun h' q1 q2 => ?_)
  refine ew_Kv ?_
  refine ew_vret (pc := 5) rfl dJ3_setLength_5 ?_
  exact hq h' q1 q2
theorem t_sbChar {q A i : Nat} {x : Int32} {tx : List Int32} (hg : gSF g) (S : SB h q A tx) (hx : tx[i]? = some x) (hq : Q (.returned (some (.int x))) h) : ew_T g kJ3_charAt 3 [.ref q, .int (nI i)] h Q := by
  obtain ⟨ml, cap, f, s1, s2, s3, s4, s5, s6, s7, s8⟩ := S
  have hi : i < tx.length := (List.getElem?_eq_some_iff.mp hx).1
  obtain ⟨c, hc, ec⟩ := s7 x (List.mem_of_getElem? hx)
  have hmin : jmin (nI tx.length) (nI cap) = nI tx.length := by
    unfold jmin
    rw [if_neg (nI_nlt (by omega) (by omega))]
  have hnar : narrow .char (.int x) = .int x := by
    rw [ec, ← ch_b hc rfl]
    exact pk_nc _
  have a2 : ∀ Q : Outcome → eh → Prop, Q (.returned (some (.int x))) h → ew_T g kJ2_charAt 2 [.ref q, .int (nI i)] h Q := by
    intro Q hq
    refine ew_enter (by decide +kernel) (ew_a1 rfl (ew_a1 rfl (ew_an (ew_an (ew_an ew_az))))) (Nat.le_of_ble_eq_true rfl) ?_
    refine ew_aload_n (pc := 0) dJ2_charAt_0 rfl ?_
    refine ew_getf (pc := 1) fJ2_22 (rd_of s1) rfl dJ2_charAt_1 ?_
    refine ew_istore_n (pc := 4) dJ2_charAt_4 rfl (by decide) (p1_2 rfl) ?_
    refine ew_aload_n (pc := 5) dJ2_charAt_5 rfl ?_
    refine ew_getf (pc := 6) fJ2_15 (rd_of s1) rfl dJ2_charAt_6 ?_
    first | refine ew_astore_n (pc := 9) dJ2_charAt_9 rfl (by decide) (p1_3 rfl) ?_ | refine ew_astore_nq (pc := 9) dJ2_charAt_9 rfl (by decide) (p1_3 rfl) ?_ | refine ew_astore_nN (pc := 9) dJ2_charAt_9 rfl (by decide) (p1_3 rfl) ?_
    refine ew_aload_n (pc := 10) dJ2_charAt_10 rfl ?_
    refine ew_getf (pc := 11) fJ2_79 (rd_of s1) rfl dJ2_charAt_11 ?_
    refine ew_aload_n (pc := 14) dJ2_charAt_14 rfl ?_
    refine ew_alen (pc := 15) (rd_of s2) rfl dJ2_charAt_15 ?_
    refine ew_iload_n (pc := 16) dJ2_charAt_16 rfl ?_
    refine ew_ishr (pc := 17) dJ2_charAt_17 ?_
    rw [show Int32.ofNat cap = nI cap from rfl, i_sar0]
    refine ew_mmin (pc := 18) (ew_q q2408) (ew_q q596) (ew_q q141) (ew_q q597) (ew_rm (Nat.le_of_ble_eq_true rfl)) dJ2_charAt_18 ?_
    rw [hmin]
    refine ew_istore (pc := 21) dJ2_charAt_21 (by decide) (p1_4 rfl) ?_
    refine ew_iload_n (pc := 23) dJ2_charAt_23 rfl ?_
    refine ew_iload (pc := 24) dJ2_charAt_24 rfl ?_
    refine ew_cS2 (d' := 1) (pc := 26) sJ2_144 dJ2_charAt_26 (by decide) (ew_rm (Nat.le_of_ble_eq_true rfl)) ?_
    refine t_checkIndexS hg hi (by omega) ?_
    refine ew_Kv ?_
    refine ew_iload_n (pc := 29) dJ2_charAt_29 rfl ?_
    refine ew_if_ne (pc := 30) (tgt := 42) dJ2_charAt_30 (by decide) (fun c30 => absurd rfl c30) (fun c30 => ?_)
    refine ew_aload_n (pc := 33) dJ2_charAt_33 rfl ?_
    refine ew_iload_n (pc := 34) dJ2_charAt_34 rfl ?_
    refine ew_baJ (pc := 35) (rd_of s2) (j := i) rfl (by omega) (by omega) dJ2_charAt_35 ?_
    rw [s6 i x hx]
    refine ew_sipush (pc := 36) (v := 255) dJ2_charAt_36 rfl ?_
    refine ew_iand (pc := 39) dJ2_charAt_39 ?_
    refine ew_i2c (pc := 40) dJ2_charAt_40 rfl ?_
    rw [ch_b hc ec, ← ec]
    refine ew_zret (pc := 41) (ty := .char) rfl hnar dJ2_charAt_41 ?_
    exact hq
  refine ew_enter (by decide +kernel) (ew_a1 rfl (ew_a1 rfl ew_az)) (Nat.le_of_ble_eq_true rfl) ?_
  refine ew_aload_n (pc := 0) dJ3_charAt_0 rfl ?_
  refine ew_iload_n (pc := 1) dJ3_charAt_1 rfl ?_
  refine ew_cP1 (d' := 2) (pc := 2) uJ3_329 rfl (rd_of s1) dJ3_charAt_2 (by decide) (ew_rm (Nat.le_of_ble_eq_true rfl)) ?_
  refine a2 _ ?_
  refine ew_Kr ?_
  refine ew_zret (pc := 5) (ty := .char) rfl hnar dJ3_charAt_5 ?_
  exact hq
end
