/-! EW: a number goes into a StringBuilder -/
set_option maxRecDepth 100000
/-- the digits that Integer holds -/
def gDG (g : eg) : Prop := ∃ a b, eg_s g "java/lang/Integer" "DigitOnes" "[B" = some (.ref a) ∧ eg_s g "java/lang/Integer" "DigitTens" "[B" = some (.ref b) ∧ gC g a (aB 100 (fun r => nI (48 + r % 10))) ∧ gC g b (aB 100 (fun r => nI (48 + r / 10)))
theorem ng_toInt {m : Nat} (h : m < 2 ^ 31) : (-nI m).toInt = -(m : Int) := by
  have h1 := nI_toInt (n := m) h
  rw [i_neg (by omega), h1]
theorem ng_div {m : Nat} (h : m < 2 ^ 31) : -nI m / 100 = -nI (m / 100) := by
  apply i_inj
  rw [ng_toInt (by omega), Int32.toInt_div, ng_toInt h]
  show (Int.tdiv (-(m : Int)) 100).bmod 4294967296 = _
  rw [Int.neg_tdiv, Int.tdiv_eq_ediv_of_nonneg (by omega)]
  exact Int.bmod_eq_of_le (by omega) (by omega)
theorem ng_rem {m : Nat} (h : m < 2 ^ 31) : -nI (m / 100) * 100 - -nI m = nI (m % 100) := by
  apply i_inj
  have e1 : (-nI (m / 100) * 100).toInt = -((m / 100 : Nat) : Int) * 100 := by
    have h100 : (100 : Int32).toInt = 100 := rfl
    rw [i_mul (by rw [ng_toInt (by omega), h100]; omega) (by rw [ng_toInt (by omega), h100]; omega), ng_toInt (by omega), h100]
  rw [i_sub (by rw [e1, ng_toInt h]; omega) (by rw [e1, ng_toInt h]; omega), e1, ng_toInt h, nI_toInt (by omega)]
  omega
theorem ng_neg {m : Nat} : - -nI m = nI m := Int32.neg_neg
theorem ng_lt {m k : Nat} (h : m < 2 ^ 31) (hk : k < 2 ^ 31) : -nI k < -nI m ↔ m < k := by
  rw [i_lt, ng_toInt h, ng_toInt hk]
  omega
theorem ng_le {m k : Nat} (h : m < 2 ^ 31) (hk : k < 2 ^ 31) : -nI k ≤ -nI m ↔ m ≤ k := by
  rw [i_le, ng_toInt h, ng_toInt hk]
  omega
theorem dg_1 {k m : Nat} (h : m ≤ 9) : dg (k + 1) m = [nI (48 + m % 10)] := by
  rw [dg, if_pos h, List.nil_append, wb_c (by omega)]
theorem dg_2 {k m : Nat} (h : 9 < m) (h2 : m < 100) : dg (k + 2) m = [nI (48 + m / 10), nI (48 + m % 10)] := by
  rw [dg, if_neg (by omega), dg_1 (by omega), wb_c (by omega), show m / 10 % 10 = m / 10 by omega]
  rfl
theorem dg_3 {k m : Nat} (h : 99 < m) : dg (k + 2) m = dg k (m / 100) ++ [nI (48 + m % 100 / 10), nI (48 + m % 100 % 10)] := by
  rw [dg, if_neg (by omega), dg, if_neg (by omega), Nat.div_div_eq_div_mul, wb_c (by omega), wb_c (by omega), List.append_assoc, show m / 10 % 10 = m % 100 / 10 by omega, show m % 10 = m % 100 % 10 by omega]
  rfl
theorem dg_ok : ∀ k m, tOk (dg k m)
  | 0, _ => fun x hx => absurd hx List.not_mem_nil
  | k + 1, m => by
    rw [dg, wb_c (by omega)]
    refine tOk.app ?_ (tOk.one (by omega))
    split
    · exact fun x hx => absurd hx List.not_mem_nil
    · exact dg_ok k (m / 10)
/-- digits lie in an array, up to p -/
def dgA (f F : Nat → Int32) (D : List Int32) (p cap : Nat) : Prop := D.length ≤ p ∧ (∀ j x, D[j]? = some x → F (p - D.length + j) = x) ∧ ∀ i, i < cap → ¬ (p - D.length ≤ i ∧ i < p) → F i = f i
theorem dgA.nil {f : Nat → Int32} {p cap : Nat} : dgA f f [] p cap := ⟨Nat.zero_le _, fun j x h => (by cases h), fun _ _ _ => rfl⟩
theorem dgA.one {f F : Nat → Int32} {D : List Int32} {x : Int32} {p cap : Nat} (h : dgA (upd f (p - 1) x) F D (p - 1) cap) (hp : 1 ≤ p) (hc : p ≤ cap) : dgA f F (D ++ [x]) p cap := by
  obtain ⟨h1, h2, h3⟩ := h
  have e1 : (D ++ [x]).length = D.length + 1 := by rw [List.length_append]; rfl
  refine ⟨by omega, fun j y hy => ?_, fun i hi hn => ?_⟩
  · by_cases hj : j < D.length
    · rw [List.getElem?_append_left hj] at hy
      rw [e1, show p - (D.length + 1) + j = p - 1 - D.length + j by omega]
      exact h2 j y hy
    · have hj2 : j < (D ++ [x]).length := (List.getElem?_eq_some_iff.mp hy).1
      have e2 : j = D.length := by omega
      rw [e2, List.getElem?_append_right (Nat.le_refl _), Nat.sub_self] at hy
      cases hy
      rw [e1, e2, show p - (D.length + 1) + D.length = p - 1 by omega, h3 (p - 1) (by omega) (by omega)]
      show (if p - 1 = p - 1 then x else f (p - 1)) = x
      rw [if_pos rfl]
  · rw [h3 i hi (by omega)]
    show (if i = p - 1 then x else f i) = f i
    rw [if_neg (by omega)]
section
variable {g : eg} {h : eh} {Q : Outcome → eh → Prop}
theorem byte_48 : ∀ r : Fin 10, vp_nar .byte (nI (48 + r.val)) = nI (48 + r.val) := by decide
theorem b48 {r : Nat} (h : r < 10) : vp_nar .byte (nI (48 + r)) = nI (48 + r) := byte_48 ⟨r, h⟩
theorem p_dec1 {p : Nat} (h : 1 ≤ p) : nI p + Int32.ofInt (-1) = nI (p - 1) := by
  obtain ⟨p2, rfl⟩ : ∃ p2, p = p2 + 1 := ⟨p - 1, by omega⟩
  exact nI_dec p2
theorem t_getChars {A cap : Nat} (hd : gDG g) (hcap : cap < 2 ^ 20) {v p k : Nat} {f : Nat → Int32} (hv : v < 10 ^ k) (hk : 1 ≤ k) (hv2 : v < 2 ^ 31) (hp : p ≤ cap) (hl : (dg k v).length ≤ p) (hA : h.1 A = some (aB cap f)) (hq : ∀ F x, dgA f F (dg k v) p cap → Q (.returned (some (.int x))) (eh_set h A (aB cap F))) : ew_T g kJ22_getChars 0 [.int (nI v), .int (nI p), .ref A] h Q := by
  obtain ⟨ao, at_, hs1, hs2, hc1, hc2⟩ := hd
  have main : ∀ m k p F, m < 10 ^ k → 1 ≤ k → m < 2 ^ 31 → p ≤ cap → (dg k m).length ≤ p → (∀ F2 x, dgA F F2 (dg k m) p cap → Q (.returned (some (.int x))) (eh_set h A (aB cap F2))) → ∀ (y1 : Int32) (x3 x4 : Value), ew_c2 x4 = false → ew_G g kJ22_getChars 0 22 [.int (-nI m), .int y1, .ref A, x3, x4, .int (nI p), .int 0] [] (eh_set h A (aB cap F)) Q := by
    intro m
    induction m using Nat.strongRecOn with
    | _ m ih =>
    intro k p F hm hk hm2 hp hl hQ y1 x3 x4 h4
    have jA := se_1 h A (aB cap F)
    refine ew_ok (fun ho => ?_)
    have ro := rd_c hc1 ho
    have ho2 : ∀ e, eh_ok g (eh_set h A e) := fun e => by
      have h9 := ho.set (e := e) jA
      rw [ew_ss] at h9
      exact h9
    have c100 : (-100 : Int32) < -nI m ↔ m < 100 := ng_lt (k := 100) hm2 (by decide)
    have c9 : (-9 : Int32) ≤ -nI m ↔ m ≤ 9 := ng_le (k := 9) hm2 (by decide)
    by_cases h100 : m < 100
    · by_cases h9 : m ≤ 9
      · obtain ⟨k2, rfl⟩ : ∃ k2, k = k2 + 1 := ⟨k - 1, by omega⟩
        rw [dg_1 h9] at hl hQ
        have hl1 : 1 ≤ p := hl
        refine ew_iload_n (pc := 22) dJ22_getChars_22 rfl ?_
        refine ew_bipush (pc := 23) (v := -100) dJ22_getChars_23 rfl ?_
        refine ew_icmp_gt (pc := 25) (tgt := 72) dJ22_getChars_25 (by decide) (fun c25 => ?_) (fun c25 => absurd (c100.mpr h100) c25)
        first | refine ew_aload_n (pc := 72) dJ22_getChars_72 rfl ?_ | refine ew_aload_nq (pc := 72) dJ22_getChars_72 rfl ?_ | refine ew_aload_nN (pc := 72) dJ22_getChars_72 rfl ?_
        refine ew_iinc (pc := 73) dJ22_getChars_73 rfl (p_dec1 hl1) (by decide) (p1_5 h4) ?_
        refine ew_iload (pc := 76) dJ22_getChars_76 rfl ?_
        refine ew_gets (pc := 78) (C := "java/lang/Integer") (n := "DigitOnes") (dd := "[B") (v := (.ref ao)) hs1 (ew_q q714) (Or.inl rfl) dJ22_getChars_78 ?_
        refine ew_iload_n (pc := 81) dJ22_getChars_81 rfl ?_
        refine ew_ineg (pc := 82) dJ22_getChars_82 ?_
        rw [ng_neg]
        refine ew_baJ (pc := 83) ro (j := m) rfl (by omega) (by decide) dJ22_getChars_83 ?_
        refine ew_baS (pc := 84) jA (j := p - 1) rfl (by omega) (by omega) dJ22_getChars_84 ?_
        refine ew_iload_n (pc := 85) dJ22_getChars_85 rfl ?_
        refine ew_bipush (pc := 86) (v := -9) dJ22_getChars_86 rfl ?_
        refine ew_icmp_ge (pc := 88) (tgt := 104) dJ22_getChars_88 (by decide) (fun c88 => ?_) (fun c88 => absurd (c9.mpr h9) c88)
        refine ew_iload (pc := 104) dJ22_getChars_104 rfl ?_
        refine ew_if_eq (pc := 106) (tgt := 118) dJ22_getChars_106 (by decide) (fun c106 => ?_) (fun c106 => absurd rfl c106)
        refine ew_iload (pc := 118) dJ22_getChars_118 rfl ?_
        refine ew_iret (pc := 120) rfl dJ22_getChars_120 ?_
        rw [ew_ss, b48 (by omega)]
        exact hQ _ _ (dgA.one (D := []) dgA.nil hl1 hp)
      · have hk2 : 2 ≤ k := by
          rcases Nat.lt_or_ge k 2 with h8 | h8
          · have e8 : k = 1 := by omega
            subst e8
            omega
          · exact h8
        obtain ⟨k2, rfl⟩ : ∃ k2, k = k2 + 2 := ⟨k - 2, by omega⟩
        rw [dg_2 (by omega) h100] at hl hQ
        have hl2 : 2 ≤ p := hl
        have jA2 := se_1 h A (aB cap (upd F (p - 1) (vp_nar .byte (nI (48 + m % 10)))))
        refine ew_iload_n (pc := 22) dJ22_getChars_22 rfl ?_
        refine ew_bipush (pc := 23) (v := -100) dJ22_getChars_23 rfl ?_
        refine ew_icmp_gt (pc := 25) (tgt := 72) dJ22_getChars_25 (by decide) (fun c25 => ?_) (fun c25 => absurd (c100.mpr h100) c25)
        first | refine ew_aload_n (pc := 72) dJ22_getChars_72 rfl ?_ | refine ew_aload_nq (pc := 72) dJ22_getChars_72 rfl ?_ | refine ew_aload_nN (pc := 72) dJ22_getChars_72 rfl ?_
        refine ew_iinc (pc := 73) dJ22_getChars_73 rfl (p_dec1 (by omega)) (by decide) (p1_5 h4) ?_
        refine ew_iload (pc := 76) dJ22_getChars_76 rfl ?_
        refine ew_gets (pc := 78) (C := "java/lang/Integer") (n := "DigitOnes") (dd := "[B") (v := (.ref ao)) hs1 (ew_q q714) (Or.inl rfl) dJ22_getChars_78 ?_
        refine ew_iload_n (pc := 81) dJ22_getChars_81 rfl ?_
        refine ew_ineg (pc := 82) dJ22_getChars_82 ?_
        rw [ng_neg]
        refine ew_baJ (pc := 83) ro (j := m) rfl (by omega) (by decide) dJ22_getChars_83 ?_
        refine ew_baS (pc := 84) jA (j := p - 1) rfl (by omega) (by omega) dJ22_getChars_84 ?_
        rw [ew_ss]
        refine ew_iload_n (pc := 85) dJ22_getChars_85 rfl ?_
        refine ew_bipush (pc := 86) (v := -9) dJ22_getChars_86 rfl ?_
        refine ew_icmp_ge (pc := 88) (tgt := 104) dJ22_getChars_88 (by decide) (fun c88 => absurd c88 (fun h8 => h9 (c9.mp h8))) (fun c88 => ?_)
        first | refine ew_aload_n (pc := 91) dJ22_getChars_91 rfl ?_ | refine ew_aload_nq (pc := 91) dJ22_getChars_91 rfl ?_ | refine ew_aload_nN (pc := 91) dJ22_getChars_91 rfl ?_
        refine ew_iinc (pc := 92) dJ22_getChars_92 rfl (p_dec1 (by omega)) (by decide) (p1_5 h4) ?_
        refine ew_iload (pc := 95) dJ22_getChars_95 rfl ?_
        refine ew_gets (pc := 97) (C := "java/lang/Integer") (n := "DigitTens") (dd := "[B") (v := (.ref at_)) hs2 (ew_q q716) (Or.inl rfl) dJ22_getChars_97 ?_
        refine ew_iload_n (pc := 100) dJ22_getChars_100 rfl ?_
        refine ew_ineg (pc := 101) dJ22_getChars_101 ?_
        rw [ng_neg]
        refine ew_baJ (pc := 102) (rd_c hc2 (ho2 _)) (j := m) rfl (by omega) (by decide) dJ22_getChars_102 ?_
        refine ew_baS (pc := 103) jA2 (j := p - 1 - 1) rfl (by omega) (by omega) dJ22_getChars_103 ?_
        refine ew_iload (pc := 104) dJ22_getChars_104 rfl ?_
        refine ew_if_eq (pc := 106) (tgt := 118) dJ22_getChars_106 (by decide) (fun c106 => ?_) (fun c106 => absurd rfl c106)
        refine ew_iload (pc := 118) dJ22_getChars_118 rfl ?_
        refine ew_iret (pc := 120) rfl dJ22_getChars_120 ?_
        rw [ew_ss, b48 (by omega), b48 (by omega)]
        exact hQ _ _ (dgA.one (D := [nI (48 + m / 10)]) (dgA.one (D := []) dgA.nil (by omega) (by omega)) (by omega) hp)
    · have hk3 : 3 ≤ k := by
        rcases Nat.lt_or_ge k 3 with h8 | h8
        · have h7 : 10 ^ k ≤ 10 ^ 2 := Nat.pow_le_pow_right (by decide) (by omega)
          omega
        · exact h8
      obtain ⟨k2, rfl⟩ : ∃ k2, k = k2 + 2 := ⟨k - 2, by omega⟩
      rw [dg_3 (by omega)] at hl hQ
      rw [List.length_append] at hl
      have hl2 : (dg k2 (m / 100)).length + 2 ≤ p := hl
      have hmk : m / 100 < 10 ^ k2 := by
        rw [Nat.pow_add] at hm
        exact Nat.div_lt_of_lt_mul (by rw [Nat.mul_comm]; exact hm)
      have jA2 := se_1 h A (aB cap (upd F (p - 1) (vp_nar .byte (nI (48 + m % 100 % 10)))))
      refine ew_iload_n (pc := 22) dJ22_getChars_22 rfl ?_
      refine ew_bipush (pc := 23) (v := -100) dJ22_getChars_23 rfl ?_
      refine ew_icmp_gt (pc := 25) (tgt := 72) dJ22_getChars_25 (by decide) (fun c25 => absurd c25 (fun h8 => h100 (c100.mp h8))) (fun c25 => ?_)
      refine ew_iload_n (pc := 28) dJ22_getChars_28 rfl ?_
      refine ew_bipush (pc := 29) (v := 100) dJ22_getChars_29 rfl ?_
      refine ew_idiv (pc := 31) dJ22_getChars_31 (by decide) ?_
      rw [ng_div hm2]
      refine ew_istore_n (pc := 32) dJ22_getChars_32 rfl (by decide) (p1_3 rfl) ?_
      refine ew_iload_n (pc := 33) dJ22_getChars_33 rfl ?_
      refine ew_bipush (pc := 34) (v := 100) dJ22_getChars_34 rfl ?_
      refine ew_imul (pc := 36) dJ22_getChars_36 ?_
      refine ew_iload_n (pc := 37) dJ22_getChars_37 rfl ?_
      refine ew_isub (pc := 38) dJ22_getChars_38 ?_
      rw [ng_rem hm2]
      refine ew_istore (pc := 39) dJ22_getChars_39 (by decide) (p1_4 rfl) ?_
      refine ew_iload_n (pc := 41) dJ22_getChars_41 rfl ?_
      refine ew_istore_n (pc := 42) dJ22_getChars_42 rfl (by decide) (p1_0) ?_
      first | refine ew_aload_n (pc := 43) dJ22_getChars_43 rfl ?_ | refine ew_aload_nq (pc := 43) dJ22_getChars_43 rfl ?_ | refine ew_aload_nN (pc := 43) dJ22_getChars_43 rfl ?_
      refine ew_iinc (pc := 44) dJ22_getChars_44 rfl (p_dec1 (by omega)) (by decide) (p1_5 rfl) ?_
      refine ew_iload (pc := 47) dJ22_getChars_47 rfl ?_
      refine ew_gets (pc := 49) (C := "java/lang/Integer") (n := "DigitOnes") (dd := "[B") (v := (.ref ao)) hs1 (ew_q q714) (Or.inl rfl) dJ22_getChars_49 ?_
      refine ew_iload (pc := 52) dJ22_getChars_52 rfl ?_
      refine ew_baJ (pc := 54) ro (j := m % 100) rfl (by omega) (by decide) dJ22_getChars_54 ?_
      refine ew_baS (pc := 55) jA (j := p - 1) rfl (by omega) (by omega) dJ22_getChars_55 ?_
      rw [ew_ss]
      first | refine ew_aload_n (pc := 56) dJ22_getChars_56 rfl ?_ | refine ew_aload_nq (pc := 56) dJ22_getChars_56 rfl ?_ | refine ew_aload_nN (pc := 56) dJ22_getChars_56 rfl ?_
      refine ew_iinc (pc := 57) dJ22_getChars_57 rfl (p_dec1 (by omega)) (by decide) (p1_5 rfl) ?_
      refine ew_iload (pc := 60) dJ22_getChars_60 rfl ?_
      refine ew_gets (pc := 62) (C := "java/lang/Integer") (n := "DigitTens") (dd := "[B") (v := (.ref at_)) hs2 (ew_q q716) (Or.inl rfl) dJ22_getChars_62 ?_
      refine ew_iload (pc := 65) dJ22_getChars_65 rfl ?_
      refine ew_baJ (pc := 67) (rd_c hc2 (ho2 _)) (j := m % 100) rfl (by omega) (by decide) dJ22_getChars_67 ?_
      refine ew_baS (pc := 68) jA2 (j := p - 1 - 1) rfl (by omega) (by omega) dJ22_getChars_68 ?_
      refine ew_goto (pc := 69) (tgt := 22) dJ22_getChars_69 (by decide) ?_
      rw [ew_ss, b48 (by omega), b48 (by omega)]
      refine ih (m / 100) (by omega) k2 (p - 1 - 1) _ hmk (by omega) (by omega) (by omega) (by omega) (fun F2 x hF => hQ F2 x ?_) _ _ _ rfl
      have h8 := (hF.one (by omega) (by omega)).one (by omega) hp
      rw [List.append_assoc] at h8
      exact h8
  have k1 := main v k p f hv hk hv2 hp hl hq (nI p) no_ no_ rfl
  rw [eh_sid hA] at k1
  refine ew_enter (by decide +kernel) (ew_a1 rfl (ew_a1 rfl (ew_a1 rfl (ew_an (ew_an (ew_an (ew_an ew_az))))))) (Nat.le_of_ble_eq_true rfl) ?_
  refine ew_iload_n (pc := 0) dJ22_getChars_0 rfl ?_
  refine ew_istore (pc := 1) dJ22_getChars_1 (by decide) (p1_5 rfl) ?_
  refine ew_iload_n (pc := 3) dJ22_getChars_3 rfl ?_
  refine ew_if_ge (pc := 4) (tgt := 11) dJ22_getChars_4 (by decide) (fun c4 => ?_) (fun c4 => absurd (nI_le (a := 0) (Nat.zero_le _) hv2) c4)
  refine ew_iconst (pc := 11) (v := 0) dJ22_getChars_11 rfl ?_
  refine ew_istore (pc := 12) dJ22_getChars_12 (by decide) (p1_6 rfl) ?_
  refine ew_iload (pc := 14) dJ22_getChars_14 rfl ?_
  refine ew_if_ne (pc := 16) (tgt := 22) dJ22_getChars_16 (by decide) (fun c16 => absurd (show (0 : Int32) = (0 : Int32) by decide) c16) (fun c16 => ?_)
  refine ew_iload_n (pc := 19) dJ22_getChars_19 rfl ?_
  refine ew_ineg (pc := 20) dJ22_getChars_20 ?_
  refine ew_istore_n (pc := 21) dJ22_getChars_21 rfl (by decide) (p1_0) ?_
  exact k1
theorem t_strSize {v k : Nat} (hv : v < 10 ^ k) (hk : 1 ≤ k) (hk2 : k ≤ 12) (hv2 : v < 2 ^ 31) (hq : Q (.returned (some (.int (nI (dg k v).length)))) h) : ew_T g kJ22_stringSize 0 [.int (nI v)] h Q := by
  have pw : ∀ i : Fin 10, 1 ≤ i.val → ((10 ^ i.val : Nat) : Int) < 2147483648 := by decide
  have dgl : ∀ i k m, 1 ≤ k → m < 10 ^ k → ((dg k m).length ≤ i + 1 ↔ m < 10 ^ (i + 1)) := by
    intro i
    induction i with
    | zero =>
      intro k m hk hm
      obtain ⟨k2, rfl⟩ : ∃ k2, k = k2 + 1 := ⟨k - 1, by omega⟩
      by_cases h9 : m ≤ 9
      · rw [dg_1 h9]
        simp
        omega
      · have hk2 : 1 ≤ k2 := by
          rcases Nat.eq_zero_or_pos k2 with h8 | h8
          · subst h8
            omega
          · exact h8
        obtain ⟨k3, rfl⟩ : ∃ k3, k2 = k3 + 1 := ⟨k2 - 1, by omega⟩
        rw [dg, if_neg h9, List.length_append, dg, List.length_append]
        simp
        omega
    | succ i ih =>
      intro k m hk hm
      obtain ⟨k2, rfl⟩ : ∃ k2, k = k2 + 1 := ⟨k - 1, by omega⟩
      by_cases h9 : m ≤ 9
      · rw [dg_1 h9]
        have h7 : 10 ^ 1 ≤ 10 ^ (i + 1 + 1) := Nat.pow_le_pow_right (by decide) (by omega)
        simp
        omega
      · have hk2 : 1 ≤ k2 := by
          rcases Nat.eq_zero_or_pos k2 with h8 | h8
          · subst h8
            omega
          · exact h8
        have hmk : m / 10 < 10 ^ k2 := by
          rw [Nat.pow_succ] at hm
          exact Nat.div_lt_of_lt_mul (by rw [Nat.mul_comm]; exact hm)
        have h8 := ih k2 (m / 10) hk2 hmk
        rw [dg, if_neg h9, List.length_append, List.length_singleton, Nat.pow_succ, ← Nat.div_lt_iff_lt_mul (by decide)]
        omega
  have loop : ∀ q i (p : Int32), i + q = 10 → 1 ≤ i → (i ≤ 9 → p = -nI (10 ^ i)) → i ≤ (dg k v).length → ew_G g kJ22_stringSize 0 16 [.int (-nI v), .int 0, .int p, .int (nI i)] [] h Q := by
    intro q
    induction q with
    | zero =>
      intro i p hi h1 hp hl
      have e9 : i = 10 := by omega
      subst e9
      have h8 : (dg k v).length ≤ 10 := (dgl 9 k v hk hv).mpr (by omega)
      have e8 : (dg k v).length = 10 := by omega
      rw [e8] at hq
      refine ew_iload_n (pc := 16) dJ22_stringSize_16 rfl ?_
      refine ew_bipush (pc := 17) (v := 10) dJ22_stringSize_17 rfl ?_
      refine ew_icmp_ge (pc := 19) (tgt := 42) dJ22_stringSize_19 (by decide) (fun c19 => ?_) (fun c19 => absurd (by decide) c19)
      refine ew_bipush (pc := 42) (v := 10) dJ22_stringSize_42 rfl ?_
      refine ew_iload_n (pc := 44) dJ22_stringSize_44 rfl ?_
      refine ew_iadd (pc := 45) dJ22_stringSize_45 ?_
      refine ew_iret (pc := 46) rfl dJ22_stringSize_46 ?_
      exact hq
    | succ q ih =>
      intro i p hi h1 hp hl
      have e9 := hp (by omega)
      subst e9
      have hpi := pw ⟨i, by omega⟩ h1
      simp only at hpi
      obtain ⟨j, rfl⟩ : ∃ j, i = j + 1 := ⟨i - 1, by omega⟩
      have hd := dgl j k v hk hv
      have hc : -nI v ≤ -nI (10 ^ (j + 1)) ↔ 10 ^ (j + 1) ≤ v := ng_le (by omega) hv2
      have hmul : j + 1 + 1 ≤ 9 → (10 : Int32) * -nI (10 ^ (j + 1)) = -nI (10 ^ (j + 1 + 1)) := fun h9 => by
        have := pw ⟨j + 1 + 1, by omega⟩ (by show 1 ≤ j + 1 + 1; omega)
        simp only at this
        have h10 : (10 : Int32).toInt = 10 := rfl
        have e1 := ng_toInt (m := 10 ^ (j + 1)) (by omega)
        have e2 := ng_toInt (m := 10 ^ (j + 1 + 1)) (by omega)
        have e3 : (10 : Nat) ^ (j + 1 + 1) = 10 ^ (j + 1) * 10 := Nat.pow_succ ..
        apply i_inj
        rw [i_mul (by rw [h10, e1]; omega) (by rw [h10, e1]; omega), h10, e1, e2]
        omega
      by_cases h9 : v < 10 ^ (j + 1)
      · have e8 : (dg k v).length = j + 1 := by
          have := hd.mpr h9
          omega
        rw [e8] at hq
        refine ew_iload_n (pc := 16) dJ22_stringSize_16 rfl ?_
        refine ew_bipush (pc := 17) (v := 10) dJ22_stringSize_17 rfl ?_
        refine ew_icmp_ge (pc := 19) (tgt := 42) dJ22_stringSize_19 (by decide) (fun c19 => absurd c19 (nI_ge (b := 10) (by omega) (by decide))) (fun c19 => ?_)
        refine ew_iload_n (pc := 22) dJ22_stringSize_22 rfl ?_
        refine ew_iload_n (pc := 23) dJ22_stringSize_23 rfl ?_
        refine ew_icmp_le (pc := 24) (tgt := 31) dJ22_stringSize_24 (by decide) (fun c24 => absurd c24 (fun h8 => by have := hc.mp h8; omega)) (fun c24 => ?_)
        refine ew_iload_n (pc := 27) dJ22_stringSize_27 rfl ?_
        refine ew_iload_n (pc := 28) dJ22_stringSize_28 rfl ?_
        refine ew_iadd (pc := 29) dJ22_stringSize_29 ?_
        rw [Int32.add_zero]
        refine ew_iret (pc := 30) rfl dJ22_stringSize_30 ?_
        exact hq
      · have h8 : j + 1 + 1 ≤ (dg k v).length := by
          rcases Nat.lt_or_ge (dg k v).length (j + 1 + 1) with h7 | h7
          · exact absurd (hd.mp (by omega)) h9
          · exact h7
        refine ew_iload_n (pc := 16) dJ22_stringSize_16 rfl ?_
        refine ew_bipush (pc := 17) (v := 10) dJ22_stringSize_17 rfl ?_
        refine ew_icmp_ge (pc := 19) (tgt := 42) dJ22_stringSize_19 (by decide) (fun c19 => absurd c19 (nI_ge (b := 10) (by omega) (by decide))) (fun c19 => ?_)
        refine ew_iload_n (pc := 22) dJ22_stringSize_22 rfl ?_
        refine ew_iload_n (pc := 23) dJ22_stringSize_23 rfl ?_
        refine ew_icmp_le (pc := 24) (tgt := 31) dJ22_stringSize_24 (by decide) (fun c24 => ?_) (fun c24 => absurd (hc.mpr (by omega)) c24)
        refine ew_bipush (pc := 31) (v := 10) dJ22_stringSize_31 rfl ?_
        refine ew_iload_n (pc := 33) dJ22_stringSize_33 rfl ?_
        refine ew_imul (pc := 34) dJ22_stringSize_34 ?_
        refine ew_istore_n (pc := 35) dJ22_stringSize_35 rfl (by decide) (p1_2 rfl) ?_
        refine ew_iinc (pc := 36) dJ22_stringSize_36 rfl (nI_inc (j + 1)) (by decide) (p1_3 rfl) ?_
        refine ew_goto (pc := 39) (tgt := 16) dJ22_stringSize_39 (by decide) ?_
        exact ih (j + 1 + 1) _ (by omega) (by omega) hmul h8
  refine ew_enter (by decide +kernel) (ew_a1 rfl (ew_an (ew_an (ew_an ew_az)))) (Nat.le_of_ble_eq_true rfl) ?_
  refine ew_iconst (pc := 0) (v := 1) dJ22_stringSize_0 rfl ?_
  refine ew_istore_n (pc := 1) dJ22_stringSize_1 rfl (by decide) (p1_1 rfl) ?_
  refine ew_iload_n (pc := 2) dJ22_stringSize_2 rfl ?_
  refine ew_if_lt (pc := 3) (tgt := 11) dJ22_stringSize_3 (by decide) (fun c3 => absurd c3 (nI_nn (by omega))) (fun c3 => ?_)
  refine ew_iconst (pc := 6) (v := 0) dJ22_stringSize_6 rfl ?_
  refine ew_istore_n (pc := 7) dJ22_stringSize_7 rfl (by decide) (p1_1 rfl) ?_
  refine ew_iload_n (pc := 8) dJ22_stringSize_8 rfl ?_
  refine ew_ineg (pc := 9) dJ22_stringSize_9 ?_
  refine ew_istore_n (pc := 10) dJ22_stringSize_10 rfl (by decide) (p1_0) ?_
  refine ew_bipush (pc := 11) (v := -10) dJ22_stringSize_11 rfl ?_
  refine ew_istore_n (pc := 13) dJ22_stringSize_13 rfl (by decide) (p1_2 rfl) ?_
  refine ew_iconst (pc := 14) (v := 1) dJ22_stringSize_14 rfl ?_
  refine ew_istore_n (pc := 15) dJ22_stringSize_15 rfl (by decide) (p1_3 rfl) ?_
  exact loop 9 1 _ (by decide) (by decide) (fun _ => rfl) (by
    obtain ⟨k2, rfl⟩ : ∃ k2, k = k2 + 1 := ⟨k - 1, by omega⟩
    rw [dg, List.length_append]
    simp)
/-- a number goes into a StringBuilder -/
theorem t_sbAppI {q A v : Nat} {tx : List Int32} (hg : gCS g) (hd : gDG g) (S : SB h q A tx) (hv : v < 2 ^ 31) (hl : tx.length + 12 ≤ 400) (hq : ∀ h', SBq h q A (tx ++ dgV v) h' → Q (.returned (some (.ref q))) h') : ew_T g kJ3_append_2 18 [.ref q, .int (nI v)] h Q := by
  obtain ⟨fs, hqo⟩ := S.o
  have hv12 : v < 10 ^ 12 := Nat.lt_of_lt_of_le hv (by decide)
  have hdl := dg_len 12 v
  have a2 : ∀ Q : Outcome → eh → Prop, (∀ h' fs, h'.1 q = some (ob 16 fs) → SBq h q A (tx ++ dgV v) h' → Q (.returned (some (.ref q))) h') → ew_T g kJ2_append_2 17 [.ref q, .int (nI v)] h Q := by
    intro Q hq
    have hln := S
    obtain ⟨ml0, cap0, f0, s1, -⟩ := hln
    refine ew_enter (by decide +kernel) (ew_a1 rfl (ew_a1 rfl (ew_an (ew_an ew_az)))) (Nat.le_of_ble_eq_true rfl) ?_
    refine ew_ok (fun ho => ?_)
    have hql := h_l ho s1
    refine ew_aload_n (pc := 0) dJ2_append_2_0 rfl ?_
    refine ew_getf (pc := 1) fJ2_79 (rd_of s1) rfl dJ2_append_2_1 ?_
    refine ew_istore_n (pc := 4) dJ2_append_2_4 rfl (by decide) (p1_2 rfl) ?_
    refine ew_iload_n (pc := 5) dJ2_append_2_5 rfl ?_
    refine ew_iload_n (pc := 6) dJ2_append_2_6 rfl ?_
    refine ew_cS1 (d' := 0) (pc := 7) sJ2_245 dJ2_append_2_7 (by decide) (ew_rm (Nat.le_of_ble_eq_true rfl)) ?_
    refine t_strSize (k := 12) hv12 (by decide) (by decide) hv ?_
    refine ew_Kr ?_
    refine ew_iadd (pc := 10) dJ2_append_2_10 ?_
    rw [nI_add]
    refine ew_istore_n (pc := 11) dJ2_append_2_11 rfl (by decide) (p1_3 rfl) ?_
    refine ew_aload_n (pc := 12) dJ2_append_2_12 rfl ?_
    refine ew_iload_n (pc := 13) dJ2_append_2_13 rfl ?_
    refine ew_cW1 (d' := 16) (pc := 14) wJ2_100 (rd_of s1) dJ2_append_2_14 (by decide) (ew_rm (Nat.le_of_ble_eq_true rfl)) ?_
    refine t_sbEns S (by omega) (fun h2 A2 ml cap F e1 e2 e3 e4 e5 e6 e7 e8 e9 k1 => ?_)
    have S2 : SB h2 q A2 tx := ⟨ml, cap, F, e1, e2, e3, e5, e6, e7, S.ok, e8⟩
    have hqA : q ≠ A2 := fun e => by
      rw [e, e2] at e1
      cases e1
    refine ew_Kv ?_
    refine ew_aload_n (pc := 17) dJ2_append_2_17 rfl ?_
    refine ew_cU0 (d' := 0) (pc := 18) vJ2_83 (rd_of e1) dJ2_append_2_18 (by decide) (ew_rm (Nat.le_of_ble_eq_true rfl)) ?_
    refine t_sbLat hg S2 ?_
    refine ew_Kr ?_
    refine ew_if_eq (pc := 21) (tgt := 37) dJ2_append_2_21 (by decide) (fun c21 => absurd c21 (by decide)) (fun c21 => ?_)
    refine ew_iload_n (pc := 24) dJ2_append_2_24 rfl ?_
    refine ew_iload_n (pc := 25) dJ2_append_2_25 rfl ?_
    refine ew_aload_n (pc := 26) dJ2_append_2_26 rfl ?_
    refine ew_getf (pc := 27) fJ2_15 (rd_of e1) rfl dJ2_append_2_27 ?_
    refine ew_cS3 (d' := 0) (pc := 30) sJ2_248 dJ2_append_2_30 (by decide) (ew_rm (Nat.le_of_ble_eq_true rfl)) ?_
    refine t_getChars hd (by omega) (k := 12) hv12 (by decide) hv e4 (by omega) e2 (fun F2 x hF => ?_)
    have j1 := sn_1 (e := aB cap F2) e1 hqA
    refine ew_Kr ?_
    refine ew_pop (pc := 33) dJ2_append_2_33 rfl ?_
    refine ew_goto (pc := 34) (tgt := 48) dJ2_append_2_34 (by decide) ?_
    refine ew_aload_n (pc := 48) dJ2_append_2_48 rfl ?_
    refine ew_iload_n (pc := 49) dJ2_append_2_49 rfl ?_
    refine ew_putf (pc := 50) pJ2_79 j1 st_3 (Nat.le_of_ble_eq_true rfl) rfl rfl (fun h9 => absurd h9 Bool.false_ne_true) dJ2_append_2_50 ?_
    have j3 := se_1 (eh_set h2 A2 (aB cap F2)) q (ob 16 [.ref A2, .int 0, .int ml, .int (nI (tx.length + (dg 12 v).length))])
    refine ew_aload_n (pc := 53) dJ2_append_2_53 rfl ?_
    refine ew_aret (pc := 54) rfl (Or.inl ⟨_, rfl⟩) (Or.inr ⟨_, rfl⟩) dJ2_append_2_54 ?_
    refine hq _ _ j3 ⟨A2, ⟨ml, cap, F2, ?_, sn_1 (se_1 _ _ _) hqA.symm, ?_, e5, e6, fun i y hy => ?_, S.ok.app (dg_ok 12 v), fun i hi => ?_⟩, e9, ?_⟩
    · rw [List.length_append]; exact j3
    · rw [List.length_append]; exact e4
    · have hi : i < (tx ++ dg 12 v).length := (List.getElem?_eq_some_iff.mp hy).1
      rw [List.length_append] at hi
      by_cases h9 : i < tx.length
      · rw [List.getElem?_append_left h9] at hy
        rw [hF.2.2 i (by omega) (by omega)]
        exact e7 i y hy
      · rw [List.getElem?_append_right (by omega)] at hy
        have h8 := hF.2.1 _ y hy
        rw [show tx.length + (dg 12 v).length - (dg 12 v).length + (i - tx.length) = i by omega] at h8
        exact h8
    · by_cases h9 : tx.length ≤ i ∧ i < tx.length + (dg 12 v).length
      · have hy : (dg 12 v)[i - tx.length]? = some ((dg 12 v)[i - tx.length]'(by omega)) := List.getElem?_eq_getElem (by omega)
        have h8 := hF.2.1 _ _ hy
        rw [show tx.length + (dg 12 v).length - (dg 12 v).length + (i - tx.length) = i by omega] at h8
        obtain ⟨c, hc, e⟩ := dg_ok 12 v _ (List.mem_of_getElem? hy)
        rw [h8, e]
        exact (byte_ok ⟨c, hc⟩).1
      · rw [hF.2.2 i hi (by omega)]
        exact e8 i hi
    · refine (k1.t Ke.set (A := [q, A]) (c := 1) (s := 1000) (fun b h9 _ => by rw [List.mem_singleton.mp h9]; exact List.mem_cons_self) (fun b h9 h8 => ?_) (by decide) (by decide)).t Ke.set (fun b h9 _ => h9) (fun b h9 _ => by rw [List.mem_singleton.mp h9]; exact List.mem_cons_self) (by decide) (by decide)
      rw [List.mem_singleton.mp h9] at h8 ⊢
      rcases e9 with e | e
      · rw [e]; simp
      · omega
  refine ew_enter (by decide +kernel) (ew_a1 rfl (ew_a1 rfl ew_az)) (Nat.le_of_ble_eq_true rfl) ?_
  refine ew_aload_n (pc := 0) dJ3_append_2_0 rfl ?_
  refine ew_iload_n (pc := 1) dJ3_append_2_1 rfl ?_
  refine ew_cP1 (d' := 17) (pc := 2) uJ3_53 rfl (rd_of hqo) dJ3_append_2_2 (by decide) (ew_rm (Nat.le_of_ble_eq_true rfl)) ?_
  refine a2 _ (fun h' fs q1 q2 => ?_)
  refine ew_Kr ?_
  refine ew_pop (pc := 5) dJ3_append_2_5 rfl ?_
  refine ew_aload_n (pc := 6) dJ3_append_2_6 rfl ?_
  refine ew_aret (pc := 7) rfl (Or.inl ⟨_, rfl⟩) (Or.inr ⟨_, rfl⟩) dJ3_append_2_7 ?_
  exact hq h' q2
end
