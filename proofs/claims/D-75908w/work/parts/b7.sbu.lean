/-! EW: a StringBuilder -/
set_option maxRecDepth 100000
/-- codes below 128 -/
def tOk (tx : List Int32) : Prop := ∀ x, x ∈ tx → ∃ c : Nat, c < 128 ∧ x = nI c
theorem tOk.app {a b : List Int32} (h1 : tOk a) (h2 : tOk b) : tOk (a ++ b) := fun x hx => by
  rcases List.mem_append.mp hx with h9 | h9
  · exact h1 x h9
  · exact h2 x h9
theorem tOk.one {c : Nat} (h : c < 128) : tOk [nI c] := fun x hx => ⟨c, h, List.mem_singleton.mp hx⟩
/-- a StringBuilder at q, its array A, its text -/
def SB (h : eh) (q A : Nat) (tx : List Int32) : Prop := ∃ ml cap f, h.1 q = some (ob 16 [.ref A, .int 0, .int ml, .int (nI tx.length)]) ∧ h.1 A = some (aB cap f) ∧ tx.length ≤ cap ∧ 16 ≤ cap ∧ cap ≤ 1000 ∧ (∀ i x, tx[i]? = some x → f i = x) ∧ tOk tx ∧ ∀ i, i < cap → fits .byte (.int (f i)) = true
section
variable {g : eg} {h : eh} {Q : Outcome → eh → Prop}
theorem SB.ke {q A c s : Nat} {B : List Nat} {tx : List Int32} {h' : eh} (S : SB h q A tx) (k : Ke B c s h h') (ho : eh_ok g h) (h1 : q ∉ B) (h2 : A ∉ B) : SB h' q A tx := by
  obtain ⟨ml, cap, f, s1, s2, s3⟩ := S
  exact ⟨ml, cap, f, k.h ho s1 h1, k.h ho s2 h2, s3⟩
theorem SB.o {q A : Nat} {tx : List Int32} (S : SB h q A tx) : ∃ fs, h.1 q = some (ob 16 fs) := by
  obtain ⟨ml, cap, f, s1, -⟩ := S
  exact ⟨_, s1⟩
theorem i_sar0 (x : Int32) : x >>> ((0 : Int32) &&& 31) = x := by
  rw [show (0 : Int32) &&& 31 = 0 by decide]
  exact Int32.shiftRight_zero
theorem i_shl0 (x : Int32) : x <<< ((0 : Int32) &&& 31) = x := by
  rw [show (0 : Int32) &&& 31 = 0 by decide]
  exact Int32.shiftLeft_zero
theorem t_sbInit {q : Nat} (hg : gCS g) (h1 : h.1 q = some (ob 16 [.null, .int 0, .int 0, .int 0])) (hq : ∀ h', SB h' q h.2.1 [] → Ke [q] 1 16 h h' → Q (.returned none) h') : ew_T g kJ3_init 3 [.ref q] h Q := by
  have hg1 : eg_s g "java/lang/String" "COMPACT_STRINGS" "Z" = some (.int 1) := hg
  have i2 : ∀ Q : Outcome → eh → Prop, (∀ h', SB h' q h.2.1 [] → Ke [q] 1 16 h h' → Q (.returned none) h') → ew_T g kJ2_init 2 [.ref q, .int 16] h Q := by
    intro Q hq
    refine ew_enter (by decide +kernel) (ew_a1 rfl (ew_a1 rfl ew_az)) (Nat.le_of_ble_eq_true rfl) ?_
    refine ew_ok (fun ho => ?_)
    have hql := h_l ho h1
    have j1 := nn_1 (e := aB 16 (fun _ => 0)) (n := 16) h1 (by omega)
    refine ew_aload_n (pc := 0) dJ2_init_0 rfl ?_
    refine ew_obj (pc := 1) (ew_q q211) (ew_q q177) (ew_q q178) (ew_rm (Nat.le_of_ble_eq_true rfl)) dJ2_init_1 ?_
    refine ew_gets (pc := 4) (C := "java/lang/String") (n := "COMPACT_STRINGS") (dd := "Z") (v := (.int 1)) hg1 (ew_q q212) (Or.inl rfl) dJ2_init_4 ?_
    refine ew_if_eq (pc := 7) (tgt := 25) dJ2_init_7 (by decide) (fun c7 => absurd c7 (by decide)) (fun c7 => ?_)
    refine ew_aload_n (pc := 10) dJ2_init_10 rfl ?_
    refine ew_iload_n (pc := 11) dJ2_init_11 rfl ?_
    refine ew_newB (pc := 12) (ew_q q200) (by decide) rfl (Nat.le_of_ble_eq_true rfl) dJ2_init_12 ?_
    refine ew_putf (pc := 14) pJ2_15 j1 st_0 (Nat.le_of_ble_eq_true rfl) rfl rfl (fun h9 => absurd h9 Bool.false_ne_true) dJ2_init_14 ?_
    have j2 := se_1 (eh_new h (aB 16 (fun _ => 0)) 16) q (ob 16 [.ref h.2.1, .int 0, .int 0, .int 0])
    refine ew_aload_n (pc := 17) dJ2_init_17 rfl ?_
    refine ew_iconst (pc := 18) (v := 0) dJ2_init_18 rfl ?_
    refine ew_putf (pc := 19) pJ2_22 j2 st_1 (Nat.le_of_ble_eq_true rfl) rfl rfl (fun h9 => absurd h9 Bool.false_ne_true) dJ2_init_19 ?_
    rw [ew_ss]
    refine ew_goto (pc := 22) (tgt := 38) dJ2_init_22 (by decide) ?_
    refine ew_vret (pc := 38) rfl dJ2_init_38 ?_
    refine hq _ ⟨0, 16, fun _ => 0, se_1 _ _ _, sn_1 (ne_1 _ _ _) (by omega), Nat.zero_le _, Nat.le_refl _, by decide, fun i x h9 => (by cases h9), fun x h9 => absurd h9 List.not_mem_nil, fun i _ => rfl⟩ (Ke.new.t Ke.set (fun a h9 => absurd h9 List.not_mem_nil) (fun a h9 _ => h9) (by decide) (by decide))
  refine ew_enter (by decide +kernel) (ew_a1 rfl ew_az) (Nat.le_of_ble_eq_true rfl) ?_
  refine ew_aload_n (pc := 0) dJ3_init_0 rfl ?_
  refine ew_bipush (pc := 1) (v := 16) dJ3_init_1 rfl ?_
  refine ew_cI1 (d' := 2) (pc := 3) iJ3_1 dJ3_init_3 (by decide) (ew_rm (Nat.le_of_ble_eq_true rfl)) ?_
  refine i2 _ (fun h' q1 q2 => ?_)
  refine ew_Kv ?_
  refine ew_vret (pc := 6) rfl dJ3_init_6 ?_
  exact hq h' q1 q2
theorem t_sbLen {q A : Nat} {tx : List Int32} (S : SB h q A tx) (hq : Q (.returned (some (.int (nI tx.length)))) h) : ew_T g kJ3_length 1 [.ref q] h Q := by
  obtain ⟨ml, cap, f, s1, s2, s3⟩ := S
  have l2 : ∀ Q : Outcome → eh → Prop, Q (.returned (some (.int (nI tx.length)))) h → ew_T g kJ2_length 0 [.ref q] h Q := by
    intro Q hq
    refine ew_enter (by decide +kernel) (ew_a1 rfl ew_az) (Nat.le_of_ble_eq_true rfl) ?_
    refine ew_aload_n (pc := 0) dJ2_length_0 rfl ?_
    refine ew_getf (pc := 1) fJ2_79 (rd_of s1) rfl dJ2_length_1 ?_
    refine ew_iret (pc := 4) rfl dJ2_length_4 ?_
    exact hq
  refine ew_enter (by decide +kernel) (ew_a1 rfl ew_az) (Nat.le_of_ble_eq_true rfl) ?_
  refine ew_aload_n (pc := 0) dJ3_length_0 rfl ?_
  refine ew_cP0 (d' := 0) (pc := 1) uJ3_343 rfl (rd_of s1) dJ3_length_1 (by decide) (ew_rm (Nat.le_of_ble_eq_true rfl)) ?_
  refine l2 _ ?_
  refine ew_Kr ?_
  refine ew_iret (pc := 4) rfl dJ3_length_4 ?_
  exact hq
theorem t_sbLat {q A : Nat} {tx : List Int32} (hg : gCS g) (S : SB h q A tx) (hq : Q (.returned (some (.int 1))) h) : ew_T g kJ2_isLatin1 0 [.ref q] h Q := by
  have hg1 : eg_s g "java/lang/String" "COMPACT_STRINGS" "Z" = some (.int 1) := hg
  obtain ⟨ml, cap, f, s1, s2, s3⟩ := S
  refine ew_enter (by decide +kernel) (ew_a1 rfl ew_az) (Nat.le_of_ble_eq_true rfl) ?_
  refine ew_gets (pc := 0) (C := "java/lang/String") (n := "COMPACT_STRINGS") (dd := "Z") (v := (.int 1)) hg1 (ew_q q212) (Or.inl rfl) dJ2_isLatin1_0 ?_
  refine ew_if_eq (pc := 3) (tgt := 17) dJ2_isLatin1_3 (by decide) (fun c3 => absurd c3 (by decide)) (fun c3 => ?_)
  refine ew_aload_n (pc := 6) dJ2_isLatin1_6 rfl ?_
  refine ew_getf (pc := 7) fJ2_22 (rd_of s1) rfl dJ2_isLatin1_7 ?_
  refine ew_if_ne (pc := 10) (tgt := 17) dJ2_isLatin1_10 (by decide) (fun c10 => absurd (by rfl) c10) (fun c10 => ?_)
  refine ew_iconst (pc := 13) (v := 1) dJ2_isLatin1_13 rfl ?_
  refine ew_goto (pc := 14) (tgt := 18) dJ2_isLatin1_14 (by decide) ?_
  refine ew_zret (pc := 18) (ty := .boolean) rfl rfl dJ2_isLatin1_18 ?_
  exact hq
/-- a byte array is copied into a longer one -/
theorem t_cpByte {E n N : Nat} {f : Nat → Int32} (hE : h.1 E = some (aB n f)) (hf : ∀ i, i < n → fits .byte (.int (f i)) = true) (hnN : n < N) (hN : N < 2 ^ 22)
    (hq : ∀ F : Nat → Int32, (∀ i, i < N → F i = if i < n then f i else 0) → Q (.returned (some (.ref h.2.1))) (eh_set (eh_new h (aB N (fun _ => 0)) N) h.2.1 (aB N F))) : ew_T g kJ17_copyOf 0 [.ref E, .int (nI N)] h Q := by
  have hmin : jmin (nI n) (nI N) = nI n := by
    unfold jmin
    rw [if_neg (nI_nlt (by omega) (by omega))]
  refine ew_enter (by decide +kernel) (ew_a1 rfl (ew_a1 rfl (ew_an ew_az))) (Nat.le_of_ble_eq_true rfl) ?_
  refine ew_ok (fun ho => ?_)
  have hEn := nn_1 (n := N) (e := aB N (fun _ => 0)) hE (by have := h_l ho hE; omega)
  have cl := nI_clamp (n := n) (by omega)
  refine ew_iload_n (pc := 0) dJ17_copyOf_0 rfl ?_
  refine ew_aload_n (pc := 1) dJ17_copyOf_1 rfl ?_
  refine ew_alen (pc := 2) (rd_of hE) rfl dJ17_copyOf_2 ?_
  refine ew_icmp_ne (pc := 3) (tgt := 14) dJ17_copyOf_3 (by decide) (fun c3 => ?_) (fun c3 => absurd c3 (fun h9 => by have := (nI_eq (by omega) (by omega)).mp h9; omega))
  refine ew_iload_n (pc := 14) dJ17_copyOf_14 rfl ?_
  refine ew_newB (pc := 15) (ew_q q200) (nI_pos (by omega)) (nI_clamp (by omega)) (by omega) dJ17_copyOf_15 ?_
  first | refine ew_astore_n (pc := 17) dJ17_copyOf_17 rfl (by decide) (p1_2 rfl) ?_ | refine ew_astore_nq (pc := 17) dJ17_copyOf_17 rfl (by decide) (p1_2 rfl) ?_ | refine ew_astore_nN (pc := 17) dJ17_copyOf_17 rfl (by decide) (p1_2 rfl) ?_
  refine ew_aload_n (pc := 18) dJ17_copyOf_18 rfl ?_
  refine ew_iconst (pc := 19) (v := 0) dJ17_copyOf_19 rfl ?_
  first | refine ew_aload_n (pc := 20) dJ17_copyOf_20 rfl ?_ | refine ew_aload_nq (pc := 20) dJ17_copyOf_20 rfl ?_ | refine ew_aload_nN (pc := 20) dJ17_copyOf_20 rfl ?_
  refine ew_iconst (pc := 21) (v := 0) dJ17_copyOf_21 rfl ?_
  refine ew_aload_n (pc := 22) dJ17_copyOf_22 rfl ?_
  refine ew_alen (pc := 23) (rd_of hEn) rfl dJ17_copyOf_23 ?_
  refine ew_iload_n (pc := 24) dJ17_copyOf_24 rfl ?_
  refine ew_mmin (pc := 25) (ew_q q595) (ew_q q596) (ew_q q141) (ew_q q597) (ew_rm (Nat.le_of_ble_eq_true rfl)) dJ17_copyOf_25 ?_
  rw [show Int32.ofNat n = nI n from rfl, hmin]
  refine ew_copyi (pc := 28) (ty := .byte) rfl rfl (ew_q q598) (ew_q q600) (ew_q q599) (ew_q q143) (rd_of hEn) (ne_1 _ _ _) (by decide) (by decide) (nI_pos (by omega)) (by rw [cl]; exact Nat.le_of_eq (Nat.zero_add n)) (by rw [cl]; exact Nat.le_trans (Nat.le_of_eq (Nat.zero_add n)) (Nat.le_of_lt hnN)) (fun i hi => by rw [show (0 : Int32).toNatClampNeg + i = i from Nat.zero_add i]; exact hf i (by rw [cl] at hi; exact hi)) (ew_rm (Nat.le_of_ble_eq_true rfl)) dJ17_copyOf_28 ?_
  first | refine ew_aload_n (pc := 31) dJ17_copyOf_31 rfl ?_ | refine ew_aload_nq (pc := 31) dJ17_copyOf_31 rfl ?_ | refine ew_aload_nN (pc := 31) dJ17_copyOf_31 rfl ?_
  refine ew_aret (pc := 32) rfl (Or.inr ⟨_, rfl⟩) (Or.inr ⟨_, rfl⟩) dJ17_copyOf_32 ?_
  refine hq _ (fun i hi => ?_)
  rw [cl, show (0 : Int32).toNatClampNeg = 0 from rfl]
  by_cases h9 : i < n
  · rw [if_pos h9, pk_cpy_in (Nat.zero_le _) (by omega), Nat.zero_add, Nat.sub_zero]
  · rw [if_neg h9, pk_cpy_out (Or.inr (by omega))]
theorem nI_sub0 {a b : Nat} (ha : a < 2 ^ 30) (hb : b < 2 ^ 30) : nI a - nI b ≤ 0 ↔ a ≤ b := by
  have h1 := nI_toInt (n := a) (by omega)
  have h2 := nI_toInt (n := b) (by omega)
  have h3 : (nI a - nI b).toInt = (a : Int) - b := by rw [i_sub (by omega) (by omega), h1, h2]
  rw [i_le, h3]
  show (a : Int) - b ≤ 0 ↔ _
  omega
/-- a new array's length -/
theorem t_sbCap {q A cap need : Nat} {ml c : Int32} {f : Nat → Int32} (h1 : h.1 q = some (ob 16 [.ref A, .int 0, .int ml, .int c])) (hA : h.1 A = some (aB cap f)) (hc : cap ≤ 1000) (hn : need ≤ 400) (hl : cap < need) (hq : ∀ N, need ≤ N → cap < N → N ≤ 1000 → Q (.returned (some (.int (nI N)))) h) : ew_T g kJ2_newCapacity 15 [.ref q, .int (nI need)] h Q := by
  refine ew_enter (by decide +kernel) (ew_a1 rfl (ew_a1 rfl (ew_an (ew_an (ew_an (ew_an ew_az)))))) (Nat.le_of_ble_eq_true rfl) ?_
  refine ew_aload_n (pc := 0) dJ2_newCapacity_0 rfl ?_
  refine ew_getf (pc := 1) fJ2_15 (rd_of h1) rfl dJ2_newCapacity_1 ?_
  refine ew_alen (pc := 4) (rd_of hA) rfl dJ2_newCapacity_4 ?_
  refine ew_istore_n (pc := 5) dJ2_newCapacity_5 rfl (by decide) (p1_2 rfl) ?_
  refine ew_iload_n (pc := 6) dJ2_newCapacity_6 rfl ?_
  refine ew_aload_n (pc := 7) dJ2_newCapacity_7 rfl ?_
  refine ew_getf (pc := 8) fJ2_22 (rd_of h1) rfl dJ2_newCapacity_8 ?_
  refine ew_ishl (pc := 11) dJ2_newCapacity_11 ?_
  rw [i_shl0]
  refine ew_istore_n (pc := 12) dJ2_newCapacity_12 rfl (by decide) (p1_3 rfl) ?_
  refine ew_iload_n (pc := 13) dJ2_newCapacity_13 rfl ?_
  refine ew_iload_n (pc := 14) dJ2_newCapacity_14 rfl ?_
  refine ew_isub (pc := 15) dJ2_newCapacity_15 ?_
  rw [show Int32.ofNat cap = nI cap from rfl, nI_sub (by omega)]
  refine ew_istore (pc := 16) dJ2_newCapacity_16 (by decide) (p1_4 rfl) ?_
  refine ew_iload_n (pc := 18) dJ2_newCapacity_18 rfl ?_
  refine ew_iload (pc := 19) dJ2_newCapacity_19 rfl ?_
  refine ew_iload_n (pc := 21) dJ2_newCapacity_21 rfl ?_
  refine ew_iconst (pc := 22) (v := 2) dJ2_newCapacity_22 rfl ?_
  refine ew_aload_n (pc := 23) dJ2_newCapacity_23 rfl ?_
  refine ew_getf (pc := 24) fJ2_22 (rd_of h1) rfl dJ2_newCapacity_24 ?_
  refine ew_ishl (pc := 27) dJ2_newCapacity_27 ?_
  rw [show (2 : Int32) <<< ((0 : Int32) &&& 31) = nI 2 by decide]
  refine ew_iadd (pc := 28) dJ2_newCapacity_28 ?_
  rw [nI_add]
  refine ew_cS3 (d' := 14) (pc := 29) sJ2_114 dJ2_newCapacity_29 (by decide) (ew_rm (Nat.le_of_ble_eq_true rfl)) ?_
  refine t_newLen (by omega) (by omega) (by omega) (by omega) (fun N hN => ?_)
  refine ew_Kr ?_
  refine ew_istore (pc := 32) dJ2_newCapacity_32 (by decide) (p1_5 rfl) ?_
  refine ew_iload (pc := 34) dJ2_newCapacity_34 rfl ?_
  refine ew_ldc (pc := 36) (v := 2147483647) (ew_q q584) dJ2_newCapacity_36 ?_
  refine ew_icmp_ne (pc := 38) (tgt := 51) dJ2_newCapacity_38 (by decide) (fun c38 => ?_) (fun c38 => absurd c38 (fun h9 => by have := (nI_eq (b := 2147483647) (by omega) (by decide)).mp h9; omega))
  refine ew_iload (pc := 51) dJ2_newCapacity_51 rfl ?_
  refine ew_aload_n (pc := 53) dJ2_newCapacity_53 rfl ?_
  refine ew_getf (pc := 54) fJ2_22 (rd_of h1) rfl dJ2_newCapacity_54 ?_
  refine ew_ishr (pc := 57) dJ2_newCapacity_57 ?_
  rw [i_sar0]
  refine ew_iret (pc := 58) rfl dJ2_newCapacity_58 ?_
  exact hq N (by omega) (by omega) (by omega)
/-- room is made -/
theorem t_sbEns {q A need : Nat} {tx : List Int32} (S : SB h q A tx) (hn : need ≤ 400) (hq : ∀ h' A' ml cap f, h'.1 q = some (ob 16 [.ref A', .int 0, .int ml, .int (nI tx.length)]) → h'.1 A' = some (aB cap f) → tx.length ≤ cap → need ≤ cap → 16 ≤ cap → cap ≤ 1000 → (∀ i x, tx[i]? = some x → f i = x) → (∀ i, i < cap → fits .byte (.int (f i)) = true) → (A' = A ∨ h.2.1 ≤ A') → Ke [q] 1 1000 h h' → Q (.returned none) h') : ew_T g kJ2_ensureCapacityInternal 16 [.ref q, .int (nI need)] h Q := by
  obtain ⟨ml, cap, f, s1, s2, s3, s4, s5, s6, s7, s8⟩ := S
  refine ew_enter (by decide +kernel) (ew_a1 rfl (ew_a1 rfl (ew_an ew_az))) (Nat.le_of_ble_eq_true rfl) ?_
  refine ew_ok (fun ho => ?_)
  have hql := h_l ho s1
  by_cases hc : need ≤ cap
  · skip
    refine ew_aload_n (pc := 0) dJ2_ensureCapacityInternal_0 rfl ?_
    refine ew_getf (pc := 1) fJ2_15 (rd_of s1) rfl dJ2_ensureCapacityInternal_1 ?_
    refine ew_alen (pc := 4) (rd_of s2) rfl dJ2_ensureCapacityInternal_4 ?_
    refine ew_aload_n (pc := 5) dJ2_ensureCapacityInternal_5 rfl ?_
    refine ew_getf (pc := 6) fJ2_22 (rd_of s1) rfl dJ2_ensureCapacityInternal_6 ?_
    refine ew_ishr (pc := 9) dJ2_ensureCapacityInternal_9 ?_
    rw [i_sar0]
    refine ew_istore_n (pc := 10) dJ2_ensureCapacityInternal_10 rfl (by decide) (p1_2 rfl) ?_
    refine ew_iload_n (pc := 11) dJ2_ensureCapacityInternal_11 rfl ?_
    refine ew_iload_n (pc := 12) dJ2_ensureCapacityInternal_12 rfl ?_
    refine ew_isub (pc := 13) dJ2_ensureCapacityInternal_13 ?_
    refine ew_if_le (pc := 14) (tgt := 38) dJ2_ensureCapacityInternal_14 (by decide) (fun c14 => ?_) (fun c14 => absurd ((nI_sub0 (by omega) (by omega)).mpr hc) c14)
    refine ew_vret (pc := 38) rfl dJ2_ensureCapacityInternal_38 ?_
    exact hq h A ml cap f s1 s2 s3 hc s4 s5 s6 s8 (Or.inl rfl) ((Ke.r _ _).w (fun b h9 _ => h9) (by decide) (by decide))
  · skip
    refine ew_aload_n (pc := 0) dJ2_ensureCapacityInternal_0 rfl ?_
    refine ew_getf (pc := 1) fJ2_15 (rd_of s1) rfl dJ2_ensureCapacityInternal_1 ?_
    refine ew_alen (pc := 4) (rd_of s2) rfl dJ2_ensureCapacityInternal_4 ?_
    refine ew_aload_n (pc := 5) dJ2_ensureCapacityInternal_5 rfl ?_
    refine ew_getf (pc := 6) fJ2_22 (rd_of s1) rfl dJ2_ensureCapacityInternal_6 ?_
    refine ew_ishr (pc := 9) dJ2_ensureCapacityInternal_9 ?_
    rw [i_sar0]
    refine ew_istore_n (pc := 10) dJ2_ensureCapacityInternal_10 rfl (by decide) (p1_2 rfl) ?_
    refine ew_iload_n (pc := 11) dJ2_ensureCapacityInternal_11 rfl ?_
    refine ew_iload_n (pc := 12) dJ2_ensureCapacityInternal_12 rfl ?_
    refine ew_isub (pc := 13) dJ2_ensureCapacityInternal_13 ?_
    refine ew_if_le (pc := 14) (tgt := 38) dJ2_ensureCapacityInternal_14 (by decide) (fun c14 => absurd c14 (fun h9 => hc ((nI_sub0 (by omega) (by omega)).mp h9))) (fun c14 => ?_)
    refine ew_aload_n (pc := 17) dJ2_ensureCapacityInternal_17 rfl ?_
    refine ew_aload_n (pc := 18) dJ2_ensureCapacityInternal_18 rfl ?_
    refine ew_getf (pc := 19) fJ2_15 (rd_of s1) rfl dJ2_ensureCapacityInternal_19 ?_
    refine ew_aload_n (pc := 22) dJ2_ensureCapacityInternal_22 rfl ?_
    refine ew_iload_n (pc := 23) dJ2_ensureCapacityInternal_23 rfl ?_
    refine ew_cW1 (d' := 15) (pc := 24) wJ2_104 (rd_of s1) dJ2_ensureCapacityInternal_24 (by decide) (ew_rm (Nat.le_of_ble_eq_true rfl)) ?_
    refine t_sbCap s1 s2 s5 hn (by omega) (fun N n1 n2 n3 => ?_)
    refine ew_Kr ?_
    refine ew_aload_n (pc := 27) dJ2_ensureCapacityInternal_27 rfl ?_
    refine ew_getf (pc := 28) fJ2_22 (rd_of s1) rfl dJ2_ensureCapacityInternal_28 ?_
    refine ew_ishl (pc := 31) dJ2_ensureCapacityInternal_31 ?_
    rw [i_shl0]
    refine ew_cS2 (d' := 0) (pc := 32) sJ2_108 dJ2_ensureCapacityInternal_32 (by decide) (ew_rm (Nat.le_of_ble_eq_true rfl)) ?_
    refine t_cpByte s2 s8 n2 (by omega) (fun F hF => ?_)
    have j1 : (eh_set (eh_new h (aB N (fun _ => 0)) N) h.2.1 (aB N F)).1 q = some (ob 16 [.ref A, .int 0, .int ml, .int (nI tx.length)]) := sn_1 (nn_1 s1 (by omega)) (by omega)
    refine ew_Kr ?_
    refine ew_putf (pc := 35) pJ2_15 j1 st_0 (Nat.le_of_ble_eq_true rfl) rfl rfl (fun h9 => absurd h9 Bool.false_ne_true) dJ2_ensureCapacityInternal_35 ?_
    refine ew_vret (pc := 38) rfl dJ2_ensureCapacityInternal_38 ?_
    refine hq _ h.2.1 ml N F (se_1 _ _ _) (sn_1 (se_1 _ _ _) (by omega)) (by omega) n1 (by omega) n3 (fun i x hx => ?_) (fun i hi => ?_) (Or.inr (Nat.le_refl _)) ?_
    · have hi : i < tx.length := (List.getElem?_eq_some_iff.mp hx).1
      rw [hF i (by omega), if_pos (by omega)]
      exact s6 i x hx
    · rw [hF i hi]
      by_cases h9 : i < cap
      · rw [if_pos h9]; exact s8 i h9
      · rw [if_neg h9]; rfl
    · refine (Ke.new.t Ke.set (A := []) (c := 1) (s := N) (fun a h9 => absurd h9 (List.not_mem_nil)) (fun a h9 h8 => ?_) (by decide) (by omega)).t Ke.set (fun a h9 => absurd h9 (List.not_mem_nil)) (fun a h9 _ => h9) (by decide) (by omega)
      rw [List.mem_singleton.mp h9] at h8
      omega
theorem byte_ok : ∀ c : Fin 128, fits .byte (.int (nI c.val)) = true ∧ vp_nar .byte (nI c.val).toInt8.toInt32 = nI c.val ∧ vp_nar .byte (nI c.val) = nI c.val ∧ nI c.val ≤ 255 := by decide
theorem wb_c {c : Nat} (h : c < 128) : wb (nI c) = nI c := (byte_ok ⟨c, h⟩).2.1
/-- what every append leaves -/
def SBq (h : eh) (q A : Nat) (tx : List Int32) (h' : eh) : Prop := ∃ A', SB h' q A' tx ∧ (A' = A ∨ h.2.1 ≤ A') ∧ Ke [q, A] 1 1000 h h'
theorem t_sbAppC {q A c : Nat} {tx : List Int32} (hg : gCS g) (S : SB h q A tx) (hc : c < 128) (hl : tx.length < 400) (hq : ∀ h', SBq h q A (tx ++ [nI c]) h' → Q (.returned (some (.ref q))) h') : ew_T g kJ3_append 18 [.ref q, .int (nI c)] h Q := by
  have bo := byte_ok ⟨c, hc⟩
  simp only at bo
  obtain ⟨fs, hqo⟩ := S.o
  have a2 : ∀ Q : Outcome → eh → Prop, (∀ h' fs, h'.1 q = some (ob 16 fs) → SBq h q A (tx ++ [nI c]) h' → Q (.returned (some (.ref q))) h') → ew_T g kJ2_append 17 [.ref q, .int (nI c)] h Q := by
    intro Q hq
    have ce : ∀ (h2 : eh) (Q : Outcome → eh → Prop), Q (.returned (some (.int 1))) h2 → ew_T g kJ18_canEncode 0 [.int (nI c)] h2 Q := by
      intro h2 Q hq
      refine ew_enter (by decide +kernel) (ew_a1 rfl ew_az) (Nat.le_of_ble_eq_true rfl) ?_
      refine ew_iload_n (pc := 0) dJ18_canEncode_0 rfl ?_
      refine ew_sipush (pc := 1) (v := 255) dJ18_canEncode_1 rfl ?_
      refine ew_icmp_gt (pc := 4) (tgt := 11) dJ18_canEncode_4 (by decide) (fun c4 => absurd c4 (Int32.not_lt.mpr bo.2.2.2)) (fun c4 => ?_)
      refine ew_iconst (pc := 7) (v := 1) dJ18_canEncode_7 rfl ?_
      refine ew_goto (pc := 8) (tgt := 12) dJ18_canEncode_8 (by decide) ?_
      refine ew_zret (pc := 12) (ty := .boolean) rfl rfl dJ18_canEncode_12 ?_
      exact hq
    have hln := S
    obtain ⟨ml0, cap0, f0, s1, -⟩ := hln
    refine ew_enter (by decide +kernel) (ew_a1 rfl (ew_a1 rfl ew_az)) (Nat.le_of_ble_eq_true rfl) ?_
    refine ew_ok (fun ho => ?_)
    have hql := h_l ho s1
    refine ew_aload_n (pc := 0) dJ2_append_0 rfl ?_
    refine ew_aload_n (pc := 1) dJ2_append_1 rfl ?_
    refine ew_getf (pc := 2) fJ2_79 (rd_of s1) rfl dJ2_append_2 ?_
    refine ew_iconst (pc := 5) (v := 1) dJ2_append_5 rfl ?_
    refine ew_iadd (pc := 6) dJ2_append_6 ?_
    rw [show nI tx.length + 1 = nI (tx.length + 1) from nI_1 _]
    refine ew_cW1 (d' := 16) (pc := 7) wJ2_100 (rd_of s1) dJ2_append_7 (by decide) (ew_rm (Nat.le_of_ble_eq_true rfl)) ?_
    refine t_sbEns S (by omega) (fun h2 A2 ml cap f e1 e2 e3 e4 e5 e6 e7 e8 e9 k1 => ?_)
    have S2 : SB h2 q A2 tx := ⟨ml, cap, f, e1, e2, e3, e5, e6, e7, by obtain ⟨_, _, _, _, _, _, _, _, _, x, _⟩ := S; exact x, e8⟩
    have hqA : q ≠ A2 := fun e => by
      rw [e, e2] at e1
      cases e1
    have j1 := se_1 h2 q (ob 16 [.ref A2, .int 0, .int ml, .int (nI (tx.length + 1))])
    have j2 := sn_1 (e := ob 16 [.ref A2, .int 0, .int ml, .int (nI (tx.length + 1))]) e2 hqA.symm
    refine ew_Kv ?_
    refine ew_aload_n (pc := 10) dJ2_append_10 rfl ?_
    refine ew_cU0 (d' := 0) (pc := 11) vJ2_83 (rd_of e1) dJ2_append_11 (by decide) (ew_rm (Nat.le_of_ble_eq_true rfl)) ?_
    refine t_sbLat hg S2 ?_
    refine ew_Kr ?_
    refine ew_if_eq (pc := 14) (tgt := 45) dJ2_append_14 (by decide) (fun c14 => absurd c14 (by decide)) (fun c14 => ?_)
    refine ew_iload_n (pc := 17) dJ2_append_17 rfl ?_
    refine ew_cS1 (d' := 0) (pc := 18) sJ2_191 dJ2_append_18 (by decide) (ew_rm (Nat.le_of_ble_eq_true rfl)) ?_
    refine ce _ _ ?_
    refine ew_Kr ?_
    refine ew_if_eq (pc := 21) (tgt := 45) dJ2_append_21 (by decide) (fun c21 => absurd c21 (by decide)) (fun c21 => ?_)
    refine ew_aload_n (pc := 24) dJ2_append_24 rfl ?_
    refine ew_getf (pc := 25) fJ2_15 (rd_of e1) rfl dJ2_append_25 ?_
    refine ew_aload_n (pc := 28) dJ2_append_28 rfl ?_
    refine ew_dup (pc := 29) dJ2_append_29 rfl ?_
    refine ew_getf (pc := 30) fJ2_79 (rd_of e1) rfl dJ2_append_30 ?_
    refine ew_dup_x1 (pc := 33) dJ2_append_33 rfl rfl ?_
    refine ew_iconst (pc := 34) (v := 1) dJ2_append_34 rfl ?_
    refine ew_iadd (pc := 35) dJ2_append_35 ?_
    rw [show nI tx.length + 1 = nI (tx.length + 1) from nI_1 _]
    refine ew_putf (pc := 36) pJ2_79 e1 st_3 (Nat.le_of_ble_eq_true rfl) rfl rfl (fun h9 => absurd h9 Bool.false_ne_true) dJ2_append_36 ?_
    refine ew_iload_n (pc := 39) dJ2_append_39 rfl ?_
    refine ew_i2b (pc := 40) dJ2_append_40 rfl ?_
    refine ew_baS (pc := 41) j2 (j := tx.length) rfl (by omega) (by omega) dJ2_append_41 ?_
    refine ew_goto (pc := 42) (tgt := 75) dJ2_append_42 (by decide) ?_
    refine ew_aload_n (pc := 75) dJ2_append_75 rfl ?_
    refine ew_aret (pc := 76) rfl (Or.inl ⟨_, rfl⟩) (Or.inr ⟨_, rfl⟩) dJ2_append_76 ?_
    refine hq _ _ (sn_1 j1 hqA) ⟨A2, ⟨ml, cap, _, ?_, se_1 _ _ _, ?_, e5, e6, fun i x hx => ?_, ?_, fun i hi => ?_⟩, e9, ?_⟩
    · rw [List.length_append, List.length_singleton]; exact sn_1 j1 hqA
    · rw [List.length_append, List.length_singleton]; exact e4
    · show (if i = tx.length then _ else f i) = x
      by_cases h9 : i = tx.length
      · rw [if_pos h9]
        rw [h9, List.getElem?_append_right (Nat.le_refl _), Nat.sub_self] at hx
        cases hx
        exact bo.2.1
      · rw [if_neg h9]
        have hi : i < (tx ++ [nI c]).length := (List.getElem?_eq_some_iff.mp hx).1
        rw [List.length_append, List.length_singleton] at hi
        rw [List.getElem?_append_left (by omega)] at hx
        exact e7 i x hx
    · obtain ⟨_, _, _, _, _, _, _, _, _, ok1, _⟩ := S2
      exact ok1.app (tOk.one hc)
    · show fits .byte (.int (if i = tx.length then _ else f i)) = true
      by_cases h9 : i = tx.length
      · rw [if_pos h9]
        show fits .byte (.int (vp_nar .byte (nI c).toInt8.toInt32)) = true
        rw [bo.2.1]
        exact bo.1
      · rw [if_neg h9]
        exact e8 i hi
    · refine (k1.t Ke.set (A := [q]) (c := 1) (s := 1000) (fun b h9 _ => h9) (fun b h9 _ => h9) (by decide) (by decide)).t Ke.set (fun b h9 _ => by rw [List.mem_singleton.mp h9]; exact List.mem_cons_self) (fun b h9 h8 => ?_) (by decide) (by decide)
      rw [List.mem_singleton.mp h9] at h8 ⊢
      rcases e9 with e | e
      · rw [e]; simp
      · omega
  refine ew_enter (by decide +kernel) (ew_a1 rfl (ew_a1 rfl ew_az)) (Nat.le_of_ble_eq_true rfl) ?_
  refine ew_aload_n (pc := 0) dJ3_append_0 rfl ?_
  refine ew_iload_n (pc := 1) dJ3_append_1 rfl ?_
  refine ew_cP1 (d' := 17) (pc := 2) uJ3_50 rfl (rd_of hqo) dJ3_append_2 (by decide) (ew_rm (Nat.le_of_ble_eq_true rfl)) ?_
  refine a2 _ (fun h' fs q1 q2 => ?_)
  refine ew_Kr ?_
  refine ew_pop (pc := 5) dJ3_append_5 rfl ?_
  refine ew_aload_n (pc := 6) dJ3_append_6 rfl ?_
  refine ew_aret (pc := 7) rfl (Or.inl ⟨_, rfl⟩) (Or.inr ⟨_, rfl⟩) dJ3_append_7 ?_
  exact hq h' q2
end
