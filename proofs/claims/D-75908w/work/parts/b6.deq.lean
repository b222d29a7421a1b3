/-! EW: the nets that are kept: a deque of seventeen places -/
set_option maxRecDepth 100000
theorem eh_sid {h : eh} {a : Nat} {e : ac} (h1 : h.1 a = some e) : eh_set h a e = h := by
  obtain ⟨x, y, z⟩ := h
  unfold eh_set
  have e1 : (fun q => if q = a then some e else x q) = x := funext (fun q => by
    by_cases e2 : q = a
    · rw [if_pos e2, e2]
      exact h1.symm
    · rw [if_neg e2])
  exact congrArg (fun f => (f, y, z)) e1
theorem sub17 : ∀ a b : Fin 17, (0 ≤ nI a.val - nI b.val → nI a.val - nI b.val = nI ((a.val + 17 - b.val) % 17)) ∧ (¬ 0 ≤ nI a.val - nI b.val → nI a.val - nI b.val + 17 = nI ((a.val + 17 - b.val) % 17)) := by decide
theorem inc17 : ∀ a : Fin 17, (nI (a.val + 1) < 17 → nI (a.val + 1) = nI ((a.val + 1) % 17)) ∧ (¬ nI (a.val + 1) < 17 → 0 = nI ((a.val + 1) % 17)) := by decide
theorem dec17 : ∀ a : Fin 17, (0 ≤ nI a.val + Int32.ofInt (-1) → nI a.val + Int32.ofInt (-1) = nI ((a.val + 16) % 17)) ∧ (¬ 0 ≤ nI a.val + Int32.ofInt (-1) → (17 : Int32) - 1 = nI ((a.val + 16) % 17)) := by decide
/-- a deque at q, its array A, its head, what it holds -/
def DQ (h : eh) (q A hd : Nat) (xs : List Nat) : Prop := ∃ f, h.1 q = some (ob 15 [.ref A, .int (nI hd), .int (nI ((hd + xs.length) % 17))]) ∧ h.1 A = some (aR 5 17 f) ∧ hd < 17 ∧ xs.length ≤ 8 ∧ ∀ j, j < 17 → f ((hd + j) % 17) = xs[j]?
section
variable {g : eg} {h : eh} {Q : Outcome → eh → Prop}
theorem DQ.ke {q A hd c s : Nat} {B xs : List Nat} {h' : eh} (D : DQ h q A hd xs) (k : Ke B c s h h') (ho : eh_ok g h) (h1 : q ∉ B) (h2 : A ∉ B) : DQ h' q A hd xs := by
  obtain ⟨f, d1, d2, d3⟩ := D
  exact ⟨f, k.h ho d1 h1, k.h ho d2 h2, d3⟩
theorem t_dqSub {a b : Nat} (ha : a < 17) (hb : b < 17) (hq : Q (.returned (some (.int (nI ((a + 17 - b) % 17))))) h) : ew_T g kJ1_sub 0 [.int (nI a), .int (nI b), .int 17] h Q := by
  have e9 := sub17 ⟨a, ha⟩ ⟨b, hb⟩
  simp only at e9
  refine ew_enter (by decide +kernel) (ew_a1 rfl (ew_a1 rfl (ew_a1 rfl ew_az))) (Nat.le_of_ble_eq_true rfl) ?_
  refine ew_iload_n (pc := 0) dJ1_sub_0 rfl ?_
  refine ew_iload_n (pc := 1) dJ1_sub_1 rfl ?_
  refine ew_isub (pc := 2) dJ1_sub_2 ?_
  refine ew_dup (pc := 3) dJ1_sub_3 rfl ?_
  refine ew_istore_n (pc := 4) dJ1_sub_4 rfl (by decide) (p1_0) ?_
  refine ew_if_ge (pc := 5) (tgt := 12) dJ1_sub_5 (by decide) (fun c5 => ?_) (fun c5 => ?_)
  · refine ew_iload_n (pc := 12) dJ1_sub_12 rfl ?_
    refine ew_iret (pc := 13) rfl dJ1_sub_13 ?_
    first
    | rw [e9.1 c5]
      exact hq
    | rw [e9.2 c5]
      exact hq
  · refine ew_iload_n (pc := 8) dJ1_sub_8 rfl ?_
    refine ew_iload_n (pc := 9) dJ1_sub_9 rfl ?_
    refine ew_iadd (pc := 10) dJ1_sub_10 ?_
    refine ew_istore_n (pc := 11) dJ1_sub_11 rfl (by decide) (p1_0) ?_
    refine ew_iload_n (pc := 12) dJ1_sub_12 rfl ?_
    refine ew_iret (pc := 13) rfl dJ1_sub_13 ?_
    first
    | rw [e9.1 c5]
      exact hq
    | rw [e9.2 c5]
      exact hq
theorem t_dqInc {a : Nat} (ha : a < 17) (hq : Q (.returned (some (.int (nI ((a + 1) % 17))))) h) : ew_T g kJ1_inc 0 [.int (nI a), .int 17] h Q := by
  have e9 := inc17 ⟨a, ha⟩
  simp only at e9
  refine ew_enter (by decide +kernel) (ew_a1 rfl (ew_a1 rfl ew_az)) (Nat.le_of_ble_eq_true rfl) ?_
  refine ew_iinc (pc := 0) dJ1_inc_0 rfl (nI_inc a) (by decide) (p1_0) ?_
  refine ew_iload_n (pc := 3) dJ1_inc_3 rfl ?_
  refine ew_iload_n (pc := 4) dJ1_inc_4 rfl ?_
  refine ew_icmp_lt (pc := 5) (tgt := 10) dJ1_inc_5 (by decide) (fun c5 => ?_) (fun c5 => ?_)
  · refine ew_iload_n (pc := 10) dJ1_inc_10 rfl ?_
    refine ew_iret (pc := 11) rfl dJ1_inc_11 ?_
    first
    | rw [e9.1 c5]
      exact hq
    | rw [← e9.2 c5] at hq
      exact hq
  · refine ew_iconst (pc := 8) (v := 0) dJ1_inc_8 rfl ?_
    refine ew_istore_n (pc := 9) dJ1_inc_9 rfl (by decide) (p1_0) ?_
    refine ew_iload_n (pc := 10) dJ1_inc_10 rfl ?_
    refine ew_iret (pc := 11) rfl dJ1_inc_11 ?_
    first
    | rw [e9.1 c5]
      exact hq
    | rw [← e9.2 c5] at hq
      exact hq
theorem t_dqDec {a : Nat} (ha : a < 17) (hq : Q (.returned (some (.int (nI ((a + 16) % 17))))) h) : ew_T g kJ1_dec 0 [.int (nI a), .int 17] h Q := by
  have e9 := dec17 ⟨a, ha⟩
  simp only at e9
  refine ew_enter (by decide +kernel) (ew_a1 rfl (ew_a1 rfl ew_az)) (Nat.le_of_ble_eq_true rfl) ?_
  refine ew_iinc (pc := 0) dJ1_dec_0 rfl rfl (by decide) (p1_0) ?_
  refine ew_iload_n (pc := 3) dJ1_dec_3 rfl ?_
  refine ew_if_ge (pc := 4) (tgt := 11) dJ1_dec_4 (by decide) (fun c4 => ?_) (fun c4 => ?_)
  · refine ew_iload_n (pc := 11) dJ1_dec_11 rfl ?_
    refine ew_iret (pc := 12) rfl dJ1_dec_12 ?_
    first
    | rw [e9.1 c4]
      exact hq
    | rw [e9.2 c4]
      exact hq
  · refine ew_iload_n (pc := 7) dJ1_dec_7 rfl ?_
    refine ew_iconst (pc := 8) (v := 1) dJ1_dec_8 rfl ?_
    refine ew_isub (pc := 9) dJ1_dec_9 ?_
    refine ew_istore_n (pc := 10) dJ1_dec_10 rfl (by decide) (p1_0) ?_
    refine ew_iload_n (pc := 11) dJ1_dec_11 rfl ?_
    refine ew_iret (pc := 12) rfl dJ1_dec_12 ?_
    first
    | rw [e9.1 c4]
      exact hq
    | rw [e9.2 c4]
      exact hq
theorem t_dqAt {A j : Nat} {f : Nat → Option Nat} {x : Nat} (hA : h.1 A = some (aR 5 17 f)) (hj : j < 17) (hf : f j = some x) (hq : Q (.returned (some (.ref x))) h) : ew_T g kJ1_elementAt 0 [.ref A, .int (nI j)] h Q := by
  refine ew_enter (by decide +kernel) (ew_a1 rfl (ew_a1 rfl ew_az)) (Nat.le_of_ble_eq_true rfl) ?_
  refine ew_aload_n (pc := 0) dJ1_elementAt_0 rfl ?_
  refine ew_iload_n (pc := 1) dJ1_elementAt_1 rfl ?_
  refine ew_aaJ (pc := 2) rfl (rd_of hA) (j := j) rfl hj (by decide) dJ1_elementAt_2 ?_
  rw [hf]
  refine ew_aret (pc := 3) rfl (Or.inl ⟨_, rfl⟩) (Or.inr ⟨_, rfl⟩) dJ1_elementAt_3 ?_
  exact hq
theorem t_dqInit {q : Nat} (h1 : h.1 q = some (ob 15 [.null, .int 0, .int 0])) (hq : ∀ h', DQ h' q h.2.1 0 [] → Ke [q] 1 17 h h' → Q (.returned none) h') : ew_T g kJ1_init 2 [.ref q] h Q := by
  have i0 : ∀ Q : Outcome → eh → Prop, Q (.returned none) h → ew_T g kJ0_init 1 [.ref q] h Q := by
    intro Q hq
    refine ew_enter (by decide +kernel) (ew_a1 rfl ew_az) (Nat.le_of_ble_eq_true rfl) ?_
    refine ew_aload_n (pc := 0) dJ0_init_0 rfl ?_
    refine ew_obj (pc := 1) (ew_q q187) (ew_q q177) (ew_q q178) (ew_rm (Nat.le_of_ble_eq_true rfl)) dJ0_init_1 ?_
    refine ew_vret (pc := 4) rfl dJ0_init_4 ?_
    exact hq
  refine ew_enter (by decide +kernel) (ew_a1 rfl ew_az) (Nat.le_of_ble_eq_true rfl) ?_
  refine ew_ok (fun ho => ?_)
  have hql := h_l ho h1
  have j1 := nn_1 (e := aR 5 17 (fun _ => none)) (n := 17) h1 (by omega)
  refine ew_aload_n (pc := 0) dJ1_init_0 rfl ?_
  refine ew_cI0 (d' := 1) (pc := 1) iJ1_42 dJ1_init_1 (by decide) (ew_rm (Nat.le_of_ble_eq_true rfl)) ?_
  refine i0 _ ?_
  refine ew_Kv ?_
  refine ew_aload_n (pc := 4) dJ1_init_4 rfl ?_
  refine ew_bipush (pc := 5) (v := 17) dJ1_init_5 rfl ?_
  refine ew_newR (t := 5) (pc := 7) rfl (ew_q q188) (ew_qt q189 rfl) (by decide) rfl (Nat.le_of_ble_eq_true rfl) dJ1_init_7 ?_
  refine ew_putf (pc := 10) pJ1_3 j1 st_0 (Nat.le_of_ble_eq_true rfl) rfl rfl (fun h9 => absurd h9 Bool.false_ne_true) dJ1_init_10 ?_
  refine ew_vret (pc := 13) rfl dJ1_init_13 ?_
  refine hq _ ⟨fun _ => none, se_1 _ _ _, sn_1 (ne_1 _ _ _) (by omega), by decide, by decide, fun j _ => rfl⟩ (Ke.new.t Ke.set (fun a h9 => absurd h9 List.not_mem_nil) (fun a h9 _ => h9) (by decide) (by decide))
theorem t_dqSize {q A hd : Nat} {xs : List Nat} (D : DQ h q A hd xs) (hq : Q (.returned (some (.int (nI xs.length)))) h) : ew_T g kJ1_size 1 [.ref q] h Q := by
  obtain ⟨f, d1, d2, d3, d4, d5⟩ := D
  refine ew_enter (by decide +kernel) (ew_a1 rfl ew_az) (Nat.le_of_ble_eq_true rfl) ?_
  refine ew_aload_n (pc := 0) dJ1_size_0 rfl ?_
  refine ew_getf (pc := 1) fJ1_20 (rd_of d1) rfl dJ1_size_1 ?_
  refine ew_aload_n (pc := 4) dJ1_size_4 rfl ?_
  refine ew_getf (pc := 5) fJ1_24 (rd_of d1) rfl dJ1_size_5 ?_
  refine ew_aload_n (pc := 8) dJ1_size_8 rfl ?_
  refine ew_getf (pc := 9) fJ1_3 (rd_of d1) rfl dJ1_size_9 ?_
  refine ew_alen (pc := 12) (rd_of d2) rfl dJ1_size_12 ?_
  refine ew_cS3 (d' := 0) (pc := 13) sJ1_127 dJ1_size_13 (by decide) (ew_rm (Nat.le_of_ble_eq_true rfl)) ?_
  refine t_dqSub (by omega) d3 ?_
  rw [show ((hd + xs.length) % 17 + 17 - hd) % 17 = xs.length by omega]
  refine ew_Kr ?_
  refine ew_iret (pc := 16) rfl dJ1_size_16 ?_
  exact hq
theorem t_dqEmpty {q A hd : Nat} {xs : List Nat} (D : DQ h q A hd xs) (hq : Q (.returned (some (.int (bI (xs = []))))) h) : ew_T g kJ1_isEmpty 0 [.ref q] h Q := by
  obtain ⟨f, d1, d2, d3, d4, d5⟩ := D
  have hz : nI hd = nI ((hd + xs.length) % 17) ↔ xs = [] := by
    rw [nI_eq (by omega) (by omega), ← List.length_eq_zero_iff]
    omega
  refine ew_enter (by decide +kernel) (ew_a1 rfl ew_az) (Nat.le_of_ble_eq_true rfl) ?_
  refine ew_aload_n (pc := 0) dJ1_isEmpty_0 rfl ?_
  refine ew_getf (pc := 1) fJ1_24 (rd_of d1) rfl dJ1_isEmpty_1 ?_
  refine ew_aload_n (pc := 4) dJ1_isEmpty_4 rfl ?_
  refine ew_getf (pc := 5) fJ1_20 (rd_of d1) rfl dJ1_isEmpty_5 ?_
  refine ew_icmp_ne (pc := 8) (tgt := 15) dJ1_isEmpty_8 (by decide) (fun c8 => ?_) (fun c8 => ?_)
  · refine ew_iconst (pc := 15) (v := 0) dJ1_isEmpty_15 rfl ?_
    refine ew_zret (pc := 16) (ty := .boolean) rfl rfl dJ1_isEmpty_16 ?_
    first
    | rw [bI_t (hz.mp c8)] at hq
      exact hq
    | rw [bI_f (fun h9 => c8 (hz.mpr h9))] at hq
      exact hq
  · refine ew_iconst (pc := 11) (v := 1) dJ1_isEmpty_11 rfl ?_
    refine ew_goto (pc := 12) (tgt := 16) dJ1_isEmpty_12 (by decide) ?_
    refine ew_zret (pc := 16) (ty := .boolean) rfl rfl dJ1_isEmpty_16 ?_
    first
    | rw [bI_t (hz.mp c8)] at hq
      exact hq
    | rw [bI_f (fun h9 => c8 (hz.mpr h9))] at hq
      exact hq
theorem t_dqRemF {q A hd x : Nat} {xs : List Nat} (D : DQ h q A hd (x :: xs)) (hx : ∃ fs, rd g h x = some (ob 5 fs)) (hq : ∀ h', DQ h' q A ((hd + 1) % 17) xs → Ke [q, A] 0 0 h h' → Q (.returned (some (.ref x))) h') : ew_T g kJ1_removeFirst 2 [.ref q] h Q := by
  obtain ⟨f, d1, d2, d3, d4, d5⟩ := D
  obtain ⟨fs, hx⟩ := hx
  rw [List.length_cons] at d4
  have hqA : q ≠ A := fun e => by
    rw [e, d2] at d1
    cases d1
  have f0 : f hd = some x := by
    have h9 := d5 0 (by decide)
    rw [Nat.add_zero, Nat.mod_eq_of_lt d3] at h9
    exact h9
  have p : ∀ Q : Outcome → eh → Prop, (∀ h', DQ h' q A ((hd + 1) % 17) xs → Ke [q, A] 0 0 h h' → rd g h' x = some (ob 5 fs) → Q (.returned (some (.ref x))) h') → ew_T g kJ1_pollFirst 1 [.ref q] h Q := by
    intro Q hq
    have d1' := sn_1 (e := aR 5 17 (va_up f hd none)) d1 hqA
    have hxA : x ≠ A := fun e => by
      rw [e, rd_of d2] at hx
      cases hx
    have hxq : x ≠ q := fun e => by
      rw [e, rd_of d1] at hx
      cases hx
    have d2' := se_1 h A (aR 5 17 (va_up f hd none))
    refine ew_enter (by decide +kernel) (ew_a1 rfl (ew_an (ew_an (ew_an ew_az)))) (Nat.le_of_ble_eq_true rfl) ?_
    refine ew_aload_n (pc := 0) dJ1_pollFirst_0 rfl ?_
    refine ew_getf (pc := 1) fJ1_3 (rd_of d1) rfl dJ1_pollFirst_1 ?_
    refine ew_dup (pc := 4) dJ1_pollFirst_4 rfl ?_
    first | refine ew_astore_n (pc := 5) dJ1_pollFirst_5 rfl (by decide) (p1_1 rfl) ?_ | refine ew_astore_nq (pc := 5) dJ1_pollFirst_5 rfl (by decide) (p1_1 rfl) ?_ | refine ew_astore_nN (pc := 5) dJ1_pollFirst_5 rfl (by decide) (p1_1 rfl) ?_
    refine ew_aload_n (pc := 6) dJ1_pollFirst_6 rfl ?_
    refine ew_getf (pc := 7) fJ1_24 (rd_of d1) rfl dJ1_pollFirst_7 ?_
    refine ew_dup (pc := 10) dJ1_pollFirst_10 rfl ?_
    refine ew_istore_n (pc := 11) dJ1_pollFirst_11 rfl (by decide) (p1_2 rfl) ?_
    refine ew_cS2 (d' := 0) (pc := 12) sJ1_103 dJ1_pollFirst_12 (by decide) (ew_rm (Nat.le_of_ble_eq_true rfl)) ?_
    refine t_dqAt d2 d3 f0 ?_
    refine ew_Kr ?_
    first | refine ew_astore_n (pc := 15) dJ1_pollFirst_15 rfl (by decide) (p1_3 rfl) ?_ | refine ew_astore_nq (pc := 15) dJ1_pollFirst_15 rfl (by decide) (p1_3 rfl) ?_ | refine ew_astore_nN (pc := 15) dJ1_pollFirst_15 rfl (by decide) (p1_3 rfl) ?_
    refine ew_aload_n (pc := 16) dJ1_pollFirst_16 rfl ?_
    refine ew_ifnull (pc := 17) dJ1_pollFirst_17 ?_
    refine ew_aload_n (pc := 20) dJ1_pollFirst_20 rfl ?_
    refine ew_iload_n (pc := 21) dJ1_pollFirst_21 rfl ?_
    refine ew_null (pc := 22) dJ1_pollFirst_22 ?_
    refine ew_aaN (pc := 23) rfl d2  (j := hd) rfl d3 (by decide) dJ1_pollFirst_23 ?_
    refine ew_aload_n (pc := 24) dJ1_pollFirst_24 rfl ?_
    refine ew_iload_n (pc := 25) dJ1_pollFirst_25 rfl ?_
    refine ew_aload_n (pc := 26) dJ1_pollFirst_26 rfl ?_
    refine ew_alen (pc := 27) (rd_of d2') rfl dJ1_pollFirst_27 ?_
    refine ew_cS2 (d' := 0) (pc := 28) sJ1_74 dJ1_pollFirst_28 (by decide) (ew_rm (Nat.le_of_ble_eq_true rfl)) ?_
    refine t_dqInc d3 ?_
    refine ew_Kr ?_
    refine ew_putf (pc := 31) pJ1_24 d1' st_1 (Nat.le_of_ble_eq_true rfl) rfl rfl (fun h9 => absurd h9 Bool.false_ne_true) dJ1_pollFirst_31 ?_
    refine ew_aload_n (pc := 34) dJ1_pollFirst_34 rfl ?_
    refine ew_aret (pc := 35) rfl (Or.inl ⟨_, rfl⟩) (Or.inr ⟨_, rfl⟩) dJ1_pollFirst_35 ?_
    refine hq _ ⟨va_up f hd none, ?_, sn_1 d2' hqA.symm, Nat.mod_lt _ (by decide), by omega, fun j hj => ?_⟩ (Ke.set.t Ke.set (fun b h9 _ => by rw [List.mem_singleton.mp h9]; simp) (fun b h9 _ => by rw [List.mem_singleton.mp h9]; simp) (by decide) (by decide)) (rd_sn (rd_sn hx hxA) hxq)
    · have e9 : (hd + (x :: xs).length) % 17 = ((hd + 1) % 17 + xs.length) % 17 := by
        rw [List.length_cons]
        omega
      rw [← e9]
      exact se_1 _ _ _
    · have h9 := d5 ((j + 1) % 17) (Nat.mod_lt _ (by decide))
      have e9 : (hd + (j + 1) % 17) % 17 = ((hd + 1) % 17 + j) % 17 := by omega
      rw [e9] at h9
      show (if ((hd + 1) % 17 + j) % 17 = hd then none else f (((hd + 1) % 17 + j) % 17)) = xs[j]?
      by_cases e8 : j = 16
      · rw [if_pos (by omega), List.getElem?_eq_none (by omega)]
      · rw [if_neg (by omega), h9, Nat.mod_eq_of_lt (by omega), List.getElem?_cons_succ]
  refine ew_enter (by decide +kernel) (ew_a1 rfl (ew_an ew_az)) (Nat.le_of_ble_eq_true rfl) ?_
  refine ew_aload_n (pc := 0) dJ1_removeFirst_0 rfl ?_
  refine ew_cV0 (d' := 1) (pc := 1) vJ1_93 (rd_of d1) dJ1_removeFirst_1 (by decide) (ew_rm (Nat.le_of_ble_eq_true rfl)) ?_
  refine p _ (fun h' q1 q2 q3 => ?_)
  refine ew_Kr ?_
  first | refine ew_astore_n (pc := 4) dJ1_removeFirst_4 rfl (by decide) (p1_1 rfl) ?_ | refine ew_astore_nq (pc := 4) dJ1_removeFirst_4 rfl (by decide) (p1_1 rfl) ?_ | refine ew_astore_nN (pc := 4) dJ1_removeFirst_4 rfl (by decide) (p1_1 rfl) ?_
  refine ew_aload_n (pc := 5) dJ1_removeFirst_5 rfl ?_
  refine ew_ifnonnull (pc := 6) (tgt := 17) dJ1_removeFirst_6 (by decide) ?_
  refine ew_aload_n (pc := 17) dJ1_removeFirst_17 rfl ?_
  refine ew_aret (pc := 18) rfl (Or.inl ⟨_, rfl⟩) (Or.inr ⟨_, rfl⟩) dJ1_removeFirst_18 ?_
  exact hq h' q1 q2
theorem t_dqRemL {q A hd x : Nat} {xs : List Nat} (D : DQ h q A hd (xs ++ [x])) (hx : ∃ fs, rd g h x = some (ob 5 fs)) (hq : ∀ h', DQ h' q A hd xs → Ke [q, A] 0 0 h h' → Q (.returned (some (.ref x))) h') : ew_T g kJ1_removeLast 2 [.ref q] h Q := by
  obtain ⟨f, d1, d2, d3, d4, d5⟩ := D
  obtain ⟨fs, hx⟩ := hx
  rw [List.length_append, List.length_singleton] at d1 d4
  have hqA : q ≠ A := fun e => by
    rw [e, d2] at d1
    cases d1
  have e16 : ((hd + (xs.length + 1)) % 17 + 16) % 17 = (hd + xs.length) % 17 := by omega
  have f0 : f ((hd + xs.length) % 17) = some x := by
    rw [d5 _ (by omega), List.getElem?_append_right (Nat.le_refl _), Nat.sub_self]
    rfl
  have hlt : (hd + xs.length) % 17 < 17 := Nat.mod_lt _ (by decide)
  have p : ∀ Q : Outcome → eh → Prop, (∀ h', DQ h' q A hd xs → Ke [q, A] 0 0 h h' → rd g h' x = some (ob 5 fs) → Q (.returned (some (.ref x))) h') → ew_T g kJ1_pollLast 1 [.ref q] h Q := by
    intro Q hq
    have j1 := se_1 h q (ob 15 [.ref A, .int (nI hd), .int (nI ((hd + xs.length) % 17))])
    have d2' := sn_1 (e := ob 15 [.ref A, .int (nI hd), .int (nI ((hd + xs.length) % 17))]) d2 hqA.symm
    have hxA : x ≠ A := fun e => by
      rw [e, rd_of d2] at hx
      cases hx
    have hxq : x ≠ q := fun e => by
      rw [e, rd_of d1] at hx
      cases hx
    refine ew_enter (by decide +kernel) (ew_a1 rfl (ew_an (ew_an (ew_an ew_az)))) (Nat.le_of_ble_eq_true rfl) ?_
    refine ew_aload_n (pc := 0) dJ1_pollLast_0 rfl ?_
    refine ew_getf (pc := 1) fJ1_3 (rd_of d1) rfl dJ1_pollLast_1 ?_
    refine ew_dup (pc := 4) dJ1_pollLast_4 rfl ?_
    first | refine ew_astore_n (pc := 5) dJ1_pollLast_5 rfl (by decide) (p1_1 rfl) ?_ | refine ew_astore_nq (pc := 5) dJ1_pollLast_5 rfl (by decide) (p1_1 rfl) ?_ | refine ew_astore_nN (pc := 5) dJ1_pollLast_5 rfl (by decide) (p1_1 rfl) ?_
    refine ew_aload_n (pc := 6) dJ1_pollLast_6 rfl ?_
    refine ew_getf (pc := 7) fJ1_20 (rd_of d1) rfl dJ1_pollLast_7 ?_
    refine ew_aload_n (pc := 10) dJ1_pollLast_10 rfl ?_
    refine ew_alen (pc := 11) (rd_of d2) rfl dJ1_pollLast_11 ?_
    refine ew_cS2 (d' := 0) (pc := 12) sJ1_68 dJ1_pollLast_12 (by decide) (ew_rm (Nat.le_of_ble_eq_true rfl)) ?_
    refine t_dqDec (Nat.mod_lt _ (by decide)) ?_
    rw [e16]
    refine ew_Kr ?_
    refine ew_dup (pc := 15) dJ1_pollLast_15 rfl ?_
    refine ew_istore_n (pc := 16) dJ1_pollLast_16 rfl (by decide) (p1_2 rfl) ?_
    refine ew_cS2 (d' := 0) (pc := 17) sJ1_103 dJ1_pollLast_17 (by decide) (ew_rm (Nat.le_of_ble_eq_true rfl)) ?_
    refine t_dqAt d2 hlt f0 ?_
    refine ew_Kr ?_
    first | refine ew_astore_n (pc := 20) dJ1_pollLast_20 rfl (by decide) (p1_3 rfl) ?_ | refine ew_astore_nq (pc := 20) dJ1_pollLast_20 rfl (by decide) (p1_3 rfl) ?_ | refine ew_astore_nN (pc := 20) dJ1_pollLast_20 rfl (by decide) (p1_3 rfl) ?_
    refine ew_aload_n (pc := 21) dJ1_pollLast_21 rfl ?_
    refine ew_ifnull (pc := 22) dJ1_pollLast_22 ?_
    refine ew_aload_n (pc := 25) dJ1_pollLast_25 rfl ?_
    refine ew_aload_n (pc := 26) dJ1_pollLast_26 rfl ?_
    refine ew_iload_n (pc := 27) dJ1_pollLast_27 rfl ?_
    refine ew_dup_x1 (pc := 28) dJ1_pollLast_28 rfl rfl ?_
    refine ew_putf (pc := 29) pJ1_20 d1 st_2 (Nat.le_of_ble_eq_true rfl) rfl rfl (fun h9 => absurd h9 Bool.false_ne_true) dJ1_pollLast_29 ?_
    refine ew_null (pc := 32) dJ1_pollLast_32 ?_
    refine ew_aaN (pc := 33) rfl d2'  (j := (hd + xs.length) % 17) rfl hlt (by decide) dJ1_pollLast_33 ?_
    refine ew_aload_n (pc := 34) dJ1_pollLast_34 rfl ?_
    refine ew_aret (pc := 35) rfl (Or.inl ⟨_, rfl⟩) (Or.inr ⟨_, rfl⟩) dJ1_pollLast_35 ?_
    refine hq _ ⟨va_up f ((hd + xs.length) % 17) none, sn_1 j1 hqA, se_1 _ _ _, d3, by omega, fun j hj => ?_⟩ (Ke.set.t Ke.set (fun b h9 _ => by rw [List.mem_singleton.mp h9]; simp) (fun b h9 _ => by rw [List.mem_singleton.mp h9]; simp) (by decide) (by decide)) (rd_sn (rd_sn hx hxq) hxA)
    show (if (hd + j) % 17 = (hd + xs.length) % 17 then none else f ((hd + j) % 17)) = xs[j]?
    by_cases e8 : j = xs.length
    · rw [if_pos (by rw [e8]), List.getElem?_eq_none (by omega)]
    · rw [if_neg (by omega), d5 j hj]
      by_cases e7 : j < xs.length
      · rw [List.getElem?_append_left e7]
      · rw [List.getElem?_eq_none (by rw [List.length_append, List.length_singleton]; omega), List.getElem?_eq_none (by omega)]
  refine ew_enter (by decide +kernel) (ew_a1 rfl (ew_an ew_az)) (Nat.le_of_ble_eq_true rfl) ?_
  refine ew_aload_n (pc := 0) dJ1_removeLast_0 rfl ?_
  refine ew_cV0 (d' := 1) (pc := 1) vJ1_100 (rd_of d1) dJ1_removeLast_1 (by decide) (ew_rm (Nat.le_of_ble_eq_true rfl)) ?_
  refine p _ (fun h' q1 q2 q3 => ?_)
  refine ew_Kr ?_
  first | refine ew_astore_n (pc := 4) dJ1_removeLast_4 rfl (by decide) (p1_1 rfl) ?_ | refine ew_astore_nq (pc := 4) dJ1_removeLast_4 rfl (by decide) (p1_1 rfl) ?_ | refine ew_astore_nN (pc := 4) dJ1_removeLast_4 rfl (by decide) (p1_1 rfl) ?_
  refine ew_aload_n (pc := 5) dJ1_removeLast_5 rfl ?_
  refine ew_ifnonnull (pc := 6) (tgt := 17) dJ1_removeLast_6 (by decide) ?_
  refine ew_aload_n (pc := 17) dJ1_removeLast_17 rfl ?_
  refine ew_aret (pc := 18) rfl (Or.inl ⟨_, rfl⟩) (Or.inr ⟨_, rfl⟩) dJ1_removeLast_18 ?_
  exact hq h' q1 q2
theorem t_dqAdd {q A hd x : Nat} {xs : List Nat} (D : DQ h q A hd xs) (hl : xs.length < 8) (hx : ∃ fs, rd g h x = some (ob 5 fs)) (hq : ∀ h', DQ h' q A hd (xs ++ [x]) → Ke [q, A] 0 0 h h' → Q (.returned none) h') : ew_T g kJ1_addLast 7 [.ref q, .ref x] h Q := by
  obtain ⟨f, d1, d2, d3, d4, d5⟩ := D
  obtain ⟨fs, hx⟩ := hx
  have hqA : q ≠ A := fun e => by
    rw [e, d2] at d1
    cases d1
  have hlt : (hd + xs.length) % 17 < 17 := Nat.mod_lt _ (by decide)
  have d1' := sn_1 (e := aR 5 17 (va_up f ((hd + xs.length) % 17) (some x))) d1 hqA
  have d2' := se_1 h A (aR 5 17 (va_up f ((hd + xs.length) % 17) (some x)))
  have ei : ((hd + xs.length) % 17 + 1) % 17 = (hd + (xs.length + 1)) % 17 := by omega
  have hox : ∃ ci vs r, rd g h x = some (ob ci vs) ∧ ewCl[ci]? = some r ∧ (r.1 = "java/lang/Object" ∨ ew_w (.castable r.1 "java/lang/Object")) := ⟨5, _, _, hx, rfl, Or.inr (ew_qt q3353 rfl)⟩
  refine ew_enter (by decide +kernel) (ew_a1 rfl (ew_a1 rfl (ew_an ew_az))) (Nat.le_of_ble_eq_true rfl) ?_
  refine ew_aload_n (pc := 0) dJ1_addLast_0 rfl ?_
  refine ew_ifnonnull (pc := 1) (tgt := 12) dJ1_addLast_1 (by decide) ?_
  refine ew_aload_n (pc := 12) dJ1_addLast_12 rfl ?_
  refine ew_getf (pc := 13) fJ1_3 (rd_of d1) rfl dJ1_addLast_13 ?_
  first | refine ew_astore_n (pc := 16) dJ1_addLast_16 rfl (by decide) (p1_2 rfl) ?_ | refine ew_astore_nq (pc := 16) dJ1_addLast_16 rfl (by decide) (p1_2 rfl) ?_ | refine ew_astore_nN (pc := 16) dJ1_addLast_16 rfl (by decide) (p1_2 rfl) ?_
  refine ew_aload_n (pc := 17) dJ1_addLast_17 rfl ?_
  refine ew_aload_n (pc := 18) dJ1_addLast_18 rfl ?_
  refine ew_getf (pc := 19) fJ1_20 (rd_of d1) rfl dJ1_addLast_19 ?_
  refine ew_aload_n (pc := 22) dJ1_addLast_22 rfl ?_
  refine ew_aaS (pc := 23) rfl d2 hox (j := (hd + xs.length) % 17) rfl hlt (by decide) dJ1_addLast_23 ?_
  refine ew_aload_n (pc := 24) dJ1_addLast_24 rfl ?_
  refine ew_getf (pc := 25) fJ1_24 (rd_of d1') rfl dJ1_addLast_25 ?_
  refine ew_aload_n (pc := 28) dJ1_addLast_28 rfl ?_
  refine ew_aload_n (pc := 29) dJ1_addLast_29 rfl ?_
  refine ew_getf (pc := 30) fJ1_20 (rd_of d1') rfl dJ1_addLast_30 ?_
  refine ew_aload_n (pc := 33) dJ1_addLast_33 rfl ?_
  refine ew_alen (pc := 34) (rd_of d2') rfl dJ1_addLast_34 ?_
  refine ew_cS2 (d' := 0) (pc := 35) sJ1_74 dJ1_addLast_35 (by decide) (ew_rm (Nat.le_of_ble_eq_true rfl)) ?_
  refine t_dqInc hlt ?_
  rw [ei]
  refine ew_Kr ?_
  refine ew_dup_x1 (pc := 38) dJ1_addLast_38 rfl rfl ?_
  refine ew_putf (pc := 39) pJ1_20 d1' st_2 (Nat.le_of_ble_eq_true rfl) rfl rfl (fun h9 => absurd h9 Bool.false_ne_true) dJ1_addLast_39 ?_
  refine ew_icmp_ne (pc := 42) (tgt := 50) dJ1_addLast_42 (by decide) (fun c42 => ?_) (fun c42 => absurd c42 (fun h9 => by have := (nI_eq (by omega) (by omega)).mp h9; omega))
  refine ew_vret (pc := 50) rfl dJ1_addLast_50 ?_
  refine hq _ ⟨va_up f ((hd + xs.length) % 17) (some x), ?_, sn_1 d2' hqA.symm, d3, ?_, fun j hj => ?_⟩ (Ke.set.t Ke.set (fun b h9 _ => by rw [List.mem_singleton.mp h9]; simp) (fun b h9 _ => by rw [List.mem_singleton.mp h9]; simp) (by decide) (by decide))
  · rw [List.length_append, List.length_singleton]
    exact se_1 _ _ _
  · rw [List.length_append, List.length_singleton]
    omega
  · show (if (hd + j) % 17 = (hd + xs.length) % 17 then some x else f ((hd + j) % 17)) = (xs ++ [x])[j]?
    by_cases e8 : j = xs.length
    · rw [if_pos (by rw [e8]), e8, List.getElem?_append_right (Nat.le_refl _), Nat.sub_self]
      rfl
    · rw [if_neg (by omega), d5 j hj]
      by_cases e7 : j < xs.length
      · rw [List.getElem?_append_left e7]
      · rw [List.getElem?_eq_none (by omega), List.getElem?_eq_none (by rw [List.length_append, List.length_singleton]; omega)]
theorem t_dqClr {A hd tl : Nat} {f : Nat → Option Nat} (hA : h.1 A = some (aR 5 17 f)) (h1 : hd < 17) (h2 : tl < 17) (hf : ∀ x, x < 17 → (hd ≤ tl → ¬ (hd ≤ x ∧ x < tl) → f x = none) ∧ (tl < hd → ¬ (hd ≤ x ∨ x < tl) → f x = none)) (hq : ∀ F, (∀ x, x < 17 → F x = none) → Q (.returned none) (eh_set h A (aR 5 17 F))) : ew_T g kJ1_circularClear 0 [.ref A, .int (nI hd), .int (nI tl)] h Q := by
  have loop : ∀ to, to ≤ 17 → ∀ k i f0, i + k = to → (∀ F, (∀ x, F x = if i ≤ x ∧ x < to then none else f0 x) → ew_G g kJ1_circularClear 0 27 [.ref A, .int (nI to), .int (nI tl), .int (nI to)] [] (eh_set h A (aR 5 17 F)) Q) → ew_G g kJ1_circularClear 0 12 [.ref A, .int (nI i), .int (nI tl), .int (nI to)] [] (eh_set h A (aR 5 17 f0)) Q := by
    intro to hto k
    induction k with
    | zero =>
      intro i f0 hi hF
      have e9 : i = to := by omega
      subst e9
      refine ew_iload_n (pc := 12) dJ1_circularClear_12 rfl ?_
      refine ew_iload_n (pc := 13) dJ1_circularClear_13 rfl ?_
      refine ew_icmp_ge (pc := 14) (tgt := 27) dJ1_circularClear_14 (by decide) (fun c14 => ?_) (fun c14 => absurd (nI_le (Nat.le_refl _) (by omega)) c14)
      exact hF f0 (fun x => by rw [if_neg (by omega)])
    | succ k ih =>
      intro i f0 hi hF
      refine ew_iload_n (pc := 12) dJ1_circularClear_12 rfl ?_
      refine ew_iload_n (pc := 13) dJ1_circularClear_13 rfl ?_
      refine ew_icmp_ge (pc := 14) (tgt := 27) dJ1_circularClear_14 (by decide) (fun c14 => absurd c14 (nI_ge (by omega) (by omega))) (fun c14 => ?_)
      refine ew_aload_n (pc := 17) dJ1_circularClear_17 rfl ?_
      refine ew_iload_n (pc := 18) dJ1_circularClear_18 rfl ?_
      refine ew_null (pc := 19) dJ1_circularClear_19 ?_
      refine ew_aaN (pc := 20) rfl (se_1 h A (aR 5 17 f0))  (j := i) rfl (by omega) (by decide) dJ1_circularClear_20 ?_
      refine ew_iinc (pc := 21) dJ1_circularClear_21 rfl (nI_inc i) (by decide) (p1_1 rfl) ?_
      refine ew_goto (pc := 24) (tgt := 12) dJ1_circularClear_24 (by decide) ?_
      rw [ew_ss]
      exact ih (i + 1) (va_up f0 i none) (by omega) (fun F h9 => hF F (fun x => by
        rw [h9 x]
        show (if i + 1 ≤ x ∧ x < to then none else if x = i then none else f0 x) = _
        by_cases e1 : x = i
        · rw [if_neg (by omega), if_pos e1, if_pos (by omega)]
        · by_cases e2 : i ≤ x ∧ x < to
          · rw [if_pos (by omega), if_pos e2]
          · rw [if_neg (by omega), if_neg e1, if_neg e2]))
  have fin : ∀ F i, (∀ x, x < 17 → F x = none) → ew_G g kJ1_circularClear 0 27 [.ref A, .int i, .int (nI tl), .int (nI tl)] [] (eh_set h A (aR 5 17 F)) Q := by
    intro F i hF
    refine ew_iload_n (pc := 27) dJ1_circularClear_27 rfl ?_
    refine ew_iload_n (pc := 28) dJ1_circularClear_28 rfl ?_
    refine ew_icmp_ne (pc := 29) (tgt := 35) dJ1_circularClear_29 (by decide) (fun c29 => absurd rfl c29) (fun c29 => ?_)
    refine ew_goto (pc := 32) (tgt := 42) dJ1_circularClear_32 (by decide) ?_
    refine ew_vret (pc := 42) rfl dJ1_circularClear_42 ?_
    exact hq F hF
  refine ew_enter (by decide +kernel) (ew_a1 rfl (ew_a1 rfl (ew_a1 rfl (ew_an ew_az)))) (Nat.le_of_ble_eq_true rfl) ?_
  by_cases hc : hd ≤ tl
  · have k1 := loop tl (by omega) (tl - hd) hd f (by omega) (fun F h9 => fin F (nI tl) (fun x hx => by
      rw [h9 x]
      by_cases e1 : hd ≤ x ∧ x < tl
      · rw [if_pos e1]
      · rw [if_neg e1]
        exact (hf x hx).1 hc e1))
    rw [eh_sid hA] at k1
    refine ew_iload_n (pc := 0) dJ1_circularClear_0 rfl ?_
    refine ew_iload_n (pc := 1) dJ1_circularClear_1 rfl ?_
    refine ew_icmp_gt (pc := 2) (tgt := 9) dJ1_circularClear_2 (by decide) (fun c2 => absurd c2 (Int32.not_lt.mpr (nI_le hc (by omega)))) (fun c2 => ?_)
    refine ew_iload_n (pc := 5) dJ1_circularClear_5 rfl ?_
    refine ew_goto (pc := 6) (tgt := 11) dJ1_circularClear_6 (by decide) ?_
    refine ew_istore_n (pc := 11) dJ1_circularClear_11 rfl (by decide) (p1_3 rfl) ?_
    exact k1
  · have k1 := loop 17 (by omega) (17 - hd) hd f (by omega) (fun F h9 => by
      have k2 := loop tl (by omega) tl 0 F (by omega) (fun F2 h8 => fin F2 (nI tl) (fun x hx => by
        rw [h8 x]
        by_cases e1 : 0 ≤ x ∧ x < tl
        · rw [if_pos e1]
        · rw [if_neg e1, h9 x]
          by_cases e2 : hd ≤ x ∧ x < 17
          · rw [if_pos e2]
          · rw [if_neg e2]
            exact (hf x hx).2 (by omega) (by omega)))
      refine ew_iload_n (pc := 27) dJ1_circularClear_27 rfl ?_
      refine ew_iload_n (pc := 28) dJ1_circularClear_28 rfl ?_
      refine ew_icmp_ne (pc := 29) (tgt := 35) dJ1_circularClear_29 (by decide) (fun c29 => ?_) (fun c29 => absurd c29 (fun h9 => by have := (nI_eq (by omega) (by omega)).mp h9; omega))
      refine ew_iconst (pc := 35) (v := 0) dJ1_circularClear_35 rfl ?_
      refine ew_istore_n (pc := 36) dJ1_circularClear_36 rfl (by decide) (p1_1 rfl) ?_
      refine ew_iload_n (pc := 37) dJ1_circularClear_37 rfl ?_
      refine ew_istore_n (pc := 38) dJ1_circularClear_38 rfl (by decide) (p1_3 rfl) ?_
      refine ew_goto (pc := 39) (tgt := 12) dJ1_circularClear_39 (by decide) ?_
      exact k2
      )
    rw [eh_sid hA] at k1
    refine ew_iload_n (pc := 0) dJ1_circularClear_0 rfl ?_
    refine ew_iload_n (pc := 1) dJ1_circularClear_1 rfl ?_
    refine ew_icmp_gt (pc := 2) (tgt := 9) dJ1_circularClear_2 (by decide) (fun c2 => ?_) (fun c2 => absurd (Int32.not_le.mp (nI_ge (by omega) (by omega))) c2)
    refine ew_aload_n (pc := 9) dJ1_circularClear_9 rfl ?_
    refine ew_alen (pc := 10) (rd_of hA) rfl dJ1_circularClear_10 ?_
    refine ew_istore_n (pc := 11) dJ1_circularClear_11 rfl (by decide) (p1_3 rfl) ?_
    exact k1
theorem t_dqClear {q A hd : Nat} {xs : List Nat} (D : DQ h q A hd xs) (hq : ∀ h', DQ h' q A 0 [] → Ke [q, A] 0 0 h h' → Q (.returned none) h') : ew_T g kJ1_clear 1 [.ref q] h Q := by
  obtain ⟨f, d1, d2, d3, d4, d5⟩ := D
  have hqA : q ≠ A := fun e => by
    rw [e, d2] at d1
    cases d1
  refine ew_enter (by decide +kernel) (ew_a1 rfl ew_az) (Nat.le_of_ble_eq_true rfl) ?_
  refine ew_aload_n (pc := 0) dJ1_clear_0 rfl ?_
  refine ew_getf (pc := 1) fJ1_3 (rd_of d1) rfl dJ1_clear_1 ?_
  refine ew_aload_n (pc := 4) dJ1_clear_4 rfl ?_
  refine ew_getf (pc := 5) fJ1_24 (rd_of d1) rfl dJ1_clear_5 ?_
  refine ew_aload_n (pc := 8) dJ1_clear_8 rfl ?_
  refine ew_getf (pc := 9) fJ1_20 (rd_of d1) rfl dJ1_clear_9 ?_
  refine ew_cS3 (d' := 0) (pc := 12) sJ1_181 dJ1_clear_12 (by decide) (ew_rm (Nat.le_of_ble_eq_true rfl)) ?_
  refine t_dqClr d2 d3 (Nat.mod_lt _ (by decide)) (fun x hx => ⟨fun h1 h2 => ?_, fun h1 h2 => ?_⟩) (fun F hF => ?_)
  · have h9 := d5 ((x + 17 - hd) % 17) (Nat.mod_lt _ (by decide))
    rw [show (hd + (x + 17 - hd) % 17) % 17 = x by omega] at h9
    rw [h9, List.getElem?_eq_none (by omega)]
  · have h9 := d5 ((x + 17 - hd) % 17) (Nat.mod_lt _ (by decide))
    rw [show (hd + (x + 17 - hd) % 17) % 17 = x by omega] at h9
    rw [h9, List.getElem?_eq_none (by omega)]
  have d1' := sn_1 (e := aR 5 17 F) d1 hqA
  refine ew_Kv ?_
  refine ew_aload_n (pc := 15) dJ1_clear_15 rfl ?_
  refine ew_aload_n (pc := 16) dJ1_clear_16 rfl ?_
  refine ew_iconst (pc := 17) (v := 0) dJ1_clear_17 rfl ?_
  refine ew_dup_x1 (pc := 18) dJ1_clear_18 rfl rfl ?_
  refine ew_putf (pc := 19) pJ1_20 d1' st_2 (Nat.le_of_ble_eq_true rfl) rfl rfl (fun h9 => absurd h9 Bool.false_ne_true) dJ1_clear_19 ?_
  have d1'' := se_1 (eh_set h A (aR 5 17 F)) q (ob 15 [.ref A, .int (nI hd), .int 0])
  refine ew_putf (pc := 22) pJ1_24 d1'' st_1 (Nat.le_of_ble_eq_true rfl) rfl rfl (fun h9 => absurd h9 Bool.false_ne_true) dJ1_clear_22 ?_
  refine ew_vret (pc := 25) rfl dJ1_clear_25 ?_
  rw [ew_ss]
  refine hq _ ⟨F, se_1 _ _ _, sn_1 (se_1 _ _ _) hqA.symm, by decide, by decide, fun j hj => ?_⟩ (Ke.set.t Ke.set (fun b h9 _ => by rw [List.mem_singleton.mp h9]; simp) (fun b h9 _ => by rw [List.mem_singleton.mp h9]; simp) (by decide) (by decide))
  rw [hF _ (Nat.mod_lt _ (by decide))]
  rfl
end
