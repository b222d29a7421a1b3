/-! EW: squares -/
set_option maxRecDepth 100000
/-- a square of n events at q, its sums at A -/
def Sq (g : eg) (h : eh) (q A n : Nat) (f : Nat → Int32) : Prop := rd g h q = some (ob 6 [.int (nI n), .ref A]) ∧ h.1 A = some (aI (n * n) f) ∧ n ≤ 10
theorem Sq.ne {g : eg} {h : eh} {q A n : Nat} {f : Nat → Int32} (hs : Sq g h q A n f) : q ≠ A := by
  intro e
  have h1 := hs.1
  rw [e, rd_of hs.2.1] at h1
  cases h1
theorem Sq.set {g : eg} {h : eh} {q A n : Nat} {f : Nat → Int32} (hs : Sq g h q A n f) (F : Nat → Int32) : Sq g (eh_set h A (aI (n * n) F)) q A n F := ⟨rd_sn hs.1 hs.ne, se_1 _ _ _, hs.2.2⟩
theorem ew_sid {h : eh} {a : Nat} {e : ac} (ha : h.1 a = some e) : eh_set h a e = h := by
  obtain ⟨f, n, m⟩ := h
  show ((fun q => if q = a then some e else f q), n, m) = (f, n, m)
  congr 1
  funext q
  by_cases hq : q = a
  · rw [if_pos hq, hq]; exact ha.symm
  · rw [if_neg hq]
theorem sq_b {n : Nat} (hn : n ≤ 10) : n * n < 2 ^ 31 := Nat.lt_of_le_of_lt (Nat.mul_le_mul hn hn) (by decide)
theorem t_sum {g : eg} {h : eh} {q A n a b : Nat} {f : Nat → Int32} {Q : Outcome → eh → Prop} (hs : Sq g h q A n f) (ha : a < n) (hb : b < n) (hq : Q (.returned (some (.int (f (n * a + b))))) h) : ew_T g kX7_sum 0 [.ref q, .int (nI a), .int (nI b)] h Q := by
  obtain ⟨h1, h2, hn⟩ := hs
  have h3 := rd_of (g := g) h2
  refine ew_enter (by decide +kernel) (ew_a1 rfl (ew_a1 rfl (ew_a1 rfl ew_az))) (Nat.le_of_ble_eq_true rfl) ?_
  refine ew_aload_n (pc := 0) dX7_sum_0 rfl ?_
  refine ew_getf (pc := 1) fX7_15 h1 rfl dX7_sum_1 ?_
  refine ew_aload_n (pc := 4) dX7_sum_4 rfl ?_
  refine ew_getf (pc := 5) fX7_9 h1 rfl dX7_sum_5 ?_
  refine ew_iload_n (pc := 8) dX7_sum_8 rfl ?_
  refine ew_imul (pc := 9) dX7_sum_9 ?_
  refine ew_iload_n (pc := 10) dX7_sum_10 rfl ?_
  refine ew_iadd (pc := 11) dX7_sum_11 ?_
  refine ew_iaJ (pc := 12) h3 (j := n * a + b) (by simp only [nI_mul, nI_add]) (sq_lt ha hb) (sq_b hn) dX7_sum_12 ?_
  refine ew_iret (pc := 13) rfl dX7_sum_13 ?_
  exact hq
def NOW : Int32 := 100000000
def stp (n : Nat) (f : Nat → Int32) (a b : Nat) (s : Int32) : Nat → Int32 := upd f (n * a + b) (jmin (f (n * a + b)) (jmax s (-100000000)))
theorem t_step {g : eg} {h : eh} {q A n a b : Nat} {s : Int32} {f : Nat → Int32} {Q : Outcome → eh → Prop} (hs : Sq g h q A n f) (ha : a < n) (hb : b < n) (hq : Q (.returned none) (eh_set h A (aI (n * n) (stp n f a b s)))) : ew_T g kX7_step 0 [.ref q, .int (nI a), .int (nI b), .int s] h Q := by
  obtain ⟨h1, h2, hn⟩ := hs
  have h3 := rd_of (g := g) h2
  refine ew_enter (by decide +kernel) (ew_a1 rfl (ew_a1 rfl (ew_a1 rfl (ew_a1 rfl ew_az)))) (Nat.le_of_ble_eq_true rfl) ?_
  refine ew_aload_n (pc := 0) dX7_step_0 rfl ?_
  refine ew_getf (pc := 1) fX7_15 h1 rfl dX7_step_1 ?_
  refine ew_aload_n (pc := 4) dX7_step_4 rfl ?_
  refine ew_getf (pc := 5) fX7_9 h1 rfl dX7_step_5 ?_
  refine ew_iload_n (pc := 8) dX7_step_8 rfl ?_
  refine ew_imul (pc := 9) dX7_step_9 ?_
  refine ew_iload_n (pc := 10) dX7_step_10 rfl ?_
  refine ew_iadd (pc := 11) dX7_step_11 ?_
  refine ew_aload_n (pc := 12) dX7_step_12 rfl ?_
  refine ew_getf (pc := 13) fX7_15 h1 rfl dX7_step_13 ?_
  refine ew_aload_n (pc := 16) dX7_step_16 rfl ?_
  refine ew_getf (pc := 17) fX7_9 h1 rfl dX7_step_17 ?_
  refine ew_iload_n (pc := 20) dX7_step_20 rfl ?_
  refine ew_imul (pc := 21) dX7_step_21 ?_
  refine ew_iload_n (pc := 22) dX7_step_22 rfl ?_
  refine ew_iadd (pc := 23) dX7_step_23 ?_
  refine ew_iaJ (pc := 24) h3 (j := n * a + b) (by simp only [nI_mul, nI_add]) (sq_lt ha hb) (sq_b hn) dX7_step_24 ?_
  refine ew_iload_n (pc := 25) dX7_step_25 rfl ?_
  refine ew_ldc (pc := 26) (v := -100000000) (ew_q q1685) dX7_step_26 ?_
  refine ew_mmax (pc := 28) (ew_q q1686) (ew_q q578) (ew_q q141) (ew_q q579) (ew_rm (Nat.le_of_ble_eq_true rfl)) dX7_step_28 ?_
  refine ew_mmin (pc := 31) (ew_q q1687) (ew_q q596) (ew_q q141) (ew_q q597) (ew_rm (Nat.le_of_ble_eq_true rfl)) dX7_step_31 ?_
  refine ew_iaS (pc := 34) h2 (j := n * a + b) (by simp only [nI_mul, nI_add]) (sq_lt ha hb) (sq_b hn) dX7_step_34 ?_
  refine ew_vret (pc := 35) rfl dX7_step_35 ?_
  exact hq
/-- closing, the events b below b', below a', below k' -/
def clB (n : Nat) (f : Nat → Int32) (k a : Nat) : Nat → Nat → Int32
  | 0 => f
  | b + 1 => if clB n f k a b (n * k + b) = 100000000 then clB n f k a b else stp n (clB n f k a b) a b (clB n f k a b (n * a + k) + clB n f k a b (n * k + b))
def clA (n : Nat) (f : Nat → Int32) (k : Nat) : Nat → Nat → Int32
  | 0 => f
  | a + 1 => if clA n f k a (n * a + k) = 100000000 then clA n f k a else clB n (clA n f k a) k a n
def clK (n : Nat) (f : Nat → Int32) : Nat → Nat → Int32
  | 0 => f
  | k + 1 => clA n (clK n f k) k n
theorem l_closeB {g : eg} {h : eh} {q A n k a : Nat} {f0 : Nat → Int32} {Q : Outcome → eh → Prop} (hs : Sq g h q A n f0) (hk : k < n) (ha : a < n) (f : Nat → Int32) (kx : ew_G g kX7_close 1 80 [.ref q, .int (nI k), .int (nI a), .int (nI n)] [] (eh_set h A (aI (n * n) (clB n f k a n))) Q) :
    ∀ m b, b + m = n → ew_G g kX7_close 1 36 [.ref q, .int (nI k), .int (nI a), .int (nI b)] [] (eh_set h A (aI (n * n) (clB n f k a b))) Q := by
  have hn := hs.2.2
  intro m
  induction m with
  | zero =>
    intro b hb
    have e : b = n := by omega
    subst e
    refine ew_iload_n (pc := 36) dX7_close_36 rfl ?_
    refine ew_aload_n (pc := 37) dX7_close_37 rfl ?_
    refine ew_getf (pc := 38) fX7_9 (hs.set _).1 rfl dX7_close_38 ?_
    refine ew_icmp_ge (pc := 41) (tgt := 80) dX7_close_41 (by decide) (fun c41 => ?_) (fun c41 => absurd (nI_le (Nat.le_refl _) (by omega)) c41)
    exact kx
  | succ m ih =>
    intro b hb
    have hbn : b < n := by omega
    refine ew_iload_n (pc := 36) dX7_close_36 rfl ?_
    refine ew_aload_n (pc := 37) dX7_close_37 rfl ?_
    refine ew_getf (pc := 38) fX7_9 (hs.set _).1 rfl dX7_close_38 ?_
    refine ew_icmp_ge (pc := 41) (tgt := 80) dX7_close_41 (by decide) (fun c41 => absurd c41 (nI_ge hbn (by omega))) (fun c41 => ?_)
    refine ew_aload_n (pc := 44) dX7_close_44 rfl ?_
    refine ew_iload_n (pc := 45) dX7_close_45 rfl ?_
    refine ew_iload_n (pc := 46) dX7_close_46 rfl ?_
    refine ew_cV2 (d' := 0) (pc := 47) vX7_36 (hs.set _).1 dX7_close_47 (by decide) (ew_rm (Nat.le_of_ble_eq_true rfl)) ?_
    refine t_sum (hs.set _) hk hbn ?_
    refine ew_Kr ?_
    refine ew_ldc (pc := 50) (v := 100000000) (ew_q q1670) dX7_close_50 ?_
    refine ew_icmp_eq (pc := 52) (tgt := 74) dX7_close_52 (by decide) (fun c52 => ?_) (fun c52 => ?_)
    · refine ew_iinc (pc := 74) dX7_close_74 rfl (nI_inc b) (by decide) (p1_3 rfl) ?_
      refine ew_goto (pc := 77) (tgt := 36) dX7_close_77 (by decide) ?_
      have e := ih (b + 1) (by omega)
      first | (rw [clB, if_pos c52] at e; exact e) | (rw [clB, if_neg c52] at e; exact e)
    · refine ew_aload_n (pc := 55) dX7_close_55 rfl ?_
      refine ew_iload_n (pc := 56) dX7_close_56 rfl ?_
      refine ew_iload_n (pc := 57) dX7_close_57 rfl ?_
      refine ew_aload_n (pc := 58) dX7_close_58 rfl ?_
      refine ew_iload_n (pc := 59) dX7_close_59 rfl ?_
      refine ew_iload_n (pc := 60) dX7_close_60 rfl ?_
      refine ew_cV2 (d' := 0) (pc := 61) vX7_36 (hs.set _).1 dX7_close_61 (by decide) (ew_rm (Nat.le_of_ble_eq_true rfl)) ?_
      refine t_sum (hs.set _) ha hk ?_
      refine ew_Kr ?_
      refine ew_aload_n (pc := 64) dX7_close_64 rfl ?_
      refine ew_iload_n (pc := 65) dX7_close_65 rfl ?_
      refine ew_iload_n (pc := 66) dX7_close_66 rfl ?_
      refine ew_cV2 (d' := 0) (pc := 67) vX7_36 (hs.set _).1 dX7_close_67 (by decide) (ew_rm (Nat.le_of_ble_eq_true rfl)) ?_
      refine t_sum (hs.set _) hk hbn ?_
      refine ew_Kr ?_
      refine ew_iadd (pc := 70) dX7_close_70 ?_
      refine ew_cV3 (d' := 0) (pc := 71) vX7_39 (hs.set _).1 dX7_close_71 (by decide) (ew_rm (Nat.le_of_ble_eq_true rfl)) ?_
      refine t_step (hs.set _) ha hbn ?_
      rw [ew_ss]
      refine ew_Kv ?_
      refine ew_iinc (pc := 74) dX7_close_74 rfl (nI_inc b) (by decide) (p1_3 rfl) ?_
      refine ew_goto (pc := 77) (tgt := 36) dX7_close_77 (by decide) ?_
      have e := ih (b + 1) (by omega)
      first | (rw [clB, if_pos c52] at e; exact e) | (rw [clB, if_neg c52] at e; exact e)
theorem l_closeA {g : eg} {h : eh} {q A n k : Nat} {f0 : Nat → Int32} {Q : Outcome → eh → Prop} (hs : Sq g h q A n f0) (hk : k < n) (f : Nat → Int32) (kx : ∀ x3, ew_G g kX7_close 1 86 [.ref q, .int (nI k), .int (nI n), x3] [] (eh_set h A (aI (n * n) (clA n f k n))) Q) :
    ∀ m a x3, a + m = n → ew_G g kX7_close 1 12 [.ref q, .int (nI k), .int (nI a), x3] [] (eh_set h A (aI (n * n) (clA n f k a))) Q := by
  have hn := hs.2.2
  intro m
  induction m with
  | zero =>
    intro a x3 hb
    have e : a = n := by omega
    subst e
    refine ew_iload_n (pc := 12) dX7_close_12 rfl ?_
    refine ew_aload_n (pc := 13) dX7_close_13 rfl ?_
    refine ew_getf (pc := 14) fX7_9 (hs.set _).1 rfl dX7_close_14 ?_
    refine ew_icmp_ge (pc := 17) (tgt := 86) dX7_close_17 (by decide) (fun c17 => ?_) (fun c17 => absurd (nI_le (Nat.le_refl _) (by omega)) c17)
    exact kx _
  | succ m ih =>
    intro a x3 hb
    have ha : a < n := by omega
    have back : ∀ x3, ew_G g kX7_close 1 80 [.ref q, .int (nI k), .int (nI a), x3] [] (eh_set h A (aI (n * n) (clA n f k (a + 1)))) Q := by
      intro x3
      refine ew_iinc (pc := 80) dX7_close_80 rfl (nI_inc a) (by decide) (p1_2 rfl) ?_
      refine ew_goto (pc := 83) (tgt := 12) dX7_close_83 (by decide) ?_
      exact ih (a + 1) _ (by omega)
    rw [clA] at back
    refine ew_iload_n (pc := 12) dX7_close_12 rfl ?_
    refine ew_aload_n (pc := 13) dX7_close_13 rfl ?_
    refine ew_getf (pc := 14) fX7_9 (hs.set _).1 rfl dX7_close_14 ?_
    refine ew_icmp_ge (pc := 17) (tgt := 86) dX7_close_17 (by decide) (fun c17 => absurd c17 (nI_ge ha (by omega))) (fun c17 => ?_)
    refine ew_aload_n (pc := 20) dX7_close_20 rfl ?_
    refine ew_iload_n (pc := 21) dX7_close_21 rfl ?_
    refine ew_iload_n (pc := 22) dX7_close_22 rfl ?_
    refine ew_cV2 (d' := 0) (pc := 23) vX7_36 (hs.set _).1 dX7_close_23 (by decide) (ew_rm (Nat.le_of_ble_eq_true rfl)) ?_
    refine t_sum (hs.set _) ha hk ?_
    refine ew_Kr ?_
    refine ew_ldc (pc := 26) (v := 100000000) (ew_q q1670) dX7_close_26 ?_
    refine ew_icmp_ne (pc := 28) (tgt := 34) dX7_close_28 (by decide) (fun c28 => ?_) (fun c28 => ?_)
    · rw [if_neg c28] at back
      refine ew_iconst (pc := 34) (v := 0) dX7_close_34 rfl ?_
      refine ew_istore_n (pc := 35) dX7_close_35 rfl (by decide) (p1_3 rfl) ?_
      exact l_closeB hs hk ha (clA n f k a) (back _) n 0 (by omega)
    · refine ew_goto (pc := 31) (tgt := 80) dX7_close_31 (by decide) ?_
      rw [if_pos c28] at back
      exact back _
theorem t_close {g : eg} {h : eh} {q A n : Nat} {f : Nat → Int32} {Q : Outcome → eh → Prop} (hs : Sq g h q A n f) (hq : Q (.returned (some (.ref q))) (eh_set h A (aI (n * n) (clK n f n)))) : ew_T g kX7_close 1 [.ref q] h Q := by
  have hn := hs.2.2
  have loop : ∀ m k x2 x3, k + m = n → ew_c2 x2 = false → ew_G g kX7_close 1 2 [.ref q, .int (nI k), x2, x3] [] (eh_set h A (aI (n * n) (clK n f k))) Q := by
    intro m
    induction m with
    | zero =>
      intro k x2 x3 hb hx
      have e : k = n := by omega
      subst e
      refine ew_iload_n (pc := 2) dX7_close_2 rfl ?_
      refine ew_aload_n (pc := 3) dX7_close_3 rfl ?_
      refine ew_getf (pc := 4) fX7_9 (hs.set _).1 rfl dX7_close_4 ?_
      refine ew_icmp_ge (pc := 7) (tgt := 92) dX7_close_7 (by decide) (fun c7 => ?_) (fun c7 => absurd (nI_le (Nat.le_refl _) (by omega)) c7)
      refine ew_aload_n (pc := 92) dX7_close_92 rfl ?_
      refine ew_aret (pc := 93) rfl (Or.inl ⟨_, rfl⟩) (Or.inr ⟨_, rfl⟩) dX7_close_93 ?_
      exact hq
    | succ m ih =>
      intro k x2 x3 hb hx
      have hk : k < n := by omega
      have back : ∀ x3, ew_G g kX7_close 1 86 [.ref q, .int (nI k), .int (nI n), x3] [] (eh_set h A (aI (n * n) (clK n f (k + 1)))) Q := by
        intro x3
        refine ew_iinc (pc := 86) dX7_close_86 rfl (nI_inc k) (by decide) (p1_1 rfl) ?_
        refine ew_goto (pc := 89) (tgt := 2) dX7_close_89 (by decide) ?_
        exact ih (k + 1) _ _ (by omega) rfl
      refine ew_iload_n (pc := 2) dX7_close_2 rfl ?_
      refine ew_aload_n (pc := 3) dX7_close_3 rfl ?_
      refine ew_getf (pc := 4) fX7_9 (hs.set _).1 rfl dX7_close_4 ?_
      refine ew_icmp_ge (pc := 7) (tgt := 92) dX7_close_7 (by decide) (fun c7 => absurd c7 (nI_ge hk (by omega))) (fun c7 => ?_)
      refine ew_iconst (pc := 10) (v := 0) dX7_close_10 rfl ?_
      refine ew_istore_n (pc := 11) dX7_close_11 rfl (by decide) (p1_2 rfl) ?_
      exact l_closeA hs hk (clK n f k) back n 0 _ (by omega)
  have h0 := loop n 0 no_ no_ (by omega) rfl
  rw [clK, ew_sid hs.2.1] at h0
  refine ew_enter (by decide +kernel) (ew_a1 rfl (ew_an (ew_an (ew_an ew_az)))) (Nat.le_of_ble_eq_true rfl) ?_
  refine ew_iconst (pc := 0) (v := 0) dX7_close_0 rfl ?_
  refine ew_istore_n (pc := 1) dX7_close_1 rfl (by decide) (p1_1 rfl) ?_
  exact h0
def cl1 (f : Nat → Int32) : Nat → Nat → Int32
  | 0 => f
  | i + 1 => upd (cl1 f i) i 100000000
def cl2 (n : Nat) (f : Nat → Int32) : Nat → Nat → Int32
  | 0 => f
  | e + 1 => upd (upd (cl2 n f e) (n * e + e) 0) (n * e) 0
theorem t_clear {g : eg} {h : eh} {q A n : Nat} {f : Nat → Int32} {Q : Outcome → eh → Prop} (hs : Sq g h q A n f) (hq : Q (.returned none) (eh_set h A (aI (n * n) (cl2 n (cl1 f (n * n)) n)))) : ew_T g kX7_clear 0 [.ref q] h Q := by
  have hn := hs.2.2
  have hnn := sq_b hn
  have loop2 : ∀ m e, e + m = n → ew_G g kX7_clear 0 27 [.ref q, .int (nI e)] [] (eh_set h A (aI (n * n) (cl2 n (cl1 f (n * n)) e))) Q := by
    intro m
    induction m with
    | zero =>
      intro e hb
      have e9 : e = n := by omega
      subst e9
      refine ew_iload_n (pc := 27) dX7_clear_27 rfl ?_
      refine ew_aload_n (pc := 28) dX7_clear_28 rfl ?_
      refine ew_getf (pc := 29) fX7_9 (hs.set _).1 rfl dX7_clear_29 ?_
      refine ew_icmp_ge (pc := 32) (tgt := 67) dX7_clear_32 (by decide) (fun c32 => ?_) (fun c32 => absurd (nI_le (Nat.le_refl _) (by omega)) c32)
      refine ew_vret (pc := 67) rfl dX7_clear_67 ?_
      exact hq
    | succ m ih =>
      intro e hb
      have he : e < n := by omega
      refine ew_iload_n (pc := 27) dX7_clear_27 rfl ?_
      refine ew_aload_n (pc := 28) dX7_clear_28 rfl ?_
      refine ew_getf (pc := 29) fX7_9 (hs.set _).1 rfl dX7_clear_29 ?_
      refine ew_icmp_ge (pc := 32) (tgt := 67) dX7_clear_32 (by decide) (fun c32 => absurd c32 (nI_ge he (by omega))) (fun c32 => ?_)
      refine ew_aload_n (pc := 35) dX7_clear_35 rfl ?_
      refine ew_getf (pc := 36) fX7_15 (hs.set _).1 rfl dX7_clear_36 ?_
      refine ew_aload_n (pc := 39) dX7_clear_39 rfl ?_
      refine ew_getf (pc := 40) fX7_9 (hs.set _).1 rfl dX7_clear_40 ?_
      refine ew_iload_n (pc := 43) dX7_clear_43 rfl ?_
      refine ew_imul (pc := 44) dX7_clear_44 ?_
      refine ew_iload_n (pc := 45) dX7_clear_45 rfl ?_
      refine ew_iadd (pc := 46) dX7_clear_46 ?_
      refine ew_iconst (pc := 47) (v := 0) dX7_clear_47 rfl ?_
      refine ew_iaS (pc := 48) (se_1 _ _ _) (j := n * e + e) (by simp only [nI_mul, nI_add]) (sq_lt he he) hnn dX7_clear_48 ?_
      rw [ew_ss]
      refine ew_aload_n (pc := 49) dX7_clear_49 rfl ?_
      refine ew_getf (pc := 50) fX7_15 (hs.set _).1 rfl dX7_clear_50 ?_
      refine ew_aload_n (pc := 53) dX7_clear_53 rfl ?_
      refine ew_getf (pc := 54) fX7_9 (hs.set _).1 rfl dX7_clear_54 ?_
      refine ew_iload_n (pc := 57) dX7_clear_57 rfl ?_
      refine ew_imul (pc := 58) dX7_clear_58 ?_
      refine ew_iconst (pc := 59) (v := 0) dX7_clear_59 rfl ?_
      refine ew_iaS (pc := 60) (se_1 _ _ _) (j := n * e) (by simp only [nI_mul, nI_add]) (Nat.lt_of_le_of_lt (Nat.le_add_right _ _) (sq_lt he he)) hnn dX7_clear_60 ?_
      rw [ew_ss]
      refine ew_iinc (pc := 61) dX7_clear_61 rfl (nI_inc e) (by decide) (p1_1 rfl) ?_
      refine ew_goto (pc := 64) (tgt := 27) dX7_clear_64 (by decide) ?_
      exact ih (e + 1) (by omega)
  have loop1 : ∀ m e, e + m = n * n → ew_G g kX7_clear 0 2 [.ref q, .int (nI e)] [] (eh_set h A (aI (n * n) (cl1 f e))) Q := by
    intro m
    induction m with
    | zero =>
      intro e hb
      have e9 : e = n * n := by omega
      subst e9
      refine ew_iload_n (pc := 2) dX7_clear_2 rfl ?_
      refine ew_aload_n (pc := 3) dX7_clear_3 rfl ?_
      refine ew_getf (pc := 4) fX7_15 (hs.set _).1 rfl dX7_clear_4 ?_
      refine ew_alen (pc := 7) (rd_se _ _ _ _) rfl dX7_clear_7 ?_
      refine ew_icmp_ge (pc := 8) (tgt := 25) dX7_clear_8 (by decide) (fun c8 => ?_) (fun c8 => absurd (nI_le (Nat.le_refl _) hnn) c8)
      refine ew_iconst (pc := 25) (v := 0) dX7_clear_25 rfl ?_
      refine ew_istore_n (pc := 26) dX7_clear_26 rfl (by decide) (p1_1 rfl) ?_
      exact loop2 n 0 (by omega)
    | succ m ih =>
      intro e hb
      have he : e < n * n := by omega
      refine ew_iload_n (pc := 2) dX7_clear_2 rfl ?_
      refine ew_aload_n (pc := 3) dX7_clear_3 rfl ?_
      refine ew_getf (pc := 4) fX7_15 (hs.set _).1 rfl dX7_clear_4 ?_
      refine ew_alen (pc := 7) (rd_se _ _ _ _) rfl dX7_clear_7 ?_
      refine ew_icmp_ge (pc := 8) (tgt := 25) dX7_clear_8 (by decide) (fun c8 => absurd c8 (nI_ge he hnn)) (fun c8 => ?_)
      refine ew_aload_n (pc := 11) dX7_clear_11 rfl ?_
      refine ew_getf (pc := 12) fX7_15 (hs.set _).1 rfl dX7_clear_12 ?_
      refine ew_iload_n (pc := 15) dX7_clear_15 rfl ?_
      refine ew_ldc (pc := 16) (v := 100000000) (ew_q q1670) dX7_clear_16 ?_
      refine ew_iaS (pc := 18) (se_1 _ _ _) (j := e) rfl he hnn dX7_clear_18 ?_
      rw [ew_ss]
      refine ew_iinc (pc := 19) dX7_clear_19 rfl (nI_inc e) (by decide) (p1_1 rfl) ?_
      refine ew_goto (pc := 22) (tgt := 2) dX7_clear_22 (by decide) ?_
      exact ih (e + 1) (by omega)
  have h0 := loop1 (n * n) 0 (by omega)
  rw [cl1, ew_sid hs.2.1] at h0
  refine ew_enter (by decide +kernel) (ew_a1 rfl (ew_an ew_az)) (Nat.le_of_ble_eq_true rfl) ?_
  refine ew_iconst (pc := 0) (v := 0) dX7_clear_0 rfl ?_
  refine ew_istore_n (pc := 1) dX7_clear_1 rfl (by decide) (p1_1 rfl) ?_
  exact h0
def sqSound (n : Nat) (f : Nat → Int32) : Prop := ∀ e, e < n → ¬ f (n * e + e) < 0
theorem t_isSoundS {g : eg} {h : eh} {q A n : Nat} {f : Nat → Int32} {Q : Outcome → eh → Prop} (hs : Sq g h q A n f) (hq : ∀ r : Int32, (r = 1 ∧ sqSound n f) ∨ (r = 0 ∧ ¬ sqSound n f) → Q (.returned (some (.int r))) h) : ew_T g kX7_isSound 1 [.ref q] h Q := by
  have hn := hs.2.2
  have loop : ∀ m e, e + m = n → (∀ e', e' < e → ¬ f (n * e' + e') < 0) → ew_G g kX7_isSound 1 2 [.ref q, .int (nI e)] [] h Q := by
    intro m
    induction m with
    | zero =>
      intro e hb hi
      have e9 : e = n := by omega
      subst e9
      refine ew_iload_n (pc := 2) dX7_isSound_2 rfl ?_
      refine ew_aload_n (pc := 3) dX7_isSound_3 rfl ?_
      refine ew_getf (pc := 4) fX7_9 hs.1 rfl dX7_isSound_4 ?_
      refine ew_icmp_ge (pc := 7) (tgt := 27) dX7_isSound_7 (by decide) (fun c7 => ?_) (fun c7 => absurd (nI_le (Nat.le_refl _) (by omega)) c7)
      refine ew_iconst (pc := 27) (v := 1) dX7_isSound_27 rfl ?_
      refine ew_zret (pc := 28) (ty := .boolean) rfl rfl dX7_isSound_28 ?_
      exact hq _ (Or.inl ⟨rfl, hi⟩)
    | succ m ih =>
      intro e hb hi
      have he : e < n := by omega
      refine ew_iload_n (pc := 2) dX7_isSound_2 rfl ?_
      refine ew_aload_n (pc := 3) dX7_isSound_3 rfl ?_
      refine ew_getf (pc := 4) fX7_9 hs.1 rfl dX7_isSound_4 ?_
      refine ew_icmp_ge (pc := 7) (tgt := 27) dX7_isSound_7 (by decide) (fun c7 => absurd c7 (nI_ge he (by omega))) (fun c7 => ?_)
      refine ew_aload_n (pc := 10) dX7_isSound_10 rfl ?_
      refine ew_iload_n (pc := 11) dX7_isSound_11 rfl ?_
      refine ew_iload_n (pc := 12) dX7_isSound_12 rfl ?_
      refine ew_cV2 (d' := 0) (pc := 13) vX7_36 hs.1 dX7_isSound_13 (by decide) (ew_rm (Nat.le_of_ble_eq_true rfl)) ?_
      refine t_sum hs he he ?_
      refine ew_Kr ?_
      refine ew_if_ge (pc := 16) (tgt := 21) dX7_isSound_16 (by decide) (fun c16 => ?_) (fun c16 => ?_)
      · refine ew_iinc (pc := 21) dX7_isSound_21 rfl (nI_inc e) (by decide) (p1_1 rfl) ?_
        refine ew_goto (pc := 24) (tgt := 2) dX7_isSound_24 (by decide) ?_
        exact ih (e + 1) (by omega) (lt_s hi (fun h9 => absurd c16 (Int32.not_le.mpr h9)))
      · refine ew_iconst (pc := 19) (v := 0) dX7_isSound_19 rfl ?_
        refine ew_zret (pc := 20) (ty := .boolean) rfl rfl dX7_isSound_20 ?_
        exact hq _ (Or.inr ⟨rfl, fun h9 => h9 e he (Int32.not_le.mp c16)⟩)
  refine ew_enter (by decide +kernel) (ew_a1 rfl (ew_an ew_az)) (Nat.le_of_ble_eq_true rfl) ?_
  refine ew_iconst (pc := 0) (v := 0) dX7_isSound_0 rfl ?_
  refine ew_istore_n (pc := 1) dX7_isSound_1 rfl (by decide) (p1_1 rfl) ?_
  exact loop n 0 (by omega) lt_0
/-- one step more -/
def joB (n : Nat) (f : Nat → Int32) (fr to : Nat) (s : Int32) (a : Nat) : Nat → Nat → Int32
  | 0 => f
  | b + 1 => if joB n f fr to s a b (n * to + b) = 100000000 then joB n f fr to s a b else stp n (joB n f fr to s a b) a b (joB n f fr to s a b (n * a + fr) + s + joB n f fr to s a b (n * to + b))
def joA (n : Nat) (f : Nat → Int32) (fr to : Nat) (s : Int32) : Nat → Nat → Int32
  | 0 => f
  | a + 1 => if joA n f fr to s a (n * a + fr) = 100000000 then joA n f fr to s a else joB n (joA n f fr to s a) fr to s a n
theorem l_joinsB {g : eg} {h : eh} {q A n fr to a : Nat} {s : Int32} {f0 : Nat → Int32} {Q : Outcome → eh → Prop} (hs : Sq g h q A n f0) (hf : fr < n) (ht : to < n) (ha : a < n) (f : Nat → Int32) (kx : ew_G g kX7_joins 1 82 [.ref q, .int (nI fr), .int (nI to), .int s, .int (nI a), .int (nI n)] [] (eh_set h A (aI (n * n) (joB n f fr to s a n))) Q) :
    ∀ m b, b + m = n → ew_G g kX7_joins 1 30 [.ref q, .int (nI fr), .int (nI to), .int s, .int (nI a), .int (nI b)] [] (eh_set h A (aI (n * n) (joB n f fr to s a b))) Q := by
  have hn := hs.2.2
  intro m
  induction m with
  | zero =>
    intro b hb
    have e : b = n := by omega
    subst e
    refine ew_iload (pc := 30) dX7_joins_30 rfl ?_
    refine ew_aload_n (pc := 32) dX7_joins_32 rfl ?_
    refine ew_getf (pc := 33) fX7_9 (hs.set _).1 rfl dX7_joins_33 ?_
    refine ew_icmp_ge (pc := 36) (tgt := 82) dX7_joins_36 (by decide) (fun c36 => ?_) (fun c36 => absurd (nI_le (Nat.le_refl _) (by omega)) c36)
    exact kx
  | succ m ih =>
    intro b hb
    have hbn : b < n := by omega
    refine ew_iload (pc := 30) dX7_joins_30 rfl ?_
    refine ew_aload_n (pc := 32) dX7_joins_32 rfl ?_
    refine ew_getf (pc := 33) fX7_9 (hs.set _).1 rfl dX7_joins_33 ?_
    refine ew_icmp_ge (pc := 36) (tgt := 82) dX7_joins_36 (by decide) (fun c36 => absurd c36 (nI_ge hbn (by omega))) (fun c36 => ?_)
    refine ew_aload_n (pc := 39) dX7_joins_39 rfl ?_
    refine ew_iload_n (pc := 40) dX7_joins_40 rfl ?_
    refine ew_iload (pc := 41) dX7_joins_41 rfl ?_
    refine ew_cV2 (d' := 0) (pc := 43) vX7_36 (hs.set _).1 dX7_joins_43 (by decide) (ew_rm (Nat.le_of_ble_eq_true rfl)) ?_
    refine t_sum (hs.set _) ht hbn ?_
    refine ew_Kr ?_
    refine ew_ldc (pc := 46) (v := 100000000) (ew_q q1670) dX7_joins_46 ?_
    refine ew_icmp_eq (pc := 48) (tgt := 76) dX7_joins_48 (by decide) (fun c48 => ?_) (fun c48 => ?_)
    · refine ew_iinc (pc := 76) dX7_joins_76 rfl (nI_inc b) (by decide) (p1_5 rfl) ?_
      refine ew_goto (pc := 79) (tgt := 30) dX7_joins_79 (by decide) ?_
      have e := ih (b + 1) (by omega)
      first | (rw [joB, if_pos c48] at e; exact e) | (rw [joB, if_neg c48] at e; exact e)
    · refine ew_aload_n (pc := 51) dX7_joins_51 rfl ?_
      refine ew_iload (pc := 52) dX7_joins_52 rfl ?_
      refine ew_iload (pc := 54) dX7_joins_54 rfl ?_
      refine ew_aload_n (pc := 56) dX7_joins_56 rfl ?_
      refine ew_iload (pc := 57) dX7_joins_57 rfl ?_
      refine ew_iload_n (pc := 59) dX7_joins_59 rfl ?_
      refine ew_cV2 (d' := 0) (pc := 60) vX7_36 (hs.set _).1 dX7_joins_60 (by decide) (ew_rm (Nat.le_of_ble_eq_true rfl)) ?_
      refine t_sum (hs.set _) ha hf ?_
      refine ew_Kr ?_
      refine ew_iload_n (pc := 63) dX7_joins_63 rfl ?_
      refine ew_iadd (pc := 64) dX7_joins_64 ?_
      refine ew_aload_n (pc := 65) dX7_joins_65 rfl ?_
      refine ew_iload_n (pc := 66) dX7_joins_66 rfl ?_
      refine ew_iload (pc := 67) dX7_joins_67 rfl ?_
      refine ew_cV2 (d' := 0) (pc := 69) vX7_36 (hs.set _).1 dX7_joins_69 (by decide) (ew_rm (Nat.le_of_ble_eq_true rfl)) ?_
      refine t_sum (hs.set _) ht hbn ?_
      refine ew_Kr ?_
      refine ew_iadd (pc := 72) dX7_joins_72 ?_
      refine ew_cV3 (d' := 0) (pc := 73) vX7_39 (hs.set _).1 dX7_joins_73 (by decide) (ew_rm (Nat.le_of_ble_eq_true rfl)) ?_
      refine t_step (hs.set _) ha hbn ?_
      rw [ew_ss]
      refine ew_Kv ?_
      refine ew_iinc (pc := 76) dX7_joins_76 rfl (nI_inc b) (by decide) (p1_5 rfl) ?_
      refine ew_goto (pc := 79) (tgt := 30) dX7_joins_79 (by decide) ?_
      have e := ih (b + 1) (by omega)
      first | (rw [joB, if_pos c48] at e; exact e) | (rw [joB, if_neg c48] at e; exact e)
theorem t_joins {g : eg} {h : eh} {q A n fr to : Nat} {s : Int32} {f : Nat → Int32} {Q : Outcome → eh → Prop} (hs : Sq g h q A n f) (hf : fr < n) (ht : to < n) (hq : Q (.returned none) (eh_set h A (aI (n * n) (joA n f fr to s n)))) : ew_T g kX7_joins 1 [.ref q, .int (nI fr), .int (nI to), .int s] h Q := by
  have hn := hs.2.2
  have loop : ∀ m a x5, a + m = n → ew_G g kX7_joins 1 3 [.ref q, .int (nI fr), .int (nI to), .int s, .int (nI a), x5] [] (eh_set h A (aI (n * n) (joA n f fr to s a))) Q := by
    intro m
    induction m with
    | zero =>
      intro a x5 hb
      have e : a = n := by omega
      subst e
      refine ew_iload (pc := 3) dX7_joins_3 rfl ?_
      refine ew_aload_n (pc := 5) dX7_joins_5 rfl ?_
      refine ew_getf (pc := 6) fX7_9 (hs.set _).1 rfl dX7_joins_6 ?_
      refine ew_icmp_ge (pc := 9) (tgt := 88) dX7_joins_9 (by decide) (fun c9 => ?_) (fun c9 => absurd (nI_le (Nat.le_refl _) (by omega)) c9)
      refine ew_vret (pc := 88) rfl dX7_joins_88 ?_
      exact hq
    | succ m ih =>
      intro a x5 hb
      have ha : a < n := by omega
      have back : ∀ x5, ew_G g kX7_joins 1 82 [.ref q, .int (nI fr), .int (nI to), .int s, .int (nI a), x5] [] (eh_set h A (aI (n * n) (joA n f fr to s (a + 1)))) Q := by
        intro x5
        refine ew_iinc (pc := 82) dX7_joins_82 rfl (nI_inc a) (by decide) (p1_4 rfl) ?_
        refine ew_goto (pc := 85) (tgt := 3) dX7_joins_85 (by decide) ?_
        exact ih (a + 1) _ (by omega)
      rw [joA] at back
      refine ew_iload (pc := 3) dX7_joins_3 rfl ?_
      refine ew_aload_n (pc := 5) dX7_joins_5 rfl ?_
      refine ew_getf (pc := 6) fX7_9 (hs.set _).1 rfl dX7_joins_6 ?_
      refine ew_icmp_ge (pc := 9) (tgt := 88) dX7_joins_9 (by decide) (fun c9 => absurd c9 (nI_ge ha (by omega))) (fun c9 => ?_)
      refine ew_aload_n (pc := 12) dX7_joins_12 rfl ?_
      refine ew_iload (pc := 13) dX7_joins_13 rfl ?_
      refine ew_iload_n (pc := 15) dX7_joins_15 rfl ?_
      refine ew_cV2 (d' := 0) (pc := 16) vX7_36 (hs.set _).1 dX7_joins_16 (by decide) (ew_rm (Nat.le_of_ble_eq_true rfl)) ?_
      refine t_sum (hs.set _) ha hf ?_
      refine ew_Kr ?_
      refine ew_ldc (pc := 19) (v := 100000000) (ew_q q1670) dX7_joins_19 ?_
      refine ew_icmp_ne (pc := 21) (tgt := 27) dX7_joins_21 (by decide) (fun c21 => ?_) (fun c21 => ?_)
      · rw [if_neg c21] at back
        refine ew_iconst (pc := 27) (v := 0) dX7_joins_27 rfl ?_
        refine ew_istore (pc := 28) dX7_joins_28 (by decide) (p1_5 rfl) ?_
        exact l_joinsB hs hf ht ha (joA n f fr to s a) (back _) n 0 (by omega)
      · refine ew_goto (pc := 24) (tgt := 82) dX7_joins_24 (by decide) ?_
        rw [if_pos c21] at back
        exact back _
  have h0 := loop n 0 no_ (by omega)
  rw [joA, ew_sid hs.2.1] at h0
  refine ew_enter (by decide +kernel) (ew_a1 rfl (ew_a1 rfl (ew_a1 rfl (ew_a1 rfl (ew_an (ew_an ew_az)))))) (Nat.le_of_ble_eq_true rfl) ?_
  refine ew_iconst (pc := 0) (v := 0) dX7_joins_0 rfl ?_
  refine ew_istore (pc := 1) dX7_joins_1 (by decide) (p1_4 rfl) ?_
  exact h0
def sqFix (n : Nat) (f : Nat → Int32) (e : Nat) (t : Int32) : Nat → Int32 := joA n (joA n f 0 e t n) e 0 (-t) n
theorem t_fixS {g : eg} {h : eh} {q A n e : Nat} {t : Int32} {f : Nat → Int32} {Q : Outcome → eh → Prop} (hs : Sq g h q A n f) (he : e < n) (hq : Q (.returned none) (eh_set h A (aI (n * n) (sqFix n f e t)))) : ew_T g kX7_fix 2 [.ref q, .int (nI e), .int t] h Q := by
  have hz : 0 < n := by omega
  refine ew_enter (by decide +kernel) (ew_a1 rfl (ew_a1 rfl (ew_a1 rfl ew_az))) (Nat.le_of_ble_eq_true rfl) ?_
  refine ew_aload_n (pc := 0) dX7_fix_0 rfl ?_
  refine ew_iconst (pc := 1) (v := 0) dX7_fix_1 rfl ?_
  refine ew_iload_n (pc := 2) dX7_fix_2 rfl ?_
  refine ew_iload_n (pc := 3) dX7_fix_3 rfl ?_
  refine ew_cV3 (d' := 1) (pc := 4) vX7_43 hs.1 dX7_fix_4 (by decide) (ew_rm (Nat.le_of_ble_eq_true rfl)) ?_
  refine t_joins (fr := 0) hs hz he ?_
  refine ew_Kv ?_
  refine ew_aload_n (pc := 7) dX7_fix_7 rfl ?_
  refine ew_iload_n (pc := 8) dX7_fix_8 rfl ?_
  refine ew_iconst (pc := 9) (v := 0) dX7_fix_9 rfl ?_
  refine ew_iload_n (pc := 10) dX7_fix_10 rfl ?_
  refine ew_ineg (pc := 11) dX7_fix_11 ?_
  refine ew_cV3 (d' := 1) (pc := 12) vX7_43 (hs.set _).1 dX7_fix_12 (by decide) (ew_rm (Nat.le_of_ble_eq_true rfl)) ?_
  refine t_joins (to := 0) (hs.set _) he hz ?_
  rw [ew_ss]
  refine ew_Kv ?_
  refine ew_vret (pc := 15) rfl dX7_fix_15 ?_
  exact hq
theorem t_earliestS {g : eg} {h : eh} {q A n e : Nat} {f : Nat → Int32} {Q : Outcome → eh → Prop} (hs : Sq g h q A n f) (he : e < n) (hq : Q (.returned (some (.int (-f (n * e))))) h) : ew_T g kX7_earliest 1 [.ref q, .int (nI e)] h Q := by
  refine ew_enter (by decide +kernel) (ew_a1 rfl (ew_a1 rfl ew_az)) (Nat.le_of_ble_eq_true rfl) ?_
  refine ew_aload_n (pc := 0) dX7_earliest_0 rfl ?_
  refine ew_iload_n (pc := 1) dX7_earliest_1 rfl ?_
  refine ew_iconst (pc := 2) (v := 0) dX7_earliest_2 rfl ?_
  refine ew_cV2 (d' := 0) (pc := 3) vX7_36 hs.1 dX7_earliest_3 (by decide) (ew_rm (Nat.le_of_ble_eq_true rfl)) ?_
  refine t_sum (b := 0) hs he (by omega) ?_
  rw [Nat.add_zero]
  refine ew_Kr ?_
  refine ew_ineg (pc := 6) dX7_earliest_6 ?_
  refine ew_iret (pc := 7) rfl dX7_earliest_7 ?_
  exact hq
theorem t_latestS {g : eg} {h : eh} {q A n e : Nat} {f : Nat → Int32} {Q : Outcome → eh → Prop} (hs : Sq g h q A n f) (he : e < n) (hq : Q (.returned (some (.int (f e)))) h) : ew_T g kX7_latest 1 [.ref q, .int (nI e)] h Q := by
  refine ew_enter (by decide +kernel) (ew_a1 rfl (ew_a1 rfl ew_az)) (Nat.le_of_ble_eq_true rfl) ?_
  refine ew_aload_n (pc := 0) dX7_latest_0 rfl ?_
  refine ew_iconst (pc := 1) (v := 0) dX7_latest_1 rfl ?_
  refine ew_iload_n (pc := 2) dX7_latest_2 rfl ?_
  refine ew_cV2 (d' := 0) (pc := 3) vX7_36 hs.1 dX7_latest_3 (by decide) (ew_rm (Nat.le_of_ble_eq_true rfl)) ?_
  refine t_sum (a := 0) hs (by omega) he ?_
  rw [Nat.mul_zero, Nat.zero_add]
  refine ew_Kr ?_
  refine ew_iret (pc := 6) rfl dX7_latest_6 ?_
  exact hq
theorem t_hasLatest {g : eg} {h : eh} {q A n e : Nat} {f : Nat → Int32} {Q : Outcome → eh → Prop} (hs : Sq g h q A n f) (he : e < n) (hq : ∀ r : Int32, (r = 1 ∧ f e ≠ 100000000) ∨ (r = 0 ∧ f e = 100000000) → Q (.returned (some (.int r))) h) : ew_T g kX7_hasLatest 2 [.ref q, .int (nI e)] h Q := by
  refine ew_enter (by decide +kernel) (ew_a1 rfl (ew_a1 rfl ew_az)) (Nat.le_of_ble_eq_true rfl) ?_
  refine ew_aload_n (pc := 0) dX7_hasLatest_0 rfl ?_
  refine ew_iload_n (pc := 1) dX7_hasLatest_1 rfl ?_
  refine ew_cV1 (d' := 1) (pc := 2) vX7_46 hs.1 dX7_hasLatest_2 (by decide) (ew_rm (Nat.le_of_ble_eq_true rfl)) ?_
  refine t_latestS hs he ?_
  refine ew_Kr ?_
  refine ew_ldc (pc := 5) (v := 100000000) (ew_q q1670) dX7_hasLatest_5 ?_
  refine ew_icmp_eq (pc := 7) (tgt := 14) dX7_hasLatest_7 (by decide) (fun c7 => ?_) (fun c7 => ?_)
  · refine ew_iconst (pc := 14) (v := 0) dX7_hasLatest_14 rfl ?_
    refine ew_zret (pc := 15) (ty := .boolean) rfl rfl dX7_hasLatest_15 ?_
    exact hq _ (by first | exact Or.inl ⟨rfl, c7⟩ | exact Or.inr ⟨rfl, c7⟩)
  · refine ew_iconst (pc := 10) (v := 1) dX7_hasLatest_10 rfl ?_
    refine ew_goto (pc := 11) (tgt := 15) dX7_hasLatest_11 (by decide) ?_
    refine ew_zret (pc := 15) (ty := .boolean) rfl rfl dX7_hasLatest_15 ?_
    exact hq _ (by first | exact Or.inl ⟨rfl, c7⟩ | exact Or.inr ⟨rfl, c7⟩)
def sqSlack (n : Nat) (f : Nat → Int32) (e : Nat) : Int32 := if f e = 100000000 then -1 else f e - (-f (n * e))
theorem t_slackS {g : eg} {h : eh} {q A n e : Nat} {f : Nat → Int32} {Q : Outcome → eh → Prop} (hs : Sq g h q A n f) (he : e < n) (hq : Q (.returned (some (.int (sqSlack n f e)))) h) : ew_T g kX7_slack 3 [.ref q, .int (nI e)] h Q := by
  refine ew_enter (by decide +kernel) (ew_a1 rfl (ew_a1 rfl ew_az)) (Nat.le_of_ble_eq_true rfl) ?_
  refine ew_aload_n (pc := 0) dX7_slack_0 rfl ?_
  refine ew_iload_n (pc := 1) dX7_slack_1 rfl ?_
  refine ew_cV1 (d' := 2) (pc := 2) vX7_50 hs.1 dX7_slack_2 (by decide) (ew_rm (Nat.le_of_ble_eq_true rfl)) ?_
  refine t_hasLatest hs he (fun r hr => ?_)
  refine ew_Kr ?_
  refine ew_if_eq (pc := 5) (tgt := 22) dX7_slack_5 (by decide) (fun c5 => ?_) (fun c5 => ?_)
  · refine ew_iconst (pc := 22) (v := -1) dX7_slack_22 rfl ?_
    refine ew_iret (pc := 23) rfl dX7_slack_23 ?_
    rcases hr with ⟨h1, h2⟩ | ⟨h1, h2⟩
    · first | exact absurd (h1.symm.trans c5) (by decide) | (rw [sqSlack, if_neg h2] at hq; exact hq)
    · first | exact absurd h1 c5 | (rw [sqSlack, if_pos h2] at hq; exact hq)
  · refine ew_aload_n (pc := 8) dX7_slack_8 rfl ?_
    refine ew_iload_n (pc := 9) dX7_slack_9 rfl ?_
    refine ew_cV1 (d' := 1) (pc := 10) vX7_46 hs.1 dX7_slack_10 (by decide) (ew_rm (Nat.le_of_ble_eq_true rfl)) ?_
    refine t_latestS hs he ?_
    refine ew_Kr ?_
    refine ew_aload_n (pc := 13) dX7_slack_13 rfl ?_
    refine ew_iload_n (pc := 14) dX7_slack_14 rfl ?_
    refine ew_cV1 (d' := 1) (pc := 15) vX7_54 hs.1 dX7_slack_15 (by decide) (ew_rm (Nat.le_of_ble_eq_true rfl)) ?_
    refine t_earliestS hs he ?_
    refine ew_Kr ?_
    refine ew_isub (pc := 18) dX7_slack_18 ?_
    refine ew_goto (pc := 19) (tgt := 23) dX7_slack_19 (by decide) ?_
    refine ew_iret (pc := 23) rfl dX7_slack_23 ?_
    rcases hr with ⟨h1, h2⟩ | ⟨h1, h2⟩
    · first | exact absurd (h1.symm.trans c5) (by decide) | (rw [sqSlack, if_neg h2] at hq; exact hq)
    · first | exact absurd h1 c5 | (rw [sqSlack, if_pos h2] at hq; exact hq)
theorem t_isLike {g : eg} {h : eh} {q A q2 A2 n : Nat} {f f2 : Nat → Int32} {Q : Outcome → eh → Prop} (hs : Sq g h q A n f) (hs2 : Sq g h q2 A2 n f2) (hq : ∀ r : Int32, (r = 1 ∧ ∀ k, k < n * n → f k = f2 k) ∨ (r = 0 ∧ ¬ ∀ k, k < n * n → f k = f2 k) → Q (.returned (some (.int r))) h) : ew_T g kX7_isLike 0 [.ref q, .ref q2] h Q := by
  have hn := hs.2.2
  have hnn := sq_b hn
  have h3 := rd_of (g := g) hs.2.1
  have h4 := rd_of (g := g) hs2.2.1
  have loop : ∀ m e, e + m = n * n → (∀ e', e' < e → f e' = f2 e') → ew_G g kX7_isLike 0 2 [.ref q, .ref q2, .int (nI e)] [] h Q := by
    intro m
    induction m with
    | zero =>
      intro e hb hi
      have e9 : e = n * n := by omega
      subst e9
      refine ew_iload_n (pc := 2) dX7_isLike_2 rfl ?_
      refine ew_aload_n (pc := 3) dX7_isLike_3 rfl ?_
      refine ew_getf (pc := 4) fX7_15 hs.1 rfl dX7_isLike_4 ?_
      refine ew_alen (pc := 7) h3 rfl dX7_isLike_7 ?_
      refine ew_icmp_ge (pc := 8) (tgt := 34) dX7_isLike_8 (by decide) (fun c8 => ?_) (fun c8 => absurd (nI_le (Nat.le_refl _) hnn) c8)
      refine ew_iconst (pc := 34) (v := 1) dX7_isLike_34 rfl ?_
      refine ew_zret (pc := 35) (ty := .boolean) rfl rfl dX7_isLike_35 ?_
      exact hq _ (Or.inl ⟨rfl, hi⟩)
    | succ m ih =>
      intro e hb hi
      have he : e < n * n := by omega
      refine ew_iload_n (pc := 2) dX7_isLike_2 rfl ?_
      refine ew_aload_n (pc := 3) dX7_isLike_3 rfl ?_
      refine ew_getf (pc := 4) fX7_15 hs.1 rfl dX7_isLike_4 ?_
      refine ew_alen (pc := 7) h3 rfl dX7_isLike_7 ?_
      refine ew_icmp_ge (pc := 8) (tgt := 34) dX7_isLike_8 (by decide) (fun c8 => absurd c8 (nI_ge he hnn)) (fun c8 => ?_)
      refine ew_aload_n (pc := 11) dX7_isLike_11 rfl ?_
      refine ew_getf (pc := 12) fX7_15 hs.1 rfl dX7_isLike_12 ?_
      refine ew_iload_n (pc := 15) dX7_isLike_15 rfl ?_
      refine ew_iaJ (pc := 16) h3 (j := e) rfl he hnn dX7_isLike_16 ?_
      refine ew_aload_n (pc := 17) dX7_isLike_17 rfl ?_
      refine ew_getf (pc := 18) fX7_15 hs2.1 rfl dX7_isLike_18 ?_
      refine ew_iload_n (pc := 21) dX7_isLike_21 rfl ?_
      refine ew_iaJ (pc := 22) h4 (j := e) rfl he hnn dX7_isLike_22 ?_
      refine ew_icmp_eq (pc := 23) (tgt := 28) dX7_isLike_23 (by decide) (fun c23 => ?_) (fun c23 => ?_)
      · refine ew_iinc (pc := 28) dX7_isLike_28 rfl (nI_inc e) (by decide) (p1_2 rfl) ?_
        refine ew_goto (pc := 31) (tgt := 2) dX7_isLike_31 (by decide) ?_
        exact ih (e + 1) (by omega) (lt_s hi c23)
      · refine ew_iconst (pc := 26) (v := 0) dX7_isLike_26 rfl ?_
        refine ew_zret (pc := 27) (ty := .boolean) rfl rfl dX7_isLike_27 ?_
        exact hq _ (Or.inr ⟨rfl, fun h9 => c23 (h9 e he)⟩)
  refine ew_enter (by decide +kernel) (ew_a1 rfl (ew_a1 rfl (ew_an ew_az))) (Nat.le_of_ble_eq_true rfl) ?_
  refine ew_iconst (pc := 0) (v := 0) dX7_isLike_0 rfl ?_
  refine ew_istore_n (pc := 1) dX7_isLike_1 rfl (by decide) (p1_2 rfl) ?_
  exact loop (n * n) 0 (by omega) lt_0
theorem t_copiesS {g : eg} {h : eh} {q A q2 A2 n : Nat} {f f2 : Nat → Int32} {Q : Outcome → eh → Prop} (hs : Sq g h q A n f) (hs2 : Sq g h q2 A2 n f2) (hq : Q (.returned none) (eh_set h A (aI (n * n) (va_cpy f2 f 0 0 (n * n))))) : ew_T g kX7_copies 0 [.ref q, .ref q2] h Q := by
  have hn := hs.2.2
  have hnn := sq_b hn
  have h3 := rd_of (g := g) hs.2.1
  have h4 := rd_of (g := g) hs2.2.1
  have e0 : (0 : Int32).toNatClampNeg = 0 := rfl
  have e1 : (Int32.ofNat (n * n)).toNatClampNeg = n * n := nI_clamp hnn
  refine ew_enter (by decide +kernel) (ew_a1 rfl (ew_a1 rfl ew_az)) (Nat.le_of_ble_eq_true rfl) ?_
  refine ew_aload_n (pc := 0) dX7_copies_0 rfl ?_
  refine ew_getf (pc := 1) fX7_15 hs2.1 rfl dX7_copies_1 ?_
  refine ew_iconst (pc := 4) (v := 0) dX7_copies_4 rfl ?_
  refine ew_aload_n (pc := 5) dX7_copies_5 rfl ?_
  refine ew_getf (pc := 6) fX7_15 hs.1 rfl dX7_copies_6 ?_
  refine ew_iconst (pc := 9) (v := 0) dX7_copies_9 rfl ?_
  refine ew_aload_n (pc := 10) dX7_copies_10 rfl ?_
  refine ew_getf (pc := 11) fX7_15 hs.1 rfl dX7_copies_11 ?_
  refine ew_alen (pc := 14) h3 rfl dX7_copies_14 ?_
  refine ew_copyi (pc := 15) (ty := .int) rfl rfl (ew_q q2244) (ew_q q600) (ew_q q599) (ew_q q143) h4 hs.2.1 (by decide) (by decide) (nI_pos hnn) (by rw [e0, e1]; omega) (by rw [e0, e1]; omega) (fun _ _ => rfl) (ew_rm (Nat.le_of_ble_eq_true rfl)) dX7_copies_15 ?_
  rw [e0, e1]
  refine ew_vret (pc := 18) rfl dX7_copies_18 ?_
  exact hq
/-- the heap with a square made at q -/
def sqMade (h : eh) (q n : Nat) : eh := (fun p => if p = h.2.1 then some (aI (n * n) (fun _ => 0)) else if p = q then some (ob 6 [.int (nI n), .ref h.2.1]) else h.1 p, h.2.1 + 1, h.2.2 + n * n)
theorem t_initS {g : eg} {h : eh} {q n : Nat} {Q : Outcome → eh → Prop} (h0 : h.1 q = some (ob 6 [.int 0, .null])) (hlt : q ≠ h.2.1) (hn : n ≤ 10) (hq : Q (.returned none) (sqMade h q n)) : ew_T g kX7_init 1 [.ref q, .int (nI n)] h Q := by
  have hnn := sq_b hn
  have hb : n * n * 4 ≤ 536870912 := by
    have := Nat.mul_le_mul hn hn
    omega
  refine ew_enter (by decide +kernel) (ew_a1 rfl (ew_a1 rfl ew_az)) (Nat.le_of_ble_eq_true rfl) ?_
  refine ew_aload_n (pc := 0) dX7_init_0 rfl ?_
  refine ew_obj (pc := 1) (ew_q q1532) (ew_q q177) (ew_q q178) (ew_rm (Nat.le_of_ble_eq_true rfl)) dX7_init_1 ?_
  refine ew_aload_n (pc := 4) dX7_init_4 rfl ?_
  refine ew_iload_n (pc := 5) dX7_init_5 rfl ?_
  refine ew_putf (pc := 6) pX7_9 h0 st_0 (Nat.le_of_ble_eq_true rfl) rfl rfl (fun _ => rfl) dX7_init_6 ?_
  refine ew_aload_n (pc := 9) dX7_init_9 rfl ?_
  refine ew_iload_n (pc := 10) dX7_init_10 rfl ?_
  refine ew_iload_n (pc := 11) dX7_init_11 rfl ?_
  refine ew_imul (pc := 12) dX7_init_12 ?_
  refine ew_newI (pc := 13) (ew_q q273) (by rw [nI_mul]; exact nI_pos hnn) (by rw [nI_mul]; exact nI_clamp hnn) hb dX7_init_13 ?_
  have h2 : (eh_new (eh_set h q (ob 6 [.int (nI n), .null])) (aI (n * n) (fun _ => 0)) (n * n)).1 q = some (ob 6 [.int (nI n), .null]) := nn_1 (se_1 _ _ _) hlt
  refine ew_putf (pc := 15) pX7_15 h2 st_1 (Nat.le_of_ble_eq_true rfl) rfl rfl (fun _ => rfl) dX7_init_15 ?_
  have e9 : eh_set (eh_new (eh_set h q (ob 6 [.int (nI n), .null])) (aI (n * n) (fun _ => 0)) (n * n)) q (ob 6 [.int (nI n), .ref h.2.1]) = sqMade h q n := by
    simp only [eh_set, eh_new, sqMade]
    congr 1
    funext p
    by_cases h1 : p = q
    · subst h1; simp [hlt]
    · by_cases h3 : p = h.2.1 <;> simp [h1, h3, Ne.symm hlt]
  rw [← e9] at hq
  refine ew_vret (pc := 18) rfl dX7_init_18 ?_
  exact hq
