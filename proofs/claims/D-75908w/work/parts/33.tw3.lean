/-! EW: the reference: bounds -/
set_option maxRecDepth 100000
theorem t_boundOf {g : eg} {h : eh} {t a b : Nat} {σ : tS} {f : Nat → Int32} {Q : Outcome → eh → Prop} (hf : σ.2 29 = f) (ha : a < 10) (hb : b < 10) (hq : Q (.returned (some (.int (f (10 * a + b))))) (tw t σ h)) : ew_T g kX2_boundOf 0 [.ref t, .int (nI a), .int (nI b)] (tw t σ h) Q := by
  subst hf
  refine ew_enter (by decide +kernel) (ew_a1 rfl (ew_a1 rfl (ew_a1 rfl ew_az))) (Nat.le_of_ble_eq_true rfl) ?_
  refine ew_aload_n (pc := 0) dX2_boundOf_0 rfl ?_
  refine tg_g29 (pc := 1) rfl dX2_boundOf_1 ?_
  refine ew_bipush (pc := 4) (v := 10) dX2_boundOf_4 rfl ?_
  refine ew_iload_n (pc := 6) dX2_boundOf_6 rfl ?_
  refine ew_imul (pc := 7) dX2_boundOf_7 ?_
  refine ew_iload_n (pc := 8) dX2_boundOf_8 rfl ?_
  refine ew_iadd (pc := 9) dX2_boundOf_9 ?_
  refine tg_l29 (pc := 10) (j := 10 * a + b) (by rw [show (10 : Int32) = nI 10 from rfl, nI_mul, nI_add]) (by omega) dX2_boundOf_10 ?_
  refine ew_iret (pc := 11) rfl dX2_boundOf_11 ?_
  exact hq
/-- joined by way of m -/
def twJ (f : Nat → Int32) (m a b : Nat) : Nat → Int32 := if f (10 * a + m) < 268435456 ∧ f (10 * m + b) < 268435456 ∧ f (10 * a + m) + f (10 * m + b) < f (10 * a + b) then upd f (10 * a + b) (f (10 * a + m) + f (10 * m + b)) else f
theorem t_joinsT {g : eg} {h : eh} {t a m b : Nat} {σ : tS} {f : Nat → Int32} {Q : Outcome → eh → Prop} (hf : σ.2 29 = f) (ha : a < 10) (hm : m < 10) (hb : b < 10) (hq : Q (.returned none) (tw t (tA σ 29 (twJ f m a b)) h)) : ew_T g kX2_joins 1 [.ref t, .int (nI a), .int (nI m), .int (nI b)] (tw t σ h) Q := by
  have hid : tA σ 29 f = σ := by rw [← hf]; exact tA_id σ 29
  refine ew_enter (by decide +kernel) (ew_a1 rfl (ew_a1 rfl (ew_a1 rfl (ew_a1 rfl (ew_an ew_az))))) (Nat.le_of_ble_eq_true rfl) ?_
  refine ew_aload_n (pc := 0) dX2_joins_0 rfl ?_
  refine ew_iload_n (pc := 1) dX2_joins_1 rfl ?_
  refine ew_iload_n (pc := 2) dX2_joins_2 rfl ?_
  refine ew_cV2 (d' := 0) (pc := 3) vX2_233 (tw_ro _ _ _ _) dX2_joins_3 (by decide) (ew_rm (Nat.le_of_ble_eq_true rfl)) ?_
  refine t_boundOf hf ha hm ?_
  refine ew_Kr ?_
  refine ew_aload_n (pc := 6) dX2_joins_6 rfl ?_
  refine ew_iload_n (pc := 7) dX2_joins_7 rfl ?_
  refine ew_iload_n (pc := 8) dX2_joins_8 rfl ?_
  refine ew_cV2 (d' := 0) (pc := 9) vX2_233 (tw_ro _ _ _ _) dX2_joins_9 (by decide) (ew_rm (Nat.le_of_ble_eq_true rfl)) ?_
  refine t_boundOf hf hm hb ?_
  refine ew_Kr ?_
  refine ew_iadd (pc := 12) dX2_joins_12 ?_
  refine ew_istore (pc := 13) dX2_joins_13 (by decide) (p1_4 rfl) ?_
  refine ew_aload_n (pc := 15) dX2_joins_15 rfl ?_
  refine ew_iload_n (pc := 16) dX2_joins_16 rfl ?_
  refine ew_iload_n (pc := 17) dX2_joins_17 rfl ?_
  refine ew_cV2 (d' := 0) (pc := 18) vX2_233 (tw_ro _ _ _ _) dX2_joins_18 (by decide) (ew_rm (Nat.le_of_ble_eq_true rfl)) ?_
  refine t_boundOf hf ha hm ?_
  refine ew_Kr ?_
  refine ew_ldc (pc := 21) (v := 268435456) (ew_q q2936) dX2_joins_21 ?_
  refine ew_icmp_ge (pc := 23) (tgt := 61) dX2_joins_23 (by decide) (fun c23 => ?_) (fun c23 => ?_)
  · refine ew_vret (pc := 61) rfl dX2_joins_61 ?_
    first
    | rw [twJ, if_pos ⟨Int32.not_le.mp c23, Int32.not_le.mp c34, Int32.not_le.mp c45⟩] at hq
      rw [hf]
      exact hq
    | rw [twJ, if_neg (fun h9 => absurd h9.2.2 (Int32.not_lt.mpr c45)), hid] at hq
      exact hq
    | rw [twJ, if_neg (fun h9 => absurd h9.2.1 (Int32.not_lt.mpr c34)), hid] at hq
      exact hq
    | rw [twJ, if_neg (fun h9 => absurd h9.1 (Int32.not_lt.mpr c23)), hid] at hq
      exact hq
  · refine ew_aload_n (pc := 26) dX2_joins_26 rfl ?_
    refine ew_iload_n (pc := 27) dX2_joins_27 rfl ?_
    refine ew_iload_n (pc := 28) dX2_joins_28 rfl ?_
    refine ew_cV2 (d' := 0) (pc := 29) vX2_233 (tw_ro _ _ _ _) dX2_joins_29 (by decide) (ew_rm (Nat.le_of_ble_eq_true rfl)) ?_
    refine t_boundOf hf hm hb ?_
    refine ew_Kr ?_
    refine ew_ldc (pc := 32) (v := 268435456) (ew_q q2936) dX2_joins_32 ?_
    refine ew_icmp_ge (pc := 34) (tgt := 61) dX2_joins_34 (by decide) (fun c34 => ?_) (fun c34 => ?_)
    · refine ew_vret (pc := 61) rfl dX2_joins_61 ?_
      first
      | rw [twJ, if_pos ⟨Int32.not_le.mp c23, Int32.not_le.mp c34, Int32.not_le.mp c45⟩] at hq
        rw [hf]
        exact hq
      | rw [twJ, if_neg (fun h9 => absurd h9.2.2 (Int32.not_lt.mpr c45)), hid] at hq
        exact hq
      | rw [twJ, if_neg (fun h9 => absurd h9.2.1 (Int32.not_lt.mpr c34)), hid] at hq
        exact hq
      | rw [twJ, if_neg (fun h9 => absurd h9.1 (Int32.not_lt.mpr c23)), hid] at hq
        exact hq
    · refine ew_iload (pc := 37) dX2_joins_37 rfl ?_
      refine ew_aload_n (pc := 39) dX2_joins_39 rfl ?_
      refine ew_iload_n (pc := 40) dX2_joins_40 rfl ?_
      refine ew_iload_n (pc := 41) dX2_joins_41 rfl ?_
      refine ew_cV2 (d' := 0) (pc := 42) vX2_233 (tw_ro _ _ _ _) dX2_joins_42 (by decide) (ew_rm (Nat.le_of_ble_eq_true rfl)) ?_
      refine t_boundOf hf ha hb ?_
      refine ew_Kr ?_
      refine ew_icmp_ge (pc := 45) (tgt := 61) dX2_joins_45 (by decide) (fun c45 => ?_) (fun c45 => ?_)
      · refine ew_vret (pc := 61) rfl dX2_joins_61 ?_
        first
        | rw [twJ, if_pos ⟨Int32.not_le.mp c23, Int32.not_le.mp c34, Int32.not_le.mp c45⟩] at hq
          rw [hf]
          exact hq
        | rw [twJ, if_neg (fun h9 => absurd h9.2.2 (Int32.not_lt.mpr c45)), hid] at hq
          exact hq
        | rw [twJ, if_neg (fun h9 => absurd h9.2.1 (Int32.not_lt.mpr c34)), hid] at hq
          exact hq
        | rw [twJ, if_neg (fun h9 => absurd h9.1 (Int32.not_lt.mpr c23)), hid] at hq
          exact hq
      · refine ew_aload_n (pc := 48) dX2_joins_48 rfl ?_
        refine tg_g29 (pc := 49) rfl dX2_joins_49 ?_
        refine ew_bipush (pc := 52) (v := 10) dX2_joins_52 rfl ?_
        refine ew_iload_n (pc := 54) dX2_joins_54 rfl ?_
        refine ew_imul (pc := 55) dX2_joins_55 ?_
        refine ew_iload_n (pc := 56) dX2_joins_56 rfl ?_
        refine ew_iadd (pc := 57) dX2_joins_57 ?_
        refine ew_iload (pc := 58) dX2_joins_58 rfl ?_
        refine tg_s29 (pc := 60) (j := 10 * a + b) (by rw [show (10 : Int32) = nI 10 from rfl, nI_mul, nI_add]) (by omega) dX2_joins_60 ?_
        refine ew_vret (pc := 61) rfl dX2_joins_61 ?_
        first
        | rw [twJ, if_pos ⟨Int32.not_le.mp c23, Int32.not_le.mp c34, Int32.not_le.mp c45⟩] at hq
          rw [hf]
          exact hq
        | rw [twJ, if_neg (fun h9 => absurd h9.2.2 (Int32.not_lt.mpr c45)), hid] at hq
          exact hq
        | rw [twJ, if_neg (fun h9 => absurd h9.2.1 (Int32.not_lt.mpr c34)), hid] at hq
          exact hq
        | rw [twJ, if_neg (fun h9 => absurd h9.1 (Int32.not_lt.mpr c23)), hid] at hq
          exact hq
def twB (f : Nat → Int32) (m a : Nat) : Nat → Nat → Int32
  | 0 => f
  | b + 1 => twJ (twB f m a b) m a b
def twA (f : Nat → Int32) (n m : Nat) : Nat → Nat → Int32
  | 0 => f
  | a + 1 => twB (twA f n m a) m a n
def twN (f : Nat → Int32) : Nat → Bool
  | 0 => false
  | a + 1 => twN f a || decide (f (10 * a + a) < 0)
theorem twN_up {f : Nat → Int32} {a : Nat} (h : f (10 * a + a) < 0) : ∀ n, a < n → twN f n = true
  | 0, hn => absurd hn (Nat.not_lt_zero _)
  | n + 1, hn => by
    by_cases e : a = n
    · subst e
      simp [twN, h]
    · have := twN_up h n (by omega)
      simp [twN, this]
/-- the rounds from m on, r of them; false where it stopped -/
def twR (n : Nat) : Nat → Nat → (Nat → Int32) → Bool × (Nat → Int32)
  | 0, _, f => (true, f)
  | r + 1, m, f => if twN (twA f n m n) n = true then (false, twA f n m n) else twR n r (m + 1) (twA f n m n)
def bClr (f : Nat → Int32) : Nat → Nat → Int32
  | 0 => f
  | k + 1 => upd (bClr f k) k (if k % 11 = 0 then 0 else 268435456)
def bSt (f : Nat → Int32) (e : ed) : Nat → Int32 := upd f (10 * e.1 + e.2.1) (jmin (f (10 * e.1 + e.2.1)) e.2.2.1)
def bSts (f : Nat → Int32) (E : List ed) : Nat → Int32 := E.foldl bSt f
def tBd (n : Nat) (E : List ed) (f : Nat → Int32) : Bool × (Nat → Int32) := twR n n 0 (bSts (bClr f 100) E)
theorem t_bounds {g : eg} {h : eh} {t : Nat} {σ : tS} {N : Nat → Int32} {E : List ed} {Q : Outcome → eh → Prop} (hN : σ.2 16 = N) (ok : okN N) (hS : Sts σ E) (hE : okE (nE N) E) (hl : E.length < 80)
    (hq : Q (.returned (some (.int (bI ((tBd (nE N) E (σ.2 29)).1 = true))))) (tw t (tA σ 29 (tBd (nE N) E (σ.2 29)).2) h)) : ew_T g kX2_bounds 2 [.ref t] (tw t σ h) Q := by
  have hn1 := ok.e1
  have hn2 := ok.e2
  have lD : ∀ (m : Nat) (f : Nat → Int32) x4, (twN f (nE N) = false → ew_G g kX2_bounds 2 162 [.ref t, .int (nI (nE N)), .int (nI m), .int (nI (nE N)), x4] [] (tw t (tA σ 29 f) h) Q) → (twN f (nE N) = true → Q (.returned (some (.int 0))) (tw t (tA σ 29 f) h)) → ∀ k a, a + k = nE N → twN f a = false → ew_G g kX2_bounds 2 140 [.ref t, .int (nI (nE N)), .int (nI m), .int (nI a), x4] [] (tw t (tA σ 29 f) h) Q := by
    intro m f x4 k1 k2 k
    induction k with
    | zero =>
      intro a ha hn
      have e9 : a = nE N := by omega
      subst e9
      refine ew_iload_n (pc := 140) dX2_bounds_140 rfl ?_
      refine ew_iload_n (pc := 141) dX2_bounds_141 rfl ?_
      refine ew_icmp_ge (pc := 142) (tgt := 162) dX2_bounds_142 (by decide) (fun c142 => ?_) (fun c142 => absurd (nI_le (Nat.le_refl _) (by omega)) c142)
      exact k1 hn
    | succ k ih =>
      intro a ha hn
      refine ew_iload_n (pc := 140) dX2_bounds_140 rfl ?_
      refine ew_iload_n (pc := 141) dX2_bounds_141 rfl ?_
      refine ew_icmp_ge (pc := 142) (tgt := 162) dX2_bounds_142 (by decide) (fun c142 => absurd c142 (nI_ge (by omega) (by omega))) (fun c142 => ?_)
      refine ew_aload_n (pc := 145) dX2_bounds_145 rfl ?_
      refine ew_iload_n (pc := 146) dX2_bounds_146 rfl ?_
      refine ew_iload_n (pc := 147) dX2_bounds_147 rfl ?_
      refine ew_cV2 (d' := 0) (pc := 148) vX2_233 (tw_ro _ _ _ _) dX2_bounds_148 (by decide) (ew_rm (Nat.le_of_ble_eq_true rfl)) ?_
      refine t_boundOf (f := f) rfl (by omega) (by omega) ?_
      refine ew_Kr ?_
      refine ew_if_ge (pc := 151) (tgt := 156) dX2_bounds_151 (by decide) (fun c151 => ?_) (fun c151 => ?_)
      · refine ew_iinc (pc := 156) dX2_bounds_156 rfl (nI_inc a) (by decide) (p1_3 rfl) ?_
        refine ew_goto (pc := 159) (tgt := 140) dX2_bounds_159 (by decide) ?_
        refine ih (a + 1) (by omega) ?_
        rw [twN, hn, Bool.false_or, decide_eq_false_iff_not]
        exact Int32.not_lt.mpr c151
      · refine ew_iconst (pc := 154) (v := 0) dX2_bounds_154 rfl ?_
        refine ew_zret (pc := 155) (ty := .boolean) rfl rfl dX2_bounds_155 ?_
        exact k2 (twN_up (Int32.not_le.mp c151) _ (by omega))
  have lB : ∀ (m a : Nat) (f : Nat → Int32), m < nE N → a < nE N → (ew_G g kX2_bounds 2 132 [.ref t, .int (nI (nE N)), .int (nI m), .int (nI a), .int (nI (nE N))] [] (tw t (tA σ 29 (twB f m a (nE N))) h) Q) → ∀ k b, b + k = nE N → ew_G g kX2_bounds 2 112 [.ref t, .int (nI (nE N)), .int (nI m), .int (nI a), .int (nI b)] [] (tw t (tA σ 29 (twB f m a b)) h) Q := by
    intro m a f hm ha k1 k
    induction k with
    | zero =>
      intro b hb
      have e9 : b = nE N := by omega
      subst e9
      refine ew_iload (pc := 112) dX2_bounds_112 rfl ?_
      refine ew_iload_n (pc := 114) dX2_bounds_114 rfl ?_
      refine ew_icmp_ge (pc := 115) (tgt := 132) dX2_bounds_115 (by decide) (fun c115 => ?_) (fun c115 => absurd (nI_le (Nat.le_refl _) (by omega)) c115)
      exact k1
    | succ k ih =>
      intro b hb
      refine ew_iload (pc := 112) dX2_bounds_112 rfl ?_
      refine ew_iload_n (pc := 114) dX2_bounds_114 rfl ?_
      refine ew_icmp_ge (pc := 115) (tgt := 132) dX2_bounds_115 (by decide) (fun c115 => absurd c115 (nI_ge (by omega) (by omega))) (fun c115 => ?_)
      refine ew_aload_n (pc := 118) dX2_bounds_118 rfl ?_
      refine ew_iload_n (pc := 119) dX2_bounds_119 rfl ?_
      refine ew_iload_n (pc := 120) dX2_bounds_120 rfl ?_
      refine ew_iload (pc := 121) dX2_bounds_121 rfl ?_
      refine ew_cV3 (d' := 1) (pc := 123) vX2_242 (tw_ro _ _ _ _) dX2_bounds_123 (by decide) (ew_rm (Nat.le_of_ble_eq_true rfl)) ?_
      refine t_joinsT rfl (by omega) (by omega) (by omega) ?_
      rw [tA_tA]
      refine ew_Kv ?_
      refine ew_iinc (pc := 126) dX2_bounds_126 rfl (nI_inc b) (by decide) (p1_4 rfl) ?_
      refine ew_goto (pc := 129) (tgt := 112) dX2_bounds_129 (by decide) ?_
      exact ih (b + 1) (by omega)
  have lA : ∀ (m : Nat) (f : Nat → Int32), m < nE N → (∀ x4, ew_G g kX2_bounds 2 138 [.ref t, .int (nI (nE N)), .int (nI m), .int (nI (nE N)), x4] [] (tw t (tA σ 29 (twA f (nE N) m (nE N))) h) Q) → ∀ k a x, a + k = nE N → ew_G g kX2_bounds 2 104 [.ref t, .int (nI (nE N)), .int (nI m), .int (nI a), x] [] (tw t (tA σ 29 (twA f (nE N) m a)) h) Q := by
    intro m f hm k1 k
    induction k with
    | zero =>
      intro a x ha
      have e9 : a = nE N := by omega
      subst e9
      refine ew_iload_n (pc := 104) dX2_bounds_104 rfl ?_
      refine ew_iload_n (pc := 105) dX2_bounds_105 rfl ?_
      refine ew_icmp_ge (pc := 106) (tgt := 138) dX2_bounds_106 (by decide) (fun c106 => ?_) (fun c106 => absurd (nI_le (Nat.le_refl _) (by omega)) c106)
      exact k1 _
    | succ k ih =>
      intro a x ha
      have k2 : ew_G g kX2_bounds 2 132 [.ref t, .int (nI (nE N)), .int (nI m), .int (nI a), .int (nI (nE N))] [] (tw t (tA σ 29 (twB (twA f (nE N) m a) m a (nE N))) h) Q := by
        refine ew_iinc (pc := 132) dX2_bounds_132 rfl (nI_inc a) (by decide) (p1_3 rfl) ?_
        refine ew_goto (pc := 135) (tgt := 104) dX2_bounds_135 (by decide) ?_
        exact ih (a + 1) _ (by omega)
      refine ew_iload_n (pc := 104) dX2_bounds_104 rfl ?_
      refine ew_iload_n (pc := 105) dX2_bounds_105 rfl ?_
      refine ew_icmp_ge (pc := 106) (tgt := 138) dX2_bounds_106 (by decide) (fun c106 => absurd c106 (nI_ge (by omega) (by omega))) (fun c106 => ?_)
      refine ew_iconst (pc := 109) (v := 0) dX2_bounds_109 rfl ?_
      refine ew_istore (pc := 110) dX2_bounds_110 (by decide) (p1_4 rfl) ?_
      exact lB m a _ hm (by omega) k2 (nE N) 0 (by omega)
  have lM : ∀ r m f x3 x4, m + r = nE N → (Q (.returned (some (.int (bI ((twR (nE N) r m f).1 = true))))) (tw t (tA σ 29 (twR (nE N) r m f).2) h)) → ew_G g kX2_bounds 2 97 [.ref t, .int (nI (nE N)), .int (nI m), x3, x4] [] (tw t (tA σ 29 f) h) Q := by
    intro r
    induction r with
    | zero =>
      intro m f x3 x4 hm hq9
      have e9 : m = nE N := by omega
      subst e9
      refine ew_iload_n (pc := 97) dX2_bounds_97 rfl ?_
      refine ew_iload_n (pc := 98) dX2_bounds_98 rfl ?_
      refine ew_icmp_ge (pc := 99) (tgt := 168) dX2_bounds_99 (by decide) (fun c99 => ?_) (fun c99 => absurd (nI_le (Nat.le_refl _) (by omega)) c99)
      refine ew_iconst (pc := 168) (v := 1) dX2_bounds_168 rfl ?_
      refine ew_zret (pc := 169) (ty := .boolean) rfl rfl dX2_bounds_169 ?_
      exact hq9
    | succ r ih =>
      intro m f x3 x4 hm hq9
      rw [twR] at hq9
      have k1 : ∀ x4, ew_G g kX2_bounds 2 138 [.ref t, .int (nI (nE N)), .int (nI m), .int (nI (nE N)), x4] [] (tw t (tA σ 29 (twA f (nE N) m (nE N))) h) Q := by
        intro x4
        have k0 : twN (twA f (nE N) m (nE N)) (nE N) = false → ew_G g kX2_bounds 2 162 [.ref t, .int (nI (nE N)), .int (nI m), .int (nI (nE N)), x4] [] (tw t (tA σ 29 (twA f (nE N) m (nE N))) h) Q := by
          intro h0
          rw [if_neg (by rw [h0]; exact Bool.false_ne_true)] at hq9
          refine ew_iinc (pc := 162) dX2_bounds_162 rfl (nI_inc m) (by decide) (p1_2 rfl) ?_
          refine ew_goto (pc := 165) (tgt := 97) dX2_bounds_165 (by decide) ?_
          exact ih (m + 1) _ _ _ (by omega) hq9
        have k9 : twN (twA f (nE N) m (nE N)) (nE N) = true → Q (.returned (some (.int 0))) (tw t (tA σ 29 (twA f (nE N) m (nE N))) h) := by
          intro h0
          rw [if_pos h0] at hq9
          exact hq9
        refine ew_iconst (pc := 138) (v := 0) dX2_bounds_138 rfl ?_
        refine ew_istore_n (pc := 139) dX2_bounds_139 rfl (by decide) (p1_3 rfl) ?_
        exact lD m _ x4 k0 k9 (nE N) 0 (by omega) rfl
      refine ew_iload_n (pc := 97) dX2_bounds_97 rfl ?_
      refine ew_iload_n (pc := 98) dX2_bounds_98 rfl ?_
      refine ew_icmp_ge (pc := 99) (tgt := 168) dX2_bounds_99 (by decide) (fun c99 => absurd c99 (nI_ge (by omega) (by omega))) (fun c99 => ?_)
      refine ew_iconst (pc := 102) (v := 0) dX2_bounds_102 rfl ?_
      refine ew_istore_n (pc := 103) dX2_bounds_103 rfl (by decide) (p1_3 rfl) ?_
      exact lA m f (by omega) k1 (nE N) 0 _ (by omega)
  have lS : ∀ r i f x2 x3 x4, i + r = E.length → (Q (.returned (some (.int (bI ((twR (nE N) (nE N) 0 (bSts f (E.drop i))).1 = true))))) (tw t (tA σ 29 (twR (nE N) (nE N) 0 (bSts f (E.drop i))).2) h)) → ew_G g kX2_bounds 2 38 [.ref t, .int (nI i), x2, x3, x4] [] (tw t (tA σ 29 f) h) Q := by
    intro r
    induction r with
    | zero =>
      intro i f x2 x3 x4 hi hq9
      rw [List.drop_of_length_le (by omega)] at hq9
      refine ew_iload_n (pc := 38) dX2_bounds_38 rfl ?_
      refine ew_aload_n (pc := 39) dX2_bounds_39 rfl ?_
      refine tg_g28 (pc := 40) rfl dX2_bounds_40 ?_
      rw [show (tA σ 29 f).1 28 = nI E.length from hS.1]
      refine ew_icmp_ge (pc := 43) (tgt := 90) dX2_bounds_43 (by decide) (fun c43 => ?_) (fun c43 => absurd (nI_le (by omega) (by omega)) c43)
      refine ew_aload_n (pc := 90) dX2_bounds_90 rfl ?_
      refine ew_cV0 (d' := 0) (pc := 91) vX2_230 (tw_ro _ _ _ _) dX2_bounds_91 (by decide) (ew_rm (Nat.le_of_ble_eq_true rfl)) ?_
      refine t_eventsN (N := N) hN ok ?_
      refine ew_Kr ?_
      refine ew_istore_n (pc := 94) dX2_bounds_94 rfl (by decide) (p1_1 rfl) ?_
      refine ew_iconst (pc := 95) (v := 0) dX2_bounds_95 rfl ?_
      refine ew_istore_n (pc := 96) dX2_bounds_96 rfl (by decide) (p1_2 rfl) ?_
      exact lM (nE N) 0 f _ _ (by omega) hq9
    | succ r ih =>
      intro i f x2 x3 x4 hi hq9
      have hlt : i < E.length := by omega
      have he := List.getElem?_eq_getElem hlt
      have h1 := hS.2 i _ he
      have h2 := hE i _ he
      rw [List.drop_eq_getElem_cons hlt] at hq9
      have e2 : (10 : Int32) * σ.2 23 i + σ.2 24 i = nI (10 * (E[i]).1 + (E[i]).2.1) := by
        rw [h1.1, h1.2.1, show (10 : Int32) = nI 10 from rfl, nI_mul, nI_add]
      refine ew_iload_n (pc := 38) dX2_bounds_38 rfl ?_
      refine ew_aload_n (pc := 39) dX2_bounds_39 rfl ?_
      refine tg_g28 (pc := 40) rfl dX2_bounds_40 ?_
      rw [show (tA σ 29 f).1 28 = nI E.length from hS.1]
      refine ew_icmp_ge (pc := 43) (tgt := 90) dX2_bounds_43 (by decide) (fun c43 => absurd c43 (nI_ge (by omega) (by omega))) (fun c43 => ?_)
      refine ew_bipush (pc := 46) (v := 10) dX2_bounds_46 rfl ?_
      refine ew_aload_n (pc := 48) dX2_bounds_48 rfl ?_
      refine tg_g23 (pc := 49) rfl dX2_bounds_49 ?_
      refine ew_iload_n (pc := 52) dX2_bounds_52 rfl ?_
      refine tg_l23 (pc := 53) (j := i) rfl (by omega) dX2_bounds_53 ?_
      refine ew_imul (pc := 54) dX2_bounds_54 ?_
      refine ew_aload_n (pc := 55) dX2_bounds_55 rfl ?_
      refine tg_g24 (pc := 56) rfl dX2_bounds_56 ?_
      refine ew_iload_n (pc := 59) dX2_bounds_59 rfl ?_
      refine tg_l24 (pc := 60) (j := i) rfl (by omega) dX2_bounds_60 ?_
      refine ew_iadd (pc := 61) dX2_bounds_61 ?_
      rw [show (10 : Int32) * (tA σ 29 f).2 23 i + (tA σ 29 f).2 24 i = nI (10 * (E[i]).1 + (E[i]).2.1) from e2]
      refine ew_istore_n (pc := 62) dX2_bounds_62 rfl (by decide) (p1_2 rfl) ?_
      refine ew_aload_n (pc := 63) dX2_bounds_63 rfl ?_
      refine tg_g29 (pc := 64) rfl dX2_bounds_64 ?_
      refine ew_iload_n (pc := 67) dX2_bounds_67 rfl ?_
      refine ew_aload_n (pc := 68) dX2_bounds_68 rfl ?_
      refine tg_g29 (pc := 69) rfl dX2_bounds_69 ?_
      refine ew_iload_n (pc := 72) dX2_bounds_72 rfl ?_
      refine tg_l29 (pc := 73) (j := 10 * (E[i]).1 + (E[i]).2.1) rfl (by omega) dX2_bounds_73 ?_
      refine ew_aload_n (pc := 74) dX2_bounds_74 rfl ?_
      refine tg_g25 (pc := 75) rfl dX2_bounds_75 ?_
      refine ew_iload_n (pc := 78) dX2_bounds_78 rfl ?_
      refine tg_l25 (pc := 79) (j := i) rfl (by omega) dX2_bounds_79 ?_
      refine ew_mmin (pc := 80) (ew_q q2937) (ew_q q596) (ew_q q141) (ew_q q597) (ew_rm (Nat.le_of_ble_eq_true rfl)) dX2_bounds_80 ?_
      refine tg_s29 (pc := 83) (j := 10 * (E[i]).1 + (E[i]).2.1) rfl (by omega) dX2_bounds_83 ?_
      rw [tA_tA]
      refine ew_iinc (pc := 84) dX2_bounds_84 rfl (nI_inc i) (by decide) (p1_1 rfl) ?_
      refine ew_goto (pc := 87) (tgt := 38) dX2_bounds_87 (by decide) ?_
      refine ih (i + 1) _ _ _ _ (by omega) ?_
      rw [show (tA σ 29 f).2 25 i = (E[i]).2.2.1 from h1.2.2.1]
      exact hq9
  have lC : ∀ r k f x2 x3 x4, k + r = 100 → (Q (.returned (some (.int (bI ((twR (nE N) (nE N) 0 (bSts (bClr f 100) E)).1 = true))))) (tw t (tA σ 29 (twR (nE N) (nE N) 0 (bSts (bClr f 100) E)).2) h)) → ew_G g kX2_bounds 2 2 [.ref t, .int (nI k), x2, x3, x4] [] (tw t (tA σ 29 (bClr f k)) h) Q := by
    intro r
    induction r with
    | zero =>
      intro k f x2 x3 x4 hk hq9
      have e9 : k = 100 := by omega
      subst e9
      refine ew_iload_n (pc := 2) dX2_bounds_2 rfl ?_
      refine ew_aload_n (pc := 3) dX2_bounds_3 rfl ?_
      refine tg_g29 (pc := 4) rfl dX2_bounds_4 ?_
      refine tg_n29 (pc := 7) dX2_bounds_7 ?_
      refine ew_icmp_ge (pc := 8) (tgt := 36) dX2_bounds_8 (by decide) (fun c8 => ?_) (fun c8 => absurd (nI_le (Nat.le_refl 100) (by decide)) c8)
      refine ew_iconst (pc := 36) (v := 0) dX2_bounds_36 rfl ?_
      refine ew_istore_n (pc := 37) dX2_bounds_37 rfl (by decide) (p1_1 rfl) ?_
      exact lS E.length 0 _ _ _ _ (by omega) hq9
    | succ r ih =>
      intro k f x2 x3 x4 hk hq9
      have hr : nI k - nI k / 11 * 11 = nI (k % 11) := nI_rem (b := 11) (by omega) (by decide) (by decide)
      refine ew_iload_n (pc := 2) dX2_bounds_2 rfl ?_
      refine ew_aload_n (pc := 3) dX2_bounds_3 rfl ?_
      refine tg_g29 (pc := 4) rfl dX2_bounds_4 ?_
      refine tg_n29 (pc := 7) dX2_bounds_7 ?_
      refine ew_icmp_ge (pc := 8) (tgt := 36) dX2_bounds_8 (by decide) (fun c8 => absurd c8 (nI_ge (b := 100) (by omega) (by decide))) (fun c8 => ?_)
      refine ew_aload_n (pc := 11) dX2_bounds_11 rfl ?_
      refine tg_g29 (pc := 12) rfl dX2_bounds_12 ?_
      refine ew_iload_n (pc := 15) dX2_bounds_15 rfl ?_
      refine ew_iload_n (pc := 16) dX2_bounds_16 rfl ?_
      refine ew_bipush (pc := 17) (v := 11) dX2_bounds_17 rfl ?_
      refine ew_irem (pc := 19) dX2_bounds_19 (by decide) ?_
      rw [hr]
      refine ew_if_ne (pc := 20) (tgt := 27) dX2_bounds_20 (by decide) (fun c20 => ?_) (fun c20 => ?_)
      · refine ew_ldc (pc := 27) (v := 268435456) (ew_q q2936) dX2_bounds_27 ?_
        refine tg_s29 (pc := 29) (j := k) rfl (by omega) dX2_bounds_29 ?_
        rw [tA_tA]
        refine ew_iinc (pc := 30) dX2_bounds_30 rfl (nI_inc k) (by decide) (p1_1 rfl) ?_
        refine ew_goto (pc := 33) (tgt := 2) dX2_bounds_33 (by decide) ?_
        have e := ih (k + 1) f x2 x3 x4 (by omega) hq9
        first
        | rw [bClr, if_pos ((nI_z (by omega)).mp c20)] at e
          exact e
        | rw [bClr, if_neg (fun h9 => c20 ((nI_z (by omega)).mpr h9))] at e
          exact e
      · refine ew_iconst (pc := 23) (v := 0) dX2_bounds_23 rfl ?_
        refine ew_goto (pc := 24) (tgt := 29) dX2_bounds_24 (by decide) ?_
        refine tg_s29 (pc := 29) (j := k) rfl (by omega) dX2_bounds_29 ?_
        rw [tA_tA]
        refine ew_iinc (pc := 30) dX2_bounds_30 rfl (nI_inc k) (by decide) (p1_1 rfl) ?_
        refine ew_goto (pc := 33) (tgt := 2) dX2_bounds_33 (by decide) ?_
        have e := ih (k + 1) f x2 x3 x4 (by omega) hq9
        first
        | rw [bClr, if_pos ((nI_z (by omega)).mp c20)] at e
          exact e
        | rw [bClr, if_neg (fun h9 => c20 ((nI_z (by omega)).mpr h9))] at e
          exact e
  refine ew_enter (by decide +kernel) (ew_a1 rfl (ew_an (ew_an (ew_an (ew_an ew_az))))) (Nat.le_of_ble_eq_true rfl) ?_
  refine ew_iconst (pc := 0) (v := 0) dX2_bounds_0 rfl ?_
  refine ew_istore_n (pc := 1) dX2_bounds_1 rfl (by decide) (p1_1 rfl) ?_
  have e := lC 100 0 (σ.2 29) no_ no_ no_ (by omega) hq
  rw [bClr, tA_id] at e
  exact e
