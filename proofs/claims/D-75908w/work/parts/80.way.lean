/-! EW: ways by numbers of steps -/
set_option maxRecDepth 100000
/-- sums of just k steps to b, as the component finds them -/
def xcP (r : Nat → Int32) (L : List ed) (a : Nat) : Int32 := L.foldl (fun x e => if e.1 = a ∧ ¬ r e.2.1 = 100000000 then jmin x (e.2.2.1 + r e.2.1) else x) 100000000
def xcR (es : List ed) (b : Nat) : Nat → Nat → Int32
  | 0, a => if a = b then 0 else 100000000
  | k + 1, a => xcP (xcR es b k) es a
theorem xcP_snoc (r : Nat → Int32) (L : List ed) (e : ed) (a : Nat) : xcP r (L ++ [e]) a = if e.1 = a ∧ ¬ r e.2.1 = 100000000 then jmin (xcP r L a) (e.2.2.1 + r e.2.1) else xcP r L a := by
  simp only [xcP, List.foldl_append, List.foldl_cons, List.foldl_nil]
theorem ix_lt {n m' m e' : Nat} (h : m' < m) (he : e' < n) : n * m' + e' < n * m := by
  have h1 : n * (m' + 1) ≤ n * m := Nat.mul_le_mul_left n h
  rw [Nat.mul_add, Nat.mul_one] at h1
  omega
theorem ix_in {n m e : Nat} (h : m ≤ n) (he : e < n) : n * m + e < (n + 1) * n := by
  have h1 := ix_lt (n := n) (m' := m) (m := n + 1) (by omega) he
  rw [Nat.mul_comm (n + 1) n]
  exact h1
theorem ix_b {n : Nat} (h : n ≤ 10) : (n + 1) * n ≤ 110 := by
  have h1 : (n + 1) * n ≤ 11 * 10 := Nat.mul_le_mul (by omega) h
  exact h1
/-- ways: n events, the steps, the array of sums -/
def WyR (g : eg) (h : eh) (w n K E A : Nat) (xs : List Nat) (es : List ed) (G : Nat → Int32) : Prop := h.1 w = some (ob 8 [.ref K, .int (nI n), .ref A]) ∧ StL g h K E xs es ∧ h.1 A = some (aI ((n + 1) * n) G) ∧ n ≤ 10 ∧ okE n es
theorem WyR.set {g : eg} {h : eh} {w n K E A : Nat} {xs : List Nat} {es : List ed} {G : Nat → Int32} (r : WyR g h w n K E A xs es G) (G2 : Nat → Int32) : WyR g (eh_set h A (aI ((n + 1) * n) G2)) w n K E A xs es G2 := ⟨sn_1 r.1 (rd_ob (rd_of (g := g) r.1) r.2.2.1), r.2.1.setI r.2.2.1, se_1 _ _ _, r.2.2.2⟩
section
variable {g : eg} {h : eh} {w n K E A : Nat} {xs : List Nat} {es : List ed} {G : Nat → Int32} {Q : Outcome → eh → Prop}
theorem WyR.l (r : WyR g h w n K E A xs es G) : ∃ mc, h.1 K = some (ob 19 [.int mc, .ref E, .int (nI xs.length)]) := r.2.1.1.elim fun mc h1 => h1.elim fun cap h2 => h2.elim fun f h3 => ⟨mc, h3.1⟩
theorem WyR.at {i : Nat} (r : WyR g h w n K E A xs es G) (hi : i < es.length) : ∃ x, xs[i]? = some x ∧ h.1 x = some (eO es[i]) ∧ es[i].1 < n ∧ es[i].2.1 < n := by
  have hx := List.getElem?_eq_getElem (l := xs) (i := i) (by rw [r.2.1.2.1]; exact hi)
  have he := List.getElem?_eq_getElem hi
  exact ⟨_, hx, r.2.1.2.2 i _ _ hx he, r.2.2.2.2 i _ he⟩
theorem t_wySum {m e : Nat} (r : WyR g h w n K E A xs es G) (hm : m ≤ n) (he : e < n) (hq : Q (.returned (some (.int (G (n * m + e))))) h) : ew_T g kX9_sum 0 [.ref w, .int (nI m), .int (nI e)] h Q := by
  have hb := ix_b r.2.2.2.1
  refine ew_enter (by decide +kernel) (ew_a1 rfl (ew_a1 rfl (ew_a1 rfl ew_az))) (Nat.le_of_ble_eq_true rfl) ?_
  refine ew_aload_n (pc := 0) dX9_sum_0 rfl ?_
  refine ew_getf (pc := 1) fX9_24 (rd_of r.1) rfl dX9_sum_1 ?_
  refine ew_aload_n (pc := 4) dX9_sum_4 rfl ?_
  refine ew_getf (pc := 5) fX9_21 (rd_of r.1) rfl dX9_sum_5 ?_
  refine ew_iload_n (pc := 8) dX9_sum_8 rfl ?_
  refine ew_imul (pc := 9) dX9_sum_9 ?_
  refine ew_iload_n (pc := 10) dX9_sum_10 rfl ?_
  refine ew_iadd (pc := 11) dX9_sum_11 ?_
  refine ew_iaJ (pc := 12) (rd_of r.2.2.1) (j := n * m + e) (by rw [nI_mul, nI_add]) (ix_in hm he) (by omega) dX9_sum_12 ?_
  refine ew_iret (pc := 13) rfl dX9_sum_13 ?_
  exact hq
theorem t_wyTo {b : Nat} (r : WyR g h w n K E A xs es G) (hl : es.length < 100) (hb : b < n) (hq : ∀ G', (∀ m e, m ≤ n → e < n → G' (n * m + e) = xcR es b m e) → Q (.returned none) (eh_set h A (aI ((n + 1) * n) G'))) : ew_T g kX9_to 3 [.ref w, .int (nI b)] h Q := by
  have hn := r.2.2.2.1
  have hbd := ix_b hn
  have lM : ∀ q m G1 x3 x4 x5 x6, m + q = n + 1 → (∀ m' e, m' < m → e < n → G1 (n * m' + e) = xcR es b m' e) → 1 ≤ m → ew_G g kX9_to 3 35 [.ref w, .int (nI b), .int (nI m), x3, x4, x5, x6] [] (eh_set h A (aI ((n + 1) * n) G1)) Q := by
    intro q
    induction q with
    | zero =>
      intro m G1 x3 x4 x5 x6 hk hI h1
      have r2 := r.set G1
      refine ew_iload_n (pc := 35) dX9_to_35 rfl ?_
      refine ew_aload_n (pc := 36) dX9_to_36 rfl ?_
      refine ew_getf (pc := 37) fX9_21 (rd_of r2.1) rfl dX9_to_37 ?_
      refine ew_icmp_gt (pc := 40) (tgt := 176) dX9_to_40 (by decide) (fun c40 => ?_) (fun c40 => absurd (nI_lt (by omega) (by omega)) c40)
      refine ew_vret (pc := 176) rfl dX9_to_176 ?_
      exact hq G1 (fun m' e h8 h9 => hI m' e (by omega) h9)
    | succ q ih =>
      intro m G1 x3 x4 x5 x6 hk hI h1
      have lS : ∀ p k G2 x4 x5 x6, k + p = es.length → (∀ m' e, m' < m → e < n → G2 (n * m' + e) = xcR es b m' e) → (∀ e, e < n → G2 (n * m + e) = xcP (xcR es b (m - 1)) (es.take k) e) → ew_G g kX9_to 3 76 [.ref w, .int (nI b), .int (nI m), .int (nI k), x4, x5, x6] [] (eh_set h A (aI ((n + 1) * n) G2)) Q := by
        intro p
        induction p with
        | zero =>
          intro k G2 x4 x5 x6 hkl hI2 hC
          have e9 : k = es.length := by omega
          subst e9
          have r2 := r.set G2
          obtain ⟨mc, hKl⟩ := r2.l
          refine ew_iload_n (pc := 76) dX9_to_76 rfl ?_
          refine ew_aload_n (pc := 77) dX9_to_77 rfl ?_
          refine ew_getf (pc := 78) fX9_9 (rd_of r2.1) rfl dX9_to_78 ?_
          refine ew_cF0 (d' := 0) (pc := 81) tX9_29_19 (rd_of hKl) dX9_to_81 (by decide) (ew_rm (Nat.le_of_ble_eq_true rfl)) ?_
          refine t_alSize r2.2.1.1 ?_
          rw [r2.2.1.2.1]
          refine ew_Kr ?_
          refine ew_icmp_ge (pc := 86) (tgt := 170) dX9_to_86 (by decide) (fun c86 => ?_) (fun c86 => absurd (nI_le (Nat.le_refl _) (by omega)) c86)
          refine ew_iinc (pc := 170) dX9_to_170 rfl (nI_inc m) (by decide) (p1_2 rfl) ?_
          refine ew_goto (pc := 173) (tgt := 35) dX9_to_173 (by decide) ?_
          refine ih (m + 1) G2 _ _ _ _ (by omega) (fun m' e h8 h9 => ?_) (by omega)
          by_cases e9 : m' = m
          · rw [e9, hC e h9, List.take_length]
            obtain ⟨i, hi⟩ : ∃ i, m = i + 1 := ⟨m - 1, by omega⟩
            rw [hi]
            rfl
          · exact hI2 m' e (by omega) h9
        | succ p ihp =>
          intro k G2 x4 x5 x6 hkl hI2 hC
          have hk : k < es.length := by omega
          have r2 := r.set G2
          obtain ⟨mc, hKl⟩ := r2.l
          obtain ⟨x, hx, hxo, hf, ht⟩ := r2.at hk
          have hbe := hI2 (m - 1) es[k].2.1 (by omega) ht
          have hce := hC es[k].1 hf
          have htk : es.take (k + 1) = es.take k ++ [es[k]] := List.take_succ_eq_append_getElem hk
          refine ew_iload_n (pc := 76) dX9_to_76 rfl ?_
          refine ew_aload_n (pc := 77) dX9_to_77 rfl ?_
          refine ew_getf (pc := 78) fX9_9 (rd_of r2.1) rfl dX9_to_78 ?_
          refine ew_cF0 (d' := 0) (pc := 81) tX9_29_19 (rd_of hKl) dX9_to_81 (by decide) (ew_rm (Nat.le_of_ble_eq_true rfl)) ?_
          refine t_alSize r2.2.1.1 ?_
          rw [r2.2.1.2.1]
          refine ew_Kr ?_
          refine ew_icmp_ge (pc := 86) (tgt := 170) dX9_to_86 (by decide) (fun c86 => absurd c86 (nI_ge hk (by omega))) (fun c86 => ?_)
          refine ew_aload_n (pc := 89) dX9_to_89 rfl ?_
          refine ew_getf (pc := 90) fX9_9 (rd_of r2.1) rfl dX9_to_90 ?_
          refine ew_iload_n (pc := 93) dX9_to_93 rfl ?_
          refine ew_cF1 (d' := 2) (pc := 94) tX9_34_19 (rd_of hKl) dX9_to_94 (by decide) (ew_rm (Nat.le_of_ble_eq_true rfl)) ?_
          refine t_alGet r2.2.1.1 hx ?_
          refine ew_Kr ?_
          refine ew_cast (pc := 99) rfl (rd_of hxo) (ew_q q1791) (Or.inl rfl) dX9_to_99 ?_
          first | refine ew_astore (pc := 102) dX9_to_102 (by decide) (p1_4 rfl) ?_ | refine ew_astoreq (pc := 102) dX9_to_102 (by decide) (p1_4 rfl) ?_ | refine ew_astoreN (pc := 102) dX9_to_102 (by decide) (p1_4 rfl) ?_
          refine ew_aload_n (pc := 104) dX9_to_104 rfl ?_
          refine ew_iload_n (pc := 105) dX9_to_105 rfl ?_
          refine ew_iconst (pc := 106) (v := 1) dX9_to_106 rfl ?_
          refine ew_isub (pc := 107) dX9_to_107 ?_
          rw [nI_sub1 h1]
          refine ew_aload (pc := 108) dX9_to_108 rfl ?_
          refine ew_getf (pc := 110) fX9_40 (rd_of hxo) rfl dX9_to_110 ?_
          refine ew_cV2 (d' := 0) (pc := 113) vX9_43 (rd_of r2.1) dX9_to_113 (by decide) (ew_rm (Nat.le_of_ble_eq_true rfl)) ?_
          refine t_wySum r2 (by omega) ht ?_
          rw [hbe]
          refine ew_Kr ?_
          refine ew_istore (pc := 116) dX9_to_116 (by decide) (p1_5 rfl) ?_
          refine ew_aload_n (pc := 118) dX9_to_118 rfl ?_
          refine ew_getf (pc := 119) fX9_21 (rd_of r2.1) rfl dX9_to_119 ?_
          refine ew_iload_n (pc := 122) dX9_to_122 rfl ?_
          refine ew_imul (pc := 123) dX9_to_123 ?_
          refine ew_aload (pc := 124) dX9_to_124 rfl ?_
          refine ew_getf (pc := 126) fX9_47 (rd_of hxo) rfl dX9_to_126 ?_
          refine ew_iadd (pc := 129) dX9_to_129 ?_
          rw [nI_mul, nI_add]
          refine ew_istore (pc := 130) dX9_to_130 (by decide) (p1_6 rfl) ?_
          refine ew_iload (pc := 132) dX9_to_132 rfl ?_
          refine ew_ldc (pc := 134) (v := 100000000) (ew_q q1786) dX9_to_134 ?_
          refine ew_icmp_eq (pc := 136) (tgt := 164) dX9_to_136 (by decide) (fun c136 => ?_) (fun c136 => ?_)
          · try rw [ew_ss]
            refine ew_iinc (pc := 164) dX9_to_164 rfl (nI_inc k) (by decide) (p1_3 rfl) ?_
            refine ew_goto (pc := 167) (tgt := 76) dX9_to_167 (by decide) ?_
            first
            | refine ihp (k + 1) G2 _ _ _ (by omega) hI2 (fun e h9 => ?_)
              rw [hC e h9, htk, xcP_snoc, if_neg (fun h8 => h8.2 c136)]
            | refine ihp (k + 1) _ _ _ _ (by omega) (fun m' e h8 h9 => ?_) (fun e h9 => ?_)
              · rw [upd, if_neg (by have := ix_lt (n := n) h8 h9; omega)]
                exact hI2 m' e h8 h9
              · rw [htk, xcP_snoc]
                by_cases e8 : es[k].1 = e
                · subst e8
                  rw [upd, if_pos rfl, if_pos ⟨rfl, c136⟩, hce]
                · rw [upd, if_neg (by omega), if_neg (fun h8 => e8 h8.1)]
                  exact hC e h9
          · refine ew_aload_n (pc := 139) dX9_to_139 rfl ?_
            refine ew_getf (pc := 140) fX9_24 (rd_of r2.1) rfl dX9_to_140 ?_
            refine ew_iload (pc := 143) dX9_to_143 rfl ?_
            refine ew_aload_n (pc := 145) dX9_to_145 rfl ?_
            refine ew_getf (pc := 146) fX9_24 (rd_of r2.1) rfl dX9_to_146 ?_
            refine ew_iload (pc := 149) dX9_to_149 rfl ?_
            refine ew_iaJ (pc := 151) (rd_of r2.2.2.1) (j := n * m + es[k].1) rfl (ix_in (by omega) hf) (by omega) dX9_to_151 ?_
            refine ew_aload (pc := 152) dX9_to_152 rfl ?_
            refine ew_getf (pc := 154) fX9_50 (rd_of hxo) rfl dX9_to_154 ?_
            refine ew_iload (pc := 157) dX9_to_157 rfl ?_
            refine ew_iadd (pc := 159) dX9_to_159 ?_
            refine ew_mmin (pc := 160) (ew_q q1796) (ew_q q596) (ew_q q141) (ew_q q597) (ew_rm (Nat.le_of_ble_eq_true rfl)) dX9_to_160 ?_
            refine ew_iaS (pc := 163) r2.2.2.1 (j := n * m + es[k].1) rfl (ix_in (by omega) hf) (by omega) dX9_to_163 ?_
            try rw [ew_ss]
            refine ew_iinc (pc := 164) dX9_to_164 rfl (nI_inc k) (by decide) (p1_3 rfl) ?_
            refine ew_goto (pc := 167) (tgt := 76) dX9_to_167 (by decide) ?_
            first
            | refine ihp (k + 1) G2 _ _ _ (by omega) hI2 (fun e h9 => ?_)
              rw [hC e h9, htk, xcP_snoc, if_neg (fun h8 => h8.2 c136)]
            | refine ihp (k + 1) _ _ _ _ (by omega) (fun m' e h8 h9 => ?_) (fun e h9 => ?_)
              · rw [upd, if_neg (by have := ix_lt (n := n) h8 h9; omega)]
                exact hI2 m' e h8 h9
              · rw [htk, xcP_snoc]
                by_cases e8 : es[k].1 = e
                · subst e8
                  rw [upd, if_pos rfl, if_pos ⟨rfl, c136⟩, hce]
                · rw [upd, if_neg (by omega), if_neg (fun h8 => e8 h8.1)]
                  exact hC e h9
      have lF : ∀ p k G2 x4 x5 x6, k + p = n → (∀ m' e, m' < m → e < n → G2 (n * m' + e) = xcR es b m' e) → (∀ e, e < k → G2 (n * m + e) = 100000000) → ew_G g kX9_to 3 45 [.ref w, .int (nI b), .int (nI m), .int (nI k), x4, x5, x6] [] (eh_set h A (aI ((n + 1) * n) G2)) Q := by
        intro p
        induction p with
        | zero =>
          intro k G2 x4 x5 x6 hkl hI2 hC
          have e9 : k = n := by omega
          subst e9
          have r2 := r.set G2
          refine ew_iload_n (pc := 45) dX9_to_45 rfl ?_
          refine ew_aload_n (pc := 46) dX9_to_46 rfl ?_
          refine ew_getf (pc := 47) fX9_21 (rd_of r2.1) rfl dX9_to_47 ?_
          refine ew_icmp_ge (pc := 50) (tgt := 74) dX9_to_50 (by decide) (fun c50 => ?_) (fun c50 => absurd (nI_le (Nat.le_refl _) (by omega)) c50)
          refine ew_iconst (pc := 74) (v := 0) dX9_to_74 rfl ?_
          refine ew_istore_n (pc := 75) dX9_to_75 rfl (by decide) (p1_3 rfl) ?_
          exact lS es.length 0 G2 _ _ _ (by omega) hI2 (fun e h9 => hC e h9)
        | succ p ihp =>
          intro k G2 x4 x5 x6 hkl hI2 hC
          have r2 := r.set G2
          refine ew_iload_n (pc := 45) dX9_to_45 rfl ?_
          refine ew_aload_n (pc := 46) dX9_to_46 rfl ?_
          refine ew_getf (pc := 47) fX9_21 (rd_of r2.1) rfl dX9_to_47 ?_
          refine ew_icmp_ge (pc := 50) (tgt := 74) dX9_to_50 (by decide) (fun c50 => absurd c50 (nI_ge (by omega) (by omega))) (fun c50 => ?_)
          refine ew_aload_n (pc := 53) dX9_to_53 rfl ?_
          refine ew_getf (pc := 54) fX9_24 (rd_of r2.1) rfl dX9_to_54 ?_
          refine ew_aload_n (pc := 57) dX9_to_57 rfl ?_
          refine ew_getf (pc := 58) fX9_21 (rd_of r2.1) rfl dX9_to_58 ?_
          refine ew_iload_n (pc := 61) dX9_to_61 rfl ?_
          refine ew_imul (pc := 62) dX9_to_62 ?_
          refine ew_iload_n (pc := 63) dX9_to_63 rfl ?_
          refine ew_iadd (pc := 64) dX9_to_64 ?_
          refine ew_ldc (pc := 65) (v := 100000000) (ew_q q1786) dX9_to_65 ?_
          refine ew_iaS (pc := 67) r2.2.2.1 (j := n * m + k) (by rw [nI_mul, nI_add]) (ix_in (by omega) (by omega)) (by omega) dX9_to_67 ?_
          rw [ew_ss]
          refine ew_iinc (pc := 68) dX9_to_68 rfl (nI_inc k) (by decide) (p1_3 rfl) ?_
          refine ew_goto (pc := 71) (tgt := 45) dX9_to_71 (by decide) ?_
          refine ihp (k + 1) _ _ _ _ (by omega) (fun m' e h8 h9 => ?_) (fun e h9 => ?_)
          · rw [upd, if_neg (by have := ix_lt (n := n) h8 h9; omega)]
            exact hI2 m' e h8 h9
          · by_cases e8 : e = k
            · rw [e8, upd, if_pos rfl]
            · rw [upd, if_neg (by omega)]
              exact hC e (by omega)
      have r2 := r.set G1
      refine ew_iload_n (pc := 35) dX9_to_35 rfl ?_
      refine ew_aload_n (pc := 36) dX9_to_36 rfl ?_
      refine ew_getf (pc := 37) fX9_21 (rd_of r2.1) rfl dX9_to_37 ?_
      refine ew_icmp_gt (pc := 40) (tgt := 176) dX9_to_40 (by decide) (fun c40 => absurd c40 (nI_nlt (by omega) (by omega))) (fun c40 => ?_)
      refine ew_iconst (pc := 43) (v := 0) dX9_to_43 rfl ?_
      refine ew_istore_n (pc := 44) dX9_to_44 rfl (by decide) (p1_3 rfl) ?_
      exact lF n 0 G1 _ _ _ (by omega) hI (fun e h9 => absurd h9 (Nat.not_lt_zero e))
  have l0 : ∀ p k G1 x3 x4 x5 x6, k + p = n → (∀ e, e < k → G1 e = xcR es b 0 e) → ew_G g kX9_to 3 2 [.ref w, .int (nI b), .int (nI k), x3, x4, x5, x6] [] (eh_set h A (aI ((n + 1) * n) G1)) Q := by
    intro p
    induction p with
    | zero =>
      intro k G1 x3 x4 x5 x6 hk hI
      have e9 : k = n := by omega
      subst e9
      have r2 := r.set G1
      refine ew_iload_n (pc := 2) dX9_to_2 rfl ?_
      refine ew_aload_n (pc := 3) dX9_to_3 rfl ?_
      refine ew_getf (pc := 4) fX9_21 (rd_of r2.1) rfl dX9_to_4 ?_
      refine ew_icmp_ge (pc := 7) (tgt := 33) dX9_to_7 (by decide) (fun c7 => ?_) (fun c7 => absurd (nI_le (Nat.le_refl _) (by omega)) c7)
      refine ew_iconst (pc := 33) (v := 1) dX9_to_33 rfl ?_
      refine ew_istore_n (pc := 34) dX9_to_34 rfl (by decide) (p1_2 rfl) ?_
      refine lM k 1 G1 _ _ _ _ (by omega) (fun m' e h8 h9 => ?_) (Nat.le_refl _)
      have e8 : m' = 0 := by omega
      rw [e8, Nat.mul_zero, Nat.zero_add]
      exact hI e h9
    | succ p ihp =>
      intro k G1 x3 x4 x5 x6 hk hI
      have r2 := r.set G1
      have s26 : ∀ v, v = xcR es b 0 k → ew_G g kX9_to 3 26 [.ref w, .int (nI b), .int (nI k), x3, x4, x5, x6] [.int v, .int (nI k), .ref A] (eh_set h A (aI ((n + 1) * n) G1)) Q := by
        intro v hv
        have hin := ix_in (n := n) (m := 0) (e := k) (by omega) (by omega)
        rw [Nat.mul_zero, Nat.zero_add] at hin
        refine ew_iaS (pc := 26) r2.2.2.1 (j := k) rfl hin (by omega) dX9_to_26 ?_
        rw [ew_ss]
        refine ew_iinc (pc := 27) dX9_to_27 rfl (nI_inc k) (by decide) (p1_2 rfl) ?_
        refine ew_goto (pc := 30) (tgt := 2) dX9_to_30 (by decide) ?_
        refine ihp (k + 1) _ _ _ _ _ (by omega) (fun e h9 => ?_)
        by_cases e8 : e = k
        · rw [e8, upd, if_pos rfl, hv]
        · rw [upd, if_neg e8]
          exact hI e (by omega)
      refine ew_iload_n (pc := 2) dX9_to_2 rfl ?_
      refine ew_aload_n (pc := 3) dX9_to_3 rfl ?_
      refine ew_getf (pc := 4) fX9_21 (rd_of r2.1) rfl dX9_to_4 ?_
      refine ew_icmp_ge (pc := 7) (tgt := 33) dX9_to_7 (by decide) (fun c7 => absurd c7 (nI_ge (by omega) (by omega))) (fun c7 => ?_)
      refine ew_aload_n (pc := 10) dX9_to_10 rfl ?_
      refine ew_getf (pc := 11) fX9_24 (rd_of r2.1) rfl dX9_to_11 ?_
      refine ew_iload_n (pc := 14) dX9_to_14 rfl ?_
      refine ew_iload_n (pc := 15) dX9_to_15 rfl ?_
      refine ew_iload_n (pc := 16) dX9_to_16 rfl ?_
      refine ew_icmp_ne (pc := 17) (tgt := 24) dX9_to_17 (by decide) (fun c17 => ?_) (fun c17 => ?_)
      · refine ew_ldc (pc := 24) (v := 100000000) (ew_q q1786) dX9_to_24 ?_
        first
        | exact s26 _ (if_pos ((nI_eq (by omega) (by omega)).mp c17)).symm
        | exact s26 _ (if_neg (fun h9 => c17 (by rw [h9]))).symm
      · refine ew_iconst (pc := 20) (v := 0) dX9_to_20 rfl ?_
        refine ew_goto (pc := 21) (tgt := 26) dX9_to_21 (by decide) ?_
        first
        | exact s26 _ (if_pos ((nI_eq (by omega) (by omega)).mp c17)).symm
        | exact s26 _ (if_neg (fun h9 => c17 (by rw [h9]))).symm
  refine ew_enter (by decide +kernel) (ew_a1 rfl (ew_a1 rfl (ew_an (ew_an (ew_an (ew_an (ew_an ew_az))))))) (Nat.le_of_ble_eq_true rfl) ?_
  have h0 := l0 n 0 G no_ no_ no_ no_ (by omega) (fun e h9 => absurd h9 (Nat.not_lt_zero e))
  rw [ew_sid r.2.2.1] at h0
  refine ew_iconst (pc := 0) (v := 0) dX9_to_0 rfl ?_
  refine ew_istore_n (pc := 1) dX9_to_1 rfl (by decide) (p1_2 rfl) ?_
  exact h0
end
