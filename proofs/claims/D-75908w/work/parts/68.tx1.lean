/-! EW: the reference: load -/
set_option maxRecDepth 100000
/-- an array whose first k cells are 0 -/
def zeF (f : Nat → Int32) (k : Nat) : Nat → Int32 := fun i => if i < k then 0 else f i
theorem zeF_0 (f : Nat → Int32) : zeF f 0 = f := funext fun i => if_neg (Nat.not_lt_zero i)
theorem zeF_s (f : Nat → Int32) (k : Nat) : upd (zeF f k) k 0 = zeF f (k + 1) := by
  funext i
  show (if i = k then 0 else if i < k then 0 else f i) = if i < k + 1 then 0 else f i
  by_cases h1 : i = k
  · rw [if_pos h1, if_pos (by omega)]
  · rw [if_neg h1]
    by_cases h2 : i < k
    · rw [if_pos h2, if_pos (by omega)]
    · rw [if_neg h2, if_neg (by omega)]
/-- what the parser starts with -/
def ldP (σ : tS) : pst := (zeF (σ.2 16) 176, σ.2 10, 1, 1, 1, 0)
def byN (f : Nat → Int32) : Prop := ∀ k, k < 80 → vp_nar .byte (f k) = f k
abbrev SL : List Nat := [0, 2, 3, 4, 5, 6, 7, 8, 9, 10, 11, 12, 13, 14, 15, 16, 17, 20, 21, 22]
/-- the state while a text is made ready -/
def Ld (σ σ1 : tS) (n : Nat) : Prop := Fq SL σ σ1 ∧ σ1.1 0 = 0 ∧ σ1.1 2 = 0 ∧ σ1.1 3 = 0 ∧ σ1.1 4 = -1 ∧ σ1.1 5 = nI n ∧ σ1.1 7 = 0 ∧ σ1.1 12 = 1 ∧ σ1.1 13 = 1 ∧ σ1.1 14 = 1 ∧ σ1.1 15 = 0 ∧ σ1.2 10 = σ.2 10 ∧ ∀ k, k < 176 → σ1.2 17 k = σ.2 16 k
theorem o_load {g : eg} {h : eh} {t m : Nat} {σ : tS} {a : Int32} {Q : Outcome → eh → Prop} (hg : gCS g) (hg2 : gSF g) (hk : gKW g) (hm : σ.1 2 = nI m) (hm7 : m ≤ 700) (hby : byN (σ.2 10))
    (h0 : ¬ (0 ≤ a ∧ a ≤ nI m) → ∀ σ' r, Fq [0] σ σ' → σ'.1 0 = 1 → Q (.returned (some (.int r))) (tw t σ' h))
    (h2 : 0 ≤ a → a ≤ nI m → ∀ e s, txP (σ.2 1) (ix a) (ldP σ) = (.inl e, s) → ∀ σ' r, Fq SL σ σ' → σ'.1 0 = 2 → σ'.1 3 = e.1 → σ'.1 4 = nI e.2 → σ'.1 2 = 0 → Fq [0, 2, 3, 4, 5, 6, 7, 8, 9, 10, 11, 12, 13, 14, 15, 16, 17] σ σ' → (∀ k, k < 176 → σ'.2 16 k = σ.2 16 k) → (∀ k, k < 80 → σ'.2 10 k = σ.2 10 k) → Q (.returned (some (.int r))) (tw t σ' h))
    (h1 : 0 ≤ a → a ≤ nI m → ∀ x s, txP (σ.2 1) (ix a) (ldP σ) = (.inr x, s) → okT s → ∀ σ', Fq SL σ σ' → σ'.1 0 = 0 → σ'.1 3 = 0 → σ'.1 4 = -1 → σ'.1 2 = 0 → σ'.1 21 = 1 → σ'.1 22 = 0 → σ'.2 20 0 = 0 → σ'.2 20 1 = 0 → σ'.2 16 = s.1 → σ'.2 10 = s.2.1 → Q (.returned (some (.int (nI (nE s.1))))) (tw t σ' h)) : ew_T g kX2_load 8 [.ref t, .int a] (tw t σ h) Q := by
  by_cases hin : 0 ≤ a ∧ a ≤ nI m
  · obtain ⟨n, hn, hna⟩ := nI_of2 (M := nI m) (n := m) (nI_toInt (by omega)) (Int32.not_lt.mpr hin.1) hin.2
    have hix : ix a = n := by rw [hna]; exact ix_nI (by omega)
    have h2' := h2 hin.1 hin.2
    have h1' := h1 hin.1 hin.2
    rw [hix] at h2' h1'
    have s165 : ∀ e s, txP (σ.2 1) n (ldP σ) = (.inl e, s) → ∀ q k σ1, k + q = 80 → Fq [0, 2, 3, 4, 5, 6, 7, 8, 9, 10, 11, 12, 13, 14, 15, 16, 17] σ σ1 → σ1.1 2 = 0 → σ1.1 3 = e.1 → σ1.1 4 = nI e.2 → (∀ i, i < 176 → σ1.2 16 i = σ.2 16 i) → (∀ i, i < 80 → σ1.2 11 i = σ.2 10 i) → (∀ i, i < k → σ1.2 10 i = σ.2 10 i) → ew_G g kX2_load 8 165 [.ref t, .int a, .int (nI k)] [] (tw t σ1 h) Q := by
      intro e s he q
      induction q with
      | zero =>
        intro k σ1 hk hF c2 c3 c4 c16 c11 c10
        have e9 : k = 80 := by omega
        subst e9
        refine ew_iload_n (pc := 165) dX2_load_165 rfl ?_
        refine ew_aload_n (pc := 166) dX2_load_166 rfl ?_
        refine tg_g10 (pc := 167) rfl dX2_load_167 ?_
        refine tg_n10 (pc := 170) dX2_load_170 ?_
        refine ew_icmp_ge (pc := 171) (tgt := 192) dX2_load_171 (by decide) (fun c171 => ?_) (fun c171 => absurd (by decide) c171)
        refine ew_aload_n (pc := 192) dX2_load_192 rfl ?_
        refine ew_iconst (pc := 193) (v := 2) dX2_load_193 rfl ?_
        refine tg_p0 (pc := 194) rfl dX2_load_194 ?_
        refine ew_iconst (pc := 197) (v := 0) dX2_load_197 rfl ?_
        refine ew_iret (pc := 198) rfl dX2_load_198 ?_
        exact h2' e s he _ _ ((hF.w rfl).xI 0 _ rfl) rfl c3 c4 c2 (hF.xI 0 _ rfl) c16 c10
      | succ q ih =>
        intro k σ1 hk hF c2 c3 c4 c16 c11 c10
        refine ew_iload_n (pc := 165) dX2_load_165 rfl ?_
        refine ew_aload_n (pc := 166) dX2_load_166 rfl ?_
        refine tg_g10 (pc := 167) rfl dX2_load_167 ?_
        refine tg_n10 (pc := 170) dX2_load_170 ?_
        refine ew_icmp_ge (pc := 171) (tgt := 192) dX2_load_171 (by decide) (fun c171 => absurd c171 (nI_ge (b := 80) (by omega) (by decide))) (fun c171 => ?_)
        refine ew_aload_n (pc := 174) dX2_load_174 rfl ?_
        refine tg_g10 (pc := 175) rfl dX2_load_175 ?_
        refine ew_iload_n (pc := 178) dX2_load_178 rfl ?_
        refine ew_aload_n (pc := 179) dX2_load_179 rfl ?_
        refine tg_g11 (pc := 180) rfl dX2_load_180 ?_
        refine ew_iload_n (pc := 183) dX2_load_183 rfl ?_
        refine tg_l11 (pc := 184) (j := k) rfl (by omega) dX2_load_184 ?_
        refine tg_s10 (pc := 185) (j := k) rfl (by omega) dX2_load_185 ?_
        refine ew_iinc (pc := 186) dX2_load_186 rfl (nI_inc k) (by decide) (p1_2 rfl) ?_
        refine ew_goto (pc := 189) (tgt := 165) dX2_load_189 (by decide) ?_
        refine ih (k + 1) _ (by omega) (hF.xA 10 _ rfl) c2 c3 c4 c16 c11 (fun i hi => ?_)
        show upd (σ1.2 10) k (vp_nar .byte (σ1.2 11 k)) i = σ.2 10 i
        by_cases hik : i = k
        · rw [upd, if_pos hik, c11 k (by omega), hik]
          exact hby k (by omega)
        · rw [upd, if_neg hik]
          exact c10 i (by omega)
    have s139 : ∀ σ1, Ld σ σ1 n → σ1.2 16 = zeF (σ.2 16) 176 → (∀ i, i < 80 → σ1.2 11 i = σ.2 10 i) → Fq [0, 2, 3, 4, 5, 6, 7, 8, 9, 10, 11, 12, 13, 14, 15, 16, 17] σ σ1 → ew_G g kX2_load 8 139 [.ref t, .int a, .int (nI 176)] [] (tw t σ1 h) Q := by
      intro σ1 hL h16 h11 hF17
      obtain ⟨hF, l0, l2, l3, l4, l5, l7, l12, l13, l14, l15, l10, l17⟩ := hL
      have hT1 : Tx σ1 (σ.2 1) n := ⟨hF.a 1 rfl, l5, by omega⟩
      have hJ1 : Js σ1 (ldP σ) := ⟨h16, l10, l12, l13, l14, l15⟩
      have hst : st0 (ldP σ) := ⟨fun k hk => if_pos hk, rfl⟩
      obtain ⟨r, s, hrs⟩ : ∃ r s, txP (σ.2 1) n (ldP σ) = (r, s) := ⟨_, _, rfl⟩
      cases r with
      | inl e =>
        refine ew_aload_n (pc := 139) dX2_load_139 rfl ?_
        refine ew_cV0 (d' := 7) (pc := 140) vX2_204 (tw_ro _ _ _ _) dX2_load_140 (by decide) (ew_rm (Nat.le_of_ble_eq_true rfl)) ?_
        refine t_readText hg hg2 hk hT1 l3 l7 l4 hJ1 hst (fun σ2 F2 J2 _ => ?_)
        rw [hrs] at J2
        obtain ⟨P2, -⟩ := J2
        obtain ⟨p3, p0, p4⟩ := P2
        refine ew_Kv ?_
        refine ew_aload_n (pc := 143) dX2_load_143 rfl ?_
        refine tg_g3 (pc := 144) rfl dX2_load_144 ?_
        rw [p3]
        refine ew_if_le (pc := 147) (tgt := 199) dX2_load_147 (by decide) (fun c147 => absurd c147 (i_nle0 p0)) (fun c147 => ?_)
        refine ew_aload_n (pc := 150) dX2_load_150 rfl ?_
        refine tg_g17 (pc := 151) rfl dX2_load_151 ?_
        refine ew_iconst (pc := 154) (v := 0) dX2_load_154 rfl ?_
        refine ew_aload_n (pc := 155) dX2_load_155 rfl ?_
        refine tg_g16 (pc := 156) rfl dX2_load_156 ?_
        refine ew_iconst (pc := 159) (v := 0) dX2_load_159 rfl ?_
        refine ew_cS4 (d' := 0) (pc := 160) sX2_200 dX2_load_160 (by decide) (ew_rm (Nat.le_of_ble_eq_true rfl)) ?_
        refine t_copies (a := t + 5) (b := t + 4) (f := σ2.2 17) (G := σ2.2 16) (na := 176) (nb := 176) (i := 0) (j := 0) (tw_r g t 5 _ h (by decide)) (tw_at t 4 _ h (by decide)) (by omega) (by omega) (by omega) (by decide) (by decide) ?_
        rw [tw_s16]
        refine ew_Kv ?_
        refine ew_iconst (pc := 163) (v := 0) dX2_load_163 rfl ?_
        refine ew_istore_n (pc := 164) dX2_load_164 rfl (by decide) (p1_2 rfl) ?_
        refine s165 e s hrs 80 0 _ (by decide) ((hF17.u F2 rfl).xA 16 _ rfl) ((F2.s 2 rfl).trans l2) p3 p4 (fun i hi => ?_) (fun i hi => (congrFun (F2.a 11 rfl) i).trans (h11 i hi)) (fun i hi => absurd hi (Nat.not_lt_zero i))
        show cpG (σ2.2 17) (σ2.2 16) 0 0 176 i = σ.2 16 i
        rw [cpG_at, if_pos (by omega), Nat.zero_add, Nat.sub_zero, F2.a 17 rfl]
        exact l17 i hi
      | inr x =>
        refine ew_aload_n (pc := 139) dX2_load_139 rfl ?_
        refine ew_cV0 (d' := 7) (pc := 140) vX2_204 (tw_ro _ _ _ _) dX2_load_140 (by decide) (ew_rm (Nat.le_of_ble_eq_true rfl)) ?_
        refine t_readText hg hg2 hk hT1 l3 l7 l4 hJ1 hst (fun σ2 F2 J2 hok => ?_)
        rw [hrs] at J2 hok
        have hok1 := hok rfl
        have hS2 := J2.2 rfl
        obtain ⟨P2, -⟩ := J2
        obtain ⟨p3, -, hO, p4⟩ := P2
        have e0 : σ2.2 16 0 = nI (nE s.1) := by rw [hS2.1]; exact hok1.p.1
        refine ew_Kv ?_
        refine ew_aload_n (pc := 143) dX2_load_143 rfl ?_
        refine tg_g3 (pc := 144) rfl dX2_load_144 ?_
        rw [p3]
        refine ew_if_le (pc := 147) (tgt := 199) dX2_load_147 (by decide) (fun c147 => ?_) (fun c147 => absurd (by decide) c147)
        refine ew_aload_n (pc := 199) dX2_load_199 rfl ?_
        refine ew_iconst (pc := 200) (v := 1) dX2_load_200 rfl ?_
        refine tg_p21 (pc := 201) rfl rfl rfl dX2_load_201 ?_
        refine ew_aload_n (pc := 204) dX2_load_204 rfl ?_
        refine ew_iconst (pc := 205) (v := 0) dX2_load_205 rfl ?_
        refine tg_p22 (pc := 206) rfl dX2_load_206 ?_
        refine ew_aload_n (pc := 209) dX2_load_209 rfl ?_
        refine tg_g20 (pc := 210) rfl dX2_load_210 ?_
        refine ew_iconst (pc := 213) (v := 0) dX2_load_213 rfl ?_
        refine ew_iconst (pc := 214) (v := 0) dX2_load_214 rfl ?_
        refine tg_s20 (pc := 215) (j := 0) rfl (by decide) dX2_load_215 ?_
        refine ew_aload_n (pc := 216) dX2_load_216 rfl ?_
        refine tg_g20 (pc := 217) rfl dX2_load_217 ?_
        refine ew_iconst (pc := 220) (v := 1) dX2_load_220 rfl ?_
        refine ew_iconst (pc := 221) (v := 0) dX2_load_221 rfl ?_
        refine tg_s20 (pc := 222) (j := 1) rfl (by decide) dX2_load_222 ?_
        refine ew_aload_n (pc := 223) dX2_load_223 rfl ?_
        refine tg_g16 (pc := 224) rfl dX2_load_224 ?_
        refine ew_iconst (pc := 227) (v := 0) dX2_load_227 rfl ?_
        refine tg_l16 (pc := 228) (j := 0) rfl (by decide) dX2_load_228 ?_
        refine ew_iret (pc := 229) rfl dX2_load_229 ?_
        have h9 : ∀ A B : Nat → Int32, B 0 = 0 → B 1 = 0 → Q (.returned (some (.int (σ2.2 16 0)))) (tw t (tA (tA (tI (tI σ2 21 1) 22 0) 20 A) 20 B) h) := fun A B a0 a1 => by
          rw [e0]
          exact h1' x s hrs hok1 _ (((((hF.u F2 rfl).xI 21 _ rfl).xI 22 _ rfl).xA 20 _ rfl).xA 20 _ rfl) ((F2.s 0 rfl).trans l0) p3 p4 ((F2.s 2 rfl).trans l2) rfl rfl a0 a1 hS2.1 hS2.2.1
        exact h9 _ _ rfl rfl
    have s119 : ∀ q k σ1, k + q = 176 → Ld σ σ1 n → σ1.2 16 = zeF (σ.2 16) k → (∀ i, i < 80 → σ1.2 11 i = σ.2 10 i) → Fq [0, 2, 3, 4, 5, 6, 7, 8, 9, 10, 11, 12, 13, 14, 15, 16, 17] σ σ1 → ew_G g kX2_load 8 119 [.ref t, .int a, .int (nI k)] [] (tw t σ1 h) Q := by
      intro q
      induction q with
      | zero =>
        intro k σ1 hk hL h16 h11 hF
        have e9 : k = 176 := by omega
        subst e9
        refine ew_iload_n (pc := 119) dX2_load_119 rfl ?_
        refine ew_sipush (pc := 120) (v := 176) dX2_load_120 rfl ?_
        refine ew_icmp_ge (pc := 123) (tgt := 139) dX2_load_123 (by decide) (fun c123 => ?_) (fun c123 => absurd (by decide) c123)
        exact s139 σ1 hL h16 h11 hF
      | succ q ih =>
        intro k σ1 hk hL h16 h11 hF
        refine ew_iload_n (pc := 119) dX2_load_119 rfl ?_
        refine ew_sipush (pc := 120) (v := 176) dX2_load_120 rfl ?_
        refine ew_icmp_ge (pc := 123) (tgt := 139) dX2_load_123 (by decide) (fun c123 => absurd c123 (nI_ge (b := 176) (by omega) (by decide))) (fun c123 => ?_)
        refine ew_aload_n (pc := 126) dX2_load_126 rfl ?_
        refine tg_g16 (pc := 127) rfl dX2_load_127 ?_
        refine ew_iload_n (pc := 130) dX2_load_130 rfl ?_
        refine ew_iconst (pc := 131) (v := 0) dX2_load_131 rfl ?_
        refine tg_s16 (pc := 132) (j := k) rfl (by omega) dX2_load_132 ?_
        refine ew_iinc (pc := 133) dX2_load_133 rfl (nI_inc k) (by decide) (p1_2 rfl) ?_
        refine ew_goto (pc := 136) (tgt := 119) dX2_load_136 (by decide) ?_
        refine ih (k + 1) _ (by omega) ⟨hL.1.xA 16 _ rfl, hL.2⟩ ?_ h11 (hF.xA 16 _ rfl)
        show upd (σ1.2 16) k 0 = _
        rw [h16]
        exact zeF_s _ k
    have s90 : ∀ q k σ1, k + q = 80 → Ld σ σ1 n → σ1.2 16 = σ.2 16 → (∀ i, i < k → σ1.2 11 i = σ.2 10 i) → Fq [0, 2, 3, 4, 5, 6, 7, 8, 9, 10, 11, 12, 13, 14, 15, 16, 17] σ σ1 → ew_G g kX2_load 8 90 [.ref t, .int a, .int (nI k)] [] (tw t σ1 h) Q := by
      intro q
      induction q with
      | zero =>
        intro k σ1 hk hL h16 h11 hF
        have e9 : k = 80 := by omega
        subst e9
        refine ew_iload_n (pc := 90) dX2_load_90 rfl ?_
        refine ew_aload_n (pc := 91) dX2_load_91 rfl ?_
        refine tg_g10 (pc := 92) rfl dX2_load_92 ?_
        refine tg_n10 (pc := 95) dX2_load_95 ?_
        refine ew_icmp_ge (pc := 96) (tgt := 117) dX2_load_96 (by decide) (fun c96 => ?_) (fun c96 => absurd (by decide) c96)
        refine ew_iconst (pc := 117) (v := 0) dX2_load_117 rfl ?_
        refine ew_istore_n (pc := 118) dX2_load_118 rfl (by decide) (p1_2 rfl) ?_
        exact s119 176 0 σ1 (by decide) hL (by rw [zeF_0]; exact h16) h11 hF
      | succ q ih =>
        intro k σ1 hk hL h16 h11 hF
        have l10 : σ1.2 10 = σ.2 10 := hL.2.2.2.2.2.2.2.2.2.2.2.1
        refine ew_iload_n (pc := 90) dX2_load_90 rfl ?_
        refine ew_aload_n (pc := 91) dX2_load_91 rfl ?_
        refine tg_g10 (pc := 92) rfl dX2_load_92 ?_
        refine tg_n10 (pc := 95) dX2_load_95 ?_
        refine ew_icmp_ge (pc := 96) (tgt := 117) dX2_load_96 (by decide) (fun c96 => absurd c96 (nI_ge (b := 80) (by omega) (by decide))) (fun c96 => ?_)
        refine ew_aload_n (pc := 99) dX2_load_99 rfl ?_
        refine tg_g11 (pc := 100) rfl dX2_load_100 ?_
        refine ew_iload_n (pc := 103) dX2_load_103 rfl ?_
        refine ew_aload_n (pc := 104) dX2_load_104 rfl ?_
        refine tg_g10 (pc := 105) rfl dX2_load_105 ?_
        refine ew_iload_n (pc := 108) dX2_load_108 rfl ?_
        refine tg_l10 (pc := 109) (j := k) rfl (by omega) dX2_load_109 ?_
        refine tg_s11 (pc := 110) (j := k) rfl (by omega) dX2_load_110 ?_
        refine ew_iinc (pc := 111) dX2_load_111 rfl (nI_inc k) (by decide) (p1_2 rfl) ?_
        refine ew_goto (pc := 114) (tgt := 90) dX2_load_114 (by decide) ?_
        refine ih (k + 1) _ (by omega) ⟨hL.1.xA 11 _ rfl, hL.2⟩ h16 (fun i hi => ?_) (hF.xA 11 _ rfl)
        show upd (σ1.2 11) k (vp_nar .byte (σ1.2 10 k)) i = σ.2 10 i
        by_cases hik : i = k
        · rw [upd, if_pos hik, l10, hik]
          exact hby k (by omega)
        · rw [upd, if_neg hik]
          exact h11 i (by omega)
    refine ew_enter (by decide +kernel) (ew_a1 rfl (ew_a1 rfl (ew_an ew_az))) (Nat.le_of_ble_eq_true rfl) ?_
    subst hna
    refine ew_aload_n (pc := 0) dX2_load_0 rfl ?_
    refine ew_iload_n (pc := 1) dX2_load_1 rfl ?_
    refine ew_iconst (pc := 2) (v := 0) dX2_load_2 rfl ?_
    refine ew_aload_n (pc := 3) dX2_load_3 rfl ?_
    refine tg_g2 (pc := 4) rfl dX2_load_4 ?_
    rw [hm]
    refine ew_cS3 (d' := 0) (pc := 7) sX2_102 dX2_load_7 (by decide) (ew_rm (Nat.le_of_ble_eq_true rfl)) ?_
    refine t_inT ?_
    refine ew_Kr ?_
    refine ew_if_eq (pc := 10) (tgt := 17) dX2_load_10 (by decide) (fun c10 => absurd c10 (bI_n.mpr hin)) (fun c10 => ?_)
    refine ew_iconst (pc := 13) (v := 0) dX2_load_13 rfl ?_
    refine ew_goto (pc := 14) (tgt := 18) dX2_load_14 (by decide) ?_
    refine tg_p0 (pc := 18) rfl dX2_load_18 ?_
    refine ew_aload_n (pc := 21) dX2_load_21 rfl ?_
    refine tg_g0 (pc := 22) rfl dX2_load_22 ?_
    refine ew_if_le (pc := 25) (tgt := 30) dX2_load_25 (by decide) (fun c25 => ?_) (fun c25 => absurd (show (0 : Int32) ≤ (0 : Int32) by decide) c25)
    refine ew_aload_n (pc := 30) dX2_load_30 rfl ?_
    refine ew_iload_n (pc := 31) dX2_load_31 rfl ?_
    refine tg_p5 (pc := 32) rfl dX2_load_32 ?_
    refine ew_aload_n (pc := 35) dX2_load_35 rfl ?_
    refine ew_iconst (pc := 36) (v := 0) dX2_load_36 rfl ?_
    refine tg_p7 (pc := 37) rfl dX2_load_37 ?_
    refine ew_aload_n (pc := 40) dX2_load_40 rfl ?_
    refine ew_iconst (pc := 41) (v := 0) dX2_load_41 rfl ?_
    refine tg_p2 (pc := 42) rfl dX2_load_42 ?_
    refine ew_aload_n (pc := 45) dX2_load_45 rfl ?_
    refine ew_iconst (pc := 46) (v := 0) dX2_load_46 rfl ?_
    refine tg_p3 (pc := 47) rfl dX2_load_47 ?_
    refine ew_aload_n (pc := 50) dX2_load_50 rfl ?_
    refine ew_iconst (pc := 51) (v := -1) dX2_load_51 rfl ?_
    refine tg_p4 (pc := 52) rfl dX2_load_52 ?_
    refine ew_aload_n (pc := 55) dX2_load_55 rfl ?_
    refine ew_iconst (pc := 56) (v := 1) dX2_load_56 rfl ?_
    refine tg_p12 (pc := 57) rfl dX2_load_57 ?_
    refine ew_aload_n (pc := 60) dX2_load_60 rfl ?_
    refine ew_iconst (pc := 61) (v := 1) dX2_load_61 rfl ?_
    refine tg_p13 (pc := 62) rfl dX2_load_62 ?_
    refine ew_aload_n (pc := 65) dX2_load_65 rfl ?_
    refine ew_iconst (pc := 66) (v := 1) dX2_load_66 rfl ?_
    refine tg_p14 (pc := 67) rfl dX2_load_67 ?_
    refine ew_aload_n (pc := 70) dX2_load_70 rfl ?_
    refine ew_iconst (pc := 71) (v := 0) dX2_load_71 rfl ?_
    refine tg_p15 (pc := 72) rfl dX2_load_72 ?_
    refine ew_aload_n (pc := 75) dX2_load_75 rfl ?_
    refine tg_g16 (pc := 76) rfl dX2_load_76 ?_
    refine ew_iconst (pc := 79) (v := 0) dX2_load_79 rfl ?_
    refine ew_aload_n (pc := 80) dX2_load_80 rfl ?_
    refine tg_g17 (pc := 81) rfl dX2_load_81 ?_
    refine ew_iconst (pc := 84) (v := 0) dX2_load_84 rfl ?_
    refine ew_cS4 (d' := 0) (pc := 85) sX2_200 dX2_load_85 (by decide) (ew_rm (Nat.le_of_ble_eq_true rfl)) ?_
    refine t_copies (a := t + 4) (b := t + 5) (f := σ.2 16) (G := σ.2 17) (na := 176) (nb := 176) (i := 0) (j := 0) (tw_r g t 4 _ h (by decide)) (tw_at t 5 _ h (by decide)) (by omega) (by omega) (by omega) (by decide) (by decide) ?_
    rw [tw_s17]
    refine ew_Kv ?_
    refine ew_iconst (pc := 88) (v := 0) dX2_load_88 rfl ?_
    refine ew_istore_n (pc := 89) dX2_load_89 rfl (by decide) (p1_2 rfl) ?_
    have hF0 : Fq [0, 2, 3, 4, 5, 6, 7, 8, 9, 10, 11, 12, 13, 14, 15, 16, 17] σ _ := Fq.r _ σ |>.xI 0 0 rfl |>.xI 5 (nI n) rfl |>.xI 7 0 rfl |>.xI 2 0 rfl |>.xI 3 0 rfl |>.xI 4 (-1) rfl |>.xI 12 1 rfl |>.xI 13 1 rfl |>.xI 14 1 rfl |>.xI 15 0 rfl |>.xA 17 (cpG (σ.2 16) (σ.2 17) 0 0 176) rfl
    refine s90 80 0 _ (by decide) ⟨hF0.w rfl, rfl, rfl, rfl, rfl, rfl, rfl, rfl, rfl, rfl, rfl, rfl, fun k hk9 => ?_⟩ rfl (fun i hi => absurd hi (Nat.not_lt_zero i)) hF0
    show cpG (σ.2 16) (σ.2 17) 0 0 176 k = σ.2 16 k
    rw [cpG_at, if_pos (by omega), Nat.zero_add, Nat.sub_zero]
  · skip
    refine ew_enter (by decide +kernel) (ew_a1 rfl (ew_a1 rfl (ew_an ew_az))) (Nat.le_of_ble_eq_true rfl) ?_
    refine ew_aload_n (pc := 0) dX2_load_0 rfl ?_
    refine ew_iload_n (pc := 1) dX2_load_1 rfl ?_
    refine ew_iconst (pc := 2) (v := 0) dX2_load_2 rfl ?_
    refine ew_aload_n (pc := 3) dX2_load_3 rfl ?_
    refine tg_g2 (pc := 4) rfl dX2_load_4 ?_
    rw [hm]
    refine ew_cS3 (d' := 0) (pc := 7) sX2_102 dX2_load_7 (by decide) (ew_rm (Nat.le_of_ble_eq_true rfl)) ?_
    refine t_inT ?_
    refine ew_Kr ?_
    refine ew_if_eq (pc := 10) (tgt := 17) dX2_load_10 (by decide) (fun c10 => ?_) (fun c10 => absurd (bI_f hin) c10)
    refine ew_iconst (pc := 17) (v := 1) dX2_load_17 rfl ?_
    refine tg_p0 (pc := 18) rfl dX2_load_18 ?_
    refine ew_aload_n (pc := 21) dX2_load_21 rfl ?_
    refine tg_g0 (pc := 22) rfl dX2_load_22 ?_
    refine ew_if_le (pc := 25) (tgt := 30) dX2_load_25 (by decide) (fun c25 => absurd c25 (show ¬ ((1 : Int32) ≤ (0 : Int32)) by decide)) (fun c25 => ?_)
    refine ew_iconst (pc := 28) (v := 0) dX2_load_28 rfl ?_
    refine ew_iret (pc := 29) rfl dX2_load_29 ?_
    exact h0 hin _ _ (Fq.I σ 0 _ rfl) rfl
