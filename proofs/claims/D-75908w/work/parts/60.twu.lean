/-! EW: the reference: tokens -/
set_option maxRecDepth 100000
/-- the text: bytes, how many; the token that stands here -/
def Tx (σ : tS) (b : Nat → Int32) (n : Nat) : Prop := σ.2 1 = b ∧ σ.1 5 = nI n ∧ n ≤ 700
def Tk (σ : tS) (x : tok) : Prop := σ.1 8 = nI x.1 ∧ σ.1 6 = nI x.2.1 ∧ σ.1 7 = nI x.2.2.1 ∧ σ.1 9 = x.2.2.2
theorem Tx.fq {S : List Nat} {σ σ' : tS} {b : Nat → Int32} {n : Nat} (h : Tx σ b n) (hF : Fq S σ σ') (h1 : S.contains 1 = false) (h5 : S.contains 5 = false) : Tx σ' b n := ⟨(hF.a 1 h1).trans h.1, (hF.s 5 h5).trans h.2.1, h.2.2⟩
theorem t_byteAt {g : eg} {h : eh} {t k n : Nat} {σ : tS} {b : Nat → Int32} {Q : Outcome → eh → Prop} (hT : Tx σ b n) (hk : k ≤ 700) (hq : Q (.returned (some (.int (bA b n k)))) (tw t σ h)) : ew_T g kX2_byteAt 0 [.ref t, .int (nI k)] (tw t σ h) Q := by
  obtain ⟨h1, h5, hn⟩ := hT
  rw [bA] at hq
  refine ew_enter (by decide +kernel) (ew_a1 rfl (ew_a1 rfl ew_az)) (Nat.le_of_ble_eq_true rfl) ?_
  refine ew_iload_n (pc := 0) dX2_byteAt_0 rfl ?_
  refine ew_aload_n (pc := 1) dX2_byteAt_1 rfl ?_
  refine tg_g5 (pc := 2) rfl dX2_byteAt_2 ?_
  rw [h5]
  refine ew_icmp_ge (pc := 5) (tgt := 17) dX2_byteAt_5 (by decide) (fun c5 => ?_) (fun c5 => ?_)
  · refine ew_iconst (pc := 17) (v := -1) dX2_byteAt_17 rfl ?_
    refine ew_iret (pc := 18) rfl dX2_byteAt_18 ?_
    first
    | rw [if_neg (fun h9 => absurd c5 (nI_ge h9 (by omega)))] at hq
      exact hq
    | rw [if_pos hkn] at hq
      rw [h1]
      exact hq
  · have hkn : k < n := Nat.lt_of_not_le (fun h9 => c5 (nI_le h9 (by omega)))
    refine ew_aload_n (pc := 8) dX2_byteAt_8 rfl ?_
    refine tg_g1 (pc := 9) rfl dX2_byteAt_9 ?_
    refine ew_iload_n (pc := 12) dX2_byteAt_12 rfl ?_
    refine tg_l1 (pc := 13) (j := k) rfl (by omega) dX2_byteAt_13 ?_
    refine ew_goto (pc := 14) (tgt := 18) dX2_byteAt_14 (by decide) ?_
    refine ew_iret (pc := 18) rfl dX2_byteAt_18 ?_
    first
    | rw [if_neg (fun h9 => absurd c5 (nI_ge h9 (by omega)))] at hq
      exact hq
    | rw [if_pos hkn] at hq
      rw [h1]
      exact hq
theorem nI_sub1 {n : Nat} (h : 1 ≤ n) : nI n - 1 = nI (n - 1) := nI_sub (b := 1) h
theorem t_nextToken {g : eg} {h : eh} {t n p : Nat} {σ : tS} {b : Nat → Int32} {Q : Outcome → eh → Prop} (hT : Tx σ b n) (h3 : σ.1 3 = 0) (h7 : σ.1 7 = nI p) (hp : p ≤ n)
    (hq : ∀ σ', Fq [6, 7, 8, 9] σ σ' → Tk σ' (tokN b n p (σ.1 9)) → Q (.returned none) (tw t σ' h)) : ew_T g kX2_nextToken 1 [.ref t] (tw t σ h) Q := by
  have hn := hT.2.2
  have lE : ∀ (f : Nat) (x1 : Value), spF b n n p = f → f ≤ n → isLt (bA b n f) → f < n → ∀ r q σ', n ≤ q + r → q ≤ n → lwF b n r q = lwF b n n f → f ≤ q → Fq [6, 7] σ σ' → σ'.1 6 = nI f → σ'.1 7 = nI q → ew_G g kX2_nextToken 1 81 [.ref t, x1] [] (tw t σ' h) Q := by
    intro f x1 hf hfn hlt hfl r
    induction r with
    | zero =>
      intro q σ' hr hqn hlw hfq hF h6 h7
      have hq0 : q = n := by omega
      have hb : bA b n q = -1 := bA_end (by omega)
      rw [lwF] at hlw
      refine ew_aload_n (pc := 81) dX2_nextToken_81 rfl ?_
      refine ew_aload_n (pc := 82) dX2_nextToken_82 rfl ?_
      refine tg_g7 (pc := 83) rfl dX2_nextToken_83 ?_
      rw [h7]
      refine ew_cV1 (d' := 0) (pc := 86) vX2_92 (tw_ro _ _ _ _) dX2_nextToken_86 (by decide) (ew_rm (Nat.le_of_ble_eq_true rfl)) ?_
      refine t_byteAt (hT.fq hF rfl rfl) (by omega) ?_
      rw [hb]
      refine ew_Kr ?_
      refine ew_bipush (pc := 89) (v := 97) dX2_nextToken_89 rfl ?_
      refine ew_bipush (pc := 91) (v := 122) dX2_nextToken_91 rfl ?_
      refine ew_cS3 (d' := 0) (pc := 93) sX2_102 dX2_nextToken_93 (by decide) (ew_rm (Nat.le_of_ble_eq_true rfl)) ?_
      refine t_inT ?_
      refine ew_Kr ?_
      refine ew_if_eq (pc := 96) (tgt := 112) dX2_nextToken_96 (by decide) (fun c96 => ?_) (fun c96 => absurd (bI_0.mpr (by decide)) c96)
      refine ew_aload_n (pc := 112) dX2_nextToken_112 rfl ?_
      refine ew_aload_n (pc := 113) dX2_nextToken_113 rfl ?_
      refine tg_g7 (pc := 114) rfl dX2_nextToken_114 ?_
      refine ew_aload_n (pc := 117) dX2_nextToken_117 rfl ?_
      refine tg_g6 (pc := 118) rfl dX2_nextToken_118 ?_
      refine ew_isub (pc := 121) dX2_nextToken_121 ?_
      rw [show σ'.1 7 - σ'.1 6 = nI (q - f) by rw [h7, h6, nI_sub hfq]]
      refine ew_bipush (pc := 122) (v := 8) dX2_nextToken_122 rfl ?_
      refine ew_icmp_le (pc := 124) (tgt := 131) dX2_nextToken_124 (by decide) (fun c124 => ?_) (fun c124 => ?_)
      · refine ew_iconst (pc := 131) (v := 1) dX2_nextToken_131 rfl ?_
        refine tg_p8 (pc := 132) rfl dX2_nextToken_132 ?_
        refine ew_goto (pc := 135) (tgt := 278) dX2_nextToken_135 (by decide) ?_
        refine ew_vret (pc := 278) rfl dX2_nextToken_278 ?_
        refine hq _ ((hF.w rfl).xI 8 _ rfl) ?_
        rw [tokN, hf, tokA, if_neg (by omega), if_pos hlt, ← hlw]
        refine ⟨?_, h6, h7, hF.s 9 rfl⟩
        first
        | exact congrArg nI (if_pos ((nI_leI (b := 8) (by omega) (by decide)).mp c124)).symm
        | exact congrArg nI (if_neg (fun h9 => c124 ((nI_leI (b := 8) (by omega) (by decide)).mpr h9))).symm
      · refine ew_iconst (pc := 127) (v := 0) dX2_nextToken_127 rfl ?_
        refine ew_goto (pc := 128) (tgt := 132) dX2_nextToken_128 (by decide) ?_
        refine tg_p8 (pc := 132) rfl dX2_nextToken_132 ?_
        refine ew_goto (pc := 135) (tgt := 278) dX2_nextToken_135 (by decide) ?_
        refine ew_vret (pc := 278) rfl dX2_nextToken_278 ?_
        refine hq _ ((hF.w rfl).xI 8 _ rfl) ?_
        rw [tokN, hf, tokA, if_neg (by omega), if_pos hlt, ← hlw]
        refine ⟨?_, h6, h7, hF.s 9 rfl⟩
        first
        | exact congrArg nI (if_pos ((nI_leI (b := 8) (by omega) (by decide)).mp c124)).symm
        | exact congrArg nI (if_neg (fun h9 => c124 ((nI_leI (b := 8) (by omega) (by decide)).mpr h9))).symm
    | succ r ih =>
      intro q σ' hr hqn hlw hfq hF h6 h7
      rw [lwF] at hlw
      refine ew_aload_n (pc := 81) dX2_nextToken_81 rfl ?_
      refine ew_aload_n (pc := 82) dX2_nextToken_82 rfl ?_
      refine tg_g7 (pc := 83) rfl dX2_nextToken_83 ?_
      rw [h7]
      refine ew_cV1 (d' := 0) (pc := 86) vX2_92 (tw_ro _ _ _ _) dX2_nextToken_86 (by decide) (ew_rm (Nat.le_of_ble_eq_true rfl)) ?_
      refine t_byteAt (hT.fq hF rfl rfl) (by omega) ?_
      refine ew_Kr ?_
      refine ew_bipush (pc := 89) (v := 97) dX2_nextToken_89 rfl ?_
      refine ew_bipush (pc := 91) (v := 122) dX2_nextToken_91 rfl ?_
      refine ew_cS3 (d' := 0) (pc := 93) sX2_102 dX2_nextToken_93 (by decide) (ew_rm (Nat.le_of_ble_eq_true rfl)) ?_
      refine t_inT ?_
      refine ew_Kr ?_
      refine ew_if_eq (pc := 96) (tgt := 112) dX2_nextToken_96 (by decide) (fun c96 => ?_) (fun c96 => ?_)
      · rw [if_neg (show ¬ isLt (bA b n q) from bI_0.mp c96)] at hlw
        refine ew_aload_n (pc := 112) dX2_nextToken_112 rfl ?_
        refine ew_aload_n (pc := 113) dX2_nextToken_113 rfl ?_
        refine tg_g7 (pc := 114) rfl dX2_nextToken_114 ?_
        refine ew_aload_n (pc := 117) dX2_nextToken_117 rfl ?_
        refine tg_g6 (pc := 118) rfl dX2_nextToken_118 ?_
        refine ew_isub (pc := 121) dX2_nextToken_121 ?_
        rw [show σ'.1 7 - σ'.1 6 = nI (q - f) by rw [h7, h6, nI_sub hfq]]
        refine ew_bipush (pc := 122) (v := 8) dX2_nextToken_122 rfl ?_
        refine ew_icmp_le (pc := 124) (tgt := 131) dX2_nextToken_124 (by decide) (fun c124 => ?_) (fun c124 => ?_)
        · refine ew_iconst (pc := 131) (v := 1) dX2_nextToken_131 rfl ?_
          refine tg_p8 (pc := 132) rfl dX2_nextToken_132 ?_
          refine ew_goto (pc := 135) (tgt := 278) dX2_nextToken_135 (by decide) ?_
          refine ew_vret (pc := 278) rfl dX2_nextToken_278 ?_
          refine hq _ ((hF.w rfl).xI 8 _ rfl) ?_
          rw [tokN, hf, tokA, if_neg (by omega), if_pos hlt, ← hlw]
          refine ⟨?_, h6, h7, hF.s 9 rfl⟩
          first
          | exact congrArg nI (if_pos ((nI_leI (b := 8) (by omega) (by decide)).mp c124)).symm
          | exact congrArg nI (if_neg (fun h9 => c124 ((nI_leI (b := 8) (by omega) (by decide)).mpr h9))).symm
        · refine ew_iconst (pc := 127) (v := 0) dX2_nextToken_127 rfl ?_
          refine ew_goto (pc := 128) (tgt := 132) dX2_nextToken_128 (by decide) ?_
          refine tg_p8 (pc := 132) rfl dX2_nextToken_132 ?_
          refine ew_goto (pc := 135) (tgt := 278) dX2_nextToken_135 (by decide) ?_
          refine ew_vret (pc := 278) rfl dX2_nextToken_278 ?_
          refine hq _ ((hF.w rfl).xI 8 _ rfl) ?_
          rw [tokN, hf, tokA, if_neg (by omega), if_pos hlt, ← hlw]
          refine ⟨?_, h6, h7, hF.s 9 rfl⟩
          first
          | exact congrArg nI (if_pos ((nI_leI (b := 8) (by omega) (by decide)).mp c124)).symm
          | exact congrArg nI (if_neg (fun h9 => c124 ((nI_leI (b := 8) (by omega) (by decide)).mpr h9))).symm
      · have hl9 : isLt (bA b n q) := bI_n.mp c96
        have hqn2 : q < n := by
          by_cases h8 : n ≤ q
          · rw [bA_end h8] at hl9; exact absurd hl9 (by decide)
          · omega
        rw [if_pos hl9] at hlw
        refine ew_aload_n (pc := 99) dX2_nextToken_99 rfl ?_
        refine ew_dup (pc := 100) dX2_nextToken_100 rfl ?_
        refine tg_g7 (pc := 101) rfl dX2_nextToken_101 ?_
        refine ew_iconst (pc := 104) (v := 1) dX2_nextToken_104 rfl ?_
        refine ew_iadd (pc := 105) dX2_nextToken_105 ?_
        refine tg_p7 (pc := 106) rfl dX2_nextToken_106 ?_
        refine ew_goto (pc := 109) (tgt := 81) dX2_nextToken_109 (by decide) ?_
        exact ih (q + 1) _ (by omega) (by omega) hlw (by omega) (hF.xI 7 _ rfl) h6 (by show σ'.1 7 + 1 = _; rw [h7]; exact nI_1 q)
  have lD : ∀ (f : Nat) (x1 : Value), spF b n n p = f → f ≤ n → ¬ isLt (bA b n f) → isDg (bA b n f) → f < n → ∀ r q v σ', n ≤ q + r → q ≤ n → dgF b n f r q v = dgF b n f n f 0 → f ≤ q → Fq [6, 7, 9] σ σ' → σ'.1 6 = nI f → σ'.1 7 = nI q → σ'.1 9 = v → ew_G g kX2_nextToken 1 154 [.ref t, x1] [] (tw t σ' h) Q := by
    intro f x1 hf hfn hnl hdg hfl r
    have fin : ∀ q v σ', q ≤ n → f ≤ q → (q, v) = dgF b n f n f 0 → Fq [6, 7, 9] σ σ' → σ'.1 6 = nI f → σ'.1 7 = nI q → σ'.1 9 = v → ew_G g kX2_nextToken 1 228 [.ref t, x1] [] (tw t σ' h) Q := by
      intro q v σ' hqn hfq hd hF h6 h7 h9
      refine ew_aload_n (pc := 228) dX2_nextToken_228 rfl ?_
      refine ew_aload_n (pc := 229) dX2_nextToken_229 rfl ?_
      refine tg_g7 (pc := 230) rfl dX2_nextToken_230 ?_
      refine ew_aload_n (pc := 233) dX2_nextToken_233 rfl ?_
      refine tg_g6 (pc := 234) rfl dX2_nextToken_234 ?_
      refine ew_isub (pc := 237) dX2_nextToken_237 ?_
      rw [show σ'.1 7 - σ'.1 6 = nI (q - f) by rw [h7, h6, nI_sub hfq]]
      refine ew_iconst (pc := 238) (v := 3) dX2_nextToken_238 rfl ?_
      refine ew_icmp_le (pc := 239) (tgt := 246) dX2_nextToken_239 (by decide) (fun c239 => ?_) (fun c239 => ?_)
      · refine ew_iconst (pc := 246) (v := 2) dX2_nextToken_246 rfl ?_
        refine tg_p8 (pc := 247) rfl dX2_nextToken_247 ?_
        refine ew_goto (pc := 250) (tgt := 278) dX2_nextToken_250 (by decide) ?_
        refine ew_vret (pc := 278) rfl dX2_nextToken_278 ?_
        refine hq _ ((hF.w rfl).xI 8 _ rfl) ?_
        rw [tokN, hf, tokA, if_neg (by omega), if_neg hnl, if_pos hdg, ← hd]
        refine ⟨?_, h6, h7, h9⟩
        first
        | exact congrArg nI (if_pos ((nI_leI (b := 3) (by omega) (by decide)).mp c239)).symm
        | exact congrArg nI (if_neg (fun h9 => c239 ((nI_leI (b := 3) (by omega) (by decide)).mpr h9))).symm
      · refine ew_iconst (pc := 242) (v := 0) dX2_nextToken_242 rfl ?_
        refine ew_goto (pc := 243) (tgt := 247) dX2_nextToken_243 (by decide) ?_
        refine tg_p8 (pc := 247) rfl dX2_nextToken_247 ?_
        refine ew_goto (pc := 250) (tgt := 278) dX2_nextToken_250 (by decide) ?_
        refine ew_vret (pc := 278) rfl dX2_nextToken_278 ?_
        refine hq _ ((hF.w rfl).xI 8 _ rfl) ?_
        rw [tokN, hf, tokA, if_neg (by omega), if_neg hnl, if_pos hdg, ← hd]
        refine ⟨?_, h6, h7, h9⟩
        first
        | exact congrArg nI (if_pos ((nI_leI (b := 3) (by omega) (by decide)).mp c239)).symm
        | exact congrArg nI (if_neg (fun h9 => c239 ((nI_leI (b := 3) (by omega) (by decide)).mpr h9))).symm
    induction r with
    | zero =>
      intro q v σ' hr hqn hd hfq hF h6 h7 h9
      have hb : bA b n q = -1 := bA_end (by omega)
      rw [dgF] at hd
      refine ew_aload_n (pc := 154) dX2_nextToken_154 rfl ?_
      refine ew_aload_n (pc := 155) dX2_nextToken_155 rfl ?_
      refine tg_g7 (pc := 156) rfl dX2_nextToken_156 ?_
      rw [h7]
      refine ew_cV1 (d' := 0) (pc := 159) vX2_92 (tw_ro _ _ _ _) dX2_nextToken_159 (by decide) (ew_rm (Nat.le_of_ble_eq_true rfl)) ?_
      refine t_byteAt (hT.fq hF rfl rfl) (by omega) ?_
      rw [hb]
      refine ew_Kr ?_
      refine ew_bipush (pc := 162) (v := 48) dX2_nextToken_162 rfl ?_
      refine ew_bipush (pc := 164) (v := 57) dX2_nextToken_164 rfl ?_
      refine ew_cS3 (d' := 0) (pc := 166) sX2_102 dX2_nextToken_166 (by decide) (ew_rm (Nat.le_of_ble_eq_true rfl)) ?_
      refine t_inT ?_
      refine ew_Kr ?_
      refine ew_if_eq (pc := 169) (tgt := 228) dX2_nextToken_169 (by decide) (fun c169 => ?_) (fun c169 => absurd (bI_0.mpr (by decide)) c169)
      exact fin q v σ' hqn hfq hd hF h6 h7 h9
    | succ r ih =>
      intro q v σ' hr hqn hd hfq hF h6 h7 h9
      rw [dgF] at hd
      refine ew_aload_n (pc := 154) dX2_nextToken_154 rfl ?_
      refine ew_aload_n (pc := 155) dX2_nextToken_155 rfl ?_
      refine tg_g7 (pc := 156) rfl dX2_nextToken_156 ?_
      rw [h7]
      refine ew_cV1 (d' := 0) (pc := 159) vX2_92 (tw_ro _ _ _ _) dX2_nextToken_159 (by decide) (ew_rm (Nat.le_of_ble_eq_true rfl)) ?_
      refine t_byteAt (hT.fq hF rfl rfl) (by omega) ?_
      refine ew_Kr ?_
      refine ew_bipush (pc := 162) (v := 48) dX2_nextToken_162 rfl ?_
      refine ew_bipush (pc := 164) (v := 57) dX2_nextToken_164 rfl ?_
      refine ew_cS3 (d' := 0) (pc := 166) sX2_102 dX2_nextToken_166 (by decide) (ew_rm (Nat.le_of_ble_eq_true rfl)) ?_
      refine t_inT ?_
      refine ew_Kr ?_
      refine ew_if_eq (pc := 169) (tgt := 228) dX2_nextToken_169 (by decide) (fun c169 => ?_) (fun c169 => ?_)
      · rw [if_neg (show ¬ isDg (bA b n q) from bI_0.mp c169)] at hd
        exact fin q v σ' hqn hfq hd hF h6 h7 h9
      · have hl9 : isDg (bA b n q) := bI_n.mp c169
        have hqn2 : q < n := by
          by_cases h8 : n ≤ q
          · rw [bA_end h8] at hl9; exact absurd hl9 (by decide)
          · omega
        rw [if_pos hl9, dgS] at hd
        refine ew_aload_n (pc := 172) dX2_nextToken_172 rfl ?_
        refine ew_aload_n (pc := 173) dX2_nextToken_173 rfl ?_
        refine tg_g7 (pc := 174) rfl dX2_nextToken_174 ?_
        refine ew_aload_n (pc := 177) dX2_nextToken_177 rfl ?_
        refine tg_g6 (pc := 178) rfl dX2_nextToken_178 ?_
        refine ew_isub (pc := 181) dX2_nextToken_181 ?_
        rw [show σ'.1 7 - σ'.1 6 = nI (q - f) by rw [h7, h6, nI_sub hfq]]
        refine ew_iconst (pc := 182) (v := 3) dX2_nextToken_182 rfl ?_
        refine ew_icmp_ge (pc := 183) (tgt := 208) dX2_nextToken_183 (by decide) (fun c183 => ?_) (fun c183 => ?_)
        · rw [if_neg (show ¬ nI (q - f) < 3 from Int32.not_lt.mpr c183)] at hd
          refine ew_aload_n (pc := 208) dX2_nextToken_208 rfl ?_
          refine tg_g9 (pc := 209) rfl dX2_nextToken_209 ?_
          refine tg_p9 (pc := 212) rfl dX2_nextToken_212 ?_
          refine ew_aload_n (pc := 215) dX2_nextToken_215 rfl ?_
          refine ew_dup (pc := 216) dX2_nextToken_216 rfl ?_
          refine tg_g7 (pc := 217) rfl dX2_nextToken_217 ?_
          refine ew_iconst (pc := 220) (v := 1) dX2_nextToken_220 rfl ?_
          refine ew_iadd (pc := 221) dX2_nextToken_221 ?_
          refine tg_p7 (pc := 222) rfl dX2_nextToken_222 ?_
          refine ew_goto (pc := 225) (tgt := 154) dX2_nextToken_225 (by decide) ?_
          refine ih (q + 1) _ _ (by omega) (by omega) hd (by omega) ((hF.xI 9 _ rfl).xI 7 _ rfl) h6 (by show σ'.1 7 + 1 = _; rw [h7]; exact nI_1 q) ?_
          first
          | exact h9
          | show 10 * σ'.1 9 + bA b n q - 48 = _
            rw [h9]
        · rw [if_pos (show nI (q - f) < 3 from Int32.not_le.mp c183)] at hd
          refine ew_bipush (pc := 186) (v := 10) dX2_nextToken_186 rfl ?_
          refine ew_aload_n (pc := 188) dX2_nextToken_188 rfl ?_
          refine tg_g9 (pc := 189) rfl dX2_nextToken_189 ?_
          refine ew_imul (pc := 192) dX2_nextToken_192 ?_
          refine ew_aload_n (pc := 193) dX2_nextToken_193 rfl ?_
          refine ew_aload_n (pc := 194) dX2_nextToken_194 rfl ?_
          refine tg_g7 (pc := 195) rfl dX2_nextToken_195 ?_
          rw [h7]
          refine ew_cV1 (d' := 0) (pc := 198) vX2_92 (tw_ro _ _ _ _) dX2_nextToken_198 (by decide) (ew_rm (Nat.le_of_ble_eq_true rfl)) ?_
          refine t_byteAt (hT.fq hF rfl rfl) (by omega) ?_
          refine ew_Kr ?_
          refine ew_iadd (pc := 201) dX2_nextToken_201 ?_
          refine ew_bipush (pc := 202) (v := 48) dX2_nextToken_202 rfl ?_
          refine ew_isub (pc := 204) dX2_nextToken_204 ?_
          refine ew_goto (pc := 205) (tgt := 212) dX2_nextToken_205 (by decide) ?_
          refine tg_p9 (pc := 212) rfl dX2_nextToken_212 ?_
          refine ew_aload_n (pc := 215) dX2_nextToken_215 rfl ?_
          refine ew_dup (pc := 216) dX2_nextToken_216 rfl ?_
          refine tg_g7 (pc := 217) rfl dX2_nextToken_217 ?_
          refine ew_iconst (pc := 220) (v := 1) dX2_nextToken_220 rfl ?_
          refine ew_iadd (pc := 221) dX2_nextToken_221 ?_
          refine tg_p7 (pc := 222) rfl dX2_nextToken_222 ?_
          refine ew_goto (pc := 225) (tgt := 154) dX2_nextToken_225 (by decide) ?_
          refine ih (q + 1) _ _ (by omega) (by omega) hd (by omega) ((hF.xI 9 _ rfl).xI 7 _ rfl) h6 (by show σ'.1 7 + 1 = _; rw [h7]; exact nI_1 q) ?_
          first
          | exact h9
          | show 10 * σ'.1 9 + bA b n q - 48 = _
            rw [h9]
  have fin : ∀ f x1 σ', spF b n n p = f → f ≤ n → Fq [7] σ σ' → σ'.1 7 = nI f → ew_G g kX2_nextToken 1 34 [.ref t, x1] [] (tw t σ' h) Q := by
    intro f x1 σ' hf hfn hF h7
    have h5 : σ'.1 5 = nI n := (hF.s 5 rfl).trans hT.2.1
    refine ew_aload_n (pc := 34) dX2_nextToken_34 rfl ?_
    refine ew_aload_n (pc := 35) dX2_nextToken_35 rfl ?_
    refine tg_g7 (pc := 36) rfl dX2_nextToken_36 ?_
    refine tg_p6 (pc := 39) rfl dX2_nextToken_39 ?_
    refine ew_aload_n (pc := 42) dX2_nextToken_42 rfl ?_
    refine ew_aload_n (pc := 43) dX2_nextToken_43 rfl ?_
    refine tg_g7 (pc := 44) rfl dX2_nextToken_44 ?_
    rw [show (tI σ' 6 (σ'.1 7)).1 7 = nI f from h7]
    refine ew_cV1 (d' := 0) (pc := 47) vX2_92 (tw_ro _ _ _ _) dX2_nextToken_47 (by decide) (ew_rm (Nat.le_of_ble_eq_true rfl)) ?_
    refine t_byteAt (hT.fq (hF.t (S := [6, 7]) (Fq.I (S := [6]) σ' 6 (σ'.1 7) rfl) rfl rfl) rfl rfl) (by omega) ?_
    refine ew_Kr ?_
    refine ew_istore_n (pc := 50) dX2_nextToken_50 rfl (by decide) (p1_1 rfl) ?_
    refine ew_aload_n (pc := 51) dX2_nextToken_51 rfl ?_
    refine tg_g7 (pc := 52) rfl dX2_nextToken_52 ?_
    refine ew_aload_n (pc := 55) dX2_nextToken_55 rfl ?_
    refine tg_g5 (pc := 56) rfl dX2_nextToken_56 ?_
    rw [show (tI σ' 6 (σ'.1 7)).1 7 = nI f from h7, show (tI σ' 6 (σ'.1 7)).1 5 = nI n from h5]
    refine ew_icmp_lt (pc := 59) (tgt := 70) dX2_nextToken_59 (by decide) (fun c59 => ?_) (fun c59 => ?_)
    · refine ew_iload_n (pc := 70) dX2_nextToken_70 rfl ?_
      refine ew_bipush (pc := 71) (v := 97) dX2_nextToken_71 rfl ?_
      refine ew_bipush (pc := 73) (v := 122) dX2_nextToken_73 rfl ?_
      refine ew_cS3 (d' := 0) (pc := 75) sX2_102 dX2_nextToken_75 (by decide) (ew_rm (Nat.le_of_ble_eq_true rfl)) ?_
      refine t_inT ?_
      refine ew_Kr ?_
      refine ew_if_eq (pc := 78) (tgt := 138) dX2_nextToken_78 (by decide) (fun c78 => ?_) (fun c78 => ?_)
      · refine ew_iload_n (pc := 138) dX2_nextToken_138 rfl ?_
        refine ew_bipush (pc := 139) (v := 48) dX2_nextToken_139 rfl ?_
        refine ew_bipush (pc := 141) (v := 57) dX2_nextToken_141 rfl ?_
        refine ew_cS3 (d' := 0) (pc := 143) sX2_102 dX2_nextToken_143 (by decide) (ew_rm (Nat.le_of_ble_eq_true rfl)) ?_
        refine t_inT ?_
        refine ew_Kr ?_
        refine ew_if_eq (pc := 146) (tgt := 253) dX2_nextToken_146 (by decide) (fun c146 => ?_) (fun c146 => ?_)
        · refine ew_aload_n (pc := 253) dX2_nextToken_253 rfl ?_
          refine ew_dup (pc := 254) dX2_nextToken_254 rfl ?_
          refine tg_g7 (pc := 255) rfl dX2_nextToken_255 ?_
          refine ew_iconst (pc := 258) (v := 1) dX2_nextToken_258 rfl ?_
          refine ew_iadd (pc := 259) dX2_nextToken_259 ?_
          refine tg_p7 (pc := 260) rfl dX2_nextToken_260 ?_
          refine ew_aload_n (pc := 263) dX2_nextToken_263 rfl ?_
          refine ew_iload_n (pc := 264) dX2_nextToken_264 rfl ?_
          refine ew_bipush (pc := 265) (v := 59) dX2_nextToken_265 rfl ?_
          refine ew_icmp_ne (pc := 267) (tgt := 274) dX2_nextToken_267 (by decide) (fun c267 => ?_) (fun c267 => ?_)
          · refine ew_iconst (pc := 274) (v := 0) dX2_nextToken_274 rfl ?_
            refine tg_p8 (pc := 275) rfl dX2_nextToken_275 ?_
            refine ew_vret (pc := 278) rfl dX2_nextToken_278 ?_
            first
            | refine hq _ ?_ ?_
              · exact (((hF.w rfl).xI 6 _ rfl).xI 8 _ rfl)
              · rw [tokN, hf, tokA, if_pos (Nat.le_of_not_lt (fun h9 => c59 (nI_lt h9 (by omega))))]
                exact ⟨rfl, h7, h7, hF.s 9 rfl⟩
            | refine hq _ ((((hF.w rfl).xI 6 _ rfl).xI 7 _ rfl).xI 8 _ rfl) ?_
              rw [tokN, hf, tokA, if_neg (fun h9 => absurd c59 (Int32.not_lt.mpr (nI_le h9 (by omega)))), if_neg (bI_0.mp c78), if_neg (bI_0.mp c146)]
              refine ⟨?_, h7, ?_, hF.s 9 rfl⟩
              · first
                | exact congrArg nI (if_pos c267).symm
                | exact congrArg nI (if_neg c267).symm
              · show σ'.1 7 + 1 = _
                rw [h7]
                exact nI_1 f
          · refine ew_iconst (pc := 270) (v := 3) dX2_nextToken_270 rfl ?_
            refine ew_goto (pc := 271) (tgt := 275) dX2_nextToken_271 (by decide) ?_
            refine tg_p8 (pc := 275) rfl dX2_nextToken_275 ?_
            refine ew_vret (pc := 278) rfl dX2_nextToken_278 ?_
            first
            | refine hq _ ?_ ?_
              · exact (((hF.w rfl).xI 6 _ rfl).xI 8 _ rfl)
              · rw [tokN, hf, tokA, if_pos (Nat.le_of_not_lt (fun h9 => c59 (nI_lt h9 (by omega))))]
                exact ⟨rfl, h7, h7, hF.s 9 rfl⟩
            | refine hq _ ((((hF.w rfl).xI 6 _ rfl).xI 7 _ rfl).xI 8 _ rfl) ?_
              rw [tokN, hf, tokA, if_neg (fun h9 => absurd c59 (Int32.not_lt.mpr (nI_le h9 (by omega)))), if_neg (bI_0.mp c78), if_neg (bI_0.mp c146)]
              refine ⟨?_, h7, ?_, hF.s 9 rfl⟩
              · first
                | exact congrArg nI (if_pos c267).symm
                | exact congrArg nI (if_neg c267).symm
              · show σ'.1 7 + 1 = _
                rw [h7]
                exact nI_1 f
        · refine ew_aload_n (pc := 149) dX2_nextToken_149 rfl ?_
          refine ew_iconst (pc := 150) (v := 0) dX2_nextToken_150 rfl ?_
          refine tg_p9 (pc := 151) rfl dX2_nextToken_151 ?_
          have hfl : f < n := Nat.lt_of_not_le (fun h9 => absurd c59 (Int32.not_lt.mpr (nI_le h9 (by omega))))
          exact lD f _ hf hfn (bI_0.mp c78) (bI_n.mp c146) hfl n f 0 _ (by omega) hfn rfl (Nat.le_refl _) (((hF.w rfl).xI 6 _ rfl).xI 9 _ rfl) h7 h7 rfl
      · have hfl : f < n := Nat.lt_of_not_le (fun h9 => absurd c59 (Int32.not_lt.mpr (nI_le h9 (by omega))))
        exact lE f _ hf hfn (bI_n.mp c78) hfl n f _ (by omega) hfn rfl (Nat.le_refl _) ((hF.w rfl).xI 6 _ rfl) h7 h7
    · refine ew_aload_n (pc := 62) dX2_nextToken_62 rfl ?_
      refine ew_iconst (pc := 63) (v := 4) dX2_nextToken_63 rfl ?_
      refine tg_p8 (pc := 64) rfl dX2_nextToken_64 ?_
      refine ew_goto (pc := 67) (tgt := 278) dX2_nextToken_67 (by decide) ?_
      refine ew_vret (pc := 278) rfl dX2_nextToken_278 ?_
      first
      | refine hq _ ?_ ?_
        · exact (((hF.w rfl).xI 6 _ rfl).xI 8 _ rfl)
        · rw [tokN, hf, tokA, if_pos (Nat.le_of_not_lt (fun h9 => c59 (nI_lt h9 (by omega))))]
          exact ⟨rfl, h7, h7, hF.s 9 rfl⟩
      | refine hq _ ((((hF.w rfl).xI 6 _ rfl).xI 7 _ rfl).xI 8 _ rfl) ?_
        rw [tokN, hf, tokA, if_neg (fun h9 => absurd c59 (Int32.not_lt.mpr (nI_le h9 (by omega)))), if_neg (bI_0.mp c78), if_neg (bI_0.mp c146)]
        refine ⟨?_, h7, ?_, hF.s 9 rfl⟩
        · first
          | exact congrArg nI (if_pos c267).symm
          | exact congrArg nI (if_neg c267).symm
        · show σ'.1 7 + 1 = _
          rw [h7]
          exact nI_1 f
  have lS : ∀ r q x1 σ', n ≤ q + r → q ≤ n → spF b n r q = spF b n n p → Fq [7] σ σ' → σ'.1 7 = nI q → ew_G g kX2_nextToken 1 8 [.ref t, x1] [] (tw t σ' h) Q := by
    intro r
    induction r with
    | zero =>
      intro q x1 σ' hr hqn hs hF h7
      have hb : bA b n q = -1 := bA_end (by omega)
      rw [spF] at hs
      refine ew_aload_n (pc := 8) dX2_nextToken_8 rfl ?_
      refine ew_aload_n (pc := 9) dX2_nextToken_9 rfl ?_
      refine tg_g7 (pc := 10) rfl dX2_nextToken_10 ?_
      rw [h7]
      refine ew_cV1 (d' := 0) (pc := 13) vX2_92 (tw_ro _ _ _ _) dX2_nextToken_13 (by decide) (ew_rm (Nat.le_of_ble_eq_true rfl)) ?_
      refine t_byteAt (hT.fq hF rfl rfl) (by omega) ?_
      rw [hb]
      refine ew_Kr ?_
      refine ew_bipush (pc := 16) (v := 32) dX2_nextToken_16 rfl ?_
      refine ew_icmp_ne (pc := 18) (tgt := 34) dX2_nextToken_18 (by decide) (fun c18 => ?_) (fun c18 => absurd c18 (by decide))
      exact fin q _ σ' hs.symm hqn hF h7
    | succ r ih =>
      intro q x1 σ' hr hqn hs hF h7
      rw [spF] at hs
      refine ew_aload_n (pc := 8) dX2_nextToken_8 rfl ?_
      refine ew_aload_n (pc := 9) dX2_nextToken_9 rfl ?_
      refine tg_g7 (pc := 10) rfl dX2_nextToken_10 ?_
      rw [h7]
      refine ew_cV1 (d' := 0) (pc := 13) vX2_92 (tw_ro _ _ _ _) dX2_nextToken_13 (by decide) (ew_rm (Nat.le_of_ble_eq_true rfl)) ?_
      refine t_byteAt (hT.fq hF rfl rfl) (by omega) ?_
      refine ew_Kr ?_
      refine ew_bipush (pc := 16) (v := 32) dX2_nextToken_16 rfl ?_
      refine ew_icmp_ne (pc := 18) (tgt := 34) dX2_nextToken_18 (by decide) (fun c18 => ?_) (fun c18 => ?_)
      · rw [if_neg c18] at hs
        exact fin q _ σ' hs.symm hqn hF h7
      · rw [if_pos c18] at hs
        have hqn2 : q < n := by
          by_cases h8 : n ≤ q
          · rw [bA_end h8] at c18; exact absurd c18 (by decide)
          · omega
        refine ew_aload_n (pc := 21) dX2_nextToken_21 rfl ?_
        refine ew_dup (pc := 22) dX2_nextToken_22 rfl ?_
        refine tg_g7 (pc := 23) rfl dX2_nextToken_23 ?_
        refine ew_iconst (pc := 26) (v := 1) dX2_nextToken_26 rfl ?_
        refine ew_iadd (pc := 27) dX2_nextToken_27 ?_
        refine tg_p7 (pc := 28) rfl dX2_nextToken_28 ?_
        refine ew_goto (pc := 31) (tgt := 8) dX2_nextToken_31 (by decide) ?_
        exact ih (q + 1) _ _ (by omega) (by omega) hs (hF.xI 7 _ rfl) (by show σ'.1 7 + 1 = _; rw [h7]; exact nI_1 q)
  refine ew_enter (by decide +kernel) (ew_a1 rfl (ew_an ew_az)) (Nat.le_of_ble_eq_true rfl) ?_
  refine ew_aload_n (pc := 0) dX2_nextToken_0 rfl ?_
  refine tg_g3 (pc := 1) rfl dX2_nextToken_1 ?_
  refine ew_if_le (pc := 4) (tgt := 8) dX2_nextToken_4 (by decide) (fun c4 => ?_) (fun c4 => absurd (by rw [h3]; decide) c4)
  exact lS n p _ σ (by omega) hp rfl (Fq.r _ _) h7
