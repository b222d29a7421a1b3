/-! EW: a net's steps -/
set_option maxRecDepth 100000
theorem StM.l {g : eg} {h0 h : eh} {L E : Nat} {xs : List Nat} {es : List ed} (S : StM g h0 h L E xs es) : ∃ mc, h.1 L = some (ob 19 [.int mc, .ref E, .int (nI xs.length)]) := S.1.1.elim fun mc h1 => h1.elim fun cap h2 => h2.elim fun f h3 => ⟨mc, h3.1⟩
theorem hasB_z (w : Nat) (h : w < 32) : ¬ hasB 0 (nI w) := hasB_0 h
theorem eW1_c {N : Nat → Int32} {w : Nat} (hw : w < 24) (hd : N (2 + 6 * w + 5) = 0) : eW1 N 0 (-1) w = (if ¬ N (2 + 6 * w + 3) = -1 then [(fA N w, fB N w, N (2 + 6 * w + 3), nI (2 * w))] else []) ++ [(fB N w, fA N w, -N (2 + 6 * w + 2), nI (2 * w + 1))] := by
  have e1 : ¬ (-1 : Int32) = nI (2 * w) := fun e => nI_pos (n := 2 * w) (by omega) (by rw [← e]; decide)
  have e2 : ¬ (-1 : Int32) = nI (2 * w + 1) := fun e => nI_pos (n := 2 * w + 1) (by omega) (by rw [← e]; decide)
  rw [eW1, if_neg (fun h9 => h9.elim (fun h8 => absurd (h8.symm.trans hd) (by decide)) (hasB_z w (by omega))), elW, if_pos e2]
  congr 1
  by_cases h : N (2 + 6 * w + 3) = -1
  · rw [ehW_n1 h, if_neg (fun h9 => h9 h)]
  · rw [ehW_y h e1, if_pos h]
theorem eW1_d {N : Nat → Int32} {w : Nat} (hd : N (2 + 6 * w + 5) = 1) : eW1 N 0 (-1) w = [] := by
  rw [eW1, if_pos (Or.inl hd)]
section
variable {g : eg} {h : eh} {p nA L E F D W : Nat} {ws : List Nat} {N : Nat → Int32} {Q : Outcome → eh → Prop}
theorem t_nSteps (hg : gOC g) (hM : gOM g) (r : NR g h p nA L E F D W ws N) (hq : ∀ h' K e xs, StM g h h' K e xs (eN N 0 (-1)) → Q (.returned (some (.ref K))) h') : ew_T g kX6_steps 21 [.ref p] h Q := by
  have hw := r.ok.w2
  have hE := r.ok.e2
  have hE1 := r.ok.e1
  refine ew_okT (fun hok => ?_)
  have kr : ∀ h' K e xs es, StM g h h' K e xs es → NR g h' p nA L E F D W ws N := fun h' K e xs es S => r.ke S.2.1 hg hok (fun a _ => List.not_mem_nil)
  have l1 := fun m => eWs_len N 0 (-1) m
  have s224 : ∀ m k h1 e K xs x3, k + m = nE N - 1 → StM g h h1 K e xs (eWs N 0 (-1) (nW N) ++ eFs (fun e => N (146 + e)) (nE N - 1) ++ eUs (fun e => N (146 + e)) (nE N - 1) ++ eSs k) → ew_G g kX6_steps 21 226 [.ref p, .ref K, .int (nI (k + 1)), x3] [] h1 Q := by
    intro m
    induction m with
    | zero =>
      intro k h1 e K xs x3 hk S
      have e9 : k = nE N - 1 := by omega
      subst e9
      have r2 := kr _ _ _ _ _ S
      obtain ⟨mc, hKl⟩ := S.l
      refine ew_iload_n (pc := 226) dX6_steps_226 rfl ?_
      refine ew_aload_n (pc := 227) dX6_steps_227 rfl ?_
      refine ew_cV0 (d' := 0) (pc := 228) vX6_82 (rd_of r2.o) dX6_steps_228 (by decide) (ew_rm (Nat.le_of_ble_eq_true rfl)) ?_
      refine t_nEvents r2 ?_
      refine ew_Kr ?_
      refine ew_icmp_ge (pc := 231) (tgt := 262) dX6_steps_231 (by decide) (fun c231 => ?_) (fun c231 => absurd (nI_le (by omega) (by omega)) c231)
      refine ew_aload_n (pc := 262) dX6_steps_262 rfl ?_
      refine ew_aret (pc := 263) rfl (Or.inl ⟨_, rfl⟩) (Or.inr ⟨_, rfl⟩) dX6_steps_263 ?_
      exact hq _ _ _ _ S
    | succ m ih =>
      intro k h1 e K xs x3 hk S
      have r2 := kr _ _ _ _ _ S
      obtain ⟨mc, hKl⟩ := S.l
      refine ew_ok (fun ho => ?_)
      have hKlt := h_l ho hKl
      have hl : (eWs N 0 (-1) (nW N) ++ eFs (fun e => N (146 + e)) (nE N - 1) ++ eUs (fun e => N (146 + e)) (nE N - 1) ++ eSs k).length < 80 := by
        have a1 := l1 (nW N)
        have a2 := eFs_len (fun e => N (146 + e)) (nE N - 1)
        have a3 := eUs_len (fun e => N (146 + e)) (nE N - 1)
        have a4 := eSs_len k
        simp only [List.length_append]
        omega
      refine ew_iload_n (pc := 226) dX6_steps_226 rfl ?_
      refine ew_aload_n (pc := 227) dX6_steps_227 rfl ?_
      refine ew_cV0 (d' := 0) (pc := 228) vX6_82 (rd_of r2.o) dX6_steps_228 (by decide) (ew_rm (Nat.le_of_ble_eq_true rfl)) ?_
      refine t_nEvents r2 ?_
      refine ew_Kr ?_
      refine ew_icmp_ge (pc := 231) (tgt := 262) dX6_steps_231 (by decide) (fun c231 => absurd c231 (nI_ge (by omega) (by omega))) (fun c231 => ?_)
      refine ew_aload_n (pc := 234) dX6_steps_234 rfl ?_
      refine ew_new (pc := 235) nX6_104 dX6_steps_235 ?_
      refine ew_dup (pc := 238) dX6_steps_238 rfl ?_
      refine ew_sipush (pc := 239) (v := 300) dX6_steps_239 rfl ?_
      refine ew_iload_n (pc := 242) dX6_steps_242 rfl ?_
      refine ew_iadd (pc := 243) dX6_steps_243 ?_
      refine ew_iload_n (pc := 244) dX6_steps_244 rfl ?_
      refine ew_iconst (pc := 245) (v := 0) dX6_steps_245 rfl ?_
      refine ew_iconst (pc := 246) (v := 0) dX6_steps_246 rfl ?_
      refine ew_cI4 (d' := 1) (pc := 247) iX6_115 dX6_steps_247 (by decide) (ew_rm (Nat.le_of_ble_eq_true rfl)) ?_
      refine t_stInit (ne_1 _ _ _) ?_
      rw [show (300 : Int32) + nI (k + 1) = nI (300 + (k + 1)) from nI_add 300 (k + 1)]
      refine ew_Kv ?_
      refine ew_cF1 (d' := 18) (pc := 250) tX6_51_19 (rd_of (sn_1 (nn_1 hKl (by omega)) (by omega))) dX6_steps_250 (by decide) (ew_rm (Nat.le_of_ble_eq_true rfl)) ?_
      refine t_smAdd (h0 := h) (h := h1) (L := K) (E := e) (xs := xs) (e := (k + 1, 0, 0, nI (300 + (k + 1)))) (Nat.le_refl 4) (eO_mk rfl nI_0.symm) hg hM S ho hl (fun h' E' S' => ?_)
      refine ew_Kr ?_
      refine ew_pop (pc := 255) dX6_steps_255 rfl ?_
      refine ew_iinc (pc := 256) dX6_steps_256 rfl (nI_inc (k + 1)) (by decide) (p1_2 rfl) ?_
      refine ew_goto (pc := 259) (tgt := 226) dX6_steps_259 (by decide) ?_
      exact ih (k + 1) h' E' K _ _ (by omega) (by rw [eSs, ← List.append_assoc]; exact S')
  have s174 : ∀ m k h1 e K xs x3, k + m = nE N - 1 → StM g h h1 K e xs (eWs N 0 (-1) (nW N) ++ eFs (fun e => N (146 + e)) (nE N - 1) ++ eUs (fun e => N (146 + e)) k) → ew_G g kX6_steps 21 174 [.ref p, .ref K, .int (nI (k + 1)), x3] [] h1 Q := by
    intro m
    induction m with
    | zero =>
      intro k h1 e K xs x3 hk S
      have e9 : k = nE N - 1 := by omega
      subst e9
      have r2 := kr _ _ _ _ _ S
      obtain ⟨mc, hKl⟩ := S.l
      refine ew_iload_n (pc := 174) dX6_steps_174 rfl ?_
      refine ew_aload_n (pc := 175) dX6_steps_175 rfl ?_
      refine ew_cV0 (d' := 0) (pc := 176) vX6_82 (rd_of r2.o) dX6_steps_176 (by decide) (ew_rm (Nat.le_of_ble_eq_true rfl)) ?_
      refine t_nEvents r2 ?_
      refine ew_Kr ?_
      refine ew_icmp_ge (pc := 179) (tgt := 224) dX6_steps_179 (by decide) (fun c179 => ?_) (fun c179 => absurd (nI_le (by omega) (by omega)) c179)
      refine ew_iconst (pc := 224) (v := 1) dX6_steps_224 rfl ?_
      refine ew_istore_n (pc := 225) dX6_steps_225 rfl (by decide) (p1_2 rfl) ?_
      refine s224 (nE N - 1) 0 h1 e K xs x3 (by omega) ?_
      rw [eSs, List.append_nil]
      exact S
    | succ m ih =>
      intro k h1 e K xs x3 hk S
      have r2 := kr _ _ _ _ _ S
      obtain ⟨mc, hKl⟩ := S.l
      refine ew_ok (fun ho => ?_)
      have hKlt := h_l ho hKl
      obtain ⟨fF, hfF, hfF2⟩ := r2.F
      have hFl := h_l ho hfF
      have hpl := h_l ho r2.o
      have hl : (eWs N 0 (-1) (nW N) ++ eFs (fun e => N (146 + e)) (nE N - 1) ++ eUs (fun e => N (146 + e)) k).length < 80 := by
        have a1 := l1 (nW N)
        have a2 := eFs_len (fun e => N (146 + e)) (nE N - 1)
        have a3 := eUs_len (fun e => N (146 + e)) k
        simp only [List.length_append]
        omega
      refine ew_iload_n (pc := 174) dX6_steps_174 rfl ?_
      refine ew_aload_n (pc := 175) dX6_steps_175 rfl ?_
      refine ew_cV0 (d' := 0) (pc := 176) vX6_82 (rd_of r2.o) dX6_steps_176 (by decide) (ew_rm (Nat.le_of_ble_eq_true rfl)) ?_
      refine t_nEvents r2 ?_
      refine ew_Kr ?_
      refine ew_icmp_ge (pc := 179) (tgt := 224) dX6_steps_179 (by decide) (fun c179 => absurd c179 (nI_ge (by omega) (by omega))) (fun c179 => ?_)
      refine ew_aload_n (pc := 182) dX6_steps_182 rfl ?_
      refine ew_iload_n (pc := 183) dX6_steps_183 rfl ?_
      refine ew_cV1 (d' := 0) (pc := 184) vX6_85 (rd_of r2.o) dX6_steps_184 (by decide) (ew_rm (Nat.le_of_ble_eq_true rfl)) ?_
      refine t_nFree r2 (by omega) ?_
      refine ew_Kr ?_
      refine ew_if_ne (pc := 187) (tgt := 218) dX6_steps_187 (by decide) (fun c187 => ?_) (fun c187 => ?_)
      · refine ew_iinc (pc := 218) dX6_steps_218 rfl (nI_inc (k + 1)) (by decide) (p1_2 rfl) ?_
        refine ew_goto (pc := 221) (tgt := 174) dX6_steps_221 (by decide) ?_
        first
        | have c0 : N (146 + (k + 1)) = -1 := bI_n.mp c187
          have e1 : eUs (fun e => N (146 + e)) (k + 1) = eUs (fun e => N (146 + e)) k := by
            rw [eUs, if_pos c0, List.append_nil]
          have h8 := ih (k + 1) h1 e K xs x3 (by omega)
          rw [e1] at h8
          exact h8 S
        | have c0 : ¬ N (146 + (k + 1)) = -1 := bI_0.mp c187
          refine ih (k + 1) h' E' K (xs ++ [h1.2.1]) _ (by omega) ?_
          rw [eUs, if_neg c0, ← List.append_assoc]
          exact S'
      · refine ew_aload_n (pc := 190) dX6_steps_190 rfl ?_
        refine ew_new (pc := 191) nX6_104 dX6_steps_191 ?_
        refine ew_dup (pc := 194) dX6_steps_194 rfl ?_
        refine ew_sipush (pc := 195) (v := 200) dX6_steps_195 rfl ?_
        refine ew_iload_n (pc := 198) dX6_steps_198 rfl ?_
        refine ew_iadd (pc := 199) dX6_steps_199 ?_
        refine ew_iload_n (pc := 200) dX6_steps_200 rfl ?_
        refine ew_iconst (pc := 201) (v := 0) dX6_steps_201 rfl ?_
        refine ew_aload_n (pc := 202) dX6_steps_202 rfl ?_
        refine ew_getf (pc := 203) fX6_22 (rd_nn (rd_of r2.o) (by omega)) rfl dX6_steps_203 ?_
        refine ew_iload_n (pc := 206) dX6_steps_206 rfl ?_
        refine ew_iaJ (pc := 207) (rd_nn (rd_of hfF) (by omega)) (j := k + 1) rfl (by omega) (by omega) dX6_steps_207 ?_
        rw [hfF2 (k + 1) (by omega)]
        rw [show (200 : Int32) + nI (k + 1) = nI (200 + (k + 1)) from nI_add 200 (k + 1)]
        refine ew_ineg (pc := 208) dX6_steps_208 ?_
        refine ew_cI4 (d' := 1) (pc := 209) iX6_115 dX6_steps_209 (by decide) (ew_rm (Nat.le_of_ble_eq_true rfl)) ?_
        refine t_stInit (ne_1 _ _ _) ?_
        refine ew_Kv ?_
        refine ew_cF1 (d' := 18) (pc := 212) tX6_51_19 (rd_of (sn_1 (nn_1 hKl (by omega)) (by omega))) dX6_steps_212 (by decide) (ew_rm (Nat.le_of_ble_eq_true rfl)) ?_
        refine t_smAdd (e := (k + 1, 0, -N (146 + (k + 1)), nI (200 + (k + 1)))) (Nat.le_refl 4) (eO_mk rfl nI_0.symm) hg hM S ho hl (fun h' E' S' => ?_)
        refine ew_Kr ?_
        refine ew_pop (pc := 217) dX6_steps_217 rfl ?_
        refine ew_iinc (pc := 218) dX6_steps_218 rfl (nI_inc (k + 1)) (by decide) (p1_2 rfl) ?_
        refine ew_goto (pc := 221) (tgt := 174) dX6_steps_221 (by decide) ?_
        first
        | have c0 : N (146 + (k + 1)) = -1 := bI_n.mp c187
          have e1 : eUs (fun e => N (146 + e)) (k + 1) = eUs (fun e => N (146 + e)) k := by
            rw [eUs, if_pos c0, List.append_nil]
          have h8 := ih (k + 1) h1 e K xs x3 (by omega)
          rw [e1] at h8
          exact h8 S
        | have c0 : ¬ N (146 + (k + 1)) = -1 := bI_0.mp c187
          refine ih (k + 1) h' E' K (xs ++ [h1.2.1]) _ (by omega) ?_
          rw [eUs, if_neg c0, ← List.append_assoc]
          exact S'
  have s124 : ∀ m k h1 e K xs x3, k + m = nE N - 1 → StM g h h1 K e xs (eWs N 0 (-1) (nW N) ++ eFs (fun e => N (146 + e)) k) → ew_G g kX6_steps 21 124 [.ref p, .ref K, .int (nI (k + 1)), x3] [] h1 Q := by
    intro m
    induction m with
    | zero =>
      intro k h1 e K xs x3 hk S
      have e9 : k = nE N - 1 := by omega
      subst e9
      have r2 := kr _ _ _ _ _ S
      obtain ⟨mc, hKl⟩ := S.l
      refine ew_iload_n (pc := 124) dX6_steps_124 rfl ?_
      refine ew_aload_n (pc := 125) dX6_steps_125 rfl ?_
      refine ew_cV0 (d' := 0) (pc := 126) vX6_82 (rd_of r2.o) dX6_steps_126 (by decide) (ew_rm (Nat.le_of_ble_eq_true rfl)) ?_
      refine t_nEvents r2 ?_
      refine ew_Kr ?_
      refine ew_icmp_ge (pc := 129) (tgt := 172) dX6_steps_129 (by decide) (fun c129 => ?_) (fun c129 => absurd (nI_le (by omega) (by omega)) c129)
      refine ew_iconst (pc := 172) (v := 1) dX6_steps_172 rfl ?_
      refine ew_istore_n (pc := 173) dX6_steps_173 rfl (by decide) (p1_2 rfl) ?_
      refine s174 (nE N - 1) 0 h1 e K xs x3 (by omega) ?_
      rw [eUs, List.append_nil]
      exact S
    | succ m ih =>
      intro k h1 e K xs x3 hk S
      have r2 := kr _ _ _ _ _ S
      obtain ⟨mc, hKl⟩ := S.l
      refine ew_ok (fun ho => ?_)
      have hKlt := h_l ho hKl
      obtain ⟨fF, hfF, hfF2⟩ := r2.F
      have hFl := h_l ho hfF
      have hpl := h_l ho r2.o
      have hl : (eWs N 0 (-1) (nW N) ++ eFs (fun e => N (146 + e)) k).length < 80 := by
        have a1 := l1 (nW N)
        have a2 := eFs_len (fun e => N (146 + e)) (nE N - 1)
        have a3 := eFs_len (fun e => N (146 + e)) k
        simp only [List.length_append]
        omega
      refine ew_iload_n (pc := 124) dX6_steps_124 rfl ?_
      refine ew_aload_n (pc := 125) dX6_steps_125 rfl ?_
      refine ew_cV0 (d' := 0) (pc := 126) vX6_82 (rd_of r2.o) dX6_steps_126 (by decide) (ew_rm (Nat.le_of_ble_eq_true rfl)) ?_
      refine t_nEvents r2 ?_
      refine ew_Kr ?_
      refine ew_icmp_ge (pc := 129) (tgt := 172) dX6_steps_129 (by decide) (fun c129 => absurd c129 (nI_ge (by omega) (by omega))) (fun c129 => ?_)
      refine ew_aload_n (pc := 132) dX6_steps_132 rfl ?_
      refine ew_iload_n (pc := 133) dX6_steps_133 rfl ?_
      refine ew_cV1 (d' := 0) (pc := 134) vX6_85 (rd_of r2.o) dX6_steps_134 (by decide) (ew_rm (Nat.le_of_ble_eq_true rfl)) ?_
      refine t_nFree r2 (by omega) ?_
      refine ew_Kr ?_
      refine ew_if_ne (pc := 137) (tgt := 166) dX6_steps_137 (by decide) (fun c137 => ?_) (fun c137 => ?_)
      · refine ew_iinc (pc := 166) dX6_steps_166 rfl (nI_inc (k + 1)) (by decide) (p1_2 rfl) ?_
        refine ew_goto (pc := 169) (tgt := 124) dX6_steps_169 (by decide) ?_
        first
        | have c0 : N (146 + (k + 1)) = -1 := bI_n.mp c137
          have e1 : eFs (fun e => N (146 + e)) (k + 1) = eFs (fun e => N (146 + e)) k := by
            rw [eFs, if_pos c0, List.append_nil]
          have h8 := ih (k + 1) h1 e K xs x3 (by omega)
          rw [e1] at h8
          exact h8 S
        | have c0 : ¬ N (146 + (k + 1)) = -1 := bI_0.mp c137
          refine ih (k + 1) h' E' K (xs ++ [h1.2.1]) _ (by omega) ?_
          rw [eFs, if_neg c0, ← List.append_assoc]
          exact S'
      · refine ew_aload_n (pc := 140) dX6_steps_140 rfl ?_
        refine ew_new (pc := 141) nX6_104 dX6_steps_141 ?_
        refine ew_dup (pc := 144) dX6_steps_144 rfl ?_
        refine ew_bipush (pc := 145) (v := 100) dX6_steps_145 rfl ?_
        refine ew_iload_n (pc := 147) dX6_steps_147 rfl ?_
        refine ew_iadd (pc := 148) dX6_steps_148 ?_
        refine ew_iconst (pc := 149) (v := 0) dX6_steps_149 rfl ?_
        refine ew_iload_n (pc := 150) dX6_steps_150 rfl ?_
        refine ew_aload_n (pc := 151) dX6_steps_151 rfl ?_
        refine ew_getf (pc := 152) fX6_22 (rd_nn (rd_of r2.o) (by omega)) rfl dX6_steps_152 ?_
        refine ew_iload_n (pc := 155) dX6_steps_155 rfl ?_
        refine ew_iaJ (pc := 156) (rd_nn (rd_of hfF) (by omega)) (j := k + 1) rfl (by omega) (by omega) dX6_steps_156 ?_
        rw [hfF2 (k + 1) (by omega)]
        rw [show (100 : Int32) + nI (k + 1) = nI (100 + (k + 1)) from nI_add 100 (k + 1)]
        refine ew_cI4 (d' := 1) (pc := 157) iX6_115 dX6_steps_157 (by decide) (ew_rm (Nat.le_of_ble_eq_true rfl)) ?_
        refine t_stInit (ne_1 _ _ _) ?_
        refine ew_Kv ?_
        refine ew_cF1 (d' := 18) (pc := 160) tX6_51_19 (rd_of (sn_1 (nn_1 hKl (by omega)) (by omega))) dX6_steps_160 (by decide) (ew_rm (Nat.le_of_ble_eq_true rfl)) ?_
        refine t_smAdd (e := (0, k + 1, N (146 + (k + 1)), nI (100 + (k + 1)))) (Nat.le_refl 4) (eO_mk nI_0.symm rfl) hg hM S ho hl (fun h' E' S' => ?_)
        refine ew_Kr ?_
        refine ew_pop (pc := 165) dX6_steps_165 rfl ?_
        refine ew_iinc (pc := 166) dX6_steps_166 rfl (nI_inc (k + 1)) (by decide) (p1_2 rfl) ?_
        refine ew_goto (pc := 169) (tgt := 124) dX6_steps_169 (by decide) ?_
        first
        | have c0 : N (146 + (k + 1)) = -1 := bI_n.mp c137
          have e1 : eFs (fun e => N (146 + e)) (k + 1) = eFs (fun e => N (146 + e)) k := by
            rw [eFs, if_pos c0, List.append_nil]
          have h8 := ih (k + 1) h1 e K xs x3 (by omega)
          rw [e1] at h8
          exact h8 S
        | have c0 : ¬ N (146 + (k + 1)) = -1 := bI_0.mp c137
          refine ih (k + 1) h' E' K (xs ++ [h1.2.1]) _ (by omega) ?_
          rw [eFs, if_neg c0, ← List.append_assoc]
          exact S'
  have s12 : ∀ m w h1 e K xs x3, w + m = nW N → StM g h h1 K e xs (eWs N 0 (-1) w) → ew_G g kX6_steps 21 12 [.ref p, .ref K, .int (nI w), x3] [] h1 Q := by
    intro m
    induction m with
    | zero =>
      intro w h1 e K xs x3 hk S
      have e9 : w = nW N := by omega
      subst e9
      have r2 := kr _ _ _ _ _ S
      obtain ⟨mc, hKl⟩ := S.l
      obtain ⟨mc2, cap2, fl2, hLl, -⟩ := r2.l
      refine ew_iload_n (pc := 12) dX6_steps_12 rfl ?_
      refine ew_aload_n (pc := 13) dX6_steps_13 rfl ?_
      refine ew_getf (pc := 14) fX6_12 (rd_of r2.o) rfl dX6_steps_14 ?_
      refine ew_cF0 (d' := 0) (pc := 17) tX6_35_19 (rd_of hLl) dX6_steps_17 (by decide) (ew_rm (Nat.le_of_ble_eq_true rfl)) ?_
      refine t_alSize r2.l ?_
      rw [r2.len]
      refine ew_Kr ?_
      refine ew_icmp_ge (pc := 22) (tgt := 122) dX6_steps_22 (by decide) (fun c22 => ?_) (fun c22 => absurd (nI_le (by omega) (by omega)) c22)
      refine ew_iconst (pc := 122) (v := 1) dX6_steps_122 rfl ?_
      refine ew_istore_n (pc := 123) dX6_steps_123 rfl (by decide) (p1_2 rfl) ?_
      refine s124 (nE N - 1) 0 h1 e K xs x3 (by omega) ?_
      rw [eFs, List.append_nil]
      exact S
    | succ m ih =>
      intro w h1 e K xs x3 hk S
      have r2 := kr _ _ _ _ _ S
      obtain ⟨mc2, cap2, fl2, hLl, -⟩ := r2.l
      obtain ⟨x, hx, hxw⟩ := r2.at (i := w) (by omega)
      have ha := r.ok.a w (by omega)
      have hb := r.ok.b w (by omega)
      have hdr := r.ok.dr w (by omega)
      rw [wN, ha, hb] at hxw
      have s76 : ∀ h2 e2 xs2, StM g h h2 K e2 xs2 (eWs N 0 (-1) w ++ (if N (2 + 6 * w + 5) = 0 ∧ ¬ N (2 + 6 * w + 3) = -1 then [(fA N w, fB N w, N (2 + 6 * w + 3), nI (2 * w))] else [])) → h2.1 x = some (wV (nI (fA N w)) (nI (fB N w)) (N (2 + 6 * w + 2)) (N (2 + 6 * w + 3)) (N (2 + 6 * w + 4)) (N (2 + 6 * w + 5))) → ew_G g kX6_steps 21 76 [.ref p, .ref K, .int (nI w), .ref x] [] h2 Q := by
        intro h2 e2 xs2 S2 hx2
        obtain ⟨mc, hKl⟩ := S2.l
        refine ew_ok (fun ho => ?_)
        have hKlt := h_l ho hKl
        have hxl := h_l ho hx2
        have hl : (eWs N 0 (-1) w ++ (if N (2 + 6 * w + 5) = 0 ∧ ¬ N (2 + 6 * w + 3) = -1 then [(fA N w, fB N w, N (2 + 6 * w + 3), nI (2 * w))] else [])).length < 80 := by
          have a1 := l1 w
          rw [List.length_append]
          split <;> simp <;> omega
        refine ew_aload_n (pc := 76) dX6_steps_76 rfl ?_
        refine ew_iconst (pc := 77) (v := 1) dX6_steps_77 rfl ?_
        refine ew_cV1 (d' := 0) (pc := 78) vX6_100 (rd_of hx2) dX6_steps_78 (by decide) (ew_rm (Nat.le_of_ble_eq_true rfl)) ?_
        refine t_wHas (rd_of hx2) ?_
        refine ew_Kr ?_
        refine ew_if_eq (pc := 81) (tgt := 116) dX6_steps_81 (by decide) (fun c81 => ?_) (fun c81 => ?_)
        · refine ew_iinc (pc := 116) dX6_steps_116 rfl (nI_inc w) (by decide) (p1_2 rfl) ?_
          refine ew_goto (pc := 119) (tgt := 12) dX6_steps_119 (by decide) ?_
          first
          | have c0 : N (2 + 6 * w + 5) = 0 := (bI_n.mp c81).1
            have e1 : eWs N 0 (-1) (w + 1) = eWs N 0 (-1) w ++ (if N (2 + 6 * w + 5) = 0 ∧ ¬ N (2 + 6 * w + 3) = -1 then [(fA N w, fB N w, N (2 + 6 * w + 3), nI (2 * w))] else []) ++ [(fB N w, fA N w, -N (2 + 6 * w + 2), nI (2 * w + 1))] := by
              rw [eWs, eW1_c (by omega) c0, List.append_assoc]
              congr 2
              by_cases hh : N (2 + 6 * w + 3) = -1
              · rw [if_neg (fun h9 => h9 hh), if_neg (fun h9 => h9.2 hh)]
              · rw [if_pos hh, if_pos ⟨c0, hh⟩]
            exact ih (w + 1) h' E' K (xs2 ++ [h2.2.1]) _ (by omega) (by rw [e1]; exact S')
          | have c0 : ¬ N (2 + 6 * w + 5) = 0 := fun h9 => bI_0.mp c81 ⟨h9, fun h8 => absurd h8 (by decide)⟩
            have e1 : eWs N 0 (-1) (w + 1) = eWs N 0 (-1) w ++ (if N (2 + 6 * w + 5) = 0 ∧ ¬ N (2 + 6 * w + 3) = -1 then [(fA N w, fB N w, N (2 + 6 * w + 3), nI (2 * w))] else []) := by
              rw [eWs, eW1_d (hdr.resolve_left c0), if_neg (fun h9 => c0 h9.1)]
            exact ih (w + 1) h2 e2 K xs2 _ (by omega) (by rw [e1]; exact S2)
        · refine ew_aload_n (pc := 84) dX6_steps_84 rfl ?_
          refine ew_new (pc := 85) nX6_104 dX6_steps_85 ?_
          refine ew_dup (pc := 88) dX6_steps_88 rfl ?_
          refine ew_iconst (pc := 89) (v := 2) dX6_steps_89 rfl ?_
          refine ew_iload_n (pc := 90) dX6_steps_90 rfl ?_
          refine ew_imul (pc := 91) dX6_steps_91 ?_
          refine ew_iconst (pc := 92) (v := 1) dX6_steps_92 rfl ?_
          refine ew_iadd (pc := 93) dX6_steps_93 ?_
          rw [show (2 : Int32) * nI w + 1 = nI (2 * w + 1) by rw [show (2 : Int32) = nI 2 from rfl, nI_mul, nI_1]]
          refine ew_aload_n (pc := 94) dX6_steps_94 rfl ?_
          refine ew_getf (pc := 95) fX6_109 (rd_nn (rd_of hx2) (by omega)) rfl dX6_steps_95 ?_
          refine ew_aload_n (pc := 98) dX6_steps_98 rfl ?_
          refine ew_getf (pc := 99) fX6_106 (rd_nn (rd_of hx2) (by omega)) rfl dX6_steps_99 ?_
          refine ew_aload_n (pc := 102) dX6_steps_102 rfl ?_
          refine ew_getf (pc := 103) fX6_118 (rd_nn (rd_of hx2) (by omega)) rfl dX6_steps_103 ?_
          refine ew_ineg (pc := 106) dX6_steps_106 ?_
          refine ew_cI4 (d' := 1) (pc := 107) iX6_115 dX6_steps_107 (by decide) (ew_rm (Nat.le_of_ble_eq_true rfl)) ?_
          refine t_stInit (ne_1 _ _ _) ?_
          refine ew_Kv ?_
          refine ew_cF1 (d' := 18) (pc := 110) tX6_51_19 (rd_of (sn_1 (nn_1 hKl (by omega)) (by omega))) dX6_steps_110 (by decide) (ew_rm (Nat.le_of_ble_eq_true rfl)) ?_
          refine t_smAdd (e := (fB N w, fA N w, -N (2 + 6 * w + 2), nI (2 * w + 1))) (Nat.le_refl 4) (eO_mk rfl rfl) hg hM S2 ho hl (fun h' E' S' => ?_)
          refine ew_Kr ?_
          refine ew_pop (pc := 115) dX6_steps_115 rfl ?_
          refine ew_iinc (pc := 116) dX6_steps_116 rfl (nI_inc w) (by decide) (p1_2 rfl) ?_
          refine ew_goto (pc := 119) (tgt := 12) dX6_steps_119 (by decide) ?_
          first
          | have c0 : N (2 + 6 * w + 5) = 0 := (bI_n.mp c81).1
            have e1 : eWs N 0 (-1) (w + 1) = eWs N 0 (-1) w ++ (if N (2 + 6 * w + 5) = 0 ∧ ¬ N (2 + 6 * w + 3) = -1 then [(fA N w, fB N w, N (2 + 6 * w + 3), nI (2 * w))] else []) ++ [(fB N w, fA N w, -N (2 + 6 * w + 2), nI (2 * w + 1))] := by
              rw [eWs, eW1_c (by omega) c0, List.append_assoc]
              congr 2
              by_cases hh : N (2 + 6 * w + 3) = -1
              · rw [if_neg (fun h9 => h9 hh), if_neg (fun h9 => h9.2 hh)]
              · rw [if_pos hh, if_pos ⟨c0, hh⟩]
            exact ih (w + 1) h' E' K (xs2 ++ [h2.2.1]) _ (by omega) (by rw [e1]; exact S')
          | have c0 : ¬ N (2 + 6 * w + 5) = 0 := fun h9 => bI_0.mp c81 ⟨h9, fun h8 => absurd h8 (by decide)⟩
            have e1 : eWs N 0 (-1) (w + 1) = eWs N 0 (-1) w ++ (if N (2 + 6 * w + 5) = 0 ∧ ¬ N (2 + 6 * w + 3) = -1 then [(fA N w, fB N w, N (2 + 6 * w + 3), nI (2 * w))] else []) := by
              rw [eWs, eW1_d (hdr.resolve_left c0), if_neg (fun h9 => c0 h9.1)]
            exact ih (w + 1) h2 e2 K xs2 _ (by omega) (by rw [e1]; exact S2)
      obtain ⟨mc, hKl⟩ := S.l
      refine ew_ok (fun ho => ?_)
      have hKlt := h_l ho hKl
      have hxl := h_l ho hxw
      have hl : (eWs N 0 (-1) w).length < 80 := by
        have a1 := l1 w
        omega
      refine ew_iload_n (pc := 12) dX6_steps_12 rfl ?_
      refine ew_aload_n (pc := 13) dX6_steps_13 rfl ?_
      refine ew_getf (pc := 14) fX6_12 (rd_of r2.o) rfl dX6_steps_14 ?_
      refine ew_cF0 (d' := 0) (pc := 17) tX6_35_19 (rd_of hLl) dX6_steps_17 (by decide) (ew_rm (Nat.le_of_ble_eq_true rfl)) ?_
      refine t_alSize r2.l ?_
      rw [r2.len]
      refine ew_Kr ?_
      refine ew_icmp_ge (pc := 22) (tgt := 122) dX6_steps_22 (by decide) (fun c22 => absurd c22 (nI_ge (by omega) (by omega))) (fun c22 => ?_)
      refine ew_aload_n (pc := 25) dX6_steps_25 rfl ?_
      refine ew_getf (pc := 26) fX6_12 (rd_of r2.o) rfl dX6_steps_26 ?_
      refine ew_iload_n (pc := 29) dX6_steps_29 rfl ?_
      refine ew_cF1 (d' := 2) (pc := 30) tX6_41_19 (rd_of hLl) dX6_steps_30 (by decide) (ew_rm (Nat.le_of_ble_eq_true rfl)) ?_
      refine t_alGet r2.l hx ?_
      refine ew_Kr ?_
      refine ew_cast (pc := 35) rfl (rd_of hxw) (ew_q q1675) (Or.inl rfl) dX6_steps_35 ?_
      first | refine ew_astore_n (pc := 38) dX6_steps_38 rfl (by decide) (p1_3 rfl) ?_ | refine ew_astore_nq (pc := 38) dX6_steps_38 rfl (by decide) (p1_3 rfl) ?_ | refine ew_astore_nN (pc := 38) dX6_steps_38 rfl (by decide) (p1_3 rfl) ?_
      refine ew_aload_n (pc := 39) dX6_steps_39 rfl ?_
      refine ew_iconst (pc := 40) (v := 0) dX6_steps_40 rfl ?_
      refine ew_cV1 (d' := 0) (pc := 41) vX6_100 (rd_of hxw) dX6_steps_41 (by decide) (ew_rm (Nat.le_of_ble_eq_true rfl)) ?_
      refine t_wHas (rd_of hxw) ?_
      refine ew_Kr ?_
      refine ew_if_eq (pc := 44) (tgt := 76) dX6_steps_44 (by decide) (fun c44 => ?_) (fun c44 => ?_)
      · first
        | have c0 : N (2 + 6 * w + 5) = 0 ∧ ¬ N (2 + 6 * w + 3) = -1 := ⟨(bI_n.mp c44).1, (bI_n.mp c44).2 rfl⟩
          refine s76 h' E' _ (by rw [if_pos c0]; exact S') ?_
          have hx9 := (r.w w x hx)
          rw [wN, ha, hb] at hx9
          exact S'.2.1.h hok hx9 List.not_mem_nil
        | have c0 : ¬ (N (2 + 6 * w + 5) = 0 ∧ ¬ N (2 + 6 * w + 3) = -1) := fun h9 => bI_0.mp c44 ⟨h9.1, fun _ => h9.2⟩
          exact s76 h1 e xs (by rw [if_neg c0, List.append_nil]; exact S) hxw
      · refine ew_aload_n (pc := 47) dX6_steps_47 rfl ?_
        refine ew_new (pc := 48) nX6_104 dX6_steps_48 ?_
        refine ew_dup (pc := 51) dX6_steps_51 rfl ?_
        refine ew_iconst (pc := 52) (v := 2) dX6_steps_52 rfl ?_
        refine ew_iload_n (pc := 53) dX6_steps_53 rfl ?_
        refine ew_imul (pc := 54) dX6_steps_54 ?_
        rw [show (2 : Int32) * nI w = nI (2 * w) from nI_mul 2 w]
        refine ew_aload_n (pc := 55) dX6_steps_55 rfl ?_
        refine ew_getf (pc := 56) fX6_106 (rd_nn (rd_of hxw) (by omega)) rfl dX6_steps_56 ?_
        refine ew_aload_n (pc := 59) dX6_steps_59 rfl ?_
        refine ew_getf (pc := 60) fX6_109 (rd_nn (rd_of hxw) (by omega)) rfl dX6_steps_60 ?_
        refine ew_aload_n (pc := 63) dX6_steps_63 rfl ?_
        refine ew_getf (pc := 64) fX6_112 (rd_nn (rd_of hxw) (by omega)) rfl dX6_steps_64 ?_
        refine ew_cI4 (d' := 1) (pc := 67) iX6_115 dX6_steps_67 (by decide) (ew_rm (Nat.le_of_ble_eq_true rfl)) ?_
        refine t_stInit (ne_1 _ _ _) ?_
        refine ew_Kv ?_
        refine ew_cF1 (d' := 18) (pc := 70) tX6_51_19 (rd_of (sn_1 (nn_1 hKl (by omega)) (by omega))) dX6_steps_70 (by decide) (ew_rm (Nat.le_of_ble_eq_true rfl)) ?_
        refine t_smAdd (e := (fA N w, fB N w, N (2 + 6 * w + 3), nI (2 * w))) (Nat.le_refl 4) (eO_mk rfl rfl) hg hM S ho hl (fun h' E' S' => ?_)
        refine ew_Kr ?_
        refine ew_pop (pc := 75) dX6_steps_75 rfl ?_
        first
        | have c0 : N (2 + 6 * w + 5) = 0 ∧ ¬ N (2 + 6 * w + 3) = -1 := ⟨(bI_n.mp c44).1, (bI_n.mp c44).2 rfl⟩
          refine s76 h' E' _ (by rw [if_pos c0]; exact S') ?_
          have hx9 := (r.w w x hx)
          rw [wN, ha, hb] at hx9
          exact S'.2.1.h hok hx9 List.not_mem_nil
        | have c0 : ¬ (N (2 + 6 * w + 5) = 0 ∧ ¬ N (2 + 6 * w + 3) = -1) := fun h9 => bI_0.mp c44 ⟨h9.1, fun _ => h9.2⟩
          exact s76 h1 e xs (by rw [if_neg c0, List.append_nil]; exact S) hxw
  refine ew_enter (by decide +kernel) (ew_a1 rfl (ew_an (ew_an (ew_an ew_az)))) (Nat.le_of_ble_eq_true rfl) ?_
  refine ew_new (pc := 0) nX6_9 dX6_steps_0 ?_
  refine ew_dup (pc := 3) dX6_steps_3 rfl ?_
  refine ew_bipush (pc := 4) (v := 64) dX6_steps_4 rfl ?_
  refine ew_cI1 (d' := 20) (pc := 6) iX6_97 dX6_steps_6 (by decide) (ew_rm (Nat.le_of_ble_eq_true rfl)) ?_
  refine t_alInitN (ne_1 _ _ _) (n := 64) (by decide) (by decide) (fun h1 q1 q2 => ?_)
  refine ew_Kv ?_
  first | refine ew_astore_n (pc := 9) dX6_steps_9 rfl (by decide) (p1_1 rfl) ?_ | refine ew_astore_nq (pc := 9) dX6_steps_9 rfl (by decide) (p1_1 rfl) ?_ | refine ew_astore_nN (pc := 9) dX6_steps_9 rfl (by decide) (p1_1 rfl) ?_
  refine ew_iconst (pc := 10) (v := 0) dX6_steps_10 rfl ?_
  refine ew_istore_n (pc := 11) dX6_steps_11 rfl (by decide) (p1_2 rfl) ?_
  refine s12 (nW N) 0 h1 _ _ [] _ (by omega) ⟨⟨q1, rfl, fun i x e h9 => by cases h9⟩, ?_, Nat.le_refl _, Nat.le_succ _⟩
  exact Ke.new.t q2 (fun a h9 => absurd h9 List.not_mem_nil) (fun a h9 h8 => by rw [List.mem_singleton.mp h9] at h8; omega) (by simp [eWs]) (by simp [eWs])
end
