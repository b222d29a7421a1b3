/-! EW: the reference: all steps -/
set_option maxRecDepth 100000
/-- all but some fields (and arrays) are as they were -/
def Fq (S : List Nat) (σ σ' : tS) : Prop := ∀ k, S.contains k = false → σ'.1 k = σ.1 k ∧ σ'.2 k = σ.2 k
theorem Fq.s {S : List Nat} {σ σ' : tS} (h : Fq S σ σ') (k : Nat) (hk : S.contains k = false) : σ'.1 k = σ.1 k := (h k hk).1
theorem Fq.a {S : List Nat} {σ σ' : tS} (h : Fq S σ σ') (k : Nat) (hk : S.contains k = false) : σ'.2 k = σ.2 k := (h k hk).2
theorem Fq.r (S : List Nat) (σ : tS) : Fq S σ σ := fun _ _ => ⟨rfl, rfl⟩
theorem Fq.t {S1 S2 S : List Nat} {σ σ1 σ2 : tS} (h1 : Fq S1 σ σ1) (h2 : Fq S2 σ1 σ2) (a1 : S1.all S.contains = true) (a2 : S2.all S.contains = true) : Fq S σ σ2 := by
  intro k hk
  have key : ∀ S' : List Nat, S'.all S.contains = true → S'.contains k = false := by
    intro S' h9
    cases h8 : S'.contains k with
    | false => rfl
    | true =>
      have h7 := List.all_eq_true.mp h9 k (List.contains_iff_mem.mp h8)
      rw [hk] at h7
      cases h7
  have e1 := h1 k (key S1 a1)
  have e2 := h2 k (key S2 a2)
  exact ⟨e2.1.trans e1.1, e2.2.trans e1.2⟩
theorem Fq.t1 {S : List Nat} {σ σ1 σ2 : tS} (h1 : Fq S σ σ1) (h2 : Fq S σ1 σ2) : Fq S σ σ2 := fun k hk => ⟨(h2 k hk).1.trans (h1 k hk).1, (h2 k hk).2.trans (h1 k hk).2⟩
theorem Fq.w {S1 S : List Nat} {σ σ1 : tS} (h1 : Fq S1 σ σ1) (a1 : S1.all S.contains = true) : Fq S σ σ1 := h1.t (Fq.r S σ1) a1 (by
  refine List.all_eq_true.mpr ?_
  intro x hx
  exact List.contains_iff_mem.mpr hx)
theorem Fq.I {S : List Nat} (σ : tS) (k : Nat) (x : Int32) (hk : S.contains k = true) : Fq S σ (tI σ k x) := by
  intro j hj
  refine ⟨if_neg ?_, rfl⟩
  intro e
  rw [e, hk] at hj
  cases hj
theorem Fq.A {S : List Nat} (σ : tS) (k : Nat) (f : Nat → Int32) (hk : S.contains k = true) : Fq S σ (tA σ k f) := by
  intro j hj
  refine ⟨rfl, if_neg ?_⟩
  intro e
  rw [e, hk] at hj
  cases hj
theorem Fq.xI {S : List Nat} {σ σ1 : tS} (h : Fq S σ σ1) (k : Nat) (x : Int32) (hk : S.contains k = true) : Fq S σ (tI σ1 k x) := h.t1 (Fq.I σ1 k x hk)
theorem Fq.xA {S : List Nat} {σ σ1 : tS} (h : Fq S σ σ1) (k : Nat) (f : Nat → Int32) (hk : S.contains k = true) : Fq S σ (tA σ1 k f) := h.t1 (Fq.A σ1 k f hk)
theorem Fq.u {S2 S : List Nat} {σ σ1 σ2 : tS} (h1 : Fq S σ σ1) (h2 : Fq S2 σ1 σ2) (a2 : S2.all S.contains = true) : Fq S σ σ2 := h1.t1 (h2.w a2)
theorem t_ofN {g : eg} {h : eh} {t w i : Nat} {σ : tS} {N : Nat → Int32} {Q : Outcome → eh → Prop} (hN : σ.2 16 = N) (hw : w < 24) (hi : i < 6) (hq : Q (.returned (some (.int (N (2 + 6 * w + i))))) (tw t σ h)) : ew_T g kX2_of 1 [.ref t, .int (nI w), .int (nI i)] (tw t σ h) Q := by
  subst hN
  exact t_ofT hw hi hq
theorem t_eventsN {g : eg} {h : eh} {t : Nat} {σ : tS} {N : Nat → Int32} {Q : Outcome → eh → Prop} (hN : σ.2 16 = N) (ok : okN N) (hq : Q (.returned (some (.int (nI (nE N))))) (tw t σ h)) : ew_T g kX2_eventsNow 0 [.ref t] (tw t σ h) Q := by
  subst hN
  rw [← ok.e] at hq
  exact t_eventsNow hq
theorem t_windowsN {g : eg} {h : eh} {t : Nat} {σ : tS} {N : Nat → Int32} {Q : Outcome → eh → Prop} (hN : σ.2 16 = N) (ok : okN N) (hq : Q (.returned (some (.int (nI (nW N))))) (tw t σ h)) : ew_T g kX2_windowsNow 0 [.ref t] (tw t σ h) Q := by
  subst hN
  rw [← ok.w] at hq
  exact t_windowsNow hq
theorem t_isDroppedN {g : eg} {h : eh} {t w : Nat} {σ : tS} {N : Nat → Int32} {Q : Outcome → eh → Prop} (hN : σ.2 16 = N) (hw : w < 24) (hq : Q (.returned (some (.int (bI (N (2 + 6 * w + 5) = 1))))) (tw t σ h)) : ew_T g kX2_isDropped 2 [.ref t, .int (nI w)] (tw t σ h) Q := by
  subst hN
  exact t_isDropped hw hq
theorem t_isFirmN {g : eg} {h : eh} {t w : Nat} {σ : tS} {N : Nat → Int32} {Q : Outcome → eh → Prop} (hN : σ.2 16 = N) (hw : w < 24) (hq : Q (.returned (some (.int (bI (N (2 + 6 * w + 4) = 0))))) (tw t σ h)) : ew_T g kX2_isFirm 2 [.ref t, .int (nI w)] (tw t σ h) Q := by
  subst hN
  exact t_isFirm hw hq
/-- the steps that are laid -/
def Sts (σ : tS) (E : List ed) : Prop := σ.1 28 = nI E.length ∧ ∀ i e, E[i]? = some e → σ.2 23 i = nI e.1 ∧ σ.2 24 i = nI e.2.1 ∧ σ.2 25 i = e.2.2.1 ∧ σ.2 26 i = e.2.2.2
theorem Sts.fq {S : List Nat} {σ σ' : tS} {E : List ed} (h : Sts σ E) (hF : Fq S σ σ') (hd : [23, 24, 25, 26, 28].all (fun k => !S.contains k) = true) : Sts σ' E := by
  have hd' : ∀ k, k ∈ [23, 24, 25, 26, 28] → S.contains k = false := by
    intro k hk
    have := List.all_eq_true.mp hd k hk
    simpa using this
  refine ⟨(hF.s 28 (hd' 28 (by decide))).trans h.1, ?_⟩
  intro i e he
  rw [hF.a 23 (hd' 23 (by decide)), hF.a 24 (hd' 24 (by decide)), hF.a 25 (hd' 25 (by decide)), hF.a 26 (hd' 26 (by decide))]
  exact h.2 i e he
theorem Sts.step {σ : tS} {E : List ed} (h : Sts σ E) (e : ed) : Sts (tStep σ E.length (nI e.1) (nI e.2.1) e.2.2.1 e.2.2.2) (E ++ [e]) := by
  refine ⟨?_, ?_⟩
  · rw [List.length_append]; rfl
  · intro i x hx
    show upd (σ.2 23) E.length (nI e.1) i = _ ∧ upd (σ.2 24) E.length (nI e.2.1) i = _ ∧ upd (σ.2 25) E.length e.2.2.1 i = _ ∧ upd (σ.2 26) E.length e.2.2.2 i = _
    by_cases hi : i = E.length
    · subst hi
      rw [List.getElem?_append_right (Nat.le_refl _), Nat.sub_self] at hx
      injection hx with hx
      subst hx
      simp [upd]
    · have hl : i < E.length := by
        have := (List.getElem?_eq_some_iff.mp hx).1
        rw [List.length_append, List.length_singleton] at this
        omega
      rw [List.getElem?_append_left hl] at hx
      have := h.2 i x hx
      simpa [upd, hi] using this
theorem tStep_fq (σ : tS) (m : Nat) (a b s c : Int32) : Fq [23, 24, 25, 26, 28] σ (tStep σ m a b s c) := by
  exact (((((Fq.r _ σ).xA 23 _ rfl).xA 24 _ rfl).xA 25 _ rfl).xA 26 _ rfl).xI 28 _ rfl
theorem t_stepS {g : eg} {h : eh} {t a b : Nat} {σ : tS} {s c : Int32} {E : List ed} {Q : Outcome → eh → Prop} (hS : Sts σ E) (hl : E.length < 80) (hq : ∀ σ', Fq [23, 24, 25, 26, 28] σ σ' → Sts σ' (E ++ [(a, b, s, c)]) → Q (.returned none) (tw t σ' h)) : ew_T g kX2_step 0 [.ref t, .int (nI a), .int (nI b), .int s, .int c] (tw t σ h) Q :=
  t_stepT hS.1 hl (hq _ (tStep_fq _ _ _ _ _ _) (hS.step (a, b, s, c)))
theorem t_stepsWithout {g : eg} {h : eh} {t : Nat} {σ : tS} {N T : Nat → Int32} {wout code : Int32} {Q : Outcome → eh → Prop} (hN : σ.2 16 = N) (hT : σ.2 27 = T) (ok : okN N)
    (hq : ∀ σ', Fq [23, 24, 25, 26, 28] σ σ' → Sts σ' (eAll N T wout code) → Q (.returned none) (tw t σ' h)) : ew_T g kX2_stepsWithout 3 [.ref t, .int wout, .int code] (tw t σ h) Q := by
  have hn1 := ok.e1
  have hn2 := ok.e2
  have hw2 := ok.w2
  have hlW := eWs_len N wout code
  have hlF := eFs_len T
  have hlU := eUs_len T
  have l4 : ∀ m i σ', i + 1 + m = nE N → Fq [23, 24, 25, 26, 28] σ σ' → Sts σ' (eWs N wout code (nW N) ++ eFs T (nE N - 1) ++ eUs T (nE N - 1) ++ eSs i) → ew_G g kX2_stepsWithout 3 207 [.ref t, .int wout, .int code, .int (nI (i + 1))] [] (tw t σ' h) Q := by
    intro m
    induction m with
    | zero =>
      intro i σ' hi hF hS
      have e9 : i = nE N - 1 := by omega
      refine ew_iload_n (pc := 207) dX2_stepsWithout_207 rfl ?_
      refine ew_aload_n (pc := 208) dX2_stepsWithout_208 rfl ?_
      refine ew_cV0 (d' := 0) (pc := 209) vX2_230 (tw_ro _ _ _ _) dX2_stepsWithout_209 (by decide) (ew_rm (Nat.le_of_ble_eq_true rfl)) ?_
      refine t_eventsN ((hF.a 16 rfl).trans hN) ok ?_
      refine ew_Kr ?_
      refine ew_icmp_ge (pc := 212) (tgt := 233) dX2_stepsWithout_212 (by decide) (fun c212 => ?_) (fun c212 => absurd (nI_le (by omega) (by omega)) c212)
      refine ew_vret (pc := 233) rfl dX2_stepsWithout_233 ?_
      rw [e9] at hS
      exact hq _ hF hS
    | succ m ih =>
      intro i σ' hi hF hS
      refine ew_iload_n (pc := 207) dX2_stepsWithout_207 rfl ?_
      refine ew_aload_n (pc := 208) dX2_stepsWithout_208 rfl ?_
      refine ew_cV0 (d' := 0) (pc := 209) vX2_230 (tw_ro _ _ _ _) dX2_stepsWithout_209 (by decide) (ew_rm (Nat.le_of_ble_eq_true rfl)) ?_
      refine t_eventsN ((hF.a 16 rfl).trans hN) ok ?_
      refine ew_Kr ?_
      refine ew_icmp_ge (pc := 212) (tgt := 233) dX2_stepsWithout_212 (by decide) (fun c212 => absurd c212 (nI_ge (by omega) (by omega))) (fun c212 => ?_)
      refine ew_aload_n (pc := 215) dX2_stepsWithout_215 rfl ?_
      refine ew_iload_n (pc := 216) dX2_stepsWithout_216 rfl ?_
      refine ew_iconst (pc := 217) (v := 0) dX2_stepsWithout_217 rfl ?_
      refine ew_iconst (pc := 218) (v := 0) dX2_stepsWithout_218 rfl ?_
      refine ew_sipush (pc := 219) (v := 300) dX2_stepsWithout_219 rfl ?_
      refine ew_iload_n (pc := 222) dX2_stepsWithout_222 rfl ?_
      refine ew_iadd (pc := 223) dX2_stepsWithout_223 ?_
      rw [show (300 : Int32) = nI 300 from rfl, nI_add]
      refine ew_cV4 (d' := 0) (pc := 224) vX2_226 (tw_ro _ _ _ _) dX2_stepsWithout_224 (by decide) (ew_rm (Nat.le_of_ble_eq_true rfl)) ?_
      refine t_stepS (b := 0) hS ?_ (fun σ1 F1 S1 => ?_)
      · simp only [List.length_append, eSs_len]
        have := hlW (nW N)
        have := hlF (nE N - 1)
        have := hlU (nE N - 1)
        omega
      refine ew_Kv ?_
      refine ew_iinc (pc := 227) dX2_stepsWithout_227 rfl (nI_inc (i + 1)) (by decide) (p1_3 rfl) ?_
      refine ew_goto (pc := 230) (tgt := 207) dX2_stepsWithout_230 (by decide) ?_
      refine ih (i + 1) σ1 (by omega) (hF.t1 F1) ?_
      rw [List.append_assoc] at S1
      exact S1
  have l3 : ∀ m i σ', i + 1 + m = nE N → Fq [23, 24, 25, 26, 28] σ σ' → Sts σ' (eWs N wout code (nW N) ++ eFs T (nE N - 1) ++ eUs T i) → ew_G g kX2_stepsWithout 3 163 [.ref t, .int wout, .int code, .int (nI (i + 1))] [] (tw t σ' h) Q := by
    intro m
    induction m with
    | zero =>
      intro i σ' hi hF hS
      have e9 : i = nE N - 1 := by omega
      refine ew_iload_n (pc := 163) dX2_stepsWithout_163 rfl ?_
      refine ew_aload_n (pc := 164) dX2_stepsWithout_164 rfl ?_
      refine ew_cV0 (d' := 0) (pc := 165) vX2_230 (tw_ro _ _ _ _) dX2_stepsWithout_165 (by decide) (ew_rm (Nat.le_of_ble_eq_true rfl)) ?_
      refine t_eventsN ((hF.a 16 rfl).trans hN) ok ?_
      refine ew_Kr ?_
      refine ew_icmp_ge (pc := 168) (tgt := 205) dX2_stepsWithout_168 (by decide) (fun c168 => ?_) (fun c168 => absurd (nI_le (by omega) (by omega)) c168)
      refine ew_iconst (pc := 205) (v := 1) dX2_stepsWithout_205 rfl ?_
      refine ew_istore_n (pc := 206) dX2_stepsWithout_206 rfl (by decide) (p1_3 rfl) ?_
      rw [e9] at hS
      refine l4 (nE N - 1) 0 σ' (by omega) hF ?_
      rw [eSs, List.append_nil]
      exact hS
    | succ m ih =>
      intro i σ' hi hF hS
      have hTt : σ'.2 27 = T := (hF.a 27 rfl).trans hT
      refine ew_iload_n (pc := 163) dX2_stepsWithout_163 rfl ?_
      refine ew_aload_n (pc := 164) dX2_stepsWithout_164 rfl ?_
      refine ew_cV0 (d' := 0) (pc := 165) vX2_230 (tw_ro _ _ _ _) dX2_stepsWithout_165 (by decide) (ew_rm (Nat.le_of_ble_eq_true rfl)) ?_
      refine t_eventsN ((hF.a 16 rfl).trans hN) ok ?_
      refine ew_Kr ?_
      refine ew_icmp_ge (pc := 168) (tgt := 205) dX2_stepsWithout_168 (by decide) (fun c168 => absurd c168 (nI_ge (by omega) (by omega))) (fun c168 => ?_)
      refine ew_aload_n (pc := 171) dX2_stepsWithout_171 rfl ?_
      refine tg_g27 (pc := 172) rfl dX2_stepsWithout_172 ?_
      refine ew_iload_n (pc := 175) dX2_stepsWithout_175 rfl ?_
      refine tg_l27 (pc := 176) (j := i + 1) rfl (by omega) dX2_stepsWithout_176 ?_
      refine ew_iconst (pc := 177) (v := -1) dX2_stepsWithout_177 rfl ?_
      refine ew_icmp_eq (pc := 178) (tgt := 199) dX2_stepsWithout_178 (by decide) (fun c178 => ?_) (fun c178 => ?_)
      · refine ew_iinc (pc := 199) dX2_stepsWithout_199 rfl (nI_inc (i + 1)) (by decide) (p1_3 rfl) ?_
        refine ew_goto (pc := 202) (tgt := 163) dX2_stepsWithout_202 (by decide) ?_
        first
        | refine ih (i + 1) σ1 (by omega) (hF.t1 F1) ?_
          rw [hTt] at c178 S1
          rw [eUs, if_neg c178, ← List.append_assoc]
          exact S1
        | refine ih (i + 1) σ' (by omega) hF ?_
          rw [hTt] at c178
          rw [eUs, if_pos c178, List.append_nil]
          exact hS
      · refine ew_aload_n (pc := 181) dX2_stepsWithout_181 rfl ?_
        refine ew_iload_n (pc := 182) dX2_stepsWithout_182 rfl ?_
        refine ew_iconst (pc := 183) (v := 0) dX2_stepsWithout_183 rfl ?_
        refine ew_aload_n (pc := 184) dX2_stepsWithout_184 rfl ?_
        refine tg_g27 (pc := 185) rfl dX2_stepsWithout_185 ?_
        refine ew_iload_n (pc := 188) dX2_stepsWithout_188 rfl ?_
        refine tg_l27 (pc := 189) (j := i + 1) rfl (by omega) dX2_stepsWithout_189 ?_
        refine ew_ineg (pc := 190) dX2_stepsWithout_190 ?_
        refine ew_sipush (pc := 191) (v := 200) dX2_stepsWithout_191 rfl ?_
        refine ew_iload_n (pc := 194) dX2_stepsWithout_194 rfl ?_
        refine ew_iadd (pc := 195) dX2_stepsWithout_195 ?_
        rw [show (200 : Int32) = nI 200 from rfl, nI_add]
        refine ew_cV4 (d' := 0) (pc := 196) vX2_226 (tw_ro _ _ _ _) dX2_stepsWithout_196 (by decide) (ew_rm (Nat.le_of_ble_eq_true rfl)) ?_
        refine t_stepS (b := 0) hS ?_ (fun σ1 F1 S1 => ?_)
        · simp only [List.length_append]
          have := hlW (nW N)
          have := hlF (nE N - 1)
          have := hlU i
          omega
        refine ew_Kv ?_
        refine ew_iinc (pc := 199) dX2_stepsWithout_199 rfl (nI_inc (i + 1)) (by decide) (p1_3 rfl) ?_
        refine ew_goto (pc := 202) (tgt := 163) dX2_stepsWithout_202 (by decide) ?_
        first
        | refine ih (i + 1) σ1 (by omega) (hF.t1 F1) ?_
          rw [hTt] at c178 S1
          rw [eUs, if_neg c178, ← List.append_assoc]
          exact S1
        | refine ih (i + 1) σ' (by omega) hF ?_
          rw [hTt] at c178
          rw [eUs, if_pos c178, List.append_nil]
          exact hS
  have l2 : ∀ m i σ', i + 1 + m = nE N → Fq [23, 24, 25, 26, 28] σ σ' → Sts σ' (eWs N wout code (nW N) ++ eFs T i) → ew_G g kX2_stepsWithout 3 121 [.ref t, .int wout, .int code, .int (nI (i + 1))] [] (tw t σ' h) Q := by
    intro m
    induction m with
    | zero =>
      intro i σ' hi hF hS
      have e9 : i = nE N - 1 := by omega
      refine ew_iload_n (pc := 121) dX2_stepsWithout_121 rfl ?_
      refine ew_aload_n (pc := 122) dX2_stepsWithout_122 rfl ?_
      refine ew_cV0 (d' := 0) (pc := 123) vX2_230 (tw_ro _ _ _ _) dX2_stepsWithout_123 (by decide) (ew_rm (Nat.le_of_ble_eq_true rfl)) ?_
      refine t_eventsN ((hF.a 16 rfl).trans hN) ok ?_
      refine ew_Kr ?_
      refine ew_icmp_ge (pc := 126) (tgt := 161) dX2_stepsWithout_126 (by decide) (fun c126 => ?_) (fun c126 => absurd (nI_le (by omega) (by omega)) c126)
      refine ew_iconst (pc := 161) (v := 1) dX2_stepsWithout_161 rfl ?_
      refine ew_istore_n (pc := 162) dX2_stepsWithout_162 rfl (by decide) (p1_3 rfl) ?_
      rw [e9] at hS
      refine l3 (nE N - 1) 0 σ' (by omega) hF ?_
      rw [eUs, List.append_nil]
      exact hS
    | succ m ih =>
      intro i σ' hi hF hS
      have hTt : σ'.2 27 = T := (hF.a 27 rfl).trans hT
      refine ew_iload_n (pc := 121) dX2_stepsWithout_121 rfl ?_
      refine ew_aload_n (pc := 122) dX2_stepsWithout_122 rfl ?_
      refine ew_cV0 (d' := 0) (pc := 123) vX2_230 (tw_ro _ _ _ _) dX2_stepsWithout_123 (by decide) (ew_rm (Nat.le_of_ble_eq_true rfl)) ?_
      refine t_eventsN ((hF.a 16 rfl).trans hN) ok ?_
      refine ew_Kr ?_
      refine ew_icmp_ge (pc := 126) (tgt := 161) dX2_stepsWithout_126 (by decide) (fun c126 => absurd c126 (nI_ge (by omega) (by omega))) (fun c126 => ?_)
      refine ew_aload_n (pc := 129) dX2_stepsWithout_129 rfl ?_
      refine tg_g27 (pc := 130) rfl dX2_stepsWithout_130 ?_
      refine ew_iload_n (pc := 133) dX2_stepsWithout_133 rfl ?_
      refine tg_l27 (pc := 134) (j := i + 1) rfl (by omega) dX2_stepsWithout_134 ?_
      refine ew_iconst (pc := 135) (v := -1) dX2_stepsWithout_135 rfl ?_
      refine ew_icmp_eq (pc := 136) (tgt := 155) dX2_stepsWithout_136 (by decide) (fun c136 => ?_) (fun c136 => ?_)
      · refine ew_iinc (pc := 155) dX2_stepsWithout_155 rfl (nI_inc (i + 1)) (by decide) (p1_3 rfl) ?_
        refine ew_goto (pc := 158) (tgt := 121) dX2_stepsWithout_158 (by decide) ?_
        first
        | refine ih (i + 1) σ1 (by omega) (hF.t1 F1) ?_
          rw [hTt] at c136 S1
          rw [eFs, if_neg c136, ← List.append_assoc]
          exact S1
        | refine ih (i + 1) σ' (by omega) hF ?_
          rw [hTt] at c136
          rw [eFs, if_pos c136, List.append_nil]
          exact hS
      · refine ew_aload_n (pc := 139) dX2_stepsWithout_139 rfl ?_
        refine ew_iconst (pc := 140) (v := 0) dX2_stepsWithout_140 rfl ?_
        refine ew_iload_n (pc := 141) dX2_stepsWithout_141 rfl ?_
        refine ew_aload_n (pc := 142) dX2_stepsWithout_142 rfl ?_
        refine tg_g27 (pc := 143) rfl dX2_stepsWithout_143 ?_
        refine ew_iload_n (pc := 146) dX2_stepsWithout_146 rfl ?_
        refine tg_l27 (pc := 147) (j := i + 1) rfl (by omega) dX2_stepsWithout_147 ?_
        refine ew_bipush (pc := 148) (v := 100) dX2_stepsWithout_148 rfl ?_
        refine ew_iload_n (pc := 150) dX2_stepsWithout_150 rfl ?_
        refine ew_iadd (pc := 151) dX2_stepsWithout_151 ?_
        rw [show (100 : Int32) = nI 100 from rfl, nI_add]
        refine ew_cV4 (d' := 0) (pc := 152) vX2_226 (tw_ro _ _ _ _) dX2_stepsWithout_152 (by decide) (ew_rm (Nat.le_of_ble_eq_true rfl)) ?_
        refine t_stepS (a := 0) hS ?_ (fun σ1 F1 S1 => ?_)
        · simp only [List.length_append]
          have := hlW (nW N)
          have := hlF i
          omega
        refine ew_Kv ?_
        refine ew_iinc (pc := 155) dX2_stepsWithout_155 rfl (nI_inc (i + 1)) (by decide) (p1_3 rfl) ?_
        refine ew_goto (pc := 158) (tgt := 121) dX2_stepsWithout_158 (by decide) ?_
        first
        | refine ih (i + 1) σ1 (by omega) (hF.t1 F1) ?_
          rw [hTt] at c136 S1
          rw [eFs, if_neg c136, ← List.append_assoc]
          exact S1
        | refine ih (i + 1) σ' (by omega) hF ?_
          rw [hTt] at c136
          rw [eFs, if_pos c136, List.append_nil]
          exact hS
  have l1 : ∀ m w σ', w + m = nW N → Fq [23, 24, 25, 26, 28] σ σ' → Sts σ' (eWs N wout code w) → ew_G g kX2_stepsWithout 3 7 [.ref t, .int wout, .int code, .int (nI w)] [] (tw t σ' h) Q := by
    intro m
    induction m with
    | zero =>
      intro w σ' hw hF hS
      have e9 : w = nW N := by omega
      refine ew_iload_n (pc := 7) dX2_stepsWithout_7 rfl ?_
      refine ew_aload_n (pc := 8) dX2_stepsWithout_8 rfl ?_
      refine ew_cV0 (d' := 0) (pc := 9) vX2_220 (tw_ro _ _ _ _) dX2_stepsWithout_9 (by decide) (ew_rm (Nat.le_of_ble_eq_true rfl)) ?_
      refine t_windowsN ((hF.a 16 rfl).trans hN) ok ?_
      refine ew_Kr ?_
      refine ew_icmp_ge (pc := 12) (tgt := 119) dX2_stepsWithout_12 (by decide) (fun c12 => ?_) (fun c12 => absurd (nI_le (by omega) (by omega)) c12)
      refine ew_iconst (pc := 119) (v := 1) dX2_stepsWithout_119 rfl ?_
      refine ew_istore_n (pc := 120) dX2_stepsWithout_120 rfl (by decide) (p1_3 rfl) ?_
      rw [e9] at hS
      refine l2 (nE N - 1) 0 σ' (by omega) hF ?_
      rw [eFs, List.append_nil]
      exact hS
    | succ m ih =>
      intro w σ' hw hF hS
      have hw9 : w < nW N := by omega
      have hN1 : σ'.2 16 = N := (hF.a 16 rfl).trans hN
      have hlw := hlW w
      have s76 : ∀ σ1 E1, Fq [23, 24, 25, 26, 28] σ σ1 → Sts σ1 E1 → E1.length < 80 → E1 ++ elW N code w = eWs N wout code (w + 1) → ew_G g kX2_stepsWithout 3 76 [.ref t, .int wout, .int code, .int (nI w)] [] (tw t σ1 h) Q := by
        intro σ1 E1 F1 S1 hl1 he
        have hN2 : σ1.2 16 = N := (F1.a 16 rfl).trans hN
        refine ew_iload_n (pc := 76) dX2_stepsWithout_76 rfl ?_
        refine ew_iconst (pc := 77) (v := 2) dX2_stepsWithout_77 rfl ?_
        refine ew_iload_n (pc := 78) dX2_stepsWithout_78 rfl ?_
        refine ew_imul (pc := 79) dX2_stepsWithout_79 ?_
        refine ew_iconst (pc := 80) (v := 1) dX2_stepsWithout_80 rfl ?_
        refine ew_iadd (pc := 81) dX2_stepsWithout_81 ?_
        rw [show (2 : Int32) = nI 2 from rfl, nI_mul, nI_1]
        refine ew_icmp_eq (pc := 82) (tgt := 113) dX2_stepsWithout_82 (by decide) (fun c82 => ?_) (fun c82 => ?_)
        · refine ew_iinc (pc := 113) dX2_stepsWithout_113 rfl (nI_inc w) (by decide) (p1_3 rfl) ?_
          refine ew_goto (pc := 116) (tgt := 7) dX2_stepsWithout_116 (by decide) ?_
          first
          | refine ih (w + 1) σ2 (by omega) (F1.t1 F2) ?_
            rw [← he, elW, if_pos c82]
            exact S2
          | refine ih (w + 1) σ1 (by omega) F1 ?_
            rw [← he, elW, if_neg (Decidable.not_not.mpr c82), List.append_nil]
            exact S1
        · refine ew_aload_n (pc := 85) dX2_stepsWithout_85 rfl ?_
          refine ew_aload_n (pc := 86) dX2_stepsWithout_86 rfl ?_
          refine ew_iload_n (pc := 87) dX2_stepsWithout_87 rfl ?_
          refine ew_iconst (pc := 88) (v := 1) dX2_stepsWithout_88 rfl ?_
          refine ew_cV2 (d' := 1) (pc := 89) vX2_214 (tw_ro _ _ _ _) dX2_stepsWithout_89 (by decide) (ew_rm (Nat.le_of_ble_eq_true rfl)) ?_
          refine t_ofN (i := 1) hN2 (by omega) (by decide) ?_
          refine ew_Kr ?_
          refine ew_aload_n (pc := 92) dX2_stepsWithout_92 rfl ?_
          refine ew_iload_n (pc := 93) dX2_stepsWithout_93 rfl ?_
          refine ew_iconst (pc := 94) (v := 0) dX2_stepsWithout_94 rfl ?_
          refine ew_cV2 (d' := 1) (pc := 95) vX2_214 (tw_ro _ _ _ _) dX2_stepsWithout_95 (by decide) (ew_rm (Nat.le_of_ble_eq_true rfl)) ?_
          refine t_ofN (i := 0) hN2 (by omega) (by decide) ?_
          refine ew_Kr ?_
          refine ew_aload_n (pc := 98) dX2_stepsWithout_98 rfl ?_
          refine ew_iload_n (pc := 99) dX2_stepsWithout_99 rfl ?_
          refine ew_iconst (pc := 100) (v := 2) dX2_stepsWithout_100 rfl ?_
          refine ew_cV2 (d' := 1) (pc := 101) vX2_214 (tw_ro _ _ _ _) dX2_stepsWithout_101 (by decide) (ew_rm (Nat.le_of_ble_eq_true rfl)) ?_
          refine t_ofN (i := 2) hN2 (by omega) (by decide) ?_
          refine ew_Kr ?_
          refine ew_ineg (pc := 104) dX2_stepsWithout_104 ?_
          refine ew_iconst (pc := 105) (v := 2) dX2_stepsWithout_105 rfl ?_
          refine ew_iload_n (pc := 106) dX2_stepsWithout_106 rfl ?_
          refine ew_imul (pc := 107) dX2_stepsWithout_107 ?_
          refine ew_iconst (pc := 108) (v := 1) dX2_stepsWithout_108 rfl ?_
          refine ew_iadd (pc := 109) dX2_stepsWithout_109 ?_
          rw [show (2 : Int32) = nI 2 from rfl, nI_mul, nI_1, ok.a w hw9, ok.b w hw9]
          refine ew_cV4 (d' := 0) (pc := 110) vX2_226 (tw_ro _ _ _ _) dX2_stepsWithout_110 (by decide) (ew_rm (Nat.le_of_ble_eq_true rfl)) ?_
          refine t_stepS S1 hl1 (fun σ2 F2 S2 => ?_)
          refine ew_Kv ?_
          refine ew_iinc (pc := 113) dX2_stepsWithout_113 rfl (nI_inc w) (by decide) (p1_3 rfl) ?_
          refine ew_goto (pc := 116) (tgt := 7) dX2_stepsWithout_116 (by decide) ?_
          first
          | refine ih (w + 1) σ2 (by omega) (F1.t1 F2) ?_
            rw [← he, elW, if_pos c82]
            exact S2
          | refine ih (w + 1) σ1 (by omega) F1 ?_
            rw [← he, elW, if_neg (Decidable.not_not.mpr c82), List.append_nil]
            exact S1
      refine ew_iload_n (pc := 7) dX2_stepsWithout_7 rfl ?_
      refine ew_aload_n (pc := 8) dX2_stepsWithout_8 rfl ?_
      refine ew_cV0 (d' := 0) (pc := 9) vX2_220 (tw_ro _ _ _ _) dX2_stepsWithout_9 (by decide) (ew_rm (Nat.le_of_ble_eq_true rfl)) ?_
      refine t_windowsN hN1 ok ?_
      refine ew_Kr ?_
      refine ew_icmp_ge (pc := 12) (tgt := 119) dX2_stepsWithout_12 (by decide) (fun c12 => absurd c12 (nI_ge (by omega) (by omega))) (fun c12 => ?_)
      refine ew_aload_n (pc := 15) dX2_stepsWithout_15 rfl ?_
      refine ew_iload_n (pc := 16) dX2_stepsWithout_16 rfl ?_
      refine ew_cV1 (d' := 2) (pc := 17) vX2_223 (tw_ro _ _ _ _) dX2_stepsWithout_17 (by decide) (ew_rm (Nat.le_of_ble_eq_true rfl)) ?_
      refine t_isDroppedN hN1 (by omega) ?_
      refine ew_Kr ?_
      refine ew_if_ne (pc := 20) (tgt := 113) dX2_stepsWithout_20 (by decide) (fun c20 => ?_) (fun c20 => ?_)
      · refine ew_iinc (pc := 113) dX2_stepsWithout_113 rfl (nI_inc w) (by decide) (p1_3 rfl) ?_
        refine ew_goto (pc := 116) (tgt := 7) dX2_stepsWithout_116 (by decide) ?_
        refine ih (w + 1) σ' (by omega) hF ?_
        rw [eWs, eW1, if_pos (by first | exact Or.inl (bI_n.mp c20) | exact Or.inr (bI_n.mp c28)), List.append_nil]
        exact hS
      · refine ew_iload_n (pc := 23) dX2_stepsWithout_23 rfl ?_
        refine ew_iload_n (pc := 24) dX2_stepsWithout_24 rfl ?_
        refine ew_cS2 (d' := 0) (pc := 25) sX2_135 dX2_stepsWithout_25 (by decide) (ew_rm (Nat.le_of_ble_eq_true rfl)) ?_
        refine t_hasT ?_
        refine ew_Kr ?_
        refine ew_if_eq (pc := 28) (tgt := 34) dX2_stepsWithout_28 (by decide) (fun c28 => ?_) (fun c28 => ?_)
        · refine ew_aload_n (pc := 34) dX2_stepsWithout_34 rfl ?_
          refine ew_iload_n (pc := 35) dX2_stepsWithout_35 rfl ?_
          refine ew_iconst (pc := 36) (v := 3) dX2_stepsWithout_36 rfl ?_
          refine ew_cV2 (d' := 1) (pc := 37) vX2_214 (tw_ro _ _ _ _) dX2_stepsWithout_37 (by decide) (ew_rm (Nat.le_of_ble_eq_true rfl)) ?_
          refine t_ofN (i := 3) hN1 (by omega) (by decide) ?_
          refine ew_Kr ?_
          refine ew_iconst (pc := 40) (v := -1) dX2_stepsWithout_40 rfl ?_
          refine ew_icmp_eq (pc := 41) (tgt := 76) dX2_stepsWithout_41 (by decide) (fun c41 => ?_) (fun c41 => ?_)
          · rw [bI_0] at c20 c28
            have hno : ¬ (N (2 + 6 * w + 5) = 1 ∨ hasB wout (nI w)) := fun h9 => h9.elim c20 c28
            first
            | refine s76 σ1 _ (hF.t1 F1) S1 (by rw [List.length_append]; simp; omega) ?_
              rw [eWs, eW1, if_neg hno, ehW_y c41 c48, List.append_assoc]
            | refine s76 σ' _ hF hS (by omega) ?_
              rw [eWs, eW1, if_neg hno, ehW_n2 c48, List.nil_append]
            | refine s76 σ' _ hF hS (by omega) ?_
              rw [eWs, eW1, if_neg hno, ehW_n1 c41, List.nil_append]
          · refine ew_iload_n (pc := 44) dX2_stepsWithout_44 rfl ?_
            refine ew_iconst (pc := 45) (v := 2) dX2_stepsWithout_45 rfl ?_
            refine ew_iload_n (pc := 46) dX2_stepsWithout_46 rfl ?_
            refine ew_imul (pc := 47) dX2_stepsWithout_47 ?_
            rw [show (2 : Int32) = nI 2 from rfl, nI_mul]
            refine ew_icmp_eq (pc := 48) (tgt := 76) dX2_stepsWithout_48 (by decide) (fun c48 => ?_) (fun c48 => ?_)
            · rw [bI_0] at c20 c28
              have hno : ¬ (N (2 + 6 * w + 5) = 1 ∨ hasB wout (nI w)) := fun h9 => h9.elim c20 c28
              first
              | refine s76 σ1 _ (hF.t1 F1) S1 (by rw [List.length_append]; simp; omega) ?_
                rw [eWs, eW1, if_neg hno, ehW_y c41 c48, List.append_assoc]
              | refine s76 σ' _ hF hS (by omega) ?_
                rw [eWs, eW1, if_neg hno, ehW_n2 c48, List.nil_append]
              | refine s76 σ' _ hF hS (by omega) ?_
                rw [eWs, eW1, if_neg hno, ehW_n1 c41, List.nil_append]
            · refine ew_aload_n (pc := 51) dX2_stepsWithout_51 rfl ?_
              refine ew_aload_n (pc := 52) dX2_stepsWithout_52 rfl ?_
              refine ew_iload_n (pc := 53) dX2_stepsWithout_53 rfl ?_
              refine ew_iconst (pc := 54) (v := 0) dX2_stepsWithout_54 rfl ?_
              refine ew_cV2 (d' := 1) (pc := 55) vX2_214 (tw_ro _ _ _ _) dX2_stepsWithout_55 (by decide) (ew_rm (Nat.le_of_ble_eq_true rfl)) ?_
              refine t_ofN (i := 0) hN1 (by omega) (by decide) ?_
              refine ew_Kr ?_
              refine ew_aload_n (pc := 58) dX2_stepsWithout_58 rfl ?_
              refine ew_iload_n (pc := 59) dX2_stepsWithout_59 rfl ?_
              refine ew_iconst (pc := 60) (v := 1) dX2_stepsWithout_60 rfl ?_
              refine ew_cV2 (d' := 1) (pc := 61) vX2_214 (tw_ro _ _ _ _) dX2_stepsWithout_61 (by decide) (ew_rm (Nat.le_of_ble_eq_true rfl)) ?_
              refine t_ofN (i := 1) hN1 (by omega) (by decide) ?_
              refine ew_Kr ?_
              refine ew_aload_n (pc := 64) dX2_stepsWithout_64 rfl ?_
              refine ew_iload_n (pc := 65) dX2_stepsWithout_65 rfl ?_
              refine ew_iconst (pc := 66) (v := 3) dX2_stepsWithout_66 rfl ?_
              refine ew_cV2 (d' := 1) (pc := 67) vX2_214 (tw_ro _ _ _ _) dX2_stepsWithout_67 (by decide) (ew_rm (Nat.le_of_ble_eq_true rfl)) ?_
              refine t_ofN (i := 3) hN1 (by omega) (by decide) ?_
              refine ew_Kr ?_
              refine ew_iconst (pc := 70) (v := 2) dX2_stepsWithout_70 rfl ?_
              refine ew_iload_n (pc := 71) dX2_stepsWithout_71 rfl ?_
              refine ew_imul (pc := 72) dX2_stepsWithout_72 ?_
              rw [show (2 : Int32) = nI 2 from rfl, nI_mul, ok.a w hw9, ok.b w hw9]
              refine ew_cV4 (d' := 0) (pc := 73) vX2_226 (tw_ro _ _ _ _) dX2_stepsWithout_73 (by decide) (ew_rm (Nat.le_of_ble_eq_true rfl)) ?_
              refine t_stepS hS (by omega) (fun σ1 F1 S1 => ?_)
              refine ew_Kv ?_
              rw [bI_0] at c20 c28
              have hno : ¬ (N (2 + 6 * w + 5) = 1 ∨ hasB wout (nI w)) := fun h9 => h9.elim c20 c28
              first
              | refine s76 σ1 _ (hF.t1 F1) S1 (by rw [List.length_append]; simp; omega) ?_
                rw [eWs, eW1, if_neg hno, ehW_y c41 c48, List.append_assoc]
              | refine s76 σ' _ hF hS (by omega) ?_
                rw [eWs, eW1, if_neg hno, ehW_n2 c48, List.nil_append]
              | refine s76 σ' _ hF hS (by omega) ?_
                rw [eWs, eW1, if_neg hno, ehW_n1 c41, List.nil_append]
        · refine ew_goto (pc := 31) (tgt := 113) dX2_stepsWithout_31 (by decide) ?_
          refine ew_iinc (pc := 113) dX2_stepsWithout_113 rfl (nI_inc w) (by decide) (p1_3 rfl) ?_
          refine ew_goto (pc := 116) (tgt := 7) dX2_stepsWithout_116 (by decide) ?_
          refine ih (w + 1) σ' (by omega) hF ?_
          rw [eWs, eW1, if_pos (by first | exact Or.inl (bI_n.mp c20) | exact Or.inr (bI_n.mp c28)), List.append_nil]
          exact hS
  refine ew_enter (by decide +kernel) (ew_a1 rfl (ew_a1 rfl (ew_a1 rfl (ew_an ew_az)))) (Nat.le_of_ble_eq_true rfl) ?_
  refine ew_aload_n (pc := 0) dX2_stepsWithout_0 rfl ?_
  refine ew_iconst (pc := 1) (v := 0) dX2_stepsWithout_1 rfl ?_
  refine tg_p28 (pc := 2) rfl dX2_stepsWithout_2 ?_
  refine ew_iconst (pc := 5) (v := 0) dX2_stepsWithout_5 rfl ?_
  refine ew_istore_n (pc := 6) dX2_stepsWithout_6 rfl (by decide) (p1_3 rfl) ?_
  refine l1 (nW N) 0 _ (by omega) (Fq.I _ 28 _ rfl) ⟨rfl, ?_⟩
  intro i e he
  cases he
