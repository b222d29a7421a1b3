/-! EW: the reference: rounds and runs are written -/
set_option maxRecDepth 100000
def frP (c : Int32) (e : ed) : Bool := decide (e.2.2.2 = c)
def frV (E : List ed) (c : Int32) : Nat := match E.find? (frP c) with
  | some e => e.1
  | none => 0
theorem t_fromOf {g : eg} {h : eh} {t : Nat} {σ : tS} {E : List ed} {e : ed} {c : Int32} {Q : Outcome → eh → Prop} (hS : Sts σ E) (hl : E.length < 80) (he : E.find? (frP c) = some e) (hq : Q (.returned (some (.int (nI e.1)))) (tw t σ h)) : ew_T g kX2_fromOf 0 [.ref t, .int c] (tw t σ h) Q := by
  obtain ⟨k0, hk0, hp0, hk1⟩ := find_at he
  have hkl : k0 < E.length := (List.getElem?_eq_some_iff.mp hk0).1
  have main : ∀ q k, k + q = k0 → ew_G g kX2_fromOf 0 2 [.ref t, .int c, .int (nI k)] [] (tw t σ h) Q := by
    intro q
    induction q with
    | zero =>
      intro k hk
      have e9 : k = k0 := by omega
      subst e9
      have hs := hS.2 k e hk0
      have hc : e.2.2.2 = c := of_decide_eq_true hp0
      refine ew_aload_n (pc := 2) dX2_fromOf_2 rfl ?_
      refine tg_g26 (pc := 3) rfl dX2_fromOf_3 ?_
      refine ew_iload_n (pc := 6) dX2_fromOf_6 rfl ?_
      refine tg_l26 (pc := 7) (j := k) rfl (by omega) dX2_fromOf_7 ?_
      refine ew_iload_n (pc := 8) dX2_fromOf_8 rfl ?_
      refine ew_icmp_eq (pc := 9) (tgt := 18) dX2_fromOf_9 (by decide) (fun c9 => ?_) (fun c9 => absurd (hs.2.2.2.trans hc) c9)
      refine ew_aload_n (pc := 18) dX2_fromOf_18 rfl ?_
      refine tg_g23 (pc := 19) rfl dX2_fromOf_19 ?_
      refine ew_iload_n (pc := 22) dX2_fromOf_22 rfl ?_
      refine tg_l23 (pc := 23) (j := k) rfl (by omega) dX2_fromOf_23 ?_
      refine ew_iret (pc := 24) rfl dX2_fromOf_24 ?_
      rw [hs.1]
      exact hq
    | succ q ih =>
      intro k hk
      have hke := List.getElem?_eq_getElem (show k < E.length by omega)
      have hs := hS.2 k _ hke
      have hc : ¬ (E[k]).2.2.2 = c := of_decide_eq_false (hk1 k _ (by omega) hke)
      refine ew_aload_n (pc := 2) dX2_fromOf_2 rfl ?_
      refine tg_g26 (pc := 3) rfl dX2_fromOf_3 ?_
      refine ew_iload_n (pc := 6) dX2_fromOf_6 rfl ?_
      refine tg_l26 (pc := 7) (j := k) rfl (by omega) dX2_fromOf_7 ?_
      refine ew_iload_n (pc := 8) dX2_fromOf_8 rfl ?_
      refine ew_icmp_eq (pc := 9) (tgt := 18) dX2_fromOf_9 (by decide) (fun c9 => absurd c9 (fun h9 => hc (hs.2.2.2.symm.trans h9))) (fun c9 => ?_)
      refine ew_iinc (pc := 12) dX2_fromOf_12 rfl (nI_inc k) (by decide) (p1_2 rfl) ?_
      refine ew_goto (pc := 15) (tgt := 2) dX2_fromOf_15 (by decide) ?_
      exact ih (k + 1) (by omega)
  refine ew_enter (by decide +kernel) (ew_a1 rfl (ew_a1 rfl (ew_an ew_az))) (Nat.le_of_ble_eq_true rfl) ?_
  refine ew_iconst (pc := 0) (v := 0) dX2_fromOf_0 rfl ?_
  refine ew_istore_n (pc := 1) dX2_fromOf_1 rfl (by decide) (p1_2 rfl) ?_
  exact main k0 0 (by omega)
theorem rowL_mem {F : Int32} {E : List ed} {b : Nat} {x : ed} : ∀ m a, x ∈ rowL F E b m a → x ∈ E
  | 0, _, h => by cases h
  | m + 1, a, h => by
    rw [rowL] at h
    split at h
    · cases h
    · rename_i e he
      rcases List.mem_cons.mp h with h | h
      · subst h
        exact List.mem_of_find?_eq_some he
      · exact rowL_mem m e.2.1 h
theorem rdL_mem {N : Nat → Int32} {x : ed} (h : x ∈ rdL N) : x ∈ eN N 0 (-1) := by
  rw [rdL] at h
  cases hA : rdA N with
  | none => rw [hA, rdLo] at h; cases h
  | some y =>
    obtain ⟨m, a⟩ := y
    rw [hA, rdLo] at h
    exact rowL_mem m a h
theorem fr_is {E : List ed} {x : ed} (h : x ∈ E) : ∃ e, E.find? (frP x.2.2.2) = some e ∧ e ∈ E := by
  cases hf : E.find? (frP x.2.2.2) with
  | none =>
    have := List.find?_eq_none.mp hf x h
    exact absurd (decide_eq_true rfl) this
  | some e => exact ⟨e, rfl, List.mem_of_find?_eq_some hf⟩
theorem rdF_a {N : Nat → Int32} {m a : Nat} : ∀ {r n : Nat}, rdF N r n = some (m, a) → a < nE N
  | 0, _, h => by cases h
  | r + 1, n, h => by
    rw [rdF] at h
    split at h
    · rename_i b hb
      injection h with h
      injection h with h1 h2
      subst h2
      exact rB_lt _ _ _ hb
    · exact rdF_a h
/-- the steps of a round, written -/
def rpL (nm : Nat → Int32) (E : List ed) (L : List ed) : Nat → List Int32
  | 0 => []
  | k + 1 => rpL nm E L k ++ nmV nm (frV E (lcode L k)) ++ wdC [45, 62]
theorem rpL_len (nm : Nat → Int32) (E L : List ed) : ∀ k, (rpL nm E L k).length ≤ 10 * k
  | 0 => Nat.le_refl 0
  | k + 1 => by
    have h1 := rpL_len nm E L k
    have h2 := nmV_len nm (frV E (lcode L k))
    have h3 : (wdC [45, 62]).length = 2 := rfl
    simp only [rpL, List.length_append]
    omega
def rpE (nm : Nat → Int32) : Option (Nat × Nat) → List Int32
  | none => wdC [115, 111, 117, 110, 100]
  | some x => nmV nm x.2
def rpP (N nm : Nat → Int32) : List Int32 := rpL nm (eN N 0 (-1)) (rdL N) (rdL N).length ++ rpE nm (if (rdL N).length = 0 then none else rdA N)
theorem o_writeRound {g : eg} {h : eh} {t : Nat} {σ : tS} {N nm : Nat → Int32} {Q : Outcome → eh → Prop} (hg : gCS g) (hg2 : gSF g) (hk : gK g "EventWindowsModel" 428 [45, 62]) (hk2 : gK g "EventWindowsModel" 430 [115, 111, 117, 110, 100]) (hJ : TJ σ N) (hM : σ.2 10 = nm) (hR : okN N → RX N)
    (h0 : ¬ as1 (σ.1 21) 1 = 0 → ∀ σ' r, Fq SC σ σ' → σ'.1 0 = as1 (σ.1 21) 1 → Q (.returned (some (.int r))) (tw t σ' h))
    (h1 : as1 (σ.1 21) 1 = 0 → ∀ σ', Fq SP σ σ' → σ'.1 0 = 0 → Pg σ' (rpP N nm) → Q (.returned (some (.int (nI (rpP N nm).length)))) (tw t σ' h)) : ew_T g kX2_writeRound 7 [.ref t] (tw t σ h) Q := by
  obtain ⟨ka, hka, hstr⟩ := hk.str (by decide) (by decide)
  obtain ⟨kb, hkb, hstr2⟩ := hk2.str (by decide) (by decide)
  have hle := rdL_le N
  have fin : okN N → ∀ σ', as1 (σ.1 21) 1 = 0 → Fq SP σ σ' → σ'.1 0 = 0 → σ'.1 33 = nI (rdL N).length → (∀ m a, rdA N = some (m, a) → σ'.1 35 = nI a) → Pg σ' (rpL nm (eN N 0 (-1)) (rdL N) (rdL N).length) → ew_G g kX2_writeRound 7 56 [.ref t, .int (nI (rdL N).length)] [] (tw t σ' h) Q := by
    intro ok σ' hz hF e0 h33 h35 hP
    have hN2 := ok.e2
    have hlr := rpL_len nm (eN N 0 (-1)) (rdL N) (rdL N).length
    have hx1 := h1 hz
    rw [rpP] at hx1
    by_cases hlen : (rdL N).length = 0
    · rw [if_pos hlen, rpE] at hx1
      have h33' : σ'.1 33 = 0 := by rw [h33, hlen]; rfl
      refine ew_aload_n (pc := 56) dX2_writeRound_56 rfl ?_
      refine tg_g33 (pc := 57) rfl dX2_writeRound_57 ?_
      refine ew_if_ne (pc := 60) (tgt := 73) dX2_writeRound_60 (by decide) (fun c60 => absurd h33' c60) (fun c60 => ?_)
      refine ew_aload_n (pc := 63) dX2_writeRound_63 rfl ?_
      refine ew_ldcSw (pc := 64) hkb dX2_writeRound_64 ?_
      refine ew_cV1 (d' := 5) (pc := 67) vX2_418 (tw_ro _ _ _ _) dX2_writeRound_67 (by decide) (ew_rm (Nat.le_of_ble_eq_true rfl)) ?_
      refine t_writesWord (n := 5) (f := fun i => nI (([115, 111, 117, 110, 100] : List Nat).getD i 0)) hg hg2 (fun σ' ho => hstr2 _ ho) (by decide) hP (by omega) (fun σ5 F5 P5 => ?_)
      refine ew_Kv ?_
      refine ew_goto (pc := 70) (tgt := 81) dX2_writeRound_70 (by decide) ?_
      refine ew_aload_n (pc := 81) dX2_writeRound_81 rfl ?_
      refine tg_g41 (pc := 82) rfl dX2_writeRound_82 ?_
      refine ew_iret (pc := 85) rfl dX2_writeRound_85 ?_
      rw [P5.1]
      exact hx1 σ5 (hF.u F5 rfl) ((F5.s 0 rfl).trans e0) P5
    · rw [if_neg hlen] at hx1
      cases hA : rdA N with
      | none => exact absurd (by rw [rdL, hA, rdLo]; rfl) hlen
      | some y =>
        obtain ⟨m, a⟩ := y
        have ha : a < nE N := by
          rw [rdA] at hA
          split at hA
          · cases hA
          · exact rdF_a hA
        rw [hA, rpE] at hx1
        refine ew_aload_n (pc := 56) dX2_writeRound_56 rfl ?_
        refine tg_g33 (pc := 57) rfl dX2_writeRound_57 ?_
        refine ew_if_ne (pc := 60) (tgt := 73) dX2_writeRound_60 (by decide) (fun c60 => ?_) (fun c60 => absurd c60 (by rw [h33]; exact fun h9 => hlen ((nI_z (by omega)).mp h9)))
        refine ew_aload_n (pc := 73) dX2_writeRound_73 rfl ?_
        refine ew_aload_n (pc := 74) dX2_writeRound_74 rfl ?_
        refine tg_g35 (pc := 75) rfl dX2_writeRound_75 ?_
        rw [h35 m a hA]
        refine ew_cV1 (d' := 1) (pc := 78) vX2_413 (tw_ro _ _ _ _) dX2_writeRound_78 (by decide) (ew_rm (Nat.le_of_ble_eq_true rfl)) ?_
        refine t_writesName (nm := nm) ((hF.a 10 rfl).trans hM) (by omega) hP (by omega) (fun σ5 F5 P5 => ?_)
        refine ew_Kv ?_
        refine ew_aload_n (pc := 81) dX2_writeRound_81 rfl ?_
        refine tg_g41 (pc := 82) rfl dX2_writeRound_82 ?_
        refine ew_iret (pc := 85) rfl dX2_writeRound_85 ?_
        rw [P5.1]
        exact hx1 σ5 (hF.u F5 rfl) ((F5.s 0 rfl).trans e0) P5
  have main : okN N → as1 (σ.1 21) 1 = 0 → ∀ m k σ', k + m = (rdL N).length → Fq SP σ σ' → σ'.1 0 = 0 → (sB N = false → Sts σ' (eN N 0 (-1))) → (∃ s, Row σ' (rdL N).length s (rdL N)) → (∀ m a, rdA N = some (m, a) → σ'.1 35 = nI a) → Pg σ' (rpL nm (eN N 0 (-1)) (rdL N) k) → ew_G g kX2_writeRound 7 21 [.ref t, .int (nI k)] [] (tw t σ' h) Q := by
    intro ok hz m
    have hN2 := ok.e2
    induction m with
    | zero =>
      intro k σ' hk hF e0 hS hRow h35 hP
      have e9 : k = (rdL N).length := by omega
      subst e9
      obtain ⟨s, hRw⟩ := hRow
      refine ew_iload_n (pc := 21) dX2_writeRound_21 rfl ?_
      refine ew_aload_n (pc := 22) dX2_writeRound_22 rfl ?_
      refine tg_g33 (pc := 23) rfl dX2_writeRound_23 ?_
      rw [hRw.1]
      refine ew_icmp_ge (pc := 26) (tgt := 56) dX2_writeRound_26 (by decide) (fun c26 => ?_) (fun c26 => absurd (nI_le (Nat.le_refl _) (by omega)) c26)
      exact fin ok σ' hz hF e0 hRw.1 h35 hP
    | succ m ih =>
      intro k σ' hk hF e0 hS hRow h35 hP
      have hkl : k < (rdL N).length := by omega
      have he := List.getElem?_eq_getElem hkl
      have hsb : sB N = false := by
        cases hb : sB N with
        | false => rfl
        | true =>
          rw [rdL, rdA, if_pos hb, rdLo] at hkl
          exact absurd hkl (Nat.not_lt_zero _)
      have hmem := rdL_mem (List.getElem_mem hkl)
      obtain ⟨e, hfe, hee⟩ := fr_is hmem
      have hen := (eAll_ok ok).m e hee
      have hfr : frV (eN N 0 (-1)) (lcode (rdL N) k) = e.1 := by rw [lcode, he, frV]; show (match (eN N 0 (-1)).find? (frP ((rdL N)[k]).2.2.2) with | some e => e.1 | none => 0) = e.1; rw [hfe]
      have hnl := nmV_len nm e.1
      have hlr := rpL_len nm (eN N 0 (-1)) (rdL N) k
      obtain ⟨s, hRw⟩ := hRow
      have hcode : σ'.2 32 k = ((rdL N)[k]).2.2.2 := hRw.2.2 k _ he
      refine ew_iload_n (pc := 21) dX2_writeRound_21 rfl ?_
      refine ew_aload_n (pc := 22) dX2_writeRound_22 rfl ?_
      refine tg_g33 (pc := 23) rfl dX2_writeRound_23 ?_
      rw [hRw.1]
      refine ew_icmp_ge (pc := 26) (tgt := 56) dX2_writeRound_26 (by decide) (fun c26 => absurd c26 (nI_ge (by omega) (by omega))) (fun c26 => ?_)
      refine ew_aload_n (pc := 29) dX2_writeRound_29 rfl ?_
      refine ew_aload_n (pc := 30) dX2_writeRound_30 rfl ?_
      refine ew_aload_n (pc := 31) dX2_writeRound_31 rfl ?_
      refine tg_g32 (pc := 32) rfl dX2_writeRound_32 ?_
      refine ew_iload_n (pc := 35) dX2_writeRound_35 rfl ?_
      refine tg_l32 (pc := 36) (j := k) rfl (by omega) dX2_writeRound_36 ?_
      rw [hcode]
      refine ew_cV1 (d' := 0) (pc := 37) vX2_425 (tw_ro _ _ _ _) dX2_writeRound_37 (by decide) (ew_rm (Nat.le_of_ble_eq_true rfl)) ?_
      refine t_fromOf (hS hsb) (eAll_len ok) hfe ?_
      refine ew_Kr ?_
      refine ew_cV1 (d' := 1) (pc := 40) vX2_413 (tw_ro _ _ _ _) dX2_writeRound_40 (by decide) (ew_rm (Nat.le_of_ble_eq_true rfl)) ?_
      refine t_writesName (nm := nm) ((hF.a 10 rfl).trans hM) (by omega) hP (by omega) (fun σ3 F3 P3 => ?_)
      refine ew_Kv ?_
      refine ew_aload_n (pc := 43) dX2_writeRound_43 rfl ?_
      refine ew_ldcSw (pc := 44) hka dX2_writeRound_44 ?_
      refine ew_cV1 (d' := 5) (pc := 47) vX2_418 (tw_ro _ _ _ _) dX2_writeRound_47 (by decide) (ew_rm (Nat.le_of_ble_eq_true rfl)) ?_
      refine t_writesWord (n := 2) (f := fun i => nI (([45, 62] : List Nat).getD i 0)) hg hg2 (fun σ' ho => hstr _ ho) (by decide) P3 (by rw [List.length_append]; omega) (fun σ4 F4 P4 => ?_)
      refine ew_Kv ?_
      refine ew_iinc (pc := 50) dX2_writeRound_50 rfl (nI_inc k) (by decide) (p1_1 rfl) ?_
      refine ew_goto (pc := 53) (tgt := 21) dX2_writeRound_53 (by decide) ?_
      refine ih (k + 1) σ4 (by omega) ((hF.u F3 rfl).u F4 rfl) ((F4.s 0 rfl).trans ((F3.s 0 rfl).trans e0)) (fun h9 => ((hS h9).fq F3 rfl).fq F4 rfl) ⟨s, ?_⟩ ?_ ?_
      · exact ⟨(F4.s 33 rfl).trans ((F3.s 33 rfl).trans hRw.1), (F4.s 34 rfl).trans ((F3.s 34 rfl).trans hRw.2.1), by rw [F4.a 32 rfl, F3.a 32 rfl]; exact hRw.2.2⟩
      · intro m' a' h9
        exact (F4.s 35 rfl).trans ((F3.s 35 rfl).trans (h35 m' a' h9))
      · rw [rpL, hfr]
        exact P4
  refine ew_enter (by decide +kernel) (ew_a1 rfl (ew_an ew_az)) (Nat.le_of_ble_eq_true rfl) ?_
  refine ew_aload_n (pc := 0) dX2_writeRound_0 rfl ?_
  refine ew_iconst (pc := 1) (v := 1) dX2_writeRound_1 rfl ?_
  refine ew_cV1 (d' := 0) (pc := 2) vX2_291 (tw_ro _ _ _ _) dX2_writeRound_2 (by decide) (ew_rm (Nat.le_of_ble_eq_true rfl)) ?_
  refine t_ask1 (fun σ1 F1 e0 => ?_)
  refine ew_Kr ?_
  refine ew_if_ne (pc := 5) (tgt := 10) dX2_writeRound_5 (by decide) (fun c5 => ?_) (fun c5 => ?_)
  · have hz := bI_n.mp c5
    have hp := as1_0.mp hz
    have ok := hJ.ok hp.1
    rw [hz] at e0
    refine ew_aload_n (pc := 10) dX2_writeRound_10 rfl ?_
    refine ew_cV0 (d' := 6) (pc := 11) vX2_302 (tw_ro _ _ _ _) dX2_writeRound_11 (by decide) (ew_rm (Nat.le_of_ble_eq_true rfl)) ?_
    refine t_round (N := N) ((F1.a 16 rfl).trans hJ.n) ok (hR ok) (fun σ2 F2 R2 S2 O2 => ?_)
    refine ew_Kv ?_
    refine ew_aload_n (pc := 14) dX2_writeRound_14 rfl ?_
    refine ew_iconst (pc := 15) (v := 0) dX2_writeRound_15 rfl ?_
    refine tg_p41 (pc := 16) rfl dX2_writeRound_16 ?_
    refine ew_iconst (pc := 19) (v := 0) dX2_writeRound_19 rfl ?_
    refine ew_istore_n (pc := 20) dX2_writeRound_20 rfl (by decide) (p1_1 rfl) ?_
    refine main ok hz (rdL N).length 0 _ (by omega) (((F1.w rfl : Fq SP σ σ1).u F2 rfl).xI 41 _ rfl) ((F2.s 0 rfl).trans e0) (fun h9 => (S2 h9).fq (Fq.I (S := [41]) _ 41 _ rfl) rfl) ⟨_, R2⟩ O2 ?_
    exact ⟨rfl, Nat.zero_le _, fun i x h9 => nomatch h9⟩
  · refine ew_iconst (pc := 8) (v := 0) dX2_writeRound_8 rfl ?_
    refine ew_iret (pc := 9) rfl dX2_writeRound_9 ?_
    exact h0 (bI_0.mp c5) _ _ (F1.w rfl) e0
