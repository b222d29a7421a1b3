/-! EW: the reference: words are written -/
set_option maxRecDepth 100000
/-- a cell of the start heap that nobody writes -/
def gC (g : eg) (a : Nat) (e : ac) : Prop := eg_c g a = some e ∧ a < eb g
theorem rd_c {g : eg} {h : eh} {a : Nat} {e : ac} (hc : gC g a e) (ho : eh_ok g h) : rd g h a = some e := by
  have h1 : h.1 a = none := by
    cases hh : h.1 a with
    | none => rfl
    | some x => exact absurd (ho.2 a x hh).1 (Nat.not_le_of_lt hc.2)
  unfold rd
  rw [h1]
  exact hc.1
/-- a String constant -/
def gK (g : eg) (own : String) (k : Nat) (L : List Nat) : Prop := ∃ a v hs hz, eg_k g own k = some a ∧ gC g a (ob 17 [.ref v, .int 0, .int hs, .int hz]) ∧ gC g v (aB L.length (fun i => nI (L.getD i 0)))
theorem gK.str {g : eg} {own : String} {k : Nat} {L : List Nat} (hk : gK g own k L) (hl : L.length < 2 ^ 31) (hL : ∀ c, c ∈ L → c < 128) : ∃ a, eg_k g own k = some a ∧ ∀ h, eh_ok g h → Str g h a L.length (fun i => nI (L.getD i 0)) := by
  obtain ⟨a, v, hs, hz, h1, h2, h3⟩ := hk
  refine ⟨a, h1, fun h ho => ⟨v, hs, hz, rd_c h2 ho, rd_c h3 ho, hl, fun i hi => ?_⟩⟩
  refine ⟨L.getD i 0, hL _ ?_, rfl⟩
  rw [List.getD_eq_getElem?_getD, List.getElem?_eq_getElem hi]
  exact List.getElem_mem hi
def wdL (f : Nat → Int32) : Nat → List Int32
  | 0 => []
  | k + 1 => wdL f k ++ [wb (f k)]
theorem wdL_len (f : Nat → Int32) : ∀ k, (wdL f k).length = k
  | 0 => rfl
  | k + 1 => by rw [wdL, List.length_append, wdL_len f k, List.length_singleton]
theorem t_writesWord {g : eg} {h : eh} {t p n : Nat} {f : Nat → Int32} {σ : tS} {L : List Int32} {Q : Outcome → eh → Prop} (hg : gCS g) (hg2 : gSF g) (hs : ∀ σ', eh_ok g (tw t σ' h) → Str g (tw t σ' h) p n f) (hn : n < 2 ^ 31) (hL : Pg σ L) (hl : L.length + n ≤ 300) (hq : ∀ σ', Fq [40, 41] σ σ' → Pg σ' (L ++ wdL f n) → Q (.returned none) (tw t σ' h)) : ew_T g kX2_writesWord 5 [.ref t, .ref p] (tw t σ h) Q := by
  have main : ∀ m k σ', k + m = n → Fq [40, 41] σ σ' → Pg σ' (L ++ wdL f k) → ew_G g kX2_writesWord 5 2 [.ref t, .ref p, .int (nI k)] [] (tw t σ' h) Q := by
    intro m
    induction m with
    | zero =>
      intro k σ' hk hF hP
      have e9 : k = n := by omega
      subst e9
      refine ew_ok (fun ho => ?_)
      have hst := hs σ' ho
      have hst1 := hst
      obtain ⟨v, hh, hz, r1, -⟩ := hst1
      refine ew_iload_n (pc := 2) dX2_writesWord_2 rfl ?_
      refine ew_aload_n (pc := 3) dX2_writesWord_3 rfl ?_
      refine ew_cV0 (d' := 1) (pc := 4) vX2_109 r1 dX2_writesWord_4 (by decide) (ew_rm (Nat.le_of_ble_eq_true rfl)) ?_
      refine t_length hg hst ?_
      refine ew_Kr ?_
      refine ew_icmp_ge (pc := 7) (tgt := 25) dX2_writesWord_7 (by decide) (fun c7 => ?_) (fun c7 => absurd (nI_le (Nat.le_refl _) hn) c7)
      refine ew_vret (pc := 25) rfl dX2_writesWord_25 ?_
      exact hq σ' hF hP
    | succ m ih =>
      intro k σ' hk hF hP
      refine ew_ok (fun ho => ?_)
      have hst := hs σ' ho
      have hst1 := hst
      obtain ⟨v, hh, hz, r1, -⟩ := hst1
      refine ew_iload_n (pc := 2) dX2_writesWord_2 rfl ?_
      refine ew_aload_n (pc := 3) dX2_writesWord_3 rfl ?_
      refine ew_cV0 (d' := 1) (pc := 4) vX2_109 r1 dX2_writesWord_4 (by decide) (ew_rm (Nat.le_of_ble_eq_true rfl)) ?_
      refine t_length hg hst ?_
      refine ew_Kr ?_
      refine ew_icmp_ge (pc := 7) (tgt := 25) dX2_writesWord_7 (by decide) (fun c7 => absurd c7 (nI_ge (by omega) (by omega))) (fun c7 => ?_)
      refine ew_aload_n (pc := 10) dX2_writesWord_10 rfl ?_
      refine ew_aload_n (pc := 11) dX2_writesWord_11 rfl ?_
      refine ew_iload_n (pc := 12) dX2_writesWord_12 rfl ?_
      refine ew_cV1 (d' := 4) (pc := 13) vX2_115 r1 dX2_writesWord_13 (by decide) (ew_rm (Nat.le_of_ble_eq_true rfl)) ?_
      refine t_charAt hg hg2 hst (by omega) ?_
      refine ew_Kr ?_
      refine ew_cV1 (d' := 0) (pc := 16) vX2_410 (tw_ro _ _ _ _) dX2_writesWord_16 (by decide) (ew_rm (Nat.le_of_ble_eq_true rfl)) ?_
      refine t_writesByte hP (by rw [List.length_append, wdL_len]; omega) (fun σ2 F2 P2 => ?_)
      refine ew_Kv ?_
      refine ew_iinc (pc := 19) dX2_writesWord_19 rfl (nI_inc k) (by decide) (p1_2 rfl) ?_
      refine ew_goto (pc := 22) (tgt := 2) dX2_writesWord_22 (by decide) ?_
      refine ih (k + 1) σ2 (by omega) (hF.t1 F2) ?_
      rw [wdL, ← List.append_assoc]
      exact P2
  refine ew_enter (by decide +kernel) (ew_a1 rfl (ew_a1 rfl (ew_an ew_az))) (Nat.le_of_ble_eq_true rfl) ?_
  refine ew_iconst (pc := 0) (v := 0) dX2_writesWord_0 rfl ?_
  refine ew_istore_n (pc := 1) dX2_writesWord_1 rfl (by decide) (p1_2 rfl) ?_
  exact main n 0 σ (by omega) (Fq.r _ _) (by rw [wdL, List.append_nil]; exact hL)
def wdC (L : List Nat) : List Int32 := wdL (fun i => nI (L.getD i 0)) L.length
