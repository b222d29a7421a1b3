/-! EW: the reference: more queries -/
set_option maxRecDepth 100000
def WX (N : Nat → Int32) : Prop := sB N = true → ∀ a, a < nE N → sF N (10 * a + a) ≠ 268435456
def wayF (N : Nat → Int32) (a b : Nat) : Option Nat := fewI 268435456 (eN N 0 (-1)) (sF N (10 * a + b)) a b 10 0
def wayLo (N : Nat → Int32) (a b : Nat) : Option Nat → List ed
  | none => []
  | some m => rowL 268435456 (eN N 0 (-1)) b m a
def wayL (N : Nat → Int32) (a b : Nat) : List ed := if sF N (10 * a + b) < 268435456 then wayLo N a b (wayF N a b) else []
/-- there is a way -/
abbrev wayI (N : Nat → Int32) (a b : Nat) : Prop := sF N (10 * a + b) < 268435456 ∧ wayF N a b ≠ none
theorem fewI_x {F : Int32} {E : List ed} {s : Int32} {a b : Nat} : ∀ r m k, fewI F E s a b r m = some k → xI F E k a b = s ∧ k < m + r
  | 0, _, _, h => by cases h
  | r + 1, m, k, h => by
    rw [fewI] at h
    split at h
    · rename_i h9
      injection h with h
      subst h
      exact ⟨h9, by omega⟩
    · have := fewI_x r (m + 1) k h
      exact ⟨this.1, by omega⟩
theorem wayL_len {N : Nat → Int32} {a b m : Nat} (h : sF N (10 * a + b) < 268435456) (hm : wayF N a b = some m) : (wayL N a b).length = m ∧ m < 10 := by
  have h1 := fewI_x _ _ _ hm
  rw [wayL, if_pos h, hm, wayLo]
  refine ⟨rowL_len m a (Or.inr ?_), by omega⟩
  rw [h1.1]
  exact fun h9 => absurd h (by rw [h9]; exact fun h8 => Int32.lt_irrefl h8)
theorem t_wayN {g : eg} {h : eh} {t a b : Nat} {σ : tS} {N : Nat → Int32} {Q : Outcome → eh → Prop} (hN : σ.2 16 = N) (ok : okN N) (hL : Lies N σ) (hW : WX N) (hs : sB N = true) (ha : a < nE N) (hb : b < nE N)
    (hq : ∀ σ', Fq [31, 32, 33, 34] σ σ' → (wayI N a b → ∃ s, Row σ' (wayL N a b).length s (wayL N a b)) → Q (.returned (some (.int (bI (wayI N a b))))) (tw t σ' h)) : ew_T g kX2_wayOf 2 [.ref t, .int (nI a), .int (nI b)] (tw t σ h) Q := by
  refine t_wayOf hN ok hL.2.1 (eAll_ok ok) (eAll_len ok) ha hb hL.2.2 ?_ (fun σ1 r F1 R1 hr => ?_)
  · by_cases e : a = b
    · subst e; exact Or.inl (hW hs a ha)
    · exact Or.inr e
  · rw [hr]
    refine hq σ1 F1 (fun h9 => ?_)
    cases hm : wayF N a b with
    | none => exact absurd hm h9.2
    | some m =>
      refine ⟨xI 268435456 (eN N 0 (-1)) m a b, ?_⟩
      rw [(wayL_len h9.1 hm).1, wayL, if_pos h9.1, hm, wayLo]
      exact R1 m hm
def lcode (L : List ed) (k : Nat) : Int32 := match L[k]? with
  | some e => e.2.2.2
  | none => 0
theorem wayL_no {N : Nat → Int32} {a b : Nat} (h : ¬ wayI N a b) : wayL N a b = [] := by
  rw [wayL]
  by_cases h1 : sF N (10 * a + b) < 268435456
  · rw [if_pos h1]
    cases hm : wayF N a b with
    | none => rfl
    | some m => exact absurd ⟨h1, by rw [hm]; exact fun h9 => nomatch h9⟩ h
  · rw [if_neg h1]
theorem o_wayLength {g : eg} {h : eh} {t : Nat} {σ : tS} {N : Nat → Int32} {a b : Int32} {Q : Outcome → eh → Prop} (hJ : TJ σ N) (hW : okN N → WX N)
    (hq : ∀ σ' v, An SC σ (se1 (σ.1 21) (sB N) (bI (isIx (nE N) a ∧ isIx (nE N) b))) (if wayI N (ix a) (ix b) then nI (wayL N (ix a) (ix b)).length else -1) σ' v → Q (.returned (some (.int v))) (tw t σ' h)) : ew_T g kX2_wayLength 7 [.ref t, .int a, .int b] (tw t σ h) Q := by
  refine ew_enter (by decide +kernel) (ew_a1 rfl (ew_a1 rfl (ew_a1 rfl ew_az))) (Nat.le_of_ble_eq_true rfl) ?_
  refine ew_aload_n (pc := 0) dX2_wayLength_0 rfl ?_
  refine ew_aload_n (pc := 1) dX2_wayLength_1 rfl ?_
  refine ew_iload_n (pc := 2) dX2_wayLength_2 rfl ?_
  refine ew_iload_n (pc := 3) dX2_wayLength_3 rfl ?_
  refine ew_cV2 (d' := 2) (pc := 4) vX2_311 (tw_ro _ _ _ _) dX2_wayLength_4 (by decide) (ew_rm (Nat.le_of_ble_eq_true rfl)) ?_
  refine t_areEvents hJ.n hJ.z ?_
  refine ew_Kr ?_
  refine ew_cV1 (d' := 6) (pc := 7) vX2_314 (tw_ro _ _ _ _) dX2_wayLength_7 (by decide) (ew_rm (Nat.le_of_ble_eq_true rfl)) ?_
  refine t_maySee hJ (fun σ1 F1 h0 L1 => ?_)
  refine ew_Kr ?_
  refine ew_if_ne (pc := 10) (tgt := 15) dX2_wayLength_10 (by decide) (fun c10 => ?_) (fun c10 => ?_)
  · have hp := se1_0.mp (bI_n.mp c10)
    have hi := bI_n.mp hp.2.2
    have hn := (hJ.ok hp.1).e2
    have ha := hi.1.to (by omega)
    have hb := hi.2.to (by omega)
    rw [ha.2, hb.2]
    refine ew_aload_n (pc := 15) dX2_wayLength_15 rfl ?_
    refine ew_iload_n (pc := 16) dX2_wayLength_16 rfl ?_
    refine ew_iload_n (pc := 17) dX2_wayLength_17 rfl ?_
    refine ew_cV2 (d' := 2) (pc := 18) vX2_326 (tw_ro _ _ _ _) dX2_wayLength_18 (by decide) (ew_rm (Nat.le_of_ble_eq_true rfl)) ?_
    refine t_wayN ((F1.a 16 rfl).trans hJ.n) (hJ.ok hp.1) (L1 hp.1) (hW (hJ.ok hp.1)) hp.2.1 ha.1 hb.1 (fun σ2 F2 R2 => ?_)
    refine ew_Kr ?_
    refine ew_if_eq (pc := 21) (tgt := 31) dX2_wayLength_21 (by decide) (fun c21 => ?_) (fun c21 => ?_)
    · refine ew_iconst (pc := 31) (v := -1) dX2_wayLength_31 rfl ?_
      refine ew_iret (pc := 32) rfl dX2_wayLength_32 ?_
      first
      | obtain ⟨s, R3⟩ := R2 (bI_n.mp c21)
        refine hq _ _ ⟨(F1.w rfl).u F2 rfl, (F2.s 0 rfl).trans h0, fun _ => ?_⟩
        rw [if_pos (bI_n.mp c21)]
        exact R3.1
      | refine hq _ _ ⟨(F1.w rfl).u F2 rfl, (F2.s 0 rfl).trans h0, fun _ => ?_⟩
        rw [if_neg (bI_0.mp c21)]
    · refine ew_aload_n (pc := 24) dX2_wayLength_24 rfl ?_
      refine tg_g33 (pc := 25) rfl dX2_wayLength_25 ?_
      refine ew_goto (pc := 28) (tgt := 32) dX2_wayLength_28 (by decide) ?_
      refine ew_iret (pc := 32) rfl dX2_wayLength_32 ?_
      first
      | obtain ⟨s, R3⟩ := R2 (bI_n.mp c21)
        refine hq _ _ ⟨(F1.w rfl).u F2 rfl, (F2.s 0 rfl).trans h0, fun _ => ?_⟩
        rw [if_pos (bI_n.mp c21)]
        exact R3.1
      | refine hq _ _ ⟨(F1.w rfl).u F2 rfl, (F2.s 0 rfl).trans h0, fun _ => ?_⟩
        rw [if_neg (bI_0.mp c21)]
  · refine ew_iconst (pc := 13) (v := 0) dX2_wayLength_13 rfl ?_
    refine ew_iret (pc := 14) rfl dX2_wayLength_14 ?_
    exact hq _ _ ⟨F1.w rfl, h0, fun h9 => absurd h9 (bI_0.mp c10)⟩
def wayT (x : Int32) (sb : Bool) (f : Int32) (n : Nat) (k : Int32) : Int32 := if se1 x sb f = 0 then (if isIx n k then 0 else 2) else se1 x sb f
theorem o_wayStep {g : eg} {h : eh} {t : Nat} {σ : tS} {N : Nat → Int32} {a b k : Int32} {Q : Outcome → eh → Prop} (hJ : TJ σ N) (hW : okN N → WX N)
    (hq : ∀ σ' v, An SC σ (wayT (σ.1 21) (sB N) (bI (isIx (nE N) a ∧ isIx (nE N) b)) (wayL N (ix a) (ix b)).length k) (lcode (wayL N (ix a) (ix b)) (ix k)) σ' v → Q (.returned (some (.int v))) (tw t σ' h)) : ew_T g kX2_wayStep 7 [.ref t, .int a, .int b, .int k] (tw t σ h) Q := by
  refine ew_enter (by decide +kernel) (ew_a1 rfl (ew_a1 rfl (ew_a1 rfl (ew_a1 rfl (ew_an ew_az))))) (Nat.le_of_ble_eq_true rfl) ?_
  refine ew_aload_n (pc := 0) dX2_wayStep_0 rfl ?_
  refine ew_aload_n (pc := 1) dX2_wayStep_1 rfl ?_
  refine ew_iload_n (pc := 2) dX2_wayStep_2 rfl ?_
  refine ew_iload_n (pc := 3) dX2_wayStep_3 rfl ?_
  refine ew_cV2 (d' := 2) (pc := 4) vX2_311 (tw_ro _ _ _ _) dX2_wayStep_4 (by decide) (ew_rm (Nat.le_of_ble_eq_true rfl)) ?_
  refine t_areEvents hJ.n hJ.z ?_
  refine ew_Kr ?_
  refine ew_cV1 (d' := 6) (pc := 7) vX2_314 (tw_ro _ _ _ _) dX2_wayStep_7 (by decide) (ew_rm (Nat.le_of_ble_eq_true rfl)) ?_
  refine t_maySee hJ (fun σ1 F1 h0 L1 => ?_)
  refine ew_Kr ?_
  refine ew_if_ne (pc := 10) (tgt := 15) dX2_wayStep_10 (by decide) (fun c10 => ?_) (fun c10 => ?_)
  · have hp := se1_0.mp (bI_n.mp c10)
    have hi := bI_n.mp hp.2.2
    have hn := (hJ.ok hp.1).e2
    have ha := hi.1.to (by omega)
    have hb := hi.2.to (by omega)
    rw [wayT, if_pos (bI_n.mp c10)] at hq
    rw [ha.2, hb.2]
    refine ew_aload_n (pc := 15) dX2_wayStep_15 rfl ?_
    refine ew_iload_n (pc := 16) dX2_wayStep_16 rfl ?_
    refine ew_iload_n (pc := 17) dX2_wayStep_17 rfl ?_
    refine ew_cV2 (d' := 2) (pc := 18) vX2_326 (tw_ro _ _ _ _) dX2_wayStep_18 (by decide) (ew_rm (Nat.le_of_ble_eq_true rfl)) ?_
    refine t_wayN ((F1.a 16 rfl).trans hJ.n) (hJ.ok hp.1) (L1 hp.1) (hW (hJ.ok hp.1)) hp.2.1 ha.1 hb.1 (fun σ2 F2 R2 => ?_)
    refine ew_Kr ?_
    refine ew_if_eq (pc := 21) (tgt := 42) dX2_wayStep_21 (by decide) (fun c21 => ?_) (fun c21 => ?_)
    · refine ew_iconst (pc := 42) (v := 0) dX2_wayStep_42 rfl ?_
      refine ew_istore (pc := 43) dX2_wayStep_43 (by decide) (p1_4 rfl) ?_
      refine ew_aload_n (pc := 45) dX2_wayStep_45 rfl ?_
      refine ew_iload (pc := 46) dX2_wayStep_46 rfl ?_
      refine ew_if_eq (pc := 48) (tgt := 55) dX2_wayStep_48 (by decide) (fun c48 => ?_) (fun c48 => absurd (show (0 : Int32) = (0 : Int32) by decide) c48)
      refine ew_iconst (pc := 55) (v := 2) dX2_wayStep_55 rfl ?_
      refine tg_p0 (pc := 56) rfl dX2_wayStep_56 ?_
      refine ew_iload (pc := 59) dX2_wayStep_59 rfl ?_
      refine ew_if_eq (pc := 61) (tgt := 73) dX2_wayStep_61 (by decide) (fun c61 => ?_) (fun c61 => absurd (show (0 : Int32) = (0 : Int32) by decide) c61)
      refine ew_iconst (pc := 73) (v := 0) dX2_wayStep_73 rfl ?_
      refine ew_iret (pc := 74) rfl dX2_wayStep_74 ?_
      first
      | rw [if_neg (bI_0.mp c35)] at hq
        exact hq _ _ ⟨((F1.w rfl).u F2 rfl).xI 0 _ rfl, rfl, fun h9 => absurd h9 (by decide)⟩
      | rw [wayL_no (bI_0.mp c21), if_neg (fun h9 => by have := (isIx_iff (n := 0) (by decide)).mp h9; obtain ⟨j, hj, _⟩ := this; omega)] at hq
        exact hq _ _ ⟨((F1.w rfl).u F2 rfl).xI 0 _ rfl, rfl, fun h9 => absurd h9 (by decide)⟩
      | rw [if_pos (bI_n.mp c35)] at hq
        refine hq _ _ ⟨((F1.w rfl).u F2 rfl).xI 0 _ rfl, rfl, fun _ => ?_⟩
        have he := List.getElem?_eq_getElem hk.1
        rw [lcode, he]
        exact R3.2.2 _ _ he
    · obtain ⟨s, R3⟩ := R2 (bI_n.mp c21)
      refine ew_iload_n (pc := 24) dX2_wayStep_24 rfl ?_
      refine ew_iconst (pc := 25) (v := 0) dX2_wayStep_25 rfl ?_
      refine ew_aload_n (pc := 26) dX2_wayStep_26 rfl ?_
      refine tg_g33 (pc := 27) rfl dX2_wayStep_27 ?_
      rw [R3.1]
      refine ew_iconst (pc := 30) (v := 1) dX2_wayStep_30 rfl ?_
      refine ew_isub (pc := 31) dX2_wayStep_31 ?_
      refine ew_cS3 (d' := 0) (pc := 32) sX2_102 dX2_wayStep_32 (by decide) (ew_rm (Nat.le_of_ble_eq_true rfl)) ?_
      refine t_inT ?_
      refine ew_Kr ?_
      refine ew_if_eq (pc := 35) (tgt := 42) dX2_wayStep_35 (by decide) (fun c35 => ?_) (fun c35 => ?_)
      · refine ew_iconst (pc := 42) (v := 0) dX2_wayStep_42 rfl ?_
        refine ew_istore (pc := 43) dX2_wayStep_43 (by decide) (p1_4 rfl) ?_
        refine ew_aload_n (pc := 45) dX2_wayStep_45 rfl ?_
        refine ew_iload (pc := 46) dX2_wayStep_46 rfl ?_
        refine ew_if_eq (pc := 48) (tgt := 55) dX2_wayStep_48 (by decide) (fun c48 => ?_) (fun c48 => absurd (show (0 : Int32) = (0 : Int32) by decide) c48)
        refine ew_iconst (pc := 55) (v := 2) dX2_wayStep_55 rfl ?_
        refine tg_p0 (pc := 56) rfl dX2_wayStep_56 ?_
        refine ew_iload (pc := 59) dX2_wayStep_59 rfl ?_
        refine ew_if_eq (pc := 61) (tgt := 73) dX2_wayStep_61 (by decide) (fun c61 => ?_) (fun c61 => absurd (show (0 : Int32) = (0 : Int32) by decide) c61)
        refine ew_iconst (pc := 73) (v := 0) dX2_wayStep_73 rfl ?_
        refine ew_iret (pc := 74) rfl dX2_wayStep_74 ?_
        first
        | rw [if_neg (bI_0.mp c35)] at hq
          exact hq _ _ ⟨((F1.w rfl).u F2 rfl).xI 0 _ rfl, rfl, fun h9 => absurd h9 (by decide)⟩
        | rw [wayL_no (bI_0.mp c21), if_neg (fun h9 => by have := (isIx_iff (n := 0) (by decide)).mp h9; obtain ⟨j, hj, _⟩ := this; omega)] at hq
          exact hq _ _ ⟨((F1.w rfl).u F2 rfl).xI 0 _ rfl, rfl, fun h9 => absurd h9 (by decide)⟩
        | rw [if_pos (bI_n.mp c35)] at hq
          refine hq _ _ ⟨((F1.w rfl).u F2 rfl).xI 0 _ rfl, rfl, fun _ => ?_⟩
          have he := List.getElem?_eq_getElem hk.1
          rw [lcode, he]
          exact R3.2.2 _ _ he
      · refine ew_iconst (pc := 38) (v := 1) dX2_wayStep_38 rfl ?_
        refine ew_goto (pc := 39) (tgt := 43) dX2_wayStep_39 (by decide) ?_
        refine ew_istore (pc := 43) dX2_wayStep_43 (by decide) (p1_4 rfl) ?_
        refine ew_aload_n (pc := 45) dX2_wayStep_45 rfl ?_
        refine ew_iload (pc := 46) dX2_wayStep_46 rfl ?_
        refine ew_if_eq (pc := 48) (tgt := 55) dX2_wayStep_48 (by decide) (fun c48 => absurd c48 (show ¬ ((1 : Int32) = (0 : Int32)) by decide)) (fun c48 => ?_)
        refine ew_iconst (pc := 51) (v := 0) dX2_wayStep_51 rfl ?_
        refine ew_goto (pc := 52) (tgt := 56) dX2_wayStep_52 (by decide) ?_
        refine tg_p0 (pc := 56) rfl dX2_wayStep_56 ?_
        refine ew_iload (pc := 59) dX2_wayStep_59 rfl ?_
        refine ew_if_eq (pc := 61) (tgt := 73) dX2_wayStep_61 (by decide) (fun c61 => absurd c61 (show ¬ ((1 : Int32) = (0 : Int32)) by decide)) (fun c61 => ?_)
        have hk := (isIx.to (bI_n.mp c35)) (by
          cases hm : wayF N (ix a) (ix b) with
          | none => exact absurd hm (bI_n.mp c21).2
          | some m => have := wayL_len (bI_n.mp c21).1 hm; omega)
        have hk2 : (wayL N (ix a) (ix b)).length ≤ 10 := by
          cases hm : wayF N (ix a) (ix b) with
          | none => exact absurd hm (bI_n.mp c21).2
          | some m => have := wayL_len (bI_n.mp c21).1 hm; omega
        refine ew_aload_n (pc := 64) dX2_wayStep_64 rfl ?_
        refine tg_g32 (pc := 65) rfl dX2_wayStep_65 ?_
        refine ew_iload_n (pc := 68) dX2_wayStep_68 rfl ?_
        refine tg_l32 (pc := 69) (j := ix k) hk.2 (by omega) dX2_wayStep_69 ?_
        refine ew_goto (pc := 70) (tgt := 74) dX2_wayStep_70 (by decide) ?_
        refine ew_iret (pc := 74) rfl dX2_wayStep_74 ?_
        first
        | rw [if_neg (bI_0.mp c35)] at hq
          exact hq _ _ ⟨((F1.w rfl).u F2 rfl).xI 0 _ rfl, rfl, fun h9 => absurd h9 (by decide)⟩
        | rw [wayL_no (bI_0.mp c21), if_neg (fun h9 => by have := (isIx_iff (n := 0) (by decide)).mp h9; obtain ⟨j, hj, _⟩ := this; omega)] at hq
          exact hq _ _ ⟨((F1.w rfl).u F2 rfl).xI 0 _ rfl, rfl, fun h9 => absurd h9 (by decide)⟩
        | rw [if_pos (bI_n.mp c35)] at hq
          refine hq _ _ ⟨((F1.w rfl).u F2 rfl).xI 0 _ rfl, rfl, fun _ => ?_⟩
          have he := List.getElem?_eq_getElem hk.1
          rw [lcode, he]
          exact R3.2.2 _ _ he
  · refine ew_iconst (pc := 13) (v := 0) dX2_wayStep_13 rfl ?_
    refine ew_iret (pc := 14) rfl dX2_wayStep_14 ?_
    have hz := bI_0.mp c10
    refine hq _ _ ⟨F1.w rfl, ?_, ?_⟩
    · rw [wayT, if_neg hz]; exact h0
    · intro h9; rw [wayT, if_neg hz] at h9; exact absurd h9 hz
theorem t_isTight {g : eg} {h : eh} {t : Nat} {σ : tS} {N : Nat → Int32} {a lw : Int32} {Q : Outcome → eh → Prop} (hJ : TJ σ N)
    (hq : ∀ σ' v, An SC σ (se1 (σ.1 21) (sB N) (bI (isIx (nW N) a))) (bI (¬ N (2 + 6 * ix a + 5) = 1 ∧ ((¬ lw = 0 ∧ leastV (sF N) (fA N (ix a)) (fB N (ix a)) = N (2 + 6 * ix a + 2)) ∨ (lw = 0 ∧ ¬ N (2 + 6 * ix a + 3) = -1 ∧ mostV (sF N) (fA N (ix a)) (fB N (ix a)) = N (2 + 6 * ix a + 3))))) σ' v → Q (.returned (some (.int v))) (tw t σ' h)) : ew_T g kX2_isTight 7 [.ref t, .int a, .int lw] (tw t σ h) Q := by
  refine ew_enter (by decide +kernel) (ew_a1 rfl (ew_a1 rfl (ew_a1 rfl (ew_an (ew_an ew_az))))) (Nat.le_of_ble_eq_true rfl) ?_
  refine ew_aload_n (pc := 0) dX2_isTight_0 rfl ?_
  refine ew_aload_n (pc := 1) dX2_isTight_1 rfl ?_
  refine ew_iload_n (pc := 2) dX2_isTight_2 rfl ?_
  refine ew_cV1 (d' := 1) (pc := 3) vX2_295 (tw_ro _ _ _ _) dX2_isTight_3 (by decide) (ew_rm (Nat.le_of_ble_eq_true rfl)) ?_
  refine t_isWindow hJ.n hJ.z ?_
  refine ew_Kr ?_
  refine ew_cV1 (d' := 6) (pc := 6) vX2_314 (tw_ro _ _ _ _) dX2_isTight_6 (by decide) (ew_rm (Nat.le_of_ble_eq_true rfl)) ?_
  refine t_maySee hJ (fun σ1 F1 h0 L1 => ?_)
  refine ew_Kr ?_
  refine ew_if_eq (pc := 9) (tgt := 20) dX2_isTight_9 (by decide) (fun c9 => ?_) (fun c9 => ?_)
  · refine ew_iconst (pc := 20) (v := 0) dX2_isTight_20 rfl ?_
    refine ew_zret (pc := 21) (ty := .boolean) rfl rfl dX2_isTight_21 ?_
    first
    | exact hq _ _ ⟨F1.w rfl, h0, fun h9 => absurd h9 (bI_0.mp c9)⟩
    | exact hq _ _ ⟨F1.w rfl, h0, fun _ => bI_F ((fun h9 => h9.1 (bI_n.mp c17)))⟩
    | exact hq _ _ ⟨F1.w rfl, h0, fun _ => bI_T (⟨bI_0.mp c17, Or.inl ⟨c38, c54⟩⟩)⟩
    | exact hq _ _ ⟨F1.w rfl, h0, fun _ => bI_F ((fun h9 => h9.2.elim (fun h8 => c54 h8.2) (fun h8 => c38 h8.1)))⟩
    | exact hq _ _ ⟨F1.w rfl, h0, fun _ => bI_T (⟨bI_0.mp c17, Or.inr ⟨c38, c72, c88⟩⟩)⟩
    | exact hq _ _ ⟨F1.w rfl, h0, fun _ => bI_F ((fun h9 => h9.2.elim (fun h8 => h8.1 c38) (fun h8 => c88 h8.2.2)))⟩
    | exact hq _ _ ⟨F1.w rfl, h0, fun _ => bI_F ((fun h9 => h9.2.elim (fun h8 => h8.1 c38) (fun h8 => h8.2.1 c72)))⟩
  · have hp := se1_0.mp (bI_n.mp c9)
    have hi := bI_n.mp hp.2.2
    have ok := hJ.ok hp.1
    have hn := ok.w2
    have hn2 := ok.e2
    have ha := hi.to (by omega)
    have hN1 := (F1.a 16 rfl).trans hJ.n
    have hA1 := ok.al _ ha.1
    have hB1 := ok.bl _ ha.1
    rw [ha.2]
    refine ew_aload_n (pc := 12) dX2_isTight_12 rfl ?_
    refine ew_iload_n (pc := 13) dX2_isTight_13 rfl ?_
    refine ew_cV1 (d' := 2) (pc := 14) vX2_223 (tw_ro _ _ _ _) dX2_isTight_14 (by decide) (ew_rm (Nat.le_of_ble_eq_true rfl)) ?_
    refine t_isDroppedN hN1 (by omega) ?_
    refine ew_Kr ?_
    refine ew_if_eq (pc := 17) (tgt := 22) dX2_isTight_17 (by decide) (fun c17 => ?_) (fun c17 => ?_)
    · refine ew_aload_n (pc := 22) dX2_isTight_22 rfl ?_
      refine ew_iload_n (pc := 23) dX2_isTight_23 rfl ?_
      refine ew_iconst (pc := 24) (v := 0) dX2_isTight_24 rfl ?_
      refine ew_cV2 (d' := 1) (pc := 25) vX2_214 (tw_ro _ _ _ _) dX2_isTight_25 (by decide) (ew_rm (Nat.le_of_ble_eq_true rfl)) ?_
      refine t_ofN (i := 0) hN1 (by omega) (by decide) ?_
      rw [ok.a _ ha.1]
      refine ew_Kr ?_
      refine ew_istore_n (pc := 28) dX2_isTight_28 rfl (by decide) (p1_3 rfl) ?_
      refine ew_aload_n (pc := 29) dX2_isTight_29 rfl ?_
      refine ew_iload_n (pc := 30) dX2_isTight_30 rfl ?_
      refine ew_iconst (pc := 31) (v := 1) dX2_isTight_31 rfl ?_
      refine ew_cV2 (d' := 1) (pc := 32) vX2_214 (tw_ro _ _ _ _) dX2_isTight_32 (by decide) (ew_rm (Nat.le_of_ble_eq_true rfl)) ?_
      refine t_ofN (i := 1) hN1 (by omega) (by decide) ?_
      rw [ok.b _ ha.1]
      refine ew_Kr ?_
      refine ew_istore (pc := 35) dX2_isTight_35 (by decide) (p1_4 rfl) ?_
      refine ew_iload_n (pc := 37) dX2_isTight_37 rfl ?_
      refine ew_if_eq (pc := 38) (tgt := 65) dX2_isTight_38 (by decide) (fun c38 => ?_) (fun c38 => ?_)
      · refine ew_aload_n (pc := 65) dX2_isTight_65 rfl ?_
        refine ew_iload_n (pc := 66) dX2_isTight_66 rfl ?_
        refine ew_iconst (pc := 67) (v := 3) dX2_isTight_67 rfl ?_
        refine ew_cV2 (d' := 1) (pc := 68) vX2_214 (tw_ro _ _ _ _) dX2_isTight_68 (by decide) (ew_rm (Nat.le_of_ble_eq_true rfl)) ?_
        refine t_ofN (i := 3) hN1 (by omega) (by decide) ?_
        refine ew_Kr ?_
        refine ew_iconst (pc := 71) (v := -1) dX2_isTight_71 rfl ?_
        refine ew_icmp_eq (pc := 72) (tgt := 95) dX2_isTight_72 (by decide) (fun c72 => ?_) (fun c72 => ?_)
        · refine ew_iconst (pc := 95) (v := 0) dX2_isTight_95 rfl ?_
          refine ew_zret (pc := 96) (ty := .boolean) rfl rfl dX2_isTight_96 ?_
          first
          | exact hq _ _ ⟨F1.w rfl, h0, fun h9 => absurd h9 (bI_0.mp c9)⟩
          | exact hq _ _ ⟨F1.w rfl, h0, fun _ => bI_F ((fun h9 => h9.1 (bI_n.mp c17)))⟩
          | exact hq _ _ ⟨F1.w rfl, h0, fun _ => bI_T (⟨bI_0.mp c17, Or.inl ⟨c38, c54⟩⟩)⟩
          | exact hq _ _ ⟨F1.w rfl, h0, fun _ => bI_F ((fun h9 => h9.2.elim (fun h8 => c54 h8.2) (fun h8 => c38 h8.1)))⟩
          | exact hq _ _ ⟨F1.w rfl, h0, fun _ => bI_T (⟨bI_0.mp c17, Or.inr ⟨c38, c72, c88⟩⟩)⟩
          | exact hq _ _ ⟨F1.w rfl, h0, fun _ => bI_F ((fun h9 => h9.2.elim (fun h8 => h8.1 c38) (fun h8 => c88 h8.2.2)))⟩
          | exact hq _ _ ⟨F1.w rfl, h0, fun _ => bI_F ((fun h9 => h9.2.elim (fun h8 => h8.1 c38) (fun h8 => h8.2.1 c72)))⟩
        · refine ew_aload_n (pc := 75) dX2_isTight_75 rfl ?_
          refine ew_iload_n (pc := 76) dX2_isTight_76 rfl ?_
          refine ew_iload (pc := 77) dX2_isTight_77 rfl ?_
          refine ew_cV2 (d' := 1) (pc := 79) vX2_317 (tw_ro _ _ _ _) dX2_isTight_79 (by decide) (ew_rm (Nat.le_of_ble_eq_true rfl)) ?_
          refine t_mostOf (L1 hp.1).2.2 (by omega) (by omega) ?_
          refine ew_Kr ?_
          refine ew_aload_n (pc := 82) dX2_isTight_82 rfl ?_
          refine ew_iload_n (pc := 83) dX2_isTight_83 rfl ?_
          refine ew_iconst (pc := 84) (v := 3) dX2_isTight_84 rfl ?_
          refine ew_cV2 (d' := 1) (pc := 85) vX2_214 (tw_ro _ _ _ _) dX2_isTight_85 (by decide) (ew_rm (Nat.le_of_ble_eq_true rfl)) ?_
          refine t_ofN (i := 3) hN1 (by omega) (by decide) ?_
          refine ew_Kr ?_
          refine ew_icmp_ne (pc := 88) (tgt := 95) dX2_isTight_88 (by decide) (fun c88 => ?_) (fun c88 => ?_)
          · refine ew_iconst (pc := 95) (v := 0) dX2_isTight_95 rfl ?_
            refine ew_zret (pc := 96) (ty := .boolean) rfl rfl dX2_isTight_96 ?_
            first
            | exact hq _ _ ⟨F1.w rfl, h0, fun h9 => absurd h9 (bI_0.mp c9)⟩
            | exact hq _ _ ⟨F1.w rfl, h0, fun _ => bI_F ((fun h9 => h9.1 (bI_n.mp c17)))⟩
            | exact hq _ _ ⟨F1.w rfl, h0, fun _ => bI_T (⟨bI_0.mp c17, Or.inl ⟨c38, c54⟩⟩)⟩
            | exact hq _ _ ⟨F1.w rfl, h0, fun _ => bI_F ((fun h9 => h9.2.elim (fun h8 => c54 h8.2) (fun h8 => c38 h8.1)))⟩
            | exact hq _ _ ⟨F1.w rfl, h0, fun _ => bI_T (⟨bI_0.mp c17, Or.inr ⟨c38, c72, c88⟩⟩)⟩
            | exact hq _ _ ⟨F1.w rfl, h0, fun _ => bI_F ((fun h9 => h9.2.elim (fun h8 => h8.1 c38) (fun h8 => c88 h8.2.2)))⟩
            | exact hq _ _ ⟨F1.w rfl, h0, fun _ => bI_F ((fun h9 => h9.2.elim (fun h8 => h8.1 c38) (fun h8 => h8.2.1 c72)))⟩
          · refine ew_iconst (pc := 91) (v := 1) dX2_isTight_91 rfl ?_
            refine ew_goto (pc := 92) (tgt := 96) dX2_isTight_92 (by decide) ?_
            refine ew_zret (pc := 96) (ty := .boolean) rfl rfl dX2_isTight_96 ?_
            first
            | exact hq _ _ ⟨F1.w rfl, h0, fun h9 => absurd h9 (bI_0.mp c9)⟩
            | exact hq _ _ ⟨F1.w rfl, h0, fun _ => bI_F ((fun h9 => h9.1 (bI_n.mp c17)))⟩
            | exact hq _ _ ⟨F1.w rfl, h0, fun _ => bI_T (⟨bI_0.mp c17, Or.inl ⟨c38, c54⟩⟩)⟩
            | exact hq _ _ ⟨F1.w rfl, h0, fun _ => bI_F ((fun h9 => h9.2.elim (fun h8 => c54 h8.2) (fun h8 => c38 h8.1)))⟩
            | exact hq _ _ ⟨F1.w rfl, h0, fun _ => bI_T (⟨bI_0.mp c17, Or.inr ⟨c38, c72, c88⟩⟩)⟩
            | exact hq _ _ ⟨F1.w rfl, h0, fun _ => bI_F ((fun h9 => h9.2.elim (fun h8 => h8.1 c38) (fun h8 => c88 h8.2.2)))⟩
            | exact hq _ _ ⟨F1.w rfl, h0, fun _ => bI_F ((fun h9 => h9.2.elim (fun h8 => h8.1 c38) (fun h8 => h8.2.1 c72)))⟩
      · refine ew_aload_n (pc := 41) dX2_isTight_41 rfl ?_
        refine ew_iload_n (pc := 42) dX2_isTight_42 rfl ?_
        refine ew_iload (pc := 43) dX2_isTight_43 rfl ?_
        refine ew_cV2 (d' := 1) (pc := 45) vX2_320 (tw_ro _ _ _ _) dX2_isTight_45 (by decide) (ew_rm (Nat.le_of_ble_eq_true rfl)) ?_
        refine t_leastOf (L1 hp.1).2.2 (by omega) (by omega) ?_
        refine ew_Kr ?_
        refine ew_aload_n (pc := 48) dX2_isTight_48 rfl ?_
        refine ew_iload_n (pc := 49) dX2_isTight_49 rfl ?_
        refine ew_iconst (pc := 50) (v := 2) dX2_isTight_50 rfl ?_
        refine ew_cV2 (d' := 1) (pc := 51) vX2_214 (tw_ro _ _ _ _) dX2_isTight_51 (by decide) (ew_rm (Nat.le_of_ble_eq_true rfl)) ?_
        refine t_ofN (i := 2) hN1 (by omega) (by decide) ?_
        refine ew_Kr ?_
        refine ew_icmp_ne (pc := 54) (tgt := 61) dX2_isTight_54 (by decide) (fun c54 => ?_) (fun c54 => ?_)
        · refine ew_iconst (pc := 61) (v := 0) dX2_isTight_61 rfl ?_
          refine ew_goto (pc := 62) (tgt := 96) dX2_isTight_62 (by decide) ?_
          refine ew_zret (pc := 96) (ty := .boolean) rfl rfl dX2_isTight_96 ?_
          first
          | exact hq _ _ ⟨F1.w rfl, h0, fun h9 => absurd h9 (bI_0.mp c9)⟩
          | exact hq _ _ ⟨F1.w rfl, h0, fun _ => bI_F ((fun h9 => h9.1 (bI_n.mp c17)))⟩
          | exact hq _ _ ⟨F1.w rfl, h0, fun _ => bI_T (⟨bI_0.mp c17, Or.inl ⟨c38, c54⟩⟩)⟩
          | exact hq _ _ ⟨F1.w rfl, h0, fun _ => bI_F ((fun h9 => h9.2.elim (fun h8 => c54 h8.2) (fun h8 => c38 h8.1)))⟩
          | exact hq _ _ ⟨F1.w rfl, h0, fun _ => bI_T (⟨bI_0.mp c17, Or.inr ⟨c38, c72, c88⟩⟩)⟩
          | exact hq _ _ ⟨F1.w rfl, h0, fun _ => bI_F ((fun h9 => h9.2.elim (fun h8 => h8.1 c38) (fun h8 => c88 h8.2.2)))⟩
          | exact hq _ _ ⟨F1.w rfl, h0, fun _ => bI_F ((fun h9 => h9.2.elim (fun h8 => h8.1 c38) (fun h8 => h8.2.1 c72)))⟩
        · refine ew_iconst (pc := 57) (v := 1) dX2_isTight_57 rfl ?_
          refine ew_goto (pc := 58) (tgt := 96) dX2_isTight_58 (by decide) ?_
          refine ew_zret (pc := 96) (ty := .boolean) rfl rfl dX2_isTight_96 ?_
          first
          | exact hq _ _ ⟨F1.w rfl, h0, fun h9 => absurd h9 (bI_0.mp c9)⟩
          | exact hq _ _ ⟨F1.w rfl, h0, fun _ => bI_F ((fun h9 => h9.1 (bI_n.mp c17)))⟩
          | exact hq _ _ ⟨F1.w rfl, h0, fun _ => bI_T (⟨bI_0.mp c17, Or.inl ⟨c38, c54⟩⟩)⟩
          | exact hq _ _ ⟨F1.w rfl, h0, fun _ => bI_F ((fun h9 => h9.2.elim (fun h8 => c54 h8.2) (fun h8 => c38 h8.1)))⟩
          | exact hq _ _ ⟨F1.w rfl, h0, fun _ => bI_T (⟨bI_0.mp c17, Or.inr ⟨c38, c72, c88⟩⟩)⟩
          | exact hq _ _ ⟨F1.w rfl, h0, fun _ => bI_F ((fun h9 => h9.2.elim (fun h8 => h8.1 c38) (fun h8 => c88 h8.2.2)))⟩
          | exact hq _ _ ⟨F1.w rfl, h0, fun _ => bI_F ((fun h9 => h9.2.elim (fun h8 => h8.1 c38) (fun h8 => h8.2.1 c72)))⟩
    · refine ew_iconst (pc := 20) (v := 0) dX2_isTight_20 rfl ?_
      refine ew_zret (pc := 21) (ty := .boolean) rfl rfl dX2_isTight_21 ?_
      first
      | exact hq _ _ ⟨F1.w rfl, h0, fun h9 => absurd h9 (bI_0.mp c9)⟩
      | exact hq _ _ ⟨F1.w rfl, h0, fun _ => bI_F ((fun h9 => h9.1 (bI_n.mp c17)))⟩
      | exact hq _ _ ⟨F1.w rfl, h0, fun _ => bI_T (⟨bI_0.mp c17, Or.inl ⟨c38, c54⟩⟩)⟩
      | exact hq _ _ ⟨F1.w rfl, h0, fun _ => bI_F ((fun h9 => h9.2.elim (fun h8 => c54 h8.2) (fun h8 => c38 h8.1)))⟩
      | exact hq _ _ ⟨F1.w rfl, h0, fun _ => bI_T (⟨bI_0.mp c17, Or.inr ⟨c38, c72, c88⟩⟩)⟩
      | exact hq _ _ ⟨F1.w rfl, h0, fun _ => bI_F ((fun h9 => h9.2.elim (fun h8 => h8.1 c38) (fun h8 => c88 h8.2.2)))⟩
      | exact hq _ _ ⟨F1.w rfl, h0, fun _ => bI_F ((fun h9 => h9.2.elim (fun h8 => h8.1 c38) (fun h8 => h8.2.1 c72)))⟩
abbrev sh (k : Int32) : Int32 := (1 : Int32) <<< (k &&& 31)
def difF (F G : Nat → Int32) : Nat → Bool
  | 0 => false
  | k + 1 => difF F G k || decide (¬ F k = G k)
/-- a window is needed -/
abbrev ndI (N : Nat → Int32) (w : Nat) : Prop := ¬ N (2 + 6 * w + 5) = 1 ∧ difF (cF (nE N) (eN N (sh (nI w)) (-1))) (sF N) 100 = true
