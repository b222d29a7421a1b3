/-! EW: runs of the component -/
set_option maxRecDepth 100000
/-- a run: sums, times, order, how many, what breaks it -/
abbrev ru : Type := (Nat → Int32) × (Nat → Int32) × (Nat → Int32) × Nat × Int32
/-- the heap with a run's own cells as ρ says -/
def RU (q qs A TT OO n : Nat) (ρ : ru) (h : eh) : eh := (fun a => if a = A then some (aI (n * n) ρ.1) else if a = TT then some (aI n ρ.2.1) else if a = OO then some (aI n ρ.2.2.1) else if a = q then some (ob 7 [.ref qs, .ref TT, .ref OO, .int (nI ρ.2.2.2.1), .int ρ.2.2.2.2]) else h.1 a, h.2.1, h.2.2)
/-- a run's addresses -/
def rA (g : eg) (h : eh) (q qs A TT OO n : Nat) : Prop := A ≠ TT ∧ A ≠ OO ∧ TT ≠ OO ∧ q ≠ A ∧ q ≠ TT ∧ q ≠ OO ∧ rd g h qs = some (ob 6 [.int (nI n), .ref A]) ∧ n ≤ 10 ∧ qs ≠ A ∧ qs ≠ TT ∧ qs ≠ OO ∧ qs ≠ q
section
variable {g : eg} {h : eh} {q qs A TT OO n : Nat} {ρ : ru} {Q : Outcome → eh → Prop}
theorem ru_setA (S : Nat → Int32) : eh_set (RU q qs A TT OO n ρ h) A (aI (n * n) S) = RU q qs A TT OO n (S, ρ.2) h := by
  unfold RU eh_set
  congr 1
  funext a
  by_cases h1 : a = A
  · simp [h1]
  · simp [h1]
theorem ru_setT (r : rA g h q qs A TT OO n) (T : Nat → Int32) : eh_set (RU q qs A TT OO n ρ h) TT (aI n T) = RU q qs A TT OO n (ρ.1, T, ρ.2.2) h := by
  unfold RU eh_set
  congr 1
  funext a
  have h2 := r.1
  by_cases h1 : a = TT
  · subst h1
    rw [if_pos rfl, if_neg (fun e => h2 e.symm), if_pos rfl]
  · simp [h1]
theorem ru_setO (r : rA g h q qs A TT OO n) (O : Nat → Int32) : eh_set (RU q qs A TT OO n ρ h) OO (aI n O) = RU q qs A TT OO n (ρ.1, ρ.2.1, O, ρ.2.2.2) h := by
  unfold RU eh_set
  congr 1
  funext a
  have h2 := r.2.1
  have h3 := r.2.2.1
  by_cases h1 : a = OO
  · subst h1
    rw [if_pos rfl, if_neg (fun e => h2 e.symm), if_neg (fun e => h3 e.symm), if_pos rfl]
  · simp [h1]
theorem ru_setQ (r : rA g h q qs A TT OO n) (m : Nat) (b : Int32) : eh_set (RU q qs A TT OO n ρ h) q (ob 7 [.ref qs, .ref TT, .ref OO, .int (nI m), .int b]) = RU q qs A TT OO n (ρ.1, ρ.2.1, ρ.2.2.1, m, b) h := by
  unfold RU eh_set
  congr 1
  funext a
  obtain ⟨-, -, -, h4, h5, h6, -⟩ := r
  by_cases h1 : a = q
  · subst h1
    rw [if_pos rfl, if_neg h4, if_neg h5, if_neg h6, if_pos rfl]
  · simp [h1]
theorem ru_A : (RU q qs A TT OO n ρ h).1 A = some (aI (n * n) ρ.1) := if_pos rfl
theorem ru_T (r : rA g h q qs A TT OO n) : (RU q qs A TT OO n ρ h).1 TT = some (aI n ρ.2.1) := (if_neg (fun e => r.1 e.symm)).trans (if_pos rfl)
theorem ru_O (r : rA g h q qs A TT OO n) : (RU q qs A TT OO n ρ h).1 OO = some (aI n ρ.2.2.1) := (if_neg (fun e => r.2.1 e.symm)).trans ((if_neg (fun e => r.2.2.1 e.symm)).trans (if_pos rfl))
theorem ru_Q (r : rA g h q qs A TT OO n) : (RU q qs A TT OO n ρ h).1 q = some (ob 7 [.ref qs, .ref TT, .ref OO, .int (nI ρ.2.2.2.1), .int ρ.2.2.2.2]) := (if_neg r.2.2.2.1).trans ((if_neg r.2.2.2.2.1).trans ((if_neg r.2.2.2.2.2.1).trans (if_pos rfl)))
theorem ru_off {a : Nat} (h1 : a ≠ A) (h2 : a ≠ TT) (h3 : a ≠ OO) (h4 : a ≠ q) : (RU q qs A TT OO n ρ h).1 a = h.1 a := (if_neg h1).trans ((if_neg h2).trans ((if_neg h3).trans (if_neg h4)))
theorem ru_rd {a : Nat} (h1 : a ≠ A) (h2 : a ≠ TT) (h3 : a ≠ OO) (h4 : a ≠ q) : rd g (RU q qs A TT OO n ρ h) a = rd g h a := by
  unfold rd
  rw [ru_off h1 h2 h3 h4]
theorem ru_Sq (r : rA g h q qs A TT OO n) : Sq g (RU q qs A TT OO n ρ h) qs A n ρ.1 := by
  obtain ⟨a1, a2, a3, a4, a5, a6, a7, a8, a9, a10, a11, a12⟩ := r
  refine ⟨?_, ru_A, a8⟩
  rw [ru_rd a9 a10 a11 a12]
  exact a7
/-- an event gets its time -/
def gv (ρ : ru) (e : Nat) (t : Int32) : ru := (ρ.1, upd ρ.2.1 e t, upd ρ.2.2.1 ρ.2.2.2.1 (nI e), ρ.2.2.2.1 + 1, ρ.2.2.2.2)
theorem t_gives {e : Nat} {t : Int32} (r : rA g h q qs A TT OO n) (he : e < n) (hm : ρ.2.2.2.1 < n) (hq : Q (.returned none) (RU q qs A TT OO n (gv ρ e t) h)) : ew_T g kX8_gives 0 [.ref q, .int (nI e), .int t] (RU q qs A TT OO n ρ h) Q := by
  have hn := r.2.2.2.2.2.2.2.1
  have e1 := ru_Q (ρ := (ρ.1, upd ρ.2.1 e t, ρ.2.2)) r
  have e2 := ru_O (ρ := (ρ.1, upd ρ.2.1 e t, ρ.2.2)) r
  have e3 := ru_Q (ρ := (ρ.1, upd ρ.2.1 e t, upd ρ.2.2.1 ρ.2.2.2.1 (nI e), ρ.2.2.2)) r
  refine ew_enter (by decide +kernel) (ew_a1 rfl (ew_a1 rfl (ew_a1 rfl ew_az))) (Nat.le_of_ble_eq_true rfl) ?_
  refine ew_aload_n (pc := 0) dX8_gives_0 rfl ?_
  refine ew_getf (pc := 1) fX8_20 (rd_of (ru_Q r)) rfl dX8_gives_1 ?_
  refine ew_iload_n (pc := 4) dX8_gives_4 rfl ?_
  refine ew_iload_n (pc := 5) dX8_gives_5 rfl ?_
  refine ew_iaS (pc := 6) (ru_T r) (j := e) rfl he (by omega) dX8_gives_6 ?_
  rw [ru_setT r]
  refine ew_aload_n (pc := 7) dX8_gives_7 rfl ?_
  refine ew_getf (pc := 8) fX8_24 (rd_of e1) rfl dX8_gives_8 ?_
  refine ew_aload_n (pc := 11) dX8_gives_11 rfl ?_
  refine ew_getf (pc := 12) fX8_27 (rd_of e1) rfl dX8_gives_12 ?_
  refine ew_iload_n (pc := 15) dX8_gives_15 rfl ?_
  refine ew_iaS (pc := 16) e2 (j := ρ.2.2.2.1) rfl hm (by omega) dX8_gives_16 ?_
  rw [ru_setO r]
  refine ew_aload_n (pc := 17) dX8_gives_17 rfl ?_
  refine ew_dup (pc := 18) dX8_gives_18 rfl ?_
  refine ew_getf (pc := 19) fX8_27 (rd_of e3) rfl dX8_gives_19 ?_
  refine ew_iconst (pc := 22) (v := 1) dX8_gives_22 rfl ?_
  refine ew_iadd (pc := 23) dX8_gives_23 ?_
  rw [nI_1]
  refine ew_putf (pc := 24) pX8_27 e3 st_3 (Nat.le_of_ble_eq_true rfl) rfl rfl (fun h9 => absurd h9 Bool.false_ne_true) dX8_gives_24 ?_
  rw [ru_setQ r]
  refine ew_vret (pc := 27) rfl dX8_gives_27 ?_
  exact hq
def nxB (n : Nat) (S : Nat → Int32) (e : Nat) : Option Nat → Bool
  | none => true
  | some b => decide (-S (n * e) < -S (n * b))
/-- the next event: the first one of the earliest that have no time -/
def nxF (n : Nat) (T S : Nat → Int32) : Nat → Option Nat
  | 0 => none
  | e + 1 => if T e = -1 ∧ nxB n S e (nxF n T S e) = true then some e else nxF n T S e
theorem nxF_lt (n : Nat) (T S : Nat → Int32) : ∀ e b, nxF n T S e = some b → b < e
  | 0, b, h => by cases h
  | e + 1, b, h => by
    rw [nxF] at h
    split at h
    · cases h; omega
    · have := nxF_lt n T S e b h
      omega
theorem t_next (r : rA g h q qs A TT OO n) (hq : Q (.returned (some (.int (oI (nxF n ρ.2.1 ρ.1 n))))) (RU q qs A TT OO n ρ h)) : ew_T g kX8_next 2 [.ref q] (RU q qs A TT OO n ρ h) Q := by
  have hn := r.2.2.2.2.2.2.2.1
  have hSq := ru_Sq (ρ := ρ) r
  have main : ∀ m e, e + m = n → ew_G g kX8_next 2 4 [.ref q, .int (oI (nxF n ρ.2.1 ρ.1 e)), .int (nI e)] [] (RU q qs A TT OO n ρ h) Q := by
    intro m
    induction m with
    | zero =>
      intro e he
      have e9 : e = n := by omega
      rw [e9]
      refine ew_iload_n (pc := 4) dX8_next_4 rfl ?_
      refine ew_aload_n (pc := 5) dX8_next_5 rfl ?_
      refine ew_getf (pc := 6) fX8_20 (rd_of (ru_Q r)) rfl dX8_next_6 ?_
      refine ew_alen (pc := 9) (rd_of (ru_T r)) rfl dX8_next_9 ?_
      refine ew_icmp_ge (pc := 10) (tgt := 55) dX8_next_10 (by decide) (fun c10 => ?_) (fun c10 => absurd (nI_le (Nat.le_refl _) (by omega)) c10)
      refine ew_iload_n (pc := 55) dX8_next_55 rfl ?_
      refine ew_iret (pc := 56) rfl dX8_next_56 ?_
      exact hq
    | succ m ih =>
      intro e he
      have h8 := ih (e + 1) (by omega)
      rw [nxF] at h8
      cases hf : nxF n ρ.2.1 ρ.1 e with
      | none =>
        rw [hf] at h8
        refine ew_iload_n (pc := 4) dX8_next_4 rfl ?_
        refine ew_aload_n (pc := 5) dX8_next_5 rfl ?_
        refine ew_getf (pc := 6) fX8_20 (rd_of (ru_Q r)) rfl dX8_next_6 ?_
        refine ew_alen (pc := 9) (rd_of (ru_T r)) rfl dX8_next_9 ?_
        refine ew_icmp_ge (pc := 10) (tgt := 55) dX8_next_10 (by decide) (fun c10 => absurd c10 (nI_ge (by omega) (by omega))) (fun c10 => ?_)
        refine ew_aload_n (pc := 13) dX8_next_13 rfl ?_
        refine ew_getf (pc := 14) fX8_20 (rd_of (ru_Q r)) rfl dX8_next_14 ?_
        refine ew_iload_n (pc := 17) dX8_next_17 rfl ?_
        refine ew_iaJ (pc := 18) (rd_of (ru_T r)) (j := e) rfl (by omega) (by omega) dX8_next_18 ?_
        refine ew_iconst (pc := 19) (v := -1) dX8_next_19 rfl ?_
        refine ew_icmp_ne (pc := 20) (tgt := 49) dX8_next_20 (by decide) (fun c20 => ?_) (fun c20 => ?_)
        · refine ew_iinc (pc := 49) dX8_next_49 rfl (nI_inc e) (by decide) (p1_2 rfl) ?_
          refine ew_goto (pc := 52) (tgt := 4) dX8_next_52 (by decide) ?_
          first
          | rw [if_neg (fun h9 => c20 h9.1)] at h8
            exact h8
          | rw [if_pos (show ρ.2.1 e = -1 ∧ nxB n ρ.1 e none = true from ⟨c20, rfl⟩)] at h8
            exact h8
        · refine ew_iload_n (pc := 23) dX8_next_23 rfl ?_
          refine ew_iconst (pc := 24) (v := -1) dX8_next_24 rfl ?_
          refine ew_icmp_eq (pc := 25) (tgt := 47) dX8_next_25 (by decide) (fun c25 => ?_) (fun c25 => absurd rfl c25)
          refine ew_iload_n (pc := 47) dX8_next_47 rfl ?_
          refine ew_istore_n (pc := 48) dX8_next_48 rfl (by decide) (p1_1 rfl) ?_
          refine ew_iinc (pc := 49) dX8_next_49 rfl (nI_inc e) (by decide) (p1_2 rfl) ?_
          refine ew_goto (pc := 52) (tgt := 4) dX8_next_52 (by decide) ?_
          first
          | rw [if_neg (fun h9 => c20 h9.1)] at h8
            exact h8
          | rw [if_pos (show ρ.2.1 e = -1 ∧ nxB n ρ.1 e none = true from ⟨c20, rfl⟩)] at h8
            exact h8
      | some b =>
        have hb := nxF_lt n ρ.2.1 ρ.1 e b hf
        rw [hf] at h8
        have hne : ¬ nI b = -1 := fun h9 => absurd (show nI b < 0 by rw [h9]; decide) (nI_pos (by omega))
        refine ew_iload_n (pc := 4) dX8_next_4 rfl ?_
        refine ew_aload_n (pc := 5) dX8_next_5 rfl ?_
        refine ew_getf (pc := 6) fX8_20 (rd_of (ru_Q r)) rfl dX8_next_6 ?_
        refine ew_alen (pc := 9) (rd_of (ru_T r)) rfl dX8_next_9 ?_
        refine ew_icmp_ge (pc := 10) (tgt := 55) dX8_next_10 (by decide) (fun c10 => absurd c10 (nI_ge (by omega) (by omega))) (fun c10 => ?_)
        refine ew_aload_n (pc := 13) dX8_next_13 rfl ?_
        refine ew_getf (pc := 14) fX8_20 (rd_of (ru_Q r)) rfl dX8_next_14 ?_
        refine ew_iload_n (pc := 17) dX8_next_17 rfl ?_
        refine ew_iaJ (pc := 18) (rd_of (ru_T r)) (j := e) rfl (by omega) (by omega) dX8_next_18 ?_
        refine ew_iconst (pc := 19) (v := -1) dX8_next_19 rfl ?_
        refine ew_icmp_ne (pc := 20) (tgt := 49) dX8_next_20 (by decide) (fun c20 => ?_) (fun c20 => ?_)
        · refine ew_iinc (pc := 49) dX8_next_49 rfl (nI_inc e) (by decide) (p1_2 rfl) ?_
          refine ew_goto (pc := 52) (tgt := 4) dX8_next_52 (by decide) ?_
          first
          | rw [if_neg (fun h9 => c20 h9.1)] at h8
            exact h8
          | rw [if_neg (show ¬ (ρ.2.1 e = -1 ∧ nxB n ρ.1 e (some b) = true) from fun h9 => absurd (of_decide_eq_true h9.2) (Int32.not_lt.mpr c44))] at h8
            exact h8
          | rw [if_pos (show ρ.2.1 e = -1 ∧ nxB n ρ.1 e (some b) = true from ⟨c20, decide_eq_true (Int32.not_le.mp c44)⟩)] at h8
            exact h8
        · refine ew_iload_n (pc := 23) dX8_next_23 rfl ?_
          refine ew_iconst (pc := 24) (v := -1) dX8_next_24 rfl ?_
          refine ew_icmp_eq (pc := 25) (tgt := 47) dX8_next_25 (by decide) (fun c25 => absurd c25 hne) (fun c25 => ?_)
          refine ew_aload_n (pc := 28) dX8_next_28 rfl ?_
          refine ew_getf (pc := 29) fX8_14 (rd_of (ru_Q r)) rfl dX8_next_29 ?_
          refine ew_iload_n (pc := 32) dX8_next_32 rfl ?_
          refine ew_cV1 (d' := 1) (pc := 33) vX8_31 hSq.1 dX8_next_33 (by decide) (ew_rm (Nat.le_of_ble_eq_true rfl)) ?_
          refine t_earliestS hSq (by omega) ?_
          refine ew_Kr ?_
          refine ew_aload_n (pc := 36) dX8_next_36 rfl ?_
          refine ew_getf (pc := 37) fX8_14 (rd_of (ru_Q r)) rfl dX8_next_37 ?_
          refine ew_iload_n (pc := 40) dX8_next_40 rfl ?_
          refine ew_cV1 (d' := 1) (pc := 41) vX8_31 hSq.1 dX8_next_41 (by decide) (ew_rm (Nat.le_of_ble_eq_true rfl)) ?_
          refine t_earliestS hSq (by omega) ?_
          refine ew_Kr ?_
          refine ew_icmp_ge (pc := 44) (tgt := 49) dX8_next_44 (by decide) (fun c44 => ?_) (fun c44 => ?_)
          · refine ew_iinc (pc := 49) dX8_next_49 rfl (nI_inc e) (by decide) (p1_2 rfl) ?_
            refine ew_goto (pc := 52) (tgt := 4) dX8_next_52 (by decide) ?_
            first
            | rw [if_neg (fun h9 => c20 h9.1)] at h8
              exact h8
            | rw [if_neg (show ¬ (ρ.2.1 e = -1 ∧ nxB n ρ.1 e (some b) = true) from fun h9 => absurd (of_decide_eq_true h9.2) (Int32.not_lt.mpr c44))] at h8
              exact h8
            | rw [if_pos (show ρ.2.1 e = -1 ∧ nxB n ρ.1 e (some b) = true from ⟨c20, decide_eq_true (Int32.not_le.mp c44)⟩)] at h8
              exact h8
          · refine ew_iload_n (pc := 47) dX8_next_47 rfl ?_
            refine ew_istore_n (pc := 48) dX8_next_48 rfl (by decide) (p1_1 rfl) ?_
            refine ew_iinc (pc := 49) dX8_next_49 rfl (nI_inc e) (by decide) (p1_2 rfl) ?_
            refine ew_goto (pc := 52) (tgt := 4) dX8_next_52 (by decide) ?_
            first
            | rw [if_neg (fun h9 => c20 h9.1)] at h8
              exact h8
            | rw [if_neg (show ¬ (ρ.2.1 e = -1 ∧ nxB n ρ.1 e (some b) = true) from fun h9 => absurd (of_decide_eq_true h9.2) (Int32.not_lt.mpr c44))] at h8
              exact h8
            | rw [if_pos (show ρ.2.1 e = -1 ∧ nxB n ρ.1 e (some b) = true from ⟨c20, decide_eq_true (Int32.not_le.mp c44)⟩)] at h8
              exact h8
  refine ew_enter (by decide +kernel) (ew_a1 rfl (ew_an (ew_an ew_az))) (Nat.le_of_ble_eq_true rfl) ?_
  refine ew_iconst (pc := 0) (v := -1) dX8_next_0 rfl ?_
  refine ew_istore_n (pc := 1) dX8_next_1 rfl (by decide) (p1_1 rfl) ?_
  refine ew_iconst (pc := 2) (v := 0) dX8_next_2 rfl ?_
  refine ew_istore_n (pc := 3) dX8_next_3 rfl (by decide) (p1_2 rfl) ?_
  exact main n 0 (by omega)
def plC (n : Nat) (S : Nat → Int32) (e k : Nat) (wish : Int32) : Int32 :=
  if k = 0 then -S (n * e) else if k = 1 then (if S e = 100000000 then -S (n * e) else S e) else if k = 2 then (if S e = 100000000 then -S (n * e) else -S (n * e) + sqSlack n S e / 2) else jmax (-S (n * e)) (jmin wish (S e))
theorem t_planned {e k : Nat} {wish : Int32} (r : rA g h q qs A TT OO n) (he : e < n) (hk : k < 4) (hq : Q (.returned (some (.int (plC n ρ.1 e k wish)))) (RU q qs A TT OO n ρ h)) : ew_T g kX8_planned 4 [.ref q, .int (nI e), .int (nI k), .int wish] (RU q qs A TT OO n ρ h) Q := by
  have hSq := ru_Sq (ρ := ρ) r
  rw [plC] at hq
  rcases (by omega : k = 0 ∨ k = 1 ∨ k = 2 ∨ k = 3) with rfl | rfl | rfl | rfl
  · rw [if_pos rfl] at hq
    refine ew_enter (by decide +kernel) (ew_a1 rfl (ew_a1 rfl (ew_a1 rfl (ew_a1 rfl (ew_an ew_az))))) (Nat.le_of_ble_eq_true rfl) ?_
    refine ew_aload_n (pc := 0) dX8_planned_0 rfl ?_
    refine ew_getf (pc := 1) fX8_14 (rd_of (ru_Q r)) rfl dX8_planned_1 ?_
    refine ew_iload_n (pc := 4) dX8_planned_4 rfl ?_
    refine ew_cV1 (d' := 1) (pc := 5) vX8_31 hSq.1 dX8_planned_5 (by decide) (ew_rm (Nat.le_of_ble_eq_true rfl)) ?_
    refine t_earliestS hSq he ?_
    refine ew_Kr ?_
    refine ew_istore (pc := 8) dX8_planned_8 (by decide) (p1_4 rfl) ?_
    refine ew_iload_n (pc := 10) dX8_planned_10 rfl ?_
    refine ew_tableIn (pc := 11) (tgt := 36) dX8_planned_11 (by decide) (by decide) rfl (by decide) ?_
    refine ew_iload (pc := 36) dX8_planned_36 rfl ?_
    refine ew_goto (pc := 38) (tgt := 117) dX8_planned_38 (by decide) ?_
    refine ew_iret (pc := 117) rfl dX8_planned_117 ?_
    exact hq
  · rw [if_neg (by decide), if_pos rfl] at hq
    refine ew_enter (by decide +kernel) (ew_a1 rfl (ew_a1 rfl (ew_a1 rfl (ew_a1 rfl (ew_an ew_az))))) (Nat.le_of_ble_eq_true rfl) ?_
    refine ew_aload_n (pc := 0) dX8_planned_0 rfl ?_
    refine ew_getf (pc := 1) fX8_14 (rd_of (ru_Q r)) rfl dX8_planned_1 ?_
    refine ew_iload_n (pc := 4) dX8_planned_4 rfl ?_
    refine ew_cV1 (d' := 1) (pc := 5) vX8_31 hSq.1 dX8_planned_5 (by decide) (ew_rm (Nat.le_of_ble_eq_true rfl)) ?_
    refine t_earliestS hSq he ?_
    refine ew_Kr ?_
    refine ew_istore (pc := 8) dX8_planned_8 (by decide) (p1_4 rfl) ?_
    refine ew_iload_n (pc := 10) dX8_planned_10 rfl ?_
    refine ew_tableIn (pc := 11) (tgt := 41) dX8_planned_11 (by decide) (by decide) rfl (by decide) ?_
    refine ew_aload_n (pc := 41) dX8_planned_41 rfl ?_
    refine ew_getf (pc := 42) fX8_14 (rd_of (ru_Q r)) rfl dX8_planned_42 ?_
    refine ew_iload_n (pc := 45) dX8_planned_45 rfl ?_
    refine ew_cV1 (d' := 2) (pc := 46) vX8_35 hSq.1 dX8_planned_46 (by decide) (ew_rm (Nat.le_of_ble_eq_true rfl)) ?_
    refine t_hasLatest hSq he (fun x hx => ?_)
    refine ew_Kr ?_
    refine ew_if_eq (pc := 49) (tgt := 63) dX8_planned_49 (by decide) (fun c49 => ?_) (fun c49 => ?_)
    · refine ew_iload (pc := 63) dX8_planned_63 rfl ?_
      refine ew_goto (pc := 65) (tgt := 117) dX8_planned_65 (by decide) ?_
      refine ew_iret (pc := 117) rfl dX8_planned_117 ?_
      rcases hx with ⟨e1, e2⟩ | ⟨e1, e2⟩
      · first
      | exact absurd c49 (by rw [e1]; decide)
      | rw [if_neg e2] at hq
        exact hq
      · first
      | exact absurd e1 c49
      | rw [if_pos e2] at hq
        exact hq
    · refine ew_aload_n (pc := 52) dX8_planned_52 rfl ?_
      refine ew_getf (pc := 53) fX8_14 (rd_of (ru_Q r)) rfl dX8_planned_53 ?_
      refine ew_iload_n (pc := 56) dX8_planned_56 rfl ?_
      refine ew_cV1 (d' := 1) (pc := 57) vX8_39 hSq.1 dX8_planned_57 (by decide) (ew_rm (Nat.le_of_ble_eq_true rfl)) ?_
      refine t_latestS hSq he ?_
      refine ew_Kr ?_
      refine ew_goto (pc := 60) (tgt := 117) dX8_planned_60 (by decide) ?_
      refine ew_iret (pc := 117) rfl dX8_planned_117 ?_
      rcases hx with ⟨e1, e2⟩ | ⟨e1, e2⟩
      · first
      | exact absurd c49 (by rw [e1]; decide)
      | rw [if_neg e2] at hq
        exact hq
      · first
      | exact absurd e1 c49
      | rw [if_pos e2] at hq
        exact hq
  · rw [if_neg (by decide), if_neg (by decide), if_pos rfl] at hq
    refine ew_enter (by decide +kernel) (ew_a1 rfl (ew_a1 rfl (ew_a1 rfl (ew_a1 rfl (ew_an ew_az))))) (Nat.le_of_ble_eq_true rfl) ?_
    refine ew_aload_n (pc := 0) dX8_planned_0 rfl ?_
    refine ew_getf (pc := 1) fX8_14 (rd_of (ru_Q r)) rfl dX8_planned_1 ?_
    refine ew_iload_n (pc := 4) dX8_planned_4 rfl ?_
    refine ew_cV1 (d' := 1) (pc := 5) vX8_31 hSq.1 dX8_planned_5 (by decide) (ew_rm (Nat.le_of_ble_eq_true rfl)) ?_
    refine t_earliestS hSq he ?_
    refine ew_Kr ?_
    refine ew_istore (pc := 8) dX8_planned_8 (by decide) (p1_4 rfl) ?_
    refine ew_iload_n (pc := 10) dX8_planned_10 rfl ?_
    refine ew_tableIn (pc := 11) (tgt := 68) dX8_planned_11 (by decide) (by decide) rfl (by decide) ?_
    refine ew_aload_n (pc := 68) dX8_planned_68 rfl ?_
    refine ew_getf (pc := 69) fX8_14 (rd_of (ru_Q r)) rfl dX8_planned_69 ?_
    refine ew_iload_n (pc := 72) dX8_planned_72 rfl ?_
    refine ew_cV1 (d' := 2) (pc := 73) vX8_35 hSq.1 dX8_planned_73 (by decide) (ew_rm (Nat.le_of_ble_eq_true rfl)) ?_
    refine t_hasLatest hSq he (fun x hx => ?_)
    refine ew_Kr ?_
    refine ew_if_eq (pc := 76) (tgt := 95) dX8_planned_76 (by decide) (fun c76 => ?_) (fun c76 => ?_)
    · refine ew_iload (pc := 95) dX8_planned_95 rfl ?_
      refine ew_goto (pc := 97) (tgt := 117) dX8_planned_97 (by decide) ?_
      refine ew_iret (pc := 117) rfl dX8_planned_117 ?_
      rcases hx with ⟨e1, e2⟩ | ⟨e1, e2⟩
      · first
      | exact absurd c76 (by rw [e1]; decide)
      | rw [if_neg e2] at hq
        exact hq
      · first
      | exact absurd e1 c76
      | rw [if_pos e2] at hq
        exact hq
    · refine ew_iload (pc := 79) dX8_planned_79 rfl ?_
      refine ew_aload_n (pc := 81) dX8_planned_81 rfl ?_
      refine ew_getf (pc := 82) fX8_14 (rd_of (ru_Q r)) rfl dX8_planned_82 ?_
      refine ew_iload_n (pc := 85) dX8_planned_85 rfl ?_
      refine ew_cV1 (d' := 3) (pc := 86) vX8_42 hSq.1 dX8_planned_86 (by decide) (ew_rm (Nat.le_of_ble_eq_true rfl)) ?_
      refine t_slackS hSq he ?_
      refine ew_Kr ?_
      refine ew_iconst (pc := 89) (v := 2) dX8_planned_89 rfl ?_
      refine ew_idiv (pc := 90) dX8_planned_90 (by decide) ?_
      refine ew_iadd (pc := 91) dX8_planned_91 ?_
      refine ew_goto (pc := 92) (tgt := 117) dX8_planned_92 (by decide) ?_
      refine ew_iret (pc := 117) rfl dX8_planned_117 ?_
      rcases hx with ⟨e1, e2⟩ | ⟨e1, e2⟩
      · first
      | exact absurd c76 (by rw [e1]; decide)
      | rw [if_neg e2] at hq
        exact hq
      · first
      | exact absurd e1 c76
      | rw [if_pos e2] at hq
        exact hq
  · rw [if_neg (by decide), if_neg (by decide), if_neg (by decide)] at hq
    refine ew_enter (by decide +kernel) (ew_a1 rfl (ew_a1 rfl (ew_a1 rfl (ew_a1 rfl (ew_an ew_az))))) (Nat.le_of_ble_eq_true rfl) ?_
    refine ew_aload_n (pc := 0) dX8_planned_0 rfl ?_
    refine ew_getf (pc := 1) fX8_14 (rd_of (ru_Q r)) rfl dX8_planned_1 ?_
    refine ew_iload_n (pc := 4) dX8_planned_4 rfl ?_
    refine ew_cV1 (d' := 1) (pc := 5) vX8_31 hSq.1 dX8_planned_5 (by decide) (ew_rm (Nat.le_of_ble_eq_true rfl)) ?_
    refine t_earliestS hSq he ?_
    refine ew_Kr ?_
    refine ew_istore (pc := 8) dX8_planned_8 (by decide) (p1_4 rfl) ?_
    refine ew_iload_n (pc := 10) dX8_planned_10 rfl ?_
    refine ew_tableOut (pc := 11) (tgt := 100) dX8_planned_11 (by decide) (by decide) ?_
    refine ew_iload (pc := 100) dX8_planned_100 rfl ?_
    refine ew_iload_n (pc := 102) dX8_planned_102 rfl ?_
    refine ew_aload_n (pc := 103) dX8_planned_103 rfl ?_
    refine ew_getf (pc := 104) fX8_14 (rd_of (ru_Q r)) rfl dX8_planned_104 ?_
    refine ew_iload_n (pc := 107) dX8_planned_107 rfl ?_
    refine ew_cV1 (d' := 1) (pc := 108) vX8_39 hSq.1 dX8_planned_108 (by decide) (ew_rm (Nat.le_of_ble_eq_true rfl)) ?_
    refine t_latestS hSq he ?_
    refine ew_Kr ?_
    refine ew_mmin (pc := 111) (ew_q q2262) (ew_q q596) (ew_q q141) (ew_q q597) (ew_rm (Nat.le_of_ble_eq_true rfl)) dX8_planned_111 ?_
    refine ew_mmax (pc := 114) (ew_q q2263) (ew_q q578) (ew_q q141) (ew_q q579) (ew_rm (Nat.le_of_ble_eq_true rfl)) dX8_planned_114 ?_
    refine ew_iret (pc := 117) rfl dX8_planned_117 ?_
    exact hq
end
