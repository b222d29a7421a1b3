/-! EW: the component's changes of events -/
set_option maxRecDepth 100000
section
variable {g : eg} {h h' : eh} {a : Nat → Nat} {ws : List Nat} {N N' : Nat → Int32} {m pe ep : Int32} {fb ft : Nat → Int32} {ρ : ru} {Q : Outcome → eh → Prop} {A2 hd A4 c s : Nat} {P : List nbd} {sv : Nat → Option nbd} {tx : List Int32} {fbuf nm : Nat → Int32} {sn vn : Nat → Nat}
theorem t_earlX {q A n e : Nat} {x : Int32} {f : Nat → Int32} (hs : Sq g h q A n f) (hx : x = nI e) (he : e < n) (hq : Q (.returned (some (.int (-f (n * e))))) h) : ew_T g kX7_earliest 1 [.ref q, .int x] h Q := by
  subst hx
  exact t_earliestS hs he hq
theorem t_lateX {q A n e : Nat} {x : Int32} {f : Nat → Int32} (hs : Sq g h q A n f) (hx : x = nI e) (he : e < n) (hq : Q (.returned (some (.int (f e)))) h) : ew_T g kX7_latest 1 [.ref q, .int x] h Q := by
  subst hx
  exact t_latestS hs he hq
theorem t_slackX {q A n e : Nat} {x : Int32} {f : Nat → Int32} (hs : Sq g h q A n f) (hx : x = nI e) (he : e < n) (hq : Q (.returned (some (.int (sqSlack n f e)))) h) : ew_T g kX7_slack 3 [.ref q, .int x] h Q := by
  subst hx
  exact t_slackS hs he hq
theorem t_freeX {p nA L E F D W e : Nat} {x : Int32} (r : NR g h p nA L E F D W ws N) (hx : x = nI e) (he : e < nE N) (hq : Q (.returned (some (.int (bI (N (146 + e) = -1))))) h) : ew_T g kX6_isFree 0 [.ref p, .int x] h Q := by
  subst hx
  exact t_nFree r he hq
theorem FS.kne (ho : eh_ok g h) (F : FS g h a ws N m pe ep nm sn vn fbuf A2 hd P sv A4 tx) : ∀ b, b ∈ cvA a ws → b ∉ [a 2, A2] := by
  obtain ⟨f2, d1, d2, -⟩ := F.dq
  have b2 := (ho.2 _ _ d1).1
  have bA := (ho.2 _ _ d2).1
  exact pw_w (A := [nmL2 (nE N) sn vn, cvA a ws, [a 1]]) (X := [a 2, A2]) (B := [a 3] :: [a 4, A4] :: (P ++ svL sv).map nbO) (W := [a 2, A2]) F.pw F.bd (fun b hb _ => ⟨hb, by
    rw [List.mem_cons, List.mem_singleton] at hb
    rcases hb with e | e <;> rw [e] <;> assumption⟩) (cvA a ws) (by simp)
/-- what an object or an array of whole numbers is, beside the deque -/
theorem FS.ktp {b : Nat} {e : ac} (F : FS g h a ws N m pe ep nm sn vn fbuf A2 hd P sv A4 tx) (hb : rd g h b = some e) (h1 : ∀ fs, e ≠ ob 15 fs) (h2 : ∀ n f, e ≠ aR 5 n f) : b ∉ [a 2, A2] := by
  obtain ⟨f2, d1, d2, -⟩ := F.dq
  intro h8
  rw [List.mem_cons, List.mem_singleton] at h8
  rcases h8 with e9 | e9
  · rw [e9, rd_of d1] at hb
    exact h1 _ (Option.some.inj hb).symm
  · rw [e9, rd_of d2] at hb
    exact h2 _ _ (Option.some.inj hb).symm
/-- an event's number changes, the net before is kept -/
theorem FS.evt {k q e : Nat} {v : Int32} {f : Nat → Int32} {h0 h2 : eh} {hd2 c1 : Nat} {b : nbd} {M : Nat → Int32} (hg : gOC g) (ho2 : eh_ok g h2) (F2 : FS g h2 a ws N m pe ep nm sn vn fbuf A2 hd2 (reD P b) sv A4 tx) (eb : b.2.2 = M) (k2 : Ke [a 2, A2] 60 c1 h0 h2) (hc1 : c1 ≤ 100000) (hk : (k = 146 ∧ q = 18) ∨ (k = 156 ∧ q = 19) ∨ (k = 166 ∧ q = 20)) (he : e < nE N) (hf : h2.1 (a q) = some (aI (nE N) f)) (hf2 : ∀ e, e < nE N → f e = N (k + e)) (ok' : okN (upd N (k + e) v)) : Bud h0 (eh_set h2 (a q) (aI (nE N) (upd f e v))) ∧ CX g (eh_set h2 (a q) (aI (nE N) (upd f e v))) (a 0) (upd N (k + e) v) nm m pe ep fbuf (reP (P.map (fun b => b.2.2)) M) (fun i => (sv i).map (fun b => b.2.2)) tx := by
  obtain ⟨fb, ft, ρ, C2⟩ := F2.cv
  have h15 : a q ≠ a 15 := fun e => by
    obtain ⟨fn, hn⟩ := C2.n.n
    rw [← e, rd_of hf] at hn
    cases hn
  have hxm : a q ∈ cvA a ws := List.mem_append_right _ (by
    simp only [nO, List.mem_cons]
    rcases hk with ⟨-, rfl⟩ | ⟨-, rfl⟩ | ⟨-, rfl⟩
    · exact Or.inr (Or.inr (Or.inr (Or.inl rfl)))
    · exact Or.inr (Or.inr (Or.inr (Or.inr (Or.inl rfl))))
    · exact Or.inr (Or.inr (Or.inr (Or.inr (Or.inr (Or.inl rfl))))))
  have h146 := ev_146 hk
  have F3 := F2.chg hg ho2 hf hxm h15 (cv_ev C2 hk he hf hf2 ok') (nLk.up (by omega)).1
  exact ⟨⟨by have := k2.2.2.1; show h2.2.1 ≤ _; omega, by have := k2.2.2.2; show h2.2.2 ≤ _; omega⟩, F3.cx.keep (PN := []) eb⟩
theorem c_setDelay {x v : Int32} (hg : gOC g) (hM : gOM g) (hD : gDE g) (F : FS g h a ws N m pe ep nm sn vn fbuf A2 hd P sv A4 tx) (hq : ∀ o h', CR SI (as2 1 (bI (isIx (nE N) x)) (bI (0 < x ∧ (0 ≤ v ∧ v ≤ 99)))) (.int (N (156 + ix x))) (fun h' => CX g h' (a 0) N nm m pe ep fbuf (P.map (fun b => b.2.2)) (fun i => (sv i).map (fun b => b.2.2)) tx) (fun h' => CX g h' (a 0) (upd N (156 + ix x) v) nm m pe ep fbuf (reP (P.map (fun b => b.2.2)) N) (fun i => (sv i).map (fun b => b.2.2)) tx) h o h' → Q o h') : ew_T g kX1_setDelay 21 [.ref (a 0), .int x, .int v] h Q := by
  obtain ⟨fb, ft, ρ, C⟩ := F.cv
  have hE := C.n.ok.e2
  refine ew_enter (by decide +kernel) (ew_a1 rfl (ew_a1 rfl (ew_a1 rfl (ew_an (ew_an ew_az))))) (Nat.le_of_ble_eq_true rfl) ?_
  refine ew_ok (fun ho => ?_)
  have s25 : isIx (nE N) x → ∀ f, f = bI (0 < x ∧ (0 ≤ v ∧ v ≤ 99)) → ew_G g kX1_setDelay 21 25 [.ref (a 0), .int x, .int v, .ref (a 14), no_] [.int f] h Q := by
    intro hi f hf
    subst hf
    have hx := hi.to (n := nE N) (by omega)
    refine ew_cS1 (d' := 5) (pc := 25) sX1_198 dX1_setDelay_25 (by decide) (ew_rm (Nat.le_of_ble_eq_true rfl)) ?_
    refine t_chkA (fun h9 => ?_) (fun h9 => ?_)
    · exact ew_Kx (ew_out (fun x hx => nomatch hx) (hq _ _ (CR.no (k := 3) (as2_j hi (fun h8 => bI_0.mp h9 h8)) (by decide) (F.err hg ho (by decide)).1 rfl (ne_1 _ _ _) (F.err hg ho (by decide)).2)))
    have hc := bI_n.mp h9
    refine ew_Kv ?_
    refine ew_aload_n (pc := 28) dX1_setDelay_28 rfl ?_
    refine ew_cV0 (d' := 20) (pc := 29) vX1_416 (rd_of C.o) dX1_setDelay_29 (by decide) (ew_rm (Nat.le_of_ble_eq_true rfl)) ?_
    refine t_keep hg hM hD F (fun h2 hd2 b F2 eb k2 => ?_)
    refine ew_Kv ?_
    refine ew_ok (fun ho2 => ?_)
    obtain ⟨fb2, ft2, ρ2, C2⟩ := F2.cv
    obtain ⟨ff, hff, hff2⟩ := C2.n.D
    have hx0 : ix x ≠ 0 := fun h8 => by
      have h7 := hc.1
      rw [hx.2, h8] at h7
      exact absurd h7 (by decide)
    have ok' : okN (upd N (156 + ix x) v) := C2.n.ok.ue hx.1 (Or.inr (Or.inl rfl)) (fun h9 => absurd h9 (by decide)) (fun _ => hc.2) (fun h9 => absurd h9 (by decide))
    have fin := F2.evt hg ho2 eb k2 (by decide) (Or.inr (Or.inl ⟨rfl, rfl⟩)) hx.1 hff hff2 ok'
    refine ew_aload_n (pc := 32) dX1_setDelay_32 rfl ?_
    refine ew_getf (pc := 33) fX1_209 (rd_of C2.n.o) rfl dX1_setDelay_33 ?_
    refine ew_iload_n (pc := 36) dX1_setDelay_36 rfl ?_
    refine ew_iaJ (pc := 37) (rd_of hff) (j := ix x) hx.2 hx.1 (by omega) dX1_setDelay_37 ?_
    rw [hff2 _ hx.1]
    refine ew_istore (pc := 38) dX1_setDelay_38 (by decide) (p1_4 rfl) ?_
    refine ew_aload_n (pc := 40) dX1_setDelay_40 rfl ?_
    refine ew_getf (pc := 41) fX1_209 (rd_of C2.n.o) rfl dX1_setDelay_41 ?_
    refine ew_iload_n (pc := 44) dX1_setDelay_44 rfl ?_
    refine ew_iload_n (pc := 45) dX1_setDelay_45 rfl ?_
    refine ew_iaS (pc := 46) hff (j := ix x) hx.2 hx.1 (by omega) dX1_setDelay_46 ?_
    refine ew_iload (pc := 47) dX1_setDelay_47 rfl ?_
    refine ew_iret (pc := 49) rfl dX1_setDelay_49 ?_
    exact hq _ _ (CR.ok (as2_y hi hc) fin.1 fin.2)
  refine ew_aload_n (pc := 0) dX1_setDelay_0 rfl ?_
  refine ew_iload_n (pc := 1) dX1_setDelay_1 rfl ?_
  refine ew_cV1 (d' := 7) (pc := 2) vX1_181 (rd_of C.o) dX1_setDelay_2 (by decide) (ew_rm (Nat.le_of_ble_eq_true rfl)) ?_
  refine t_withEvent C (fun hi => ?_) (fun hi => ?_)
  · exact ew_Kx (ew_out (fun x hx => nomatch hx) (hq _ _ (CR.no (k := 2) (as2_i hi) (by decide) (F.err hg ho (by decide)).1 rfl (ne_1 _ _ _) (F.err hg ho (by decide)).2)))
  have hx := hi.to (n := nE N) (by omega)
  refine ew_Kr ?_
  first | refine ew_astore_n (pc := 5) dX1_setDelay_5 rfl (by decide) (p1_3 rfl) ?_ | refine ew_astore_nq (pc := 5) dX1_setDelay_5 rfl (by decide) (p1_3 rfl) ?_ | refine ew_astore_nN (pc := 5) dX1_setDelay_5 rfl (by decide) (p1_3 rfl) ?_
  refine ew_iload_n (pc := 6) dX1_setDelay_6 rfl ?_
  refine ew_if_le (pc := 7) (tgt := 24) dX1_setDelay_7 (by decide) (fun c7 => ?_) (fun c7 => ?_)
  · refine ew_iconst (pc := 24) (v := 0) dX1_setDelay_24 rfl ?_
    first
    | exact s25 hi _ (bI_F (fun h9 => absurd h9.1 (Int32.not_lt.mpr c7)))
    | exact s25 hi _ (bI_T ⟨Int32.not_le.mp c7, bI_n.mp c17⟩)
    | exact s25 hi _ (bI_F (fun h9 => bI_0.mp c17 h9.2))
  · refine ew_iload_n (pc := 10) dX1_setDelay_10 rfl ?_
    refine ew_iconst (pc := 11) (v := 0) dX1_setDelay_11 rfl ?_
    refine ew_bipush (pc := 12) (v := 99) dX1_setDelay_12 rfl ?_
    refine ew_cS3 (d' := 0) (pc := 14) sX1_74 dX1_setDelay_14 (by decide) (ew_rm (Nat.le_of_ble_eq_true rfl)) ?_
    refine t_inC ?_
    refine ew_Kr ?_
    refine ew_if_eq (pc := 17) (tgt := 24) dX1_setDelay_17 (by decide) (fun c17 => ?_) (fun c17 => ?_)
    · refine ew_iconst (pc := 24) (v := 0) dX1_setDelay_24 rfl ?_
      first
      | exact s25 hi _ (bI_F (fun h9 => absurd h9.1 (Int32.not_lt.mpr c7)))
      | exact s25 hi _ (bI_T ⟨Int32.not_le.mp c7, bI_n.mp c17⟩)
      | exact s25 hi _ (bI_F (fun h9 => bI_0.mp c17 h9.2))
    · refine ew_iconst (pc := 20) (v := 1) dX1_setDelay_20 rfl ?_
      refine ew_goto (pc := 21) (tgt := 25) dX1_setDelay_21 (by decide) ?_
      first
      | exact s25 hi _ (bI_F (fun h9 => absurd h9.1 (Int32.not_lt.mpr c7)))
      | exact s25 hi _ (bI_T ⟨Int32.not_le.mp c7, bI_n.mp c17⟩)
      | exact s25 hi _ (bI_F (fun h9 => bI_0.mp c17 h9.2))
theorem c_setWish {x v : Int32} (hg : gOC g) (hM : gOM g) (hD : gDE g) (F : FS g h a ws N m pe ep nm sn vn fbuf A2 hd P sv A4 tx) (hq : ∀ o h', CR SI (as2 1 (bI (isIx (nE N) x)) (bI (0 < x ∧ (-1 ≤ v ∧ v ≤ 999)))) (.int (N (166 + ix x))) (fun h' => CX g h' (a 0) N nm m pe ep fbuf (P.map (fun b => b.2.2)) (fun i => (sv i).map (fun b => b.2.2)) tx) (fun h' => CX g h' (a 0) (upd N (166 + ix x) v) nm m pe ep fbuf (reP (P.map (fun b => b.2.2)) N) (fun i => (sv i).map (fun b => b.2.2)) tx) h o h' → Q o h') : ew_T g kX1_setWish 21 [.ref (a 0), .int x, .int v] h Q := by
  obtain ⟨fb, ft, ρ, C⟩ := F.cv
  have hE := C.n.ok.e2
  refine ew_enter (by decide +kernel) (ew_a1 rfl (ew_a1 rfl (ew_a1 rfl (ew_an (ew_an ew_az))))) (Nat.le_of_ble_eq_true rfl) ?_
  refine ew_ok (fun ho => ?_)
  have s26 : isIx (nE N) x → ∀ f, f = bI (0 < x ∧ (-1 ≤ v ∧ v ≤ 999)) → ew_G g kX1_setWish 21 26 [.ref (a 0), .int x, .int v, .ref (a 14), no_] [.int f] h Q := by
    intro hi f hf
    subst hf
    have hx := hi.to (n := nE N) (by omega)
    refine ew_cS1 (d' := 5) (pc := 26) sX1_198 dX1_setWish_26 (by decide) (ew_rm (Nat.le_of_ble_eq_true rfl)) ?_
    refine t_chkA (fun h9 => ?_) (fun h9 => ?_)
    · exact ew_Kx (ew_out (fun x hx => nomatch hx) (hq _ _ (CR.no (k := 3) (as2_j hi (fun h8 => bI_0.mp h9 h8)) (by decide) (F.err hg ho (by decide)).1 rfl (ne_1 _ _ _) (F.err hg ho (by decide)).2)))
    have hc := bI_n.mp h9
    refine ew_Kv ?_
    refine ew_aload_n (pc := 29) dX1_setWish_29 rfl ?_
    refine ew_cV0 (d' := 20) (pc := 30) vX1_416 (rd_of C.o) dX1_setWish_30 (by decide) (ew_rm (Nat.le_of_ble_eq_true rfl)) ?_
    refine t_keep hg hM hD F (fun h2 hd2 b F2 eb k2 => ?_)
    refine ew_Kv ?_
    refine ew_ok (fun ho2 => ?_)
    obtain ⟨fb2, ft2, ρ2, C2⟩ := F2.cv
    obtain ⟨ff, hff, hff2⟩ := C2.n.W
    have hx0 : ix x ≠ 0 := fun h8 => by
      have h7 := hc.1
      rw [hx.2, h8] at h7
      exact absurd h7 (by decide)
    have ok' : okN (upd N (166 + ix x) v) := C2.n.ok.ue hx.1 (Or.inr (Or.inr rfl)) (fun h9 => absurd h9 (by decide)) (fun h9 => absurd h9 (by decide)) (fun _ => hc.2)
    have fin := F2.evt hg ho2 eb k2 (by decide) (Or.inr (Or.inr ⟨rfl, rfl⟩)) hx.1 hff hff2 ok'
    refine ew_aload_n (pc := 33) dX1_setWish_33 rfl ?_
    refine ew_getf (pc := 34) fX1_212 (rd_of C2.n.o) rfl dX1_setWish_34 ?_
    refine ew_iload_n (pc := 37) dX1_setWish_37 rfl ?_
    refine ew_iaJ (pc := 38) (rd_of hff) (j := ix x) hx.2 hx.1 (by omega) dX1_setWish_38 ?_
    rw [hff2 _ hx.1]
    refine ew_istore (pc := 39) dX1_setWish_39 (by decide) (p1_4 rfl) ?_
    refine ew_aload_n (pc := 41) dX1_setWish_41 rfl ?_
    refine ew_getf (pc := 42) fX1_212 (rd_of C2.n.o) rfl dX1_setWish_42 ?_
    refine ew_iload_n (pc := 45) dX1_setWish_45 rfl ?_
    refine ew_iload_n (pc := 46) dX1_setWish_46 rfl ?_
    refine ew_iaS (pc := 47) hff (j := ix x) hx.2 hx.1 (by omega) dX1_setWish_47 ?_
    refine ew_iload (pc := 48) dX1_setWish_48 rfl ?_
    refine ew_iret (pc := 50) rfl dX1_setWish_50 ?_
    exact hq _ _ (CR.ok (as2_y hi hc) fin.1 fin.2)
  refine ew_aload_n (pc := 0) dX1_setWish_0 rfl ?_
  refine ew_iload_n (pc := 1) dX1_setWish_1 rfl ?_
  refine ew_cV1 (d' := 7) (pc := 2) vX1_181 (rd_of C.o) dX1_setWish_2 (by decide) (ew_rm (Nat.le_of_ble_eq_true rfl)) ?_
  refine t_withEvent C (fun hi => ?_) (fun hi => ?_)
  · exact ew_Kx (ew_out (fun x hx => nomatch hx) (hq _ _ (CR.no (k := 2) (as2_i hi) (by decide) (F.err hg ho (by decide)).1 rfl (ne_1 _ _ _) (F.err hg ho (by decide)).2)))
  have hx := hi.to (n := nE N) (by omega)
  refine ew_Kr ?_
  first | refine ew_astore_n (pc := 5) dX1_setWish_5 rfl (by decide) (p1_3 rfl) ?_ | refine ew_astore_nq (pc := 5) dX1_setWish_5 rfl (by decide) (p1_3 rfl) ?_ | refine ew_astore_nN (pc := 5) dX1_setWish_5 rfl (by decide) (p1_3 rfl) ?_
  refine ew_iload_n (pc := 6) dX1_setWish_6 rfl ?_
  refine ew_if_le (pc := 7) (tgt := 25) dX1_setWish_7 (by decide) (fun c7 => ?_) (fun c7 => ?_)
  · refine ew_iconst (pc := 25) (v := 0) dX1_setWish_25 rfl ?_
    first
    | exact s26 hi _ (bI_F (fun h9 => absurd h9.1 (Int32.not_lt.mpr c7)))
    | exact s26 hi _ (bI_T ⟨Int32.not_le.mp c7, bI_n.mp c18⟩)
    | exact s26 hi _ (bI_F (fun h9 => bI_0.mp c18 h9.2))
  · refine ew_iload_n (pc := 10) dX1_setWish_10 rfl ?_
    refine ew_iconst (pc := 11) (v := -1) dX1_setWish_11 rfl ?_
    refine ew_sipush (pc := 12) (v := 999) dX1_setWish_12 rfl ?_
    refine ew_cS3 (d' := 0) (pc := 15) sX1_74 dX1_setWish_15 (by decide) (ew_rm (Nat.le_of_ble_eq_true rfl)) ?_
    refine t_inC ?_
    refine ew_Kr ?_
    refine ew_if_eq (pc := 18) (tgt := 25) dX1_setWish_18 (by decide) (fun c18 => ?_) (fun c18 => ?_)
    · refine ew_iconst (pc := 25) (v := 0) dX1_setWish_25 rfl ?_
      first
      | exact s26 hi _ (bI_F (fun h9 => absurd h9.1 (Int32.not_lt.mpr c7)))
      | exact s26 hi _ (bI_T ⟨Int32.not_le.mp c7, bI_n.mp c18⟩)
      | exact s26 hi _ (bI_F (fun h9 => bI_0.mp c18 h9.2))
    · refine ew_iconst (pc := 21) (v := 1) dX1_setWish_21 rfl ?_
      refine ew_goto (pc := 22) (tgt := 26) dX1_setWish_22 (by decide) ?_
      first
      | exact s26 hi _ (bI_F (fun h9 => absurd h9.1 (Int32.not_lt.mpr c7)))
      | exact s26 hi _ (bI_T ⟨Int32.not_le.mp c7, bI_n.mp c18⟩)
      | exact s26 hi _ (bI_F (fun h9 => bI_0.mp c18 h9.2))
theorem c_free {x : Int32} (hg : gOC g) (hM : gOM g) (hD : gDE g) (F : FS g h a ws N m pe ep nm sn vn fbuf A2 hd P sv A4 tx) (hq : ∀ o h', CR SI (as2 1 (bI (isIx (nE N) x)) (bI (0 < x ∧ isIx (nE N) x ∧ ¬ N (146 + ix x) = -1))) (.int (N (146 + ix x))) (fun h' => CX g h' (a 0) N nm m pe ep fbuf (P.map (fun b => b.2.2)) (fun i => (sv i).map (fun b => b.2.2)) tx) (fun h' => CX g h' (a 0) (upd N (146 + ix x) (-1)) nm m pe ep fbuf (reP (P.map (fun b => b.2.2)) N) (fun i => (sv i).map (fun b => b.2.2)) tx) h o h' → Q o h') : ew_T g kX1_free 21 [.ref (a 0), .int x] h Q := by
  obtain ⟨fb, ft, ρ, C⟩ := F.cv
  have hE := C.n.ok.e2
  refine ew_enter (by decide +kernel) (ew_a1 rfl (ew_a1 rfl (ew_an (ew_an ew_az)))) (Nat.le_of_ble_eq_true rfl) ?_
  refine ew_ok (fun ho => ?_)
  have s23 : isIx (nE N) x → ∀ f, f = bI (0 < x ∧ isIx (nE N) x ∧ ¬ N (146 + ix x) = -1) → ew_G g kX1_free 21 23 [.ref (a 0), .int x, .ref (a 14), no_] [.int f] h Q := by
    intro hi f hf
    subst hf
    have hx := hi.to (n := nE N) (by omega)
    refine ew_cS1 (d' := 5) (pc := 23) sX1_198 dX1_free_23 (by decide) (ew_rm (Nat.le_of_ble_eq_true rfl)) ?_
    refine t_chkA (fun h9 => ?_) (fun h9 => ?_)
    · exact ew_Kx (ew_out (fun x hx => nomatch hx) (hq _ _ (CR.no (k := 3) (as2_j hi (fun h8 => bI_0.mp h9 h8)) (by decide) (F.err hg ho (by decide)).1 rfl (ne_1 _ _ _) (F.err hg ho (by decide)).2)))
    have hc := bI_n.mp h9
    refine ew_Kv ?_
    refine ew_aload_n (pc := 26) dX1_free_26 rfl ?_
    refine ew_cV0 (d' := 20) (pc := 27) vX1_416 (rd_of C.o) dX1_free_27 (by decide) (ew_rm (Nat.le_of_ble_eq_true rfl)) ?_
    refine t_keep hg hM hD F (fun h2 hd2 b F2 eb k2 => ?_)
    refine ew_Kv ?_
    refine ew_ok (fun ho2 => ?_)
    obtain ⟨fb2, ft2, ρ2, C2⟩ := F2.cv
    obtain ⟨ff, hff, hff2⟩ := C2.n.F
    have hx0 : ix x ≠ 0 := fun h8 => by
      have h7 := hc.1
      rw [hx.2, h8] at h7
      exact absurd h7 (by decide)
    have ok' : okN (upd N (146 + ix x) (-1)) := C2.n.ok.ue hx.1 (Or.inl rfl) (fun _ => ⟨⟨by decide, by decide⟩, hx0⟩) (fun h9 => absurd h9 (by decide)) (fun h9 => absurd h9 (by decide))
    have fin := F2.evt hg ho2 eb k2 (by decide) (Or.inl ⟨rfl, rfl⟩) hx.1 hff hff2 ok'
    refine ew_aload_n (pc := 30) dX1_free_30 rfl ?_
    refine ew_getf (pc := 31) fX1_205 (rd_of C2.n.o) rfl dX1_free_31 ?_
    refine ew_iload_n (pc := 34) dX1_free_34 rfl ?_
    refine ew_iaJ (pc := 35) (rd_of hff) (j := ix x) hx.2 hx.1 (by omega) dX1_free_35 ?_
    rw [hff2 _ hx.1]
    refine ew_istore_n (pc := 36) dX1_free_36 rfl (by decide) (p1_3 rfl) ?_
    refine ew_aload_n (pc := 37) dX1_free_37 rfl ?_
    refine ew_getf (pc := 38) fX1_205 (rd_of C2.n.o) rfl dX1_free_38 ?_
    refine ew_iload_n (pc := 41) dX1_free_41 rfl ?_
    refine ew_iconst (pc := 42) (v := -1) dX1_free_42 rfl ?_
    refine ew_iaS (pc := 43) hff (j := ix x) hx.2 hx.1 (by omega) dX1_free_43 ?_
    refine ew_iload_n (pc := 44) dX1_free_44 rfl ?_
    refine ew_iret (pc := 45) rfl dX1_free_45 ?_
    exact hq _ _ (CR.ok (as2_y hi hc) fin.1 fin.2)
  refine ew_aload_n (pc := 0) dX1_free_0 rfl ?_
  refine ew_iload_n (pc := 1) dX1_free_1 rfl ?_
  refine ew_cV1 (d' := 7) (pc := 2) vX1_181 (rd_of C.o) dX1_free_2 (by decide) (ew_rm (Nat.le_of_ble_eq_true rfl)) ?_
  refine t_withEvent C (fun hi => ?_) (fun hi => ?_)
  · exact ew_Kx (ew_out (fun x hx => nomatch hx) (hq _ _ (CR.no (k := 2) (as2_i hi) (by decide) (F.err hg ho (by decide)).1 rfl (ne_1 _ _ _) (F.err hg ho (by decide)).2)))
  have hx := hi.to (n := nE N) (by omega)
  refine ew_Kr ?_
  first | refine ew_astore_n (pc := 5) dX1_free_5 rfl (by decide) (p1_2 rfl) ?_ | refine ew_astore_nq (pc := 5) dX1_free_5 rfl (by decide) (p1_2 rfl) ?_ | refine ew_astore_nN (pc := 5) dX1_free_5 rfl (by decide) (p1_2 rfl) ?_
  refine ew_iload_n (pc := 6) dX1_free_6 rfl ?_
  refine ew_if_le (pc := 7) (tgt := 22) dX1_free_7 (by decide) (fun c7 => ?_) (fun c7 => ?_)
  · refine ew_iconst (pc := 22) (v := 0) dX1_free_22 rfl ?_
    first
    | exact s23 hi _ (bI_F (fun h9 => absurd h9.1 (Int32.not_lt.mpr c7)))
    | exact s23 hi _ (bI_T ⟨Int32.not_le.mp c7, hi, bI_0.mp c15⟩)
    | exact s23 hi _ (bI_F (fun h9 => h9.2.2 (bI_n.mp c15)))
  · first | refine ew_aload_n (pc := 10) dX1_free_10 rfl ?_ | refine ew_aload_nq (pc := 10) dX1_free_10 rfl ?_ | refine ew_aload_nN (pc := 10) dX1_free_10 rfl ?_
    refine ew_iload_n (pc := 11) dX1_free_11 rfl ?_
    refine ew_cV1 (d' := 0) (pc := 12) vX1_369 (rd_of C.n.o) dX1_free_12 (by decide) (ew_rm (Nat.le_of_ble_eq_true rfl)) ?_
    refine t_freeX C.n hx.2 hx.1 ?_
    refine ew_Kr ?_
    refine ew_if_ne (pc := 15) (tgt := 22) dX1_free_15 (by decide) (fun c15 => ?_) (fun c15 => ?_)
    · refine ew_iconst (pc := 22) (v := 0) dX1_free_22 rfl ?_
      first
      | exact s23 hi _ (bI_F (fun h9 => absurd h9.1 (Int32.not_lt.mpr c7)))
      | exact s23 hi _ (bI_T ⟨Int32.not_le.mp c7, hi, bI_0.mp c15⟩)
      | exact s23 hi _ (bI_F (fun h9 => h9.2.2 (bI_n.mp c15)))
    · refine ew_iconst (pc := 18) (v := 1) dX1_free_18 rfl ?_
      refine ew_goto (pc := 19) (tgt := 23) dX1_free_19 (by decide) ?_
      first
      | exact s23 hi _ (bI_F (fun h9 => absurd h9.1 (Int32.not_lt.mpr c7)))
      | exact s23 hi _ (bI_T ⟨Int32.not_le.mp c7, hi, bI_0.mp c15⟩)
      | exact s23 hi _ (bI_F (fun h9 => h9.2.2 (bI_n.mp c15)))
abbrev fxC (N : Nat → Int32) (x v : Int32) : Prop := N (146 + ix x) = -1 ∧ (-cSq N 0 (-1) (nE N * ix x) ≤ v ∧ v ≤ jmin (cSq N 0 (-1) (ix x)) 999)
theorem c_fix {x v : Int32} (hg : gOC g) (hM : gOM g) (hD : gDE g) (hX : CEX N) (F : FS g h a ws N m pe ep nm sn vn fbuf A2 hd P sv A4 tx) (hq : ∀ o h', CR SI (se2 1 (cSb N) (bI (isIx (nE N) x)) (bI (fxC N x v))) (.int (sqSlack (nE N) (cSq N 0 (-1)) (ix x))) (fun h' => CX g h' (a 0) N nm m pe ep fbuf (P.map (fun b => b.2.2)) (fun i => (sv i).map (fun b => b.2.2)) tx) (fun h' => CX g h' (a 0) (upd N (146 + ix x) v) nm m pe ep fbuf (reP (P.map (fun b => b.2.2)) N) (fun i => (sv i).map (fun b => b.2.2)) tx) h o h' → Q o h') : ew_T g kX1_fix 21 [.ref (a 0), .int x, .int v] h Q := by
  obtain ⟨fb, ft, ρ, C⟩ := F.cv
  have hE := C.n.ok.e2
  have h0e : N (146 + 0) = -1 → False := fun h9 => by
    rw [Nat.add_zero, C.n.ok.fx0] at h9
    exact absurd h9 (by decide)
  refine ew_enter (by decide +kernel) (ew_a1 rfl (ew_a1 rfl (ew_a1 rfl (ew_an ew_az)))) (Nat.le_of_ble_eq_true rfl) ?_
  refine ew_ok (fun ho => ?_)
  have s45 : isIx (nE N) x → cSo N 0 (-1) → ∀ f, agN (nE N) f (cSq N 0 (-1)) → ∀ y, y = bI (fxC N x v) → ew_G g kX1_fix 21 45 [.ref (a 0), .int x, .int v, .ref (a 5)] [.int y] (eh_set h (a 6) (aI (nE N * nE N) f)) Q := by
    intro hi hs f hf y hy
    subst hy
    have hx := hi.to (n := nE N) (by omega)
    have C1 := C.setB f
    have ho1 : eh_ok g (eh_set h (a 6) (aI (nE N * nE N) f)) := ho.set C.b.2.1
    have F1 := F.q hg ho ho1 (CQ.B C f)
    refine ew_cS1 (d' := 5) (pc := 45) sX1_198 dX1_fix_45 (by decide) (ew_rm (Nat.le_of_ble_eq_true rfl)) ?_
    refine t_chkA (fun h9 => ?_) (fun h9 => ?_)
    · exact ew_Kx (ew_out (fun x hx => nomatch hx) (hq _ _ (CR.no (k := 3) (se2_j hs hi (fun h8 => bI_0.mp h9 h8)) (by decide) (F1.err hg ho1 (by decide)).1 rfl (ne_1 _ _ _) (F1.err hg ho1 (by decide)).2)))
    have hc := bI_n.mp h9
    refine ew_Kv ?_
    refine ew_aload_n (pc := 48) dX1_fix_48 rfl ?_
    refine ew_cV0 (d' := 20) (pc := 49) vX1_416 (rd_of C1.o) dX1_fix_49 (by decide) (ew_rm (Nat.le_of_ble_eq_true rfl)) ?_
    refine t_keep hg hM hD F1 (fun h2 hd2 b F2 eb k2 => ?_)
    refine ew_Kv ?_
    refine ew_ok (fun ho2 => ?_)
    have C2 := C1.keA k2 hg ho1 (F1.kne ho1)
    obtain ⟨ff, hff, hff2⟩ := C2.n.F
    have hx0 : ix x ≠ 0 := fun h8 => by
      have h7 := hc.1
      rw [h8] at h7
      exact h0e h7
    have hr : fR (-1) 999 v := by
      refine ⟨Int32.le_trans (show (-1 : Int32) ≤ 0 by decide) (Int32.le_trans (hX hs _ hx.1).1 hc.2.1), Int32.le_trans hc.2.2 ?_⟩
      unfold jmin
      split
      · exact Int32.le_refl _
      · rename_i h7
        exact Int32.not_lt.mp h7
    have ok' : okN (upd N (146 + ix x) v) := C2.n.ok.ue hx.1 (Or.inl rfl) (fun _ => ⟨hr, hx0⟩) (fun h9 => absurd h9 (by decide)) (fun h9 => absurd h9 (by decide))
    have fin := F2.evt hg ho2 eb k2 (by decide) (Or.inl ⟨rfl, rfl⟩) hx.1 hff hff2 ok'
    have C3 := cv_ev C2 (v := v) (Or.inl ⟨rfl, rfl⟩) hx.1 hff hff2 ok'
    have en : nE (upd N (146 + ix x) v) = nE N := (nLk.up (by omega)).1
    refine ew_aload_n (pc := 52) dX1_fix_52 rfl ?_
    refine ew_getf (pc := 53) fX1_84 (rd_of C2.o) rfl dX1_fix_53 ?_
    refine ew_getf (pc := 56) fX1_205 (rd_of C2.n.o) rfl dX1_fix_56 ?_
    refine ew_iload_n (pc := 59) dX1_fix_59 rfl ?_
    refine ew_iload_n (pc := 60) dX1_fix_60 rfl ?_
    refine ew_iaS (pc := 61) hff (j := ix x) hx.2 hx.1 (by omega) dX1_fix_61 ?_
    refine ew_aload_n (pc := 62) dX1_fix_62 rfl ?_
    refine ew_iload_n (pc := 63) dX1_fix_63 rfl ?_
    refine ew_cV1 (d' := 3) (pc := 64) vX1_237 C3.b.1 dX1_fix_64 (by decide) (ew_rm (Nat.le_of_ble_eq_true rfl)) ?_
    refine t_slackX C3.b hx.2 (by rw [en]; exact hx.1) ?_
    rw [en, sqSlack_ag hf hx.1]
    refine ew_Kr ?_
    refine ew_iret (pc := 67) rfl dX1_fix_67 ?_
    exact hq _ _ (CR.ok (se2_y hs hi hc) fin.1 fin.2)
  refine ew_aload_n (pc := 0) dX1_fix_0 rfl ?_
  refine ew_iload_n (pc := 1) dX1_fix_1 rfl ?_
  refine ew_cV1 (d' := 8) (pc := 2) vX1_136 (rd_of C.o) dX1_fix_2 (by decide) (ew_rm (Nat.le_of_ble_eq_true rfl)) ?_
  refine t_soundWith1 C (fun hs f => ?_) (fun hs hi f => ?_) (fun hs hi f hf => ?_)
  · have hb := CQ.newB (m := m) (pe := pe) (ep := ep) hg ho C f (e := ob 23 []) (n := 6) (by decide)
    refine ew_Kx (ew_out (fun x hx => nomatch hx) (hq _ _ (CR.no (k := 1) (se2_n hs) (by decide) hb.bud rfl (ne_1 _ _ _) (F.q hg ho ((ho.set C.b.2.1).new) hb).cx)))
  · have hb := CQ.newB (m := m) (pe := pe) (ep := ep) hg ho C f (e := ob 25 []) (n := 6) (by decide)
    refine ew_Kx (ew_out (fun x hx => nomatch hx) (hq _ _ (CR.no (k := 2) (se2_i hs hi) (by decide) hb.bud rfl (ne_1 _ _ _) (F.q hg ho ((ho.set C.b.2.1).new) hb).cx)))
  have hx := hi.to (n := nE N) (by omega)
  have C1 := C.setB f
  have fe : f (nE N * ix x) = cSq N 0 (-1) (nE N * ix x) := hf.at (a := ix x) (b := 0) hx.1 (by omega)
  have fl : f (ix x) = cSq N 0 (-1) (ix x) := by
    have h9 := hf.at (a := 0) (b := ix x) (by omega) hx.1
    rw [Nat.mul_zero, Nat.zero_add] at h9
    exact h9
  refine ew_Kr ?_
  first | refine ew_astore_n (pc := 5) dX1_fix_5 rfl (by decide) (p1_3 rfl) ?_ | refine ew_astore_nq (pc := 5) dX1_fix_5 rfl (by decide) (p1_3 rfl) ?_ | refine ew_astore_nN (pc := 5) dX1_fix_5 rfl (by decide) (p1_3 rfl) ?_
  refine ew_aload_n (pc := 6) dX1_fix_6 rfl ?_
  refine ew_getf (pc := 7) fX1_84 (rd_of C1.o) rfl dX1_fix_7 ?_
  refine ew_iload_n (pc := 10) dX1_fix_10 rfl ?_
  refine ew_cV1 (d' := 0) (pc := 11) vX1_369 (rd_of C1.n.o) dX1_fix_11 (by decide) (ew_rm (Nat.le_of_ble_eq_true rfl)) ?_
  refine t_freeX C1.n hx.2 hx.1 ?_
  refine ew_Kr ?_
  refine ew_if_eq (pc := 14) (tgt := 44) dX1_fix_14 (by decide) (fun c14 => ?_) (fun c14 => ?_)
  · refine ew_iconst (pc := 44) (v := 0) dX1_fix_44 rfl ?_
    first
    | exact s45 hi hs f hf _ (bI_F (fun h9 => bI_0.mp c14 h9.1))
    | exact s45 hi hs f hf _ (bI_T ⟨bI_n.mp c14, bI_n.mp c37⟩)
    | exact s45 hi hs f hf _ (bI_F (fun h9 => bI_0.mp c37 h9.2))
  · refine ew_iload_n (pc := 17) dX1_fix_17 rfl ?_
    refine ew_aload_n (pc := 18) dX1_fix_18 rfl ?_
    refine ew_iload_n (pc := 19) dX1_fix_19 rfl ?_
    refine ew_cV1 (d' := 1) (pc := 20) vX1_228 C1.b.1 dX1_fix_20 (by decide) (ew_rm (Nat.le_of_ble_eq_true rfl)) ?_
    refine t_earlX C1.b hx.2 hx.1 ?_
    rw [fe]
    refine ew_Kr ?_
    refine ew_aload_n (pc := 23) dX1_fix_23 rfl ?_
    refine ew_iload_n (pc := 24) dX1_fix_24 rfl ?_
    refine ew_cV1 (d' := 1) (pc := 25) vX1_231 C1.b.1 dX1_fix_25 (by decide) (ew_rm (Nat.le_of_ble_eq_true rfl)) ?_
    refine t_lateX C1.b hx.2 hx.1 ?_
    rw [fl]
    refine ew_Kr ?_
    refine ew_sipush (pc := 28) (v := 999) dX1_fix_28 rfl ?_
    refine ew_mmin (pc := 31) (ew_q q1797) (ew_q q596) (ew_q q141) (ew_q q597) (ew_rm (Nat.le_of_ble_eq_true rfl)) dX1_fix_31 ?_
    refine ew_cS3 (d' := 0) (pc := 34) sX1_74 dX1_fix_34 (by decide) (ew_rm (Nat.le_of_ble_eq_true rfl)) ?_
    refine t_inC ?_
    refine ew_Kr ?_
    refine ew_if_eq (pc := 37) (tgt := 44) dX1_fix_37 (by decide) (fun c37 => ?_) (fun c37 => ?_)
    · refine ew_iconst (pc := 44) (v := 0) dX1_fix_44 rfl ?_
      first
      | exact s45 hi hs f hf _ (bI_F (fun h9 => bI_0.mp c14 h9.1))
      | exact s45 hi hs f hf _ (bI_T ⟨bI_n.mp c14, bI_n.mp c37⟩)
      | exact s45 hi hs f hf _ (bI_F (fun h9 => bI_0.mp c37 h9.2))
    · refine ew_iconst (pc := 40) (v := 1) dX1_fix_40 rfl ?_
      refine ew_goto (pc := 41) (tgt := 45) dX1_fix_41 (by decide) ?_
      first
      | exact s45 hi hs f hf _ (bI_F (fun h9 => bI_0.mp c14 h9.1))
      | exact s45 hi hs f hf _ (bI_T ⟨bI_n.mp c14, bI_n.mp c37⟩)
      | exact s45 hi hs f hf _ (bI_F (fun h9 => bI_0.mp c37 h9.2))
end
