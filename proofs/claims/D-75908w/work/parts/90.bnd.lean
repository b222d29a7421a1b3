/-! EW: the component's bounds that are told -/
set_option maxRecDepth 100000
section
variable {g : eg} {h : eh} {a : Nat → Nat} {ws : List Nat} {N : Nat → Int32} {m pe ep : Int32} {fb ft : Nat → Int32} {ρ : ru} {Q : Outcome → eh → Prop}
theorem se1_n {f : Int32} (hs : ¬ cSo N 0 (-1)) : se1 1 (cSb N) f = 1 := by rw [se1, if_pos (Or.inr (cSb_f hs))]
theorem se1_i {p : Prop} [Decidable p] (hs : cSo N 0 (-1)) (hp : ¬ p) : se1 1 (cSb N) (bI p) = 2 := by rw [se1, if_neg (fun h9 => h9.elim (fun h8 => absurd h8 (by decide)) (fun h8 => by rw [cSb_iff.mpr hs] at h8; cases h8)), if_pos (bI_f hp)]
theorem se1_y {p : Prop} [Decidable p] (hs : cSo N 0 (-1)) (hp : p) : se1 1 (cSb N) (bI p) = 0 := by rw [se1, if_neg (fun h9 => h9.elim (fun h8 => absurd h8 (by decide)) (fun h8 => by rw [cSb_iff.mpr hs] at h8; cases h8)), if_neg (bI_n.mpr hp)]
theorem t_timeOf {x : Int32} (hq : Q (.returned (some (.int (if x = 100000000 then -1 else x)))) h) : ew_T g kX1_timeOf 0 [.int x] h Q := by
  refine ew_enter (by decide +kernel) (ew_a1 rfl ew_az) (Nat.le_of_ble_eq_true rfl) ?_
  refine ew_iload_n (pc := 0) dX1_timeOf_0 rfl ?_
  refine ew_ldc (pc := 1) (v := 100000000) (ew_q q1844) dX1_timeOf_1 ?_
  refine ew_icmp_ne (pc := 3) (tgt := 10) dX1_timeOf_3 (by decide) (fun c3 => ?_) (fun c3 => ?_)
  · refine ew_iload_n (pc := 10) dX1_timeOf_10 rfl ?_
    refine ew_iret (pc := 11) rfl dX1_timeOf_11 ?_
    first
    | rw [if_neg c3] at hq
      exact hq
    | rw [if_pos c3] at hq
      exact hq
  · refine ew_iconst (pc := 6) (v := -1) dX1_timeOf_6 rfl ?_
    refine ew_goto (pc := 7) (tgt := 11) dX1_timeOf_7 (by decide) ?_
    refine ew_iret (pc := 11) rfl dX1_timeOf_11 ?_
    first
    | rw [if_neg c3] at hq
      exact hq
    | rw [if_pos c3] at hq
      exact hq
theorem c_most {x y : Int32} (hg : gOC g) (C : CV g h a ws N m pe ep fb ft ρ) (hq : ∀ o h', CO SI (se1 1 (cSb N) (bI (isIx (nE N) x ∧ isIx (nE N) y))) (.int (if cSq N 0 (-1) (nE N * ix x + ix y) = 100000000 then 10000 else cSq N 0 (-1) (nE N * ix x + ix y))) (CQ g a ws N m pe ep h) o h' → Q o h') : ew_T g kX1_most 10 [.ref (a 0), .int x, .int y] h Q := by
  have hE := C.n.ok.e2
  refine ew_enter (by decide +kernel) (ew_a1 rfl (ew_a1 rfl (ew_a1 rfl (ew_an ew_az)))) (Nat.le_of_ble_eq_true rfl) ?_
  refine ew_ok (fun ho => ?_)
  refine ew_aload_n (pc := 0) dX1_most_0 rfl ?_
  refine ew_iload_n (pc := 1) dX1_most_1 rfl ?_
  refine ew_iload_n (pc := 2) dX1_most_2 rfl ?_
  refine ew_cV2 (d' := 9) (pc := 3) vX1_224 (rd_of C.o) dX1_most_3 (by decide) (ew_rm (Nat.le_of_ble_eq_true rfl)) ?_
  refine t_soundWith2 C (fun hs f => ?_) (fun hs hi f => ?_) (fun hs hi hj f hf => ?_)
  · exact ew_Kx (ew_out (fun x hx => nomatch hx) (hq _ _ (CO.n (k := 1) (se1_n hs) (by decide) rfl (ne_1 _ _ _) (CQ.newB hg ho C f (by decide)))))
  · exact ew_Kx (ew_out (fun x hx => nomatch hx) (hq _ _ (CO.n (k := 2) (se1_i hs hi) (by decide) rfl (ne_1 _ _ _) (CQ.newB hg ho C f (by decide)))))
  have hx := hi.to (n := nE N) (by omega)
  have hy := hj.to (n := nE N) (by omega)
  have C2 := C.setB f
  refine ew_Kr ?_
  refine ew_iload_n (pc := 6) dX1_most_6 rfl ?_
  refine ew_iload_n (pc := 7) dX1_most_7 rfl ?_
  rw [hx.2, hy.2]
  refine ew_cV2 (d' := 0) (pc := 8) vX1_227 C2.b.1 dX1_most_8 (by decide) (ew_rm (Nat.le_of_ble_eq_true rfl)) ?_
  refine t_sum C2.b hx.1 hy.1 ?_
  rw [hf.at hx.1 hy.1, ← hx.2, ← hy.2]
  refine ew_Kr ?_
  refine ew_istore_n (pc := 11) dX1_most_11 rfl (by decide) (p1_3 rfl) ?_
  refine ew_iload_n (pc := 12) dX1_most_12 rfl ?_
  refine ew_ldc (pc := 13) (v := 100000000) (ew_q q1844) dX1_most_13 ?_
  refine ew_icmp_ne (pc := 15) (tgt := 24) dX1_most_15 (by decide) (fun c15 => ?_) (fun c15 => ?_)
  · refine ew_iload_n (pc := 24) dX1_most_24 rfl ?_
    refine ew_iret (pc := 25) rfl dX1_most_25 ?_
    first
    | rw [if_neg c15] at hq
      exact hq _ _ (CO.y (se1_y hs ⟨hi, hj⟩) (CQ.B C f))
    | rw [if_pos c15] at hq
      exact hq _ _ (CO.y (se1_y hs ⟨hi, hj⟩) (CQ.B C f))
  · refine ew_sipush (pc := 18) (v := 10000) dX1_most_18 rfl ?_
    refine ew_goto (pc := 21) (tgt := 25) dX1_most_21 (by decide) ?_
    refine ew_iret (pc := 25) rfl dX1_most_25 ?_
    first
    | rw [if_neg c15] at hq
      exact hq _ _ (CO.y (se1_y hs ⟨hi, hj⟩) (CQ.B C f))
    | rw [if_pos c15] at hq
      exact hq _ _ (CO.y (se1_y hs ⟨hi, hj⟩) (CQ.B C f))
theorem c_least {x y : Int32} (hg : gOC g) (C : CV g h a ws N m pe ep fb ft ρ) (hq : ∀ o h', CO SI (se1 1 (cSb N) (bI (isIx (nE N) x ∧ isIx (nE N) y))) (.int (if cSq N 0 (-1) (nE N * ix y + ix x) = 100000000 then -10000 else -cSq N 0 (-1) (nE N * ix y + ix x))) (CQ g a ws N m pe ep h) o h' → Q o h') : ew_T g kX1_least 10 [.ref (a 0), .int x, .int y] h Q := by
  have hE := C.n.ok.e2
  refine ew_enter (by decide +kernel) (ew_a1 rfl (ew_a1 rfl (ew_a1 rfl (ew_an ew_az)))) (Nat.le_of_ble_eq_true rfl) ?_
  refine ew_ok (fun ho => ?_)
  refine ew_aload_n (pc := 0) dX1_least_0 rfl ?_
  refine ew_iload_n (pc := 1) dX1_least_1 rfl ?_
  refine ew_iload_n (pc := 2) dX1_least_2 rfl ?_
  refine ew_cV2 (d' := 9) (pc := 3) vX1_224 (rd_of C.o) dX1_least_3 (by decide) (ew_rm (Nat.le_of_ble_eq_true rfl)) ?_
  refine t_soundWith2 C (fun hs f => ?_) (fun hs hi f => ?_) (fun hs hi hj f hf => ?_)
  · exact ew_Kx (ew_out (fun x hx => nomatch hx) (hq _ _ (CO.n (k := 1) (se1_n hs) (by decide) rfl (ne_1 _ _ _) (CQ.newB hg ho C f (by decide)))))
  · exact ew_Kx (ew_out (fun x hx => nomatch hx) (hq _ _ (CO.n (k := 2) (se1_i hs hi) (by decide) rfl (ne_1 _ _ _) (CQ.newB hg ho C f (by decide)))))
  have hx := hi.to (n := nE N) (by omega)
  have hy := hj.to (n := nE N) (by omega)
  have C2 := C.setB f
  refine ew_Kr ?_
  refine ew_iload_n (pc := 6) dX1_least_6 rfl ?_
  refine ew_iload_n (pc := 7) dX1_least_7 rfl ?_
  rw [hx.2, hy.2]
  refine ew_cV2 (d' := 0) (pc := 8) vX1_227 C2.b.1 dX1_least_8 (by decide) (ew_rm (Nat.le_of_ble_eq_true rfl)) ?_
  refine t_sum C2.b hy.1 hx.1 ?_
  rw [hf.at hy.1 hx.1, ← hx.2, ← hy.2]
  refine ew_Kr ?_
  refine ew_istore_n (pc := 11) dX1_least_11 rfl (by decide) (p1_3 rfl) ?_
  refine ew_iload_n (pc := 12) dX1_least_12 rfl ?_
  refine ew_ldc (pc := 13) (v := 100000000) (ew_q q1844) dX1_least_13 ?_
  refine ew_icmp_ne (pc := 15) (tgt := 24) dX1_least_15 (by decide) (fun c15 => ?_) (fun c15 => ?_)
  · refine ew_iload_n (pc := 24) dX1_least_24 rfl ?_
    refine ew_ineg (pc := 25) dX1_least_25 ?_
    refine ew_iret (pc := 26) rfl dX1_least_26 ?_
    first
    | rw [if_neg c15] at hq
      exact hq _ _ (CO.y (se1_y hs ⟨hi, hj⟩) (CQ.B C f))
    | rw [if_pos c15] at hq
      exact hq _ _ (CO.y (se1_y hs ⟨hi, hj⟩) (CQ.B C f))
  · refine ew_sipush (pc := 18) (v := -10000) dX1_least_18 rfl ?_
    refine ew_goto (pc := 21) (tgt := 26) dX1_least_21 (by decide) ?_
    refine ew_iret (pc := 26) rfl dX1_least_26 ?_
    first
    | rw [if_neg c15] at hq
      exact hq _ _ (CO.y (se1_y hs ⟨hi, hj⟩) (CQ.B C f))
    | rw [if_pos c15] at hq
      exact hq _ _ (CO.y (se1_y hs ⟨hi, hj⟩) (CQ.B C f))
theorem c_mustPrecede {x y : Int32} (hg : gOC g) (C : CV g h a ws N m pe ep fb ft ρ) (hq : ∀ o h', CO SI (se1 1 (cSb N) (bI (isIx (nE N) x ∧ isIx (nE N) y))) (.int (bI (cSq N 0 (-1) (nE N * ix y + ix x) ≤ 0))) (CQ g a ws N m pe ep h) o h' → Q o h') : ew_T g kX1_mustPrecede 10 [.ref (a 0), .int x, .int y] h Q := by
  have hE := C.n.ok.e2
  refine ew_enter (by decide +kernel) (ew_a1 rfl (ew_a1 rfl (ew_a1 rfl (ew_an ew_az)))) (Nat.le_of_ble_eq_true rfl) ?_
  refine ew_ok (fun ho => ?_)
  refine ew_aload_n (pc := 0) dX1_mustPrecede_0 rfl ?_
  refine ew_iload_n (pc := 1) dX1_mustPrecede_1 rfl ?_
  refine ew_iload_n (pc := 2) dX1_mustPrecede_2 rfl ?_
  refine ew_cV2 (d' := 9) (pc := 3) vX1_224 (rd_of C.o) dX1_mustPrecede_3 (by decide) (ew_rm (Nat.le_of_ble_eq_true rfl)) ?_
  refine t_soundWith2 C (fun hs f => ?_) (fun hs hi f => ?_) (fun hs hi hj f hf => ?_)
  · exact ew_Kx (ew_out (fun x hx => nomatch hx) (hq _ _ (CO.n (k := 1) (se1_n hs) (by decide) rfl (ne_1 _ _ _) (CQ.newB hg ho C f (by decide)))))
  · exact ew_Kx (ew_out (fun x hx => nomatch hx) (hq _ _ (CO.n (k := 2) (se1_i hs hi) (by decide) rfl (ne_1 _ _ _) (CQ.newB hg ho C f (by decide)))))
  have hx := hi.to (n := nE N) (by omega)
  have hy := hj.to (n := nE N) (by omega)
  have C2 := C.setB f
  refine ew_Kr ?_
  refine ew_iload_n (pc := 6) dX1_mustPrecede_6 rfl ?_
  refine ew_iload_n (pc := 7) dX1_mustPrecede_7 rfl ?_
  rw [hx.2, hy.2]
  refine ew_cV2 (d' := 0) (pc := 8) vX1_227 C2.b.1 dX1_mustPrecede_8 (by decide) (ew_rm (Nat.le_of_ble_eq_true rfl)) ?_
  refine t_sum C2.b hy.1 hx.1 ?_
  rw [hf.at hy.1 hx.1, ← hx.2, ← hy.2]
  refine ew_Kr ?_
  refine ew_istore_n (pc := 11) dX1_mustPrecede_11 rfl (by decide) (p1_3 rfl) ?_
  refine ew_iload_n (pc := 12) dX1_mustPrecede_12 rfl ?_
  refine ew_if_gt (pc := 13) (tgt := 20) dX1_mustPrecede_13 (by decide) (fun c13 => ?_) (fun c13 => ?_)
  · refine ew_iconst (pc := 20) (v := 0) dX1_mustPrecede_20 rfl ?_
    refine ew_zret (pc := 21) (ty := .boolean) rfl rfl dX1_mustPrecede_21 ?_
    first
    | rw [bI_f (show ¬ cSq N 0 (-1) (nE N * ix y + ix x) ≤ 0 from Int32.not_le.mpr c13)] at hq
      exact hq _ _ (CO.y (se1_y hs ⟨hi, hj⟩) (CQ.B C f))
    | rw [bI_t (show cSq N 0 (-1) (nE N * ix y + ix x) ≤ 0 from Int32.not_lt.mp c13)] at hq
      exact hq _ _ (CO.y (se1_y hs ⟨hi, hj⟩) (CQ.B C f))
  · refine ew_iconst (pc := 16) (v := 1) dX1_mustPrecede_16 rfl ?_
    refine ew_goto (pc := 17) (tgt := 21) dX1_mustPrecede_17 (by decide) ?_
    refine ew_zret (pc := 21) (ty := .boolean) rfl rfl dX1_mustPrecede_21 ?_
    first
    | rw [bI_f (show ¬ cSq N 0 (-1) (nE N * ix y + ix x) ≤ 0 from Int32.not_le.mpr c13)] at hq
      exact hq _ _ (CO.y (se1_y hs ⟨hi, hj⟩) (CQ.B C f))
    | rw [bI_t (show cSq N 0 (-1) (nE N * ix y + ix x) ≤ 0 from Int32.not_lt.mp c13)] at hq
      exact hq _ _ (CO.y (se1_y hs ⟨hi, hj⟩) (CQ.B C f))
theorem c_canMeet {x y : Int32} (hg : gOC g) (C : CV g h a ws N m pe ep fb ft ρ) (hq : ∀ o h', CO SI (se1 1 (cSb N) (bI (isIx (nE N) x ∧ isIx (nE N) y))) (.int (bI (0 ≤ cSq N 0 (-1) (nE N * ix y + ix x) ∧ 0 ≤ cSq N 0 (-1) (nE N * ix x + ix y)))) (CQ g a ws N m pe ep h) o h' → Q o h') : ew_T g kX1_canMeet 10 [.ref (a 0), .int x, .int y] h Q := by
  have hE := C.n.ok.e2
  refine ew_enter (by decide +kernel) (ew_a1 rfl (ew_a1 rfl (ew_a1 rfl (ew_an ew_az)))) (Nat.le_of_ble_eq_true rfl) ?_
  refine ew_ok (fun ho => ?_)
  refine ew_aload_n (pc := 0) dX1_canMeet_0 rfl ?_
  refine ew_iload_n (pc := 1) dX1_canMeet_1 rfl ?_
  refine ew_iload_n (pc := 2) dX1_canMeet_2 rfl ?_
  refine ew_cV2 (d' := 9) (pc := 3) vX1_224 (rd_of C.o) dX1_canMeet_3 (by decide) (ew_rm (Nat.le_of_ble_eq_true rfl)) ?_
  refine t_soundWith2 C (fun hs f => ?_) (fun hs hi f => ?_) (fun hs hi hj f hf => ?_)
  · exact ew_Kx (ew_out (fun x hx => nomatch hx) (hq _ _ (CO.n (k := 1) (se1_n hs) (by decide) rfl (ne_1 _ _ _) (CQ.newB hg ho C f (by decide)))))
  · exact ew_Kx (ew_out (fun x hx => nomatch hx) (hq _ _ (CO.n (k := 2) (se1_i hs hi) (by decide) rfl (ne_1 _ _ _) (CQ.newB hg ho C f (by decide)))))
  have hx := hi.to (n := nE N) (by omega)
  have hy := hj.to (n := nE N) (by omega)
  have C2 := C.setB f
  refine ew_Kr ?_
  first | refine ew_astore_n (pc := 6) dX1_canMeet_6 rfl (by decide) (p1_3 rfl) ?_ | refine ew_astore_nq (pc := 6) dX1_canMeet_6 rfl (by decide) (p1_3 rfl) ?_ | refine ew_astore_nN (pc := 6) dX1_canMeet_6 rfl (by decide) (p1_3 rfl) ?_
  refine ew_aload_n (pc := 7) dX1_canMeet_7 rfl ?_
  refine ew_iload_n (pc := 8) dX1_canMeet_8 rfl ?_
  refine ew_iload_n (pc := 9) dX1_canMeet_9 rfl ?_
  rw [hx.2, hy.2]
  refine ew_cV2 (d' := 0) (pc := 10) vX1_227 C2.b.1 dX1_canMeet_10 (by decide) (ew_rm (Nat.le_of_ble_eq_true rfl)) ?_
  refine t_sum C2.b hy.1 hx.1 ?_
  rw [hf.at hy.1 hx.1]
  refine ew_Kr ?_
  refine ew_if_lt (pc := 13) (tgt := 29) dX1_canMeet_13 (by decide) (fun c13 => ?_) (fun c13 => ?_)
  · refine ew_iconst (pc := 29) (v := 0) dX1_canMeet_29 rfl ?_
    refine ew_zret (pc := 30) (ty := .boolean) rfl rfl dX1_canMeet_30 ?_
    first
    | rw [bI_f (show ¬ (0 ≤ cSq N 0 (-1) (nE N * ix y + ix x) ∧ 0 ≤ cSq N 0 (-1) (nE N * ix x + ix y)) from fun h9 => absurd h9.1 (Int32.not_le.mpr c13))] at hq
      exact hq _ _ (CO.y (se1_y hs ⟨hi, hj⟩) (CQ.B C f))
    | rw [bI_f (show ¬ (0 ≤ cSq N 0 (-1) (nE N * ix y + ix x) ∧ 0 ≤ cSq N 0 (-1) (nE N * ix x + ix y)) from fun h9 => absurd h9.2 (Int32.not_le.mpr c22))] at hq
      exact hq _ _ (CO.y (se1_y hs ⟨hi, hj⟩) (CQ.B C f))
    | rw [bI_t (show (0 ≤ cSq N 0 (-1) (nE N * ix y + ix x) ∧ 0 ≤ cSq N 0 (-1) (nE N * ix x + ix y)) from ⟨Int32.not_lt.mp c13, Int32.not_lt.mp c22⟩)] at hq
      exact hq _ _ (CO.y (se1_y hs ⟨hi, hj⟩) (CQ.B C f))
  · refine ew_aload_n (pc := 16) dX1_canMeet_16 rfl ?_
    refine ew_iload_n (pc := 17) dX1_canMeet_17 rfl ?_
    refine ew_iload_n (pc := 18) dX1_canMeet_18 rfl ?_
    refine ew_cV2 (d' := 0) (pc := 19) vX1_227 C2.b.1 dX1_canMeet_19 (by decide) (ew_rm (Nat.le_of_ble_eq_true rfl)) ?_
    refine t_sum C2.b hx.1 hy.1 ?_
    rw [hf.at hx.1 hy.1]
    refine ew_Kr ?_
    refine ew_if_lt (pc := 22) (tgt := 29) dX1_canMeet_22 (by decide) (fun c22 => ?_) (fun c22 => ?_)
    · refine ew_iconst (pc := 29) (v := 0) dX1_canMeet_29 rfl ?_
      refine ew_zret (pc := 30) (ty := .boolean) rfl rfl dX1_canMeet_30 ?_
      first
      | rw [bI_f (show ¬ (0 ≤ cSq N 0 (-1) (nE N * ix y + ix x) ∧ 0 ≤ cSq N 0 (-1) (nE N * ix x + ix y)) from fun h9 => absurd h9.1 (Int32.not_le.mpr c13))] at hq
        exact hq _ _ (CO.y (se1_y hs ⟨hi, hj⟩) (CQ.B C f))
      | rw [bI_f (show ¬ (0 ≤ cSq N 0 (-1) (nE N * ix y + ix x) ∧ 0 ≤ cSq N 0 (-1) (nE N * ix x + ix y)) from fun h9 => absurd h9.2 (Int32.not_le.mpr c22))] at hq
        exact hq _ _ (CO.y (se1_y hs ⟨hi, hj⟩) (CQ.B C f))
      | rw [bI_t (show (0 ≤ cSq N 0 (-1) (nE N * ix y + ix x) ∧ 0 ≤ cSq N 0 (-1) (nE N * ix x + ix y)) from ⟨Int32.not_lt.mp c13, Int32.not_lt.mp c22⟩)] at hq
        exact hq _ _ (CO.y (se1_y hs ⟨hi, hj⟩) (CQ.B C f))
    · refine ew_iconst (pc := 25) (v := 1) dX1_canMeet_25 rfl ?_
      refine ew_goto (pc := 26) (tgt := 30) dX1_canMeet_26 (by decide) ?_
      refine ew_zret (pc := 30) (ty := .boolean) rfl rfl dX1_canMeet_30 ?_
      first
      | rw [bI_f (show ¬ (0 ≤ cSq N 0 (-1) (nE N * ix y + ix x) ∧ 0 ≤ cSq N 0 (-1) (nE N * ix x + ix y)) from fun h9 => absurd h9.1 (Int32.not_le.mpr c13))] at hq
        exact hq _ _ (CO.y (se1_y hs ⟨hi, hj⟩) (CQ.B C f))
      | rw [bI_f (show ¬ (0 ≤ cSq N 0 (-1) (nE N * ix y + ix x) ∧ 0 ≤ cSq N 0 (-1) (nE N * ix x + ix y)) from fun h9 => absurd h9.2 (Int32.not_le.mpr c22))] at hq
        exact hq _ _ (CO.y (se1_y hs ⟨hi, hj⟩) (CQ.B C f))
      | rw [bI_t (show (0 ≤ cSq N 0 (-1) (nE N * ix y + ix x) ∧ 0 ≤ cSq N 0 (-1) (nE N * ix x + ix y)) from ⟨Int32.not_lt.mp c13, Int32.not_lt.mp c22⟩)] at hq
        exact hq _ _ (CO.y (se1_y hs ⟨hi, hj⟩) (CQ.B C f))
theorem agN.at0 {n b : Nat} {f f' : Nat → Int32} (h : agN n f f') (hb : b < n) : f b = f' b := by
  have h1 := h.at (a := 0) (b := b) (by omega) hb
  rw [Nat.mul_zero, Nat.zero_add] at h1
  exact h1
theorem agN.atZ {n b : Nat} {f f' : Nat → Int32} (h : agN n f f') (hb : b < n) : f (n * b) = f' (n * b) := h.at (b := 0) hb (by omega)
theorem sqSlack_ag {n e : Nat} {f f' : Nat → Int32} (h : agN n f f') (he : e < n) : sqSlack n f e = sqSlack n f' e := by rw [sqSlack, sqSlack, h.at0 he, h.atZ he]
theorem c_earliest {x : Int32} (hg : gOC g) (C : CV g h a ws N m pe ep fb ft ρ) (hq : ∀ o h', CO SI (se1 1 (cSb N) (bI (isIx (nE N) x))) (.int (-cSq N 0 (-1) (nE N * ix x))) (CQ g a ws N m pe ep h) o h' → Q o h') : ew_T g kX1_earliest 9 [.ref (a 0), .int x] h Q := by
  have hE := C.n.ok.e2
  refine ew_enter (by decide +kernel) (ew_a1 rfl (ew_a1 rfl ew_az)) (Nat.le_of_ble_eq_true rfl) ?_
  refine ew_ok (fun ho => ?_)
  refine ew_aload_n (pc := 0) dX1_earliest_0 rfl ?_
  refine ew_iload_n (pc := 1) dX1_earliest_1 rfl ?_
  refine ew_cV1 (d' := 8) (pc := 2) vX1_136 (rd_of C.o) dX1_earliest_2 (by decide) (ew_rm (Nat.le_of_ble_eq_true rfl)) ?_
  refine t_soundWith1 C (fun hs f => ?_) (fun hs hi f => ?_) (fun hs hi f hf => ?_)
  · exact ew_Kx (ew_out (fun x hx => nomatch hx) (hq _ _ (CO.n (k := 1) (se1_n hs) (by decide) rfl (ne_1 _ _ _) (CQ.newB hg ho C f (by decide)))))
  · exact ew_Kx (ew_out (fun x hx => nomatch hx) (hq _ _ (CO.n (k := 2) (se1_i hs hi) (by decide) rfl (ne_1 _ _ _) (CQ.newB hg ho C f (by decide)))))
  have hx := hi.to (n := nE N) (by omega)
  have C2 := C.setB f
  refine ew_Kr ?_
  refine ew_iload_n (pc := 5) dX1_earliest_5 rfl ?_
  rw [hx.2]
  refine ew_cV1 (d' := 1) (pc := 6) vX1_228 C2.b.1 dX1_earliest_6 (by decide) (ew_rm (Nat.le_of_ble_eq_true rfl)) ?_
  refine t_earliestS C2.b hx.1 ?_
  rw [hf.atZ hx.1, ← hx.2]
  refine ew_Kr ?_
  refine ew_iret (pc := 9) rfl dX1_earliest_9 ?_
  exact hq _ _ (CO.y (se1_y hs hi) (CQ.B C f))
theorem c_latest {x : Int32} (hg : gOC g) (C : CV g h a ws N m pe ep fb ft ρ) (hq : ∀ o h', CO SI (se1 1 (cSb N) (bI (isIx (nE N) x))) (.int (if cSq N 0 (-1) (ix x) = 100000000 then -1 else cSq N 0 (-1) (ix x))) (CQ g a ws N m pe ep h) o h' → Q o h') : ew_T g kX1_latest 9 [.ref (a 0), .int x] h Q := by
  have hE := C.n.ok.e2
  refine ew_enter (by decide +kernel) (ew_a1 rfl (ew_a1 rfl ew_az)) (Nat.le_of_ble_eq_true rfl) ?_
  refine ew_ok (fun ho => ?_)
  refine ew_aload_n (pc := 0) dX1_latest_0 rfl ?_
  refine ew_iload_n (pc := 1) dX1_latest_1 rfl ?_
  refine ew_cV1 (d' := 8) (pc := 2) vX1_136 (rd_of C.o) dX1_latest_2 (by decide) (ew_rm (Nat.le_of_ble_eq_true rfl)) ?_
  refine t_soundWith1 C (fun hs f => ?_) (fun hs hi f => ?_) (fun hs hi f hf => ?_)
  · exact ew_Kx (ew_out (fun x hx => nomatch hx) (hq _ _ (CO.n (k := 1) (se1_n hs) (by decide) rfl (ne_1 _ _ _) (CQ.newB hg ho C f (by decide)))))
  · exact ew_Kx (ew_out (fun x hx => nomatch hx) (hq _ _ (CO.n (k := 2) (se1_i hs hi) (by decide) rfl (ne_1 _ _ _) (CQ.newB hg ho C f (by decide)))))
  have hx := hi.to (n := nE N) (by omega)
  have C2 := C.setB f
  refine ew_Kr ?_
  refine ew_iload_n (pc := 5) dX1_latest_5 rfl ?_
  rw [hx.2]
  refine ew_cV1 (d' := 1) (pc := 6) vX1_231 C2.b.1 dX1_latest_6 (by decide) (ew_rm (Nat.le_of_ble_eq_true rfl)) ?_
  refine t_latestS C2.b hx.1 ?_
  rw [hf.at0 hx.1, ← hx.2]
  refine ew_Kr ?_
  refine ew_cS1 (d' := 0) (pc := 9) sX1_234 dX1_latest_9 (by decide) (ew_rm (Nat.le_of_ble_eq_true rfl)) ?_
  refine t_timeOf ?_
  refine ew_Kr ?_
  refine ew_iret (pc := 12) rfl dX1_latest_12 ?_
  exact hq _ _ (CO.y (se1_y hs hi) (CQ.B C f))
theorem c_slack {x : Int32} (hg : gOC g) (C : CV g h a ws N m pe ep fb ft ρ) (hq : ∀ o h', CO SI (se1 1 (cSb N) (bI (isIx (nE N) x))) (.int (sqSlack (nE N) (cSq N 0 (-1)) (ix x))) (CQ g a ws N m pe ep h) o h' → Q o h') : ew_T g kX1_slack 9 [.ref (a 0), .int x] h Q := by
  have hE := C.n.ok.e2
  refine ew_enter (by decide +kernel) (ew_a1 rfl (ew_a1 rfl ew_az)) (Nat.le_of_ble_eq_true rfl) ?_
  refine ew_ok (fun ho => ?_)
  refine ew_aload_n (pc := 0) dX1_slack_0 rfl ?_
  refine ew_iload_n (pc := 1) dX1_slack_1 rfl ?_
  refine ew_cV1 (d' := 8) (pc := 2) vX1_136 (rd_of C.o) dX1_slack_2 (by decide) (ew_rm (Nat.le_of_ble_eq_true rfl)) ?_
  refine t_soundWith1 C (fun hs f => ?_) (fun hs hi f => ?_) (fun hs hi f hf => ?_)
  · exact ew_Kx (ew_out (fun x hx => nomatch hx) (hq _ _ (CO.n (k := 1) (se1_n hs) (by decide) rfl (ne_1 _ _ _) (CQ.newB hg ho C f (by decide)))))
  · exact ew_Kx (ew_out (fun x hx => nomatch hx) (hq _ _ (CO.n (k := 2) (se1_i hs hi) (by decide) rfl (ne_1 _ _ _) (CQ.newB hg ho C f (by decide)))))
  have hx := hi.to (n := nE N) (by omega)
  have C2 := C.setB f
  refine ew_Kr ?_
  refine ew_iload_n (pc := 5) dX1_slack_5 rfl ?_
  rw [hx.2]
  refine ew_cV1 (d' := 3) (pc := 6) vX1_237 C2.b.1 dX1_slack_6 (by decide) (ew_rm (Nat.le_of_ble_eq_true rfl)) ?_
  refine t_slackS C2.b hx.1 ?_
  rw [sqSlack_ag hf hx.1, ← hx.2]
  refine ew_Kr ?_
  refine ew_iret (pc := 9) rfl dX1_slack_9 ?_
  exact hq _ _ (CO.y (se1_y hs hi) (CQ.B C f))
end
