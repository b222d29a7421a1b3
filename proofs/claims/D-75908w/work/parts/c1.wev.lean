/-! EW: the component's text of an event -/
set_option maxRecDepth 100000
section
variable {g : eg} {h : eh} {a : Nat → Nat} {ws : List Nat} {N : Nat → Int32} {m pe ep : Int32} {fb ft : Nat → Int32} {ρ : ru} {Q : Outcome → eh → Prop}
theorem c_textByte {p q A : Nat} {v0 v1 v2 v3 v4 v5 v6 v8 v9 v10 : Value} {tx : List Int32} {y : Int32} (hg2 : gSF g) (h1 : h.1 p = some (ob 0 [v0, v1, v2, v3, v4, v5, v6, .ref q, v8, v9, v10])) (S : SB h q A tx) (hl : tx.length < 2 ^ 31)
    (h0 : ¬ isIx tx.length y → Q (.threw h.2.1) (eh_new h (ob 25 []) 6)) (hq : isIx tx.length y → ∀ x, tx[ix y]? = some x → Q (.returned (some (.int x))) h) : ew_T g kX1_textByte 6 [.ref p, .int y] h Q := by
  obtain ⟨fs, hqo⟩ := S.o
  refine ew_enter (by decide +kernel) (ew_a1 rfl (ew_a1 rfl ew_az)) (Nat.le_of_ble_eq_true rfl) ?_
  refine ew_iload_n (pc := 0) dX1_textByte_0 rfl ?_
  refine ew_aload_n (pc := 1) dX1_textByte_1 rfl ?_
  refine ew_getf (pc := 2) fX1_67 (rd_of h1) rfl dX1_textByte_2 ?_
  refine ew_cV0 (d' := 1) (pc := 5) vX1_390 (rd_of hqo) dX1_textByte_5 (by decide) (ew_rm (Nat.le_of_ble_eq_true rfl)) ?_
  refine t_sbLen S ?_
  refine ew_Kr ?_
  refine ew_cS2 (d' := 5) (pc := 8) sX1_113 dX1_textByte_8 (by decide) (ew_rm (Nat.le_of_ble_eq_true rfl)) ?_
  refine t_chkI (fun h9 => ?_) (fun h9 => ?_)
  · exact ew_Kx (ew_out (fun x hx => nomatch hx) (h0 h9))
  have hy : ix y < tx.length ∧ y = nI (ix y) := by
    obtain ⟨j, hj, hja⟩ := (isIx_iff hl).mp h9
    rw [hja, ix_nI (by omega)]
    exact ⟨hj, rfl⟩
  have hx := List.getElem?_eq_getElem hy.1
  refine ew_Kv ?_
  refine ew_aload_n (pc := 11) dX1_textByte_11 rfl ?_
  refine ew_getf (pc := 12) fX1_67 (rd_of h1) rfl dX1_textByte_12 ?_
  refine ew_iload_n (pc := 15) dX1_textByte_15 rfl ?_
  refine ew_cV1 (d' := 3) (pc := 16) vX1_404 (rd_of hqo) dX1_textByte_16 (by decide) (ew_rm (Nat.le_of_ble_eq_true rfl)) ?_
  rw [hy.2]
  refine t_sbChar hg2 S hx ?_
  refine ew_Kr ?_
  refine ew_iret (pc := 19) rfl dX1_textByte_19 ?_
  exact hq h9 _ hx
/-- bounds are times -/
def CEX (N : Nat → Int32) : Prop := cSo N 0 (-1) → ∀ e, e < nE N → 0 ≤ -cSq N 0 (-1) (nE N * e) ∧ (cSq N 0 (-1) e = 100000000 ∨ 0 ≤ cSq N 0 (-1) e)
def evC (N nm : Nat → Int32) (e : Nat) : List Int32 := nmV nm e ++ [nI 32] ++ dgV (ix (-cSq N 0 (-1) (nE N * e))) ++ wdC [46, 46] ++ (if cSq N 0 (-1) e = 100000000 then [nI 42] else dgV (ix (cSq N 0 (-1) e))) ++ (if N (146 + e) = -1 then [] else [nI 33])
theorem c_writeEvent {x : Int32} {A4 : Nat} {nm : Nat → Int32} {sn vn : Nat → Nat} {tx0 : List Int32} (hg : gOC g) (hc : gCS g) (hd : gDG g) (hk : gK g "EventWindows" 388 [46, 46]) (hE : CEX N) (C : CV g h a ws N m pe ep fb ft ρ) (T : TS g h a ws N A4 nm sn vn) (S : SB h (a 4) A4 tx0)
    (h0 : ¬ se1 1 (cSb N) (bI (isIx (nE N) x)) = 0 → ∀ h' y, CQ g a ws N m pe ep h h' → h'.1 y = some (ob (SI (se1 1 (cSb N) (bI (isIx (nE N) x)))) []) → Q (.threw y) h')
    (hq : se1 1 (cSb N) (bI (isIx (nE N) x)) = 0 → ∀ h', TQ g a ws N m pe ep A4 nm sn vn (evC N nm (ix x)) h h' → Q (.returned (some (.int (nI (evC N nm (ix x)).length)))) h') : ew_T g kX1_writeEvent 26 [.ref (a 0), .int x] h Q := by
  have hE10 := C.n.ok.e2
  obtain ⟨ka, hka, hstr⟩ := hk.str (by decide) (by decide)
  refine ew_enter (by decide +kernel) (ew_a1 rfl (ew_a1 rfl (ew_an ew_az))) (Nat.le_of_ble_eq_true rfl) ?_
  refine ew_ok (fun ho => ?_)
  have s105 : ∀ h2 f k tx, cSo N 0 (-1) → isIx (nE N) x → tx = evC N nm (ix x) → k ≤ 60 → TW g h h2 a ws N m pe ep f ft ρ A4 nm sn vn k tx → ew_G g kX1_writeEvent 26 105 [.ref (a 0), .int x, .ref (a 5)] [] h2 Q := by
    intro h2 f k tx hs hi htx hk9 W
    have F := W.fin hk9
    obtain ⟨w1, w2, ⟨A2, w3, w5⟩, w4⟩ := W
    obtain ⟨fs, hqo⟩ := w3.o
    refine ew_aload_n (pc := 105) dX1_writeEvent_105 rfl ?_
    refine ew_getf (pc := 106) fX1_67 (rd_of w1.o) rfl dX1_writeEvent_106 ?_
    refine ew_cV0 (d' := 1) (pc := 109) vX1_390 (rd_of hqo) dX1_writeEvent_109 (by decide) (ew_rm (Nat.le_of_ble_eq_true rfl)) ?_
    refine t_sbLen w3 ?_
    refine ew_Kr ?_
    refine ew_iret (pc := 112) rfl dX1_writeEvent_112 ?_
    rw [htx] at F ⊢
    exact hq (se1_y hs hi) _ F
  have s84 : ∀ h2 f k tx, cSo N 0 (-1) → isIx (nE N) x → k ≤ 50 → tx.length ≤ 50 → tx ++ (if N (146 + ix x) = -1 then [] else [nI 33]) = evC N nm (ix x) → TW g h h2 a ws N m pe ep f ft ρ A4 nm sn vn k tx → ew_G g kX1_writeEvent 26 84 [.ref (a 0), .int x, .ref (a 5)] [] h2 Q := by
    intro h2 f k tx hs hi hk9 hl htx W
    have hx := hi.to (n := nE N) (by omega)
    have W2 := W
    obtain ⟨w1, w2, ⟨A2, w3, w5⟩, w4⟩ := W2
    obtain ⟨fs, hqo⟩ := w3.o
    refine ew_ok (fun ho2 => ?_)
    rw [hx.2]
    refine ew_aload_n (pc := 84) dX1_writeEvent_84 rfl ?_
    refine ew_getf (pc := 85) fX1_84 (rd_of w1.o) rfl dX1_writeEvent_85 ?_
    refine ew_iload_n (pc := 88) dX1_writeEvent_88 rfl ?_
    refine ew_cV1 (d' := 0) (pc := 89) vX1_369 (rd_of w1.n.o) dX1_writeEvent_89 (by decide) (ew_rm (Nat.le_of_ble_eq_true rfl)) ?_
    refine t_nFree w1.n hx.1 ?_
    refine ew_Kr ?_
    refine ew_if_ne (pc := 92) (tgt := 105) dX1_writeEvent_92 (by decide) (fun c92 => ?_) (fun c92 => ?_)
    · rw [← hx.2]
      first
      | have h9 := bI_0.mp c92
        rw [if_neg h9] at htx
        exact s105 h3 f (k + 1) _ hs hi htx (by omega) W3
      | have h9 := bI_n.mp c92
        rw [if_pos h9, List.append_nil] at htx
        exact s105 h2 f k _ hs hi htx (by omega) W
    · refine ew_aload_n (pc := 95) dX1_writeEvent_95 rfl ?_
      refine ew_getf (pc := 96) fX1_67 (rd_of w1.o) rfl dX1_writeEvent_96 ?_
      refine ew_bipush (pc := 99) (v := 33) dX1_writeEvent_99 rfl ?_
      refine ew_cV1 (d' := 18) (pc := 101) vX1_382 (rd_of hqo) dX1_writeEvent_101 (by decide) (ew_rm (Nat.le_of_ble_eq_true rfl)) ?_
      refine t_sbAppC (c := 33) hc w3 (by decide) (by omega) (fun h3 q3 => ?_)
      have W3 := W.app hg ho ho2 C T w5 q3
      refine ew_Kr ?_
      refine ew_pop (pc := 104) dX1_writeEvent_104 rfl ?_
      rw [← hx.2]
      first
      | have h9 := bI_0.mp c92
        rw [if_neg h9] at htx
        exact s105 h3 f (k + 1) _ hs hi htx (by omega) W3
      | have h9 := bI_n.mp c92
        rw [if_pos h9, List.append_nil] at htx
        exact s105 h2 f k _ hs hi htx (by omega) W
  have s58 : ∀ h2 f k tx, cSo N 0 (-1) → isIx (nE N) x → agN (nE N) f (cSq N 0 (-1)) → k ≤ 40 → tx.length ≤ 30 → tx ++ (if cSq N 0 (-1) (ix x) = 100000000 then [nI 42] else dgV (ix (cSq N 0 (-1) (ix x)))) ++ (if N (146 + ix x) = -1 then [] else [nI 33]) = evC N nm (ix x) → TW g h h2 a ws N m pe ep f ft ρ A4 nm sn vn k tx → ew_G g kX1_writeEvent 26 50 [.ref (a 0), .int x, .ref (a 5)] [] h2 Q := by
    intro h2 f k tx hs hi hf hk9 hl htx W
    have hx := hi.to (n := nE N) (by omega)
    have fe : f (ix x) = cSq N 0 (-1) (ix x) := by
      have h9 := hf.at (a := 0) (b := ix x) (by omega) hx.1
      rw [Nat.mul_zero, Nat.zero_add] at h9
      exact h9
    obtain ⟨A2, fs, w3, w5, hqo⟩ := W.s
    have w1 := W.1
    have hdl := fun v => dg_len 12 v
    refine ew_ok (fun ho2 => ?_)
    rw [hx.2]
    refine ew_aload_n (pc := 50) dX1_writeEvent_50 rfl ?_
    refine ew_iload_n (pc := 51) dX1_writeEvent_51 rfl ?_
    refine ew_cV1 (d' := 2) (pc := 52) vX1_273 w1.b.1 dX1_writeEvent_52 (by decide) (ew_rm (Nat.le_of_ble_eq_true rfl)) ?_
    refine t_hasLatest w1.b hx.1 (fun r hr => ?_)
    rw [fe] at hr
    refine ew_Kr ?_
    refine ew_if_eq (pc := 55) (tgt := 74) dX1_writeEvent_55 (by decide) (fun c55 => ?_) (fun c55 => ?_)
    · refine ew_aload_n (pc := 74) dX1_writeEvent_74 rfl ?_
      refine ew_getf (pc := 75) fX1_67 (rd_of w1.o) rfl dX1_writeEvent_75 ?_
      refine ew_bipush (pc := 78) (v := 42) dX1_writeEvent_78 rfl ?_
      refine ew_cV1 (d' := 18) (pc := 80) vX1_382 (rd_of hqo) dX1_writeEvent_80 (by decide) (ew_rm (Nat.le_of_ble_eq_true rfl)) ?_
      refine t_sbAppC (c := 42) hc w3 (by decide) (by omega) (fun h3 q3 => ?_)
      have W3 := W.app hg ho ho2 C T w5 q3
      refine ew_Kr ?_
      refine ew_pop (pc := 83) dX1_writeEvent_83 rfl ?_
      rw [← hx.2]
      first
      | rw [if_neg hfin, hle, ix_nI hlj] at htx
        exact s84 h3 f (k + 1) _ hs hi (by omega) (by have := hdl lj; rw [List.length_append]; unfold dgV; omega) htx W3
      | have hinf : cSq N 0 (-1) (ix x) = 100000000 := hr.elim (fun h8 => absurd c55 (by rw [h8.1]; decide)) (fun h8 => h8.2)
        rw [if_pos hinf] at htx
        exact s84 h3 f (k + 1) _ hs hi (by omega) (by rw [List.length_append, List.length_singleton]; omega) htx W3
    · refine ew_aload_n (pc := 58) dX1_writeEvent_58 rfl ?_
      refine ew_getf (pc := 59) fX1_67 (rd_of w1.o) rfl dX1_writeEvent_59 ?_
      refine ew_aload_n (pc := 62) dX1_writeEvent_62 rfl ?_
      refine ew_iload_n (pc := 63) dX1_writeEvent_63 rfl ?_
      refine ew_cV1 (d' := 1) (pc := 64) vX1_231 w1.b.1 dX1_writeEvent_64 (by decide) (ew_rm (Nat.le_of_ble_eq_true rfl)) ?_
      refine t_latestS w1.b hx.1 ?_
      rw [fe]
      have hfin : ¬ cSq N 0 (-1) (ix x) = 100000000 := hr.elim (fun h8 => h8.2) (fun h8 => absurd h8.1 c55)
      obtain ⟨lj, hlj, hle⟩ := nI_of (Int32.not_lt.mpr ((hE hs (ix x) hx.1).2.resolve_left hfin))
      rw [hle]
      refine ew_Kr ?_
      refine ew_cV1 (d' := 18) (pc := 67) vX1_385 (rd_of hqo) dX1_writeEvent_67 (by decide) (ew_rm (Nat.le_of_ble_eq_true rfl)) ?_
      refine t_sbAppI hc hd w3 hlj (by omega) (fun h3 q3 => ?_)
      have W3 := W.app hg ho ho2 C T w5 q3
      refine ew_Kr ?_
      refine ew_pop (pc := 70) dX1_writeEvent_70 rfl ?_
      refine ew_goto (pc := 71) (tgt := 84) dX1_writeEvent_71 (by decide) ?_
      rw [← hx.2]
      first
      | rw [if_neg hfin, hle, ix_nI hlj] at htx
        exact s84 h3 f (k + 1) _ hs hi (by omega) (by have := hdl lj; rw [List.length_append]; unfold dgV; omega) htx W3
      | have hinf : cSq N 0 (-1) (ix x) = 100000000 := hr.elim (fun h8 => absurd c55 (by rw [h8.1]; decide)) (fun h8 => h8.2)
        rw [if_pos hinf] at htx
        exact s84 h3 f (k + 1) _ hs hi (by omega) (by rw [List.length_append, List.length_singleton]; omega) htx W3
  by_cases hz : se1 1 (cSb N) (bI (isIx (nE N) x)) = 0
  · have hp := se1_0.mp hz
    have hs := cSb_iff.mp hp.2.1
    have hi := bI_n.mp hp.2.2
    have hx := hi.to (n := nE N) (by omega)
    have he := (hE hs (ix x) hx.1).1
    obtain ⟨ej, hej, hee⟩ := nI_of (Int32.not_lt.mpr he)
    have hdl := dg_len 12 ej
    have hnl := nmV_len nm (ix x)
    have h11 : ∀ k, k < 2 → ∃ c : Nat, c < 128 ∧ nI (([46, 46] : List Nat).getD k 0) = nI c := fun k hk => ⟨46, by decide, by rcases (by omega : k = 0 ∨ k = 1) with rfl | rfl <;> rfl⟩
    refine ew_aload_n (pc := 0) dX1_writeEvent_0 rfl ?_
    refine ew_iload_n (pc := 1) dX1_writeEvent_1 rfl ?_
    refine ew_cV1 (d' := 8) (pc := 2) vX1_136 (rd_of C.o) dX1_writeEvent_2 (by decide) (ew_rm (Nat.le_of_ble_eq_true rfl)) ?_
    refine t_soundWith1 C (fun h9 => absurd hs h9) (fun _ h9 => absurd hi h9) (fun _ _ f hf => ?_)
    refine ew_Kr ?_
    refine ew_ok (fun ho1 => ?_)
    have C1 := C.setB f
    have S1 := SB.q ho T S (keB (e := aI (nE N * nE N) f))
    obtain ⟨fs1, hq1⟩ := S1.o
    have fe : f (nE N * ix x) = cSq N 0 (-1) (nE N * ix x) := hf.at (a := ix x) (b := 0) hx.1 (by omega)
    first | refine ew_astore_n (pc := 5) dX1_writeEvent_5 rfl (by decide) (p1_2 rfl) ?_ | refine ew_astore_nq (pc := 5) dX1_writeEvent_5 rfl (by decide) (p1_2 rfl) ?_ | refine ew_astore_nN (pc := 5) dX1_writeEvent_5 rfl (by decide) (p1_2 rfl) ?_
    refine ew_aload_n (pc := 6) dX1_writeEvent_6 rfl ?_
    refine ew_getf (pc := 7) fX1_67 (rd_of C1.o) rfl dX1_writeEvent_7 ?_
    refine ew_iconst (pc := 10) (v := 0) dX1_writeEvent_10 rfl ?_
    refine ew_cV1 (d' := 25) (pc := 11) vX1_375 (rd_of hq1) dX1_writeEvent_11 (by decide) (ew_rm (Nat.le_of_ble_eq_true rfl)) ?_
    refine t_sbSet0 S1 (fun h2 S2 k2 => ?_)
    refine ew_Kv ?_
    refine ew_ok (fun ho2 => ?_)
    have W0 := TW.start hg ho ho1 C T S C1 keB (by decide) (by decide) S2 k2
    obtain ⟨A2, fs2, w3, w5, hq2⟩ := W0.s
    have w1 := W0.1
    have M2 := W0.2.1
    have M3 := M2
    obtain ⟨⟨fn, m1, m2⟩, -⟩ := M3
    obtain ⟨fx, hsx, hfx⟩ := M2.str hx.1
    refine ew_aload_n (pc := 14) dX1_writeEvent_14 rfl ?_
    refine ew_getf (pc := 15) fX1_67 (rd_of w1.o) rfl dX1_writeEvent_15 ?_
    refine ew_aload_n (pc := 18) dX1_writeEvent_18 rfl ?_
    refine ew_getf (pc := 19) fX1_84 (rd_of w1.o) rfl dX1_writeEvent_19 ?_
    refine ew_getf (pc := 22) fX1_185 (rd_of w1.n.o) rfl dX1_writeEvent_22 ?_
    refine ew_iload_n (pc := 25) dX1_writeEvent_25 rfl ?_
    refine ew_aaJ (pc := 26) rfl m1 (j := ix x) hx.2 hx.1 (by omega) dX1_writeEvent_26 ?_
    rw [m2 _ hx.1]
    refine ew_cV1 (d' := 19) (pc := 27) vX1_378 (rd_of hq2) dX1_writeEvent_27 (by decide) (ew_rm (Nat.le_of_ble_eq_true rfl)) ?_
    refine t_sbAppS hc hg w3 hsx (by rw [List.length_nil]; have := ltV_le nm (ix x); omega) (fun h3 q3 => ?_)
    rw [tx1_nm hfx] at q3
    have W1 := W0.app hg ho ho2 C T w5 q3
    obtain ⟨A3, fs3, x3, x5, hq3⟩ := W1.s
    refine ew_Kr ?_
    refine ew_ok (fun ho3 => ?_)
    refine ew_bipush (pc := 30) (v := 32) dX1_writeEvent_30 rfl ?_
    refine ew_cV1 (d' := 18) (pc := 32) vX1_382 (rd_of hq3) dX1_writeEvent_32 (by decide) (ew_rm (Nat.le_of_ble_eq_true rfl)) ?_
    refine t_sbAppC (c := 32) hc x3 (by decide) (by simp only [List.length_append, List.length_nil, nmL_len]; have := ltV_le nm (ix x); omega) (fun h4 q4 => ?_)
    have W2 := W1.app hg ho ho3 C T x5 q4
    obtain ⟨A4', fs4, y3, y5, hq4⟩ := W2.s
    refine ew_Kr ?_
    refine ew_ok (fun ho4 => ?_)
    rw [hx.2]
    refine ew_aload_n (pc := 35) dX1_writeEvent_35 rfl ?_
    refine ew_iload_n (pc := 36) dX1_writeEvent_36 rfl ?_
    refine ew_cV1 (d' := 1) (pc := 37) vX1_228 W2.1.b.1 dX1_writeEvent_37 (by decide) (ew_rm (Nat.le_of_ble_eq_true rfl)) ?_
    refine t_earliestS W2.1.b hx.1 ?_
    rw [fe, hee]
    refine ew_Kr ?_
    refine ew_cV1 (d' := 18) (pc := 40) vX1_385 (rd_of hq4) dX1_writeEvent_40 (by decide) (ew_rm (Nat.le_of_ble_eq_true rfl)) ?_
    refine t_sbAppI hc hd y3 hej (by simp only [List.length_append, List.length_nil, List.length_singleton, nmL_len]; have := ltV_le nm (ix x); omega) (fun h5 q5 => ?_)
    have W3 := W2.app hg ho ho4 C T y5 q5
    obtain ⟨A5, fs5, z3, z5, hq5⟩ := W3.s
    refine ew_Kr ?_
    refine ew_ok (fun ho5 => ?_)
    refine ew_ldcSw (pc := 43) hka dX1_writeEvent_43 ?_
    refine ew_cV1 (d' := 19) (pc := 46) vX1_378 (rd_of hq5) dX1_writeEvent_46 (by decide) (ew_rm (Nat.le_of_ble_eq_true rfl)) ?_
    refine t_sbAppS hc hg z3 (hstr _ ho5) (by simp only [List.length_append, List.length_nil, List.length_singleton, nmL_len, dgV, List.length_cons]; have := ltV_le nm (ix x); omega) (fun h6 q6 => ?_)
    have W4 := W3.app hg ho ho5 C T z5 q6
    have et : tx1 (fun i => nI (([46, 46] : List Nat).getD i 0)) ([46, 46] : List Nat).length = wdC [46, 46] := tx1_wd h11
    rw [et] at W4
    refine ew_Kr ?_
    refine ew_pop (pc := 49) dX1_writeEvent_49 rfl ?_
    rw [← hx.2]
    refine s58 h6 f 4 _ hs hi hf (by decide) ?_ ?_ W4
    · simp only [List.length_append, List.length_nil, List.length_singleton, nmL_len, dgV, wdC, wdL_len, List.length_cons]; have := ltV_le nm (ix x); omega
    · rw [evC, hee, ix_nI hej]
      rfl
  · have hn := h0 hz
    skip
    refine ew_aload_n (pc := 0) dX1_writeEvent_0 rfl ?_
    refine ew_iload_n (pc := 1) dX1_writeEvent_1 rfl ?_
    refine ew_cV1 (d' := 8) (pc := 2) vX1_136 (rd_of C.o) dX1_writeEvent_2 (by decide) (ew_rm (Nat.le_of_ble_eq_true rfl)) ?_
    refine t_soundWith1 C (fun hs f => ?_) (fun hs hi f => ?_) (fun hs hi f hf => absurd (se1_y hs hi) hz)
    · exact ew_Kx (ew_out (fun x hx => nomatch hx) (hn _ _ (CQ.newB hg ho C f (by decide)) (by rw [se1_n hs]; exact ne_1 _ _ _)))
    exact ew_Kx (ew_out (fun x hx => nomatch hx) (hn _ _ (CQ.newB hg ho C f (by decide)) (by rw [se1_i hs hi]; exact ne_1 _ _ _)))
end
