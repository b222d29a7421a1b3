/-! EW: the component's text of a round -/
set_option maxRecDepth 100000
def frQ (L : List ed) (k : Nat) : Nat := match L[k]? with
  | none => 0
  | some e => e.1
def rwcL (nm : Nat → Int32) (L : List ed) : Nat → List Int32
  | 0 => []
  | k + 1 => rwcL nm L k ++ nmV nm (frQ L k) ++ wdC [45, 62]
theorem rwcL_len (nm : Nat → Int32) (L : List ed) : ∀ k, (rwcL nm L k).length ≤ 10 * k
  | 0 => Nat.le_refl 0
  | k + 1 => by
    have h1 := rwcL_len nm L k
    have h2 := nmV_len nm (frQ L k)
    have h3 : (wdC [45, 62]).length = 2 := wdL_len _ 2
    rw [rwcL, List.length_append, List.length_append, h3]
    omega
def rwT (N nm : Nat → Int32) : List Int32 := rwcL nm (roN N) (roN N).length ++ (if roN N = [] then wdC [115, 111, 117, 110, 100] else nmV nm (frQ (roN N) 0))
theorem rowC_mem {es : List ed} {b : Nat} {x : ed} : ∀ m a, x ∈ rowC es b m a → x ∈ es
  | 0, _, h => absurd h List.not_mem_nil
  | m + 1, a, h => by
    rw [rowC] at h
    split at h
    · exact absurd h List.not_mem_nil
    · rename_i e he
      rcases List.mem_cons.mp h with h9 | h9
      · rw [h9]; exact List.mem_of_find?_eq_some he
      · exact rowC_mem m _ h9
theorem roN_lt {N : Nat → Int32} (ok : okN N) {k : Nat} (hk : k < (roN N).length) : frQ (roN N) k < nE N := by
  have h1 : (roN N)[k]? = some (roN N)[k] := List.getElem?_eq_getElem hk
  have h2 : (roN N)[k] ∈ roN N := List.getElem_mem hk
  rw [frQ, h1]
  have h3 : ∀ x, x ∈ roN N → x ∈ eN N 0 (-1) := fun x hx => by
    rw [roN, roC] at hx
    split at hx
    · exact absurd hx List.not_mem_nil
    · exact rowC_mem _ _ hx
  exact ((eAll_ok ok).m _ (h3 _ h2)).1
section
variable {g : eg} {h : eh} {a : Nat → Nat} {ws : List Nat} {N : Nat → Int32} {m pe ep : Int32} {fb ft : Nat → Int32} {ρ : ru} {Q : Outcome → eh → Prop}
theorem c_writeRound {A4 : Nat} {nm : Nat → Int32} {sn vn : Nat → Nat} {tx0 : List Int32} (hg : gOC g) (hM : gOM g) (hc : gCS g) (hk : gK g "EventWindows" 392 [45, 62]) (hk2 : gK g "EventWindows" 397 [115, 111, 117, 110, 100]) (C : CV g h a ws N m pe ep fb ft ρ) (T : TS g h a ws N A4 nm sn vn) (S : SB h (a 4) A4 tx0)
    (hq : ∀ h', TQ g a ws N m pe ep A4 nm sn vn (rwT N nm) h h' → Q (.returned (some (.int (nI (rwT N nm).length)))) h') : ew_T g kX1_writeRound 26 [.ref (a 0)] h Q := by
  have ok := C.n.ok
  have hE10 := ok.e2
  have hlen := roN_len N
  obtain ⟨ka, hka, hstr⟩ := hk.str (by decide) (by decide)
  obtain ⟨kb, hkb, hstrb⟩ := hk2.str (by decide) (by decide)
  refine ew_enter (by decide +kernel) (ew_a1 rfl (ew_an (ew_an ew_az))) (Nat.le_of_ble_eq_true rfl) ?_
  refine ew_ok (fun ho => ?_)
  have s121 : ∀ h2 x2 k, k ≤ 50 → TW g h h2 a ws N m pe ep fb ft ρ A4 nm sn vn k (rwT N nm) → ∀ K, ew_G g kX1_writeRound 26 121 [.ref (a 0), .ref K, x2] [] h2 Q := by
    intro h2 x2 k hk9 W K
    obtain ⟨A2, fs, w3, w5, hqo⟩ := W.s
    refine ew_aload_n (pc := 121) dX1_writeRound_121 rfl ?_
    refine ew_getf (pc := 122) fX1_67 (rd_of W.1.o) rfl dX1_writeRound_122 ?_
    refine ew_cV0 (d' := 1) (pc := 125) vX1_390 (rd_of hqo) dX1_writeRound_125 (by decide) (ew_rm (Nat.le_of_ble_eq_true rfl)) ?_
    refine W.len ?_
    refine ew_Kr ?_
    refine ew_iret (pc := 128) rfl dX1_writeRound_128 ?_
    exact hq _ (W.fin (by omega))
  have loop : ∀ q k h2 K E' ys, k + q = (roN N).length → TW g h h2 a ws N m pe ep fb ft ρ A4 nm sn vn (2 * k) (rwcL nm (roN N) k) → StL g h2 K E' ys (roN N) → ew_G g kX1_writeRound 26 18 [.ref (a 0), .ref K, .int (nI k)] [] h2 Q := by
    intro q
    induction q with
    | zero =>
      intro k h2 K E' ys hk9 W S2
      have e9 : k = (roN N).length := by omega
      subst e9
      obtain ⟨mc, hK⟩ := S2.o
      obtain ⟨A2, fs, w3, w5, hqo⟩ := W.s
      obtain ⟨fn, m1, m2⟩ := W.nms
      have hz : (ys = []) ↔ (roN N = []) := by
        rw [← List.length_eq_zero_iff, ← List.length_eq_zero_iff, S2.2.1]
      have hll := rwcL_len nm (roN N) (roN N).length
      by_cases hn : roN N = []
      · have e8 : rwT N nm = rwcL nm (roN N) (roN N).length ++ wdC [115, 111, 117, 110, 100] := by rw [rwT, if_pos hn]
        refine ew_iload_n (pc := 18) dX1_writeRound_18 rfl ?_
        refine ew_aload_n (pc := 19) dX1_writeRound_19 rfl ?_
        refine ew_cF0 (d' := 0) (pc := 20) tX1_121_19 (rd_of hK) dX1_writeRound_20 (by decide) (ew_rm (Nat.le_of_ble_eq_true rfl)) ?_
        refine t_alSize S2.1 ?_
        rw [S2.2.1]
        refine ew_Kr ?_
        refine ew_icmp_ge (pc := 25) (tgt := 69) dX1_writeRound_25 (by decide) (fun c25 => ?_) (fun c25 => absurd (nI_le (Nat.le_refl _) (by omega)) c25)
        refine ew_aload_n (pc := 69) dX1_writeRound_69 rfl ?_
        refine ew_cF0 (d' := 0) (pc := 70) tX1_394_19 (rd_of hK) dX1_writeRound_70 (by decide) (ew_rm (Nat.le_of_ble_eq_true rfl)) ?_
        refine t_alEmpty S2.1 ?_
        refine ew_Kr ?_
        refine ew_if_eq (pc := 75) (tgt := 92) dX1_writeRound_75 (by decide) (fun c75 => absurd c75 (bI_n.mpr (hz.mpr hn))) (fun c75 => ?_)
        refine ew_aload_n (pc := 78) dX1_writeRound_78 rfl ?_
        refine ew_getf (pc := 79) fX1_67 (rd_of W.1.o) rfl dX1_writeRound_79 ?_
        refine ew_ldcSw (pc := 82) hkb dX1_writeRound_82 ?_
        refine ew_cV1 (d' := 19) (pc := 85) vX1_378 (rd_of hqo) dX1_writeRound_85 (by decide) (ew_rm (Nat.le_of_ble_eq_true rfl)) ?_
        refine W.wrd hc hg ho C T hstrb (by decide) (by decide) (by omega) (fun h3 W3 _ => ?_)
        rw [← e8] at W3
        refine ew_Kr ?_
        refine ew_pop (pc := 88) dX1_writeRound_88 rfl ?_
        refine ew_goto (pc := 89) (tgt := 121) dX1_writeRound_89 (by decide) ?_
        exact s121 h3 _ _ (by omega) W3 K
      · have h0 : 0 < (roN N).length := by
          rcases Nat.eq_zero_or_pos (roN N).length with h9 | h9
          · exact absurd (List.length_eq_zero_iff.mp h9) hn
          · exact h9
        have e8 : rwT N nm = rwcL nm (roN N) (roN N).length ++ nmV nm (frQ (roN N) 0) := by rw [rwT, if_neg hn]
        have hlt := roN_lt ok h0
        obtain ⟨x, hx, hxo⟩ := S2.x h0
        have hfr : frQ (roN N) 0 = (roN N)[0].1 := by rw [frQ, List.getElem?_eq_getElem h0]
        refine ew_iload_n (pc := 18) dX1_writeRound_18 rfl ?_
        refine ew_aload_n (pc := 19) dX1_writeRound_19 rfl ?_
        refine ew_cF0 (d' := 0) (pc := 20) tX1_121_19 (rd_of hK) dX1_writeRound_20 (by decide) (ew_rm (Nat.le_of_ble_eq_true rfl)) ?_
        refine t_alSize S2.1 ?_
        rw [S2.2.1]
        refine ew_Kr ?_
        refine ew_icmp_ge (pc := 25) (tgt := 69) dX1_writeRound_25 (by decide) (fun c25 => ?_) (fun c25 => absurd (nI_le (Nat.le_refl _) (by omega)) c25)
        refine ew_aload_n (pc := 69) dX1_writeRound_69 rfl ?_
        refine ew_cF0 (d' := 0) (pc := 70) tX1_394_19 (rd_of hK) dX1_writeRound_70 (by decide) (ew_rm (Nat.le_of_ble_eq_true rfl)) ?_
        refine t_alEmpty S2.1 ?_
        refine ew_Kr ?_
        refine ew_if_eq (pc := 75) (tgt := 92) dX1_writeRound_75 (by decide) (fun c75 => ?_) (fun c75 => absurd (bI_0.mpr (fun h9 => hn (hz.mp h9))) c75)
        refine ew_aload_n (pc := 92) dX1_writeRound_92 rfl ?_
        refine ew_getf (pc := 93) fX1_67 (rd_of W.1.o) rfl dX1_writeRound_93 ?_
        refine ew_aload_n (pc := 96) dX1_writeRound_96 rfl ?_
        refine ew_getf (pc := 97) fX1_84 (rd_of W.1.o) rfl dX1_writeRound_97 ?_
        refine ew_getf (pc := 100) fX1_185 (rd_of W.1.n.o) rfl dX1_writeRound_100 ?_
        refine ew_aload_n (pc := 103) dX1_writeRound_103 rfl ?_
        refine ew_iconst (pc := 104) (v := 0) dX1_writeRound_104 rfl ?_
        refine ew_cF1 (d' := 2) (pc := 105) tX1_126_19 (rd_of hK) dX1_writeRound_105 (by decide) (ew_rm (Nat.le_of_ble_eq_true rfl)) ?_
        refine t_alGet (i := 0) S2.1 hx ?_
        refine ew_Kr ?_
        refine ew_cast (pc := 110) rfl (rd_of hxo) (ew_q q1816) (Or.inl rfl) dX1_writeRound_110 ?_
        refine ew_getf (pc := 113) fX1_391 (rd_of hxo) rfl dX1_writeRound_113 ?_
        refine ew_aaJ (pc := 116) rfl m1 (j := frQ (roN N) 0) (by rw [hfr]) hlt (by omega) dX1_writeRound_116 ?_
        rw [m2 _ hlt]
        refine ew_cV1 (d' := 19) (pc := 117) vX1_378 (rd_of hqo) dX1_writeRound_117 (by decide) (ew_rm (Nat.le_of_ble_eq_true rfl)) ?_
        refine W.nme hc hg ho C T hlt (by omega) (fun h3 W3 _ => ?_)
        rw [← e8] at W3
        refine ew_Kr ?_
        refine ew_pop (pc := 120) dX1_writeRound_120 rfl ?_
        exact s121 h3 _ _ (by omega) W3 K
    | succ q ih =>
      intro k h2 K E' ys hk9 W S2
      have hkl : k < (roN N).length := by omega
      obtain ⟨mc, hK⟩ := S2.o
      obtain ⟨A2, fs, w3, w5, hqo⟩ := W.s
      obtain ⟨fn, m1, m2⟩ := W.nms
      have hll := rwcL_len nm (roN N) k
      have hnl := nmV_len nm (frQ (roN N) k)
      have hlt := roN_lt ok hkl
      obtain ⟨x, hx, hxo⟩ := S2.x hkl
      have hfr : frQ (roN N) k = (roN N)[k].1 := by rw [frQ, List.getElem?_eq_getElem hkl]
      refine ew_ok (fun ho2 => ?_)
      refine ew_iload_n (pc := 18) dX1_writeRound_18 rfl ?_
      refine ew_aload_n (pc := 19) dX1_writeRound_19 rfl ?_
      refine ew_cF0 (d' := 0) (pc := 20) tX1_121_19 (rd_of hK) dX1_writeRound_20 (by decide) (ew_rm (Nat.le_of_ble_eq_true rfl)) ?_
      refine t_alSize S2.1 ?_
      rw [S2.2.1]
      refine ew_Kr ?_
      refine ew_icmp_ge (pc := 25) (tgt := 69) dX1_writeRound_25 (by decide) (fun c25 => absurd c25 (nI_ge hkl (by omega))) (fun c25 => ?_)
      refine ew_aload_n (pc := 28) dX1_writeRound_28 rfl ?_
      refine ew_getf (pc := 29) fX1_67 (rd_of W.1.o) rfl dX1_writeRound_29 ?_
      refine ew_aload_n (pc := 32) dX1_writeRound_32 rfl ?_
      refine ew_getf (pc := 33) fX1_84 (rd_of W.1.o) rfl dX1_writeRound_33 ?_
      refine ew_getf (pc := 36) fX1_185 (rd_of W.1.n.o) rfl dX1_writeRound_36 ?_
      refine ew_aload_n (pc := 39) dX1_writeRound_39 rfl ?_
      refine ew_iload_n (pc := 40) dX1_writeRound_40 rfl ?_
      refine ew_cF1 (d' := 2) (pc := 41) tX1_126_19 (rd_of hK) dX1_writeRound_41 (by decide) (ew_rm (Nat.le_of_ble_eq_true rfl)) ?_
      refine t_alGet (i := k) S2.1 hx ?_
      refine ew_Kr ?_
      refine ew_cast (pc := 46) rfl (rd_of hxo) (ew_q q1816) (Or.inl rfl) dX1_writeRound_46 ?_
      refine ew_getf (pc := 49) fX1_391 (rd_of hxo) rfl dX1_writeRound_49 ?_
      refine ew_aaJ (pc := 52) rfl m1 (j := frQ (roN N) k) (by rw [hfr]) hlt (by omega) dX1_writeRound_52 ?_
      rw [m2 _ hlt]
      refine ew_cV1 (d' := 19) (pc := 53) vX1_378 (rd_of hqo) dX1_writeRound_53 (by decide) (ew_rm (Nat.le_of_ble_eq_true rfl)) ?_
      refine W.nme hc hg ho C T hlt (by omega) (fun h3 W3 sb3 => ?_)
      have S3 := S2.sb hg ho2 sb3
      obtain ⟨A3, fs3, x3, x5, hq3⟩ := W3.s
      refine ew_Kr ?_
      refine ew_ok (fun ho3 => ?_)
      refine ew_ldcSw (pc := 56) hka dX1_writeRound_56 ?_
      refine ew_cV1 (d' := 19) (pc := 59) vX1_378 (rd_of hq3) dX1_writeRound_59 (by decide) (ew_rm (Nat.le_of_ble_eq_true rfl)) ?_
      refine W3.wrd hc hg ho C T hstr (by decide) (by decide) (by rw [List.length_append]; omega) (fun h4 W4 sb4 => ?_)
      have S4 := S3.sb hg ho3 sb4
      refine ew_Kr ?_
      refine ew_pop (pc := 62) dX1_writeRound_62 rfl ?_
      refine ew_iinc (pc := 63) dX1_writeRound_63 rfl (nI_inc k) (by decide) (p1_2 rfl) ?_
      refine ew_goto (pc := 66) (tgt := 18) dX1_writeRound_66 (by decide) ?_
      exact ih (k + 1) h4 K E' ys (by omega) W4 S4
  refine ew_aload_n (pc := 0) dX1_writeRound_0 rfl ?_
  refine ew_cV0 (d' := 6) (pc := 1) vX1_106 (rd_of C.o) dX1_writeRound_1 (by decide) (ew_rm (Nat.le_of_ble_eq_true rfl)) ?_
  refine t_there C ?_
  refine ew_Kr ?_
  refine ew_cS1 (d' := 22) (pc := 4) sX1_215 dX1_writeRound_4 (by decide) (ew_rm (Nat.le_of_ble_eq_true rfl)) ?_
  refine t_round1 hg hM C.n (fun h1 K E' ys S1 k1 => ?_)
  refine ew_Kr ?_
  refine ew_ok (fun ho1 => ?_)
  have C1 := C.ke k1 hg ho
  have k2 : Ke (rgA a) 200 18000 h h1 := k1.w (fun b h9 => absurd h9 List.not_mem_nil) (Nat.le_refl _) (Nat.le_refl _)
  obtain ⟨fs1, hq1⟩ := (SB.q ho T S k2).o
  first | refine ew_astore_n (pc := 7) dX1_writeRound_7 rfl (by decide) (p1_1 rfl) ?_ | refine ew_astore_nq (pc := 7) dX1_writeRound_7 rfl (by decide) (p1_1 rfl) ?_ | refine ew_astore_nN (pc := 7) dX1_writeRound_7 rfl (by decide) (p1_1 rfl) ?_
  refine ew_aload_n (pc := 8) dX1_writeRound_8 rfl ?_
  refine ew_getf (pc := 9) fX1_67 (rd_of C1.o) rfl dX1_writeRound_9 ?_
  refine ew_iconst (pc := 12) (v := 0) dX1_writeRound_12 rfl ?_
  refine ew_cV1 (d' := 25) (pc := 13) vX1_375 (rd_of hq1) dX1_writeRound_13 (by decide) (ew_rm (Nat.le_of_ble_eq_true rfl)) ?_
  refine TW.clr hg ho C T S C1 k2 (by decide) (by decide) (fun h2 W2 k3 => ?_)
  have S2 := S1.clr hg ho1 hq1 k3
  refine ew_Kv ?_
  refine ew_iconst (pc := 16) (v := 0) dX1_writeRound_16 rfl ?_
  refine ew_istore_n (pc := 17) dX1_writeRound_17 rfl (by decide) (p1_2 rfl) ?_
  exact loop (roN N).length 0 h2 K E' ys (by omega) W2 S2
end
