/-! EW: the component's answers on rounds, on what is needed -/
set_option maxRecDepth 100000
/-- what is left of 0 behind the first k steps -/
def lkC (es : List ed) : Nat → Int32
  | 0 => 0
  | k + 1 => lkC es k - (match es[k]? with
    | none => 0
    | some e => e.2.2.1)
section
variable {g : eg} {h : eh} {a : Nat → Nat} {ws : List Nat} {N : Nat → Int32} {m pe ep : Int32} {fb ft : Nat → Int32} {ρ : ru} {Q : Outcome → eh → Prop}
abbrev roN (N : Nat → Int32) : List ed := roC (nE N) (eN N 0 (-1))
theorem rowC_len (es : List ed) (b : Nat) : ∀ m a, (rowC es b m a).length ≤ m
  | 0, _ => Nat.le_refl 0
  | m + 1, a => by
    rw [rowC]
    split
    · exact Nat.zero_le _
    · rename_i e _
      have := rowC_len es b m e.2.1
      rw [List.length_cons]
      omega
theorem roN_len (N : Nat → Int32) : (roN N).length ≤ nE N + 1 := by
  have hs := rdC_s (nE N) (eN N 0 (-1)) (nE N)
  rw [roN, roC]
  split
  · exact Nat.zero_le _
  · exact Nat.le_trans (rowC_len _ _ _ _) hs.1
theorem StL.x {K E i : Nat} {ys : List Nat} {es : List ed} (S : StL g h K E ys es) (hi : i < es.length) : ∃ x, ys[i]? = some x ∧ h.1 x = some (eO es[i]) :=
  ⟨_, List.getElem?_eq_getElem (by rw [S.2.1]; exact hi), S.2.2 i _ _ (List.getElem?_eq_getElem (by rw [S.2.1]; exact hi)) (List.getElem?_eq_getElem hi)⟩
theorem StL.o {K E : Nat} {ys : List Nat} {es : List ed} (S : StL g h K E ys es) : ∃ mc, h.1 K = some (ob 19 [.int mc, .ref E, .int (nI ys.length)]) := S.1.elim fun mc h1 => h1.elim fun cap h2 => h2.elim fun f h3 => ⟨mc, h3.1⟩
theorem c_roundLength (hg : gOC g) (hM : gOM g) (C : CV g h a ws N m pe ep fb ft ρ) (hq : ∀ o h', CO SI 0 (.int (nI (roN N).length)) (CQ g a ws N m pe ep h) o h' → Q o h') : ew_T g kX1_roundLength 23 [.ref (a 0)] h Q := by
  refine ew_enter (by decide +kernel) (ew_a1 rfl ew_az) (Nat.le_of_ble_eq_true rfl) ?_
  refine ew_ok (fun ho => ?_)
  refine ew_aload_n (pc := 0) dX1_roundLength_0 rfl ?_
  refine ew_cV0 (d' := 6) (pc := 1) vX1_106 (rd_of C.o) dX1_roundLength_1 (by decide) (ew_rm (Nat.le_of_ble_eq_true rfl)) ?_
  refine t_there C ?_
  refine ew_Kr ?_
  refine ew_cS1 (d' := 22) (pc := 4) sX1_215 dX1_roundLength_4 (by decide) (ew_rm (Nat.le_of_ble_eq_true rfl)) ?_
  refine t_round1 hg hM C.n (fun h2 K E' ys S k => ?_)
  obtain ⟨mc, hK⟩ := S.o
  refine ew_Kr ?_
  refine ew_cF0 (d' := 0) (pc := 7) tX1_121_19 (rd_of hK) dX1_roundLength_7 (by decide) (ew_rm (Nat.le_of_ble_eq_true rfl)) ?_
  refine t_alSize S.1 ?_
  rw [S.2.1]
  refine ew_Kr ?_
  refine ew_iret (pc := 12) rfl dX1_roundLength_12 ?_
  exact hq _ _ (CO.y rfl (CQ.ke hg ho C k (by decide) (by decide)))
theorem c_roundStep {x : Int32} (hg : gOC g) (hM : gOM g) (C : CV g h a ws N m pe ep fb ft ρ) (hq : ∀ o h', CO SI (as1 1 (bI (isIx (roN N).length x))) (.int (lcode (roN N) (ix x))) (CQ g a ws N m pe ep h) o h' → Q o h') : ew_T g kX1_roundStep 23 [.ref (a 0), .int x] h Q := by
  have hl := roN_len N
  have hE := C.n.ok.e2
  refine ew_enter (by decide +kernel) (ew_a1 rfl (ew_a1 rfl (ew_an ew_az))) (Nat.le_of_ble_eq_true rfl) ?_
  refine ew_ok (fun ho => ?_)
  by_cases hi : isIx (roN N).length x
  · have hx := hi.to (by omega)
    rw [hx.2]
    refine ew_aload_n (pc := 0) dX1_roundStep_0 rfl ?_
    refine ew_cV0 (d' := 6) (pc := 1) vX1_106 (rd_of C.o) dX1_roundStep_1 (by decide) (ew_rm (Nat.le_of_ble_eq_true rfl)) ?_
    refine t_there C ?_
    refine ew_Kr ?_
    refine ew_cS1 (d' := 22) (pc := 4) sX1_215 dX1_roundStep_4 (by decide) (ew_rm (Nat.le_of_ble_eq_true rfl)) ?_
    refine t_round1 hg hM C.n (fun h2 K E' ys S k => ?_)
    obtain ⟨mc, hK⟩ := S.o
    obtain ⟨y, hy, hyo⟩ := S.x hx.1
    refine ew_Kr ?_
    first | refine ew_astore_n (pc := 7) dX1_roundStep_7 rfl (by decide) (p1_2 rfl) ?_ | refine ew_astore_nq (pc := 7) dX1_roundStep_7 rfl (by decide) (p1_2 rfl) ?_ | refine ew_astore_nN (pc := 7) dX1_roundStep_7 rfl (by decide) (p1_2 rfl) ?_
    refine ew_iload_n (pc := 8) dX1_roundStep_8 rfl ?_
    refine ew_aload_n (pc := 9) dX1_roundStep_9 rfl ?_
    refine ew_cF0 (d' := 0) (pc := 10) tX1_121_19 (rd_of hK) dX1_roundStep_10 (by decide) (ew_rm (Nat.le_of_ble_eq_true rfl)) ?_
    refine t_alSize S.1 ?_
    rw [S.2.1]
    refine ew_Kr ?_
    refine ew_cS2 (d' := 5) (pc := 15) sX1_113 dX1_roundStep_15 (by decide) (ew_rm (Nat.le_of_ble_eq_true rfl)) ?_
    refine t_chkI (fun h9 => absurd (by rw [← hx.2]; exact hi) h9) (fun _ => ?_)
    refine ew_Kv ?_
    refine ew_aload_n (pc := 18) dX1_roundStep_18 rfl ?_
    refine ew_iload_n (pc := 19) dX1_roundStep_19 rfl ?_
    refine ew_cF1 (d' := 2) (pc := 20) tX1_126_19 (rd_of hK) dX1_roundStep_20 (by decide) (ew_rm (Nat.le_of_ble_eq_true rfl)) ?_
    refine t_alGet S.1 hy ?_
    refine ew_Kr ?_
    refine ew_cast (pc := 25) rfl (rd_of hyo) (ew_q q1816) (Or.inl rfl) dX1_roundStep_25 ?_
    refine ew_getf (pc := 28) fX1_221 (rd_of hyo) rfl dX1_roundStep_28 ?_
    refine ew_iret (pc := 31) rfl dX1_roundStep_31 ?_
    refine hq _ _ ⟨CQ.ke hg ho C k (by decide) (by decide), fun _ => ?_, fun h9 => absurd (as1_y hi) h9⟩
    rw [lcode, List.getElem?_eq_getElem hx.1]
  · skip
    refine ew_aload_n (pc := 0) dX1_roundStep_0 rfl ?_
    refine ew_cV0 (d' := 6) (pc := 1) vX1_106 (rd_of C.o) dX1_roundStep_1 (by decide) (ew_rm (Nat.le_of_ble_eq_true rfl)) ?_
    refine t_there C ?_
    refine ew_Kr ?_
    refine ew_cS1 (d' := 22) (pc := 4) sX1_215 dX1_roundStep_4 (by decide) (ew_rm (Nat.le_of_ble_eq_true rfl)) ?_
    refine t_round1 hg hM C.n (fun h2 K E' ys S k => ?_)
    obtain ⟨mc, hK⟩ := S.o
    refine ew_Kr ?_
    first | refine ew_astore_n (pc := 7) dX1_roundStep_7 rfl (by decide) (p1_2 rfl) ?_ | refine ew_astore_nq (pc := 7) dX1_roundStep_7 rfl (by decide) (p1_2 rfl) ?_ | refine ew_astore_nN (pc := 7) dX1_roundStep_7 rfl (by decide) (p1_2 rfl) ?_
    refine ew_iload_n (pc := 8) dX1_roundStep_8 rfl ?_
    refine ew_aload_n (pc := 9) dX1_roundStep_9 rfl ?_
    refine ew_cF0 (d' := 0) (pc := 10) tX1_121_19 (rd_of hK) dX1_roundStep_10 (by decide) (ew_rm (Nat.le_of_ble_eq_true rfl)) ?_
    refine t_alSize S.1 ?_
    rw [S.2.1]
    refine ew_Kr ?_
    refine ew_ok (fun ho2 => ?_)
    refine ew_cS2 (d' := 5) (pc := 15) sX1_113 dX1_roundStep_15 (by decide) (ew_rm (Nat.le_of_ble_eq_true rfl)) ?_
    refine t_chkI (fun h9 => ?_) (fun h9 => absurd h9 hi)
    exact ew_Kx (ew_out (fun x hx => nomatch hx) (hq _ _ (CO.n (k := 2) (as1_i hi) (by decide) rfl (ne_1 _ _ _) (CQ.ke hg ho C (k.t Ke.new (A := []) (c := 201) (s := 18006) (fun b h9 => absurd h9 List.not_mem_nil) (fun b h9 => absurd h9 List.not_mem_nil) (by decide) (by decide)) (by decide) (by decide)))))
theorem c_roundLack (hg : gOC g) (hM : gOM g) (C : CV g h a ws N m pe ep fb ft ρ) (hq : ∀ o h', CO SI 0 (.int (lkC (roN N) (roN N).length)) (CQ g a ws N m pe ep h) o h' → Q o h') : ew_T g kX1_roundLack 23 [.ref (a 0)] h Q := by
  have hl := roN_len N
  have hE := C.n.ok.e2
  refine ew_enter (by decide +kernel) (ew_a1 rfl (ew_an (ew_an (ew_an ew_az)))) (Nat.le_of_ble_eq_true rfl) ?_
  refine ew_ok (fun ho => ?_)
  have main : ∀ h2 K E' ys, StL g h2 K E' ys (roN N) → Ke [] 200 18000 h h2 → ∀ q k, k + q = (roN N).length → ew_G g kX1_roundLack 23 12 [.ref (a 0), .ref K, .int (lkC (roN N) k), .int (nI k)] [] h2 Q := by
    intro h2 K E' ys S ke q
    obtain ⟨mc, hK⟩ := S.o
    induction q with
    | zero =>
      intro k hk
      have e9 : k = (roN N).length := by omega
      refine ew_iload_n (pc := 12) dX1_roundLack_12 rfl ?_
      refine ew_aload_n (pc := 13) dX1_roundLack_13 rfl ?_
      refine ew_cF0 (d' := 0) (pc := 14) tX1_121_19 (rd_of hK) dX1_roundLack_14 (by decide) (ew_rm (Nat.le_of_ble_eq_true rfl)) ?_
      refine t_alSize S.1 ?_
      rw [S.2.1]
      refine ew_Kr ?_
      refine ew_icmp_ge (pc := 19) (tgt := 44) dX1_roundLack_19 (by decide) (fun c19 => ?_) (fun c19 => absurd (nI_le (by omega) (by omega)) c19)
      refine ew_iload_n (pc := 44) dX1_roundLack_44 rfl ?_
      refine ew_iret (pc := 45) rfl dX1_roundLack_45 ?_
      rw [e9]
      exact hq _ _ (CO.y rfl (CQ.ke hg ho C ke (by decide) (by decide)))
    | succ q ih =>
      intro k hk
      have hkl : k < (roN N).length := by omega
      obtain ⟨y, hy, hyo⟩ := S.x hkl
      have e9 : lkC (roN N) (k + 1) = lkC (roN N) k - (roN N)[k].2.2.1 := by rw [lkC, List.getElem?_eq_getElem hkl]
      have h8 := ih (k + 1) (by omega)
      rw [e9] at h8
      refine ew_iload_n (pc := 12) dX1_roundLack_12 rfl ?_
      refine ew_aload_n (pc := 13) dX1_roundLack_13 rfl ?_
      refine ew_cF0 (d' := 0) (pc := 14) tX1_121_19 (rd_of hK) dX1_roundLack_14 (by decide) (ew_rm (Nat.le_of_ble_eq_true rfl)) ?_
      refine t_alSize S.1 ?_
      rw [S.2.1]
      refine ew_Kr ?_
      refine ew_icmp_ge (pc := 19) (tgt := 44) dX1_roundLack_19 (by decide) (fun c19 => absurd c19 (nI_ge hkl (by omega))) (fun c19 => ?_)
      refine ew_iload_n (pc := 22) dX1_roundLack_22 rfl ?_
      refine ew_aload_n (pc := 23) dX1_roundLack_23 rfl ?_
      refine ew_iload_n (pc := 24) dX1_roundLack_24 rfl ?_
      refine ew_cF1 (d' := 2) (pc := 25) tX1_126_19 (rd_of hK) dX1_roundLack_25 (by decide) (ew_rm (Nat.le_of_ble_eq_true rfl)) ?_
      refine t_alGet S.1 hy ?_
      refine ew_Kr ?_
      refine ew_cast (pc := 30) rfl (rd_of hyo) (ew_q q1816) (Or.inl rfl) dX1_roundLack_30 ?_
      refine ew_getf (pc := 33) fX1_222 (rd_of hyo) rfl dX1_roundLack_33 ?_
      refine ew_isub (pc := 36) dX1_roundLack_36 ?_
      refine ew_istore_n (pc := 37) dX1_roundLack_37 rfl (by decide) (p1_2 rfl) ?_
      refine ew_iinc (pc := 38) dX1_roundLack_38 rfl (nI_inc k) (by decide) (p1_3 rfl) ?_
      refine ew_goto (pc := 41) (tgt := 12) dX1_roundLack_41 (by decide) ?_
      exact h8
  refine ew_aload_n (pc := 0) dX1_roundLack_0 rfl ?_
  refine ew_cV0 (d' := 6) (pc := 1) vX1_106 (rd_of C.o) dX1_roundLack_1 (by decide) (ew_rm (Nat.le_of_ble_eq_true rfl)) ?_
  refine t_there C ?_
  refine ew_Kr ?_
  refine ew_cS1 (d' := 22) (pc := 4) sX1_215 dX1_roundLack_4 (by decide) (ew_rm (Nat.le_of_ble_eq_true rfl)) ?_
  refine t_round1 hg hM C.n (fun h2 K E' ys S k => ?_)
  refine ew_Kr ?_
  first | refine ew_astore_n (pc := 7) dX1_roundLack_7 rfl (by decide) (p1_1 rfl) ?_ | refine ew_astore_nq (pc := 7) dX1_roundLack_7 rfl (by decide) (p1_1 rfl) ?_ | refine ew_astore_nN (pc := 7) dX1_roundLack_7 rfl (by decide) (p1_1 rfl) ?_
  refine ew_iconst (pc := 8) (v := 0) dX1_roundLack_8 rfl ?_
  refine ew_istore_n (pc := 9) dX1_roundLack_9 rfl (by decide) (p1_2 rfl) ?_
  refine ew_iconst (pc := 10) (v := 0) dX1_roundLack_10 rfl ?_
  refine ew_istore_n (pc := 11) dX1_roundLack_11 rfl (by decide) (p1_3 rfl) ?_
  exact main _ _ _ _ S k (roN N).length 0 (by omega)
end
