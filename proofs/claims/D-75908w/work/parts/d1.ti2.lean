/-! EW: the tightening of all windows -/
set_option maxRecDepth 100000
theorem tkF_self {N : Nat → Int32} {k : Nat} {x : Int32} : tkF N k x k = if x ≤ 999 ∧ ¬ x = N k then x else N k := by
  unfold tkF
  split
  · exact up_e
  · rfl
theorem tkS_n {n : Nat} {N F : Nat → Int32} (m : Nat) : nE (tkS n N F m).1 = nE N ∧ nW (tkS n N F m).1 = nW N := by
  constructor
  · unfold nE
    rw [tkS_at _ _ _ _ _ (fun w hw => ⟨by omega, by omega⟩)]
  · unfold nW
    rw [tkS_at _ _ _ _ _ (fun w hw => ⟨by omega, by omega⟩)]
/-- window w, behind the windows below it -/
theorem tkS_k {n : Nat} {N F : Nat → Int32} {w k : Nat} (hk : k < 6) : (tkS n N F w).1 (2 + 6 * w + k) = N (2 + 6 * w + k) := tkS_at _ _ _ _ _ (fun w' hw => ⟨by omega, by omega⟩)
theorem tkS_w {n : Nat} {N F : Nat → Int32} {w : Nat} : wN (tkS n N F w).1 w = wN N w := by
  unfold wN
  rw [tkS_k (by decide), tkS_k (by decide), tkS_k (by decide), tkS_k (by decide), tkS_k (by decide), tkS_k (by decide)]
theorem tkT_w {n : Nat} {N F : Nat → Int32} {w : Nat} (h5 : N (2 + 6 * w + 5) = 0) : wN (tkS n N F (w + 1)).1 w = wV (N (2 + 6 * w + 0)) (N (2 + 6 * w + 1)) (if -F (n * fB N w + fA N w) ≤ 999 ∧ ¬ -F (n * fB N w + fA N w) = N (2 + 6 * w + 2) then -F (n * fB N w + fA N w) else N (2 + 6 * w + 2)) (if F (n * fA N w + fB N w) ≤ 999 ∧ ¬ F (n * fA N w + fB N w) = N (2 + 6 * w + 3) then F (n * fA N w + fB N w) else N (2 + 6 * w + 3)) (N (2 + 6 * w + 4)) (N (2 + 6 * w + 5)) ∧ (tkS n N F (w + 1)).2 = (tkS n N F w).2 + ((if -F (n * fB N w + fA N w) ≤ 999 ∧ ¬ -F (n * fB N w + fA N w) = N (2 + 6 * w + 2) then 1 else 0) + (if F (n * fA N w + fB N w) ≤ 999 ∧ ¬ F (n * fA N w + fB N w) = N (2 + 6 * w + 3) then 1 else 0)) := by
  have e2 := tkS_k (n := n) (N := N) (F := F) (w := w) (k := 2) (by decide)
  have e3 := tkS_k (n := n) (N := N) (F := F) (w := w) (k := 3) (by decide)
  have e1 : tkS n N F (w + 1) = (tkF (tkF (tkS n N F w).1 (2 + 6 * w + 2) (-F (n * fB N w + fA N w))) (2 + 6 * w + 3) (F (n * fA N w + fB N w)), (tkS n N F w).2 + (tkC (tkS n N F w).1 (2 + 6 * w + 2) (-F (n * fB N w + fA N w)) + tkC (tkF (tkS n N F w).1 (2 + 6 * w + 2) (-F (n * fB N w + fA N w))) (2 + 6 * w + 3) (F (n * fA N w + fB N w)))) := by
    rw [tkS, tkT, if_pos h5]
  rw [e1]
  constructor
  · unfold wN
    simp only
    rw [tkF_at (k := 2 + 6 * w + 0) (by omega), tkF_at (k := 2 + 6 * w + 0) (by omega), tkS_k (by decide), tkF_at (k := 2 + 6 * w + 1) (by omega), tkF_at (k := 2 + 6 * w + 1) (by omega), tkS_k (by decide), tkF_at (k := 2 + 6 * w + 2) (by omega), tkF_self, e2, tkF_self, tkF_at (k := 2 + 6 * w + 3) (by omega), e3, tkF_at (k := 2 + 6 * w + 4) (by omega), tkF_at (k := 2 + 6 * w + 4) (by omega), tkS_k (by decide), tkF_at (k := 2 + 6 * w + 5) (by omega), tkF_at (k := 2 + 6 * w + 5) (by omega), tkS_k (by decide)]
  · show (tkS n N F w).2 + (tkC _ _ _ + tkC _ _ _) = _
    rw [tkC, tkC, e2, tkF_at (k := 2 + 6 * w + 3) (by omega), e3]
section
variable {g : eg} {h h' : eh} {a : Nat → Nat} {ws : List Nat} {N N' : Nat → Int32} {m pe ep : Int32} {fb ft : Nat → Int32} {ρ : ru} {Q : Outcome → eh → Prop} {A2 hd A4 c s : Nat} {P : List nbd} {sv : Nat → Option nbd} {tx : List Int32} {fbuf nm : Nat → Int32} {sn vn : Nat → Nat}
theorem c_tighten (hg : gOC g) (hM : gOM g) (hD : gDE g) (hX : CTI N) (F : FS g h a ws N m pe ep nm sn vn fbuf A2 hd P sv A4 tx) (hq : ∀ o h', CR SI (se1 1 (cSb N) 1) (.int (tkS (nE N) N (cSq N 0 (-1)) (nW N)).2) (fun h' => CX g h' (a 0) N nm m pe ep fbuf (P.map (fun b => b.2.2)) (fun i => (sv i).map (fun b => b.2.2)) tx) (fun h' => CX g h' (a 0) (tkS (nE N) N (cSq N 0 (-1)) (nW N)).1 nm m pe ep fbuf (reP (P.map (fun b => b.2.2)) N) (fun i => (sv i).map (fun b => b.2.2)) tx) h o h' → Q o h') : ew_T g kX1_tighten 21 [.ref (a 0)] h Q := by
  obtain ⟨fb, ft, ρ, C⟩ := F.cv
  have ok := C.n.ok
  have hE := ok.e2
  have hW := ok.w2
  refine ew_enter (by decide +kernel) (ew_a1 rfl (ew_an (ew_an (ew_an ew_az)))) (Nat.le_of_ble_eq_true rfl) ?_
  refine ew_ok (fun ho => ?_)
  have loop : ∀ f, agN (nE N) f (cSq N 0 (-1)) → cSo N 0 (-1) → ∀ h2 hd2 bk, bk.2.2 = N → Bud h h2 → ∀ q w h3, w + q = nW N → FS g h3 a ws (tkS (nE N) N (cSq N 0 (-1)) w).1 m pe ep nm sn vn fbuf A2 hd2 (reD P bk) sv A4 tx → CV g h3 a ws (tkS (nE N) N (cSq N 0 (-1)) w).1 m pe ep f ft ρ → h3.2 = h2.2 → ew_G g kX1_tighten 21 13 [.ref (a 0), .ref (a 5), .int (tkS (nE N) N (cSq N 0 (-1)) w).2, .int (nI w)] [] h3 Q := by
    intro f hf hs h2 hd2 bk ebk bud q
    induction q with
    | zero =>
      intro w h3 hw F3 C3 he
      have e9 : w = nW N := by omega
      subst e9
      obtain ⟨mc, cap, fl, hL, -⟩ := C3.n.l
      have fin := F3.cx.keep (PN := []) ebk
      refine ew_iload_n (pc := 13) dX1_tighten_13 rfl ?_
      refine ew_aload_n (pc := 14) dX1_tighten_14 rfl ?_
      refine ew_getf (pc := 15) fX1_84 (rd_of C3.o) rfl dX1_tighten_15 ?_
      refine ew_getf (pc := 18) fX1_117 (rd_of C3.n.o) rfl dX1_tighten_18 ?_
      refine ew_cF0 (d' := 0) (pc := 21) tX1_121_19 (rd_of hL) dX1_tighten_21 (by decide) (ew_rm (Nat.le_of_ble_eq_true rfl)) ?_
      refine t_alSize C3.n.l ?_
      rw [C3.n.len, (tkS_n _).2]
      refine ew_Kr ?_
      refine ew_icmp_ge (pc := 26) (tgt := 80) dX1_tighten_26 (by decide) (fun c26 => ?_) (fun c26 => absurd (nI_le (Nat.le_refl _) (by omega)) c26)
      refine ew_iload_n (pc := 80) dX1_tighten_80 rfl ?_
      refine ew_iret (pc := 81) rfl dX1_tighten_81 ?_
      exact hq _ _ (CR.ok (se1_1y hs) ⟨by rw [he]; exact bud.1, by rw [he]; exact bud.2⟩ fin)
    | succ q ih =>
      intro w h3 hw F3 C3 he
      have hwl : w < nW N := by omega
      obtain ⟨en, ew⟩ := tkS_n (n := nE N) (N := N) (F := cSq N 0 (-1)) w
      obtain ⟨en', ew'⟩ := tkS_n (n := nE N) (N := N) (F := cSq N 0 (-1)) (w + 1)
      obtain ⟨mc, cap, fl, hL, -⟩ := C3.n.l
      obtain ⟨x, hx, hxw⟩ := C3.n.at (i := w) (by rw [ew]; exact hwl)
      have hxw0 := hxw
      rw [tkS_w] at hxw
      have hal := ok.al w hwl
      have hbl := ok.bl w hwl
      have hxv : h3.1 x = some (wV (nI (fA N w)) (nI (fB N w)) (N (2 + 6 * w + 2)) (N (2 + 6 * w + 3)) (N (2 + 6 * w + 4)) (N (2 + 6 * w + 5))) := by
        rw [wN, ok.a w hwl, ok.b w hwl] at hxw
        exact hxw
      have hs3 : Sq g h3 (a 5) (a 6) (nE N) f := by
        rw [← en]
        exact C3.b
      refine ew_ok (fun ho3 => ?_)
      by_cases h5 : N (2 + 6 * w + 5) = 0
      · obtain ⟨tw1, tw2⟩ := tkT_w (n := nE N) (F := cSq N 0 (-1)) h5
        have ok' : okN (tkS (nE N) N (cSq N 0 (-1)) (w + 1)).1 := tkS_ok ok (fun w' h1 h2 => hX hs w' h1 h2) _ hwl
        have h1 : ∀ i, i ≠ w → wN (tkS (nE N) N (cSq N 0 (-1)) (w + 1)).1 i = wN (tkS (nE N) N (cSq N 0 (-1)) w).1 i := fun i hi => by
          have hj : ∀ k, k < 6 → (tkS (nE N) N (cSq N 0 (-1)) (w + 1)).1 (2 + 6 * i + k) = (tkS (nE N) N (cSq N 0 (-1)) w).1 (2 + 6 * i + k) := fun k hk => by
            rw [tkS]
            exact tkT_at (by omega) (by omega)
          unfold wN
          rw [hj 0 (by decide), hj 1 (by decide), hj 2 (by decide), hj 3 (by decide), hj 4 (by decide), hj 5 (by decide)]
        have h2' : ∀ i, 146 ≤ i → i < 176 → (tkS (nE N) N (cSq N 0 (-1)) (w + 1)).1 i = (tkS (nE N) N (cSq N 0 (-1)) w).1 i := fun i h7 h8 => by
          rw [tkS]
          exact tkT_at (by omega) (by omega)
        have C4 := cv_win C3 hx ok' ⟨en'.trans en.symm, ew'.trans ew.symm⟩ h1 h2'
        have h15 : x ≠ a 15 := fun e => by
          obtain ⟨fn, hn⟩ := C3.n.n
          rw [← e, rd_of hxw] at hn
          cases hn
        have hxm : x ∈ cvA a ws := List.mem_append_right _ (by simp only [nO, List.mem_cons]; exact Or.inr (Or.inr (Or.inr (Or.inr (Or.inr (Or.inr (List.mem_of_getElem? hx)))))))
        have F4 := F3.chg hg ho3 hxw hxm h15 C4 (en'.trans en.symm)
        have f1 : f (nE N * fB N w + fA N w) = cSq N 0 (-1) (nE N * fB N w + fA N w) := hf.at hbl hal
        have f2 : f (nE N * fA N w + fB N w) = cSq N 0 (-1) (nE N * fA N w + fB N w) := hf.at hal hbl
        have ih1 := ih (w + 1) _ (by omega) F4 C4 he
        rw [tw1, tw2, ok.a w hwl, ok.b w hwl] at ih1
        refine ew_iload_n (pc := 13) dX1_tighten_13 rfl ?_
        refine ew_aload_n (pc := 14) dX1_tighten_14 rfl ?_
        refine ew_getf (pc := 15) fX1_84 (rd_of C3.o) rfl dX1_tighten_15 ?_
        refine ew_getf (pc := 18) fX1_117 (rd_of C3.n.o) rfl dX1_tighten_18 ?_
        refine ew_cF0 (d' := 0) (pc := 21) tX1_121_19 (rd_of hL) dX1_tighten_21 (by decide) (ew_rm (Nat.le_of_ble_eq_true rfl)) ?_
        refine t_alSize C3.n.l ?_
        rw [C3.n.len, ew]
        refine ew_Kr ?_
        refine ew_icmp_ge (pc := 26) (tgt := 80) dX1_tighten_26 (by decide) (fun c26 => absurd c26 (nI_ge (by omega) (by omega))) (fun c26 => ?_)
        refine ew_aload_n (pc := 29) dX1_tighten_29 rfl ?_
        refine ew_getf (pc := 30) fX1_84 (rd_of C3.o) rfl dX1_tighten_30 ?_
        refine ew_getf (pc := 33) fX1_117 (rd_of C3.n.o) rfl dX1_tighten_33 ?_
        refine ew_iload_n (pc := 36) dX1_tighten_36 rfl ?_
        refine ew_cF1 (d' := 2) (pc := 37) tX1_126_19 (rd_of hL) dX1_tighten_37 (by decide) (ew_rm (Nat.le_of_ble_eq_true rfl)) ?_
        refine t_alGet C3.n.l hx ?_
        refine ew_Kr ?_
        refine ew_cast (pc := 42) rfl (rd_of hxv) (ew_q q1622) (Or.inl rfl) dX1_tighten_42 ?_
        refine ew_getf (pc := 45) fX1_261 (rd_of hxv) rfl dX1_tighten_45 ?_
        refine ew_if_ne (pc := 48) (tgt := 74) dX1_tighten_48 (by decide) (fun c48 => absurd h5 c48) (fun c48 => ?_)
        refine ew_iload_n (pc := 51) dX1_tighten_51 rfl ?_
        refine ew_aload_n (pc := 52) dX1_tighten_52 rfl ?_
        refine ew_getf (pc := 53) fX1_84 (rd_of C3.o) rfl dX1_tighten_53 ?_
        refine ew_getf (pc := 56) fX1_117 (rd_of C3.n.o) rfl dX1_tighten_56 ?_
        refine ew_iload_n (pc := 59) dX1_tighten_59 rfl ?_
        refine ew_cF1 (d' := 2) (pc := 60) tX1_126_19 (rd_of hL) dX1_tighten_60 (by decide) (ew_rm (Nat.le_of_ble_eq_true rfl)) ?_
        refine t_alGet C3.n.l hx ?_
        refine ew_Kr ?_
        refine ew_cast (pc := 65) rfl (rd_of hxv) (ew_q q1622) (Or.inl rfl) dX1_tighten_65 ?_
        refine ew_aload_n (pc := 68) dX1_tighten_68 rfl ?_
        refine ew_cV1 (d' := 1) (pc := 69) vX1_425 (rd_of hxv) dX1_tighten_69 (by decide) (ew_rm (Nat.le_of_ble_eq_true rfl)) ?_
        refine t_wTig hs3 hxv hal hbl ?_
        rw [f1, f2]
        refine ew_Kr ?_
        refine ew_iadd (pc := 72) dX1_tighten_72 ?_
        refine ew_istore_n (pc := 73) dX1_tighten_73 rfl (by decide) (p1_2 rfl) ?_
        refine ew_iinc (pc := 74) dX1_tighten_74 rfl (nI_inc w) (by decide) (p1_3 rfl) ?_
        refine ew_goto (pc := 77) (tgt := 13) dX1_tighten_77 (by decide) ?_
        exact ih1
      · have e1 : tkS (nE N) N (cSq N 0 (-1)) (w + 1) = tkS (nE N) N (cSq N 0 (-1)) w := by rw [tkS, tkT, if_neg h5]
        have ih1 := ih (w + 1) h3 (by omega)
        rw [e1] at ih1
        refine ew_iload_n (pc := 13) dX1_tighten_13 rfl ?_
        refine ew_aload_n (pc := 14) dX1_tighten_14 rfl ?_
        refine ew_getf (pc := 15) fX1_84 (rd_of C3.o) rfl dX1_tighten_15 ?_
        refine ew_getf (pc := 18) fX1_117 (rd_of C3.n.o) rfl dX1_tighten_18 ?_
        refine ew_cF0 (d' := 0) (pc := 21) tX1_121_19 (rd_of hL) dX1_tighten_21 (by decide) (ew_rm (Nat.le_of_ble_eq_true rfl)) ?_
        refine t_alSize C3.n.l ?_
        rw [C3.n.len, ew]
        refine ew_Kr ?_
        refine ew_icmp_ge (pc := 26) (tgt := 80) dX1_tighten_26 (by decide) (fun c26 => absurd c26 (nI_ge (by omega) (by omega))) (fun c26 => ?_)
        refine ew_aload_n (pc := 29) dX1_tighten_29 rfl ?_
        refine ew_getf (pc := 30) fX1_84 (rd_of C3.o) rfl dX1_tighten_30 ?_
        refine ew_getf (pc := 33) fX1_117 (rd_of C3.n.o) rfl dX1_tighten_33 ?_
        refine ew_iload_n (pc := 36) dX1_tighten_36 rfl ?_
        refine ew_cF1 (d' := 2) (pc := 37) tX1_126_19 (rd_of hL) dX1_tighten_37 (by decide) (ew_rm (Nat.le_of_ble_eq_true rfl)) ?_
        refine t_alGet C3.n.l hx ?_
        refine ew_Kr ?_
        refine ew_cast (pc := 42) rfl (rd_of hxv) (ew_q q1622) (Or.inl rfl) dX1_tighten_42 ?_
        refine ew_getf (pc := 45) fX1_261 (rd_of hxv) rfl dX1_tighten_45 ?_
        refine ew_if_ne (pc := 48) (tgt := 74) dX1_tighten_48 (by decide) (fun c48 => ?_) (fun c48 => absurd c48 h5)
        refine ew_iinc (pc := 74) dX1_tighten_74 rfl (nI_inc w) (by decide) (p1_3 rfl) ?_
        refine ew_goto (pc := 77) (tgt := 13) dX1_tighten_77 (by decide) ?_
        exact ih1 F3 C3 he
  refine ew_aload_n (pc := 0) dX1_tighten_0 rfl ?_
  refine ew_cV0 (d' := 7) (pc := 1) vX1_132 (rd_of C.o) dX1_tighten_1 (by decide) (ew_rm (Nat.le_of_ble_eq_true rfl)) ?_
  refine t_sound C (fun hs f => ?_) (fun hs f hf => ?_)
  · have hb := CQ.newB (m := m) (pe := pe) (ep := ep) hg ho C f (e := ob 23 []) (n := 6) (by decide)
    refine ew_Kx (ew_out (fun x hx => nomatch hx) (hq _ _ (CR.no (k := 1) (se1_n hs) (by decide) hb.bud rfl (ne_1 _ _ _) (F.q hg ho ((ho.set C.b.2.1).new) hb).cx)))
  have C1 := C.setB f
  have ho1 : eh_ok g (eh_set h (a 6) (aI (nE N * nE N) f)) := ho.set C.b.2.1
  have F1 := F.q hg ho ho1 (CQ.B C f)
  refine ew_Kr ?_
  first | refine ew_astore_n (pc := 4) dX1_tighten_4 rfl (by decide) (p1_1 rfl) ?_ | refine ew_astore_nq (pc := 4) dX1_tighten_4 rfl (by decide) (p1_1 rfl) ?_ | refine ew_astore_nN (pc := 4) dX1_tighten_4 rfl (by decide) (p1_1 rfl) ?_
  refine ew_aload_n (pc := 5) dX1_tighten_5 rfl ?_
  refine ew_cV0 (d' := 20) (pc := 6) vX1_416 (rd_of C1.o) dX1_tighten_6 (by decide) (ew_rm (Nat.le_of_ble_eq_true rfl)) ?_
  refine t_keep hg hM hD F1 (fun h2 hd2 bk F2 ebk k2 => ?_)
  have C2 := C1.keA k2 hg ho1 (F1.kne ho1)
  refine ew_Kv ?_
  refine ew_iconst (pc := 9) (v := 0) dX1_tighten_9 rfl ?_
  refine ew_istore_n (pc := 10) dX1_tighten_10 rfl (by decide) (p1_2 rfl) ?_
  refine ew_iconst (pc := 11) (v := 0) dX1_tighten_11 rfl ?_
  refine ew_istore_n (pc := 12) dX1_tighten_12 rfl (by decide) (p1_3 rfl) ?_
  exact loop f hf hs h2 hd2 bk ebk (k2.bud (by decide) (by decide)) (nW N) 0 h2 (by omega) F2 C2 rfl
end
