/-! EW: the component's simple answers -/
set_option maxRecDepth 100000
section
variable {g : eg} {h : eh} {a : Nat → Nat} {ws : List Nat} {N : Nat → Int32} {m pe ep : Int32} {fb ft : Nat → Int32} {ρ : ru} {Q : Outcome → eh → Prop}
theorem as1_i {p : Prop} [Decidable p] (hp : ¬ p) : as1 1 (bI p) = 2 := by rw [as1, if_neg (by decide), if_pos (bI_f hp)]
theorem as1_y {p : Prop} [Decidable p] (hp : p) : as1 1 (bI p) = 0 := by rw [as1, if_neg (by decide), if_neg (bI_n.mpr hp)]
theorem as2_i {p : Prop} [Decidable p] {f : Int32} (hp : ¬ p) : as2 1 (bI p) f = 2 := by rw [as2, if_neg (by decide), if_pos (bI_f hp)]
theorem as2_j {p q : Prop} [Decidable p] [Decidable q] (hp : p) (hq : ¬ q) : as2 1 (bI p) (bI q) = 3 := by rw [as2, if_neg (by decide), if_neg (bI_n.mpr hp), if_pos (bI_f hq)]
theorem as2_y {p q : Prop} [Decidable p] [Decidable q] (hp : p) (hq : q) : as2 1 (bI p) (bI q) = 0 := by rw [as2, if_neg (by decide), if_neg (bI_n.mpr hp), if_neg (bI_n.mpr hq)]
theorem CQ.ke (hg : gOC g) (ho : eh_ok g h) (C : CV g h a ws N m pe ep fb ft ρ) {h' : eh} {c s : Nat} (k : Ke [] c s h h') (hc : c ≤ 25000) (hs : s ≤ 110000) : CQ g a ws N m pe ep h h' := ⟨_, _, _, C.ke k hg ho, k.w (fun b h9 => absurd h9 List.not_mem_nil) hc hs⟩
theorem c_fixedAt {x : Int32} (hg : gOC g) (C : CV g h a ws N m pe ep fb ft ρ) (hq : ∀ o h', CO SI (as1 1 (bI (isIx (nE N) x))) (.int (N (146 + ix x))) (CQ g a ws N m pe ep h) o h' → Q o h') : ew_T g kX1_fixedAt 8 [.ref (a 0), .int x] h Q := by
  have hE := C.n.ok.e2
  obtain ⟨f, hf, hf2⟩ := C.n.F
  refine ew_enter (by decide +kernel) (ew_a1 rfl (ew_a1 rfl ew_az)) (Nat.le_of_ble_eq_true rfl) ?_
  refine ew_ok (fun ho => ?_)
  refine ew_aload_n (pc := 0) dX1_fixedAt_0 rfl ?_
  refine ew_iload_n (pc := 1) dX1_fixedAt_1 rfl ?_
  refine ew_cV1 (d' := 7) (pc := 2) vX1_181 (rd_of C.o) dX1_fixedAt_2 (by decide) (ew_rm (Nat.le_of_ble_eq_true rfl)) ?_
  refine t_withEvent C (fun hi => ?_) (fun hi => ?_)
  · exact ew_Kx (ew_out (fun x hx => nomatch hx) (hq _ _ (CO.n (k := 2) (as1_i hi) (by decide) rfl (ne_1 _ _ _) (CQ.new hg ho C (by decide)))))
  have hx := hi.to (n := nE N) (by omega)
  refine ew_Kr ?_
  refine ew_getf (pc := 5) fX1_205 (rd_of C.n.o) rfl dX1_fixedAt_5 ?_
  refine ew_iload_n (pc := 8) dX1_fixedAt_8 rfl ?_
  refine ew_iaJ (pc := 9) (rd_of hf) (j := ix x) hx.2 hx.1 (by omega) dX1_fixedAt_9 ?_
  rw [hf2 _ hx.1]
  refine ew_iret (pc := 10) rfl dX1_fixedAt_10 ?_
  exact hq _ _ (CO.y (as1_y hi) (CQ.r C))
theorem c_delay {x : Int32} (hg : gOC g) (C : CV g h a ws N m pe ep fb ft ρ) (hq : ∀ o h', CO SI (as1 1 (bI (isIx (nE N) x))) (.int (N (156 + ix x))) (CQ g a ws N m pe ep h) o h' → Q o h') : ew_T g kX1_delay 8 [.ref (a 0), .int x] h Q := by
  have hE := C.n.ok.e2
  obtain ⟨f, hf, hf2⟩ := C.n.D
  refine ew_enter (by decide +kernel) (ew_a1 rfl (ew_a1 rfl ew_az)) (Nat.le_of_ble_eq_true rfl) ?_
  refine ew_ok (fun ho => ?_)
  refine ew_aload_n (pc := 0) dX1_delay_0 rfl ?_
  refine ew_iload_n (pc := 1) dX1_delay_1 rfl ?_
  refine ew_cV1 (d' := 7) (pc := 2) vX1_181 (rd_of C.o) dX1_delay_2 (by decide) (ew_rm (Nat.le_of_ble_eq_true rfl)) ?_
  refine t_withEvent C (fun hi => ?_) (fun hi => ?_)
  · exact ew_Kx (ew_out (fun x hx => nomatch hx) (hq _ _ (CO.n (k := 2) (as1_i hi) (by decide) rfl (ne_1 _ _ _) (CQ.new hg ho C (by decide)))))
  have hx := hi.to (n := nE N) (by omega)
  refine ew_Kr ?_
  refine ew_getf (pc := 5) fX1_209 (rd_of C.n.o) rfl dX1_delay_5 ?_
  refine ew_iload_n (pc := 8) dX1_delay_8 rfl ?_
  refine ew_iaJ (pc := 9) (rd_of hf) (j := ix x) hx.2 hx.1 (by omega) dX1_delay_9 ?_
  rw [hf2 _ hx.1]
  refine ew_iret (pc := 10) rfl dX1_delay_10 ?_
  exact hq _ _ (CO.y (as1_y hi) (CQ.r C))
theorem c_wish {x : Int32} (hg : gOC g) (C : CV g h a ws N m pe ep fb ft ρ) (hq : ∀ o h', CO SI (as1 1 (bI (isIx (nE N) x))) (.int (N (166 + ix x))) (CQ g a ws N m pe ep h) o h' → Q o h') : ew_T g kX1_wish 8 [.ref (a 0), .int x] h Q := by
  have hE := C.n.ok.e2
  obtain ⟨f, hf, hf2⟩ := C.n.W
  refine ew_enter (by decide +kernel) (ew_a1 rfl (ew_a1 rfl ew_az)) (Nat.le_of_ble_eq_true rfl) ?_
  refine ew_ok (fun ho => ?_)
  refine ew_aload_n (pc := 0) dX1_wish_0 rfl ?_
  refine ew_iload_n (pc := 1) dX1_wish_1 rfl ?_
  refine ew_cV1 (d' := 7) (pc := 2) vX1_181 (rd_of C.o) dX1_wish_2 (by decide) (ew_rm (Nat.le_of_ble_eq_true rfl)) ?_
  refine t_withEvent C (fun hi => ?_) (fun hi => ?_)
  · exact ew_Kx (ew_out (fun x hx => nomatch hx) (hq _ _ (CO.n (k := 2) (as1_i hi) (by decide) rfl (ne_1 _ _ _) (CQ.new hg ho C (by decide)))))
  have hx := hi.to (n := nE N) (by omega)
  refine ew_Kr ?_
  refine ew_getf (pc := 5) fX1_212 (rd_of C.n.o) rfl dX1_wish_5 ?_
  refine ew_iload_n (pc := 8) dX1_wish_8 rfl ?_
  refine ew_iaJ (pc := 9) (rd_of hf) (j := ix x) hx.2 hx.1 (by omega) dX1_wish_9 ?_
  rw [hf2 _ hx.1]
  refine ew_iret (pc := 10) rfl dX1_wish_10 ?_
  exact hq _ _ (CO.y (as1_y hi) (CQ.r C))
theorem wN_part {i k : Nat} (hk : k < 6) : [N (2 + 6 * i + 0), N (2 + 6 * i + 1), N (2 + 6 * i + 2), N (2 + 6 * i + 3), N (2 + 6 * i + 4), N (2 + 6 * i + 5)].getD k 0 = N (2 + 6 * i + k) := by
  rcases (by omega : k = 0 ∨ k = 1 ∨ k = 2 ∨ k = 3 ∨ k = 4 ∨ k = 5) with rfl | rfl | rfl | rfl | rfl | rfl <;> rfl
theorem c_window {w y : Int32} (hg : gOC g) (C : CV g h a ws N m pe ep fb ft ρ) (hq : ∀ o h', CO SI (as2 1 (bI (isIx (nW N) w)) (bI (0 ≤ y ∧ y ≤ 5))) (.int (N (2 + 6 * ix w + ix y))) (CQ g a ws N m pe ep h) o h' → Q o h') : ew_T g kX1_window 8 [.ref (a 0), .int w, .int y] h Q := by
  have hW := C.n.ok.w2
  refine ew_enter (by decide +kernel) (ew_a1 rfl (ew_a1 rfl (ew_a1 rfl (ew_an ew_az)))) (Nat.le_of_ble_eq_true rfl) ?_
  refine ew_ok (fun ho => ?_)
  refine ew_aload_n (pc := 0) dX1_window_0 rfl ?_
  refine ew_iload_n (pc := 1) dX1_window_1 rfl ?_
  refine ew_cV1 (d' := 7) (pc := 2) vX1_140 (rd_of C.o) dX1_window_2 (by decide) (ew_rm (Nat.le_of_ble_eq_true rfl)) ?_
  refine t_withWindow C (fun hi => ?_) (fun hi x hxx hxw => ?_)
  · exact ew_Kx (ew_out (fun x hx => nomatch hx) (hq _ _ (CO.n (k := 2) (as2_i hi) (by decide) rfl (ne_1 _ _ _) (CQ.new hg ho C (by decide)))))
  have hx := hi.to (by omega)
  refine ew_Kr ?_
  first | refine ew_astore_n (pc := 5) dX1_window_5 rfl (by decide) (p1_3 rfl) ?_ | refine ew_astore_nq (pc := 5) dX1_window_5 rfl (by decide) (p1_3 rfl) ?_ | refine ew_astore_nN (pc := 5) dX1_window_5 rfl (by decide) (p1_3 rfl) ?_
  refine ew_iload_n (pc := 6) dX1_window_6 rfl ?_
  refine ew_iconst (pc := 7) (v := 0) dX1_window_7 rfl ?_
  refine ew_iconst (pc := 8) (v := 5) dX1_window_8 rfl ?_
  refine ew_cS3 (d' := 0) (pc := 9) sX1_74 dX1_window_9 (by decide) (ew_rm (Nat.le_of_ble_eq_true rfl)) ?_
  refine t_inC ?_
  refine ew_Kr ?_
  refine ew_cS1 (d' := 5) (pc := 12) sX1_198 dX1_window_12 (by decide) (ew_rm (Nat.le_of_ble_eq_true rfl)) ?_
  refine t_chkA (fun h9 => ?_) (fun h9 => ?_)
  · exact ew_Kx (ew_out (fun x hx => nomatch hx) (hq _ _ (CO.n (k := 3) (as2_j hi (bI_0.mp h9)) (by decide) rfl (ne_1 _ _ _) (CQ.new hg ho C (by decide)))))
  have hy1 := bI_n.mp h9
  have hy := isIx.to (n := 6) hy1 (by decide)
  refine ew_Kv ?_
  refine ew_aload_n (pc := 15) dX1_window_15 rfl ?_
  refine ew_iload_n (pc := 16) dX1_window_16 rfl ?_
  rw [hy.2]
  refine ew_cV1 (d' := 0) (pc := 17) vX1_201 (rd_of hxw) dX1_window_17 (by decide) (ew_rm (Nat.le_of_ble_eq_true rfl)) ?_
  refine t_wPart (rd_of hxw) (C.n.ok.dr _ hx.1) hy.1 ?_
  rw [← hy.2]
  refine ew_Kr ?_
  refine ew_iret (pc := 20) rfl dX1_window_20 ?_
  have e9 := wN_part (N := N) (i := ix w) hy.1
  rw [e9]
  exact hq _ _ (CO.y (as2_y hi hy1) (CQ.r C))
theorem c_isSound (hg : gOC g) (C : CV g h a ws N m pe ep fb ft ρ) (hq : ∀ o h', CO SI 0 (.int (bI (cSb N = true))) (CQ g a ws N m pe ep h) o h' → Q o h') : ew_T g kX1_isSound 7 [.ref (a 0)] h Q := by
  refine ew_enter (by decide +kernel) (ew_a1 rfl ew_az) (Nat.le_of_ble_eq_true rfl) ?_
  refine ew_aload_n (pc := 0) dX1_isSound_0 rfl ?_
  refine ew_cV0 (d' := 6) (pc := 1) vX1_106 (rd_of C.o) dX1_isSound_1 (by decide) (ew_rm (Nat.le_of_ble_eq_true rfl)) ?_
  refine t_there C ?_
  refine ew_Kr ?_
  refine ew_pop (pc := 4) dX1_isSound_4 rfl ?_
  refine ew_aload_n (pc := 5) dX1_isSound_5 rfl ?_
  refine ew_cV0 (d' := 4) (pc := 6) vX1_110 (rd_of C.o) dX1_isSound_6 (by decide) (ew_rm (Nat.le_of_ble_eq_true rfl)) ?_
  refine t_soundNow C (fun f hf x hx => ?_)
  have e9 : x = bI (cSb N = true) := by
    rcases hx with ⟨e1, e2⟩ | ⟨e1, e2⟩
    · rw [e1, bI_t (cSb_iff.mpr e2)]
    · rw [e1, bI_f (fun h9 => e2 (cSb_iff.mp h9))]
  rw [e9]
  refine ew_Kr ?_
  refine ew_zret (pc := 9) (ty := .boolean) rfl bI_nar dX1_isSound_9 ?_
  exact hq _ _ (CO.y rfl (CQ.B C f))
theorem c_part {x : Int32} (hg : gOC g) (C : CV g h a ws N m pe ep fb ft ρ) (hq : ∀ o h', CO SI (as1 1 (bI (isIx (nE N) x))) (.int (partV N (ix x))) (CQ g a ws N m pe ep h) o h' → Q o h') : ew_T g kX1_part 8 [.ref (a 0), .int x] h Q := by
  have hE := C.n.ok.e2
  refine ew_enter (by decide +kernel) (ew_a1 rfl (ew_a1 rfl ew_az)) (Nat.le_of_ble_eq_true rfl) ?_
  refine ew_ok (fun ho => ?_)
  refine ew_aload_n (pc := 0) dX1_part_0 rfl ?_
  refine ew_iload_n (pc := 1) dX1_part_1 rfl ?_
  refine ew_cV1 (d' := 7) (pc := 2) vX1_181 (rd_of C.o) dX1_part_2 (by decide) (ew_rm (Nat.le_of_ble_eq_true rfl)) ?_
  refine t_withEvent C (fun hi => ?_) (fun hi => ?_)
  · exact ew_Kx (ew_out (fun x hx => nomatch hx) (hq _ _ (CO.n (k := 2) (as1_i hi) (by decide) rfl (ne_1 _ _ _) (CQ.new hg ho C (by decide)))))
  have hx := hi.to (n := nE N) (by omega)
  refine ew_Kr ?_
  refine ew_iload_n (pc := 5) dX1_part_5 rfl ?_
  rw [hx.2]
  refine ew_cV1 (d' := 3) (pc := 6) vX1_276 (rd_of C.n.o) dX1_part_6 (by decide) (ew_rm (Nat.le_of_ble_eq_true rfl)) ?_
  refine t_nPart C.n hx.1 ?_
  rw [← hx.2]
  refine ew_Kr ?_
  refine ew_iret (pc := 9) rfl dX1_part_9 ?_
  exact hq _ _ (CO.y (as1_y hi) (CQ.r C))
/-- parts, the events below e: those met, how many -/
def pcC (N : Nat → Int32) : Nat → Int32 × Nat
  | 0 => (0, 0)
  | e + 1 => if hasB (pcC N e).1 (nI e) then pcC N e else ((pcC N e).1 ||| partV N e, (pcC N e).2 + 1)
theorem c_parts (hg : gOC g) (C : CV g h a ws N m pe ep fb ft ρ) (hq : ∀ o h', CO SI 0 (.int (nI (pcC N (nE N)).2)) (CQ g a ws N m pe ep h) o h' → Q o h') : ew_T g kX1_parts 7 [.ref (a 0)] h Q := by
  have hE := C.n.ok.e2
  have main : ∀ q e, e + q = nE N → ew_G g kX1_parts 7 6 [.ref (a 0), .int (pcC N e).1, .int (nI (pcC N e).2), .int (nI e)] [] h Q := by
    intro q
    induction q with
    | zero =>
      intro e he
      have e9 : e = nE N := by omega
      rw [e9]
      refine ew_iload_n (pc := 6) dX1_parts_6 rfl ?_
      refine ew_aload_n (pc := 7) dX1_parts_7 rfl ?_
      refine ew_cV0 (d' := 6) (pc := 8) vX1_106 (rd_of C.o) dX1_parts_8 (by decide) (ew_rm (Nat.le_of_ble_eq_true rfl)) ?_
      refine t_there C ?_
      refine ew_Kr ?_
      refine ew_cV0 (d' := 0) (pc := 11) vX1_13 (rd_of C.n.o) dX1_parts_11 (by decide) (ew_rm (Nat.le_of_ble_eq_true rfl)) ?_
      refine t_nEvents C.n ?_
      refine ew_Kr ?_
      refine ew_icmp_ge (pc := 14) (tgt := 48) dX1_parts_14 (by decide) (fun c14 => ?_) (fun c14 => absurd (nI_le (Nat.le_refl _) (by omega)) c14)
      refine ew_iload_n (pc := 48) dX1_parts_48 rfl ?_
      refine ew_iret (pc := 49) rfl dX1_parts_49 ?_
      exact hq _ _ (CO.y rfl (CQ.r C))
    | succ q ih =>
      intro e he
      have h8 := ih (e + 1) (by omega)
      rw [pcC] at h8
      refine ew_iload_n (pc := 6) dX1_parts_6 rfl ?_
      refine ew_aload_n (pc := 7) dX1_parts_7 rfl ?_
      refine ew_cV0 (d' := 6) (pc := 8) vX1_106 (rd_of C.o) dX1_parts_8 (by decide) (ew_rm (Nat.le_of_ble_eq_true rfl)) ?_
      refine t_there C ?_
      refine ew_Kr ?_
      refine ew_cV0 (d' := 0) (pc := 11) vX1_13 (rd_of C.n.o) dX1_parts_11 (by decide) (ew_rm (Nat.le_of_ble_eq_true rfl)) ?_
      refine t_nEvents C.n ?_
      refine ew_Kr ?_
      refine ew_icmp_ge (pc := 14) (tgt := 48) dX1_parts_14 (by decide) (fun c14 => absurd c14 (nI_ge (by omega) (by omega))) (fun c14 => ?_)
      refine ew_iload_n (pc := 17) dX1_parts_17 rfl ?_
      refine ew_iload_n (pc := 18) dX1_parts_18 rfl ?_
      refine ew_cS2 (d' := 0) (pc := 19) sX1_277 dX1_parts_19 (by decide) (ew_rm (Nat.le_of_ble_eq_true rfl)) ?_
      refine t_hasC ?_
      refine ew_Kr ?_
      refine ew_if_eq (pc := 22) (tgt := 28) dX1_parts_22 (by decide) (fun c22 => ?_) (fun c22 => ?_)
      · refine ew_iload_n (pc := 28) dX1_parts_28 rfl ?_
        refine ew_aload_n (pc := 29) dX1_parts_29 rfl ?_
        refine ew_getf (pc := 30) fX1_84 (rd_of C.o) rfl dX1_parts_30 ?_
        refine ew_iload_n (pc := 33) dX1_parts_33 rfl ?_
        refine ew_cV1 (d' := 3) (pc := 34) vX1_276 (rd_of C.n.o) dX1_parts_34 (by decide) (ew_rm (Nat.le_of_ble_eq_true rfl)) ?_
        refine t_nPart C.n (by omega) ?_
        refine ew_Kr ?_
        refine ew_ior (pc := 37) dX1_parts_37 ?_
        refine ew_istore_n (pc := 38) dX1_parts_38 rfl (by decide) (p1_1 rfl) ?_
        refine ew_iinc (pc := 39) dX1_parts_39 rfl (nI_inc (pcC N e).2) (by decide) (p1_2 rfl) ?_
        refine ew_iinc (pc := 42) dX1_parts_42 rfl (nI_inc e) (by decide) (p1_3 rfl) ?_
        refine ew_goto (pc := 45) (tgt := 6) dX1_parts_45 (by decide) ?_
        first
        | rw [if_pos (show hasB (pcC N e).1 (nI e) from bI_n.mp c22)] at h8
          exact h8
        | rw [if_neg (show ¬ hasB (pcC N e).1 (nI e) from bI_0.mp c22)] at h8
          exact h8
      · refine ew_goto (pc := 25) (tgt := 42) dX1_parts_25 (by decide) ?_
        refine ew_iinc (pc := 42) dX1_parts_42 rfl (nI_inc e) (by decide) (p1_3 rfl) ?_
        refine ew_goto (pc := 45) (tgt := 6) dX1_parts_45 (by decide) ?_
        first
        | rw [if_pos (show hasB (pcC N e).1 (nI e) from bI_n.mp c22)] at h8
          exact h8
        | rw [if_neg (show ¬ hasB (pcC N e).1 (nI e) from bI_0.mp c22)] at h8
          exact h8
  refine ew_enter (by decide +kernel) (ew_a1 rfl (ew_an (ew_an (ew_an ew_az)))) (Nat.le_of_ble_eq_true rfl) ?_
  refine ew_iconst (pc := 0) (v := 0) dX1_parts_0 rfl ?_
  refine ew_istore_n (pc := 1) dX1_parts_1 rfl (by decide) (p1_1 rfl) ?_
  refine ew_iconst (pc := 2) (v := 0) dX1_parts_2 rfl ?_
  refine ew_istore_n (pc := 3) dX1_parts_3 rfl (by decide) (p1_2 rfl) ?_
  refine ew_iconst (pc := 4) (v := 0) dX1_parts_4 rfl ?_
  refine ew_istore_n (pc := 5) dX1_parts_5 rfl (by decide) (p1_3 rfl) ?_
  exact main (nE N) 0 (by omega)
end
