/-! EW: the component with a net -/
set_option maxRecDepth 100000
theorem Sq.off {g : eg} {h : eh} {q A A' n n' : Nat} {f f' f2 : Nat → Int32} (hs : Sq g h q A n f) (hA : h.1 A' = some (aI n' f')) (hne : A ≠ A') : Sq g (eh_set h A' (aI n' f2)) q A n f := ⟨rd_sn hs.1 (rd_ob hs.1 hA), sn_1 hs.2.1 hne, hs.2.2⟩
theorem Sq.ke {g : eg} {h h' : eh} {q A n c s : Nat} {B : List Nat} {f : Nat → Int32} (hs : Sq g h q A n f) (k : Ke B c s h h') (hg : gOC g) (ho : eh_ok g h) (h1 : q ∉ B) (h2 : A ∉ B) : Sq g h' q A n f := ⟨k.rd hg ho hs.1 h1, k.h ho hs.2.1 h2, hs.2.2⟩
/-- the component at a 0 with a net N: addresses a, windows ws; what the squares and the run hold -/
def CV (g : eg) (h : eh) (a : Nat → Nat) (ws : List Nat) (N : Nat → Int32) (m pe ep : Int32) (fb ft : Nat → Int32) (ρ : ru) : Prop :=
  h.1 (a 0) = some (ob 0 [.ref (a 1), .int m, .int pe, .int ep, .ref (a 14), .ref (a 2), .ref (a 3), .ref (a 4), .ref (a 5), .ref (a 7), .ref (a 9)]) ∧
  NR g h (a 14) (a 15) (a 16) (a 17) (a 18) (a 19) (a 20) ws N ∧ Sq g h (a 5) (a 6) (nE N) fb ∧ Sq g h (a 7) (a 8) (nE N) ft ∧ rA g h (a 9) (a 10) (a 11) (a 12) (a 13) (nE N) ∧
  (h.1 (a 11) = some (aI (nE N * nE N) ρ.1) ∧ h.1 (a 12) = some (aI (nE N) ρ.2.1) ∧ h.1 (a 13) = some (aI (nE N) ρ.2.2.1) ∧ h.1 (a 9) = some (ob 7 [.ref (a 10), .ref (a 12), .ref (a 13), .int (nI ρ.2.2.2.1), .int ρ.2.2.2.2])) ∧
  [a 6, a 8, a 11, a 12, a 13, a 18, a 19, a 20].Nodup
section
variable {g : eg} {h : eh} {a : Nat → Nat} {ws : List Nat} {N : Nat → Int32} {m pe ep : Int32} {fb ft : Nat → Int32} {ρ : ru} {Q : Outcome → eh → Prop}
theorem CV.o (C : CV g h a ws N m pe ep fb ft ρ) : h.1 (a 0) = some (ob 0 [.ref (a 1), .int m, .int pe, .int ep, .ref (a 14), .ref (a 2), .ref (a 3), .ref (a 4), .ref (a 5), .ref (a 7), .ref (a 9)]) := C.1
theorem CV.n (C : CV g h a ws N m pe ep fb ft ρ) : NR g h (a 14) (a 15) (a 16) (a 17) (a 18) (a 19) (a 20) ws N := C.2.1
theorem CV.b (C : CV g h a ws N m pe ep fb ft ρ) : Sq g h (a 5) (a 6) (nE N) fb := C.2.2.1
theorem CV.t (C : CV g h a ws N m pe ep fb ft ρ) : Sq g h (a 7) (a 8) (nE N) ft := C.2.2.2.1
theorem CV.r (C : CV g h a ws N m pe ep fb ft ρ) : rA g h (a 9) (a 10) (a 11) (a 12) (a 13) (nE N) := C.2.2.2.2.1
theorem CV.c (C : CV g h a ws N m pe ep fb ft ρ) : h.1 (a 11) = some (aI (nE N * nE N) ρ.1) ∧ h.1 (a 12) = some (aI (nE N) ρ.2.1) ∧ h.1 (a 13) = some (aI (nE N) ρ.2.2.1) ∧ h.1 (a 9) = some (ob 7 [.ref (a 10), .ref (a 12), .ref (a 13), .int (nI ρ.2.2.2.1), .int ρ.2.2.2.2]) := C.2.2.2.2.2.1
theorem CV.d (C : CV g h a ws N m pe ep fb ft ρ) : [a 6, a 8, a 11, a 12, a 13, a 18, a 19, a 20].Nodup := C.2.2.2.2.2.2
theorem CV.ne (C : CV g h a ws N m pe ep fb ft ρ) : (a 6 ≠ a 8 ∧ a 6 ≠ a 11 ∧ a 6 ≠ a 12 ∧ a 6 ≠ a 13 ∧ a 6 ∉ [a 18, a 19, a 20]) ∧ (a 8 ≠ a 11 ∧ a 8 ≠ a 12 ∧ a 8 ≠ a 13 ∧ a 8 ∉ [a 18, a 19, a 20]) ∧ a 11 ∉ [a 18, a 19, a 20] ∧ a 12 ∉ [a 18, a 19, a 20] ∧ a 13 ∉ [a 18, a 19, a 20] := by
  have h1 := C.d
  simp only [List.nodup_cons, List.mem_cons, List.not_mem_nil, or_false, not_or] at h1 ⊢
  obtain ⟨⟨a1, a2, a3, a4, a5, a6, a7⟩, ⟨b1, b2, b3, b4, b5, b6⟩, ⟨c1, c2, c3, c4, c5⟩, ⟨d1, d2, d3, d4⟩, ⟨e1, e2, e3⟩, -⟩ := h1
  exact ⟨⟨a1, a2, a3, a4, a5, a6, a7⟩, ⟨b1, b2, b3, b4, b5, b6⟩, ⟨c3, c4, c5⟩, ⟨d2, d3, d4⟩, e1, e2, e3⟩
theorem rA.set {q qs A TT OO n A' n' : Nat} {f' f2 : Nat → Int32} (r : rA g h q qs A TT OO n) (hA : h.1 A' = some (aI n' f')) : rA g (eh_set h A' (aI n' f2)) q qs A TT OO n := by
  obtain ⟨r1, r2, r3, r4, r5, r6, r7, r8⟩ := r
  exact ⟨r1, r2, r3, r4, r5, r6, rd_sn r7 (rd_ob r7 hA), r8⟩
theorem CV.setB (C : CV g h a ws N m pe ep fb ft ρ) (f : Nat → Int32) : CV g (eh_set h (a 6) (aI (nE N * nE N) f)) a ws N m pe ep f ft ρ := by
  have hb := C.b.2.1
  have d := C.ne.1
  have c := C.c
  exact ⟨sn_1 C.o (rd_ob (rd_of (g := g) C.o) hb), C.n.setI hb d.2.2.2.2, C.b.set f, C.t.off hb (fun e => d.1 e.symm), C.r.set hb, ⟨sn_1 c.1 (fun e => d.2.1 e.symm), sn_1 c.2.1 (fun e => d.2.2.1 e.symm), sn_1 c.2.2.1 (fun e => d.2.2.2.1 e.symm), sn_1 c.2.2.2 (rd_ob (rd_of (g := g) c.2.2.2) hb)⟩, C.d⟩
theorem CV.setT (C : CV g h a ws N m pe ep fb ft ρ) (f : Nat → Int32) : CV g (eh_set h (a 8) (aI (nE N * nE N) f)) a ws N m pe ep fb f ρ := by
  have hb := C.t.2.1
  have d := C.ne.2.1
  have d1 := C.ne.1.1
  have c := C.c
  exact ⟨sn_1 C.o (rd_ob (rd_of (g := g) C.o) hb), C.n.setI hb d.2.2.2, C.b.off hb d1, C.t.set f, C.r.set hb, ⟨sn_1 c.1 (fun e => d.1 e.symm), sn_1 c.2.1 (fun e => d.2.1 e.symm), sn_1 c.2.2.1 (fun e => d.2.2.1 e.symm), sn_1 c.2.2.2 (rd_ob (rd_of (g := g) c.2.2.2) hb)⟩, C.d⟩
/-- new cells -/
theorem CV.ke {c s : Nat} {h' : eh} (C : CV g h a ws N m pe ep fb ft ρ) (k : Ke [] c s h h') (hg : gOC g) (ho : eh_ok g h) : CV g h' a ws N m pe ep fb ft ρ := by
  have nm : ∀ a : Nat, a ∉ ([] : List Nat) := fun a => List.not_mem_nil
  have c := C.c
  obtain ⟨r1, r2, r3, r4, r5, r6, r7, r8⟩ := C.r
  exact ⟨k.h ho C.o (nm _), C.n.ke k hg ho (fun a _ => nm a), C.b.ke k hg ho (nm _) (nm _), C.t.ke k hg ho (nm _) (nm _), ⟨r1, r2, r3, r4, r5, r6, k.rd hg ho r7 (nm _), r8⟩, ⟨k.h ho c.1 (nm _), k.h ho c.2.1 (nm _), k.h ho c.2.2.1 (nm _), k.h ho c.2.2.2 (nm _)⟩, C.d⟩
/-- the cells that a question may change -/
abbrev rgA (a : Nat → Nat) : List Nat := [a 6, a 8, a 9, a 11, a 12, a 13]
/-- what a question leaves -/
def CQ (g : eg) (a : Nat → Nat) (ws : List Nat) (N : Nat → Int32) (m pe ep : Int32) (h h' : eh) : Prop := ∃ fb ft ρ, CV g h' a ws N m pe ep fb ft ρ ∧ Ke (rgA a) 25000 110000 h h'
theorem CQ.r (C : CV g h a ws N m pe ep fb ft ρ) : CQ g a ws N m pe ep h h := ⟨_, _, _, C, (Ke.r _ _).w (fun _ h9 _ => h9) (by decide) (by decide)⟩
theorem keB {e : ac} : Ke (rgA a) 0 0 h (eh_set h (a 6) e) := Ke.set.w (fun b h9 _ => by rw [List.mem_singleton.mp h9]; exact List.mem_cons_self) (Nat.le_refl _) (Nat.le_refl _)
theorem keT {e : ac} : Ke (rgA a) 0 0 h (eh_set h (a 8) e) := Ke.set.w (fun b h9 _ => by rw [List.mem_singleton.mp h9]; exact List.mem_cons_of_mem _ List.mem_cons_self) (Nat.le_refl _) (Nat.le_refl _)
theorem t_there (C : CV g h a ws N m pe ep fb ft ρ) (hq : Q (.returned (some (.ref (a 14)))) h) : ew_T g kX1_there 6 [.ref (a 0)] h Q := by
  refine ew_enter (by decide +kernel) (ew_a1 rfl ew_az) (Nat.le_of_ble_eq_true rfl) ?_
  refine ew_aload_n (pc := 0) dX1_there_0 rfl ?_
  refine ew_getf (pc := 1) fX1_84 (rd_of C.o) rfl dX1_there_1 ?_
  refine ew_ifnull (pc := 4) dX1_there_4 ?_
  refine ew_iconst (pc := 7) (v := 1) dX1_there_7 rfl ?_
  refine ew_goto (pc := 8) (tgt := 12) dX1_there_8 (by decide) ?_
  refine ew_cS1 (d' := 5) (pc := 12) sX1_88 dX1_there_12 (by decide) (ew_rm (Nat.le_of_ble_eq_true rfl)) ?_
  refine t_chkS (fun h9 => absurd h9 (by decide)) (fun _ => ?_)
  refine ew_Kv ?_
  refine ew_aload_n (pc := 15) dX1_there_15 rfl ?_
  refine ew_getf (pc := 16) fX1_84 (rd_of C.o) rfl dX1_there_16 ?_
  refine ew_aret (pc := 19) rfl (Or.inl ⟨_, rfl⟩) (Or.inr ⟨_, rfl⟩) dX1_there_19 ?_
  exact hq
theorem t_soundNow (C : CV g h a ws N m pe ep fb ft ρ) (hq : ∀ f, agN (nE N) f (cSq N 0 (-1)) → ∀ x : Int32, (x = 1 ∧ cSo N 0 (-1)) ∨ (x = 0 ∧ ¬ cSo N 0 (-1)) → Q (.returned (some (.int x))) (eh_set h (a 6) (aI (nE N * nE N) f))) : ew_T g kX1_isSoundNow 4 [.ref (a 0)] h Q := by
  have C2 := C.setB (lyF N 0 (-1) fb)
  refine ew_enter (by decide +kernel) (ew_a1 rfl ew_az) (Nat.le_of_ble_eq_true rfl) ?_
  refine ew_aload_n (pc := 0) dX1_isSoundNow_0 rfl ?_
  refine ew_getf (pc := 1) fX1_84 (rd_of C.o) rfl dX1_isSoundNow_1 ?_
  refine ew_aload_n (pc := 4) dX1_isSoundNow_4 rfl ?_
  refine ew_getf (pc := 5) fX1_92 (rd_of C.o) rfl dX1_isSoundNow_5 ?_
  refine ew_iconst (pc := 8) (v := 0) dX1_isSoundNow_8 rfl ?_
  refine ew_iconst (pc := 9) (v := -1) dX1_isSoundNow_9 rfl ?_
  refine ew_cV3 (d' := 3) (pc := 10) vX1_96 (rd_of C.n.o) dX1_isSoundNow_10 (by decide) (ew_rm (Nat.le_of_ble_eq_true rfl)) ?_
  refine t_nLay C.n C.b C.ne.1.2.2.2.2 ?_
  refine ew_Kr ?_
  refine ew_cV0 (d' := 1) (pc := 13) vX1_100 C2.b.1 dX1_isSoundNow_13 (by decide) (ew_rm (Nat.le_of_ble_eq_true rfl)) ?_
  refine t_isSoundS C2.b (fun x hx => ?_)
  rw [lyF_so C.n.ok] at hx
  refine ew_Kr ?_
  refine ew_zret (pc := 16) (ty := .boolean) rfl (by rcases hx with ⟨e, -⟩ | ⟨e, -⟩ <;> rw [e] <;> rfl) dX1_isSoundNow_16 ?_
  exact hq _ (lyF_cSq C.n.ok _ _ _) x hx
/-- what is sound now lies in the bounds -/
theorem t_sound (C : CV g h a ws N m pe ep fb ft ρ) (h0 : ¬ cSo N 0 (-1) → ∀ f, Q (.threw h.2.1) (eh_new (eh_set h (a 6) (aI (nE N * nE N) f)) (ob 23 []) 6)) (h1 : cSo N 0 (-1) → ∀ f, agN (nE N) f (cSq N 0 (-1)) → Q (.returned (some (.ref (a 5)))) (eh_set h (a 6) (aI (nE N * nE N) f))) : ew_T g kX1_sound 7 [.ref (a 0)] h Q := by
  refine ew_enter (by decide +kernel) (ew_a1 rfl ew_az) (Nat.le_of_ble_eq_true rfl) ?_
  refine ew_aload_n (pc := 0) dX1_sound_0 rfl ?_
  refine ew_cV0 (d' := 6) (pc := 1) vX1_106 (rd_of C.o) dX1_sound_1 (by decide) (ew_rm (Nat.le_of_ble_eq_true rfl)) ?_
  refine t_there C ?_
  refine ew_Kr ?_
  refine ew_pop (pc := 4) dX1_sound_4 rfl ?_
  refine ew_aload_n (pc := 5) dX1_sound_5 rfl ?_
  refine ew_cV0 (d' := 4) (pc := 6) vX1_110 (rd_of C.o) dX1_sound_6 (by decide) (ew_rm (Nat.le_of_ble_eq_true rfl)) ?_
  refine t_soundNow C (fun f hf x hx => ?_)
  refine ew_Kr ?_
  refine ew_cS1 (d' := 5) (pc := 9) sX1_88 dX1_sound_9 (by decide) (ew_rm (Nat.le_of_ble_eq_true rfl)) ?_
  refine t_chkS (fun h9 => ?_) (fun h9 => ?_)
  · exact ew_Kx (ew_out (fun x hx => nomatch hx) (h0 (hx.elim (fun h8 => absurd h9 (by rw [h8.1]; decide)) (fun h8 => h8.2)) f))
  refine ew_Kv ?_
  refine ew_aload_n (pc := 12) dX1_sound_12 rfl ?_
  refine ew_getf (pc := 13) fX1_92 (rd_of (C.setB f).o) rfl dX1_sound_13 ?_
  refine ew_aret (pc := 16) rfl (Or.inl ⟨_, rfl⟩) (Or.inr ⟨_, rfl⟩) dX1_sound_16 ?_
  exact h1 (hx.elim (fun h8 => h8.2) (fun h8 => absurd h8.1 h9)) f hf
/-- an event that is asked for -/
theorem t_withEvent {e : Int32} (C : CV g h a ws N m pe ep fb ft ρ) (h0 : ¬ isIx (nE N) e → Q (.threw h.2.1) (eh_new h (ob 25 []) 6)) (h1 : isIx (nE N) e → Q (.returned (some (.ref (a 14)))) h) : ew_T g kX1_withEvent 7 [.ref (a 0), .int e] h Q := by
  refine ew_enter (by decide +kernel) (ew_a1 rfl (ew_a1 rfl ew_az)) (Nat.le_of_ble_eq_true rfl) ?_
  refine ew_iload_n (pc := 0) dX1_withEvent_0 rfl ?_
  refine ew_aload_n (pc := 1) dX1_withEvent_1 rfl ?_
  refine ew_cV0 (d' := 6) (pc := 2) vX1_106 (rd_of C.o) dX1_withEvent_2 (by decide) (ew_rm (Nat.le_of_ble_eq_true rfl)) ?_
  refine t_there C ?_
  refine ew_Kr ?_
  refine ew_cV0 (d' := 0) (pc := 5) vX1_13 (rd_of C.n.o) dX1_withEvent_5 (by decide) (ew_rm (Nat.le_of_ble_eq_true rfl)) ?_
  refine t_nEvents C.n ?_
  refine ew_Kr ?_
  refine ew_cS2 (d' := 5) (pc := 8) sX1_113 dX1_withEvent_8 (by decide) (ew_rm (Nat.le_of_ble_eq_true rfl)) ?_
  refine t_chkI (fun h9 => ?_) (fun h9 => ?_)
  · exact ew_Kx (ew_out (fun x hx => nomatch hx) (h0 h9))
  refine ew_Kv ?_
  refine ew_aload_n (pc := 11) dX1_withEvent_11 rfl ?_
  refine ew_getf (pc := 12) fX1_84 (rd_of C.o) rfl dX1_withEvent_12 ?_
  refine ew_aret (pc := 15) rfl (Or.inl ⟨_, rfl⟩) (Or.inr ⟨_, rfl⟩) dX1_withEvent_15 ?_
  exact h1 h9
theorem t_withWindow {w : Int32} (C : CV g h a ws N m pe ep fb ft ρ) (h0 : ¬ isIx (nW N) w → Q (.threw h.2.1) (eh_new h (ob 25 []) 6)) (h1 : isIx (nW N) w → ∀ x, ws[ix w]? = some x → h.1 x = some (wN N (ix w)) → Q (.returned (some (.ref x))) h) : ew_T g kX1_withWindow 7 [.ref (a 0), .int w] h Q := by
  obtain ⟨mc, cap, f, hL, -⟩ := C.n.l
  have hw := C.n.ok.w2
  refine ew_enter (by decide +kernel) (ew_a1 rfl (ew_a1 rfl ew_az)) (Nat.le_of_ble_eq_true rfl) ?_
  by_cases hi : isIx (nW N) w
  · have hi2 := hi.to hw
    obtain ⟨x, hx, hxw⟩ := C.n.at hi2.1
    rw [hi2.2]
    rw [hi2.2] at h1 h0
    rw [ix_nI (by omega)] at h1
    refine ew_iload_n (pc := 0) dX1_withWindow_0 rfl ?_
    refine ew_aload_n (pc := 1) dX1_withWindow_1 rfl ?_
    refine ew_cV0 (d' := 6) (pc := 2) vX1_106 (rd_of C.o) dX1_withWindow_2 (by decide) (ew_rm (Nat.le_of_ble_eq_true rfl)) ?_
    refine t_there C ?_
    refine ew_Kr ?_
    refine ew_getf (pc := 5) fX1_117 (rd_of C.n.o) rfl dX1_withWindow_5 ?_
    refine ew_cF0 (d' := 0) (pc := 8) tX1_121_19 (rd_of hL) dX1_withWindow_8 (by decide) (ew_rm (Nat.le_of_ble_eq_true rfl)) ?_
    refine t_alSize C.n.l ?_
    rw [C.n.len]
    refine ew_Kr ?_
    refine ew_cS2 (d' := 5) (pc := 13) sX1_113 dX1_withWindow_13 (by decide) (ew_rm (Nat.le_of_ble_eq_true rfl)) ?_
    refine t_chkI (fun h9 => ?_) (fun h9 => ?_)
    · exact ew_Kx (ew_out (fun x hx => nomatch hx) (h0 h9))
    refine ew_Kv ?_
    refine ew_aload_n (pc := 16) dX1_withWindow_16 rfl ?_
    refine ew_getf (pc := 17) fX1_84 (rd_of C.o) rfl dX1_withWindow_17 ?_
    refine ew_getf (pc := 20) fX1_117 (rd_of C.n.o) rfl dX1_withWindow_20 ?_
    refine ew_iload_n (pc := 23) dX1_withWindow_23 rfl ?_
    refine ew_cF1 (d' := 2) (pc := 24) tX1_126_19 (rd_of hL) dX1_withWindow_24 (by decide) (ew_rm (Nat.le_of_ble_eq_true rfl)) ?_
    refine t_alGet C.n.l hx ?_
    refine ew_Kr ?_
    refine ew_cast (pc := 29) rfl (rd_of hxw) (ew_q q1622) (Or.inl rfl) dX1_withWindow_29 ?_
    refine ew_aret (pc := 32) rfl (Or.inl ⟨_, rfl⟩) (Or.inr ⟨_, rfl⟩) dX1_withWindow_32 ?_
    exact h1 (by rw [← hi2.2]; exact hi) x hx hxw
  · skip
    refine ew_iload_n (pc := 0) dX1_withWindow_0 rfl ?_
    refine ew_aload_n (pc := 1) dX1_withWindow_1 rfl ?_
    refine ew_cV0 (d' := 6) (pc := 2) vX1_106 (rd_of C.o) dX1_withWindow_2 (by decide) (ew_rm (Nat.le_of_ble_eq_true rfl)) ?_
    refine t_there C ?_
    refine ew_Kr ?_
    refine ew_getf (pc := 5) fX1_117 (rd_of C.n.o) rfl dX1_withWindow_5 ?_
    refine ew_cF0 (d' := 0) (pc := 8) tX1_121_19 (rd_of hL) dX1_withWindow_8 (by decide) (ew_rm (Nat.le_of_ble_eq_true rfl)) ?_
    refine t_alSize C.n.l ?_
    rw [C.n.len]
    refine ew_Kr ?_
    refine ew_cS2 (d' := 5) (pc := 13) sX1_113 dX1_withWindow_13 (by decide) (ew_rm (Nat.le_of_ble_eq_true rfl)) ?_
    refine t_chkI (fun h9 => ?_) (fun h9 => absurd h9 hi)
    exact ew_Kx (ew_out (fun x hx => nomatch hx) (h0 h9))
end
