/-! EW: the component's answers -/
set_option maxRecDepth 100000
def cSb (N : Nat → Int32) : Bool := (List.range (nE N)).all (fun e => decide (¬ cSq N 0 (-1) (nE N * e + e) < 0))
theorem cSb_iff {N : Nat → Int32} : cSb N = true ↔ cSo N 0 (-1) := by
  rw [cSb, List.all_eq_true]
  constructor
  · intro h e he
    exact of_decide_eq_true (h e (List.mem_range.mpr he))
  · intro h e he
    exact decide_eq_true (h e (List.mem_range.mp he))
theorem cSb_f {N : Nat → Int32} (h : ¬ cSo N 0 (-1)) : cSb N = false := by
  cases hs : cSb N with
  | false => rfl
  | true => exact absurd (cSb_iff.mp hs) h
/-- classes of what is thrown, by code -/
def SI (k : Int32) : Nat := if k = 1 then 23 else if k = 2 then 25 else 24
def SA (k : Int32) : Nat := if k = 1 then 23 else 24
/-- an answer: a value, or what is thrown -/
def CO (cl : Int32 → Nat) (th : Int32) (v : Value) (P : eh → Prop) (o : Outcome) (h' : eh) : Prop := P h' ∧ (th = 0 → o = .returned (some v)) ∧ (¬ th = 0 → ∃ x, o = .threw x ∧ h'.1 x = some (ob (cl th) []))
theorem CO.y {cl : Int32 → Nat} {th : Int32} {v : Value} {P : eh → Prop} {h' : eh} (h0 : th = 0) (hp : P h') : CO cl th v P (.returned (some v)) h' := ⟨hp, fun _ => rfl, fun h9 => absurd h0 h9⟩
theorem CO.n {cl : Int32 → Nat} {th k : Int32} {v : Value} {P : eh → Prop} {h' : eh} {x c : Nat} (h0 : th = k) (hk : ¬ k = 0) (hc : cl k = c) (hx : h'.1 x = some (ob c [])) (hp : P h') : CO cl th v P (.threw x) h' := ⟨hp, fun h9 => absurd (h0.symm.trans h9) hk, fun _ => ⟨x, rfl, by rw [h0, hc]; exact hx⟩⟩
section
variable {g : eg} {h : eh} {a : Nat → Nat} {ws : List Nat} {N : Nat → Int32} {m pe ep : Int32} {fb ft : Nat → Int32} {ρ : ru} {Q : Outcome → eh → Prop}
theorem CQ.new (hg : gOC g) (ho : eh_ok g h) (C : CV g h a ws N m pe ep fb ft ρ) {e : ac} {n : Nat} (hn : n ≤ 6) : CQ g a ws N m pe ep h (eh_new h e n) := ⟨_, _, _, C.ke Ke.new hg ho, Ke.new.w (fun b h9 => absurd h9 List.not_mem_nil) (by decide) (by omega)⟩
theorem CQ.newB (hg : gOC g) (ho : eh_ok g h) (C : CV g h a ws N m pe ep fb ft ρ) (f : Nat → Int32) {e : ac} {n : Nat} (hn : n ≤ 6) : CQ g a ws N m pe ep h (eh_new (eh_set h (a 6) (aI (nE N * nE N) f)) e n) := ⟨_, _, _, (C.setB f).ke Ke.new hg (ho.set C.b.2.1), keB.t Ke.new (fun b h9 _ => h9) (fun b h9 => absurd h9 List.not_mem_nil) (by decide) (by omega)⟩
theorem CQ.B (C : CV g h a ws N m pe ep fb ft ρ) (f : Nat → Int32) : CQ g a ws N m pe ep h (eh_set h (a 6) (aI (nE N * nE N) f)) := ⟨_, _, _, C.setB f, keB.w (fun b h9 _ => h9) (by decide) (by decide)⟩
theorem t_soundWith1 {e : Int32} (C : CV g h a ws N m pe ep fb ft ρ) (h0 : ¬ cSo N 0 (-1) → ∀ f, Q (.threw h.2.1) (eh_new (eh_set h (a 6) (aI (nE N * nE N) f)) (ob 23 []) 6)) (h2 : cSo N 0 (-1) → ¬ isIx (nE N) e → ∀ f, Q (.threw h.2.1) (eh_new (eh_set h (a 6) (aI (nE N * nE N) f)) (ob 25 []) 6)) (h1 : cSo N 0 (-1) → isIx (nE N) e → ∀ f, agN (nE N) f (cSq N 0 (-1)) → Q (.returned (some (.ref (a 5)))) (eh_set h (a 6) (aI (nE N * nE N) f))) : ew_T g kX1_soundWith_2 8 [.ref (a 0), .int e] h Q := by
  refine ew_enter (by decide +kernel) (ew_a1 rfl (ew_a1 rfl (ew_an ew_az))) (Nat.le_of_ble_eq_true rfl) ?_
  refine ew_aload_n (pc := 0) dX1_soundWith_2_0 rfl ?_
  refine ew_cV0 (d' := 7) (pc := 1) vX1_132 (rd_of C.o) dX1_soundWith_2_1 (by decide) (ew_rm (Nat.le_of_ble_eq_true rfl)) ?_
  refine t_sound C (fun hs f => ?_) (fun hs f hf => ?_)
  · exact ew_Kx (ew_out (fun x hx => nomatch hx) (h0 hs f))
  have C2 := C.setB f
  refine ew_Kr ?_
  first | refine ew_astore_n (pc := 4) dX1_soundWith_2_4 rfl (by decide) (p1_2 rfl) ?_ | refine ew_astore_nq (pc := 4) dX1_soundWith_2_4 rfl (by decide) (p1_2 rfl) ?_ | refine ew_astore_nN (pc := 4) dX1_soundWith_2_4 rfl (by decide) (p1_2 rfl) ?_
  refine ew_iload_n (pc := 5) dX1_soundWith_2_5 rfl ?_
  refine ew_aload_n (pc := 6) dX1_soundWith_2_6 rfl ?_
  refine ew_getf (pc := 7) fX1_84 (rd_of C2.o) rfl dX1_soundWith_2_7 ?_
  refine ew_cV0 (d' := 0) (pc := 10) vX1_13 (rd_of C2.n.o) dX1_soundWith_2_10 (by decide) (ew_rm (Nat.le_of_ble_eq_true rfl)) ?_
  refine t_nEvents C2.n ?_
  refine ew_Kr ?_
  refine ew_cS2 (d' := 5) (pc := 13) sX1_113 dX1_soundWith_2_13 (by decide) (ew_rm (Nat.le_of_ble_eq_true rfl)) ?_
  refine t_chkI (fun h9 => ?_) (fun h9 => ?_)
  · exact ew_Kx (ew_out (fun x hx => nomatch hx) (h2 hs h9 f))
  refine ew_Kv ?_
  first | refine ew_aload_n (pc := 16) dX1_soundWith_2_16 rfl ?_ | refine ew_aload_nq (pc := 16) dX1_soundWith_2_16 rfl ?_ | refine ew_aload_nN (pc := 16) dX1_soundWith_2_16 rfl ?_
  refine ew_aret (pc := 17) rfl (Or.inl ⟨_, rfl⟩) (Or.inr ⟨_, rfl⟩) dX1_soundWith_2_17 ?_
  exact h1 hs h9 f hf
theorem t_soundWith2 {e b : Int32} (C : CV g h a ws N m pe ep fb ft ρ) (h0 : ¬ cSo N 0 (-1) → ∀ f, Q (.threw h.2.1) (eh_new (eh_set h (a 6) (aI (nE N * nE N) f)) (ob 23 []) 6)) (h2 : cSo N 0 (-1) → ¬ (isIx (nE N) e ∧ isIx (nE N) b) → ∀ f, Q (.threw h.2.1) (eh_new (eh_set h (a 6) (aI (nE N * nE N) f)) (ob 25 []) 6)) (h1 : cSo N 0 (-1) → isIx (nE N) e → isIx (nE N) b → ∀ f, agN (nE N) f (cSq N 0 (-1)) → Q (.returned (some (.ref (a 5)))) (eh_set h (a 6) (aI (nE N * nE N) f))) : ew_T g kX1_soundWith 9 [.ref (a 0), .int e, .int b] h Q := by
  refine ew_enter (by decide +kernel) (ew_a1 rfl (ew_a1 rfl (ew_a1 rfl (ew_an ew_az)))) (Nat.le_of_ble_eq_true rfl) ?_
  refine ew_aload_n (pc := 0) dX1_soundWith_0 rfl ?_
  refine ew_iload_n (pc := 1) dX1_soundWith_1 rfl ?_
  refine ew_cV1 (d' := 8) (pc := 2) vX1_136 (rd_of C.o) dX1_soundWith_2 (by decide) (ew_rm (Nat.le_of_ble_eq_true rfl)) ?_
  refine t_soundWith1 C (fun hs f => ?_) (fun hs hi f => ?_) (fun hs hi f hf => ?_)
  · exact ew_Kx (ew_out (fun x hx => nomatch hx) (h0 hs f))
  · exact ew_Kx (ew_out (fun x hx => nomatch hx) (h2 hs (fun h9 => hi h9.1) f))
  have C2 := C.setB f
  refine ew_Kr ?_
  first | refine ew_astore_n (pc := 5) dX1_soundWith_5 rfl (by decide) (p1_3 rfl) ?_ | refine ew_astore_nq (pc := 5) dX1_soundWith_5 rfl (by decide) (p1_3 rfl) ?_ | refine ew_astore_nN (pc := 5) dX1_soundWith_5 rfl (by decide) (p1_3 rfl) ?_
  refine ew_iload_n (pc := 6) dX1_soundWith_6 rfl ?_
  refine ew_aload_n (pc := 7) dX1_soundWith_7 rfl ?_
  refine ew_getf (pc := 8) fX1_84 (rd_of C2.o) rfl dX1_soundWith_8 ?_
  refine ew_cV0 (d' := 0) (pc := 11) vX1_13 (rd_of C2.n.o) dX1_soundWith_11 (by decide) (ew_rm (Nat.le_of_ble_eq_true rfl)) ?_
  refine t_nEvents C2.n ?_
  refine ew_Kr ?_
  refine ew_cS2 (d' := 5) (pc := 14) sX1_113 dX1_soundWith_14 (by decide) (ew_rm (Nat.le_of_ble_eq_true rfl)) ?_
  refine t_chkI (fun h9 => ?_) (fun h9 => ?_)
  · exact ew_Kx (ew_out (fun x hx => nomatch hx) (h2 hs (fun h8 => h9 h8.2) f))
  refine ew_Kv ?_
  first | refine ew_aload_n (pc := 17) dX1_soundWith_17 rfl ?_ | refine ew_aload_nq (pc := 17) dX1_soundWith_17 rfl ?_ | refine ew_aload_nN (pc := 17) dX1_soundWith_17 rfl ?_
  refine ew_aret (pc := 18) rfl (Or.inl ⟨_, rfl⟩) (Or.inr ⟨_, rfl⟩) dX1_soundWith_18 ?_
  exact h1 hs hi h9 f hf
theorem t_soundWindow {w : Int32} (C : CV g h a ws N m pe ep fb ft ρ) (h0 : ¬ cSo N 0 (-1) → ∀ f, Q (.threw h.2.1) (eh_new (eh_set h (a 6) (aI (nE N * nE N) f)) (ob 23 []) 6)) (h2 : cSo N 0 (-1) → ¬ isIx (nW N) w → ∀ f, Q (.threw h.2.1) (eh_new (eh_set h (a 6) (aI (nE N * nE N) f)) (ob 25 []) 6)) (h1 : cSo N 0 (-1) → isIx (nW N) w → ∀ f, agN (nE N) f (cSq N 0 (-1)) → ∀ x, ws[ix w]? = some x → (eh_set h (a 6) (aI (nE N * nE N) f)).1 x = some (wN N (ix w)) → Q (.returned (some (.ref x))) (eh_set h (a 6) (aI (nE N * nE N) f))) : ew_T g kX1_soundWindow 8 [.ref (a 0), .int w] h Q := by
  refine ew_enter (by decide +kernel) (ew_a1 rfl (ew_a1 rfl (ew_an ew_az))) (Nat.le_of_ble_eq_true rfl) ?_
  refine ew_aload_n (pc := 0) dX1_soundWindow_0 rfl ?_
  refine ew_cV0 (d' := 7) (pc := 1) vX1_132 (rd_of C.o) dX1_soundWindow_1 (by decide) (ew_rm (Nat.le_of_ble_eq_true rfl)) ?_
  refine t_sound C (fun hs f => ?_) (fun hs f hf => ?_)
  · exact ew_Kx (ew_out (fun x hx => nomatch hx) (h0 hs f))
  have C2 := C.setB f
  refine ew_Kr ?_
  first | refine ew_astore_n (pc := 4) dX1_soundWindow_4 rfl (by decide) (p1_2 rfl) ?_ | refine ew_astore_nq (pc := 4) dX1_soundWindow_4 rfl (by decide) (p1_2 rfl) ?_ | refine ew_astore_nN (pc := 4) dX1_soundWindow_4 rfl (by decide) (p1_2 rfl) ?_
  refine ew_aload_n (pc := 5) dX1_soundWindow_5 rfl ?_
  refine ew_iload_n (pc := 6) dX1_soundWindow_6 rfl ?_
  refine ew_cV1 (d' := 7) (pc := 7) vX1_140 (rd_of C2.o) dX1_soundWindow_7 (by decide) (ew_rm (Nat.le_of_ble_eq_true rfl)) ?_
  refine t_withWindow C2 (fun h9 => ?_) (fun h9 x hx hxw => ?_)
  · exact ew_Kx (ew_out (fun x hx => nomatch hx) (h2 hs h9 f))
  refine ew_Kr ?_
  refine ew_aret (pc := 10) rfl (Or.inl ⟨_, rfl⟩) (Or.inr ⟨_, rfl⟩) dX1_soundWindow_10 ?_
  exact h1 hs h9 f hf x hx hxw
end
