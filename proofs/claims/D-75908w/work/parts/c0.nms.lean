/-! EW: the component's names and its label -/
set_option maxRecDepth 100000
/-- the names' array nA: String e at sn e, its bytes at vn e -/
def NM (g : eg) (h : eh) (nA n : Nat) (nm : Nat → Int32) (sn vn : Nat → Nat) : Prop := (∃ fn, rd g h nA = some (aR 6 n fn) ∧ ∀ e, e < n → fn e = some (sn e)) ∧ ∀ e, e < n → ∃ hs hz f, rd g h (sn e) = some (ob 17 [.ref (vn e), .int 0, .int hs, .int hz]) ∧ rd g h (vn e) = some (aB (ltV nm e) f) ∧ ∀ k, k < ltV nm e → f k = nm (8 * e + k) ∧ ∃ c : Nat, c < 128 ∧ f k = nI c
theorem NM.ke {g : eg} {h h' : eh} {nA n c s : Nat} {nm : Nat → Int32} {sn vn : Nat → Nat} {A : List Nat} (M : NM g h nA n nm sn vn) (k : Ke A c s h h') (hg : gOC g) (ho : eh_ok g h) (h1 : nA ∉ A) (h2 : ∀ e, e < n → sn e ∉ A ∧ vn e ∉ A) : NM g h' nA n nm sn vn := by
  obtain ⟨⟨fn, m1, m2⟩, m3⟩ := M
  refine ⟨⟨fn, k.rd hg ho m1 h1, m2⟩, fun e he => ?_⟩
  obtain ⟨hs, hz, f, p1, p2, p3⟩ := m3 e he
  exact ⟨hs, hz, f, k.rd hg ho p1 (h2 e he).1, k.rd hg ho p2 (h2 e he).2, p3⟩
theorem NM.str {g : eg} {h : eh} {nA n e : Nat} {nm : Nat → Int32} {sn vn : Nat → Nat} (M : NM g h nA n nm sn vn) (he : e < n) : ∃ f, Str g h (sn e) (ltV nm e) f ∧ ∀ k, k < ltV nm e → f k = nm (8 * e + k) ∧ ∃ c : Nat, c < 128 ∧ f k = nI c := by
  obtain ⟨-, m3⟩ := M
  obtain ⟨hs, hz, f, p1, p2, p3⟩ := m3 e he
  have := ltV_le nm e
  exact ⟨f, ⟨vn e, hs, hz, p1, p2, by omega, fun i hi => (p3 i hi).2⟩, p3⟩
theorem NM.lt {g : eg} {h : eh} {nA n : Nat} {nm : Nat → Int32} {sn vn : Nat → Nat} (M : NM g h nA n nm sn vn) (hg : gOC g) (ho : eh_ok g h) : ∀ e, e < n → sn e < h.2.1 ∧ vn e < h.2.1 := by
  obtain ⟨-, m3⟩ := M
  intro e he
  obtain ⟨hs, hz, f, p1, p2, p3⟩ := m3 e he
  exact ⟨rd_l hg ho p1, rd_l hg ho p2⟩
theorem tx1_nm {nm f : Nat → Int32} {e : Nat} : ∀ {k}, (∀ i, i < k → f i = nm (8 * e + i) ∧ ∃ c : Nat, c < 128 ∧ f i = nI c) → tx1 f k = nmL nm e k
  | 0, _ => rfl
  | k + 1, h => by
    obtain ⟨h1, c, hc, h2⟩ := h k (by omega)
    rw [tx1, nmL, tx1_nm (fun i hi => h i (by omega)), ← h1, h2, wb_c hc]
theorem tx1_wd {f : Nat → Int32} : ∀ {k}, (∀ i, i < k → ∃ c : Nat, c < 128 ∧ f i = nI c) → tx1 f k = wdL f k
  | 0, _ => rfl
  | k + 1, h => by
    obtain ⟨c, hc, h2⟩ := h k (by omega)
    rw [tx1, wdL, tx1_wd (fun i hi => h i (by omega)), h2, wb_c hc]
section
variable {g : eg} {h : eh} {a : Nat → Nat} {ws : List Nat} {N : Nat → Int32} {m pe ep : Int32} {fb ft : Nat → Int32} {ρ : ru} {Q : Outcome → eh → Prop}
/-- what lies apart, before a text is written -/
def TS (g : eg) (h : eh) (a : Nat → Nat) (ws : List Nat) (N : Nat → Int32) (A4 : Nat) (nm : Nat → Int32) (sn vn : Nat → Nat) : Prop := NM g h (a 15) (nE N) nm sn vn ∧ (∀ b, b ∈ cvA a ws → b ≠ a 4 ∧ b ≠ A4) ∧ a 15 ∉ rgA a ∧ ∀ e, e < nE N → (sn e ∉ rgA a ∧ sn e ≠ a 4 ∧ sn e ≠ A4) ∧ vn e ∉ rgA a ∧ vn e ≠ a 4 ∧ vn e ≠ A4
/-- while a text is written: k things were appended -/
def TW (g : eg) (h h2 : eh) (a : Nat → Nat) (ws : List Nat) (N : Nat → Int32) (m pe ep : Int32) (fb ft : Nat → Int32) (ρ : ru) (A4 : Nat) (nm : Nat → Int32) (sn vn : Nat → Nat) (k : Nat) (tx : List Int32) : Prop :=
  CV g h2 a ws N m pe ep fb ft ρ ∧ NM g h2 (a 15) (nE N) nm sn vn ∧ (∃ A2, SB h2 (a 4) A2 tx ∧ (A2 = A4 ∨ h.2.1 ≤ A2)) ∧ Ke (a 4 :: A4 :: rgA a) (5000 + k) (40000 + 1000 * k) h h2
theorem TW.app {h2 h3 : eh} {A4 A2 k : Nat} {nm : Nat → Int32} {sn vn : Nat → Nat} {tx tx3 : List Int32} (hg : gOC g) (ho : eh_ok g h) (ho2 : eh_ok g h2) (C : CV g h a ws N m pe ep fb ft ρ) {fb2 ft2 : Nat → Int32} {ρ2 : ru} (T : TS g h a ws N A4 nm sn vn) (W : TW g h h2 a ws N m pe ep fb2 ft2 ρ2 A4 nm sn vn k tx) (hA : A2 = A4 ∨ h.2.1 ≤ A2) (q : SBq h2 (a 4) A2 tx3 h3) : TW g h h3 a ws N m pe ep fb2 ft2 ρ2 A4 nm sn vn (k + 1) tx3 := by
  obtain ⟨w1, w2, w3, w4⟩ := W
  obtain ⟨A3, q1, q2, q3⟩ := q
  have l2 := w4.2.1
  have hlt := C.lt hg ho
  have hn := T.1.lt hg ho
  have ne : ∀ b, b < h.2.1 → b ≠ a 4 → b ≠ A4 → b ∉ [a 4, A2] := fun b h7 h8 h9 h6 => by
    rw [List.mem_cons, List.mem_singleton] at h6
    rcases h6 with e | e
    · exact h8 e
    · rcases hA with e2 | e2
      · exact h9 (e.trans e2)
      · omega
  refine ⟨w1.keA q3 hg ho2 (fun b hb => ne b (hlt b hb) (T.2.1 b hb).1 (T.2.1 b hb).2), w2.ke q3 hg ho2 ?_ (fun e he => ?_), ⟨A3, q1, ?_⟩, w4.t q3 (fun b h9 _ => h9) (fun b h9 h8 => ?_) (by omega) (by omega)⟩
  · have h15 : a 15 ∈ cvA a ws := by simp [cvA]
    exact ne _ (hlt _ h15) (T.2.1 _ h15).1 (T.2.1 _ h15).2
  · have h9 := T.2.2.2 e he
    exact ⟨ne _ (hn e he).1 h9.1.2.1 h9.1.2.2, ne _ (hn e he).2 h9.2.2.1 h9.2.2.2⟩
  · rcases q2 with e | e
    · rw [e]; exact hA
    · exact Or.inr (Nat.le_trans l2 e)
  · rw [List.mem_cons, List.mem_singleton] at h9
    rcases h9 with e | e
    · rw [e]; exact List.mem_cons_self
    · rcases hA with e2 | e2
      · rw [e, e2]; exact List.mem_cons_of_mem _ List.mem_cons_self
      · omega
/-- what a question leaves of names and label -/
theorem TW.start {h1 h2 : eh} {A4 c s : Nat} {nm : Nat → Int32} {sn vn : Nat → Nat} {tx0 : List Int32} (hg : gOC g) (ho : eh_ok g h) (ho1 : eh_ok g h1) (C : CV g h a ws N m pe ep fb ft ρ) {fb2 ft2 : Nat → Int32} {ρ2 : ru} (T : TS g h a ws N A4 nm sn vn) (S : SB h (a 4) A4 tx0) (C1 : CV g h1 a ws N m pe ep fb2 ft2 ρ2) (k : Ke (rgA a) c s h h1) (hc : c ≤ 5000) (hs : s ≤ 40000) (S2 : SB h2 (a 4) A4 []) (k2 : Ke [a 4] 0 0 h1 h2) : TW g h h2 a ws N m pe ep fb2 ft2 ρ2 A4 nm sn vn 0 [] := by
  have hlt := C.lt hg ho
  have hn := T.1.lt hg ho
  have h15 : a 15 ∈ cvA a ws := by simp [cvA]
  refine ⟨C1.keA k2 hg ho1 (fun b hb h9 => (T.2.1 b hb).1 (List.mem_singleton.mp h9)), ?_, ⟨A4, S2, Or.inl rfl⟩, k.t k2 (fun b h9 _ => List.mem_cons_of_mem _ (List.mem_cons_of_mem _ h9)) (fun b h9 _ => by rw [List.mem_singleton.mp h9]; exact List.mem_cons_self) (by omega) (by omega)⟩
  exact (T.1.ke k hg ho T.2.2.1 (fun e he => ⟨(T.2.2.2 e he).1.1, (T.2.2.2 e he).2.1⟩)).ke k2 hg ho1 (fun h9 => (T.2.1 _ h15).1 (List.mem_singleton.mp h9)) (fun e he => ⟨fun h9 => (T.2.2.2 e he).1.2.1 (List.mem_singleton.mp h9), fun h9 => (T.2.2.2 e he).2.2.1 (List.mem_singleton.mp h9)⟩)
/-- the label may be read behind a question -/
theorem SB.q {h1 : eh} {A4 c s : Nat} {nm : Nat → Int32} {sn vn : Nat → Nat} {tx0 : List Int32} (ho : eh_ok g h) (T : TS g h a ws N A4 nm sn vn) (S : SB h (a 4) A4 tx0) (k : Ke (rgA a) c s h h1) : SB h1 (a 4) A4 tx0 := by
  have hr : ∀ b, b ∈ rgA a → b ∈ cvA a ws := by
    intro b hb
    simp only [rgA, List.mem_cons, List.not_mem_nil, or_false] at hb
    simp only [cvA, List.mem_append, List.mem_cons, List.not_mem_nil, or_false]
    rcases hb with e | e | e | e | e | e <;> rw [e] <;> simp
  exact S.ke k ho (fun h9 => (T.2.1 _ (hr _ h9)).1 rfl) (fun h9 => (T.2.1 _ (hr _ h9)).2 rfl)
/-- what a text leaves -/
def TQ (g : eg) (a : Nat → Nat) (ws : List Nat) (N : Nat → Int32) (m pe ep : Int32) (A4 : Nat) (nm : Nat → Int32) (sn vn : Nat → Nat) (tx : List Int32) (h h' : eh) : Prop := (∃ fb ft ρ, CV g h' a ws N m pe ep fb ft ρ) ∧ (∃ A2, SB h' (a 4) A2 tx ∧ (A2 = A4 ∨ h.2.1 ≤ A2)) ∧ Ke (a 4 :: A4 :: rgA a) 25000 110000 h h'
theorem TW.fin {h2 : eh} {A4 k : Nat} {nm : Nat → Int32} {sn vn : Nat → Nat} {tx : List Int32} {fb2 ft2 : Nat → Int32} {ρ2 : ru} (W : TW g h h2 a ws N m pe ep fb2 ft2 ρ2 A4 nm sn vn k tx) (hk : k ≤ 60) : TQ g a ws N m pe ep A4 nm sn vn tx h h2 := by
  obtain ⟨w1, w2, w3, w4⟩ := W
  exact ⟨⟨_, _, _, w1⟩, w3, w4.w (fun b h9 _ => h9) (by omega) (by omega)⟩
theorem c_letter {x y : Int32} {nm : Nat → Int32} {sn vn : Nat → Nat} (hg : gOC g) (hc : gCS g) (hc2 : gSF g) (C : CV g h a ws N m pe ep fb ft ρ) (M : NM g h (a 15) (nE N) nm sn vn) (hq : ∀ o h', CO SI (as1 1 (bI (leI 1 N nm x y))) (.int (nm (8 * ix x + ix y))) (CQ g a ws N m pe ep h) o h' → Q o h') : ew_T g kX1_letter 8 [.ref (a 0), .int x, .int y] h Q := by
  have hE := C.n.ok.e2
  have M2 := M
  obtain ⟨⟨fn, m1, m2⟩, -⟩ := M2
  refine ew_enter (by decide +kernel) (ew_a1 rfl (ew_a1 rfl (ew_a1 rfl (ew_an ew_az)))) (Nat.le_of_ble_eq_true rfl) ?_
  refine ew_ok (fun ho => ?_)
  by_cases hi : isIx (nE N) x
  · have hx := hi.to (n := nE N) (by omega)
    obtain ⟨f, hs, hf⟩ := M.str hx.1
    have hs2 := hs
    obtain ⟨v, hh, hz, s1, -⟩ := hs2
    have hl8 := ltV_le nm (ix x)
    refine ew_aload_n (pc := 0) dX1_letter_0 rfl ?_
    refine ew_iload_n (pc := 1) dX1_letter_1 rfl ?_
    refine ew_cV1 (d' := 7) (pc := 2) vX1_181 (rd_of C.o) dX1_letter_2 (by decide) (ew_rm (Nat.le_of_ble_eq_true rfl)) ?_
    refine t_withEvent C (fun h9 => absurd hi h9) (fun _ => ?_)
    refine ew_Kr ?_
    refine ew_getf (pc := 5) fX1_185 (rd_of C.n.o) rfl dX1_letter_5 ?_
    refine ew_iload_n (pc := 8) dX1_letter_8 rfl ?_
    refine ew_aaJ (pc := 9) rfl m1 (j := ix x) hx.2 hx.1 (by omega) dX1_letter_9 ?_
    rw [m2 _ hx.1]
    first | refine ew_astore_n (pc := 10) dX1_letter_10 rfl (by decide) (p1_3 rfl) ?_ | refine ew_astore_nq (pc := 10) dX1_letter_10 rfl (by decide) (p1_3 rfl) ?_ | refine ew_astore_nN (pc := 10) dX1_letter_10 rfl (by decide) (p1_3 rfl) ?_
    refine ew_iload_n (pc := 11) dX1_letter_11 rfl ?_
    first | refine ew_aload_n (pc := 12) dX1_letter_12 rfl ?_ | refine ew_aload_nq (pc := 12) dX1_letter_12 rfl ?_ | refine ew_aload_nN (pc := 12) dX1_letter_12 rfl ?_
    refine ew_cV0 (d' := 1) (pc := 13) vX1_189 (by assumption) dX1_letter_13 (by decide) (ew_rm (Nat.le_of_ble_eq_true rfl)) ?_
    refine t_length hc hs ?_
    refine ew_Kr ?_
    refine ew_cS2 (d' := 5) (pc := 16) sX1_113 dX1_letter_16 (by decide) (ew_rm (Nat.le_of_ble_eq_true rfl)) ?_
    refine t_chkI (fun h9 => ?_) (fun h9 => ?_)
    · exact ew_Kx (ew_out (fun x hx => nomatch hx) (hq _ _ (CO.n (k := 2) (as1_i (fun h8 => h9 h8.2.2)) (by decide) rfl (ne_1 _ _ _) (CQ.new hg ho C (by decide)))))
    have hy := h9.to (n := ltV nm (ix x)) (by omega)
    have hfy := hf _ hy.1
    refine ew_Kv ?_
    first | refine ew_aload_n (pc := 19) dX1_letter_19 rfl ?_ | refine ew_aload_nq (pc := 19) dX1_letter_19 rfl ?_ | refine ew_aload_nN (pc := 19) dX1_letter_19 rfl ?_
    refine ew_iload_n (pc := 20) dX1_letter_20 rfl ?_
    refine ew_cV1 (d' := 4) (pc := 21) vX1_194 (by assumption) dX1_letter_21 (by decide) (ew_rm (Nat.le_of_ble_eq_true rfl)) ?_
    rw [hy.2]
    refine t_charAt hc hc2 hs hy.1 ?_
    rw [hfy.1]
    refine ew_Kr ?_
    refine ew_iret (pc := 24) rfl dX1_letter_24 ?_
    exact hq _ _ (CO.y (as1_y ⟨by decide, hi, h9⟩) (CQ.r C))
  · skip
    refine ew_aload_n (pc := 0) dX1_letter_0 rfl ?_
    refine ew_iload_n (pc := 1) dX1_letter_1 rfl ?_
    refine ew_cV1 (d' := 7) (pc := 2) vX1_181 (rd_of C.o) dX1_letter_2 (by decide) (ew_rm (Nat.le_of_ble_eq_true rfl)) ?_
    refine t_withEvent C (fun h9 => ?_) (fun h9 => absurd h9 hi)
    exact ew_Kx (ew_out (fun x hx => nomatch hx) (hq _ _ (CO.n (k := 2) (as1_i (fun h8 => hi h8.2.1)) (by decide) rfl (ne_1 _ _ _) (CQ.new hg ho C (by decide)))))
end
