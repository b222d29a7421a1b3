/-! EW: undo, save, restore -/
set_option maxRecDepth 100000
theorem pw_mid2 {g : eg} {X X' Y : List Nat} {A B : List (List Nat)} (h : (A ++ X :: B).Pairwise (djn g)) (hx : ∀ b, b ∈ X' → b ∈ X ∨ b ∈ Y) (hY : ∀ l, l ∈ A ++ B → djn g Y l) : (A ++ X' :: B).Pairwise (djn g) := by
  have h1 : (X :: (A ++ B)).Pairwise (djn g) := (List.Perm.pairwise_iff (fun h9 => h9.symm) List.perm_middle).mp h
  refine (List.Perm.pairwise_iff (fun h9 => h9.symm) List.perm_middle).mpr ?_
  rw [List.pairwise_cons] at h1 ⊢
  refine ⟨fun l hl b hb1 hb2 => ?_, h1.2⟩
  rcases hx b hb1 with h3 | h3
  · exact h1.1 l hl b h3 hb2
  · exact hY l hl b h3 hb2
/-- addresses with another net -/
def aW (a : Nat → Nat) (b : nbd) : Nat → Nat := fun i => if i = 14 ∨ i = 16 ∨ i = 17 ∨ i = 18 ∨ i = 19 ∨ i = 20 then b.1 i else a i
section
variable {g : eg} {h h' : eh} {a : Nat → Nat} {ws : List Nat} {N N' : Nat → Int32} {m pe ep : Int32} {fb ft : Nat → Int32} {ρ : ru} {Q : Outcome → eh → Prop} {A2 hd A4 c s : Nat} {P : List nbd} {sv : Nat → Option nbd} {tx : List Int32} {fbuf nm : Nat → Int32} {sn vn : Nat → Nat}
theorem NB.lt {nA n : Nat} {b : nbd} (hg : gOC g) (ho : eh_ok g h) (hb : NB g h nA n b) : ∀ x, x ∈ nbO b → x < h.2.1 := by
  intro x hx9
  obtain ⟨⟨-, n1, -, ⟨mc, cap, fl, l1, l2, -⟩, -, n5, ⟨f6, n6, -⟩, ⟨f7, n7, -⟩, ⟨f8, n8, -⟩, -⟩, -⟩ := hb
  simp only [nbO, nO, List.mem_cons] at hx9
  rcases hx9 with e | e | e | e | e | e | e
  · rw [e]; exact h_l ho n1
  · rw [e]; exact h_l ho l1
  · rw [e]; exact rd_l hg ho l2
  · rw [e]; exact h_l ho n6
  · rw [e]; exact h_l ho n7
  · rw [e]; exact h_l ho n8
  · obtain ⟨i, hi⟩ := List.getElem?_of_mem e
    exact h_l ho (n5 i x hi)
/-- another net takes the net's place -/
theorem FS.swap {b : nbd} (hg : gOC g) (ho : eh_ok g h) (F : FS g h a ws N m pe ep nm sn vn fbuf A2 hd P sv A4 tx) (hb : NB g h (a 15) (nE N) b) (hbd : ∀ l, l ∈ fsL a ws (nE N) sn vn A2 A4 P sv → djn g (nbO b) l) : FS g (eh_set h (a 0) (ob 0 [.ref (a 1), .int m, .int pe, .int ep, .ref (b.1 14), .ref (a 2), .ref (a 3), .ref (a 4), .ref (a 5), .ref (a 7), .ref (a 9)])) (aW a b) b.2.1 b.2.2 m pe ep nm sn vn fbuf A2 hd P sv A4 tx := by
  obtain ⟨fb, ft, ρ, C⟩ := F.cv
  have hlt := hb.lt hg ho
  obtain ⟨hb1, hb2⟩ := hb
  have cc := C.c
  have hcv := hbd (cvA a ws) (by rw [fsL]; exact List.mem_cons_of_mem _ List.mem_cons_self)
  obtain ⟨d1, d2, d3⟩ := F.ap
  obtain ⟨-, M, R, p, bd⟩ := F
  have b0 := (ho.2 _ _ C.o).1
  have h0 : a 0 ∈ cvA a ws := by simp [cvA]
  have k : Ke [a 0] 0 0 h (eh_set h (a 0) (ob 0 [.ref (a 1), .int m, .int pe, .int ep, .ref (b.1 14), .ref (a 2), .ref (a 3), .ref (a 4), .ref (a 5), .ref (a 7), .ref (a 9)])) := Ke.set
  have ne : ∀ x e, rd g h x = some e → (∀ fs, e ≠ ob 0 fs) → x ∉ [a 0] := fun x e hx h1 h9 => by
    rw [List.mem_singleton.mp h9, rd_of C.o] at hx
    exact h1 _ (Option.some.inj hx).symm
  have nel : ∀ l, l ∈ rsL a A2 A4 P sv → ∀ x, x ∈ l → x ∉ [a 0] := fun l hl x hx h9 => by
    rw [List.mem_singleton.mp h9] at hx
    have := d1 l hl _ h0 hx
    omega
  have nen : ∀ x, x ∈ nmL2 (nE N) sn vn → x ∉ [a 0] := fun x hx h9 => by
    rw [List.mem_singleton.mp h9] at hx
    have := d3 _ hx h0
    omega
  have neb : ∀ x, x ∈ nbO b → x ∉ [a 0] := fun x hx h9 => by
    rw [List.mem_singleton.mp h9] at hx
    have := hcv _ hx h0
    omega
  obtain ⟨fn, n3⟩ := C.n.n
  have n15 : a 15 ∉ [a 0] := ne _ _ n3 (fun fs h9 => by cases h9)
  have hno : nbO b = nO (b.1 14) (b.1 16) (b.1 17) (b.1 18) (b.1 19) (b.1 20) b.2.1 := rfl
  have B' := NB.ke ⟨hb1, hb2⟩ k hg ho n15 neb
  have R' := R.ke k hg ho nel n15
  obtain ⟨r1, r2, r3, r4, r5, r6, r7, r8⟩ := C.r
  have dF := hb1.2.2.2.2.2.2.2.2.2
  have nd : [a 6, a 8, a 11, a 12, a 13, b.1 18, b.1 19, b.1 20].Nodup := by
    have d := C.d
    have hI : ∀ y f, h.1 y = some (aI (nE N) f) ∨ (∃ n, h.1 y = some (aI n f)) → y ∈ cvA a ws → y ≠ b.1 18 ∧ y ≠ b.1 19 ∧ y ≠ b.1 20 := fun y f hy hyc => by
      have hyb : eb g ≤ y := by
        rcases hy with h9 | ⟨n, h9⟩
        · exact (ho.2 _ _ h9).1
        · exact (ho.2 _ _ h9).1
      refine ⟨fun e => ?_, fun e => ?_, fun e => ?_⟩
      · have := hcv y (by rw [e, hno]; simp [nO]) hyc
        omega
      · have := hcv y (by rw [e, hno]; simp [nO]) hyc
        omega
      · have := hcv y (by rw [e, hno]; simp [nO]) hyc
        omega
    have i6 := hI (a 6) fb (Or.inr ⟨_, C.b.2.1⟩) (by simp [cvA])
    have i8 := hI (a 8) ft (Or.inr ⟨_, C.t.2.1⟩) (by simp [cvA])
    have i11 := hI (a 11) ρ.1 (Or.inr ⟨_, cc.1⟩) (by simp [cvA])
    have i12 := hI (a 12) ρ.2.1 (Or.inr ⟨_, cc.2.1⟩) (by simp [cvA])
    have i13 := hI (a 13) ρ.2.2.1 (Or.inr ⟨_, cc.2.2.1⟩) (by simp [cvA])
    simp only [List.nodup_cons, List.mem_cons, List.not_mem_nil, or_false, not_or] at d ⊢
    obtain ⟨⟨x1, x2, x3, x4, -, -, -⟩, ⟨y1, y2, y3, -, -, -⟩, ⟨z1, z2, -, -, -⟩, ⟨w1, -, -, -⟩, -, -, -, -⟩ := d
    obtain ⟨-, dd1, dd2, dd3⟩ := dF
    exact ⟨⟨x1, x2, x3, x4, i6⟩, ⟨y1, y2, y3, i8⟩, ⟨z1, z2, i11⟩, ⟨w1, i12⟩, i13, ⟨dd1, dd2⟩, dd3, not_false, List.nodup_nil⟩
  have CV' : CV g (eh_set h (a 0) (ob 0 [.ref (a 1), .int m, .int pe, .int ep, .ref (b.1 14), .ref (a 2), .ref (a 3), .ref (a 4), .ref (a 5), .ref (a 7), .ref (a 9)])) (aW a b) b.2.1 b.2.2 m pe ep fb ft ρ := by
    refine ⟨se_1 _ _ _, B'.1, ?_, ?_, ?_, ?_, nd⟩
    · rw [hb2]; exact C.b.ke k hg ho (ne _ _ C.b.1 (fun fs h9 => by cases h9)) (ne _ _ (rd_of C.b.2.1) (fun fs h9 => by cases h9))
    · rw [hb2]; exact C.t.ke k hg ho (ne _ _ C.t.1 (fun fs h9 => by cases h9)) (ne _ _ (rd_of C.t.2.1) (fun fs h9 => by cases h9))
    · rw [hb2]; exact ⟨r1, r2, r3, r4, r5, r6, k.rd hg ho r7 (ne _ _ r7 (fun fs h9 => by cases h9)), r8⟩
    · rw [hb2]; exact ⟨k.h ho cc.1 (ne _ _ (rd_of cc.1) (fun fs h9 => by cases h9)), k.h ho cc.2.1 (ne _ _ (rd_of cc.2.1) (fun fs h9 => by cases h9)), k.h ho cc.2.2.1 (ne _ _ (rd_of cc.2.2.1) (fun fs h9 => by cases h9)), k.h ho cc.2.2.2 (ne _ _ (rd_of cc.2.2.2) (fun fs h9 => by cases h9))⟩
  have hmem : ∀ x, x ∈ cvA (aW a b) b.2.1 → x ∈ cvA a ws ∨ x ∈ nbO b := by
    intro x hx
    rcases List.mem_append.mp hx with h9 | h9
    · exact Or.inl (List.mem_append_left _ h9)
    · exact Or.inr h9
  have p1 : ([nmL2 (nE N) sn vn] ++ cvA a ws :: rsL a A2 A4 P sv).Pairwise (djn g) := p
  refine ⟨⟨fb, ft, ρ, CV'⟩, ?_, ?_, ?_, ?_⟩
  · rw [hb2]; exact M.ke k hg ho n15 (fun e he => ⟨nen _ (nmL2_mem he).1, nen _ (nmL2_mem he).2⟩)
  · unfold RS at R' ⊢
    rw [hb2]
    exact R'
  · rw [hb2]
    refine pw_mid2 (A := [nmL2 (nE N) sn vn]) p1 hmem (fun l hl => hbd l ?_)
    rcases List.mem_append.mp hl with h9 | h9
    · rw [List.mem_singleton.mp h9]; exact List.mem_cons_self
    · exact List.mem_cons_of_mem _ (List.mem_cons_of_mem _ h9)
  · rw [hb2]
    refine bdd.ins (A := [nmL2 (nE N) sn vn]) (B := rsL a A2 A4 P sv) (bdd.del (A := [nmL2 (nE N) sn vn]) (X := cvA a ws) bd) (Nat.le_refl _) (fun x hx => ?_)
    rcases hmem x hx with h9 | h9
    · exact bd _ (by rw [fsL]; exact List.mem_cons_of_mem _ List.mem_cons_self) x h9
    · exact hlt x h9
theorem t_undoable {p : Nat} {v0 v1 v2 v3 v4 v6 v7 v8 v9 v10 : Value} {xs : List Nat} (h1 : h.1 p = some (ob 0 [v0, v1, v2, v3, v4, .ref (a 2), v6, v7, v8, v9, v10])) (D : DQ h (a 2) A2 hd xs) (hq : Q (.returned (some (.int (nI xs.length)))) h) : ew_T g kX1_undoable 2 [.ref p] h Q := by
  obtain ⟨f, d1, -⟩ := id D
  refine ew_enter (by decide +kernel) (ew_a1 rfl ew_az) (Nat.le_of_ble_eq_true rfl) ?_
  refine ew_aload_n (pc := 0) dX1_undoable_0 rfl ?_
  refine ew_getf (pc := 1) fX1_56 (rd_of h1) rfl dX1_undoable_1 ?_
  refine ew_cV0 (d' := 1) (pc := 4) vX1_405 (rd_of d1) dX1_undoable_4 (by decide) (ew_rm (Nat.le_of_ble_eq_true rfl)) ?_
  refine t_dqSize D ?_
  refine ew_Kr ?_
  refine ew_iret (pc := 7) rfl dX1_undoable_7 ?_
  exact hq
theorem c_undo (hg : gOC g) (F : FS g h a ws N m pe ep nm sn vn fbuf A2 hd P sv A4 tx)
    (h0 : P = [] → ∀ h' y, CX g h' (a 0) N nm m pe ep fbuf [] (fun i => (sv i).map (fun b => b.2.2)) tx → Bud h h' → h'.1 y = some (ob 23 []) → Q (.threw y) h')
    (h1 : ∀ P0 b, P = P0 ++ [b] → ∀ h', CX g h' (a 0) b.2.2 nm m pe ep fbuf (P0.map (fun b => b.2.2)) (fun i => (sv i).map (fun b => b.2.2)) tx → Bud h h' → Q (.returned (some (.int (nI P0.length)))) h') : ew_T g kX1_undo 6 [.ref (a 0)] h Q := by
  obtain ⟨fb, ft, ρ, C⟩ := F.cv
  have hDq := F.dq
  obtain ⟨f2, d1, d2, d3, d4, d5⟩ := F.dq
  rw [List.length_map] at d4
  refine ew_enter (by decide +kernel) (ew_a1 rfl ew_az) (Nat.le_of_ble_eq_true rfl) ?_
  refine ew_ok (fun ho => ?_)
  rcases List.eq_nil_or_concat P with hP | ⟨P0, b, hP⟩
  · have hPm : P.map (fun b => b.1 14) = [] := by rw [hP]; rfl
    refine ew_aload_n (pc := 0) dX1_undo_0 rfl ?_
    refine ew_getf (pc := 1) fX1_56 (rd_of C.o) rfl dX1_undo_1 ?_
    refine ew_cV0 (d' := 0) (pc := 4) vX1_432 (rd_of d1) dX1_undo_4 (by decide) (ew_rm (Nat.le_of_ble_eq_true rfl)) ?_
    refine t_dqEmpty hDq ?_
    refine ew_Kr ?_
    refine ew_if_ne (pc := 7) (tgt := 14) dX1_undo_7 (by decide) (fun c7 => ?_) (fun c7 => absurd c7 (bI_n.mpr hPm))
    refine ew_iconst (pc := 14) (v := 0) dX1_undo_14 rfl ?_
    refine ew_cS1 (d' := 5) (pc := 15) sX1_88 dX1_undo_15 (by decide) (ew_rm (Nat.le_of_ble_eq_true rfl)) ?_
    refine t_chkS (fun h9 => ?_) (fun h9 => absurd rfl h9)
    have er := F.err (e := ob 23 []) (k := 6) hg ho (by decide)
    have cx := er.2
    rw [hP] at cx
    exact ew_Kx (ew_out (fun x hx => nomatch hx) (h0 hP _ _ cx er.1 (ne_1 _ _ _)))
  · rw [List.concat_eq_append] at hP
    subst hP
    have B0 := F.nb b (by simp)
    have hD0 : DQ h (a 2) A2 hd (P0.map (fun b => b.1 14) ++ [b.1 14]) := by
      rw [List.map_append] at hDq
      exact hDq
    have hPm : ¬ (P0 ++ [b]).map (fun b => b.1 14) = [] := by simp
    have el : fsL a ws (nE N) sn vn A2 A4 (P0 ++ [b]) sv = (nmL2 (nE N) sn vn :: cvA a ws :: [a 1] :: [a 2, A2] :: [a 3] :: [a 4, A4] :: P0.map nbO) ++ nbO b :: (svL sv).map nbO := by
      simp [fsL, rsL]
    have el2 : fsL a ws (nE N) sn vn A2 A4 P0 sv = (nmL2 (nE N) sn vn :: cvA a ws :: [a 1] :: [a 2, A2] :: [a 3] :: [a 4, A4] :: P0.map nbO) ++ (svL sv).map nbO := by
      simp [fsL, rsL]
    have hbd : ∀ l, l ∈ fsL a ws (nE N) sn vn A2 A4 P0 sv → djn g (nbO b) l := by
      rw [el2]
      have p := F.pw
      rw [el] at p
      exact pw_x p
    have b2 := (ho.2 _ _ d1).1
    have bA := (ho.2 _ _ d2).1
    have obW : ∀ x, x ∈ nbO b → x ∉ [a 2, A2] := fun x hx h9 => by
      have := hbd [a 2, A2] (by rw [el2]; simp) x hx h9
      rw [List.mem_cons, List.mem_singleton] at h9
      rcases h9 with e | e <;> omega
    refine ew_aload_n (pc := 0) dX1_undo_0 rfl ?_
    refine ew_getf (pc := 1) fX1_56 (rd_of C.o) rfl dX1_undo_1 ?_
    refine ew_cV0 (d' := 0) (pc := 4) vX1_432 (rd_of d1) dX1_undo_4 (by decide) (ew_rm (Nat.le_of_ble_eq_true rfl)) ?_
    refine t_dqEmpty hDq ?_
    refine ew_Kr ?_
    refine ew_if_ne (pc := 7) (tgt := 14) dX1_undo_7 (by decide) (fun c7 => absurd (bI_0.mpr hPm) c7) (fun c7 => ?_)
    refine ew_iconst (pc := 10) (v := 1) dX1_undo_10 rfl ?_
    refine ew_goto (pc := 11) (tgt := 15) dX1_undo_11 (by decide) ?_
    refine ew_cS1 (d' := 5) (pc := 15) sX1_88 dX1_undo_15 (by decide) (ew_rm (Nat.le_of_ble_eq_true rfl)) ?_
    refine t_chkS (fun h9 => absurd h9 (by decide)) (fun _ => ?_)
    refine ew_Kv ?_
    refine ew_aload_n (pc := 18) dX1_undo_18 rfl ?_
    refine ew_aload_n (pc := 19) dX1_undo_19 rfl ?_
    refine ew_getf (pc := 20) fX1_56 (rd_of C.o) rfl dX1_undo_20 ?_
    refine ew_cV0 (d' := 2) (pc := 23) vX1_433 (rd_of d1) dX1_undo_23 (by decide) (ew_rm (Nat.le_of_ble_eq_true rfl)) ?_
    refine t_dqRemL hD0 B0.o (fun h2 D2 k2 => ?_)
    refine ew_Kr ?_
    refine ew_ok (fun ho2 => ?_)
    have F2 := F.past hg ho k2 D2 (List.sublist_append_left _ _)
    obtain ⟨fb2, ft2, ρ2, C2⟩ := F2.cv
    have B2 := B0.ke k2 hg ho (F.kne ho _ (by simp [cvA])) obW
    have F3 := F2.swap hg ho2 B2 hbd
    obtain ⟨fs2, b2o⟩ := B2.o
    refine ew_cast (pc := 26) rfl b2o (ew_q q201) (Or.inl rfl) dX1_undo_26 ?_
    refine ew_putf (pc := 29) pX1_84 C2.o st_4 (Nat.le_of_ble_eq_true rfl) rfl rfl (fun h9 => absurd h9 Bool.false_ne_true) dX1_undo_29 ?_
    obtain ⟨fb3, ft3, ρ3, C3⟩ := F3.cv
    obtain ⟨f3, e1, -⟩ := F3.dq
    refine ew_aload_n (pc := 32) dX1_undo_32 rfl ?_
    refine ew_getf (pc := 33) fX1_56 (rd_of C3.o) rfl dX1_undo_33 ?_
    refine ew_cV0 (d' := 1) (pc := 36) vX1_405 (rd_of e1) dX1_undo_36 (by decide) (ew_rm (Nat.le_of_ble_eq_true rfl)) ?_
    refine t_dqSize F3.dq ?_
    rw [List.length_map]
    refine ew_Kr ?_
    refine ew_iret (pc := 39) rfl dX1_undo_39 ?_
    exact h1 P0 b rfl _ F3.cx (k2.bud (by decide) (by decide))
end
