/-! EW: nets are saved, and taken back -/
set_option maxRecDepth 100000
def svU (sv : Nat → Option nbd) (i : Nat) (b : nbd) : Nat → Option nbd := fun j => if j = i then some b else sv j
section
variable {g : eg} {h h' : eh} {a : Nat → Nat} {ws : List Nat} {N N' : Nat → Int32} {m pe ep : Int32} {fb ft : Nat → Int32} {ρ : ru} {Q : Outcome → eh → Prop} {A2 hd A4 c s : Nat} {P : List nbd} {sv : Nat → Option nbd} {tx : List Int32} {fbuf nm : Nat → Int32} {sn vn : Nat → Nat}
theorem FS.sva (F : FS g h a ws N m pe ep nm sn vn fbuf A2 hd P sv A4 tx) : ∃ f, h.1 (a 3) = some (aR 7 2 f) ∧ ∀ i, i < 2 → f i = (sv i).map (fun b => b.1 14) := F.2.2.1.2.2.1
theorem FS.save {b : nbd} {i lo : Nat} {f : Nat → Option Nat} (hg : gOC g) (ho : eh_ok g h) (F : FS g h a ws N m pe ep nm sn vn fbuf A2 hd P sv A4 tx) (hb : NB g h (a 15) (nE N) b) (hlo : bdd lo (fsL a ws (nE N) sn vn A2 A4 P sv)) (hbo : ∀ x, x ∈ nbO b → lo ≤ x ∨ x < eb g) (hi : i < 2) (hf : h.1 (a 3) = some (aR 7 2 f)) (hf2 : ∀ i, i < 2 → f i = (sv i).map (fun b => b.1 14)) : FS g (eh_set h (a 3) (aR 7 2 (va_up f i (some (b.1 14))))) a ws N m pe ep nm sn vn fbuf A2 hd P (svU sv i b) A4 tx := by
  have b3 := (ho.2 _ _ hf).1
  have k : Ke [a 3] 0 0 h (eh_set h (a 3) (aR 7 2 (va_up f i (some (b.1 14))))) := Ke.set
  have hx := pw_w (A := [nmL2 (nE N) sn vn, cvA a ws, [a 1], [a 2, A2]]) (X := [a 3]) (B := [a 4, A4] :: (P ++ svL sv).map nbO) (W := [a 3]) F.pw F.bd (fun b hb _ => ⟨hb, by rw [List.mem_singleton.mp hb]; exact b3⟩)
  have o1 := hx (cvA a ws) (by simp)
  have o2 := hx (nmL2 (nE N) sn vn) (by simp)
  have o3 : ∀ l, l ∈ (P ++ svL sv).map nbO → ∀ b, b ∈ l → b ∉ [a 3] := fun l hl => hx l (List.mem_append_right _ (List.mem_cons_of_mem _ hl))
  have hm3 : [a 3] ∈ fsL a ws (nE N) sn vn A2 A4 P sv := by simp [fsL, rsL]
  have obW : ∀ x, x ∈ nbO b → x ∉ [a 3] := fun x hx9 h9 => by
    have h8 := hlo _ hm3 x h9
    rw [List.mem_singleton] at h9
    rcases hbo x hx9 with h6 | h6 <;> omega
  have hbl := hb.lt hg ho
  obtain ⟨q1, q2, q3⟩ := F.oth hg ho k o1 o2 o3
  obtain ⟨-, -, ⟨r1, r2, -, r4, -⟩, p, bd⟩ := F
  obtain ⟨base, hbase⟩ : ∃ base, base = nmL2 (nE N) sn vn :: cvA a ws :: [a 1] :: [a 2, A2] :: [a 3] :: [a 4, A4] :: P.map nbO := ⟨_, rfl⟩
  have el : fsL a ws (nE N) sn vn A2 A4 P sv = base ++ (svL sv).map nbO := by
    rw [hbase]
    simp [fsL, rsL]
  have el' : fsL a ws (nE N) sn vn A2 A4 P (svU sv i b) = base ++ (svL (svU sv i b)).map nbO := by
    rw [hbase]
    simp [fsL, rsL]
  rw [el] at p bd hlo
  have hB' := hb.ke k hg ho (o1 _ (by simp [cvA])) obW
  have fin : (∃ A B, base ++ (svL (svU sv i b)).map nbO = A ++ nbO b :: B ∧ (A ++ B).Sublist (base ++ (svL sv).map nbO)) ∧ ∀ y, y ∈ svL (svU sv i b) → y = b ∨ y ∈ svL sv := by
    rcases (by omega : i = 0 ∨ i = 1) with rfl | rfl
    · refine ⟨⟨base, ((sv 1).toList).map nbO, ?_, ?_⟩, fun y hy => ?_⟩
      · rw [svL, svU]; simp [svU]
      · refine List.Sublist.append (List.Sublist.refl _) ?_
        rw [svL, List.map_append]
        exact List.sublist_append_right _ _
      · rw [svL, List.mem_append] at hy
        rcases hy with h9 | h9
        · have h8 : svU sv 0 b 0 = some b := if_pos rfl
          rw [h8] at h9
          exact Or.inl (by simpa using h9)
        · have h8 : svU sv 0 b 1 = sv 1 := if_neg (by decide)
          rw [h8] at h9
          exact Or.inr (List.mem_append_right _ h9)
    · refine ⟨⟨base ++ ((sv 0).toList).map nbO, [], ?_, ?_⟩, fun y hy => ?_⟩
      · have h8 : svU sv 1 b 0 = sv 0 := if_neg (by decide)
        have h7 : svU sv 1 b 1 = some b := if_pos rfl
        rw [svL, h8, h7, List.map_append, List.append_assoc]
        rfl
      · rw [List.append_nil]
        refine List.Sublist.append (List.Sublist.refl _) ?_
        rw [svL, List.map_append]
        exact List.sublist_append_left _ _
      · rw [svL, List.mem_append] at hy
        rcases hy with h9 | h9
        · have h8 : svU sv 1 b 0 = sv 0 := if_neg (by decide)
          rw [h8] at h9
          exact Or.inr (List.mem_append_left _ h9)
        · have h8 : svU sv 1 b 1 = some b := if_pos rfl
          rw [h8] at h9
          exact Or.inl (by simpa using h9)
  obtain ⟨⟨A, B, eAB, hsub⟩, hmem⟩ := fin
  have bd2 : bdd h.2.1 (A ++ B) := fun l hl => bd l (hsub.subset hl)
  have lo2 : bdd lo (A ++ B) := fun l hl => hlo l (hsub.subset hl)
  refine ⟨q1, q2, ⟨k.h ho r1 (hx [a 1] (by simp) _ (by simp)), r2.ke k ho (hx [a 2, A2] (by simp) _ (by simp)) (hx [a 2, A2] (by simp) _ (by simp)), ⟨_, se_1 _ _ _, fun j hj => ?_⟩, r4.ke k ho (hx [a 4, A4] (by simp) _ (by simp)) (hx [a 4, A4] (by simp) _ (by simp)), fun y hy => ?_⟩, by rw [el', eAB]; exact pw_ins (p.sublist hsub) lo2 hbo, by rw [el', eAB]; exact bd2.ins (Nat.le_refl _) hbl⟩
  · show (if j = i then some (b.1 14) else f j) = (svU sv i b j).map (fun b => b.1 14)
    by_cases h9 : j = i
    · rw [if_pos h9, svU, if_pos h9]
      rfl
    · rw [if_neg h9, svU, if_neg h9]
      exact hf2 j hj
  · rcases List.mem_append.mp hy with h9 | h9
    · exact q3 y (List.mem_append_left _ h9)
    · rcases hmem y h9 with h8 | h8
      · rw [h8]; exact hB'
      · exact q3 y (List.mem_append_right _ h8)
/-- a copy, as a net that is kept -/
theorem nb_copy {q E' nA : Nat} {xs : List Nat} {M : Nat → Int32} (n1 : NR g h' q nA (q + 1) E' (q + 2) (q + 3) (q + 4) xs M) (n2 : ∀ x, x ∈ xs → q ≤ x) (n3 : E' < eb g ∨ q ≤ E') : ∃ bb : nbd, NB g h' nA (nE M) bb ∧ bb.1 14 = q ∧ bb.2.2 = M ∧ ∀ x, x ∈ nbO bb → q ≤ x ∨ x < eb g := by
  refine ⟨((fun i => if i = 14 then q else if i = 16 then q + 1 else if i = 17 then E' else if i = 18 then q + 2 else if i = 19 then q + 3 else q + 4), xs, M), ⟨n1, rfl⟩, rfl, rfl, fun x hx => ?_⟩
  simp only [nbO, nO, List.mem_cons] at hx
  rcases hx with e | e | e | e | e | e | e
  · rw [e]; exact Or.inl (Nat.le_refl _)
  · rw [e]; exact Or.inl (Nat.le_succ _)
  · rw [e]; exact n3.elim Or.inr Or.inl
  · rw [e]; exact Or.inl (Nat.le_add_right _ _)
  · rw [e]; exact Or.inl (Nat.le_add_right _ _)
  · rw [e]; exact Or.inl (Nat.le_add_right _ _)
  · exact Or.inl (n2 x e)
theorem c_save {i : Int32} (hg : gOC g) (hM : gOM g) (hD : gDE g) (F : FS g h a ws N m pe ep nm sn vn fbuf A2 hd P sv A4 tx) (hq : ∀ o h', CR SI (as1 1 (bI (isIx 2 i))) (.int (nI (nW N))) (fun h' => CX g h' (a 0) N nm m pe ep fbuf (P.map (fun b => b.2.2)) (fun i => (sv i).map (fun b => b.2.2)) tx) (fun h' => CX g h' (a 0) N nm m pe ep fbuf (P.map (fun b => b.2.2)) (fun j => if j = ix i then some N else (sv j).map (fun b => b.2.2)) tx) h o h' → Q o h') : ew_T g kX1_save 20 [.ref (a 0), .int i] h Q := by
  obtain ⟨fb, ft, ρ, C⟩ := F.cv
  obtain ⟨E0, hE0, hE1⟩ := hD
  obtain ⟨f, hf, hf2⟩ := F.sva
  refine ew_enter (by decide +kernel) (ew_a1 rfl (ew_a1 rfl ew_az)) (Nat.le_of_ble_eq_true rfl) ?_
  refine ew_ok (fun ho => ?_)
  refine ew_aload_n (pc := 0) dX1_save_0 rfl ?_
  refine ew_cV0 (d' := 6) (pc := 1) vX1_106 (rd_of C.o) dX1_save_1 (by decide) (ew_rm (Nat.le_of_ble_eq_true rfl)) ?_
  refine t_there C ?_
  refine ew_Kr ?_
  refine ew_pop (pc := 4) dX1_save_4 rfl ?_
  refine ew_iload_n (pc := 5) dX1_save_5 rfl ?_
  refine ew_iconst (pc := 6) (v := 2) dX1_save_6 rfl ?_
  refine ew_cS2 (d' := 5) (pc := 7) sX1_113 dX1_save_7 (by decide) (ew_rm (Nat.le_of_ble_eq_true rfl)) ?_
  refine t_chkI (n := 2) (fun h9 => ?_) (fun hi => ?_)
  · exact ew_Kx (ew_out (fun x hx => nomatch hx) (hq _ _ (CR.no (k := 2) (as1_i h9) (by decide) (F.err hg ho (by decide)).1 rfl (ne_1 _ _ _) (F.err hg ho (by decide)).2)))
  have hx := hi.to (n := 2) (by decide)
  refine ew_Kv ?_
  refine ew_aload_n (pc := 10) dX1_save_10 rfl ?_
  refine ew_getf (pc := 11) fX1_60 (rd_of C.o) rfl dX1_save_11 ?_
  refine ew_iload_n (pc := 14) dX1_save_14 rfl ?_
  refine ew_aload_n (pc := 15) dX1_save_15 rfl ?_
  refine ew_getf (pc := 16) fX1_84 (rd_of C.o) rfl dX1_save_16 ?_
  refine ew_cV0 (d' := 19) (pc := 19) vX1_409 (rd_of C.n.o) dX1_save_19 (by decide) (ew_rm (Nat.le_of_ble_eq_true rfl)) ?_
  refine t_nCopy hg hM hE0 hE1 C.n (fun h2 E' xs n1 n2 n3 k2 => ?_)
  obtain ⟨bb, B2, b14, bM, bO⟩ := nb_copy n1 n2 n3
  refine ew_Kr ?_
  refine ew_ok (fun ho2 => ?_)
  have F2 := F.new hg ho ho2 k2
  have hf3 := k2.h ho hf List.not_mem_nil
  have F3 := F2.save hg ho2 B2 F.bd bO hx.1 hf3 hf2
  rw [b14] at F3
  obtain ⟨fs2, b2o⟩ := B2.o
  rw [b14] at b2o
  have hox : ∃ ci vs r, rd g h2 h.2.1 = some (ob ci vs) ∧ ewCl[ci]? = some r ∧ (r.1 = "EventWindows$Net" ∨ ew_w (.castable r.1 "EventWindows$Net")) := ⟨5, _, _, b2o, rfl, Or.inl rfl⟩
  refine ew_aaS (pc := 22) rfl hf3 hox (j := ix i) hx.2 hx.1 (by decide) dX1_save_22 ?_
  obtain ⟨fb3, ft3, ρ3, C3⟩ := F3.cv
  obtain ⟨mc3, cap3, fl3, hL3, -⟩ := C3.n.l
  refine ew_aload_n (pc := 23) dX1_save_23 rfl ?_
  refine ew_getf (pc := 24) fX1_84 (rd_of C3.o) rfl dX1_save_24 ?_
  refine ew_getf (pc := 27) fX1_117 (rd_of C3.n.o) rfl dX1_save_27 ?_
  refine ew_cF0 (d' := 0) (pc := 30) tX1_121_19 (rd_of hL3) dX1_save_30 (by decide) (ew_rm (Nat.le_of_ble_eq_true rfl)) ?_
  refine t_alSize C3.n.l ?_
  rw [C3.n.len]
  refine ew_Kr ?_
  refine ew_iret (pc := 35) rfl dX1_save_35 ?_
  have cx := F3.cx
  have es : (fun j => (svU sv (ix i) bb j).map (fun b => b.2.2)) = (fun j => if j = ix i then some N else (sv j).map (fun b => b.2.2)) := by
    funext j
    rw [svU]
    by_cases h9 : j = ix i
    · rw [if_pos h9, if_pos h9, Option.map_some, bM]
    · rw [if_neg h9, if_neg h9]
  rw [es] at cx
  exact hq _ _ (CR.ok (as1_y hi) (k2.bud (by decide) (by decide)) cx)
theorem c_restore {i : Int32} (hg : gOC g) (hM : gOM g) (hD : gDE g) (F : FS g h a ws N m pe ep nm sn vn fbuf A2 hd P sv A4 tx)
    (h0 : ¬ isIx 2 i → ∀ h' y, CX g h' (a 0) N nm m pe ep fbuf (P.map (fun b => b.2.2)) (fun i => (sv i).map (fun b => b.2.2)) tx → Bud h h' → h'.1 y = some (ob 25 []) → Q (.threw y) h')
    (h1 : isIx 2 i → (sv (ix i)).map (fun b => b.2.2) = none → ∀ h' y, CX g h' (a 0) N nm m pe ep fbuf (P.map (fun b => b.2.2)) (fun i => (sv i).map (fun b => b.2.2)) tx → Bud h h' → h'.1 y = some (ob 23 []) → Q (.threw y) h')
    (h2 : isIx 2 i → ∀ M, (sv (ix i)).map (fun b => b.2.2) = some M → ∀ h', CX g h' (a 0) M nm m pe ep fbuf [] (fun i => (sv i).map (fun b => b.2.2)) tx → Bud h h' → Q (.returned (some (.int (nI (nW M))))) h') : ew_T g kX1_restore 20 [.ref (a 0), .int i] h Q := by
  obtain ⟨fb, ft, ρ, C⟩ := F.cv
  obtain ⟨E0, hE0, hE1⟩ := hD
  obtain ⟨f, hf, hf2⟩ := F.sva
  refine ew_enter (by decide +kernel) (ew_a1 rfl (ew_a1 rfl ew_az)) (Nat.le_of_ble_eq_true rfl) ?_
  refine ew_ok (fun ho => ?_)
  by_cases hi : isIx 2 i
  · have hx := hi.to (n := 2) (by decide)
    cases hsv : sv (ix i) with
    | none =>
      have hfi : f (ix i) = none := by rw [hf2 _ hx.1, hsv]; rfl
      refine ew_iload_n (pc := 0) dX1_restore_0 rfl ?_
      refine ew_iconst (pc := 1) (v := 2) dX1_restore_1 rfl ?_
      refine ew_cS2 (d' := 5) (pc := 2) sX1_113 dX1_restore_2 (by decide) (ew_rm (Nat.le_of_ble_eq_true rfl)) ?_
      refine t_chkI (n := 2) (fun h9 => absurd hi h9) (fun _ => ?_)
      refine ew_Kv ?_
      refine ew_aload_n (pc := 5) dX1_restore_5 rfl ?_
      refine ew_getf (pc := 6) fX1_60 (rd_of C.o) rfl dX1_restore_6 ?_
      refine ew_iload_n (pc := 9) dX1_restore_9 rfl ?_
      refine ew_aaJ (pc := 10) rfl (rd_of hf) (j := ix i) hx.2 hx.1 (by decide) dX1_restore_10 ?_
      rw [hfi]
      refine ew_ifnullN (pc := 11) (tgt := 18) dX1_restore_11 (by decide) ?_
      refine ew_iconst (pc := 18) (v := 0) dX1_restore_18 rfl ?_
      refine ew_cS1 (d' := 5) (pc := 19) sX1_88 dX1_restore_19 (by decide) (ew_rm (Nat.le_of_ble_eq_true rfl)) ?_
      refine t_chkS (fun h9 => ?_) (fun h9 => absurd rfl h9)
      exact ew_Kx (ew_out (fun x hx => nomatch hx) (h1 hi (by rw [hsv]; rfl) _ _ (F.err hg ho (by decide)).2 (F.err hg ho (by decide)).1 (ne_1 _ _ _)))
    | some b =>
      have hfi : f (ix i) = some (b.1 14) := by rw [hf2 _ hx.1, hsv]; rfl
      have hbm : b ∈ P ++ svL sv := by
        refine List.mem_append_right _ ?_
        rw [svL, List.mem_append]
        rcases (by have := hx.1; omega : ix i = 0 ∨ ix i = 1) with h9 | h9
        · rw [h9] at hsv
          exact Or.inl (by rw [hsv]; simp)
        · rw [h9] at hsv
          exact Or.inr (by rw [hsv]; simp)
      have B0 := F.nb b hbm
      have nb1 := B0.1
      refine ew_iload_n (pc := 0) dX1_restore_0 rfl ?_
      refine ew_iconst (pc := 1) (v := 2) dX1_restore_1 rfl ?_
      refine ew_cS2 (d' := 5) (pc := 2) sX1_113 dX1_restore_2 (by decide) (ew_rm (Nat.le_of_ble_eq_true rfl)) ?_
      refine t_chkI (n := 2) (fun h9 => absurd hi h9) (fun _ => ?_)
      refine ew_Kv ?_
      refine ew_aload_n (pc := 5) dX1_restore_5 rfl ?_
      refine ew_getf (pc := 6) fX1_60 (rd_of C.o) rfl dX1_restore_6 ?_
      refine ew_iload_n (pc := 9) dX1_restore_9 rfl ?_
      refine ew_aaJ (pc := 10) rfl (rd_of hf) (j := ix i) hx.2 hx.1 (by decide) dX1_restore_10 ?_
      rw [hfi]
      refine ew_ifnull (pc := 11) dX1_restore_11 ?_
      refine ew_iconst (pc := 14) (v := 1) dX1_restore_14 rfl ?_
      refine ew_goto (pc := 15) (tgt := 19) dX1_restore_15 (by decide) ?_
      refine ew_cS1 (d' := 5) (pc := 19) sX1_88 dX1_restore_19 (by decide) (ew_rm (Nat.le_of_ble_eq_true rfl)) ?_
      refine t_chkS (fun h9 => absurd h9 (by decide)) (fun _ => ?_)
      refine ew_Kv ?_
      refine ew_aload_n (pc := 22) dX1_restore_22 rfl ?_
      refine ew_aload_n (pc := 23) dX1_restore_23 rfl ?_
      refine ew_getf (pc := 24) fX1_60 (rd_of C.o) rfl dX1_restore_24 ?_
      refine ew_iload_n (pc := 27) dX1_restore_27 rfl ?_
      refine ew_aaJ (pc := 28) rfl (rd_of hf) (j := ix i) hx.2 hx.1 (by decide) dX1_restore_28 ?_
      rw [hfi]
      refine ew_cV0 (d' := 19) (pc := 29) vX1_409 (rd_of nb1.o) dX1_restore_29 (by decide) (ew_rm (Nat.le_of_ble_eq_true rfl)) ?_
      refine t_nCopy hg hM hE0 hE1 nb1 (fun h2' E' xs n1 n2 n3 k2 => ?_)
      obtain ⟨bb, B2, b14, bM, bO⟩ := nb_copy n1 n2 n3
      rw [B0.2] at B2
      refine ew_Kr ?_
      refine ew_ok (fun ho2 => ?_)
      have F2 := F.new hg ho ho2 k2
      have hbd : ∀ l, l ∈ fsL a ws (nE N) sn vn A2 A4 P sv → djn g (nbO bb) l := fun l hl x q1 q2 => by
        have h9 := F.bd l hl x q2
        rcases bO x q1 with h8 | h8
        · omega
        · exact h8
      have F3 := F2.swap hg ho2 B2 hbd
      rw [b14] at F3
      obtain ⟨fb2, ft2, ρ2, C2⟩ := F2.cv
      refine ew_putf (pc := 32) pX1_84 C2.o st_4 (Nat.le_of_ble_eq_true rfl) rfl rfl (fun h9 => absurd h9 Bool.false_ne_true) dX1_restore_32 ?_
      obtain ⟨fb3, ft3, ρ3, C3⟩ := F3.cv
      have D3 := F3.dq
      obtain ⟨f3, e1, -⟩ := id D3
      refine ew_ok (fun ho3 => ?_)
      refine ew_aload_n (pc := 35) dX1_restore_35 rfl ?_
      refine ew_getf (pc := 36) fX1_56 (rd_of C3.o) rfl dX1_restore_36 ?_
      refine ew_cV0 (d' := 1) (pc := 39) vX1_159 (rd_of e1) dX1_restore_39 (by decide) (ew_rm (Nat.le_of_ble_eq_true rfl)) ?_
      refine t_dqClear D3 (fun h4 D4 k4 => ?_)
      have F4 := F3.past (P' := []) hg ho3 k4 D4 (List.nil_sublist _)
      obtain ⟨fb4, ft4, ρ4, C4⟩ := F4.cv
      obtain ⟨mc4, cap4, fl4, hL4, -⟩ := C4.n.l
      refine ew_Kv ?_
      refine ew_aload_n (pc := 42) dX1_restore_42 rfl ?_
      refine ew_getf (pc := 43) fX1_84 (rd_of C4.o) rfl dX1_restore_43 ?_
      refine ew_getf (pc := 46) fX1_117 (rd_of C4.n.o) rfl dX1_restore_46 ?_
      refine ew_cF0 (d' := 0) (pc := 49) tX1_121_19 (rd_of hL4) dX1_restore_49 (by decide) (ew_rm (Nat.le_of_ble_eq_true rfl)) ?_
      refine t_alSize C4.n.l ?_
      rw [C4.n.len, bM]
      refine ew_Kr ?_
      refine ew_iret (pc := 54) rfl dX1_restore_54 ?_
      have cx := F4.cx
      rw [bM] at cx
      exact h2 hi _ (by rw [hsv]; rfl) _ cx ((k2.t (Ke.set.t k4 (A := [a 0, a 2, A2]) (c := 0) (s := 0) (fun b h9 _ => by rw [List.mem_singleton.mp h9]; exact List.mem_cons_self) (fun b h9 _ => List.mem_cons_of_mem _ h9) (by decide) (by decide)) (A := [a 0, a 2, A2]) (c := 60) (s := 2000) (fun b h9 => absurd h9 List.not_mem_nil) (fun b h9 _ => h9) (by decide) (by decide)).bud (by decide) (by decide))
  · skip
    refine ew_iload_n (pc := 0) dX1_restore_0 rfl ?_
    refine ew_iconst (pc := 1) (v := 2) dX1_restore_1 rfl ?_
    refine ew_cS2 (d' := 5) (pc := 2) sX1_113 dX1_restore_2 (by decide) (ew_rm (Nat.le_of_ble_eq_true rfl)) ?_
    refine t_chkI (n := 2) (fun h9 => ?_) (fun h9 => absurd h9 hi)
    exact ew_Kx (ew_out (fun x hx => nomatch hx) (h0 hi _ _ (F.err hg ho (by decide)).2 (F.err hg ho (by decide)).1 (ne_1 _ _ _)))
end
