/-! EW: the net is kept -/
set_option maxRecDepth 100000
theorem pw_x {g : eg} {X : List Nat} {A B : List (List Nat)} (h : (A ++ X :: B).Pairwise (djn g)) : ∀ l, l ∈ A ++ B → djn g X l := by
  have h1 : (X :: (A ++ B)).Pairwise (djn g) := (List.Perm.pairwise_iff (fun h9 => h9.symm) List.perm_middle).mp h
  exact (List.pairwise_cons.mp h1).1
/-- what is written lies in X alone -/
theorem pw_w {g : eg} {X W : List Nat} {A B : List (List Nat)} {n : Nat} (h : (A ++ X :: B).Pairwise (djn g)) (hb : bdd n (A ++ X :: B)) (hW : ∀ b, b ∈ W → b < n → b ∈ X ∧ eb g ≤ b) : ∀ l, l ∈ A ++ B → ∀ b, b ∈ l → b ∉ W := by
  intro l hl b hbl h9
  have h8 := hW b h9 (hb.del l hl b hbl)
  have := pw_x h l hl b h8.1 hbl
  omega
section
variable {g : eg} {h h' : eh} {a : Nat → Nat} {ws : List Nat} {N : Nat → Int32} {m pe ep : Int32} {fb ft : Nat → Int32} {ρ : ru} {Q : Outcome → eh → Prop} {n A2 hd A4 c s : Nat} {P : List nbd} {sv : Nat → Option nbd} {tx : List Int32} {fbuf nm : Nat → Int32} {sn vn : Nat → Nat}
theorem NB.ke {W : List Nat} {nA : Nat} {b : nbd} (B : NB g h nA n b) (k : Ke W c s h h') (hg : gOC g) (ho : eh_ok g h) (h1 : nA ∉ W) (h2 : ∀ x, x ∈ nbO b → x ∉ W) : NB g h' nA n b := ⟨B.1.ke k hg ho (fun x hx => by
  rcases List.mem_cons.mp hx with e | e
  · rw [e]; exact h1
  · exact h2 x e), B.2⟩
theorem NB.o {nA : Nat} {b : nbd} (B : NB g h nA n b) : ∃ fs, rd g h (b.1 14) = some (ob 5 fs) := ⟨_, rd_of B.1.o⟩
/-- all but what lies beside the net -/
theorem FS.oth {W : List Nat} (hg : gOC g) (ho : eh_ok g h) (F : FS g h a ws N m pe ep nm sn vn fbuf A2 hd P sv A4 tx) (k : Ke W c s h h') (h1 : ∀ b, b ∈ cvA a ws → b ∉ W) (h2 : ∀ b, b ∈ nmL2 (nE N) sn vn → b ∉ W) (h3 : ∀ l, l ∈ (P ++ svL sv).map nbO → ∀ b, b ∈ l → b ∉ W) : (∃ fb ft ρ, CV g h' a ws N m pe ep fb ft ρ) ∧ NM g h' (a 15) (nE N) nm sn vn ∧ ∀ b, b ∈ P ++ svL sv → NB g h' (a 15) (nE N) b := by
  obtain ⟨⟨fb, ft, ρ, C⟩, M, R, -, -⟩ := F
  have h15 : a 15 ∉ W := h1 _ (by simp [cvA])
  exact ⟨⟨_, _, _, C.keA k hg ho h1⟩, M.ke k hg ho h15 (fun e he => ⟨h2 _ (nmL2_mem he).1, h2 _ (nmL2_mem he).2⟩), fun b hb => (R.2.2.2.2 b hb).ke k hg ho h15 (h3 _ (List.mem_map_of_mem hb))⟩
theorem FS.pw (F : FS g h a ws N m pe ep nm sn vn fbuf A2 hd P sv A4 tx) : (fsL a ws (nE N) sn vn A2 A4 P sv).Pairwise (djn g) := F.2.2.2.1
theorem FS.bd (F : FS g h a ws N m pe ep nm sn vn fbuf A2 hd P sv A4 tx) : bdd h.2.1 (fsL a ws (nE N) sn vn A2 A4 P sv) := F.2.2.2.2
theorem FS.dq (F : FS g h a ws N m pe ep nm sn vn fbuf A2 hd P sv A4 tx) : DQ h (a 2) A2 hd (P.map (fun b => b.1 14)) := F.2.2.1.2.1
theorem FS.nb (F : FS g h a ws N m pe ep nm sn vn fbuf A2 hd P sv A4 tx) : ∀ b, b ∈ P ++ svL sv → NB g h (a 15) (nE N) b := F.2.2.1.2.2.2.2
/-- the deque changes: other nets of those that are there, and one -/
theorem FS.past {P' : List nbd} {hd' : Nat} (hg : gOC g) (ho : eh_ok g h) (F : FS g h a ws N m pe ep nm sn vn fbuf A2 hd P sv A4 tx) (k : Ke [a 2, A2] c s h h') (D : DQ h' (a 2) A2 hd' (P'.map (fun b => b.1 14))) (hs : P'.Sublist P) : FS g h' a ws N m pe ep nm sn vn fbuf A2 hd' P' sv A4 tx := by
  obtain ⟨f2, d1, d2, -⟩ := F.dq
  have b2 := (ho.2 _ _ d1).1
  have bA := (ho.2 _ _ d2).1
  have hx := pw_w (A := [nmL2 (nE N) sn vn, cvA a ws, [a 1]]) (X := [a 2, A2]) (B := [a 3] :: [a 4, A4] :: (P ++ svL sv).map nbO) (W := [a 2, A2]) F.pw F.bd (fun b hb _ => ⟨hb, by
    rw [List.mem_cons, List.mem_singleton] at hb
    rcases hb with e | e <;> rw [e] <;> assumption⟩)
  have o1 := hx (cvA a ws) (by simp)
  have o2 := hx (nmL2 (nE N) sn vn) (by simp)
  have o3 : ∀ l, l ∈ (P ++ svL sv).map nbO → ∀ b, b ∈ l → b ∉ [a 2, A2] := fun l hl => hx l (List.mem_append_right _ (List.mem_cons_of_mem _ (List.mem_cons_of_mem _ hl)))
  obtain ⟨q1, q2, q3⟩ := F.oth hg ho k o1 o2 o3
  obtain ⟨-, -, ⟨r1, -, ⟨f, r3, r3'⟩, r4, -⟩, p, bd⟩ := F
  have hsub : (P' ++ svL sv).Sublist (P ++ svL sv) := List.Sublist.append hs (List.Sublist.refl _)
  have hsl : (fsL a ws (nE N) sn vn A2 A4 P' sv).Sublist (fsL a ws (nE N) sn vn A2 A4 P sv) := ((((((hsub.map nbO).cons₂ _).cons₂ _).cons₂ _).cons₂ _).cons₂ _).cons₂ _
  refine ⟨q1, q2, ⟨k.h ho r1 (hx [a 1] (by simp) _ (by simp)), D, ⟨f, k.h ho r3 (hx [a 3] (by simp) _ (by simp)), r3'⟩, r4.ke k ho (hx [a 4, A4] (by simp) _ (by simp)) (hx [a 4, A4] (by simp) _ (by simp)), fun b hb => q3 b (hsub.subset hb)⟩, p.sublist hsl, fun l hl b hb => Nat.lt_of_lt_of_le (bd l (hsl.subset hl) b hb) k.2.1⟩
/-- new cells -/
theorem FS.new (hg : gOC g) (ho : eh_ok g h) (ho' : eh_ok g h') (F : FS g h a ws N m pe ep nm sn vn fbuf A2 hd P sv A4 tx) (k : Ke [] c s h h') : FS g h' a ws N m pe ep nm sn vn fbuf A2 hd P sv A4 tx := by
  have F1 := F
  obtain ⟨⟨fb, ft, ρ, C⟩, -⟩ := F1
  exact F.ke hg ho ho' k (fun b hb => absurd hb List.not_mem_nil) List.not_mem_nil (C.ke k hg ho) rfl (fun i _ => rfl) (fun b hb => Or.inl hb)
/-- a net more is kept: its cells are new -/
theorem FS.push {b : nbd} {hd' lo : Nat} (hg : gOC g) (ho : eh_ok g h) (F : FS g h a ws N m pe ep nm sn vn fbuf A2 hd P sv A4 tx) (hb : NB g h (a 15) (nE N) b) (hlo : bdd lo (fsL a ws (nE N) sn vn A2 A4 P sv)) (hbo : ∀ x, x ∈ nbO b → lo ≤ x ∨ x < eb g) (k : Ke [a 2, A2] c s h h') (D : DQ h' (a 2) A2 hd' ((P ++ [b]).map (fun b => b.1 14))) : FS g h' a ws N m pe ep nm sn vn fbuf A2 hd' (P ++ [b]) sv A4 tx := by
  obtain ⟨f2, d1, d2, -⟩ := F.dq
  have b2 := (ho.2 _ _ d1).1
  have bA := (ho.2 _ _ d2).1
  have hx := pw_w (A := [nmL2 (nE N) sn vn, cvA a ws, [a 1]]) (X := [a 2, A2]) (B := [a 3] :: [a 4, A4] :: (P ++ svL sv).map nbO) (W := [a 2, A2]) F.pw F.bd (fun b hb _ => ⟨hb, by
    rw [List.mem_cons, List.mem_singleton] at hb
    rcases hb with e | e <;> rw [e] <;> assumption⟩)
  have o1 := hx (cvA a ws) (by simp)
  have o2 := hx (nmL2 (nE N) sn vn) (by simp)
  have o3 : ∀ l, l ∈ (P ++ svL sv).map nbO → ∀ b, b ∈ l → b ∉ [a 2, A2] := fun l hl => hx l (List.mem_append_right _ (List.mem_cons_of_mem _ (List.mem_cons_of_mem _ hl)))
  have hm2 : [a 2, A2] ∈ fsL a ws (nE N) sn vn A2 A4 P sv := by simp [fsL, rsL]
  have obW : ∀ x, x ∈ nbO b → x ∉ [a 2, A2] := fun x hx9 h9 => by
    have h8 := hlo _ hm2 x h9
    have h7 : eb g ≤ x := by
      rw [List.mem_cons, List.mem_singleton] at h9
      rcases h9 with e | e <;> rw [e] <;> assumption
    rcases hbo x hx9 with h6 | h6 <;> omega
  obtain ⟨q1, q2, q3⟩ := F.oth hg ho k o1 o2 o3
  have hbl : ∀ x, x ∈ nbO b → x < h.2.1 := fun x hx9 => by
    obtain ⟨⟨-, n1, -, ⟨mc, cap, fl, l1, l2, -⟩, -, n5, ⟨f6, n6, -⟩, ⟨f7, n7, -⟩, ⟨f8, n8, -⟩, -⟩, -⟩ := hb
    simp only [nbO, nO, List.mem_cons] at hx9
    rcases hx9 with e | e | e | e | e | e | e
    · rw [e]; exact h_l ho n1
    · rw [e]; exact h_l ho l1
    · rw [e]; exact rd_l hg ho l2
    · rw [e]; exact h_l ho n6
    · rw [e]; exact h_l ho n7
    · rw [e]; exact h_l ho n8
    · obtain ⟨i, hi⟩ := List.getElem?_of_mem e
      exact h_l ho (n5 i x hi)
  obtain ⟨-, -, ⟨r1, -, ⟨f, r3, r3'⟩, r4, -⟩, p, bd⟩ := F
  have el : fsL a ws (nE N) sn vn A2 A4 (P ++ [b]) sv = (nmL2 (nE N) sn vn :: cvA a ws :: [a 1] :: [a 2, A2] :: [a 3] :: [a 4, A4] :: P.map nbO) ++ nbO b :: (svL sv).map nbO := by
    simp [fsL, rsL]
  have el2 : fsL a ws (nE N) sn vn A2 A4 P sv = (nmL2 (nE N) sn vn :: cvA a ws :: [a 1] :: [a 2, A2] :: [a 3] :: [a 4, A4] :: P.map nbO) ++ (svL sv).map nbO := by
    simp [fsL, rsL]
  rw [el2] at p bd hlo
  refine ⟨q1, q2, ⟨k.h ho r1 (hx [a 1] (by simp) _ (by simp)), D, ⟨f, k.h ho r3 (hx [a 3] (by simp) _ (by simp)), r3'⟩, r4.ke k ho (hx [a 4, A4] (by simp) _ (by simp)) (hx [a 4, A4] (by simp) _ (by simp)), fun y hy => ?_⟩, by rw [el]; exact pw_ins p hlo hbo, by rw [el]; exact (bd.ins (Nat.le_refl _) hbl).le k.2.1⟩
  rw [List.mem_append, List.mem_append, List.mem_singleton] at hy
  rcases hy with (e | e) | e
  · exact q3 y (List.mem_append_left _ e)
  · rw [e]
    exact hb.ke k hg ho (o1 _ (by simp [cvA])) obW
  · exact q3 y (List.mem_append_right _ e)
/-- the nets that are kept, and one more -/
def reD (P : List nbd) (b : nbd) : List nbd := (if P.length = 8 then P.tail else P) ++ [b]
theorem t_keep (hg : gOC g) (hM : gOM g) (hD : gDE g) (F : FS g h a ws N m pe ep nm sn vn fbuf A2 hd P sv A4 tx) (hq : ∀ h' hd' b, FS g h' a ws N m pe ep nm sn vn fbuf A2 hd' (reD P b) sv A4 tx → b.2.2 = N → Ke [a 2, A2] 60 2000 h h' → Q (.returned none) h') : ew_T g kX1_keep 20 [.ref (a 0)] h Q := by
  obtain ⟨E0, hE0, hE1⟩ := hD
  refine ew_enter (by decide +kernel) (ew_a1 rfl ew_az) (Nat.le_of_ble_eq_true rfl) ?_
  refine ew_ok (fun ho => ?_)
  have s20 : ∀ h2 hd2 P2, FS g h2 a ws N m pe ep nm sn vn fbuf A2 hd2 P2 sv A4 tx → P2.length < 8 → reD P = (fun b => P2 ++ [b]) → Ke [a 2, A2] 0 0 h h2 → ew_G g kX1_keep 20 20 [.ref (a 0)] [] h2 Q := by
    intro h2 hd2 P2 F2 hl2 he2 k2
    have F2' := F2
    obtain ⟨⟨fb, ft, ρ, C2⟩, -⟩ := F2'
    obtain ⟨f2, d1, d2, d3⟩ := F2.dq
    refine ew_ok (fun ho2 => ?_)
    refine ew_aload_n (pc := 20) dX1_keep_20 rfl ?_
    refine ew_getf (pc := 21) fX1_56 (rd_of C2.o) rfl dX1_keep_21 ?_
    refine ew_aload_n (pc := 24) dX1_keep_24 rfl ?_
    refine ew_getf (pc := 25) fX1_84 (rd_of C2.o) rfl dX1_keep_25 ?_
    refine ew_cV0 (d' := 19) (pc := 28) vX1_409 (rd_of C2.n.o) dX1_keep_28 (by decide) (ew_rm (Nat.le_of_ble_eq_true rfl)) ?_
    refine t_nCopy hg hM hE0 hE1 C2.n (fun h3 E' xs n1 n2 n3 k3 => ?_)
    have hbn : ∃ bb : nbd, bb = ((fun i => if i = 14 then h2.2.1 else if i = 16 then h2.2.1 + 1 else if i = 17 then E' else if i = 18 then h2.2.1 + 2 else if i = 19 then h2.2.1 + 3 else h2.2.1 + 4), xs, N) := ⟨_, rfl⟩
    obtain ⟨bb, hbb⟩ := hbn
    have B3 : NB g h3 (a 15) (nE N) bb := by rw [hbb]; exact ⟨n1, rfl⟩
    have b14 : bb.1 14 = h2.2.1 := by rw [hbb]; rfl
    have ob : ∀ x, x ∈ nbO bb → h2.2.1 ≤ x ∨ x < eb g := by
      intro x hx
      rw [hbb] at hx
      simp only [nbO, nO, List.mem_cons] at hx
      rcases hx with e | e | e | e | e | e | e
      · rw [e]; exact Or.inl (Nat.le_refl _)
      · rw [e]; exact Or.inl (Nat.le_succ _)
      · rw [e]; exact n3.elim Or.inr Or.inl
      · rw [e]; exact Or.inl (Nat.le_add_right _ _)
      · rw [e]; exact Or.inl (Nat.le_add_right _ _)
      · rw [e]; exact Or.inl (Nat.le_add_right _ _)
      · exact Or.inl (n2 x e)
    have eN9 : bb.2.2 = N := by rw [hbb]
    refine ew_Kr ?_
    refine ew_ok (fun ho3 => ?_)
    have F3 := F2.new hg ho2 ho3 k3
    have D3 := F3.dq
    obtain ⟨f3, e1, e2, e3⟩ := F3.dq
    refine ew_cV1 (d' := 7) (pc := 31) vX1_412 (rd_of e1) dX1_keep_31 (by decide) (ew_rm (Nat.le_of_ble_eq_true rfl)) ?_
    refine t_dqAdd D3 (by rw [List.length_map]; exact hl2) (by rw [← b14]; exact B3.o) (fun h4 D4 k4 => ?_)
    rw [← b14] at D4
    have D5 : DQ h4 (a 2) A2 hd2 ((P2 ++ [bb]).map (fun b => b.1 14)) := by
      rw [List.map_append]
      exact D4
    have F4 := F3.push hg ho3 B3 F2.bd ob k4 D5
    refine ew_Kv ?_
    refine ew_vret (pc := 34) rfl dX1_keep_34 ?_
    have e9 : reD P bb = P2 ++ [bb] := congrFun he2 bb
    refine hq h4 hd2 bb (by rw [e9]; exact F4) eN9 ((k2.t k3 (c := 60) (s := 2000) (fun b h9 _ => h9) (fun b h9 => absurd h9 List.not_mem_nil) (by decide) (by decide)).t k4 (fun b h9 _ => h9) (fun b h9 _ => h9) (by decide) (by decide))
  have F1 := F
  obtain ⟨⟨fb, ft, ρ, C⟩, -⟩ := F1
  have hD := F.dq
  obtain ⟨f2, d1, d2, d3, d4, d5⟩ := F.dq
  rw [List.length_map] at d4
  by_cases h8 : P.length = 8
  · obtain ⟨b0, P0, hP⟩ : ∃ b0 P0, P = b0 :: P0 := by
      cases P with
      | nil => cases h8
      | cons b0 P0 => exact ⟨b0, P0, rfl⟩
    have B0 := F.nb b0 (by rw [hP]; simp)
    have hD0 : DQ h (a 2) A2 hd (b0.1 14 :: P0.map (fun b => b.1 14)) := by
      rw [hP] at hD
      exact hD
    have e9 : reD P = (fun b => P0 ++ [b]) := by
      funext b
      rw [reD, if_pos h8, hP]
      rfl
    have hl0 : P0.length < 8 := by
      rw [hP, List.length_cons] at h8
      omega
    refine ew_aload_n (pc := 0) dX1_keep_0 rfl ?_
    refine ew_getf (pc := 1) fX1_56 (rd_of C.o) rfl dX1_keep_1 ?_
    refine ew_cV0 (d' := 1) (pc := 4) vX1_405 (rd_of d1) dX1_keep_4 (by decide) (ew_rm (Nat.le_of_ble_eq_true rfl)) ?_
    refine t_dqSize hD ?_
    rw [List.length_map, h8]
    refine ew_Kr ?_
    refine ew_bipush (pc := 7) (v := 8) dX1_keep_7 rfl ?_
    refine ew_icmp_ne (pc := 9) (tgt := 20) dX1_keep_9 (by decide) (fun c9 => absurd rfl c9) (fun c9 => ?_)
    refine ew_aload_n (pc := 12) dX1_keep_12 rfl ?_
    refine ew_getf (pc := 13) fX1_56 (rd_of C.o) rfl dX1_keep_13 ?_
    refine ew_cV0 (d' := 2) (pc := 16) vX1_406 (rd_of d1) dX1_keep_16 (by decide) (ew_rm (Nat.le_of_ble_eq_true rfl)) ?_
    refine t_dqRemF hD0 B0.o (fun h2 D2 k2 => ?_)
    refine ew_Kr ?_
    refine ew_pop (pc := 19) dX1_keep_19 rfl ?_
    exact s20 h2 _ P0 (F.past hg ho k2 D2 (by rw [hP]; exact List.sublist_cons_self _ _)) hl0 e9 k2
  · have e9 : reD P = (fun b => P ++ [b]) := by
      funext b
      rw [reD, if_neg h8]
    refine ew_aload_n (pc := 0) dX1_keep_0 rfl ?_
    refine ew_getf (pc := 1) fX1_56 (rd_of C.o) rfl dX1_keep_1 ?_
    refine ew_cV0 (d' := 1) (pc := 4) vX1_405 (rd_of d1) dX1_keep_4 (by decide) (ew_rm (Nat.le_of_ble_eq_true rfl)) ?_
    refine t_dqSize hD ?_
    rw [List.length_map]
    refine ew_Kr ?_
    refine ew_bipush (pc := 7) (v := 8) dX1_keep_7 rfl ?_
    refine ew_icmp_ne (pc := 9) (tgt := 20) dX1_keep_9 (by decide) (fun c9 => ?_) (fun c9 => absurd c9 (fun h9 => h8 ((nI_eq (b := 8) (by omega) (by decide)).mp h9)))
    exact s20 h hd P F (by omega) e9 (Ke.r _ _)
end
