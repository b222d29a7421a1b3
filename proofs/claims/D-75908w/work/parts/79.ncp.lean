/-! EW: a net is copied -/
set_option maxRecDepth 100000
theorem eh_c {g : eg} {h : eh} {a : Nat} (ho : eh_ok g h) (ha : a < eb g) : h.1 a = none := by
  cases hh : h.1 a with
  | none => rfl
  | some x => exact absurd (ho.2 a x hh).1 (Nat.not_le_of_lt ha)
/-- constant cells stay -/
theorem Ke.c {g : eg} {A B : List Nat} {c s : Nat} {h h' : eh} (k : Ke A c s h h') (ho : eh_ok g h) (ho' : eh_ok g h') (hB : ∀ a, a ∈ A → a ∈ B ∨ a < eb g) : Ke B c s h h' := by
  refine ⟨fun a ha hA => ?_, k.2⟩
  by_cases h9 : a ∈ A
  · rcases hB a h9 with h8 | h8
    · exact absurd h8 hA
    · rw [eh_c ho h8, eh_c ho' h8]
  · exact k.1 a ha h9
/-- a copy at q that is being made: w windows are there -/
def CM (g : eg) (h0 h : eh) (q nA n w E : Nat) (xs : List Nat) (N : Nat → Int32) : Prop :=
  h.1 q = some (ob 5 [.ref nA, .ref (q + 1), .ref (q + 2), .ref (q + 3), .ref (q + 4)]) ∧ AL g h (q + 1) E xs ∧ xs.length = w ∧ (∀ i x, xs[i]? = some x → h.1 x = some (wN N i) ∧ q + 5 ≤ x) ∧ xs.Nodup ∧
  h.1 (q + 2) = some (aI n (nfxI n)) ∧ h.1 (q + 3) = some (aI n (fun _ => 0)) ∧ h.1 (q + 4) = some (aI n (nwiI n)) ∧ (E < eb g ∨ q + 5 ≤ E) ∧ Ke [] (5 + 2 * w) (38 + 64 * w) h0 h ∧ q = h0.2.1 ∧ q + 5 ≤ h.2.1 ∧ eb g ≤ q
theorem CM.add {g : eg} {h0 h h3 h4 : eh} {q nA n w E E4 : Nat} {xs : List Nat} {N : Nat → Int32} (hg : gOC g) (ho : eh_ok g h) (ho3 : eh_ok g h3) (ho4 : eh_ok g h4) (hw : w < 24) (S : CM g h0 h q nA n w E xs N) (hx : h3.1 h.2.1 = some (wN N w)) (k3 : Ke [] 1 6 h h3) (hA : AL g h4 (q + 1) E4 (xs ++ [h.2.1])) (hE : E4 = E ∨ h3.2.1 ≤ E4) (k4 : Ke [q + 1, E] 1 (10 + 2 * w) h3 h4) : CM g h0 h4 q nA n (w + 1) E4 (xs ++ [h.2.1]) N := by
  obtain ⟨s1, s2, s3, s4, s5, s6, s7, s8, s9, s10, s11, s12, s13⟩ := S
  have s2' := s2
  obtain ⟨mc, cap, f, a1, a2, -⟩ := s2'
  have hEl := rd_l hg ho a2
  have nm : ∀ a : Nat, a ∉ ([] : List Nat) := fun a => List.not_mem_nil
  have mm : ∀ a, a ≠ q + 1 → a ≠ E → a ∉ [q + 1, E] := fun a h1 h2 => by
    rw [List.mem_cons, List.mem_singleton, not_or]
    exact ⟨h1, h2⟩
  have a23 : rd g h3 E = some (aR 5 cap f) := k3.rd hg ho a2 (nm _)
  have keep : ∀ a ci fs, h.1 a = some (ob ci fs) → a ≠ q + 1 → h4.1 a = some (ob ci fs) := fun a ci fs h1 h2 => by
    refine k4.h ho3 (k3.h ho h1 (nm _)) (mm a h2 ?_)
    intro e9
    rw [e9] at h1
    rw [rd_of h1] at a2
    cases a2
  have keepI : ∀ a f2, h.1 a = some (aI n f2) → a ≠ q + 1 → h4.1 a = some (aI n f2) := fun a f2 h1 h2 => by
    refine k4.h ho3 (k3.h ho h1 (nm _)) (mm a h2 ?_)
    intro e9
    rw [e9] at h1
    rw [rd_of h1] at a2
    cases a2
  have z3 := k3.2.1
  have z4 := k4.2.1
  refine ⟨keep q _ _ s1 (by omega), hA, by rw [List.length_append, s3]; rfl, fun i x hi => ?_, ?_, keepI _ _ s6 (by omega), keepI _ _ s7 (by omega), keepI _ _ s8 (by omega), ?_, ?_, s11, by omega, s13⟩
  · by_cases hl : i < xs.length
    · rw [List.getElem?_append_left hl] at hi
      have h9 := s4 i x hi
      exact ⟨keep x _ _ h9.1 (by omega), h9.2⟩
    · have hi2 : i = xs.length := by
        have := (List.getElem?_eq_some_iff.mp hi).1
        rw [List.length_append, List.length_singleton] at this
        omega
      rw [hi2, List.getElem?_append_right (Nat.le_refl _), Nat.sub_self] at hi
      cases hi
      rw [hi2, s3]
      exact ⟨k4.h ho3 hx (mm _ (by omega) (by omega)), by omega⟩
  · rw [List.nodup_append]
    refine ⟨s5, by simp, fun a ha b hb => ?_⟩
    rw [List.mem_singleton.mp hb]
    obtain ⟨i, hi⟩ := List.getElem?_of_mem ha
    have := h_l ho (s4 i a hi).1
    omega
  · rcases hE with hE | hE
    · rw [hE]; exact s9
    · exact Or.inr (by omega)
  · have k34 : Ke [q + 1, E] (1 + 1) (6 + (10 + 2 * w)) h h4 := k3.t k4 (fun a h9 => absurd h9 (nm a)) (fun a h9 _ => h9) (Nat.le_refl _) (Nat.le_refl _)
    have k35 : Ke (if E < eb g then [q + 1] else [q + 1, E]) (1 + 1) (6 + (10 + 2 * w)) h h4 := k34.c ho ho4 (fun a h9 => by
      rw [List.mem_cons, List.mem_singleton] at h9
      split
      · rcases h9 with h9 | h9
        · exact Or.inl (List.mem_singleton.mpr h9)
        · rename_i h8; exact Or.inr (by rw [h9]; exact h8)
      · exact Or.inl (by rw [List.mem_cons, List.mem_singleton]; exact h9))
    refine s10.t k35 (fun a h9 => absurd h9 (nm a)) (fun a h9 h8 => ?_) (by omega) (by omega)
    split at h9
    · rw [List.mem_singleton] at h9; omega
    · rw [List.mem_cons, List.mem_singleton] at h9
      omega
section
variable {g : eg} {h : eh} {p nA L E F D W : Nat} {ws : List Nat} {N : Nat → Int32} {Q : Outcome → eh → Prop}
theorem t_nCopy {E0 : Nat} (hg : gOC g) (hM : gOM g) (hE0 : eg_s g "java/util/ArrayList" "DEFAULTCAPACITY_EMPTY_ELEMENTDATA" "[Ljava/lang/Object;" = some (.ref E0)) (hE1 : gC g E0 (aR 5 0 (fun _ => none))) (r : NR g h p nA L E F D W ws N)
    (hq : ∀ h' E' xs, NR g h' h.2.1 nA (h.2.1 + 1) E' (h.2.1 + 2) (h.2.1 + 3) (h.2.1 + 4) xs N → (∀ x, x ∈ xs → h.2.1 ≤ x) → (E' < eb g ∨ h.2.1 ≤ E') → Ke [] 60 2000 h h' → Q (.returned (some (.ref h.2.1))) h') : ew_T g kX6_copy 19 [.ref p] h Q := by
  have hw := r.ok.w2
  have hE := r.ok.e2
  have cl := nI_clamp (n := nE N) (by omega)
  have z0 : (0 : Int32).toNatClampNeg = 0 := rfl
  obtain ⟨fn, hfn⟩ := r.n
  refine ew_enter (by decide +kernel) (ew_a1 rfl (ew_an (ew_an ew_az))) (Nat.le_of_ble_eq_true rfl) ?_
  refine ew_ok (fun ho => ?_)
  have hbn := ho.1
  obtain ⟨fF, hfF, fF2⟩ := r.F
  obtain ⟨fD, hfD, fD2⟩ := r.D
  obtain ⟨fW, hfW, fW2⟩ := r.W
  have nm : ∀ a : Nat, a ∉ ([] : List Nat) := fun a => List.not_mem_nil
  have hfin0 := r.ok
  have fin : ∀ h2 E2 xs x2, CM g h h2 h.2.1 nA (nE N) (nW N) E2 xs N → ew_G g kX6_copy 19 59 [.ref p, .ref h.2.1, x2] [] h2 Q := by
    intro h2 E2 xs x2 S
    obtain ⟨s1, s2, s3, s4, s5, s6, s7, s8, s9, s10, s11, s12, s13⟩ := S
    refine ew_ok (fun ho2 => ?_)
    have r2 := r.ke s10 hg ho (fun a _ => nm a)
    have lF := h_l ho hfF
    have lD := h_l ho hfD
    have lW := h_l ho hfW
    have lp := h_l ho r.o
    have gF := s10.h ho hfF (nm _)
    have gD := s10.h ho hfD (nm _)
    have gW := s10.h ho hfW (nm _)
    have e0 : Int32.ofNat (nE N) = nI (nE N) := rfl
    have hfin : ∀ F1 D1 W1 : Nat → Int32, (∀ e, e < nE N → F1 e = N (146 + e)) → (∀ e, e < nE N → D1 e = N (156 + e)) → (∀ e, e < nE N → W1 e = N (166 + e)) → NR g (eh_set (eh_set (eh_set h2 (h.2.1 + 2) (aI (nE N) F1)) (h.2.1 + 3) (aI (nE N) D1)) (h.2.1 + 4) (aI (nE N) W1)) h.2.1 nA (h.2.1 + 1) E2 (h.2.1 + 2) (h.2.1 + 3) (h.2.1 + 4) xs N := by
      intro F1 D1 W1 f1 d1 w1
      have u1 := se_1 h2 (h.2.1 + 2) (aI (nE N) F1)
      have u2 := sn_1 (e := aI (nE N) F1) s7 (show h.2.1 + 3 ≠ h.2.1 + 2 by omega)
      have u3 := sn_1 (e := aI (nE N) D1) (sn_1 (e := aI (nE N) F1) s8 (show h.2.1 + 4 ≠ h.2.1 + 2 by omega)) (show h.2.1 + 4 ≠ h.2.1 + 3 by omega)
      have hfn2 := s10.rd hg ho hfn (nm _)
      have nA2 := rd_ar hfn2 s6
      have nA3 := rd_ar hfn2 s7
      have nA4 := rd_ar hfn2 s8
      refine ⟨hfin0, sn_1 (sn_1 (sn_1 s1 (by omega)) (by omega)) (by omega), ⟨fn, rd_sn (rd_sn (rd_sn hfn2 nA2) nA3) nA4⟩, ((s2.setI s6).setI u2).setI u3, s3, fun i x hi => ?_, ⟨F1, sn_1 (sn_1 u1 (by omega)) (by omega), f1⟩, ⟨D1, sn_1 (se_1 _ _ _) (by omega), d1⟩, ⟨W1, se_1 _ _ _, w1⟩, s5, by omega, by omega, by omega⟩
      have h9 := s4 i x hi
      exact sn_1 (sn_1 (sn_1 h9.1 (by omega)) (by omega)) (by omega)
    have c1 : (0 : Int32).toNatClampNeg + (nI (nE N)).toNatClampNeg ≤ nE N := by rw [z0, cl]; omega
    refine ew_aload_n (pc := 59) dX6_copy_59 rfl ?_
    refine ew_getf (pc := 60) fX6_22 (rd_of r2.o) rfl dX6_copy_60 ?_
    refine ew_iconst (pc := 63) (v := 0) dX6_copy_63 rfl ?_
    refine ew_aload_n (pc := 64) dX6_copy_64 rfl ?_
    refine ew_getf (pc := 65) fX6_22 (rd_of s1) rfl dX6_copy_65 ?_
    refine ew_iconst (pc := 68) (v := 0) dX6_copy_68 rfl ?_
    refine ew_aload_n (pc := 69) dX6_copy_69 rfl ?_
    refine ew_getf (pc := 70) fX6_22 (rd_of r2.o) rfl dX6_copy_70 ?_
    refine ew_alen (pc := 73) (rd_of gF) rfl dX6_copy_73 ?_
    refine ew_copyi (pc := 74) (ty := .int) rfl rfl (ew_q q2448) (ew_q q600) (ew_q q599) (ew_q q143) (rd_of gF) s6 (by decide) (by decide) (nI_pos (by omega)) c1 c1 (fun _ _ => rfl) (ew_rm (Nat.le_of_ble_eq_true rfl)) dX6_copy_74 ?_
    refine ew_aload_n (pc := 77) dX6_copy_77 rfl ?_
    refine ew_getf (pc := 78) fX6_26 (rd_sn (rd_of r2.o) (by omega)) rfl dX6_copy_78 ?_
    refine ew_iconst (pc := 81) (v := 0) dX6_copy_81 rfl ?_
    refine ew_aload_n (pc := 82) dX6_copy_82 rfl ?_
    refine ew_getf (pc := 83) fX6_26 (rd_sn (rd_of s1) (by omega)) rfl dX6_copy_83 ?_
    refine ew_iconst (pc := 86) (v := 0) dX6_copy_86 rfl ?_
    refine ew_aload_n (pc := 87) dX6_copy_87 rfl ?_
    refine ew_getf (pc := 88) fX6_26 (rd_sn (rd_of r2.o) (by omega)) rfl dX6_copy_88 ?_
    refine ew_alen (pc := 91) (rd_sn (rd_of gD) (by omega)) rfl dX6_copy_91 ?_
    refine ew_copyi (pc := 92) (ty := .int) rfl rfl (ew_q q2448) (ew_q q600) (ew_q q599) (ew_q q143) (rd_sn (rd_of gD) (by omega)) (sn_1 s7 (by omega)) (by decide) (by decide) (nI_pos (by omega)) c1 c1 (fun _ _ => rfl) (ew_rm (Nat.le_of_ble_eq_true rfl)) dX6_copy_92 ?_
    refine ew_aload_n (pc := 95) dX6_copy_95 rfl ?_
    refine ew_getf (pc := 96) fX6_29 (rd_sn (rd_sn (rd_of r2.o) (by omega)) (by omega)) rfl dX6_copy_96 ?_
    refine ew_iconst (pc := 99) (v := 0) dX6_copy_99 rfl ?_
    refine ew_aload_n (pc := 100) dX6_copy_100 rfl ?_
    refine ew_getf (pc := 101) fX6_29 (rd_sn (rd_sn (rd_of s1) (by omega)) (by omega)) rfl dX6_copy_101 ?_
    refine ew_iconst (pc := 104) (v := 0) dX6_copy_104 rfl ?_
    refine ew_aload_n (pc := 105) dX6_copy_105 rfl ?_
    refine ew_getf (pc := 106) fX6_29 (rd_sn (rd_sn (rd_of r2.o) (by omega)) (by omega)) rfl dX6_copy_106 ?_
    refine ew_alen (pc := 109) (rd_sn (rd_sn (rd_of gW) (by omega)) (by omega)) rfl dX6_copy_109 ?_
    refine ew_copyi (pc := 110) (ty := .int) rfl rfl (ew_q q2448) (ew_q q600) (ew_q q599) (ew_q q143) (rd_sn (rd_sn (rd_of gW) (by omega)) (by omega)) (sn_1 (sn_1 s8 (by omega)) (by omega)) (by decide) (by decide) (nI_pos (by omega)) c1 c1 (fun _ _ => rfl) (ew_rm (Nat.le_of_ble_eq_true rfl)) dX6_copy_110 ?_
    refine ew_aload_n (pc := 113) dX6_copy_113 rfl ?_
    refine ew_aret (pc := 114) rfl (Or.inl ⟨_, rfl⟩) (Or.inr ⟨_, rfl⟩) dX6_copy_114 ?_
    have e5 : ∀ f : Nat → Int32, (Int32.ofNat (nE N, (Sum.inl f : (Nat → Int32) ⊕ (Nat → Int64) ⊕ (Nat → UInt32) ⊕ (Nat → UInt64) ⊕ (Nat → Option Nat))).1).toNatClampNeg = nE N := fun _ => cl
    rw [e5]
    refine hq _ E2 xs (hfin _ _ _ (fun e he => ?_) (fun e he => ?_) (fun e he => ?_)) (fun x hx => ?_) (s9.imp id (fun h9 => by omega)) ?_
    · exact (sb_cpy0 (f := fF) he).trans (fF2 e he)
    · exact (sb_cpy0 (f := fD) he).trans (fD2 e he)
    · exact (sb_cpy0 (f := fW) he).trans (fW2 e he)
    · obtain ⟨i, hi⟩ := List.getElem?_of_mem hx
      have := (s4 i x hi).2
      omega
    · refine ((s10.t Ke.set (A := []) (c := 5 + 2 * nW N) (s := 38 + 64 * nW N) (fun a h9 => absurd h9 (nm a)) (fun a h9 h8 => ?_) (Nat.le_refl _) (Nat.le_refl _)).t Ke.set (A := []) (c := 5 + 2 * nW N) (s := 38 + 64 * nW N) (fun a h9 => absurd h9 (nm a)) (fun a h9 h8 => ?_) (Nat.le_refl _) (Nat.le_refl _)).t Ke.set (fun a h9 => absurd h9 (nm a)) (fun a h9 h8 => ?_) (by omega) (by omega)
      all_goals rw [List.mem_singleton] at h9; omega
  have loop : ∀ m w h2 E2 xs, w + m = nW N → CM g h h2 h.2.1 nA (nE N) w E2 xs N → ew_G g kX6_copy 19 14 [.ref p, .ref h.2.1, .int (nI w)] [] h2 Q := by
    intro m
    induction m with
    | zero =>
      intro w h2 E2 xs hk S
      have e9 : w = nW N := by omega
      subst e9
      have r2 := r.ke S.2.2.2.2.2.2.2.2.2.1 hg ho (fun a _ => nm a)
      obtain ⟨mc, cap, fl, hLl, -⟩ := r2.l
      refine ew_iload_n (pc := 14) dX6_copy_14 rfl ?_
      refine ew_aload_n (pc := 15) dX6_copy_15 rfl ?_
      refine ew_getf (pc := 16) fX6_12 (rd_of r2.o) rfl dX6_copy_16 ?_
      refine ew_cF0 (d' := 0) (pc := 19) tX6_35_19 (rd_of hLl) dX6_copy_19 (by decide) (ew_rm (Nat.le_of_ble_eq_true rfl)) ?_
      refine t_alSize r2.l ?_
      rw [r2.len]
      refine ew_Kr ?_
      refine ew_icmp_ge (pc := 24) (tgt := 59) dX6_copy_24 (by decide) (fun c24 => ?_) (fun c24 => absurd (nI_le (by omega) (by omega)) c24)
      exact fin h2 E2 xs _ S
    | succ m ih =>
      intro w h2 E2 xs hk S
      have S2 := S
      obtain ⟨s1, s2, s3, s4, s5, s6, s7, s8, s9, s10, s11, s12, s13⟩ := S2
      have r2 := r.ke s10 hg ho (fun a _ => nm a)
      obtain ⟨mc, cap, fl, hLl, -⟩ := r2.l
      obtain ⟨x, hx, hxw⟩ := r2.at (i := w) (by omega)
      have s2' := s2
      obtain ⟨mc3, cap3, fl3, hMl, -⟩ := s2'
      refine ew_ok (fun ho2 => ?_)
      have hMlt := h_l ho2 hMl
      have hdr := r.ok.dr w (by omega)
      have oc : ∀ h9 y, h9.1 y = some (wN N w) → oO g h9 y := fun h9 y hy => ⟨4, _, _, rd_of hy, rfl, Or.inr (ew_qt q3370 rfl)⟩
      refine ew_iload_n (pc := 14) dX6_copy_14 rfl ?_
      refine ew_aload_n (pc := 15) dX6_copy_15 rfl ?_
      refine ew_getf (pc := 16) fX6_12 (rd_of r2.o) rfl dX6_copy_16 ?_
      refine ew_cF0 (d' := 0) (pc := 19) tX6_35_19 (rd_of hLl) dX6_copy_19 (by decide) (ew_rm (Nat.le_of_ble_eq_true rfl)) ?_
      refine t_alSize r2.l ?_
      rw [r2.len]
      refine ew_Kr ?_
      refine ew_icmp_ge (pc := 24) (tgt := 59) dX6_copy_24 (by decide) (fun c24 => absurd c24 (nI_ge (by omega) (by omega))) (fun c24 => ?_)
      refine ew_aload_n (pc := 27) dX6_copy_27 rfl ?_
      refine ew_getf (pc := 28) fX6_12 (rd_of s1) rfl dX6_copy_28 ?_
      refine ew_aload_n (pc := 31) dX6_copy_31 rfl ?_
      refine ew_getf (pc := 32) fX6_12 (rd_of r2.o) rfl dX6_copy_32 ?_
      refine ew_iload_n (pc := 35) dX6_copy_35 rfl ?_
      refine ew_cF1 (d' := 2) (pc := 36) tX6_41_19 (rd_of hLl) dX6_copy_36 (by decide) (ew_rm (Nat.le_of_ble_eq_true rfl)) ?_
      refine t_alGet r2.l hx ?_
      refine ew_Kr ?_
      refine ew_cast (pc := 41) rfl (rd_of hxw) (ew_q q1675) (Or.inl rfl) dX6_copy_41 ?_
      refine ew_cV0 (d' := 2) (pc := 44) vX6_47 (rd_of hxw) dX6_copy_44 (by decide) (ew_rm (Nat.le_of_ble_eq_true rfl)) ?_
      refine t_wCopy hg (rd_of hxw) hdr (fun h3 x3 k3 => ?_)
      refine ew_Kr ?_
      refine ew_ok (fun ho3 => ?_)
      refine ew_cF1 (d' := 18) (pc := 47) tX6_51_19 (k3.rd hg ho2 (rd_of hMl) (nm _)) dX6_copy_47 (by decide) (ew_rm (Nat.le_of_ble_eq_true rfl)) ?_
      refine t_alAdd hg hM (s2.ke k3 hg ho2 (nm _) (nm _)) (fun y hy => ?_) (oc h3 _ x3) (by omega) (by omega) (fun h4 E4 q1 q2 q3 => ?_)
      · obtain ⟨i, hi⟩ := List.getElem?_of_mem hy
        have h8 := k3.h ho2 (s4 i y hi).1 (nm _)
        exact ⟨4, _, _, rd_of h8, rfl, Or.inr (ew_qt q3370 rfl)⟩
      refine ew_Kr ?_
      refine ew_ok (fun ho4 => ?_)
      rw [s3] at q3
      refine ew_pop (pc := 52) dX6_copy_52 rfl ?_
      refine ew_iinc (pc := 53) dX6_copy_53 rfl (nI_inc w) (by decide) (p1_2 rfl) ?_
      refine ew_goto (pc := 56) (tgt := 14) dX6_copy_56 (by decide) ?_
      exact ih (w + 1) h4 E4 _ (by omega) (S.add hg ho2 ho3 ho4 (by omega) x3 k3 q1 q2 q3)
  have hp1 : p ≠ h.2.1 := by have := h_l ho r.o; omega
  have hp2 : nA ≠ h.2.1 := by have := rd_l hg ho hfn; omega
  refine ew_new (pc := 0) nX6_13 dX6_copy_0 ?_
  refine ew_dup (pc := 3) dX6_copy_3 rfl ?_
  refine ew_aload_n (pc := 4) dX6_copy_4 rfl ?_
  refine ew_getf (pc := 5) fX6_18 (rd_nn (rd_of r.o) hp1) rfl dX6_copy_5 ?_
  refine ew_cI1 (d' := 4) (pc := 8) iX6_32 dX6_copy_8 (by decide) (ew_rm (Nat.le_of_ble_eq_true rfl)) ?_
  refine t_nInit hg hE0 (ne_1 _ _ _) (rd_nn hfn hp2) hE (fun H ii => ?_)
  refine ew_Kv ?_
  refine ew_ok (fun hoH => ?_)
  first | refine ew_astore_n (pc := 11) dX6_copy_11 rfl (by decide) (p1_1 rfl) ?_ | refine ew_astore_nq (pc := 11) dX6_copy_11 rfl (by decide) (p1_1 rfl) ?_ | refine ew_astore_nN (pc := 11) dX6_copy_11 rfl (by decide) (p1_1 rfl) ?_
  refine ew_iconst (pc := 12) (v := 0) dX6_copy_12 rfl ?_
  refine ew_istore_n (pc := 13) dX6_copy_13 rfl (by decide) (p1_2 rfl) ?_
  refine loop (nW N) 0 H E0 [] (by omega) ?_
  have i4 := ii.2.2.2.1
  have i1 := ii.1
  have r0 : rd g H E0 = some (aR 5 0 (fun _ => none)) := rd_c hE1 hoH
  have hz : (eh_new h (ob 5 [.null, .null, .null, .null, .null]) [Value.null, .null, .null, .null, .null].length).2.1 = h.2.1 + 1 := rfl
  have hk := ii.ke
  refine ⟨i1, ⟨0, 0, fun _ => none, i4 0 _ rfl, r0, fun h9 => absurd h9 (Nat.lt_irrefl 0), fun _ => hE0, Nat.le_refl _, by decide, fun i h9 => absurd h9 (Nat.not_lt_zero i)⟩, rfl, fun i x h9 => (by cases h9), List.nodup_nil, i4 1 _ rfl, i4 2 _ rfl, i4 3 _ rfl, Or.inl hE1.2, ?_, rfl, ?_, hbn⟩
  · exact Ke.new.t hk (fun a h9 => absurd h9 (nm a)) (fun a h9 h8 => by rw [List.mem_singleton.mp h9] at h8; omega) (Nat.le_refl _) (Nat.le_refl _)
  · rw [ii.2.1]; exact Nat.le_refl _
end
