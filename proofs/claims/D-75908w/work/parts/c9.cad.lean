/-! EW: the component gets a window more -/
set_option maxRecDepth 100000
theorem layN_w {N : Nat → Int32} {x y lo hi co : Int32} (hw : nW N < 24) : (∀ i, i < nW N → wN (layN N x y lo hi co) i = wN N i) ∧ wN (layN N x y lo hi co) (nW N) = wV x y lo hi co 0 ∧ ∀ i, 146 ≤ i → i < 176 → layN N x y lo hi co i = N i := by
  refine ⟨fun i hi9 => ?_, ?_, fun i h1 h2 => ?_⟩
  · have hj : ∀ k, k < 6 → layN N x y lo hi co (2 + 6 * i + k) = N (2 + 6 * i + k) := fun k hk => by
      unfold layN layB
      rw [up_n (by omega), up_n (by omega), up_n (by omega), up_n (by omega), up_n (by omega), up_n (by omega), up_n (by omega)]
    unfold wN
    rw [hj 0 (by decide), hj 1 (by decide), hj 2 (by decide), hj 3 (by decide), hj 4 (by decide), hj 5 (by decide)]
  · obtain ⟨w, hw9⟩ : ∃ w, w = nW N := ⟨_, rfl⟩
    unfold wN layN layB
    rw [← hw9]
    simp only [upd]
    have e1 : ∀ k j, k ≠ j → ¬ 2 + 6 * w + k = 2 + 6 * w + j := fun k j h => by omega
    have e2 : ∀ k, ¬ 2 + 6 * w + k = 1 := fun k => by omega
    simp only [if_neg (e2 _), if_neg (e1 0 5 (by decide)), if_neg (e1 0 4 (by decide)), if_neg (e1 0 3 (by decide)), if_neg (e1 0 2 (by decide)), if_neg (e1 0 1 (by decide)), if_neg (e1 1 5 (by decide)), if_neg (e1 1 4 (by decide)), if_neg (e1 1 3 (by decide)), if_neg (e1 1 2 (by decide)), if_neg (e1 2 5 (by decide)), if_neg (e1 2 4 (by decide)), if_neg (e1 2 3 (by decide)), if_neg (e1 3 5 (by decide)), if_neg (e1 3 4 (by decide)), if_neg (e1 4 5 (by decide)), if_true]
  · unfold layN layB
    rw [up_n (by omega), up_n (by omega), up_n (by omega), up_n (by omega), up_n (by omega), up_n (by omega), up_n (by omega)]
section
variable {g : eg} {h h' : eh} {a : Nat → Nat} {ws : List Nat} {N N' : Nat → Int32} {m pe ep : Int32} {fb ft : Nat → Int32} {ρ : ru} {Q : Outcome → eh → Prop} {A2 hd A4 c s : Nat} {P : List nbd} {sv : Nat → Option nbd} {tx : List Int32} {fbuf nm : Nat → Int32} {sn vn : Nat → Nat}
/-- addresses with another array of the list -/
def aE (a : Nat → Nat) (E : Nat) : Nat → Nat := fun i => if i = 17 then E else a i
theorem cv_add {x E' : Nat} {B : List Nat} (hg : gOC g) (ho : eh_ok g h) (C : CV g h a ws N m pe ep fb ft ρ) (k : Ke B c s h h') (hB : ∀ b, b ∈ B → b = a 16 ∨ b = a 17) (hA : AL g h' (a 16) E' (ws ++ [x])) (hx : h'.1 x = some (wN N' (nW N))) (hxn : h.2.1 ≤ x) (ok' : okN N') (he : nE N' = nE N) (hw : nW N' = nW N + 1) (h1 : ∀ i, i < nW N → wN N' i = wN N i) (h2 : ∀ i, 146 ≤ i → i < 176 → N' i = N i) : CV g h' (aE a E') (ws ++ [x]) N' m pe ep fb ft ρ := by
  have cc := C.c
  have hE := C.n.ok.e2
  obtain ⟨r1, r2, r3, r4, r5, r6, r7, r8⟩ := C.r
  obtain ⟨n1, n2, ⟨fn, n3⟩, ⟨mc, cap, fE, l1, l2, l3, l4⟩, n5, n6, ⟨f7, n7, n7'⟩, ⟨f8, n8, n8'⟩, ⟨f9, n9, n9'⟩, n10, n11⟩ := C.n
  obtain ⟨b1, b2, b3⟩ := C.b
  obtain ⟨t1, t2, t3⟩ := C.t
  have ne : ∀ b e, rd g h b = some e → (∀ fs, e ≠ ob 19 fs) → (∀ n f, e ≠ aR 5 n f) → b ∉ B := fun b e hb q1 q2 h9 => by
    rcases hB b h9 with e9 | e9
    · rw [e9, rd_of l1] at hb
      exact q1 _ (Option.some.inj hb).symm
    · rw [e9, l2] at hb
      exact q2 _ _ (Option.some.inj hb).symm
  have neO : ∀ b ci fs, rd g h b = some (ob ci fs) → ci ≠ 19 → b ∉ B := fun b ci fs hb hc => ne b _ hb (fun fs' h9 => by
    cases h9
    exact hc rfl) (fun n f h9 => by cases h9)
  have neI : ∀ b n f, h.1 b = some (aI n f) → b ∉ B := fun b n f hb => ne b _ (rd_of hb) (fun fs' h9 => by cases h9) (fun n f h9 => by cases h9)
  have neR : ∀ b n f, rd g h b = some (aR 6 n f) → b ∉ B := fun b n f hb => ne b _ hb (fun fs' h9 => by cases h9) (fun n f h9 => by cases h9)
  have hev : ∀ k, k = 146 ∨ k = 156 ∨ k = 166 → ∀ e, e < nE N → N' (k + e) = N (k + e) := fun k hk e he9 => h2 _ (by omega) (by omega)
  refine ⟨k.h ho C.o (neO _ _ _ (rd_of C.o) (by decide)), ⟨ok', k.h ho n2 (neO _ _ _ (rd_of n2) (by decide)), ⟨fn, by rw [he]; exact k.rd hg ho n3 (neR _ _ _ n3)⟩, hA, by rw [List.length_append, n5, hw]; rfl, fun i y hy => ?_, ⟨f7, by rw [he]; exact k.h ho n7 (neI _ _ _ n7), fun e h9 => ?_⟩, ⟨f8, by rw [he]; exact k.h ho n8 (neI _ _ _ n8), fun e h9 => ?_⟩, ⟨f9, by rw [he]; exact k.h ho n9 (neI _ _ _ n9), fun e h9 => ?_⟩, ?_, n11⟩, ?_, ?_, ?_, ?_, C.d⟩
  · by_cases hl : i < ws.length
    · rw [List.getElem?_append_left hl] at hy
      rw [h1 i (by omega)]
      exact k.h ho (n6 i y hy) (neO _ _ _ (rd_of (n6 i y hy)) (by decide))
    · have hi2 : i < (ws ++ [x]).length := (List.getElem?_eq_some_iff.mp hy).1
      rw [List.length_append, List.length_singleton] at hi2
      have hi3 : i = ws.length := by omega
      rw [hi3, List.getElem?_append_right (Nat.le_refl _), Nat.sub_self] at hy
      cases hy
      rw [hi3, n5]
      exact hx
  · rw [he] at h9; rw [hev 146 (Or.inl rfl) e h9]; exact n7' e h9
  · rw [he] at h9; rw [hev 156 (Or.inr (Or.inl rfl)) e h9]; exact n8' e h9
  · rw [he] at h9; rw [hev 166 (Or.inr (Or.inr rfl)) e h9]; exact n9' e h9
  · rw [List.nodup_append]
    refine ⟨n10, by simp, fun u hu v hv e => ?_⟩
    rw [List.mem_singleton.mp hv] at e
    obtain ⟨i, hi⟩ := List.getElem?_of_mem hu
    have := h_l ho (n6 i u hi)
    omega
  · rw [he]; exact ⟨k.rd hg ho b1 (neO _ _ _ b1 (by decide)), k.h ho b2 (neI _ _ _ b2), b3⟩
  · rw [he]; exact ⟨k.rd hg ho t1 (neO _ _ _ t1 (by decide)), k.h ho t2 (neI _ _ _ t2), t3⟩
  · rw [he]; exact ⟨r1, r2, r3, r4, r5, r6, k.rd hg ho r7 (neO _ _ _ r7 (by decide)), r8⟩
  · rw [he]; exact ⟨k.h ho cc.1 (neI _ _ _ cc.1), k.h ho cc.2.1 (neI _ _ _ cc.2.1), k.h ho cc.2.2.1 (neI _ _ _ cc.2.2.1), k.h ho cc.2.2.2 (neO _ _ _ (rd_of cc.2.2.2) (by decide))⟩
abbrev adC (N : Nat → Int32) (x y lo hi : Int32) : Prop := ¬ x = y ∧ inO lo hi ∧ nI (nW N) < 24
theorem c_addWindow {x y lo hi : Int32} (hg : gOC g) (hM : gOM g) (hD : gDE g) (F : FS g h a ws N m pe ep nm sn vn fbuf A2 hd P sv A4 tx) (hq : ∀ o h', CR SI (as2 1 (bI (isIx (nE N) x ∧ isIx (nE N) y)) (bI (adC N x y lo hi))) (.int (nI (nW N))) (fun h' => CX g h' (a 0) N nm m pe ep fbuf (P.map (fun b => b.2.2)) (fun i => (sv i).map (fun b => b.2.2)) tx) (fun h' => CX g h' (a 0) (layN N x y lo hi 0) nm m pe ep fbuf (reP (P.map (fun b => b.2.2)) N) (fun i => (sv i).map (fun b => b.2.2)) tx) h o h' → Q o h') : ew_T g kX1_addWindow 21 [.ref (a 0), .int x, .int y, .int lo, .int hi] h Q := by
  obtain ⟨fb, ft, ρ, C⟩ := F.cv
  have hE := C.n.ok.e2
  have hW := C.n.ok.w2
  obtain ⟨mc, cap, fl, hL, -⟩ := C.n.l
  refine ew_enter (by decide +kernel) (ew_a1 rfl (ew_a1 rfl (ew_a1 rfl (ew_a1 rfl (ew_a1 rfl ew_az))))) (Nat.le_of_ble_eq_true rfl) ?_
  refine ew_ok (fun ho => ?_)
  have s78 : isIx (nE N) x → isIx (nE N) y → ∀ f, f = bI (adC N x y lo hi) → ew_G g kX1_addWindow 21 78 [.ref (a 0), .int x, .int y, .int lo, .int hi] [.int f] h Q := by
    intro hi1 hi2 f hf
    subst hf
    have hx := hi1.to (n := nE N) (by omega)
    have hy := hi2.to (n := nE N) (by omega)
    refine ew_cS1 (d' := 5) (pc := 78) sX1_198 dX1_addWindow_78 (by decide) (ew_rm (Nat.le_of_ble_eq_true rfl)) ?_
    refine t_chkA (fun h9 => ?_) (fun h9 => ?_)
    · exact ew_Kx (ew_out (fun x hx => nomatch hx) (hq _ _ (CR.no (k := 3) (as2_j ⟨hi1, hi2⟩ (fun h8 => bI_0.mp h9 h8)) (by decide) (F.err hg ho (by decide)).1 rfl (ne_1 _ _ _) (F.err hg ho (by decide)).2)))
    have hc := bI_n.mp h9
    have h24 : nW N < 24 := by
      rcases Nat.lt_or_ge (nW N) 24 with h8 | h8
      · exact h8
      · exact absurd hc.2.2 (nI_nlt (b := 24) (by omega) (by omega))
    refine ew_Kv ?_
    refine ew_aload_n (pc := 81) dX1_addWindow_81 rfl ?_
    refine ew_cV0 (d' := 20) (pc := 82) vX1_416 (rd_of C.o) dX1_addWindow_82 (by decide) (ew_rm (Nat.le_of_ble_eq_true rfl)) ?_
    refine t_keep hg hM hD F (fun h2 hd2 bk F2 ebk k2 => ?_)
    refine ew_Kv ?_
    refine ew_ok (fun ho2 => ?_)
    obtain ⟨fb2, ft2, ρ2, C2⟩ := F2.cv
    obtain ⟨mc2, cap2, fl2, hL2, hE2, -⟩ := C2.n.l
    have hLl := h_l ho2 hL2
    have k3 : Ke [] 1 6 h2 (eh_set (eh_new h2 (wV 0 0 0 0 0 0) 6) h2.2.1 (wV x y lo hi 0 0)) := Ke.new.t Ke.set (fun b h9 => absurd h9 List.not_mem_nil) (fun b h9 h8 => by rw [List.mem_singleton.mp h9] at h8; exact absurd h8 (Nat.lt_irrefl _)) (Nat.le_refl _) (Nat.le_refl _)
    have ho3 : eh_ok g (eh_set (eh_new h2 (wV 0 0 0 0 0 0) 6) h2.2.1 (wV x y lo hi 0 0)) := (ho2.new).set (ne_1 _ _ _)
    have AL3 := C2.n.l.ke k3 hg ho2 List.not_mem_nil List.not_mem_nil
    have hLo := (ho2.2 _ _ hL2).1
    have oc : ∀ h9 z p q lo hi co dr, rd g h9 z = some (wV p q lo hi co dr) → oO g h9 z := fun h9 z p q lo hi co dr hz => ⟨4, _, _, hz, rfl, Or.inr (ew_qt q3370 rfl)⟩
    have hlw : ws.length = nW N := C2.n.len
    refine ew_aload_n (pc := 85) dX1_addWindow_85 rfl ?_
    refine ew_getf (pc := 86) fX1_84 (rd_of C2.o) rfl dX1_addWindow_86 ?_
    refine ew_getf (pc := 89) fX1_117 (rd_of C2.n.o) rfl dX1_addWindow_89 ?_
    refine ew_new (pc := 92) nX1_130 dX1_addWindow_92 ?_
    refine ew_dup (pc := 95) dX1_addWindow_95 rfl ?_
    refine ew_iload_n (pc := 96) dX1_addWindow_96 rfl ?_
    refine ew_iload_n (pc := 97) dX1_addWindow_97 rfl ?_
    refine ew_iload_n (pc := 98) dX1_addWindow_98 rfl ?_
    refine ew_iload (pc := 99) dX1_addWindow_99 rfl ?_
    refine ew_iconst (pc := 101) (v := 0) dX1_addWindow_101 rfl ?_
    refine ew_cI5 (d' := 1) (pc := 102) iX1_422 dX1_addWindow_102 (by decide) (ew_rm (Nat.le_of_ble_eq_true rfl)) ?_
    refine t_wInit (ne_1 _ _ _) ?_
    refine ew_Kv ?_
    refine ew_cF1 (d' := 18) (pc := 105) tX1_300_19 (rd_of (sn_1 (nn_1 hL2 (by omega)) (by omega))) dX1_addWindow_105 (by decide) (ew_rm (Nat.le_of_ble_eq_true rfl)) ?_
    refine t_alAdd hg hM AL3 (fun z hz => ?_) (oc _ _ _ _ _ _ _ _ (rd_se _ _ _ _)) (by omega) (by omega) (fun h4 E' q1 q2 q3 => ?_)
    · obtain ⟨i, hi9⟩ := List.getElem?_of_mem hz
      exact oc _ _ _ _ _ _ _ _ (k3.rd hg ho2 (rd_of (C2.n.w i z hi9)) List.not_mem_nil)
    refine ew_Kr ?_
    refine ew_ok (fun ho4 => ?_)
    obtain ⟨l1, l2, l3⟩ := layN_w (N := N) (x := x) (y := y) (lo := lo) (hi := hi) (co := 0) h24
    have om := C2.n.ok.m.lay (a := x) (b := y) (lo := lo) (hi := hi) (co := 0) h24 ⟨_, hx.1, hx.2⟩ ⟨_, hy.1, hy.2⟩ ⟨hc.2.1.1.1, hc.2.1.1.2⟩ ⟨hc.2.1.2.elim (fun h8 => by rw [h8]; decide) (fun h8 => Int32.le_trans (by decide) (Int32.le_trans hc.2.1.1.1 h8.1)), hc.2.1.2.elim (fun h8 => by rw [h8]; decide) (fun h8 => h8.2)⟩ ⟨by decide, by decide⟩
    have ok' := om.n
    have kk : ∃ B, Ke B 2 1000 h2 h4 ∧ (∀ b, b ∈ B → b = a 16 ∨ b = a 17) ∧ ∀ b, b ∈ B → b < h2.2.1 → eb g ≤ b := by
      have k4 : Ke [a 16, a 17] 2 1000 h2 h4 := k3.t q3 (fun b h9 => absurd h9 List.not_mem_nil) (fun b h9 _ => h9) (by decide) (by omega)
      rcases Nat.lt_or_ge (a 17) (eb g) with h8 | h8
      · refine ⟨[a 16], k4.c ho2 ho4 (fun b h9 => ?_), fun b h9 => Or.inl (List.mem_singleton.mp h9), fun b h9 _ => by rw [List.mem_singleton.mp h9]; exact hLo⟩
        rw [List.mem_cons, List.mem_singleton] at h9
        rcases h9 with h9 | h9
        · exact Or.inl (List.mem_singleton.mpr h9)
        · exact Or.inr (by rw [h9]; exact h8)
      · refine ⟨[a 16, a 17], k4, fun b h9 => ?_, fun b h9 _ => ?_⟩
        · rw [List.mem_cons, List.mem_singleton] at h9
          exact h9
        · rw [List.mem_cons, List.mem_singleton] at h9
          rcases h9 with h9 | h9 <;> rw [h9] <;> assumption
    obtain ⟨B, kB, hB1, hB2⟩ := kk
    have hx4 : h4.1 h2.2.1 = some (wN (layN N x y lo hi 0) (nW N)) := by
      rw [l2]
      refine q3.h ho3 (se_1 _ _ _) (fun h9 => ?_)
      have hE17 := rd_l hg ho2 hE2
      rw [List.mem_cons, List.mem_singleton] at h9
      omega
    have C4 := cv_add hg ho2 C2 kB hB1 q1 hx4 (Nat.le_refl _) ok' (om.e.trans rfl) om.v l1 l3
    have hE4 : ∀ b, b ∈ cvA (aE a E') (ws ++ [h2.2.1]) → b ∈ cvA a ws ∨ h2.2.1 ≤ b ∨ b < eb g := by
      intro b hb
      have hE9 : E' = a 17 ∨ h2.2.1 ≤ E' := q2.elim Or.inl (fun h8 => Or.inr (Nat.le_trans k3.2.1 h8))
      simp only [cvA, nO, List.mem_append, List.mem_cons, List.not_mem_nil, or_false] at hb ⊢
      rcases hb with hb | hb | hb | hb | hb | hb | hb | hb | hb
      · exact Or.inl (Or.inl hb)
      · exact Or.inl (Or.inr (Or.inl hb))
      · exact Or.inl (Or.inr (Or.inr (Or.inl hb)))
      · rcases hE9 with h8 | h8
        · exact Or.inl (Or.inr (Or.inr (Or.inr (Or.inl (by rw [hb]; exact h8)))))
        · exact Or.inr (Or.inl (by rw [hb]; exact h8))
      · exact Or.inl (Or.inr (Or.inr (Or.inr (Or.inr (Or.inl hb)))))
      · exact Or.inl (Or.inr (Or.inr (Or.inr (Or.inr (Or.inr (Or.inl hb))))))
      · exact Or.inl (Or.inr (Or.inr (Or.inr (Or.inr (Or.inr (Or.inr (Or.inl hb)))))))
      · exact Or.inl (Or.inr (Or.inr (Or.inr (Or.inr (Or.inr (Or.inr (Or.inr hb)))))))
      · exact Or.inr (Or.inl (by rw [hb]; exact Nat.le_refl _))
    have hmem : ∀ b, b = a 16 ∨ b = a 17 → b ∈ cvA a ws := fun b hb => List.mem_append_right _ (by
      simp only [nO, List.mem_cons]
      rcases hb with rfl | rfl
      · exact Or.inr (Or.inl rfl)
      · exact Or.inr (Or.inr (Or.inl rfl)))
    have h15 : a 15 ∉ B := fun h9 => by
      obtain ⟨fn, hn⟩ := C2.n.n
      rcases hB1 _ h9 with e9 | e9
      · rw [e9, rd_of hL2] at hn
        cases hn
      · rw [e9, hE2] at hn
        cases hn
    have F4 := F2.ke hg ho2 ho4 kB (fun b hb hlt => ⟨hmem b (hB1 b hb), hB2 b hb hlt⟩) h15 C4 (om.e.trans rfl) (fun i hi9 => if_neg (by omega)) hE4
    have fin := F4.cx.keep (PN := []) ebk
    have bud : Bud h h4 := (k2.t kB (A := [a 2, A2] ++ B) (c := 62) (s := 3000) (fun b h9 _ => List.mem_append_left _ h9) (fun b h9 _ => List.mem_append_right _ h9) (by decide) (by decide)).bud (by decide) (by decide)
    obtain ⟨mc4, cap4, fl4, hL4, -⟩ := C4.n.l
    refine ew_pop (pc := 110) dX1_addWindow_110 rfl ?_
    refine ew_aload_n (pc := 111) dX1_addWindow_111 rfl ?_
    refine ew_getf (pc := 112) fX1_84 (rd_of C4.o) rfl dX1_addWindow_112 ?_
    refine ew_getf (pc := 115) fX1_117 (rd_of C4.n.o) rfl dX1_addWindow_115 ?_
    refine ew_cF0 (d' := 0) (pc := 118) tX1_121_19 (rd_of hL4) dX1_addWindow_118 (by decide) (ew_rm (Nat.le_of_ble_eq_true rfl)) ?_
    refine t_alSize C4.n.l ?_
    rw [C4.n.len, om.v]
    refine ew_Kr ?_
    refine ew_iconst (pc := 123) (v := 1) dX1_addWindow_123 rfl ?_
    refine ew_isub (pc := 124) dX1_addWindow_124 ?_
    rw [nI_sub1 (by omega), Nat.add_sub_cancel]
    refine ew_iret (pc := 125) rfl dX1_addWindow_125 ?_
    exact hq _ _ (CR.ok (as2_y ⟨hi1, hi2⟩ hc) bud fin)
  refine ew_iload_n (pc := 0) dX1_addWindow_0 rfl ?_
  refine ew_aload_n (pc := 1) dX1_addWindow_1 rfl ?_
  refine ew_cV0 (d' := 6) (pc := 2) vX1_106 (rd_of C.o) dX1_addWindow_2 (by decide) (ew_rm (Nat.le_of_ble_eq_true rfl)) ?_
  refine t_there C ?_
  refine ew_Kr ?_
  refine ew_cV0 (d' := 0) (pc := 5) vX1_13 (rd_of C.n.o) dX1_addWindow_5 (by decide) (ew_rm (Nat.le_of_ble_eq_true rfl)) ?_
  refine t_nEvents C.n ?_
  refine ew_Kr ?_
  refine ew_cS2 (d' := 5) (pc := 8) sX1_113 dX1_addWindow_8 (by decide) (ew_rm (Nat.le_of_ble_eq_true rfl)) ?_
  refine t_chkI (fun h9 => ?_) (fun hi1 => ?_)
  · exact ew_Kx (ew_out (fun x hx => nomatch hx) (hq _ _ (CR.no (k := 2) (as2_i (fun h8 => h9 h8.1)) (by decide) (F.err hg ho (by decide)).1 rfl (ne_1 _ _ _) (F.err hg ho (by decide)).2)))
  refine ew_Kv ?_
  refine ew_iload_n (pc := 11) dX1_addWindow_11 rfl ?_
  refine ew_aload_n (pc := 12) dX1_addWindow_12 rfl ?_
  refine ew_getf (pc := 13) fX1_84 (rd_of C.o) rfl dX1_addWindow_13 ?_
  refine ew_cV0 (d' := 0) (pc := 16) vX1_13 (rd_of C.n.o) dX1_addWindow_16 (by decide) (ew_rm (Nat.le_of_ble_eq_true rfl)) ?_
  refine t_nEvents C.n ?_
  refine ew_Kr ?_
  refine ew_cS2 (d' := 5) (pc := 19) sX1_113 dX1_addWindow_19 (by decide) (ew_rm (Nat.le_of_ble_eq_true rfl)) ?_
  refine t_chkI (fun h9 => ?_) (fun hi2 => ?_)
  · exact ew_Kx (ew_out (fun x hx => nomatch hx) (hq _ _ (CR.no (k := 2) (as2_i (fun h8 => h9 h8.2)) (by decide) (F.err hg ho (by decide)).1 rfl (ne_1 _ _ _) (F.err hg ho (by decide)).2)))
  refine ew_Kv ?_
  refine ew_iload_n (pc := 22) dX1_addWindow_22 rfl ?_
  refine ew_iload_n (pc := 23) dX1_addWindow_23 rfl ?_
  refine ew_icmp_eq (pc := 24) (tgt := 77) dX1_addWindow_24 (by decide) (fun c24 => ?_) (fun c24 => ?_)
  · refine ew_iconst (pc := 77) (v := 0) dX1_addWindow_77 rfl ?_
    first
    | exact s78 hi1 hi2 _ (bI_F (fun h9 => h9.1 c24))
    | exact s78 hi1 hi2 _ (bI_F (fun h9 => bI_0.mp c35 h9.2.1.1))
    | exact s78 hi1 hi2 _ (bI_T ⟨c24, ⟨bI_n.mp c35, Or.inl c41⟩, Int32.not_le.mp c70⟩)
    | exact s78 hi1 hi2 _ (bI_T ⟨c24, ⟨bI_n.mp c35, Or.inr (bI_n.mp c53)⟩, Int32.not_le.mp c70⟩)
    | exact s78 hi1 hi2 _ (bI_F (fun h9 => absurd h9.2.2 (Int32.not_lt.mpr c70)))
    | exact s78 hi1 hi2 _ (bI_F (fun h9 => bI_0.mp c53 (h9.2.1.2.resolve_left c41)))
  · refine ew_iload_n (pc := 27) dX1_addWindow_27 rfl ?_
    refine ew_iconst (pc := 28) (v := 0) dX1_addWindow_28 rfl ?_
    refine ew_sipush (pc := 29) (v := 999) dX1_addWindow_29 rfl ?_
    refine ew_cS3 (d' := 0) (pc := 32) sX1_74 dX1_addWindow_32 (by decide) (ew_rm (Nat.le_of_ble_eq_true rfl)) ?_
    refine t_inC ?_
    refine ew_Kr ?_
    refine ew_if_eq (pc := 35) (tgt := 77) dX1_addWindow_35 (by decide) (fun c35 => ?_) (fun c35 => ?_)
    · refine ew_iconst (pc := 77) (v := 0) dX1_addWindow_77 rfl ?_
      first
      | exact s78 hi1 hi2 _ (bI_F (fun h9 => h9.1 c24))
      | exact s78 hi1 hi2 _ (bI_F (fun h9 => bI_0.mp c35 h9.2.1.1))
      | exact s78 hi1 hi2 _ (bI_T ⟨c24, ⟨bI_n.mp c35, Or.inl c41⟩, Int32.not_le.mp c70⟩)
      | exact s78 hi1 hi2 _ (bI_T ⟨c24, ⟨bI_n.mp c35, Or.inr (bI_n.mp c53)⟩, Int32.not_le.mp c70⟩)
      | exact s78 hi1 hi2 _ (bI_F (fun h9 => absurd h9.2.2 (Int32.not_lt.mpr c70)))
      | exact s78 hi1 hi2 _ (bI_F (fun h9 => bI_0.mp c53 (h9.2.1.2.resolve_left c41)))
    · refine ew_iload (pc := 38) dX1_addWindow_38 rfl ?_
      refine ew_iconst (pc := 40) (v := -1) dX1_addWindow_40 rfl ?_
      refine ew_icmp_eq (pc := 41) (tgt := 56) dX1_addWindow_41 (by decide) (fun c41 => ?_) (fun c41 => ?_)
      · refine ew_aload_n (pc := 56) dX1_addWindow_56 rfl ?_
        refine ew_getf (pc := 57) fX1_84 (rd_of C.o) rfl dX1_addWindow_57 ?_
        refine ew_getf (pc := 60) fX1_117 (rd_of C.n.o) rfl dX1_addWindow_60 ?_
        refine ew_cF0 (d' := 0) (pc := 63) tX1_121_19 (rd_of hL) dX1_addWindow_63 (by decide) (ew_rm (Nat.le_of_ble_eq_true rfl)) ?_
        refine t_alSize C.n.l ?_
        rw [C.n.len]
        refine ew_Kr ?_
        refine ew_bipush (pc := 68) (v := 24) dX1_addWindow_68 rfl ?_
        refine ew_icmp_ge (pc := 70) (tgt := 77) dX1_addWindow_70 (by decide) (fun c70 => ?_) (fun c70 => ?_)
        · refine ew_iconst (pc := 77) (v := 0) dX1_addWindow_77 rfl ?_
          first
          | exact s78 hi1 hi2 _ (bI_F (fun h9 => h9.1 c24))
          | exact s78 hi1 hi2 _ (bI_F (fun h9 => bI_0.mp c35 h9.2.1.1))
          | exact s78 hi1 hi2 _ (bI_T ⟨c24, ⟨bI_n.mp c35, Or.inl c41⟩, Int32.not_le.mp c70⟩)
          | exact s78 hi1 hi2 _ (bI_T ⟨c24, ⟨bI_n.mp c35, Or.inr (bI_n.mp c53)⟩, Int32.not_le.mp c70⟩)
          | exact s78 hi1 hi2 _ (bI_F (fun h9 => absurd h9.2.2 (Int32.not_lt.mpr c70)))
          | exact s78 hi1 hi2 _ (bI_F (fun h9 => bI_0.mp c53 (h9.2.1.2.resolve_left c41)))
        · refine ew_iconst (pc := 73) (v := 1) dX1_addWindow_73 rfl ?_
          refine ew_goto (pc := 74) (tgt := 78) dX1_addWindow_74 (by decide) ?_
          first
          | exact s78 hi1 hi2 _ (bI_F (fun h9 => h9.1 c24))
          | exact s78 hi1 hi2 _ (bI_F (fun h9 => bI_0.mp c35 h9.2.1.1))
          | exact s78 hi1 hi2 _ (bI_T ⟨c24, ⟨bI_n.mp c35, Or.inl c41⟩, Int32.not_le.mp c70⟩)
          | exact s78 hi1 hi2 _ (bI_T ⟨c24, ⟨bI_n.mp c35, Or.inr (bI_n.mp c53)⟩, Int32.not_le.mp c70⟩)
          | exact s78 hi1 hi2 _ (bI_F (fun h9 => absurd h9.2.2 (Int32.not_lt.mpr c70)))
          | exact s78 hi1 hi2 _ (bI_F (fun h9 => bI_0.mp c53 (h9.2.1.2.resolve_left c41)))
      · refine ew_iload (pc := 44) dX1_addWindow_44 rfl ?_
        refine ew_iload_n (pc := 46) dX1_addWindow_46 rfl ?_
        refine ew_sipush (pc := 47) (v := 999) dX1_addWindow_47 rfl ?_
        refine ew_cS3 (d' := 0) (pc := 50) sX1_74 dX1_addWindow_50 (by decide) (ew_rm (Nat.le_of_ble_eq_true rfl)) ?_
        refine t_inC ?_
        refine ew_Kr ?_
        refine ew_if_eq (pc := 53) (tgt := 77) dX1_addWindow_53 (by decide) (fun c53 => ?_) (fun c53 => ?_)
        · refine ew_iconst (pc := 77) (v := 0) dX1_addWindow_77 rfl ?_
          first
          | exact s78 hi1 hi2 _ (bI_F (fun h9 => h9.1 c24))
          | exact s78 hi1 hi2 _ (bI_F (fun h9 => bI_0.mp c35 h9.2.1.1))
          | exact s78 hi1 hi2 _ (bI_T ⟨c24, ⟨bI_n.mp c35, Or.inl c41⟩, Int32.not_le.mp c70⟩)
          | exact s78 hi1 hi2 _ (bI_T ⟨c24, ⟨bI_n.mp c35, Or.inr (bI_n.mp c53)⟩, Int32.not_le.mp c70⟩)
          | exact s78 hi1 hi2 _ (bI_F (fun h9 => absurd h9.2.2 (Int32.not_lt.mpr c70)))
          | exact s78 hi1 hi2 _ (bI_F (fun h9 => bI_0.mp c53 (h9.2.1.2.resolve_left c41)))
        · refine ew_aload_n (pc := 56) dX1_addWindow_56 rfl ?_
          refine ew_getf (pc := 57) fX1_84 (rd_of C.o) rfl dX1_addWindow_57 ?_
          refine ew_getf (pc := 60) fX1_117 (rd_of C.n.o) rfl dX1_addWindow_60 ?_
          refine ew_cF0 (d' := 0) (pc := 63) tX1_121_19 (rd_of hL) dX1_addWindow_63 (by decide) (ew_rm (Nat.le_of_ble_eq_true rfl)) ?_
          refine t_alSize C.n.l ?_
          rw [C.n.len]
          refine ew_Kr ?_
          refine ew_bipush (pc := 68) (v := 24) dX1_addWindow_68 rfl ?_
          refine ew_icmp_ge (pc := 70) (tgt := 77) dX1_addWindow_70 (by decide) (fun c70 => ?_) (fun c70 => ?_)
          · refine ew_iconst (pc := 77) (v := 0) dX1_addWindow_77 rfl ?_
            first
            | exact s78 hi1 hi2 _ (bI_F (fun h9 => h9.1 c24))
            | exact s78 hi1 hi2 _ (bI_F (fun h9 => bI_0.mp c35 h9.2.1.1))
            | exact s78 hi1 hi2 _ (bI_T ⟨c24, ⟨bI_n.mp c35, Or.inl c41⟩, Int32.not_le.mp c70⟩)
            | exact s78 hi1 hi2 _ (bI_T ⟨c24, ⟨bI_n.mp c35, Or.inr (bI_n.mp c53)⟩, Int32.not_le.mp c70⟩)
            | exact s78 hi1 hi2 _ (bI_F (fun h9 => absurd h9.2.2 (Int32.not_lt.mpr c70)))
            | exact s78 hi1 hi2 _ (bI_F (fun h9 => bI_0.mp c53 (h9.2.1.2.resolve_left c41)))
          · refine ew_iconst (pc := 73) (v := 1) dX1_addWindow_73 rfl ?_
            refine ew_goto (pc := 74) (tgt := 78) dX1_addWindow_74 (by decide) ?_
            first
            | exact s78 hi1 hi2 _ (bI_F (fun h9 => h9.1 c24))
            | exact s78 hi1 hi2 _ (bI_F (fun h9 => bI_0.mp c35 h9.2.1.1))
            | exact s78 hi1 hi2 _ (bI_T ⟨c24, ⟨bI_n.mp c35, Or.inl c41⟩, Int32.not_le.mp c70⟩)
            | exact s78 hi1 hi2 _ (bI_T ⟨c24, ⟨bI_n.mp c35, Or.inr (bI_n.mp c53)⟩, Int32.not_le.mp c70⟩)
            | exact s78 hi1 hi2 _ (bI_F (fun h9 => absurd h9.2.2 (Int32.not_lt.mpr c70)))
            | exact s78 hi1 hi2 _ (bI_F (fun h9 => bI_0.mp c53 (h9.2.1.2.resolve_left c41)))
end
