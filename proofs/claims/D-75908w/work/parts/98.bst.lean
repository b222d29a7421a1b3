/-! EW: the best mend -/
set_option maxRecDepth 100000
/-- a list of mends -/
def MdL (g : eg) (h : eh) (L E : Nat) (xs : List Nat) (ms : List mnd) : Prop := AL g h L E xs ∧ xs.length = ms.length ∧ ∀ (i : Nat) (x : Nat) (v : mnd), xs[i]? = some x → ms[i]? = some v → h.1 x = some (mdO v)
section
variable {g : eg} {h : eh} {a : Nat → Nat} {ws : List Nat} {N : Nat → Int32} {m pe ep : Int32} {fb ft : Nat → Int32} {ρ : ru} {Q : Outcome → eh → Prop}
theorem MdL.o {L E : Nat} {xs : List Nat} {ms : List mnd} (S : MdL g h L E xs ms) : ∃ mc, h.1 L = some (ob 19 [.int mc, .ref E, .int (nI xs.length)]) := S.1.elim fun mc h1 => h1.elim fun cap h2 => h2.elim fun f h3 => ⟨mc, h3.1⟩
theorem MdL.x {L E i : Nat} {xs : List Nat} {ms : List mnd} (S : MdL g h L E xs ms) (hi : i < ms.length) : ∃ x, xs[i]? = some x ∧ h.1 x = some (mdO ms[i]) :=
  ⟨_, List.getElem?_eq_getElem (by rw [S.2.1]; exact hi), S.2.2 i _ _ (List.getElem?_eq_getElem (by rw [S.2.1]; exact hi)) (List.getElem?_eq_getElem hi)⟩
/-- a list of mends does not hold the cell A, if that is none of an array of objects, a list or a mend -/
theorem MdL.keK {L E A c s : Nat} {xs : List Nat} {ms : List mnd} {h' : eh} (S : MdL g h L E xs ms) (k : Ke [A] c s h h') (hg : gOC g) (ho : eh_ok g h) (h1 : ∀ fs, rd g h A ≠ some (ob 19 fs)) (h2 : ∀ n f, rd g h A ≠ some (aR 5 n f)) (h3 : ∀ fs, rd g h A ≠ some (ob 10 fs)) : MdL g h' L E xs ms := by
  obtain ⟨S1, S2, S3⟩ := S
  have S1' := S1
  obtain ⟨mc, cap, f, a1, a2, -⟩ := S1'
  refine ⟨S1.ke k hg ho (fun h9 => ?_) (fun h9 => ?_), S2, fun i x v hx hv => k.h ho (S3 i x v hx hv) (fun h9 => ?_)⟩
  · rw [List.mem_singleton.mp h9] at a1
    exact h1 _ (rd_of a1)
  · rw [List.mem_singleton.mp h9] at a2
    exact h2 _ _ a2
  · have h8 := S3 i x v hx hv
    rw [List.mem_singleton.mp h9] at h8
    exact h3 _ (rd_of h8)
theorem t_offerAll {c o L E : Nat} {xs : List Nat} {ms : List mnd} (hg : gOC g) (hl : ms.length < 2 ^ 20) (hc : chF g h c o none) (S : MdL g h L E xs ms) (hq : ∀ h', chF g h' c o (ms.foldl mdB none) → Ke [c] 0 0 h h' → (∀ x v, h.1 x = some (mdO v) → h'.1 x = some (mdO v)) → Q (.returned none) h') : ew_T g kX12_offerAll 12 [.ref c, .ref L] h Q := by
  have main : ∀ q k h2, k + q = ms.length → chF g h2 c o ((ms.take k).foldl mdB none) → MdL g h2 L E xs ms → Ke [c] 0 0 h h2 → (∀ x v, h.1 x = some (mdO v) → h2.1 x = some (mdO v)) → ew_G g kX12_offerAll 12 2 [.ref c, .ref L, .int (nI k)] [] h2 Q := by
    intro q
    induction q with
    | zero =>
      intro k h2 hk hc2 S2 ke kx
      have e9 : k = ms.length := by omega
      rw [e9, List.take_length] at hc2
      obtain ⟨mc, hL⟩ := S2.o
      refine ew_iload_n (pc := 2) dX12_offerAll_2 rfl ?_
      refine ew_aload_n (pc := 3) dX12_offerAll_3 rfl ?_
      refine ew_cF0 (d' := 0) (pc := 4) tX12_23_19 (rd_of hL) dX12_offerAll_4 (by decide) (ew_rm (Nat.le_of_ble_eq_true rfl)) ?_
      refine t_alSize S2.1 ?_
      rw [S2.2.1]
      refine ew_Kr ?_
      refine ew_icmp_ge (pc := 9) (tgt := 29) dX12_offerAll_9 (by decide) (fun c9 => ?_) (fun c9 => absurd (nI_le (by omega) (by omega)) c9)
      refine ew_vret (pc := 29) rfl dX12_offerAll_29 ?_
      exact hq _ hc2 ke kx
    | succ q ih =>
      intro k h2 hk hc2 S2 ke kx
      have hkl : k < ms.length := by omega
      obtain ⟨mc, hL⟩ := S2.o
      obtain ⟨x, hx, hxo⟩ := S2.x hkl
      have hcc : ∃ fs, h2.1 c = some (ob 11 fs) := by
        have h9 := hc2.2
        split at h9
        · exact ⟨_, h9⟩
        · obtain ⟨y, h8, -⟩ := h9; exact ⟨_, h8⟩
      obtain ⟨fs, hcc⟩ := hcc
      refine ew_ok (fun ho2 => ?_)
      refine ew_iload_n (pc := 2) dX12_offerAll_2 rfl ?_
      refine ew_aload_n (pc := 3) dX12_offerAll_3 rfl ?_
      refine ew_cF0 (d' := 0) (pc := 4) tX12_23_19 (rd_of hL) dX12_offerAll_4 (by decide) (ew_rm (Nat.le_of_ble_eq_true rfl)) ?_
      refine t_alSize S2.1 ?_
      rw [S2.2.1]
      refine ew_Kr ?_
      refine ew_icmp_ge (pc := 9) (tgt := 29) dX12_offerAll_9 (by decide) (fun c9 => absurd c9 (nI_ge hkl (by omega))) (fun c9 => ?_)
      refine ew_aload_n (pc := 12) dX12_offerAll_12 rfl ?_
      refine ew_aload_n (pc := 13) dX12_offerAll_13 rfl ?_
      refine ew_iload_n (pc := 14) dX12_offerAll_14 rfl ?_
      refine ew_cF1 (d' := 2) (pc := 15) tX12_29_19 (rd_of hL) dX12_offerAll_15 (by decide) (ew_rm (Nat.le_of_ble_eq_true rfl)) ?_
      refine t_alGet S2.1 hx ?_
      refine ew_Kr ?_
      refine ew_cV1 (d' := 11) (pc := 20) vX12_33 (rd_of hcc) dX12_offerAll_20 (by decide) (ew_rm (Nat.le_of_ble_eq_true rfl)) ?_
      refine t_offer hc2 (rd_of hxo) (fun h3 c3 k3 => ?_)
      refine ew_Kv ?_
      refine ew_iinc (pc := 23) dX12_offerAll_23 rfl (nI_inc k) (by decide) (p1_2 rfl) ?_
      refine ew_goto (pc := 26) (tgt := 2) dX12_offerAll_26 (by decide) ?_
      refine ih (k + 1) h3 (by omega) ?_ (S2.keK k3 hg ho2 (fun fs h9 => ?_) (fun n f h9 => ?_) (fun fs h9 => ?_)) (ke.t k3 (fun b h9 _ => h9) (fun b h9 _ => h9) (Nat.le_refl _) (Nat.le_refl _)) (fun x v h9 => k3.h ho2 (kx x v h9) (fun h8 => ?_))
      · rw [List.take_succ_eq_append_getElem hkl, List.foldl_append]
        exact c3
      · rw [rd_of hcc] at h9; cases h9
      · rw [rd_of hcc] at h9; cases h9
      · rw [rd_of hcc] at h9; cases h9
      · have h7 := kx x v h9
        rw [List.mem_singleton.mp h8, hcc] at h7
        cases h7
  refine ew_enter (by decide +kernel) (ew_a1 rfl (ew_a1 rfl (ew_an ew_az))) (Nat.le_of_ble_eq_true rfl) ?_
  refine ew_ok (fun ho => ?_)
  refine ew_iconst (pc := 0) (v := 0) dX12_offerAll_0 rfl ?_
  refine ew_istore_n (pc := 1) dX12_offerAll_1 rfl (by decide) (p1_2 rfl) ?_
  exact main ms.length 0 h (by omega) hc S (Ke.r _ _) (fun x v h9 => h9)
/-- only the square that is tried changed, of what was there -/
theorem CV.keT {c s : Nat} {h' : eh} {ft2 : Nat → Int32} (C : CV g h a ws N m pe ep fb ft ρ) (k : Ke [a 8] c s h h') (hg : gOC g) (ho : eh_ok g h) (h8 : h'.1 (a 8) = some (aI (nE N * nE N) ft2)) : CV g h' a ws N m pe ep fb ft2 ρ := by
  have hb := C.t.2.1
  have d := C.ne.2.1
  have d1 := C.ne.1.1
  have cc := C.c
  have m1 : ∀ b ci fs, rd g h b = some (ob ci fs) → b ∉ [a 8] := fun b ci fs h9 h7 => rd_ob h9 hb (List.mem_singleton.mp h7)
  have m2 : ∀ b, b ≠ a 8 → b ∉ [a 8] := fun b h9 h7 => h9 (List.mem_singleton.mp h7)
  obtain ⟨r1, r2, r3, r4, r5, r6, r7, r8⟩ := C.r
  refine ⟨k.h ho C.o (m1 _ _ _ (rd_of C.o)), C.n.ke k hg ho (fun b hb9 => ?_), C.b.ke k hg ho (m1 _ _ _ C.b.1) (m2 _ d1), ⟨k.rd hg ho C.t.1 (m1 _ _ _ C.t.1), h8, C.t.2.2⟩, ⟨r1, r2, r3, r4, r5, r6, k.rd hg ho r7 (m1 _ _ _ r7), r8⟩, ⟨k.h ho cc.1 (m2 _ (fun e => d.1 e.symm)), k.h ho cc.2.1 (m2 _ (fun e => d.2.1 e.symm)), k.h ho cc.2.2.1 (m2 _ (fun e => d.2.2.1 e.symm)), k.h ho cc.2.2.2 (m1 _ _ _ (rd_of cc.2.2.2))⟩, C.d⟩
  have d4 := d.2.2.2
  simp only [List.mem_cons, List.not_mem_nil, or_false, not_or] at d4
  obtain ⟨fn, hn⟩ := C.n.n
  obtain ⟨mc, cap, f, l1, l2, -⟩ := C.n.l
  rw [List.mem_cons, nO, List.mem_cons, List.mem_cons, List.mem_cons, List.mem_cons, List.mem_cons, List.mem_cons] at hb9
  rcases hb9 with e | e | e | e | e | e | e | e
  · rw [e]; exact m2 _ (rd_ar hn hb)
  · rw [e]; exact m1 _ _ _ (rd_of C.n.o)
  · rw [e]; exact m1 _ _ _ (rd_of l1)
  · rw [e]; exact m2 _ (rd_ar l2 hb)
  · rw [e]; exact m2 _ (fun e => d4.1 e.symm)
  · rw [e]; exact m2 _ (fun e => d4.2.1 e.symm)
  · rw [e]; exact m2 _ (fun e => d4.2.2 e.symm)
  · obtain ⟨i, hi⟩ := List.getElem?_of_mem e
    exact m1 _ _ _ (rd_of (C.n.w i b hi))
/-- all addresses of the component with a net -/
def cvA (a : Nat → Nat) (ws : List Nat) : List Nat := [a 0, a 5, a 6, a 7, a 8, a 9, a 10, a 11, a 12, a 13, a 15] ++ nO (a 14) (a 16) (a 17) (a 18) (a 19) (a 20) ws
theorem CV.lt (C : CV g h a ws N m pe ep fb ft ρ) (hg : gOC g) (ho : eh_ok g h) : ∀ b, b ∈ cvA a ws → b < h.2.1 := by
  intro b hb9
  have cc := C.c
  obtain ⟨fn, hn⟩ := C.n.n
  obtain ⟨mc, cap, f, l1, l2, -⟩ := C.n.l
  obtain ⟨f1, hf1, -⟩ := C.n.F
  obtain ⟨f2, hf2, -⟩ := C.n.D
  obtain ⟨f3, hf3, -⟩ := C.n.W
  simp only [cvA, nO, List.mem_append, List.mem_cons, List.not_mem_nil, or_false] at hb9
  rcases hb9 with (e | e | e | e | e | e | e | e | e | e | e) | (e | e | e | e | e | e | e)
  · rw [e]; exact h_l ho C.o
  · rw [e]; exact rd_l hg ho C.b.1
  · rw [e]; exact h_l ho C.b.2.1
  · rw [e]; exact rd_l hg ho C.t.1
  · rw [e]; exact h_l ho C.t.2.1
  · rw [e]; exact h_l ho cc.2.2.2
  · rw [e]; exact rd_l hg ho C.r.2.2.2.2.2.2.1
  · rw [e]; exact h_l ho cc.1
  · rw [e]; exact h_l ho cc.2.1
  · rw [e]; exact h_l ho cc.2.2.1
  · rw [e]; exact rd_l hg ho hn
  · rw [e]; exact h_l ho C.n.o
  · rw [e]; exact h_l ho l1
  · rw [e]; exact rd_l hg ho l2
  · rw [e]; exact h_l ho hf1
  · rw [e]; exact h_l ho hf2
  · rw [e]; exact h_l ho hf3
  · obtain ⟨i, hi⟩ := List.getElem?_of_mem e
    exact h_l ho (C.n.w i b hi)
theorem CV.keA {B : List Nat} {c s : Nat} {h' : eh} (C : CV g h a ws N m pe ep fb ft ρ) (k : Ke B c s h h') (hg : gOC g) (ho : eh_ok g h) (hB : ∀ b, b ∈ cvA a ws → b ∉ B) : CV g h' a ws N m pe ep fb ft ρ := by
  have cc := C.c
  have hm : ∀ b, b ∈ [a 0, a 5, a 6, a 7, a 8, a 9, a 10, a 11, a 12, a 13, a 15] → b ∉ B := fun b h9 => hB b (List.mem_append_left _ h9)
  have hn : ∀ b, b ∈ nO (a 14) (a 16) (a 17) (a 18) (a 19) (a 20) ws → b ∉ B := fun b h9 => hB b (List.mem_append_right _ h9)
  obtain ⟨r1, r2, r3, r4, r5, r6, r7, r8⟩ := C.r
  refine ⟨k.h ho C.o (hm _ (by simp)), C.n.ke k hg ho (fun b h9 => ?_), C.b.ke k hg ho (hm _ (by simp)) (hm _ (by simp)), C.t.ke k hg ho (hm _ (by simp)) (hm _ (by simp)), ⟨r1, r2, r3, r4, r5, r6, k.rd hg ho r7 (hm _ (by simp)), r8⟩, ⟨k.h ho cc.1 (hm _ (by simp)), k.h ho cc.2.1 (hm _ (by simp)), k.h ho cc.2.2.1 (hm _ (by simp)), k.h ho cc.2.2.2 (hm _ (by simp))⟩, C.d⟩
  rcases List.mem_cons.mp h9 with e | e
  · rw [e]; exact hm _ (by simp)
  · exact hn b e
end
