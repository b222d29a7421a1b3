/-! EW: the best mend is found -/
set_option maxRecDepth 100000
def beU (N : Nat → Int32) (c : Nat) : Int32 := if 0 < N (2 + 6 * (c / 2) + 4) ∧ N (2 + 6 * (c / 2) + 5) = 0 then unC N (c / 2) (if c % 2 = 1 then 1 else 0) else -1
/-- mends of steps below c -/
def beL (N : Nat → Int32) : Nat → List mnd
  | 0 => []
  | c + 1 => beL N c ++ (if beU N c = -1 then [] else [(nI c, beU N c, beU N c * N (2 + 6 * (c / 2) + 4))])
def beC (N : Nat → Int32) : Option mnd := if cSb N = true then none else (beL N (2 * nW N)).foldl mdB none
theorem beL_len (N : Nat → Int32) : ∀ c, (beL N c).length ≤ c
  | 0 => Nat.le_refl 0
  | c + 1 => by
    have := beL_len N c
    rw [beL, List.length_append]
    split
    · simp; omega
    · simp; omega
/-- what an answer that may be nothing refers to -/
def beR (g : eg) (h' : eh) (v : Value) : Option mnd → Prop
  | none => v = .null
  | some x => ∃ y, v = .ref y ∧ rd g h' y = some (mdO x)
section
variable {g : eg} {h : eh} {a : Nat → Nat} {ws : List Nat} {N : Nat → Int32} {m pe ep : Int32} {fb ft : Nat → Int32} {ρ : ru} {Q : Outcome → eh → Prop}
theorem t_mdAdd {L E x : Nat} {xs : List Nat} {ms : List mnd} {v : mnd} {Q : Outcome → eh → Prop} (hg : gOC g) (hM : gOM g) (S : MdL g h L E xs ms) (hx : h.1 x = some (mdO v)) (hl : ms.length < 2 ^ 17)
    (hq : ∀ h' E', MdL g h' L E' (xs ++ [x]) (ms ++ [v]) → (E' = E ∨ h.2.1 ≤ E') → Ke [L, E] 1 (10 + 2 * ms.length) h h' → Q (.returned (some (.int 1))) h') : ew_T g kJ14_add 18 [.ref L, .ref x] h Q := by
  obtain ⟨sA, sl, sx⟩ := S
  refine ew_okT (fun ho => ?_)
  have sA2 := sA
  obtain ⟨mc, cap, f, a1, a2, -⟩ := sA2
  have hxL : x ≠ L := by
    intro e9
    rw [e9, a1] at hx
    cases hx
  have oc : ∀ y w, h.1 y = some (mdO w) → oO g h y := fun y w h9 => ⟨10, _, _, rd_of h9, rfl, Or.inr (ew_qt q3376 rfl)⟩
  rw [← sl] at hq
  refine t_alAdd hg hM sA (fun y hy => ?_) (oc _ _ hx) hxL (by omega) (fun h' E' q1 q2 q3 => hq h' E' ⟨q1, ?_, ?_⟩ q2 q3)
  · obtain ⟨i, hi⟩ := List.getElem?_of_mem hy
    have hlt : i < ms.length := by have := (List.getElem?_eq_some_iff.mp hi).1; omega
    exact oc _ _ (sx i y _ hi (List.getElem?_eq_getElem hlt))
  · rw [List.length_append, List.length_append, sl]
    rfl
  · have key : ∀ y e', h.1 y = some (mdO e') → h'.1 y = some (mdO e') := fun y e' h9 => by
      refine q3.h ho h9 ?_
      rw [List.mem_cons, List.mem_singleton, not_or]
      constructor
      · intro h8
        rw [h8, a1] at h9
        cases h9
      · intro h8
        rw [h8] at h9
        rw [rd_of h9] at a2
        cases a2
    intro i y e' h1 h2
    by_cases hi : i < xs.length
    · rw [List.getElem?_append_left hi] at h1
      rw [List.getElem?_append_left (by omega)] at h2
      exact key y e' (sx i y e' h1 h2)
    · have hi2 : i = xs.length := by
        have := (List.getElem?_eq_some_iff.mp h1).1
        rw [List.length_append, List.length_singleton] at this
        omega
      rw [hi2, List.getElem?_append_right (Nat.le_refl _), Nat.sub_self] at h1
      rw [hi2, sl, List.getElem?_append_right (Nat.le_refl _), Nat.sub_self] at h2
      cases h1
      cases h2
      exact key _ _ hx
theorem ke_drop {L E c s lo : Nat} {h' : eh} (k : Ke [L, E] c s h h') (ho : eh_ok g h) (ho' : eh_ok g h') (hL : lo ≤ L) (hE : E < eb g ∨ lo ≤ E) : ∃ B, Ke B c s h h' ∧ ∀ b, b ∈ B → lo ≤ b := by
  rcases hE with hE | hE
  · refine ⟨[L], k.c ho ho' (fun b h9 => ?_), fun b h9 => by rw [List.mem_singleton.mp h9]; exact hL⟩
    rw [List.mem_cons, List.mem_singleton] at h9
    rcases h9 with h9 | h9
    · exact Or.inl (List.mem_singleton.mpr h9)
    · exact Or.inr (by rw [h9]; exact hE)
  · refine ⟨[L, E], k, fun b h9 => ?_⟩
    rw [List.mem_cons, List.mem_singleton] at h9
    rcases h9 with h9 | h9 <;> rw [h9] <;> assumption
/-- the state while mends are gathered -/
def BeI (g : eg) (h h2 : eh) (a : Nat → Nat) (ws : List Nat) (N : Nat → Int32) (m pe ep : Int32) (f : Nat → Int32) (ρ : ru) (L E : Nat) (xs : List Nat) (ms : List mnd) : Prop := (∃ ft2, CV g h2 a ws N m pe ep f ft2 ρ) ∧ MdL g h2 L E xs ms ∧ Ke [a 6, a 8] (3 + 2 * ms.length) (10 + 200 * ms.length) h h2 ∧ h.2.1 ≤ L ∧ (E < eb g ∨ h.2.1 ≤ E)
theorem BeI.add {h2 h3 h4 h5 : eh} {f ft3 : Nat → Int32} {L E E5 : Nat} {xs : List Nat} {ms : List mnd} {v : mnd} (hg : gOC g) (ho : eh_ok g h) (C : CV g h a ws N m pe ep fb ft ρ) (ho4 : eh_ok g h4) (ho5 : eh_ok g h5) (hl : ms.length < 50) (B : BeI g h h2 a ws N m pe ep f ρ L E xs ms) (k3 : Ke [a 8] 0 0 h2 h3) (ho3 : eh_ok g h3) (C3 : CV g h3 a ws N m pe ep f ft3 ρ) (k4 : Ke [] 1 3 h3 h4) (M5 : MdL g h5 L E5 (xs ++ [h3.2.1]) (ms ++ [v])) (hE5 : E5 = E ∨ h4.2.1 ≤ E5) (k5 : Ke [L, E] 1 (10 + 2 * ms.length) h4 h5) : BeI g h h5 a ws N m pe ep f ρ L E5 (xs ++ [h3.2.1]) (ms ++ [v]) := by
  obtain ⟨-, b2, b3, b4, b5⟩ := B
  have nm : ∀ b : Nat, b ∉ ([] : List Nat) := fun b => List.not_mem_nil
  have C4 := C3.ke k4 hg ho3
  obtain ⟨B5, kB, hB⟩ := ke_drop k5 ho4 ho5 b4 b5
  have C5 := C4.keA kB hg ho4 (fun b hb h9 => by have := C.lt hg ho b hb; have := hB b h9; omega)
  refine ⟨⟨_, C5⟩, M5, ?_, b4, ?_⟩
  · have kk := ((b3.t k3 (A := [a 6, a 8]) (c := 3 + 2 * ms.length) (s := 10 + 200 * ms.length) (fun b h9 _ => h9) (fun b h9 _ => by rw [List.mem_singleton.mp h9]; exact List.mem_cons_of_mem _ (List.mem_singleton.mpr rfl)) (by omega) (by omega)).t k4 (A := [a 6, a 8]) (c := 4 + 2 * ms.length) (s := 13 + 200 * ms.length) (fun b h9 _ => h9) (fun b h9 => absurd h9 (nm b)) (by omega) (by omega)).t kB (A := [a 6, a 8]) (c := 3 + 2 * (ms.length + 1)) (s := 10 + 200 * (ms.length + 1)) (fun b h9 _ => h9) (fun b h9 h8 => by have := hB b h9; omega) (by omega) (by omega)
    rw [List.length_append, List.length_singleton]
    exact kk
  · rcases hE5 with e | e
    · rw [e]; exact b5
    · have z1 := b3.2.1
      have z2 := k3.2.1
      have z3 := k4.2.1
      exact Or.inr (by omega)
theorem t_best (hg : gOC g) (hM : gOM g) (hD : gDE g) (C : CV g h a ws N m pe ep fb ft ρ) (hq : ∀ h' r, CQ g a ws N m pe ep h h' → beR g h' r (beC N) → Q (.returned (some r)) h') : ew_T g kX1_best 19 [.ref (a 0)] h Q := by
  have hW := C.n.ok.w2
  have nm : ∀ b : Nat, b ∉ ([] : List Nat) := fun b => List.not_mem_nil
  refine ew_enter (by decide +kernel) (ew_a1 rfl (ew_an (ew_an (ew_an (ew_an ew_az))))) (Nat.le_of_ble_eq_true rfl) ?_
  refine ew_ok (fun ho => ?_)
  have fin2 : ∀ h4 c o x1 x3 x4, chF g h4 c o (beC N) → CQ g a ws N m pe ep h h4 → ew_G g kX1_best 19 144 [.ref (a 0), x1, .ref c, x3, x4] [] h4 Q := by
    intro h4 c o x1 x3 x4 c4 hQ
    have hq4 := fun r h9 => hq h4 r hQ h9
    cases hb : beC N with
    | none =>
      rw [hb] at c4 hq4
      have hcc : h4.1 c = some (ob 11 [.ref o, .null]) := c4.2
      have fr : ∀ Q : Outcome → eh → Prop, Q (.returned (some .null)) h4 → ew_T g kX12_first 0 [.ref c] h4 Q := by
        intro Q hq
        refine ew_enter (by decide +kernel) (ew_a1 rfl ew_az) (Nat.le_of_ble_eq_true rfl) ?_
        refine ew_aload_n (pc := 0) dX12_first_0 rfl ?_
        refine ew_getf (pc := 1) fX12_13 (rd_of hcc) rfl dX12_first_1 ?_
        refine ew_aret (pc := 4) rfl (Or.inl ⟨_, rfl⟩) (Or.inl rfl) dX12_first_4 ?_
        exact hq
      refine ew_aload_n (pc := 144) dX1_best_144 rfl ?_
      refine ew_cV0 (d' := 0) (pc := 145) vX1_316 (rd_of hcc) dX1_best_145 (by decide) (ew_rm (Nat.le_of_ble_eq_true rfl)) ?_
      refine fr _ ?_
      refine ew_Kr ?_
      refine ew_castN (pc := 148) dX1_best_148 ?_
      refine ew_aret (pc := 151) rfl (Or.inl ⟨_, rfl⟩) (Or.inl rfl) dX1_best_151 ?_
      exact hq4 _ rfl
    | some v =>
      rw [hb] at c4 hq4
      obtain ⟨y, hcc, hy⟩ := c4.2
      have fr : ∀ Q : Outcome → eh → Prop, Q (.returned (some (.ref y))) h4 → ew_T g kX12_first 0 [.ref c] h4 Q := by
        intro Q hq
        refine ew_enter (by decide +kernel) (ew_a1 rfl ew_az) (Nat.le_of_ble_eq_true rfl) ?_
        refine ew_aload_n (pc := 0) dX12_first_0 rfl ?_
        refine ew_getf (pc := 1) fX12_13 (rd_of hcc) rfl dX12_first_1 ?_
        refine ew_aret (pc := 4) rfl (Or.inl ⟨_, rfl⟩) (Or.inr ⟨_, rfl⟩) dX12_first_4 ?_
        exact hq
      refine ew_aload_n (pc := 144) dX1_best_144 rfl ?_
      refine ew_cV0 (d' := 0) (pc := 145) vX1_316 (rd_of hcc) dX1_best_145 (by decide) (ew_rm (Nat.le_of_ble_eq_true rfl)) ?_
      refine fr _ ?_
      refine ew_Kr ?_
      refine ew_cast (pc := 148) rfl hy (ew_q q2036) (Or.inl rfl) dX1_best_148 ?_
      refine ew_aret (pc := 151) rfl (Or.inl ⟨_, rfl⟩) (Or.inr ⟨_, rfl⟩) dX1_best_151 ?_
      exact hq4 _ ⟨y, rfl, hy⟩
  have fin : ∀ f h2 L E xs x2 x3 x4, ¬ cSb N = true → BeI g h h2 a ws N m pe ep f ρ L E xs (beL N (2 * nW N)) → ew_G g kX1_best 19 124 [.ref (a 0), .ref L, x2, x3, x4] [] h2 Q := by
    intro f h2 L E xs x2 x3 x4 hs B
    obtain ⟨ft2, C2⟩ := B.1
    have hlen := beL_len N (2 * nW N)
    have hbe : beC N = (beL N (2 * nW N)).foldl mdB none := if_neg hs
    refine ew_ok (fun ho2 => ?_)
    obtain ⟨hB, hB9⟩ : ∃ hB, hB = eh_new (eh_new h2 (ob 11 [.null, .null]) 2) (ob 12 []) 0 := ⟨_, rfl⟩
    have kB : Ke [] 2 2 h2 hB := by rw [hB9]; exact Ke.new.t Ke.new (fun b h9 => absurd h9 (nm b)) (fun b h9 => absurd h9 (nm b)) (Nat.le_refl _) (Nat.le_refl _)
    have c1 : hB.1 h2.2.1 = some (ob 11 [.null, .null]) := by rw [hB9]; exact nn_1 (ne_1 _ _ _) (by show h2.2.1 ≠ h2.2.1 + 1; omega)
    have c2 : hB.1 (h2.2.1 + 1) = some (ob 12 []) := by rw [hB9]; exact ne_1 _ _ _
    have kC : Ke [] 2 2 h2 (eh_set hB h2.2.1 (ob 11 [.ref (h2.2.1 + 1), .null])) := kB.t Ke.set (fun b h9 => absurd h9 (nm b)) (fun b h9 h8 => by rw [List.mem_singleton.mp h9] at h8; exact absurd h8 (Nat.lt_irrefl _)) (Nat.le_refl _) (Nat.le_refl _)
    have M3 : MdL g (eh_set hB h2.2.1 (ob 11 [.ref (h2.2.1 + 1), .null])) L E xs (beL N (2 * nW N)) := ⟨B.2.1.1.ke kC hg ho2 (nm _) (nm _), B.2.1.2.1, fun i z w h1 h2 => kC.h ho2 (B.2.1.2.2 i z w h1 h2) (nm _)⟩
    have ch : chF g (eh_set hB h2.2.1 (ob 11 [.ref (h2.2.1 + 1), .null])) h2.2.1 (h2.2.1 + 1) none := ⟨rd_of (sn_1 c2 (by omega)), se_1 _ _ _⟩
    have cinit : ∀ Q : Outcome → eh → Prop, Q (.returned none) (eh_set hB h2.2.1 (ob 11 [.ref (h2.2.1 + 1), .null])) → ew_T g kX12_init 1 [.ref h2.2.1, .ref (h2.2.1 + 1)] hB Q := by
      intro Q hq
      refine ew_enter (by decide +kernel) (ew_a1 rfl (ew_a1 rfl ew_az)) (Nat.le_of_ble_eq_true rfl) ?_
      refine ew_aload_n (pc := 0) dX12_init_0 rfl ?_
      refine ew_obj (pc := 1) (ew_q q2069) (ew_q q177) (ew_q q178) (ew_rm (Nat.le_of_ble_eq_true rfl)) dX12_init_1 ?_
      refine ew_aload_n (pc := 4) dX12_init_4 rfl ?_
      refine ew_aload_n (pc := 5) dX12_init_5 rfl ?_
      refine ew_putf (pc := 6) pX12_7 c1 st_0 (Nat.le_of_ble_eq_true rfl) rfl rfl (fun _ => rfl) dX12_init_6 ?_
      refine ew_vret (pc := 9) rfl dX12_init_9 ?_
      exact hq
    have ninit : ∀ Q : Outcome → eh → Prop, Q (.returned none) hB → ew_T g kX13_init 1 [.ref (h2.2.1 + 1)] hB Q := by
      intro Q hq
      refine ew_enter (by decide +kernel) (ew_a1 rfl ew_az) (Nat.le_of_ble_eq_true rfl) ?_
      refine ew_aload_n (pc := 0) dX13_init_0 rfl ?_
      refine ew_obj (pc := 1) (ew_q q2064) (ew_q q177) (ew_q q178) (ew_rm (Nat.le_of_ble_eq_true rfl)) dX13_init_1 ?_
      refine ew_vret (pc := 4) rfl dX13_init_4 ?_
      exact hq
    rw [hB9] at cinit ninit
    refine ew_new (pc := 124) nX1_304 dX1_best_124 ?_
    refine ew_dup (pc := 127) dX1_best_127 rfl ?_
    refine ew_new (pc := 128) nX1_306 dX1_best_128 ?_
    refine ew_dup (pc := 131) dX1_best_131 rfl ?_
    refine ew_cI0 (d' := 1) (pc := 132) iX1_308 dX1_best_132 (by decide) (ew_rm (Nat.le_of_ble_eq_true rfl)) ?_
    refine ninit _ ?_
    refine ew_Kv ?_
    refine ew_cI1 (d' := 1) (pc := 135) iX1_309 dX1_best_135 (by decide) (ew_rm (Nat.le_of_ble_eq_true rfl)) ?_
    refine cinit _ ?_
    rw [← hB9]
    refine ew_Kv ?_
    first | refine ew_astore_n (pc := 138) dX1_best_138 rfl (by decide) (p1_2 rfl) ?_ | refine ew_astore_nq (pc := 138) dX1_best_138 rfl (by decide) (p1_2 rfl) ?_ | refine ew_astore_nN (pc := 138) dX1_best_138 rfl (by decide) (p1_2 rfl) ?_
    refine ew_aload_n (pc := 139) dX1_best_139 rfl ?_
    first | refine ew_aload_n (pc := 140) dX1_best_140 rfl ?_ | refine ew_aload_nq (pc := 140) dX1_best_140 rfl ?_ | refine ew_aload_nN (pc := 140) dX1_best_140 rfl ?_
    refine ew_cV1 (d' := 12) (pc := 141) vX1_312 (rd_of ch.2) dX1_best_141 (by decide) (ew_rm (Nat.le_of_ble_eq_true rfl)) ?_
    refine t_offerAll hg (by omega) ch M3 (fun h4 c4 k4 kx => ?_)
    rw [← hbe] at c4
    have k5 : Ke [] 2 2 h2 h4 := kC.t k4 (fun b h9 => absurd h9 (nm b)) (fun b h9 h8 => by rw [List.mem_singleton.mp h9] at h8; exact absurd h8 (Nat.lt_irrefl _)) (Nat.le_refl _) (Nat.le_refl _)
    have hQ : CQ g a ws N m pe ep h h4 := ⟨_, _, _, C2.ke k5 hg ho2, B.2.2.1.t k5 (fun b h9 _ => by
      rw [List.mem_cons, List.mem_singleton] at h9
      rcases h9 with e | e <;> rw [e] <;> simp) (fun b h9 => absurd h9 (nm b)) (by omega) (by omega)⟩
    refine ew_Kv ?_
    exact fin2 h4 _ _ _ _ _ c4 hQ
  have loop : ∀ f, ¬ cSb N = true → ∀ q c h2 L E xs x3 x4, c + q = 2 * nW N → BeI g h h2 a ws N m pe ep f ρ L E xs (beL N c) → ew_G g kX1_best 19 19 [.ref (a 0), .ref L, .int (nI c), x3, x4] [] h2 Q := by
    intro f hs q
    induction q with
    | zero =>
      intro c h2 L E xs x3 x4 hc B
      have e9 : c = 2 * nW N := by omega
      rw [e9] at B ⊢
      obtain ⟨ft2, C2⟩ := B.1
      obtain ⟨mc, cap, fl, hL, -⟩ := C2.n.l
      refine ew_iload_n (pc := 19) dX1_best_19 rfl ?_
      refine ew_iconst (pc := 20) (v := 2) dX1_best_20 rfl ?_
      refine ew_aload_n (pc := 21) dX1_best_21 rfl ?_
      refine ew_getf (pc := 22) fX1_84 (rd_of C2.o) rfl dX1_best_22 ?_
      refine ew_getf (pc := 25) fX1_117 (rd_of C2.n.o) rfl dX1_best_25 ?_
      refine ew_cF0 (d' := 0) (pc := 28) tX1_121_19 (rd_of hL) dX1_best_28 (by decide) (ew_rm (Nat.le_of_ble_eq_true rfl)) ?_
      refine t_alSize C2.n.l ?_
      rw [C2.n.len]
      refine ew_Kr ?_
      refine ew_imul (pc := 33) dX1_best_33 ?_
      rw [show (2 : Int32) * nI (nW N) = nI (2 * nW N) from nI_mul 2 _]
      refine ew_icmp_ge (pc := 34) (tgt := 124) dX1_best_34 (by decide) (fun c34 => ?_) (fun c34 => absurd (nI_le (Nat.le_refl _) (by omega)) c34)
      exact fin f h2 L E xs _ _ _ hs B
    | succ q ih =>
      intro c h2 L E xs x3 x4 hc B
      obtain ⟨ft2, C2⟩ := B.1
      obtain ⟨mc, cap, fl, hL, -⟩ := C2.n.l
      have hcw : c / 2 < nW N := by omega
      obtain ⟨x, hx, hxw⟩ := C2.n.at hcw
      have d2 : nI c / 2 = nI (c / 2) := nI_div (b := 2) (by omega) (by decide) (by decide)
      have r2 : nI c - nI c / 2 * 2 = nI (c % 2) := nI_rem (b := 2) (by omega) (by decide) (by decide)
      have hlen := beL_len N c
      refine ew_ok (fun ho2 => ?_)
      have s86 : ∀ h3 ft3, CV g h3 a ws N m pe ep f ft3 ρ → Ke [a 8] 0 0 h2 h3 → h3.1 x = some (wN N (c / 2)) → ew_G g kX1_best 19 86 [.ref (a 0), .ref L, .int (nI c), .ref x, x4] [.int (beU N c)] h3 Q := by
        intro h3 ft3 C3 k3 hx3
        refine ew_ok (fun ho3 => ?_)
        have hb8 := C2.t.2.1
        have M3 : MdL g h3 L E xs (beL N c) := B.2.1.keK k3 hg ho2 (fun fs h9 => by rw [rd_of hb8] at h9; cases h9) (fun n f h9 => by rw [rd_of hb8] at h9; cases h9) (fun fs h9 => by rw [rd_of hb8] at h9; cases h9)
        obtain ⟨mcL, hLL⟩ := M3.o
        have hLlt := h_l ho3 hLL
        have hxl := h_l ho3 hx3
        have k4 : Ke [] 1 3 h3 (eh_set (eh_new h3 (mdO (0, 0, 0)) 3) h3.2.1 (mdO (nI c, beU N c, beU N c * N (2 + 6 * (c / 2) + 4)))) := Ke.new.t Ke.set (fun b h9 => absurd h9 (nm b)) (fun b h9 h8 => by rw [List.mem_singleton.mp h9] at h8; exact absurd h8 (Nat.lt_irrefl _)) (Nat.le_refl _) (Nat.le_refl _)
        have M4 : MdL g (eh_set (eh_new h3 (mdO (0, 0, 0)) 3) h3.2.1 (mdO (nI c, beU N c, beU N c * N (2 + 6 * (c / 2) + 4)))) L E xs (beL N c) := ⟨M3.1.ke k4 hg ho3 (nm _) (nm _), M3.2.1, fun i z w h1 h2 => k4.h ho3 (M3.2.2 i z w h1 h2) (nm _)⟩
        have ho4 : eh_ok g (eh_set (eh_new h3 (mdO (0, 0, 0)) 3) h3.2.1 (mdO (nI c, beU N c, beU N c * N (2 + 6 * (c / 2) + 4)))) := (ho3.new).set (ne_1 _ _ _)
        refine ew_istore (pc := 86) dX1_best_86 (by decide) (p1_4 rfl) ?_
        refine ew_iload (pc := 88) dX1_best_88 rfl ?_
        refine ew_iconst (pc := 90) (v := -1) dX1_best_90 rfl ?_
        refine ew_icmp_eq (pc := 91) (tgt := 118) dX1_best_91 (by decide) (fun c91 => ?_) (fun c91 => ?_)
        · refine ew_iinc (pc := 118) dX1_best_118 rfl (nI_inc c) (by decide) (p1_2 rfl) ?_
          refine ew_goto (pc := 121) (tgt := 19) dX1_best_121 (by decide) ?_
          first
          | have e1 : beL N (c + 1) = beL N c := by rw [beL, if_pos c91, List.append_nil]
            refine ih (c + 1) h3 L E xs _ _ (by omega) ?_
            rw [e1]
            refine ⟨⟨_, C3⟩, M3, B.2.2.1.t k3 (fun b h9 _ => h9) (fun b h9 _ => ?_) (by omega) (by omega), B.2.2.2⟩
            rw [List.mem_singleton.mp h9]
            exact List.mem_cons_of_mem _ (List.mem_singleton.mpr rfl)
          | have e1 : beL N (c + 1) = beL N c ++ [(nI c, beU N c, beU N c * N (2 + 6 * (c / 2) + 4))] := by rw [beL, if_neg c91]
            refine ih (c + 1) h5 L E5 (xs ++ [h3.2.1]) _ _ (by omega) ?_
            rw [e1]
            exact B.add hg ho C ho4 ho5 (by omega) k3 ho3 C3 k4 q1 q2 q3
        · first | refine ew_aload_n (pc := 94) dX1_best_94 rfl ?_ | refine ew_aload_nq (pc := 94) dX1_best_94 rfl ?_ | refine ew_aload_nN (pc := 94) dX1_best_94 rfl ?_
          refine ew_new (pc := 95) nX1_292 dX1_best_95 ?_
          refine ew_dup (pc := 98) dX1_best_98 rfl ?_
          refine ew_iload_n (pc := 99) dX1_best_99 rfl ?_
          refine ew_iload (pc := 100) dX1_best_100 rfl ?_
          refine ew_iload (pc := 102) dX1_best_102 rfl ?_
          refine ew_aload_n (pc := 104) dX1_best_104 rfl ?_
          refine ew_getf (pc := 105) fX1_294 (rd_nn (rd_of hx3) (by omega)) rfl dX1_best_105 ?_
          refine ew_imul (pc := 108) dX1_best_108 ?_
          refine ew_cI3 (d' := 1) (pc := 109) iX1_297 dX1_best_109 (by decide) (ew_rm (Nat.le_of_ble_eq_true rfl)) ?_
          refine t_mdInit (ne_1 _ _ _) ?_
          refine ew_Kv ?_
          refine ew_cF1 (d' := 18) (pc := 112) tX1_300_19 (rd_of (sn_1 (nn_1 hLL (by omega)) (by omega))) dX1_best_112 (by decide) (ew_rm (Nat.le_of_ble_eq_true rfl)) ?_
          refine t_mdAdd hg hM M4 (se_1 _ _ _) (by omega) (fun h5 E5 q1 q2 q3 => ?_)
          refine ew_Kr ?_
          refine ew_ok (fun ho5 => ?_)
          refine ew_pop (pc := 117) dX1_best_117 rfl ?_
          refine ew_iinc (pc := 118) dX1_best_118 rfl (nI_inc c) (by decide) (p1_2 rfl) ?_
          refine ew_goto (pc := 121) (tgt := 19) dX1_best_121 (by decide) ?_
          first
          | have e1 : beL N (c + 1) = beL N c := by rw [beL, if_pos c91, List.append_nil]
            refine ih (c + 1) h3 L E xs _ _ (by omega) ?_
            rw [e1]
            refine ⟨⟨_, C3⟩, M3, B.2.2.1.t k3 (fun b h9 _ => h9) (fun b h9 _ => ?_) (by omega) (by omega), B.2.2.2⟩
            rw [List.mem_singleton.mp h9]
            exact List.mem_cons_of_mem _ (List.mem_singleton.mpr rfl)
          | have e1 : beL N (c + 1) = beL N c ++ [(nI c, beU N c, beU N c * N (2 + 6 * (c / 2) + 4))] := by rw [beL, if_neg c91]
            refine ih (c + 1) h5 L E5 (xs ++ [h3.2.1]) _ _ (by omega) ?_
            rw [e1]
            exact B.add hg ho C ho4 ho5 (by omega) k3 ho3 C3 k4 q1 q2 q3
      refine ew_iload_n (pc := 19) dX1_best_19 rfl ?_
      refine ew_iconst (pc := 20) (v := 2) dX1_best_20 rfl ?_
      refine ew_aload_n (pc := 21) dX1_best_21 rfl ?_
      refine ew_getf (pc := 22) fX1_84 (rd_of C2.o) rfl dX1_best_22 ?_
      refine ew_getf (pc := 25) fX1_117 (rd_of C2.n.o) rfl dX1_best_25 ?_
      refine ew_cF0 (d' := 0) (pc := 28) tX1_121_19 (rd_of hL) dX1_best_28 (by decide) (ew_rm (Nat.le_of_ble_eq_true rfl)) ?_
      refine t_alSize C2.n.l ?_
      rw [C2.n.len]
      refine ew_Kr ?_
      refine ew_imul (pc := 33) dX1_best_33 ?_
      rw [show (2 : Int32) * nI (nW N) = nI (2 * nW N) from nI_mul 2 _]
      refine ew_icmp_ge (pc := 34) (tgt := 124) dX1_best_34 (by decide) (fun c34 => absurd c34 (nI_ge (by omega) (by omega))) (fun c34 => ?_)
      refine ew_aload_n (pc := 37) dX1_best_37 rfl ?_
      refine ew_getf (pc := 38) fX1_84 (rd_of C2.o) rfl dX1_best_38 ?_
      refine ew_getf (pc := 41) fX1_117 (rd_of C2.n.o) rfl dX1_best_41 ?_
      refine ew_iload_n (pc := 44) dX1_best_44 rfl ?_
      refine ew_iconst (pc := 45) (v := 2) dX1_best_45 rfl ?_
      refine ew_idiv (pc := 46) dX1_best_46 (by decide) ?_
      rw [d2]
      refine ew_cF1 (d' := 2) (pc := 47) tX1_126_19 (rd_of hL) dX1_best_47 (by decide) (ew_rm (Nat.le_of_ble_eq_true rfl)) ?_
      refine t_alGet C2.n.l hx ?_
      refine ew_Kr ?_
      refine ew_cast (pc := 52) rfl (rd_of hxw) (ew_q q1622) (Or.inl rfl) dX1_best_52 ?_
      first | refine ew_astore_n (pc := 55) dX1_best_55 rfl (by decide) (p1_3 rfl) ?_ | refine ew_astore_nq (pc := 55) dX1_best_55 rfl (by decide) (p1_3 rfl) ?_ | refine ew_astore_nN (pc := 55) dX1_best_55 rfl (by decide) (p1_3 rfl) ?_
      refine ew_aload_n (pc := 56) dX1_best_56 rfl ?_
      refine ew_cV0 (d' := 0) (pc := 57) vX1_289 (rd_of hxw) dX1_best_57 (by decide) (ew_rm (Nat.le_of_ble_eq_true rfl)) ?_
      refine t_wSoft (rd_of hxw) ?_
      refine ew_Kr ?_
      refine ew_if_eq (pc := 60) (tgt := 85) dX1_best_60 (by decide) (fun c60 => ?_) (fun c60 => ?_)
      · refine ew_iconst (pc := 85) (v := -1) dX1_best_85 rfl ?_
        first
        | have e1 : beU N c = unC N (c / 2) 1 := by rw [beU, if_pos (bI_n.mp c60), if_pos ((nI_eq (b := 1) (by omega) (by decide)).mp c71)]
          have h8 := s86 h3 f3 C3 k3 hx3
          rw [e1] at h8
          exact h8
        | have e1 : beU N c = unC N (c / 2) 0 := by rw [beU, if_pos (bI_n.mp c60), if_neg (fun h9 => c71 (by rw [h9]; decide))]
          have h8 := s86 h3 f3 C3 k3 hx3
          rw [e1] at h8
          exact h8
        | have e1 : beU N c = -1 := by rw [beU, if_neg (bI_0.mp c60)]
          have h8 := s86 h2 ft2 C2 (Ke.r _ _) hxw
          rw [e1] at h8
          exact h8
      · refine ew_aload_n (pc := 63) dX1_best_63 rfl ?_
        refine ew_iload_n (pc := 64) dX1_best_64 rfl ?_
        refine ew_iconst (pc := 65) (v := 2) dX1_best_65 rfl ?_
        refine ew_idiv (pc := 66) dX1_best_66 (by decide) ?_
        rw [d2]
        refine ew_iload_n (pc := 67) dX1_best_67 rfl ?_
        refine ew_iconst (pc := 68) (v := 2) dX1_best_68 rfl ?_
        refine ew_irem (pc := 69) dX1_best_69 (by decide) ?_
        rw [r2]
        refine ew_iconst (pc := 70) (v := 1) dX1_best_70 rfl ?_
        refine ew_icmp_ne (pc := 71) (tgt := 78) dX1_best_71 (by decide) (fun c71 => ?_) (fun c71 => ?_)
        · refine ew_iconst (pc := 78) (v := 0) dX1_best_78 rfl ?_
          refine ew_cV2 (d' := 4) (pc := 79) vX1_284 (rd_of C2.o) dX1_best_79 (by decide) (ew_rm (Nat.le_of_ble_eq_true rfl)) ?_
          refine t_units1 C2 hcw (fun h3 f3 C3 k3 => ?_)
          have hx3 := C3.n.w (c / 2) x hx
          refine ew_Kr ?_
          refine ew_goto (pc := 82) (tgt := 86) dX1_best_82 (by decide) ?_
          first
          | have e1 : beU N c = unC N (c / 2) 1 := by rw [beU, if_pos (bI_n.mp c60), if_pos ((nI_eq (b := 1) (by omega) (by decide)).mp c71)]
            have h8 := s86 h3 f3 C3 k3 hx3
            rw [e1] at h8
            exact h8
          | have e1 : beU N c = unC N (c / 2) 0 := by rw [beU, if_pos (bI_n.mp c60), if_neg (fun h9 => c71 (by rw [h9]; decide))]
            have h8 := s86 h3 f3 C3 k3 hx3
            rw [e1] at h8
            exact h8
          | have e1 : beU N c = -1 := by rw [beU, if_neg (bI_0.mp c60)]
            have h8 := s86 h2 ft2 C2 (Ke.r _ _) hxw
            rw [e1] at h8
            exact h8
        · refine ew_iconst (pc := 74) (v := 1) dX1_best_74 rfl ?_
          refine ew_goto (pc := 75) (tgt := 79) dX1_best_75 (by decide) ?_
          refine ew_cV2 (d' := 4) (pc := 79) vX1_284 (rd_of C2.o) dX1_best_79 (by decide) (ew_rm (Nat.le_of_ble_eq_true rfl)) ?_
          refine t_units1 C2 hcw (fun h3 f3 C3 k3 => ?_)
          have hx3 := C3.n.w (c / 2) x hx
          refine ew_Kr ?_
          refine ew_goto (pc := 82) (tgt := 86) dX1_best_82 (by decide) ?_
          first
          | have e1 : beU N c = unC N (c / 2) 1 := by rw [beU, if_pos (bI_n.mp c60), if_pos ((nI_eq (b := 1) (by omega) (by decide)).mp c71)]
            have h8 := s86 h3 f3 C3 k3 hx3
            rw [e1] at h8
            exact h8
          | have e1 : beU N c = unC N (c / 2) 0 := by rw [beU, if_pos (bI_n.mp c60), if_neg (fun h9 => c71 (by rw [h9]; decide))]
            have h8 := s86 h3 f3 C3 k3 hx3
            rw [e1] at h8
            exact h8
          | have e1 : beU N c = -1 := by rw [beU, if_neg (bI_0.mp c60)]
            have h8 := s86 h2 ft2 C2 (Ke.r _ _) hxw
            rw [e1] at h8
            exact h8
  refine ew_new (pc := 0) nX1_32 dX1_best_0 ?_
  refine ew_dup (pc := 3) dX1_best_3 rfl ?_
  refine ew_cI0 (d' := 3) (pc := 4) iX1_288 dX1_best_4 (by decide) (ew_rm (Nat.le_of_ble_eq_true rfl)) ?_
  refine t_alInit hD (ne_1 _ _ _) (fun h1 E q1 q2 q3 => ?_)
  refine ew_Kv ?_
  refine ew_ok (fun ho1 => ?_)
  have k1 : Ke [] 1 3 h h1 := Ke.new.t q3 (fun b h9 => absurd h9 (nm b)) (fun b h9 h8 => by rw [List.mem_singleton.mp h9] at h8; exact absurd h8 (Nat.lt_irrefl _)) (Nat.le_refl _) (Nat.le_refl _)
  have C1 := C.ke k1 hg ho
  first | refine ew_astore_n (pc := 7) dX1_best_7 rfl (by decide) (p1_1 rfl) ?_ | refine ew_astore_nq (pc := 7) dX1_best_7 rfl (by decide) (p1_1 rfl) ?_ | refine ew_astore_nN (pc := 7) dX1_best_7 rfl (by decide) (p1_1 rfl) ?_
  refine ew_aload_n (pc := 8) dX1_best_8 rfl ?_
  refine ew_cV0 (d' := 4) (pc := 9) vX1_110 (rd_of C1.o) dX1_best_9 (by decide) (ew_rm (Nat.le_of_ble_eq_true rfl)) ?_
  refine t_soundNow C1 (fun f hf y hy => ?_)
  have C2 := C1.setB f
  refine ew_Kr ?_
  refine ew_if_eq (pc := 12) (tgt := 17) dX1_best_12 (by decide) (fun c12 => ?_) (fun c12 => ?_)
  · refine ew_iconst (pc := 17) (v := 0) dX1_best_17 rfl ?_
    refine ew_istore_n (pc := 18) dX1_best_18 rfl (by decide) (p1_2 rfl) ?_
    have hs : ¬ cSb N = true := fun h9 => hy.elim (fun h8 => absurd c12 (by rw [h8.1]; decide)) (fun h8 => h8.2 (cSb_iff.mp h9))
    refine loop f hs (2 * nW N) 0 _ _ E [] _ _ (by omega) ⟨⟨_, C2⟩, ⟨q1.setI C1.b.2.1, rfl, fun i x v h9 => by cases h9⟩, k1.t Ke.set (fun b h9 => absurd h9 (nm b)) (fun b h9 _ => by rw [List.mem_singleton.mp h9]; exact List.mem_cons_self) (by rw [beL]; decide) (by rw [beL]; decide), Nat.le_refl _, Or.inl q2⟩
  · refine ew_null (pc := 15) dX1_best_15 ?_
    refine ew_aret (pc := 16) rfl (Or.inl ⟨_, rfl⟩) (Or.inl rfl) dX1_best_16 ?_
    have hs : cSb N = true := hy.elim (fun h8 => cSb_iff.mpr h8.2) (fun h8 => absurd h8.1 c12)
    refine hq _ _ ⟨_, _, _, C2, k1.t keB (fun b h9 => absurd h9 (nm b)) (fun b h9 _ => h9) (by decide) (by decide)⟩ ?_
    rw [beC, if_pos hs]
    rfl
end
