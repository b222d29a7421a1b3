/-! EW: the steps of a net, as a list of objects -/
set_option maxRecDepth 100000
/-- a step as an object -/
def eO (e : ed) : ac := ob 9 [.int e.2.2.2, .int (nI e.1), .int (nI e.2.1), .int e.2.2.1]
theorem eO_mk {a b : Nat} {s c a' b' : Int32} (ha : a' = nI a) (hb : b' = nI b) : ob 9 [.int c, .int a', .int b', .int s] = eO (a, b, s, c) := by
  subst ha hb
  rfl
theorem t_stInit {g : eg} {h : eh} {x : Nat} {c a b s : Int32} {Q : Outcome → eh → Prop} (h1 : h.1 x = some (ob 9 [.int 0, .int 0, .int 0, .int 0])) (hq : Q (.returned none) (eh_set h x (ob 9 [.int c, .int a, .int b, .int s]))) : ew_T g kX10_init 1 [.ref x, .int c, .int a, .int b, .int s] h Q := by
  refine ew_enter (by decide +kernel) (ew_a1 rfl (ew_a1 rfl (ew_a1 rfl (ew_a1 rfl (ew_a1 rfl ew_az))))) (Nat.le_of_ble_eq_true rfl) ?_
  refine ew_aload_n (pc := 0) dX10_init_0 rfl ?_
  refine ew_obj (pc := 1) (ew_q q1745) (ew_q q177) (ew_q q178) (ew_rm (Nat.le_of_ble_eq_true rfl)) dX10_init_1 ?_
  refine ew_aload_n (pc := 4) dX10_init_4 rfl ?_
  refine ew_iload_n (pc := 5) dX10_init_5 rfl ?_
  refine ew_putf (pc := 6) pX10_7 h1 st_0 (Nat.le_of_ble_eq_true rfl) rfl rfl (fun _ => rfl) dX10_init_6 ?_
  have j1 := se_1 h x (ob 9 [.int c, .int 0, .int 0, .int 0])
  refine ew_aload_n (pc := 9) dX10_init_9 rfl ?_
  refine ew_iload_n (pc := 10) dX10_init_10 rfl ?_
  refine ew_putf (pc := 11) pX10_13 j1 st_1 (Nat.le_of_ble_eq_true rfl) rfl rfl (fun _ => rfl) dX10_init_11 ?_
  rw [ew_ss]
  have j2 := se_1 h x (ob 9 [.int c, .int a, .int 0, .int 0])
  refine ew_aload_n (pc := 14) dX10_init_14 rfl ?_
  refine ew_iload_n (pc := 15) dX10_init_15 rfl ?_
  refine ew_putf (pc := 16) pX10_16 j2 st_2 (Nat.le_of_ble_eq_true rfl) rfl rfl (fun _ => rfl) dX10_init_16 ?_
  rw [ew_ss]
  have j3 := se_1 h x (ob 9 [.int c, .int a, .int b, .int 0])
  refine ew_aload_n (pc := 19) dX10_init_19 rfl ?_
  refine ew_iload (pc := 20) dX10_init_20 rfl ?_
  refine ew_putf (pc := 22) pX10_19 j3 st_3 (Nat.le_of_ble_eq_true rfl) rfl rfl (fun _ => rfl) dX10_init_22 ?_
  rw [ew_ss]
  refine ew_vret (pc := 25) rfl dX10_init_25 ?_
  exact hq
/-- a list of steps -/
def StL (g : eg) (h : eh) (L E : Nat) (xs : List Nat) (es : List ed) : Prop := AL g h L E xs ∧ xs.length = es.length ∧ ∀ (i : Nat) (x : Nat) (e : ed), xs[i]? = some x → es[i]? = some e → h.1 x = some (eO e)
theorem StL.ke {g : eg} {A : List Nat} {c s L E : Nat} {xs : List Nat} {es : List ed} {h h' : eh} (S : StL g h L E xs es) (k : Ke A c s h h') (hg : gOC g) (ho : eh_ok g h) (hL : L ∉ A) (hE : E ∉ A) (hx : ∀ x, x ∈ xs → x ∉ A) : StL g h' L E xs es := ⟨S.1.ke k hg ho hL hE, S.2.1, fun i x e h1 h2 => k.h ho (S.2.2 i x e h1 h2) (hx x (List.mem_of_getElem? h1))⟩
theorem AL.setI {g : eg} {h : eh} {L E A n m : Nat} {ws : List Nat} {f f2 : Nat → Int32} (a : AL g h L E ws) (hA : h.1 A = some (aI n f)) : AL g (eh_set h A (aI m f2)) L E ws := by
  obtain ⟨mc, cap, fE, l1, l2, l3, l4⟩ := a
  have nE := rd_ar l2 hA
  exact ⟨mc, cap, fE, sn_1 l1 (rd_ob (rd_of (g := g) l1) hA), rd_sn l2 nE, fun h9 => sn_1 (l3 h9) nE, l4⟩
theorem StL.setI {g : eg} {h : eh} {L E A n m : Nat} {xs : List Nat} {es : List ed} {f f2 : Nat → Int32} (S : StL g h L E xs es) (hA : h.1 A = some (aI n f)) : StL g (eh_set h A (aI m f2)) L E xs es := ⟨S.1.setI hA, S.2.1, fun i x e h1 h2 => sn_1 (S.2.2 i x e h1 h2) (rd_ob (rd_of (g := g) (S.2.2 i x e h1 h2)) hA)⟩
/-- a list of steps that is being made -/
def StM (g : eg) (h0 h : eh) (L E : Nat) (xs : List Nat) (es : List ed) : Prop := StL g h L E xs es ∧ Ke [] (2 + 2 * es.length) (70 + 200 * es.length) h0 h ∧ h0.2.1 ≤ L ∧ h0.2.1 ≤ E
theorem eO_oO {g : eg} {h : eh} {x : Nat} {e : ed} (h1 : h.1 x = some (eO e)) : oO g h x := ⟨9, _, _, rd_of h1, rfl, Or.inr (ew_qt q3375 rfl)⟩
theorem t_smAdd {g : eg} {h0 h : eh} {L E : Nat} {xs : List Nat} {es : List ed} {e : ed} {z o : ac} {nz : Nat} {Q : Outcome → eh → Prop} (hnz : nz ≤ 4) (he : o = eO e) (hg : gOC g) (hM : gOM g) (S : StM g h0 h L E xs es) (ho0 : eh_ok g h) (hl : es.length < 80)
    (hq : ∀ h' E', StM g h0 h' L E' (xs ++ [h.2.1]) (es ++ [e]) → Q (.returned (some (.int 1))) h') : ew_T g kJ14_add 18 [.ref L, .ref h.2.1] (eh_set (eh_new h z nz) h.2.1 o) Q := by
  subst he
  obtain ⟨⟨sA, sl, sx⟩, sK, sL, sE⟩ := S
  refine ew_okT (fun ho => ?_)
  have sA2 := sA
  obtain ⟨mc, cap, f, a1, a2, -⟩ := sA2
  have hLl := h_l ho0 a1
  have hEl := rd_l hg ho0 a2
  have k1 : Ke [] 1 4 h (eh_set (eh_new h z nz) h.2.1 (eO e)) := Ke.new.t Ke.set (fun a h9 => absurd h9 (List.not_mem_nil)) (fun a h9 h8 => by rw [List.mem_singleton.mp h9] at h8; omega) (by decide) (by omega)
  have hx := se_1 (eh_new h z nz) h.2.1 (eO e)
  have nm : ∀ a : Nat, a ∉ ([] : List Nat) := fun a => List.not_mem_nil
  refine t_alAdd hg hM (sA.ke k1 hg ho0 (nm _) (nm _)) (fun y hy => ?_) (eO_oO hx) (by omega) (by omega) (fun h' E' q1 q2 q3 => hq h' E' ⟨⟨q1, ?_, ?_⟩, ?_, sL, ?_⟩)
  · obtain ⟨i, hi⟩ := List.getElem?_of_mem hy
    have hlt : i < es.length := by have := (List.getElem?_eq_some_iff.mp hi).1; omega
    exact (eO_oO (sx i y _ hi (List.getElem?_eq_getElem hlt))).ke k1 hg ho0 (nm _)
  · rw [List.length_append, List.length_append, sl]
    rfl
  · have key : ∀ y e', h.1 y = some (eO e') → h'.1 y = some (eO e') := fun y e' h9 => by
      refine q3.h ho (k1.h ho0 h9 (nm _)) ?_
      rw [List.mem_cons, List.mem_singleton, not_or]
      constructor
      · intro h8
        rw [h8, a1] at h9
        cases h9
      · intro h8
        rw [h8] at h9
        rw [rd_of h9] at a2
        cases a2
    intro i y e' h1 h2
    by_cases hi : i < xs.length
    · rw [List.getElem?_append_left hi] at h1
      rw [List.getElem?_append_left (by omega)] at h2
      exact key y e' (sx i y e' h1 h2)
    · have hi2 : i = xs.length := by
        have := (List.getElem?_eq_some_iff.mp h1).1
        rw [List.length_append, List.length_singleton] at this
        omega
      rw [hi2, List.getElem?_append_right (Nat.le_refl _), Nat.sub_self] at h1
      rw [hi2, sl, List.getElem?_append_right (Nat.le_refl _), Nat.sub_self] at h2
      cases h1
      cases h2
      refine q3.h ho hx ?_
      rw [List.mem_cons, List.mem_singleton, not_or]
      exact ⟨by omega, by omega⟩
  · refine (sK.t k1 (A := []) (c := 2 + 2 * es.length + 1) (s := 70 + 200 * es.length + 4) (fun a h9 => absurd h9 (nm a)) (fun a h9 => absurd h9 (nm a)) (Nat.le_refl _) (Nat.le_refl _)).t q3 (fun a h9 => absurd h9 (nm a)) (fun a h9 h8 => ?_) ?_ ?_
    · rw [List.mem_cons, List.mem_singleton] at h9
      rcases h9 with h9 | h9 <;> omega
    · rw [List.length_append, List.length_singleton]; omega
    · rw [List.length_append, List.length_singleton]; omega
  · rcases q2 with q2 | q2
    · omega
    · have := k1.2.1
      have := sK.2.1
      omega
