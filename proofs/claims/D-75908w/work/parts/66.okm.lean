/-! EW: nets stay well made; the parser goes on -/
set_option maxRecDepth 100000
theorem nI_sm {j : Nat} (h : j < 32) : (nI j &&& 31).toBitVec.smod 32 = BitVec.ofNat 32 j := (by decide : ∀ j : Fin 32, (nI j.val &&& 31).toBitVec.smod 32 = BitVec.ofNat 32 j.val) ⟨j, h⟩
/-- a set holds j -/
theorem hasB_bit {x : Int32} {j : Nat} (h : j < 32) : hasB x (nI j) ↔ x.toBitVec.getLsbD j = true := by
  rw [hasB, ← Int32.toBitVec_inj, Int32.toBitVec_and, Int32.toBitVec_shiftRight, nI_sm h]
  have h1 : (BitVec.ofNat 32 j).toNat = j := by
    rw [BitVec.toNat_ofNat]
    exact Nat.mod_eq_of_lt (by omega)
  have hb : ((x.toBitVec.sshiftRight' (BitVec.ofNat 32 j)) &&& (1 : Int32).toBitVec).getLsbD 0 = x.toBitVec.getLsbD j := by
    rw [BitVec.getLsbD_and, BitVec.sshiftRight', h1, BitVec.getLsbD_sshiftRight]
    simp [h]
  constructor
  · intro h9
    rw [← hb, h9]
    decide
  · intro h9
    rw [h9] at hb
    apply BitVec.eq_of_getLsbD_eq
    intro i hi
    by_cases e : i = 0
    · subst e
      rw [hb]
      decide
    · have e1 : (1 : Int32).toBitVec.getLsbD i = false := by
        show (1#32).getLsbD i = false
        rw [BitVec.getLsbD_one]
        simp [e]
      rw [BitVec.getLsbD_and, e1, Bool.and_false]
theorem hasB_or {x y : Int32} {j : Nat} (h : j < 32) : hasB (x ||| y) (nI j) ↔ hasB x (nI j) ∨ hasB y (nI j) := by
  rw [hasB_bit h, hasB_bit h, hasB_bit h, Int32.toBitVec_or, BitVec.getLsbD_or, Bool.or_eq_true]
/-- the set that holds i alone -/
theorem hasB_shl {i j : Nat} (hi : i < 32) (hj : j < 32) : hasB (shl1 (nI i)) (nI j) ↔ i = j := by
  exact (by decide : ∀ i j : Fin 32, hasB (shl1 (nI i.val)) (nI j.val) ↔ i.val = j.val) ⟨i, hi⟩ ⟨j, hj⟩
def okC (m k : Nat) (x : Int32) : Prop := (k = 0 → ∃ a, a < m ∧ x = nI a) ∧ (k = 1 → ∃ a, a < m ∧ x = nI a) ∧ (k = 2 → fR 0 999 x) ∧ (k = 3 → fR (-1) 999 x) ∧ (k = 4 → fR 0 99 x) ∧ (k = 5 → x = 0 ∨ x = 1)
/-- what a number of a net of m events and w windows meets, by its place -/
def okI (m w j : Nat) (x : Int32) : Prop := (∀ i k, i < w → k < 6 → j = 2 + 6 * i + k → okC m k x) ∧ (∀ e, e < m → j = 146 + e → fR (-1) 999 x ∧ (e = 0 → x = 0)) ∧ (∀ e, e < m → j = 156 + e → fR 0 99 x) ∧ (∀ e, e < m → j = 166 + e → fR (-1) 999 x)
def okM (m w : Nat) (N : Nat → Int32) : Prop := 1 ≤ m ∧ m ≤ 10 ∧ w ≤ 24 ∧ N 0 = nI m ∧ N 1 = nI w ∧ ∀ j, 2 ≤ j → j < 176 → okI m w j (N j)
theorem okM.e {m w : Nat} {N : Nat → Int32} (h : okM m w N) : nE N = m := by
  have h1 := h.2.1
  rw [nE, h.2.2.2.1]
  exact nI_clamp (by omega)
theorem okM.v {m w : Nat} {N : Nat → Int32} (h : okM m w N) : nW N = w := by
  have h1 := h.2.2.1
  rw [nW, h.2.2.2.2.1]
  exact nI_clamp (by omega)
theorem okM.c {m w : Nat} {N : Nat → Int32} (h : okM m w N) {i k : Nat} (hi : i < w) (hk : k < 6) : okC m k (N (2 + 6 * i + k)) := by
  have h1 := h.2.2.1
  exact (h.2.2.2.2.2 (2 + 6 * i + k) (by omega) (by omega)).1 i k hi hk rfl
theorem nE_nI {m : Nat} (hm : m ≤ 10) {x : Int32} (h : x = nI m) : x = nI x.toNatClampNeg ∧ x.toNatClampNeg = m := by
  have : x.toNatClampNeg = m := by rw [h]; exact nI_clamp (by omega)
  rw [this]
  exact ⟨h, rfl⟩
theorem okM.n {m w : Nat} {N : Nat → Int32} (h : okM m w N) : okN N := by
  have he := h.e
  have hw := h.v
  have h1 := h.1
  have h2 := h.2.1
  have h3 := h.2.2.1
  have hj := h.2.2.2.2.2
  unfold okN
  rw [he, hw]
  refine ⟨h.2.2.2.1, h1, h2, h.2.2.2.2.1, h3, ?_, ?_, ?_, ?_, ?_, ?_, ?_, ?_, ?_, ?_, ?_, ?_⟩
  · intro i hi
    obtain ⟨a, ha, e⟩ := (h.c (k := 0) hi (by decide)).1 rfl
    exact (nE_nI (by omega) e).1
  · intro i hi
    obtain ⟨a, ha, e⟩ := (h.c (k := 0) hi (by decide)).1 rfl
    have := (nE_nI (by omega) e).2
    rw [fA]
    omega
  · intro i hi
    obtain ⟨a, ha, e⟩ := (h.c (k := 1) hi (by decide)).2.1 rfl
    exact (nE_nI (by omega) e).1
  · intro i hi
    obtain ⟨a, ha, e⟩ := (h.c (k := 1) hi (by decide)).2.1 rfl
    have := (nE_nI (by omega) e).2
    rw [fB]
    omega
  · exact fun i hi => (h.c (k := 2) hi (by decide)).2.2.1 rfl
  · exact fun i hi => (h.c (k := 3) hi (by decide)).2.2.2.1 rfl
  · exact fun i hi => (h.c (k := 4) hi (by decide)).2.2.2.2.1 rfl
  · exact fun i hi => (h.c (k := 5) hi (by decide)).2.2.2.2.2 rfl
  · exact fun e hi => ((hj (146 + e) (by omega) (by omega)).2.1 e hi rfl).1
  · exact ((hj 146 (by omega) (by omega)).2.1 0 (by omega) rfl).2 rfl
  · exact fun e hi => (hj (156 + e) (by omega) (by omega)).2.2.1 e hi rfl
  · exact fun e hi => (hj (166 + e) (by omega) (by omega)).2.2.2 e hi rfl
theorem okN.m {N : Nat → Int32} (ok : okN N) : okM (nE N) (nW N) N := by
  have h2 := ok.e2
  have h3 := ok.w2
  refine ⟨ok.e1, ok.e2, ok.w2, ok.e, ok.w, fun j h4 h5 => ⟨fun i k hi hk e => ?_, fun e he e2 => ?_, fun e he e2 => ?_, fun e he e2 => ?_⟩⟩
  · subst e
    refine ⟨fun e9 => ?_, fun e9 => ?_, fun e9 => ?_, fun e9 => ?_, fun e9 => ?_, fun e9 => ?_⟩ <;> subst e9
    · exact ⟨_, ok.al i hi, ok.a i hi⟩
    · exact ⟨_, ok.bl i hi, ok.b i hi⟩
    · exact ok.lo i hi
    · exact ok.hi i hi
    · exact ok.co i hi
    · exact ok.dr i hi
  · subst e2
    exact ⟨ok.fx e he, fun e9 => by subst e9; exact ok.fx0⟩
  · subst e2; exact ok.dl e he
  · subst e2; exact ok.wi e he
theorem okM.u {m w j : Nat} {N : Nat → Int32} {v : Int32} (h : okM m w N) (hj : 2 ≤ j) (hv : okI m w j v) : okM m w (upd N j v) := by
  refine ⟨h.1, h.2.1, h.2.2.1, ?_, ?_, fun i h1 h2 => ?_⟩
  · rw [upd, if_neg (by omega)]; exact h.2.2.2.1
  · rw [upd, if_neg (by omega)]; exact h.2.2.2.2.1
  · rw [upd]
    split
    · rename_i e; subst e; exact hv
    · exact h.2.2.2.2.2 i h1 h2
theorem okM.x {m w : Nat} {N M : Nat → Int32} (h : okM m w N) (hM : ∀ k, k < 176 → M k = N k) : okM m w M :=
  ⟨h.1, h.2.1, h.2.2.1, (hM 0 (by decide)).trans h.2.2.2.1, (hM 1 (by decide)).trans h.2.2.2.2.1, fun j h1 h2 => by rw [hM j h2]; exact h.2.2.2.2.2 j h1 h2⟩
theorem okC.u {m m2 k : Nat} {x : Int32} (h : okC m k x) (hm : m ≤ m2) : okC m2 k x :=
  ⟨fun e => (h.1 e).elim fun a ha => ⟨a, by omega, ha.2⟩, fun e => (h.2.1 e).elim fun a ha => ⟨a, by omega, ha.2⟩, h.2.2⟩
/-- a new window -/
theorem okM.lay {m w : Nat} {N : Nat → Int32} {a b lo hi co : Int32} (h : okM m w N) (hw : w < 24) (ha : ∃ i, i < m ∧ a = nI i) (hb : ∃ i, i < m ∧ b = nI i) (hlo : fR 0 999 lo) (hhi : fR (-1) 999 hi) (hco : fR 0 99 co) : okM m (w + 1) (layN N a b lo hi co) := by
  have he := h.v
  have h1 := h.2.1
  have hB : ∀ j, j < 2 ∨ 2 + 6 * w + 6 ≤ j ∨ j < 2 + 6 * w → layB N a b lo hi co j = N j := by
    intro j hj
    simp only [layB, he, upd]
    rw [if_neg (by omega), if_neg (by omega), if_neg (by omega), if_neg (by omega), if_neg (by omega), if_neg (by omega)]
  have hC : ∀ k, k < 6 → okC m k (layB N a b lo hi co (2 + 6 * w + k)) := by
    intro k hk
    simp only [layB, he, upd]
    rcases (by omega : k = 0 ∨ k = 1 ∨ k = 2 ∨ k = 3 ∨ k = 4 ∨ k = 5) with rfl | rfl | rfl | rfl | rfl | rfl
    · rw [if_neg (by omega), if_neg (by omega), if_neg (by omega), if_neg (by omega), if_neg (by omega), if_pos rfl]
      exact ⟨fun _ => ha, fun e => absurd e (by decide), fun e => absurd e (by decide), fun e => absurd e (by decide), fun e => absurd e (by decide), fun e => absurd e (by decide)⟩
    · rw [if_neg (by omega), if_neg (by omega), if_neg (by omega), if_neg (by omega), if_pos rfl]
      exact ⟨fun e => absurd e (by decide), fun _ => hb, fun e => absurd e (by decide), fun e => absurd e (by decide), fun e => absurd e (by decide), fun e => absurd e (by decide)⟩
    · rw [if_neg (by omega), if_neg (by omega), if_neg (by omega), if_pos rfl]
      exact ⟨fun e => absurd e (by decide), fun e => absurd e (by decide), fun _ => hlo, fun e => absurd e (by decide), fun e => absurd e (by decide), fun e => absurd e (by decide)⟩
    · rw [if_neg (by omega), if_neg (by omega), if_pos rfl]
      exact ⟨fun e => absurd e (by decide), fun e => absurd e (by decide), fun e => absurd e (by decide), fun _ => hhi, fun e => absurd e (by decide), fun e => absurd e (by decide)⟩
    · rw [if_neg (by omega), if_pos rfl]
      exact ⟨fun e => absurd e (by decide), fun e => absurd e (by decide), fun e => absurd e (by decide), fun e => absurd e (by decide), fun _ => hco, fun e => absurd e (by decide)⟩
    · rw [if_pos rfl]
      exact ⟨fun e => absurd e (by decide), fun e => absurd e (by decide), fun e => absurd e (by decide), fun e => absurd e (by decide), fun e => absurd e (by decide), fun _ => Or.inl rfl⟩
  have h01 : layB N a b lo hi co 1 = nI w := (hB 1 (Or.inl (by decide))).trans h.2.2.2.2.1
  refine ⟨h.1, h1, by omega, ?_, ?_, fun j h2 h3 => ?_⟩
  · show upd (layB N a b lo hi co) 1 (layB N a b lo hi co 1 + 1) 0 = _
    rw [upd, if_neg (by decide), hB 0 (Or.inl (by decide))]
    exact h.2.2.2.1
  · show upd (layB N a b lo hi co) 1 (layB N a b lo hi co 1 + 1) 1 = _
    rw [upd, if_pos rfl, h01]
    exact nI_1 w
  · rw [layN, upd, if_neg (by omega)]
    have hI := h.2.2.2.2.2 j h2 h3
    refine ⟨fun i k hi hk e => ?_, fun e he e2 => ?_, fun e he e2 => ?_, fun e he e2 => ?_⟩
    · by_cases hiw : i = w
      · subst hiw; subst e
        exact hC k hk
      · rw [hB j (by omega)]
        exact hI.1 i k (by omega) hk e
    · rw [hB j (by omega)]; exact hI.2.1 e he e2
    · rw [hB j (by omega)]; exact hI.2.2.1 e he e2
    · rw [hB j (by omega)]; exact hI.2.2.2 e he e2
/-- a new event -/
theorem okM.nam {m w : Nat} {N : Nat → Int32} (h : okM m w N) (hm : m < 10) (hd : fR 0 99 (N (156 + m))) : okM (m + 1) w (naN N m) := by
  have h1 := h.1
  have hw := h.2.2.1
  have hB : ∀ j, 2 ≤ j → naN N m j = if j = 166 + m then -1 else if j = 146 + m then -1 else N j := by
    intro j hj
    rw [naN, upd, if_neg (by omega), upd, upd]
  refine ⟨by omega, by omega, hw, ?_, ?_, fun j h2 h3 => ?_⟩
  · rw [naN, upd, if_pos rfl]
  · rw [naN, upd, if_neg (by decide), upd, if_neg (by omega), upd, if_neg (by omega)]
    exact h.2.2.2.2.1
  · have hI := h.2.2.2.2.2 j h2 h3
    rw [hB j h2]
    refine ⟨fun i k hi hk e => ?_, fun e he e2 => ?_, fun e he e2 => ?_, fun e he e2 => ?_⟩
    · rw [if_neg (by omega), if_neg (by omega)]
      exact (hI.1 i k hi hk e).u (by omega)
    · rw [if_neg (by omega)]
      by_cases e3 : e = m
      · rw [if_pos (by omega)]
        exact ⟨⟨by decide, by decide⟩, fun e4 => by omega⟩
      · rw [if_neg (by omega)]
        exact hI.2.1 e (by omega) e2
    · rw [if_neg (by omega), if_neg (by omega)]
      by_cases e3 : e = m
      · subst e2; subst e3; exact hd
      · exact hI.2.2.1 e (by omega) e2
    · by_cases e3 : e = m
      · rw [if_pos (by omega)]
        exact ⟨by decide, by decide⟩
      · rw [if_neg (by omega), if_neg (by omega)]
        exact hI.2.2.2 e (by omega) e2
/-- a net that is being read -/
def okT (s : pst) : Prop := okM (nE s.1) (nW s.1) s.1 ∧ nW s.1 ≤ 20 ∧ ∀ e, nE s.1 ≤ e → e < 10 → s.1 (156 + e) = 0
/-- the start is told from the first -/
def okB (s : pst) : Prop := hasB s.2.2.1 0 ∧ hasB s.2.2.2.1 0 ∧ hasB s.2.2.2.2.1 0
theorem okT.p {s : pst} (h : okT s) : okP s := ⟨h.1.2.2.2.1, h.1.2.1, h.1.2.2.2.2.1, h.2.1⟩
theorem okT.of {m w : Nat} {s : pst} (h : okM m w s.1) (hw : w ≤ 20) (hd : ∀ e, m ≤ e → e < 10 → s.1 (156 + e) = 0) : okT s := by
  unfold okT
  rw [h.e, h.v]
  exact ⟨h, hw, hd⟩
theorem okT_naP {b : Nat → Int32} {n : Nat} {r : rs} {s : pst} (h : okT s) (hm : aL r = true → nE s.1 < 10) (ha : aL (naP b n (nE s.1) r s).1 = true) : okT (naP b n (nE s.1) r s).2 := by
  rw [naP] at ha ⊢
  split at ha
  · cases ha
  · rename_i x hx
    have hr := (ckR_r (ckR_r hx).1).1
    have hm9 := hm (by rw [hr]; rfl)
    have h2 := h.2.2
    simp only
    have hN := h.1.nam hm9 (by rw [h2 _ (Nat.le_refl _) hm9]; exact ⟨by decide, by decide⟩)
    refine okT.of hN h.2.1 (fun e he1 he2 => ?_)
    have h3 := h.1.2.2.1
    show naN s.1 (nE s.1) (156 + e) = 0
    rw [naN, upd, if_neg (by omega), upd, if_neg (by omega), upd, if_neg (by omega)]
    exact h2 e (by omega) he2
theorem okT_lnE {b : Nat → Int32} {n : Nat} {r : rs} {s : pst} (h : okT s) (ha : aL (lnE b n r s).1 = true) : okT (lnE b n r s).2 := by
  refine okT_naP h (fun h9 => ?_) ha
  have h8 := aL_nx h9
  cases hr : ckR 4 (fun _ => ¬ nE s.1 = 10) r with
  | inl e => rw [hr] at h8; cases h8
  | inr x =>
    have h7 := (ckR_r hr).2
    have h6 := h.1.2.1
    omega
theorem okT_u {s : pst} {j : Nat} {v : Int32} {y : Int32 × Int32 × Int32 × Int32} (h : okT s) (hj : 146 ≤ j) (hv : okI (nE s.1) (nW s.1) j v) (hd : ∀ e, nE s.1 ≤ e → e < 10 → ¬ j = 156 + e) : okT (upd s.1 j v, s.2.1, y) := by
  refine okT.of (s := (upd s.1 j v, s.2.1, y)) (h.1.u (by omega) hv) h.2.1 (fun e h1 h2 => ?_)
  show upd s.1 j v (156 + e) = 0
  rw [upd, if_neg (fun h9 => hd e h1 h2 h9.symm)]
  exact h.2.2 e h1 h2
theorem nu_al {b : Nat → Int32} {n : Nat} {lo hi : Int32} {r : rs} (h : aL (nuR b n lo hi r) = true) : lo ≤ nuV lo hi r ∧ nuV lo hi r ≤ hi := by
  have h1 := aL_nx h
  cases hr : nuK lo hi r with
  | inl e => rw [hr] at h1; cases h1
  | inr x =>
    rw [nuV, hr]
    exact (nuK_r hr).2.2
theorem okT_lnF {b : Nat → Int32} {n : Nat} {r : rs} {s : pst} (h : okT s) (hf : hasB s.2.2.1 0) (ha : aL (lnF b n r s).1 = true) : okT (lnF b n r s).2 := by
  obtain ⟨x, j, -, -, hj, he, ho, -⟩ := ev_al (aL_nx (aL_nu ha))
  have hv := nu_al ha
  have hE := h.1.2.1
  have hW := h.1.2.2.1
  have hj0 : ¬ j = 0 := fun h9 => ho (by rw [h9]; exact hf)
  rw [lnF, he, ix_nI (by omega)]
  refine okT_u h (by omega) ⟨fun i k hi hk e => by omega, fun e h1 h2 => ?_, fun e h1 h2 => by omega, fun e h1 h2 => by omega⟩ (fun e h1 h2 => by omega)
  exact ⟨⟨Int32.le_trans (by decide) hv.1, hv.2⟩, fun e0 => by omega⟩
theorem okT_lnD {b : Nat → Int32} {n : Nat} {r : rs} {s : pst} (h : okT s) (ha : aL (lnD b n r s).1 = true) : okT (lnD b n r s).2 := by
  obtain ⟨x, j, -, -, hj, he, ho, -⟩ := ev_al (aL_nx (aL_nu ha))
  have hv := nu_al ha
  have hE := h.1.2.1
  have hW := h.1.2.2.1
  rw [lnD, he, ix_nI (by omega)]
  exact okT_u h (by omega) ⟨fun i k hi hk e => by omega, fun e h1 h2 => by omega, fun e h1 h2 => hv, fun e h1 h2 => by omega⟩ (fun e h1 h2 => by omega)
theorem okT_lnS {b : Nat → Int32} {n : Nat} {r : rs} {s : pst} (h : okT s) (ha : aL (lnS b n r s).1 = true) : okT (lnS b n r s).2 := by
  obtain ⟨x, j, -, -, hj, he, ho, -⟩ := ev_al (aL_nx (aL_nu ha))
  have hv := nu_al ha
  have hE := h.1.2.1
  have hW := h.1.2.2.1
  rw [lnS, he, ix_nI (by omega)]
  exact okT_u h (by omega) ⟨fun i k hi hk e => by omega, fun e h1 h2 => by omega, fun e h1 h2 => by omega, fun e h1 h2 => ⟨Int32.le_trans (by decide) hv.1, hv.2⟩⟩ (fun e h1 h2 => by omega)
/-- the parts of a window's line, when it is right -/
theorem lnW_al {b : Nat → Int32} {n : Nat} {r : rs} {s : pst} (hE : nE s.1 ≤ 10) (ha : aL (lnW b n r s).1 = true) : ∃ i j lo hi co y, i < nE s.1 ∧ j < nE s.1 ∧ fR 0 999 lo ∧ fR (-1) 999 hi ∧ fR 0 99 co ∧ ¬ nW s.1 = 20 ∧ (lnW b n r s).2 = (layN s.1 (nI i) (nI j) lo hi co, s.2.1, s.2.2.1, s.2.2.2.1, s.2.2.2.2.1, y) := by
  obtain ⟨y1, hy1⟩ : ∃ y, y = lnA b n r s := ⟨_, rfl⟩
  obtain ⟨y2, hy2⟩ : ∃ y, y = lnB b n s y1 := ⟨_, rfl⟩
  obtain ⟨lo, hlo⟩ : ∃ y, y = nuV 0 999 y2.1 := ⟨_, rfl⟩
  obtain ⟨y4, hy4⟩ : ∃ y, y = lnH b n lo (nuR b n 0 999 y2.1) := ⟨_, rfl⟩
  obtain ⟨y5, hy5⟩ : ∃ y, y = lnC b n s.2.2.2.2.2 y4.1 := ⟨_, rfl⟩
  have e : lnW b n r s = (y5.1, layN s.1 y1.2 y2.2 lo y4.2 y5.2.1, s.2.1, s.2.2.1, s.2.2.2.1, s.2.2.2.2.1, y5.2.2) := by
    subst hy5 hy4 hlo hy2 hy1
    rfl
  rw [e] at ha ⊢
  have ha5 : aL y5.1 = true := ha
  have h5 : aL y4.1 = true ∧ fR 0 99 y5.2.1 := by
    rw [hy5, lnC] at ha5 ⊢
    split at ha5
    · rename_i h8
      rw [if_pos h8]
      have := nu_al ha5
      exact ⟨wdR_al h8, Int32.le_trans (by decide) this.1, this.2⟩
    · rename_i h8
      rw [if_neg h8]
      exact ⟨ha5, (by decide : (0 : Int32) ≤ 0), (by decide : (0 : Int32) ≤ 99)⟩
  have h4 : aL (nuR b n 0 999 y2.1) = true ∧ (fR 0 999 lo → fR (-1) 999 y4.2) := by
    have h9 := h5.1
    rw [hy4, lnH] at h9 ⊢
    split at h9
    · rename_i h8
      rw [if_pos h8]
      have := nu_al h9
      exact ⟨aL_nu h9, fun h7 => ⟨Int32.le_trans (by decide) (Int32.le_trans h7.1 this.1), this.2⟩⟩
    · rename_i h8
      rw [if_neg h8]
      exact ⟨h9, fun _ => ⟨(by decide : (-1 : Int32) ≤ -1), (by decide : (-1 : Int32) ≤ 999)⟩⟩
  have hl : fR 0 999 lo := by rw [hlo]; exact nu_al h4.1
  have ha2 : aL y2.1 = true := aL_nu h4.1
  rw [hy2, lnB] at ha2
  obtain ⟨x2, j, hr2, -, hj, hej, -, -⟩ := ev_al (aL_nx ha2)
  have ha1 : aL y1.1 = true := by rw [hr2]; rfl
  rw [hy1, lnA] at ha1
  obtain ⟨x1, i, hr1, -, hi, hei, -, -⟩ := ev_al (aL_nx ha1)
  have ha0 : aL (ckR 4 (fun _ => ¬ nW s.1 = 20) r) = true := aL_nx (by rw [hr1]; rfl)
  have hw : ¬ nW s.1 = 20 := by
    cases hr : ckR 4 (fun _ => ¬ nW s.1 = 20) r with
    | inl e => rw [hr] at ha0; cases ha0
    | inr x => exact (ckR_r hr).2
  refine ⟨i, j, lo, y4.2, y5.2.1, y5.2.2, hi, hj, hl, h4.2 hl, h5.2, hw, ?_⟩
  have e1 : y1.2 = nI i := by rw [hy1, lnA]; exact hei
  have e2 : y2.2 = nI j := by rw [hy2, lnB]; exact hej
  rw [e1, e2]
theorem okT_lnW {b : Nat → Int32} {n : Nat} {r : rs} {s : pst} (h : okT s) (ha : aL (lnW b n r s).1 = true) : okT (lnW b n r s).2 := by
  obtain ⟨i, j, lo, hi, co, y, h1, h2, h3, h4, h5, h6, e⟩ := lnW_al h.1.2.1 ha
  rw [e]
  have hw := h.2.1
  refine okT.of (s := (layN s.1 (nI i) (nI j) lo hi co, s.2.1, s.2.2.1, s.2.2.2.1, s.2.2.2.2.1, y)) (h.1.lay (by omega) ⟨i, h1, rfl⟩ ⟨j, h2, rfl⟩ h3 h4 h5) (by omega) (fun e h7 h8 => ?_)
  show layN s.1 (nI i) (nI j) lo hi co (156 + e) = 0
  simp only [layN, layB, upd]
  rw [if_neg (by omega), if_neg (by omega), if_neg (by omega), if_neg (by omega), if_neg (by omega), if_neg (by omega), if_neg (by omega)]
  exact h.2.2 e h7 h8
theorem okB_or {x y : Int32} (h : hasB x 0) : hasB (x ||| y) 0 := (hasB_or (j := 0) (by decide)).mpr (Or.inl h)
theorem okX_ln {b : Nat → Int32} {n : Nat} {r : rs} {s : pst} (h : okT s) (hb : okB s) (ha : aL (lnX b n r s).1 = true) : okT (lnX b n r s).2 ∧ okB (lnX b n r s).2 := by
  rw [lnX] at ha ⊢
  split at ha
  · rename_i c
    rw [if_pos c]
    refine ⟨okT_lnE h ha, ?_⟩
    rw [lnE, naP]
    split
    · exact hb
    · exact hb
  · rename_i c1
    rw [if_neg c1]
    split at ha
    · rename_i c
      rw [if_pos c]
      exact ⟨okT_lnW h ha, hb⟩
    · rename_i c2
      rw [if_neg c2]
      split at ha
      · rename_i c
        rw [if_pos c]
        exact ⟨okT_lnF h hb.1 ha, okB_or hb.1, hb.2⟩
      · rename_i c3
        rw [if_neg c3]
        split at ha
        · rename_i c
          rw [if_pos c]
          exact ⟨okT_lnD h ha, hb.1, okB_or hb.2.1, hb.2.2⟩
        · rename_i c4
          rw [if_neg c4]
          split at ha
          · rename_i c
            rw [if_pos c]
            exact ⟨okT_lnS h ha, hb.1, hb.2.1, okB_or hb.2.2⟩
          · rename_i c5
            rw [if_neg c5]
            exact ⟨h, hb⟩
/-- where the parser stands, at least -/
def gP (b : Nat → Int32) (n p : Nat) : rs → Prop
  | .inl _ => True
  | .inr x => p ≤ x.2.2.1 ∧ tkO b n x
theorem gP_ck {b : Nat → Int32} {n p : Nat} {c : Int32} {P : tok → Prop} [DecidablePred P] {r : rs} (h : gP b n p r) : gP b n p (ckR c P r) := by
  cases r with
  | inl e => exact h
  | inr x =>
    by_cases hp : P x
    · rw [ckR_y hp]; exact h
    · rw [ckR_n hp]; trivial
theorem gP_nx {b : Nat → Int32} {n p : Nat} {r : rs} (h : gP b n p r) : gP b n p (nxR b n r) := by
  cases r with
  | inl e => exact h
  | inr x =>
    have h1 := tkN_ok (b := b) h.2.2.1
    have h2 := h1.1.1
    have h3 := h1.2
    have h4 := h.1
    exact ⟨by omega, h1.1⟩
theorem gP_nu {b : Nat → Int32} {n p : Nat} {lo hi : Int32} {r : rs} (h : gP b n p r) : gP b n p (nuR b n lo hi r) := gP_nx (gP_ck (gP_ck h))
theorem gP_ev {b nm : Nat → Int32} {n p m : Nat} {oth : Int32} {r : rs} (h : gP b n p r) : gP b n p (evR b n nm m oth r) := gP_nx (gP_ck (gP_ck h))
theorem gP_na {b : Nat → Int32} {n p m : Nat} {r : rs} {s : pst} (h : gP b n p r) : gP b n p (naP b n m r s).1 := by
  have h1 : gP b n p (naK b s.2.1 m r) := gP_ck (gP_ck h)
  rw [naP]
  cases hr : naK b s.2.1 m r with
  | inl e => trivial
  | inr x =>
    rw [hr] at h1
    exact gP_nx h1
theorem gP_W {b : Nat → Int32} {n p : Nat} {r : rs} {s : pst} (h : gP b n p r) : gP b n p (lnW b n r s).1 := by
  have h1 : gP b n p (lnA b n r s).1 := gP_ev (gP_nx (gP_ck h))
  have h2 : gP b n p (lnB b n s (lnA b n r s)).1 := gP_ev h1
  have h4 : ∀ lo r, gP b n p r → gP b n p (lnH b n lo r).1 := by
    intro lo r h
    rw [lnH]
    split
    · exact gP_nu h
    · exact h
  have h5 : ∀ so r, gP b n p r → gP b n p (lnC b n so r).1 := by
    intro so r h
    rw [lnC]
    split
    · exact gP_nu (gP_nx (gP_ck h))
    · exact h
  exact h5 _ _ (h4 _ _ (gP_nu h2))
theorem gP_X {b : Nat → Int32} {n p : Nat} {r : rs} {s : pst} (h : gP b n p r) : gP b n p (lnX b n r s).1 := by
  rw [lnX]
  split
  · exact gP_na (gP_nx (gP_ck h))
  · split
    · exact gP_W h
    · split
      · exact gP_nu (gP_ev (gP_nx h))
      · split
        · exact gP_nu (gP_ev (gP_nx h))
        · split
          · exact gP_nu (gP_ev (gP_nx h))
          · exact gP_ck h
/-- a line that is right begins with a word -/
theorem lnX_w {b : Nat → Int32} {n : Nat} {r : rs} {s : pst} (h : aL (lnX b n r s).1 = true) : ∃ x, r = .inr x ∧ x.1 = 1 := by
  have key : ∀ L, wdR b L r = true → ∃ x, r = .inr x ∧ x.1 = 1 := by
    intro L h9
    cases r with
    | inl e => cases h9
    | inr x => exact ⟨x, rfl, (of_decide_eq_true h9).1⟩
  rw [lnX] at h
  split at h
  · rename_i c; exact key _ c
  · split at h
    · rename_i c; exact key _ c
    · split at h
      · rename_i c; exact key _ c
      · split at h
        · rename_i c; exact key _ c
        · split at h
          · rename_i c; exact key _ c
          · cases r with
            | inl e => cases h
            | inr x => rw [ckR_n (fun h9 => h9)] at h; cases h
/-- a line goes on by a byte at least -/
theorem gP_ln {b : Nat → Int32} {n p : Nat} {r : rs} {s : pst} (h : gP b n p r) : gP b n (p + 1) (lnX b n (nxR b n r) s).1 := by
  cases ha : aL (lnX b n (nxR b n r) s).1 with
  | false =>
    cases hx : (lnX b n (nxR b n r) s).1 with
    | inl e => trivial
    | inr x => rw [hx] at ha; cases ha
  | true =>
    obtain ⟨x, hr, h1⟩ := lnX_w ha
    refine gP_X ?_
    rw [hr]
    cases r with
    | inl e => cases hr
    | inr y =>
      have h2 := tkN_ok (b := b) h.2.2.1
      have h3 : tkN b n y.2.2.1 = x := Sum.inr.inj hr
      rw [h3] at h2
      have h4 := (h2.1.2.2.2 h1).2.1
      have h5 := h.1
      have h6 := h2.2
      exact ⟨by omega, h2.1⟩
theorem aL_flt {c : Int32} {r : rs} : ¬ aL (ckR c (fun _ => False) r) = true := by
  cases r with
  | inl e => exact Bool.false_ne_true
  | inr x => rw [ckR_n (fun h => h)]; exact Bool.false_ne_true
/-- what the parser starts with -/
def st0 (s : pst) : Prop := (∀ k, k < 176 → s.1 k = 0) ∧ s.2.2 = (1, 1, 1, 0)
theorem okX_H {b : Nat → Int32} {n : Nat} {s : pst} (h : st0 s) (ha : aL (txH b n s).1 = true) : okT (txH b n s).2 ∧ okB (txH b n s).2 := by
  obtain ⟨y, hy⟩ : ∃ y, y = naP b n 0 (nxR b n (ckR 1 (fun x => x.1 = 1 ∧ tkL b x = bNet) (.inr (tkN b n 0)))) s := ⟨_, rfl⟩
  have e : txH b n s = (y.1, upd y.2.1 146 0, y.2.2) := by rw [hy]; rfl
  rw [e] at ha ⊢
  have ha2 : aL y.1 = true := ha
  have e2 : y.2.1 = naN s.1 0 ∧ y.2.2.2 = (1, 1, 1, 0) := by
    rw [hy, naP] at ha2 ⊢
    split at ha2
    · cases ha2
    · exact ⟨rfl, h.2⟩
  have hN : ∀ j, 2 ≤ j → j < 176 → upd y.2.1 146 0 j = if j = 166 then -1 else 0 := by
    intro j h1 h2
    rw [e2.1, upd]
    split
    · rename_i e3; rw [if_neg (by omega)]
    · simp only [naN, upd]
      rw [if_neg (show ¬ j = 0 by omega)]
      by_cases e3 : j = 166
      · rw [if_pos (show j = 166 + 0 by omega), if_pos e3]
      · rw [if_neg (show ¬ j = 166 + 0 by omega), if_neg e3, if_neg (show ¬ j = 146 + 0 by omega)]
        exact h.1 j h2
  have hM : okM 1 0 (upd y.2.1 146 0) := by
    refine ⟨by decide, by decide, by decide, ?_, ?_, fun j h1 h2 => ?_⟩
    · rw [upd, if_neg (by decide), e2.1, naN, upd, if_pos rfl]
    · rw [upd, if_neg (by decide), e2.1, naN, upd, if_neg (by decide), upd, if_neg (by decide), upd, if_neg (by decide)]
      exact h.1 1 (by decide)
    · rw [hN j h1 h2]
      refine ⟨fun i k hi => absurd hi (Nat.not_lt_zero i), fun e h3 h4 => ?_, fun e h3 h4 => ?_, fun e h3 h4 => ?_⟩
      · rw [if_neg (by omega)]
        exact ⟨⟨by decide, by decide⟩, fun _ => rfl⟩
      · rw [if_neg (by omega)]
        exact ⟨by decide, by decide⟩
      · rw [if_pos (by omega)]
        exact ⟨by decide, by decide⟩
  refine ⟨okT.of (s := (upd y.2.1 146 0, y.2.2)) hM (by decide) (fun e h1 h2 => ?_), ?_⟩
  · show upd y.2.1 146 0 (156 + e) = 0
    rw [hN _ (by omega) (by omega), if_neg (by omega)]
  · show hasB y.2.2.2.1 0 ∧ hasB y.2.2.2.2.1 0 ∧ hasB y.2.2.2.2.2.1 0
    rw [e2.2]
    exact ⟨by decide, by decide, by decide⟩
