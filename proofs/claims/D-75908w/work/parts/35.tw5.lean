/-! EW: the reference: what the bounds are, told ways and rounds -/
set_option maxRecDepth 100000
def Ag (F G : Nat → Int32) : Prop := ∀ k, k < 100 → F k = G k
theorem Ag.pt {F G : Nat → Int32} (h : Ag F G) (i : Nat) (x : Int32) : Ag (upd F i x) (upd G i x) := by
  intro k hk
  by_cases e : k = i
  · simp [upd, e]
  · simp [upd, e, h k hk]
theorem bClr_at (f : Nat → Int32) : ∀ m k, k < m → bClr f m k = if k % 11 = 0 then 0 else 268435456
  | 0, k, h => absurd h (Nat.not_lt_zero _)
  | m + 1, k, h => by
    by_cases h1 : k = m
    · subst h1; simp [bClr, upd]
    · have := bClr_at f m k (by omega)
      simp [bClr, upd, h1, this]
theorem bSt_ag {F G : Nat → Int32} {e : ed} (h : Ag F G) (he : e.1 < 10 ∧ e.2.1 < 10) : Ag (bSt F e) (bSt G e) := by
  unfold bSt
  rw [h (10 * e.1 + e.2.1) (by omega)]
  exact h.pt _ _
theorem bSts_ag : ∀ {E : List ed} {F G : Nat → Int32}, Ag F G → (∀ e : ed, e ∈ E → e.1 < 10 ∧ e.2.1 < 10) → Ag (bSts F E) (bSts G E)
  | [], _, _, h, _ => h
  | e :: E, _, _, h, he => bSts_ag (E := E) (bSt_ag h (he e (List.mem_cons_self ..))) (fun x hx => he x (List.mem_cons_of_mem _ hx))
theorem twJ_ag {F G : Nat → Int32} {m a b : Nat} (h : Ag F G) (hm : m < 10) (ha : a < 10) (hb : b < 10) : Ag (twJ F m a b) (twJ G m a b) := by
  unfold twJ
  rw [h (10 * a + m) (by omega), h (10 * m + b) (by omega), h (10 * a + b) (by omega)]
  split
  · exact h.pt _ _
  · exact h
theorem twB_ag {F G : Nat → Int32} {m a : Nat} (h : Ag F G) (hm : m < 10) (ha : a < 10) : ∀ b, b ≤ 10 → Ag (twB F m a b) (twB G m a b)
  | 0, _ => h
  | b + 1, hb => twJ_ag (twB_ag h hm ha b (by omega)) hm ha (by omega)
theorem twA_ag {F G : Nat → Int32} {n m : Nat} (h : Ag F G) (hm : m < 10) (hn : n ≤ 10) : ∀ a, a ≤ 10 → Ag (twA F n m a) (twA G n m a)
  | 0, _ => h
  | a + 1, ha => twB_ag (twA_ag h hm hn a (by omega)) hm (by omega) n hn
theorem twN_ag {F G : Nat → Int32} (h : Ag F G) : ∀ n, n ≤ 10 → twN F n = twN G n
  | 0, _ => rfl
  | n + 1, hn => by rw [twN, twN, twN_ag h n (by omega), h (10 * n + n) (by omega)]
theorem twR_ag {n : Nat} (hn : n ≤ 10) : ∀ r m {F G : Nat → Int32}, Ag F G → m + r ≤ 10 → (twR n r m F).1 = (twR n r m G).1 ∧ Ag (twR n r m F).2 (twR n r m G).2
  | 0, _, _, _, h, _ => ⟨rfl, h⟩
  | r + 1, m, F, G, h, hm => by
    have h1 := twA_ag h (m := m) (by omega) hn n hn
    rw [twR, twR, twN_ag h1 n hn]
    split
    · exact ⟨rfl, h1⟩
    · exact twR_ag hn r (m + 1) h1 (by omega)
/-- whether a net of n events with these steps is sound, and its bounds -/
def cB (n : Nat) (E : List ed) : Bool := (tBd n E (fun _ => 0)).1
def cF (n : Nat) (E : List ed) : Nat → Int32 := (tBd n E (fun _ => 0)).2
theorem Bd.c {n : Nat} {E : List ed} {b : Bool} {F : Nat → Int32} (h : Bd n E b F) (hn : n ≤ 10) (hE : okE n E) : b = cB n E ∧ Ag F (cF n E) := by
  obtain ⟨f, hf⟩ := h
  have h0 : Ag (bClr f 100) (bClr (fun _ => 0) 100) := by
    intro k hk
    rw [bClr_at _ _ _ hk, bClr_at _ _ _ hk]
  have h1 := bSts_ag (E := E) h0 (fun e he => by have := hE.m e he; omega)
  have h2 := twR_ag hn n 0 h1 (by omega)
  have e1 : (tBd n E f).1 = b := congrArg (fun x => x.1) hf
  have e2 : (tBd n E f).2 = F := congrArg (fun x => x.2) hf
  rw [← e1, ← e2]
  exact h2
/-- the first step with which the least sum of k + 1 steps is come by -/
def rowP (F : Int32) (E : List ed) (b k a : Nat) (e : ed) : Bool := decide (e.1 = a ∧ xI F E k e.2.1 b < F ∧ e.2.2.1 + xI F E k e.2.1 b = xI F E (k + 1) a b)
def rowL (F : Int32) (E : List ed) (b : Nat) : Nat → Nat → List ed
  | 0, _ => []
  | k + 1, a => match E.find? (rowP F E b k a) with
    | none => []
    | some e => e :: rowL F E b k e.2.1
theorem jmin_or (x y : Int32) : jmin x y = x ∨ jmin x y = y := by
  unfold jmin
  split
  · exact Or.inr rfl
  · exact Or.inl rfl
theorem xP_of {F : Int32} {r : Nat → Nat → Int32} {a b : Nat} : ∀ (L : List ed) (x : Int32), L.foldl (fun x e => if e.1 = a ∧ r e.2.1 b < F then jmin x (e.2.2.1 + r e.2.1 b) else x) x = x ∨ ∃ e ∈ L, e.1 = a ∧ r e.2.1 b < F ∧ e.2.2.1 + r e.2.1 b = L.foldl (fun x e => if e.1 = a ∧ r e.2.1 b < F then jmin x (e.2.2.1 + r e.2.1 b) else x) x
  | [], x => Or.inl rfl
  | e :: L, x => by
    rw [List.foldl_cons]
    by_cases h : e.1 = a ∧ r e.2.1 b < F
    · rw [if_pos h]
      rcases xP_of L (jmin x (e.2.2.1 + r e.2.1 b)) with h1 | ⟨e1, he, h1⟩
      · rcases jmin_or x (e.2.2.1 + r e.2.1 b) with h2 | h2
        · exact Or.inl (h1.trans h2)
        · exact Or.inr ⟨e, List.mem_cons_self .., h.1, h.2, (h1.trans h2).symm⟩
      · exact Or.inr ⟨e1, List.mem_cons_of_mem _ he, h1⟩
    · rw [if_neg h]
      rcases xP_of L x with h1 | ⟨e1, he, h1⟩
      · exact Or.inl h1
      · exact Or.inr ⟨e1, List.mem_cons_of_mem _ he, h1⟩
theorem rowP_is {F : Int32} {E : List ed} {b k a : Nat} (h : xI F E (k + 1) a b ≠ F) : ∃ e, E.find? (rowP F E b k a) = some e ∧ e.1 = a ∧ xI F E k e.2.1 b < F ∧ e.2.2.1 + xI F E k e.2.1 b = xI F E (k + 1) a b := by
  cases hf : E.find? (rowP F E b k a) with
  | none =>
    exfalso
    rcases xP_of (F := F) (r := xI F E k) (a := a) (b := b) E F with h1 | ⟨e, he, h1⟩
    · exact h h1
    · have := List.find?_eq_none.mp hf e he
      exact this (decide_eq_true h1)
  | some e =>
    have h9 : rowP F E b k a e = true := List.find?_some hf
    exact ⟨e, rfl, of_decide_eq_true h9⟩
/-- the row that was found: how many, its sum, its codes -/
def Row (σ : tS) (m : Nat) (s : Int32) (L : List ed) : Prop := σ.1 33 = nI m ∧ σ.1 34 = s ∧ ∀ (i : Nat) (e : ed), L[i]? = some e → σ.2 32 i = e.2.2.2
theorem find_at {E : List ed} {p : ed → Bool} {e : ed} (h : E.find? p = some e) : ∃ k, E[k]? = some e ∧ p e = true ∧ ∀ (j : Nat) (x : ed), j < k → E[j]? = some x → p x = false := by
  induction E with
  | nil => cases h
  | cons y E ih =>
    rw [List.find?_cons] at h
    cases hp : p y with
    | true =>
      rw [hp] at h
      injection h with h
      subst h
      exact ⟨0, rfl, hp, fun j x hj => absurd hj (Nat.not_lt_zero _)⟩
    | false =>
      rw [hp] at h
      obtain ⟨k, h1, h2, h3⟩ := ih h
      refine ⟨k + 1, h1, h2, ?_⟩
      intro j x hj hx
      cases j with
      | zero =>
        injection hx with hx
        subst hx
        exact hp
      | succ j => exact h3 j x (by omega) hx
theorem t_rowOf {g : eg} {h : eh} {t m a b : Nat} {σ : tS} {n : Nat} {E : List ed} {Q : Outcome → eh → Prop} (hn : n ≤ 10) (hS : Sts σ E) (hE : okE n E) (hl : E.length < 80) (hX : Ex n E (σ.2 31)) (hm : m ≤ 10) (ha : a < n) (hb : b < n) (hx : m = 0 ∨ xI 268435456 E m a b ≠ 268435456)
    (hq : ∀ σ', Fq [32, 33, 34] σ σ' → Row σ' m (xI 268435456 E m a b) (rowL 268435456 E b m a) → Q (.returned none) (tw t σ' h)) : ew_T g kX2_rowOf 1 [.ref t, .int (nI m), .int (nI a), .int (nI b)] (tw t σ h) Q := by
  have main : ∀ r i a' σ' x7, i + r = m → a' < n → (r = 0 ∨ xI 268435456 E r a' b ≠ 268435456) → Fq [32, 33, 34] σ σ' → σ'.1 33 = nI m → σ'.1 34 = xI 268435456 E m a b → (∀ (j : Nat) (e : ed), j < i → (rowL 268435456 E b m a)[j]? = some e → σ'.2 32 j = e.2.2.2) → (rowL 268435456 E b m a).drop i = rowL 268435456 E b r a' → ew_G g kX2_rowOf 1 28 [.ref t, .int (nI m), .int (nI a), .int (nI b), .int (nI a'), .int (xI 268435456 E r a' b), .int (nI i), x7] [] (tw t σ' h) Q := by
    intro r
    induction r with
    | zero =>
      intro i a' σ' x7 hi ha' hx' hF h33 h34 hr hd
      have e9 : i = m := by omega
      subst e9
      refine ew_iload (pc := 28) dX2_rowOf_28 rfl ?_
      refine ew_iload_n (pc := 30) dX2_rowOf_30 rfl ?_
      refine ew_icmp_ge (pc := 31) (tgt := 150) dX2_rowOf_31 (by decide) (fun c31 => ?_) (fun c31 => absurd (nI_le (Nat.le_refl _) (by omega)) c31)
      refine ew_vret (pc := 150) rfl dX2_rowOf_150 ?_
      refine hq σ' hF ⟨h33, h34, ?_⟩
      intro j e he
      refine hr j e ?_ he
      have := (List.getElem?_eq_some_iff.mp he).1
      have hd2 := congrArg List.length hd
      rw [List.length_drop, rowL, List.length_nil] at hd2
      omega
    | succ r ih =>
      intro i a' σ' x7 hi ha' hx' hF h33 h34 hr hd
      have hx2 : xI 268435456 E (r + 1) a' b ≠ 268435456 := hx'.resolve_left (by omega)
      obtain ⟨e, he, e1, e2, e3⟩ := rowP_is hx2
      obtain ⟨k0, hk0, _, hk1⟩ := find_at he
      have hkl : k0 < E.length := (List.getElem?_eq_some_iff.mp hk0).1
      have hS' : Sts σ' E := hS.fq hF rfl
      have hX' : Ex n E (σ'.2 31) := by rw [hF.a 31 rfl]; exact hX
      have hei := hE k0 e hk0
      have hr1 : nI m - 1 - nI i = nI r := by
        rw [show (1 : Int32) = nI 1 from rfl, nI_sub (by omega), nI_sub (by omega)]
        congr 1
        omega
      have hXe : ∀ c, c < n → σ'.2 31 ((10 * r + c) * 10 + b) = xI 268435456 E r c b := fun c hc => hX' r c b (by omega) (by omega) hb
      have key : ∀ q k, k + q = k0 → ew_G g kX2_rowOf 1 37 [.ref t, .int (nI m), .int (nI a), .int (nI b), .int (nI a'), .int (xI 268435456 E (r + 1) a' b), .int (nI i), .int (nI k)] [] (tw t σ' h) Q := by
        intro q
        induction q with
        | zero =>
          intro k hk
          have e9 : k = k0 := by omega
          subst e9
          have hs := hS'.2 k e hk0
          have hXk := hXe e.2.1 hei.2
          have e3' : xI 268435456 E (r + 1) a' b - e.2.2.1 = xI 268435456 E r e.2.1 b := by
            rw [← e3, Int32.add_comm]
            exact Int32.add_sub_cancel _ _
          refine ew_aload_n (pc := 37) dX2_rowOf_37 rfl ?_
          refine tg_g23 (pc := 38) rfl dX2_rowOf_38 ?_
          refine ew_iload (pc := 41) dX2_rowOf_41 rfl ?_
          refine tg_l23 (pc := 43) (j := k) rfl (by omega) dX2_rowOf_43 ?_
          refine ew_iload (pc := 44) dX2_rowOf_44 rfl ?_
          rw [hs.1, e1]
          refine ew_icmp_ne (pc := 46) (tgt := 103) dX2_rowOf_46 (by decide) (fun c46 => absurd rfl c46) (fun c46 => ?_)
          refine ew_aload_n (pc := 49) dX2_rowOf_49 rfl ?_
          refine ew_iload_n (pc := 50) dX2_rowOf_50 rfl ?_
          refine ew_iconst (pc := 51) (v := 1) dX2_rowOf_51 rfl ?_
          refine ew_isub (pc := 52) dX2_rowOf_52 ?_
          refine ew_iload (pc := 53) dX2_rowOf_53 rfl ?_
          refine ew_isub (pc := 55) dX2_rowOf_55 ?_
          refine ew_aload_n (pc := 56) dX2_rowOf_56 rfl ?_
          refine tg_g24 (pc := 57) rfl dX2_rowOf_57 ?_
          refine ew_iload (pc := 60) dX2_rowOf_60 rfl ?_
          refine tg_l24 (pc := 62) (j := k) rfl (by omega) dX2_rowOf_62 ?_
          refine ew_iload_n (pc := 63) dX2_rowOf_63 rfl ?_
          rw [hr1, hs.2.1]
          refine ew_cV3 (d' := 0) (pc := 64) vX2_260 (tw_ro _ _ _ _) dX2_rowOf_64 (by decide) (ew_rm (Nat.le_of_ble_eq_true rfl)) ?_
          refine t_exactOf (f := σ'.2 31) rfl (by omega) (by omega) (by omega) ?_
          rw [hXk]
          refine ew_Kr ?_
          refine ew_ldc (pc := 67) (v := 268435456) (ew_q q2936) dX2_rowOf_67 ?_
          refine ew_icmp_ge (pc := 69) (tgt := 103) dX2_rowOf_69 (by decide) (fun c69 => absurd c69 (Int32.not_le.mpr e2)) (fun c69 => ?_)
          refine ew_aload_n (pc := 72) dX2_rowOf_72 rfl ?_
          refine tg_g25 (pc := 73) rfl dX2_rowOf_73 ?_
          refine ew_iload (pc := 76) dX2_rowOf_76 rfl ?_
          refine tg_l25 (pc := 78) (j := k) rfl (by omega) dX2_rowOf_78 ?_
          refine ew_aload_n (pc := 79) dX2_rowOf_79 rfl ?_
          refine ew_iload_n (pc := 80) dX2_rowOf_80 rfl ?_
          refine ew_iconst (pc := 81) (v := 1) dX2_rowOf_81 rfl ?_
          refine ew_isub (pc := 82) dX2_rowOf_82 ?_
          refine ew_iload (pc := 83) dX2_rowOf_83 rfl ?_
          refine ew_isub (pc := 85) dX2_rowOf_85 ?_
          refine ew_aload_n (pc := 86) dX2_rowOf_86 rfl ?_
          refine tg_g24 (pc := 87) rfl dX2_rowOf_87 ?_
          refine ew_iload (pc := 90) dX2_rowOf_90 rfl ?_
          refine tg_l24 (pc := 92) (j := k) rfl (by omega) dX2_rowOf_92 ?_
          refine ew_iload_n (pc := 93) dX2_rowOf_93 rfl ?_
          rw [hr1, hs.2.1]
          refine ew_cV3 (d' := 0) (pc := 94) vX2_260 (tw_ro _ _ _ _) dX2_rowOf_94 (by decide) (ew_rm (Nat.le_of_ble_eq_true rfl)) ?_
          refine t_exactOf (f := σ'.2 31) rfl (by omega) (by omega) (by omega) ?_
          rw [hXk]
          refine ew_Kr ?_
          refine ew_iadd (pc := 97) dX2_rowOf_97 ?_
          refine ew_iload (pc := 98) dX2_rowOf_98 rfl ?_
          rw [hs.2.2.1]
          refine ew_icmp_eq (pc := 100) (tgt := 109) dX2_rowOf_100 (by decide) (fun c100 => ?_) (fun c100 => absurd e3 c100)
          refine ew_aload_n (pc := 109) dX2_rowOf_109 rfl ?_
          refine tg_g32 (pc := 110) rfl dX2_rowOf_110 ?_
          refine ew_iload (pc := 113) dX2_rowOf_113 rfl ?_
          refine ew_aload_n (pc := 115) dX2_rowOf_115 rfl ?_
          refine tg_g26 (pc := 116) rfl dX2_rowOf_116 ?_
          refine ew_iload (pc := 119) dX2_rowOf_119 rfl ?_
          refine tg_l26 (pc := 121) (j := k) rfl (by omega) dX2_rowOf_121 ?_
          refine tg_s32 (pc := 122) (j := i) rfl (by omega) dX2_rowOf_122 ?_
          refine ew_iload (pc := 123) dX2_rowOf_123 rfl ?_
          refine ew_aload_n (pc := 125) dX2_rowOf_125 rfl ?_
          refine tg_g25 (pc := 126) rfl dX2_rowOf_126 ?_
          refine ew_iload (pc := 129) dX2_rowOf_129 rfl ?_
          refine tg_l25 (pc := 131) (j := k) rfl (by omega) dX2_rowOf_131 ?_
          refine ew_isub (pc := 132) dX2_rowOf_132 ?_
          refine ew_istore (pc := 133) dX2_rowOf_133 (by decide) (p1_5 rfl) ?_
          refine ew_aload_n (pc := 135) dX2_rowOf_135 rfl ?_
          refine tg_g24 (pc := 136) rfl dX2_rowOf_136 ?_
          refine ew_iload (pc := 139) dX2_rowOf_139 rfl ?_
          refine tg_l24 (pc := 141) (j := k) rfl (by omega) dX2_rowOf_141 ?_
          rw [show (tA σ' 32 (upd (σ'.2 32) i (σ'.2 26 k))).2 24 k = nI e.2.1 from hs.2.1, show (tA σ' 32 (upd (σ'.2 32) i (σ'.2 26 k))).2 25 k = e.2.2.1 from hs.2.2.1, e3']
          refine ew_istore (pc := 142) dX2_rowOf_142 (by decide) (p1_4 rfl) ?_
          refine ew_iinc (pc := 144) dX2_rowOf_144 rfl (nI_inc i) (by decide) (p1_6 rfl) ?_
          refine ew_goto (pc := 147) (tgt := 28) dX2_rowOf_147 (by decide) ?_
          have hdr : (rowL 268435456 E b m a).drop i = e :: rowL 268435456 E b r e.2.1 := by rw [hd, rowL, he]
          refine ih (i + 1) e.2.1 _ _ (by omega) hei.2 (by by_cases h9 : r = 0; exact Or.inl h9; exact Or.inr (fun h8 => absurd e2 (by rw [h8]; decide))) (hF.xA 32 _ rfl) h33 h34 ?_ ?_
          · intro j x hj hx9
            show upd (σ'.2 32) i (σ'.2 26 k) j = x.2.2.2
            by_cases hji : j = i
            · subst hji
              have h5 : (rowL 268435456 E b m a)[j]? = some e := by
                have := List.getElem?_drop (xs := rowL 268435456 E b m a) (i := j) (j := 0)
                rw [hdr, Nat.add_zero] at this
                exact this.symm
              rw [h5] at hx9
              injection hx9 with hx9
              subst hx9
              simp only [upd, if_pos]
              exact hs.2.2.2
            · rw [upd, if_neg hji]
              exact hr j x (by omega) hx9
          · rw [← List.drop_drop, hdr]
            rfl
        | succ q ihq =>
          intro k hk
          have hkl' : k < E.length := by omega
          have hke := List.getElem?_eq_getElem hkl'
          have hs := hS'.2 k _ hke
          have hpk := hk1 k _ (by omega) hke
          have hek := hE k _ hke
          have hXk := hXe (E[k]).2.1 hek.2
          have hno : ¬ ((E[k]).1 = a' ∧ xI 268435456 E r (E[k]).2.1 b < 268435456 ∧ (E[k]).2.2.1 + xI 268435456 E r (E[k]).2.1 b = xI 268435456 E (r + 1) a' b) := of_decide_eq_false hpk
          refine ew_aload_n (pc := 37) dX2_rowOf_37 rfl ?_
          refine tg_g23 (pc := 38) rfl dX2_rowOf_38 ?_
          refine ew_iload (pc := 41) dX2_rowOf_41 rfl ?_
          refine tg_l23 (pc := 43) (j := k) rfl (by omega) dX2_rowOf_43 ?_
          refine ew_iload (pc := 44) dX2_rowOf_44 rfl ?_
          rw [hs.1]
          refine ew_icmp_ne (pc := 46) (tgt := 103) dX2_rowOf_46 (by decide) (fun c46 => ?_) (fun c46 => ?_)
          · refine ew_iinc (pc := 103) dX2_rowOf_103 rfl (nI_inc k) (by decide) (p1_7 rfl) ?_
            refine ew_goto (pc := 106) (tgt := 37) dX2_rowOf_106 (by decide) ?_
            exact ihq (k + 1) (by omega)
          · refine ew_aload_n (pc := 49) dX2_rowOf_49 rfl ?_
            refine ew_iload_n (pc := 50) dX2_rowOf_50 rfl ?_
            refine ew_iconst (pc := 51) (v := 1) dX2_rowOf_51 rfl ?_
            refine ew_isub (pc := 52) dX2_rowOf_52 ?_
            refine ew_iload (pc := 53) dX2_rowOf_53 rfl ?_
            refine ew_isub (pc := 55) dX2_rowOf_55 ?_
            refine ew_aload_n (pc := 56) dX2_rowOf_56 rfl ?_
            refine tg_g24 (pc := 57) rfl dX2_rowOf_57 ?_
            refine ew_iload (pc := 60) dX2_rowOf_60 rfl ?_
            refine tg_l24 (pc := 62) (j := k) rfl (by omega) dX2_rowOf_62 ?_
            refine ew_iload_n (pc := 63) dX2_rowOf_63 rfl ?_
            rw [hr1, hs.2.1]
            refine ew_cV3 (d' := 0) (pc := 64) vX2_260 (tw_ro _ _ _ _) dX2_rowOf_64 (by decide) (ew_rm (Nat.le_of_ble_eq_true rfl)) ?_
            refine t_exactOf (f := σ'.2 31) rfl (by omega) (by omega) (by omega) ?_
            rw [hXk]
            refine ew_Kr ?_
            refine ew_ldc (pc := 67) (v := 268435456) (ew_q q2936) dX2_rowOf_67 ?_
            refine ew_icmp_ge (pc := 69) (tgt := 103) dX2_rowOf_69 (by decide) (fun c69 => ?_) (fun c69 => ?_)
            · refine ew_iinc (pc := 103) dX2_rowOf_103 rfl (nI_inc k) (by decide) (p1_7 rfl) ?_
              refine ew_goto (pc := 106) (tgt := 37) dX2_rowOf_106 (by decide) ?_
              exact ihq (k + 1) (by omega)
            · refine ew_aload_n (pc := 72) dX2_rowOf_72 rfl ?_
              refine tg_g25 (pc := 73) rfl dX2_rowOf_73 ?_
              refine ew_iload (pc := 76) dX2_rowOf_76 rfl ?_
              refine tg_l25 (pc := 78) (j := k) rfl (by omega) dX2_rowOf_78 ?_
              refine ew_aload_n (pc := 79) dX2_rowOf_79 rfl ?_
              refine ew_iload_n (pc := 80) dX2_rowOf_80 rfl ?_
              refine ew_iconst (pc := 81) (v := 1) dX2_rowOf_81 rfl ?_
              refine ew_isub (pc := 82) dX2_rowOf_82 ?_
              refine ew_iload (pc := 83) dX2_rowOf_83 rfl ?_
              refine ew_isub (pc := 85) dX2_rowOf_85 ?_
              refine ew_aload_n (pc := 86) dX2_rowOf_86 rfl ?_
              refine tg_g24 (pc := 87) rfl dX2_rowOf_87 ?_
              refine ew_iload (pc := 90) dX2_rowOf_90 rfl ?_
              refine tg_l24 (pc := 92) (j := k) rfl (by omega) dX2_rowOf_92 ?_
              refine ew_iload_n (pc := 93) dX2_rowOf_93 rfl ?_
              rw [hr1, hs.2.1]
              refine ew_cV3 (d' := 0) (pc := 94) vX2_260 (tw_ro _ _ _ _) dX2_rowOf_94 (by decide) (ew_rm (Nat.le_of_ble_eq_true rfl)) ?_
              refine t_exactOf (f := σ'.2 31) rfl (by omega) (by omega) (by omega) ?_
              rw [hXk]
              refine ew_Kr ?_
              refine ew_iadd (pc := 97) dX2_rowOf_97 ?_
              refine ew_iload (pc := 98) dX2_rowOf_98 rfl ?_
              rw [hs.2.2.1]
              refine ew_icmp_eq (pc := 100) (tgt := 109) dX2_rowOf_100 (by decide) (fun c100 => ?_) (fun c100 => ?_)
              · exact absurd ⟨(nI_eq (by omega) (by omega)).mp c46, Int32.not_le.mp c69, c100⟩ hno
              · refine ew_iinc (pc := 103) dX2_rowOf_103 rfl (nI_inc k) (by decide) (p1_7 rfl) ?_
                refine ew_goto (pc := 106) (tgt := 37) dX2_rowOf_106 (by decide) ?_
                exact ihq (k + 1) (by omega)
      refine ew_iload (pc := 28) dX2_rowOf_28 rfl ?_
      refine ew_iload_n (pc := 30) dX2_rowOf_30 rfl ?_
      refine ew_icmp_ge (pc := 31) (tgt := 150) dX2_rowOf_31 (by decide) (fun c31 => absurd c31 (nI_ge (by omega) (by omega))) (fun c31 => ?_)
      refine ew_iconst (pc := 34) (v := 0) dX2_rowOf_34 rfl ?_
      refine ew_istore (pc := 35) dX2_rowOf_35 (by decide) (p1_7 rfl) ?_
      exact key k0 0 (by omega)
  refine ew_enter (by decide +kernel) (ew_a1 rfl (ew_a1 rfl (ew_a1 rfl (ew_a1 rfl (ew_an (ew_an (ew_an (ew_an ew_az)))))))) (Nat.le_of_ble_eq_true rfl) ?_
  refine ew_aload_n (pc := 0) dX2_rowOf_0 rfl ?_
  refine ew_iload_n (pc := 1) dX2_rowOf_1 rfl ?_
  refine tg_p33 (pc := 2) rfl dX2_rowOf_2 ?_
  refine ew_aload_n (pc := 5) dX2_rowOf_5 rfl ?_
  refine ew_aload_n (pc := 6) dX2_rowOf_6 rfl ?_
  refine ew_iload_n (pc := 7) dX2_rowOf_7 rfl ?_
  refine ew_iload_n (pc := 8) dX2_rowOf_8 rfl ?_
  refine ew_iload_n (pc := 9) dX2_rowOf_9 rfl ?_
  refine ew_cV3 (d' := 0) (pc := 10) vX2_260 (tw_ro _ _ _ _) dX2_rowOf_10 (by decide) (ew_rm (Nat.le_of_ble_eq_true rfl)) ?_
  refine t_exactOf (f := σ.2 31) rfl hm (by omega) (by omega) ?_
  rw [hX m a b hm (by omega) hb]
  refine ew_Kr ?_
  refine tg_p34 (pc := 13) rfl dX2_rowOf_13 ?_
  refine ew_iload_n (pc := 16) dX2_rowOf_16 rfl ?_
  refine ew_istore (pc := 17) dX2_rowOf_17 (by decide) (p1_4 rfl) ?_
  refine ew_aload_n (pc := 19) dX2_rowOf_19 rfl ?_
  refine tg_g34 (pc := 20) rfl dX2_rowOf_20 ?_
  refine ew_istore (pc := 23) dX2_rowOf_23 (by decide) (p1_5 rfl) ?_
  refine ew_iconst (pc := 25) (v := 0) dX2_rowOf_25 rfl ?_
  refine ew_istore (pc := 26) dX2_rowOf_26 (by decide) (p1_6 rfl) ?_
  refine main m 0 a _ _ (by omega) ha hx ?_ rfl rfl (fun j e hj => absurd hj (Nat.not_lt_zero _)) rfl
  exact ((Fq.r _ σ).xI 33 _ rfl).xI 34 _ rfl
