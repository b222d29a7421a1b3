/-! EW: what a call leaves as it was; lists of objects -/
set_option maxRecDepth 100000
theorem ew_getC {g : eg} {K : ek} {d pc idx a n mi : Nat} {L rest : List Value} {h : eh} {Q : Outcome → eh → Prop} {f : Nat → Option Nat} (w1 : ew_w (.methodLink K.1.cls idx ⟨"java/lang/Object", "getClass", "()Ljava/lang/Class;"⟩)) (w2 : ew_w (.declares ⟨"java/lang/Object", "getClass", "()Ljava/lang/Class;"⟩))
    (w3 : ew_w (.selects "[Ljava/lang/Object;" ⟨"java/lang/Object", "getClass", "()Ljava/lang/Class;"⟩ ⟨"java/lang/Object", "getClass", "()Ljava/lang/Class;"⟩)) (w4 : ew_w (.instanceMethod ⟨"java/lang/Object", "getClass", "()Ljava/lang/Class;"⟩)) (w5 : ew_w (.native ⟨"java/lang/Object", "getClass", "()Ljava/lang/Class;"⟩))
    (hm : eg_m g "[Ljava/lang/Object;" = some mi) (ha : rd g h a = some (aR 5 n f)) (hrest : (rest.map fun v => v.category).sum ≤ 24) (hdg : decode K.2.1 pc = .ok (.invokevirtual idx, 3)) (k : ew_G g K d (pc + 3) L (.ref mi :: rest) h Q) : ew_G g K d pc L (.ref a :: rest) h Q := by
  refine ew_purel ?_ k
  intro p e R s m args below meth c C H locs cells slots ls Q' hs hl kk
  obtain ⟨hexec, hb, hml, hr, hlk, hown, htab, hnm, hg, hfr, hlo⟩ := C
  have hc := (hs.rd hg ha).1
  have hn := va_nmO (nm := "[Ljava/lang/Object;") ((hg.2.2.1 5 _ rfl).2 (by decide)) rfl
  exact va_getC hexec hb (hl.1.trans hml.symm).symm hown (hg.word w1 _) (hg.word w2 _) (hg.word w3 _) (hg.word w4 _) (hg.word w5 _) (hg.2.2.2.2.2.1 _ _ hm) ⟨_, hc, rfl, hn⟩ (by omega) (by omega) hdg kk
theorem ew_aaS {g : eg} {K : ek} {d pc : Nat} {L rest : List Value} {h : eh} {Q : Outcome → eh → Prop} {a t n v j : Nat} {E : String} {f : Nat → Option Nat} {i : Int32} (ht : ewTy[t]? = some (.object E)) (ha : h.1 a = some (aR t n f)) (hv : ∃ ci vs r, rd g h v = some (ob ci vs) ∧ ewCl[ci]? = some r ∧ (r.1 = E ∨ ew_w (.castable r.1 E))) (hj : i = nI j) (hlt : j < n) (hn : n < 2 ^ 31) (hdg : decode K.2.1 pc = .ok (.aastore, 1))
    (kk : ew_G g K d (pc + 1) L rest (eh_set h a (aR t n (va_up f j (some v)))) Q) (h8 : t ≠ 8 := by decide) : ew_G g K d pc L (.ref v :: .int i :: .ref a :: rest) h Q := by
  subst hj
  obtain ⟨ci, vs, r, h1, h2, h3⟩ := hv
  refine ew_aast ht ha h2 h1 h3 (vp_in_nI hlt hn) hdg ?_ h8
  rw [nI_clamp (Nat.lt_trans hlt hn)]
  exact kk
theorem ew_aaN {g : eg} {K : ek} {d pc : Nat} {L rest : List Value} {h : eh} {Q : Outcome → eh → Prop} {a t n j : Nat} {E : String} {f : Nat → Option Nat} {i : Int32} (ht : ewTy[t]? = some (.object E)) (ha : h.1 a = some (aR t n f)) (hj : i = nI j) (hlt : j < n) (hn : n < 2 ^ 31) (hdg : decode K.2.1 pc = .ok (.aastore, 1))
    (kk : ew_G g K d (pc + 1) L rest (eh_set h a (aR t n (va_up f j none))) Q) : ew_G g K d pc L (.null :: .int i :: .ref a :: rest) h Q := by
  subst hj
  refine ew_aastN ht ha (vp_in_nI hlt hn) hdg ?_
  rw [nI_clamp (Nat.lt_trans hlt hn)]
  exact kk
/-- what a call leaves: cells but those of A, at most c new ones of s slots -/
def Ke (A : List Nat) (c s : Nat) (h h' : eh) : Prop := (∀ a, a < h.2.1 → a ∉ A → h'.1 a = h.1 a) ∧ h.2.1 ≤ h'.2.1 ∧ h'.2.1 ≤ h.2.1 + c ∧ h'.2.2 ≤ h.2.2 + s
theorem Ke.r (A : List Nat) (h : eh) : Ke A 0 0 h h := ⟨fun _ _ _ => rfl, Nat.le_refl _, Nat.le_refl _, Nat.le_refl _⟩
theorem Ke.set {h : eh} {a : Nat} {e : ac} : Ke [a] 0 0 h (eh_set h a e) := ⟨fun b _ hb => by
  show (if b = a then some e else h.1 b) = h.1 b
  exact if_neg (fun h9 => hb (by rw [h9]; exact List.mem_singleton.mpr rfl)), Nat.le_refl _, Nat.le_refl _, Nat.le_refl _⟩
theorem Ke.new {h : eh} {e : ac} {n : Nat} : Ke [] 1 n h (eh_new h e n) := ⟨fun b hb _ => by
  show (if b = h.2.1 then some e else h.1 b) = h.1 b
  exact if_neg (by omega), Nat.le_succ _, Nat.le_refl _, Nat.le_refl _⟩
theorem Ke.t {A1 A2 A : List Nat} {c1 c2 s1 s2 c s : Nat} {h h1 h2 : eh} (k1 : Ke A1 c1 s1 h h1) (k2 : Ke A2 c2 s2 h1 h2) (m1 : ∀ a, a ∈ A1 → a < h.2.1 → a ∈ A) (m2 : ∀ a, a ∈ A2 → a < h.2.1 → a ∈ A) (hc : c1 + c2 ≤ c) (hs : s1 + s2 ≤ s) : Ke A c s h h2 := by
  obtain ⟨p1, p2, p3, p4⟩ := k1
  obtain ⟨q1, q2, q3, q4⟩ := k2
  refine ⟨fun a ha hA => ?_, by omega, by omega, by omega⟩
  exact (q1 a (by omega) (fun h9 => hA (m2 a h9 ha))).trans (p1 a ha (fun h9 => hA (m1 a h9 ha)))
theorem Ke.w {A1 A : List Nat} {c1 s1 c s : Nat} {h h1 : eh} (k1 : Ke A1 c1 s1 h h1) (m1 : ∀ a, a ∈ A1 → a < h.2.1 → a ∈ A) (hc : c1 ≤ c) (hs : s1 ≤ s) : Ke A c s h h1 := k1.t (Ke.r A h1) m1 (fun _ h9 _ => h9) hc hs
theorem rd_lt {g : eg} {h : eh} {a : Nat} {e : ac} {U : State} (hg : ew_good g U) (ho : eh_ok g h) (hr : rd g h a = some e) : a < h.2.1 := by
  unfold rd at hr
  split at hr
  · rename_i h0
    exact (ho.2 _ _ h0).2
  · have := (hg.2.2.2.2.2.2.2.1 _ _ hr).1
    have := ho.1
    omega
/-- constant cells lie in the start heap -/
def gOC (g : eg) : Prop := ∀ a e, eg_c g a = some e → a < eb g
theorem rd_l {g : eg} {h : eh} {a : Nat} {e : ac} (hg : gOC g) (ho : eh_ok g h) (hr : rd g h a = some e) : a < h.2.1 := by
  unfold rd at hr
  split at hr
  · rename_i h0
    exact (ho.2 _ _ h0).2
  · have := hg _ _ hr
    have := ho.1
    omega
theorem h_l {g : eg} {h : eh} {a : Nat} {e : ac} (ho : eh_ok g h) (hr : h.1 a = some e) : a < h.2.1 := (ho.2 _ _ hr).2
theorem Ke.rd {g : eg} {A : List Nat} {c s a : Nat} {h h' : eh} {e : ac} (k : Ke A c s h h') (hg : gOC g) (ho : eh_ok g h) (hr : rd g h a = some e) (hA : a ∉ A) : rd g h' a = some e := by
  have hl := rd_l hg ho hr
  have h1 := k.1 a hl hA
  unfold Pilot.CEventWindowsLaw_law_r6665_89732d.rd at hr ⊢
  rw [h1]
  exact hr
theorem Ke.h {g : eg} {A : List Nat} {c s a : Nat} {h h' : eh} {e : ac} (k : Ke A c s h h') (ho : eh_ok g h) (hr : h.1 a = some e) (hA : a ∉ A) : h'.1 a = some e := (k.1 a (h_l ho hr) hA).trans hr
/-- an object that a list may hold -/
def oO (g : eg) (h : eh) (v : Nat) : Prop := ∃ ci vs r, rd g h v = some (ob ci vs) ∧ ewCl[ci]? = some r ∧ (r.1 = "java/lang/Object" ∨ ew_w (.castable r.1 "java/lang/Object"))
/-- an empty list's array -/
def gDE (g : eg) : Prop := ∃ a : Nat, eg_s g "java/util/ArrayList" "DEFAULTCAPACITY_EMPTY_ELEMENTDATA" "[Ljava/lang/Object;" = some (.ref a) ∧ gC g a (aR 5 0 (fun _ => none))
def gOM (g : eg) : Prop := ∃ mi, eg_m g "[Ljava/lang/Object;" = some mi
/-- a list at L, its array E, what it holds -/
def AL (g : eg) (h : eh) (L E : Nat) (ws : List Nat) : Prop := ∃ mc cap f, h.1 L = some (ob 19 [.int mc, .ref E, .int (nI ws.length)]) ∧ rd g h E = some (aR 5 cap f) ∧ (0 < cap → h.1 E = some (aR 5 cap f)) ∧ (cap = 0 → eg_s g "java/util/ArrayList" "DEFAULTCAPACITY_EMPTY_ELEMENTDATA" "[Ljava/lang/Object;" = some (.ref E)) ∧ ws.length ≤ cap ∧ cap < 2 ^ 20 ∧ ∀ i, i < cap → f i = ws[i]?
theorem AL.ke {g : eg} {A : List Nat} {c s L E : Nat} {ws : List Nat} {h h' : eh} (ha : AL g h L E ws) (k : Ke A c s h h') (hg : gOC g) (ho : eh_ok g h) (hL : L ∉ A) (hE : E ∉ A) : AL g h' L E ws := by
  obtain ⟨mc, cap, f, h1, h2, h3, h4⟩ := ha
  exact ⟨mc, cap, f, k.h ho h1 hL, k.rd hg ho h2 hE, fun h9 => k.h ho (h3 h9) hE, h4⟩
theorem t_alSize {g : eg} {h : eh} {L E : Nat} {ws : List Nat} {Q : Outcome → eh → Prop} (ha : AL g h L E ws) (hq : Q (.returned (some (.int (nI ws.length)))) h) : ew_T g kJ14_size 0 [.ref L] h Q := by
  obtain ⟨mc, cap, f, h1, -⟩ := ha
  refine ew_enter (by decide +kernel) (ew_a1 rfl ew_az) (Nat.le_of_ble_eq_true rfl) ?_
  refine ew_aload_n (pc := 0) dJ14_size_0 rfl ?_
  refine ew_getf (pc := 1) fJ14_48 (rd_of h1) rfl dJ14_size_1 ?_
  refine ew_iret (pc := 4) rfl dJ14_size_4 ?_
  exact hq
theorem t_alEmpty {g : eg} {h : eh} {L E : Nat} {ws : List Nat} {Q : Outcome → eh → Prop} (ha : AL g h L E ws) (hq : Q (.returned (some (.int (bI (ws = []))))) h) : ew_T g kJ14_isEmpty 0 [.ref L] h Q := by
  obtain ⟨mc, cap, f, h1, h2, h3, h4, h5, h6, h7⟩ := ha
  have hz : nI ws.length = 0 ↔ ws = [] := by
    rw [nI_z (by omega)]
    exact List.length_eq_zero_iff
  rw [← bI_c hz] at hq
  refine ew_enter (by decide +kernel) (ew_a1 rfl ew_az) (Nat.le_of_ble_eq_true rfl) ?_
  refine ew_aload_n (pc := 0) dJ14_isEmpty_0 rfl ?_
  refine ew_getf (pc := 1) fJ14_48 (rd_of h1) rfl dJ14_isEmpty_1 ?_
  refine ew_if_ne (pc := 4) (tgt := 11) dJ14_isEmpty_4 (by decide) (fun c4 => ?_) (fun c4 => ?_)
  · refine ew_iconst (pc := 11) (v := 0) dJ14_isEmpty_11 rfl ?_
    refine ew_zret (pc := 12) (ty := .boolean) rfl rfl dJ14_isEmpty_12 ?_
    first
    | rw [bI_t c4] at hq
      exact hq
    | rw [bI_f c4] at hq
      exact hq
  · refine ew_iconst (pc := 7) (v := 1) dJ14_isEmpty_7 rfl ?_
    refine ew_goto (pc := 8) (tgt := 12) dJ14_isEmpty_8 (by decide) ?_
    refine ew_zret (pc := 12) (ty := .boolean) rfl rfl dJ14_isEmpty_12 ?_
    first
    | rw [bI_t c4] at hq
      exact hq
    | rw [bI_f c4] at hq
      exact hq
theorem t_objIx {g : eg} {h : eh} {i n : Nat} {Q : Outcome → eh → Prop} (hi : i < n) (hn : n < 2 ^ 31) (hq : Q (.returned (some (.int (nI i)))) h) : ew_T g kJ25_checkIndex 1 [.int (nI i), .int (nI n)] h Q := by
  refine ew_enter (by decide +kernel) (ew_a1 rfl (ew_a1 rfl ew_az)) (Nat.le_of_ble_eq_true rfl) ?_
  refine ew_iload_n (pc := 0) dJ25_checkIndex_0 rfl ?_
  refine ew_iload_n (pc := 1) dJ25_checkIndex_1 rfl ?_
  refine ew_null (pc := 2) dJ25_checkIndex_2 ?_
  refine ew_cS3 (d' := 0) (pc := 3) sJ25_105 dJ25_checkIndex_3 (by decide) (ew_rm (Nat.le_of_ble_eq_true rfl)) ?_
  refine t_checkIndexP (Or.inl rfl) hi hn ?_
  refine ew_Kr ?_
  refine ew_iret (pc := 6) rfl dJ25_checkIndex_6 ?_
  exact hq
theorem t_alGet {g : eg} {h : eh} {L E i x : Nat} {ws : List Nat} {Q : Outcome → eh → Prop} (ha : AL g h L E ws) (hx : ws[i]? = some x) (hq : Q (.returned (some (.ref x))) h) : ew_T g kJ14_get 2 [.ref L, .int (nI i)] h Q := by
  obtain ⟨mc, cap, f, h1, h2, h3, h4, h5, h6, h7⟩ := ha
  have hi : i < ws.length := (List.getElem?_eq_some_iff.mp hx).1
  have hf : f i = some x := (h7 i (by omega)).trans hx
  have ed : ∀ Q : Outcome → eh → Prop, Q (.returned (some (.ref x))) h → ew_T g kJ14_elementData 0 [.ref L, .int (nI i)] h Q := by
    intro Q hq
    refine ew_enter (by decide +kernel) (ew_a1 rfl (ew_a1 rfl ew_az)) (Nat.le_of_ble_eq_true rfl) ?_
    refine ew_aload_n (pc := 0) dJ14_elementData_0 rfl ?_
    refine ew_getf (pc := 1) fJ14_9 (rd_of h1) rfl dJ14_elementData_1 ?_
    refine ew_iload_n (pc := 4) dJ14_elementData_4 rfl ?_
    refine ew_aaJ (pc := 5) rfl h2 (j := i) rfl (by omega) (by omega) dJ14_elementData_5 ?_
    rw [hf]
    refine ew_aret (pc := 6) rfl (Or.inl ⟨_, rfl⟩) (Or.inr ⟨_, rfl⟩) dJ14_elementData_6 ?_
    exact hq
  refine ew_enter (by decide +kernel) (ew_a1 rfl (ew_a1 rfl ew_az)) (Nat.le_of_ble_eq_true rfl) ?_
  refine ew_iload_n (pc := 0) dJ14_get_0 rfl ?_
  refine ew_aload_n (pc := 1) dJ14_get_1 rfl ?_
  refine ew_getf (pc := 2) fJ14_48 (rd_of h1) rfl dJ14_get_2 ?_
  refine ew_cS2 (d' := 1) (pc := 5) sJ14_118 dJ14_get_5 (by decide) (ew_rm (Nat.le_of_ble_eq_true rfl)) ?_
  refine t_objIx hi (by omega) ?_
  refine ew_Kr ?_
  refine ew_pop (pc := 8) dJ14_get_8 rfl ?_
  refine ew_aload_n (pc := 9) dJ14_get_9 rfl ?_
  refine ew_iload_n (pc := 10) dJ14_get_10 rfl ?_
  refine ew_cV1 (d' := 0) (pc := 11) vJ14_123 (rd_of h1) dJ14_get_11 (by decide) (ew_rm (Nat.le_of_ble_eq_true rfl)) ?_
  refine ed _ ?_
  refine ew_Kr ?_
  refine ew_aret (pc := 14) rfl (Or.inl ⟨_, rfl⟩) (Or.inr ⟨_, rfl⟩) dJ14_get_14 ?_
  exact hq
