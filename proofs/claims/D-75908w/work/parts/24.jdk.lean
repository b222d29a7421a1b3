/-! EW: Strings -/
set_option maxRecDepth 100000
theorem ew_ldcwX {p : Program} {l : Launch} {e : Env} {R : Room} {s : State} {m : MethodId} {args : Array Value} {below : List Frame} {meth : Method} {c : Code} {T : State} {locs : List Loc} {cells slots : Nat}
    (X : Stand p l e R s m args below meth c T locs cells slots) (hexec : p.tables.exec = Jvm.exec) {own text : String} {index : Nat} {a : Addr} (hown : s.vm.findClass own = some m.cls)
    (hconst : (Cond.stringRef own index text).before args s = true) (hev : (Term.string own index).eval args s none [] s = some (.ref a)) {g : JFrame} (hg : g.method = m) (hdg : decode c.code g.pc = .ok (.ldc_w index, 3)) :
    ∀ target, Steps p.tables e below (T.setTop { g with pc := g.pc + 3, stack := .ref a :: g.stack }) target → Steps p.tables e below (T.setTop g) target := by
  obtain ⟨k, cf, i, a', hk, hcf, hcp, -, hr, hev'⟩ := Cond.stringRef_spec hown hconst
  cases hev.symm.trans hev'
  obtain ⟨k', hk', he⟩ := X.warmed.alike.2.2 _ _ hk
  have hr' : k'.resolved[index]? = some (some (.string a)) := by
    rcases X.warmed.entry hk hk' index with h | ⟨h, -⟩
    · rw [h]; exact hr
    · rw [hr] at h; cases h
  intro target hrest
  subst hg
  jvm_step X.here [hexec, hdg, ldc_w.wp_string (e := e) (s := T) (f := g) X.here.top hk' (by rw [he]; exact hcf) hcp hr']
  exact hrest
theorem ew_ldcSw {g : eg} {K : ek} {d pc : Nat} {L rest : List Value} {h : eh} {Q : Outcome → eh → Prop} {index a : Nat} (hw : eg_k g K.1.cls index = some a) (hdg : decode K.2.1 pc = .ok (.ldc_w index, 3)) (k : ew_G g K d (pc + 3) L (.ref a :: rest) h Q) : ew_G g K d pc L rest h Q :=
  ew_purel (fun C _ _ _ _ _ _ _ _ kk => (C.2.2.2.2.2.2.2.2.1.2.2.2.2.1 _ _ _ hw).elim fun tx hx => by
    intro T hT X
    obtain ⟨t, a1, b1⟩ := kk T hT X
    exact ⟨t, ew_ldcwX X C.1 C.2.2.2.2.2.1 hx.1 hx.2 (g := F0 _ pc _ rest) rfl (by rw [C.2.1]; exact hdg) t a1, b1⟩) k
/-- a reference or null -/
def rN (v : Value) : Prop := v = .null ∨ ∃ p, v = .ref p
/-- what the statics hold -/
def gCS (g : eg) : Prop := eg_s g "java/lang/String" "COMPACT_STRINGS" "Z" = some (.int 1)
def gSF (g : eg) : Prop := ∃ v, eg_s g "jdk/internal/util/Preconditions" "SIOOBE_FORMATTER" "Ljava/util/function/BiFunction;" = some v ∧ rN v
/-- a String of n bytes (ASCII) at p -/
def Str (g : eg) (h : eh) (p n : Nat) (f : Nat → Int32) : Prop := ∃ v hs hz, rd g h p = some (ob 17 [.ref v, .int 0, .int hs, .int hz]) ∧ rd g h v = some (aB n f) ∧ n < 2 ^ 31 ∧ ∀ i, i < n → ∃ c : Nat, c < 128 ∧ f i = nI c
theorem t_coder {g : eg} {h : eh} {p n : Nat} {f : Nat → Int32} {Q : Outcome → eh → Prop} (hg : gCS g) (hs : Str g h p n f) (hq : Q (.returned (some (.int 0))) h) : ew_T g kJ4_coder 0 [.ref p] h Q := by
  obtain ⟨v, hs, hz, h1, h2, h3, h4⟩ := hs
  have hg1 : eg_s g "java/lang/String" "COMPACT_STRINGS" "Z" = some (.int 1) := hg
  refine ew_enter (by decide +kernel) (ew_a1 rfl ew_az) (Nat.le_of_ble_eq_true rfl) ?_
  refine ew_gets (pc := 0) (C := "java/lang/String") (n := "COMPACT_STRINGS") (dd := "Z") (v := (.int 1)) hg1 (ew_q q758) (Or.inl rfl) dJ4_coder_0 ?_
  refine ew_if_eq (pc := 3) (tgt := 13) dJ4_coder_3 (by decide) (fun c3 => absurd c3 (by decide)) (fun c3 => ?_)
  refine ew_aload_n (pc := 6) dJ4_coder_6 rfl ?_
  refine ew_getf (pc := 7) fJ4_15 h1 rfl dJ4_coder_7 ?_
  refine ew_goto (pc := 10) (tgt := 14) dJ4_coder_10 (by decide) ?_
  refine ew_zret (pc := 14) (ty := .byte) rfl rfl dJ4_coder_14 ?_
  exact hq
theorem t_isLatin1 {g : eg} {h : eh} {p n : Nat} {f : Nat → Int32} {Q : Outcome → eh → Prop} (hg : gCS g) (hs : Str g h p n f) (hq : Q (.returned (some (.int 1))) h) : ew_T g kJ4_isLatin1 0 [.ref p] h Q := by
  obtain ⟨v, hs, hz, h1, h2, h3, h4⟩ := hs
  have hg1 : eg_s g "java/lang/String" "COMPACT_STRINGS" "Z" = some (.int 1) := hg
  refine ew_enter (by decide +kernel) (ew_a1 rfl ew_az) (Nat.le_of_ble_eq_true rfl) ?_
  refine ew_gets (pc := 0) (C := "java/lang/String") (n := "COMPACT_STRINGS") (dd := "Z") (v := (.int 1)) hg1 (ew_q q758) (Or.inl rfl) dJ4_isLatin1_0 ?_
  refine ew_if_eq (pc := 3) (tgt := 17) dJ4_isLatin1_3 (by decide) (fun c3 => absurd c3 (by decide)) (fun c3 => ?_)
  refine ew_aload_n (pc := 6) dJ4_isLatin1_6 rfl ?_
  refine ew_getf (pc := 7) fJ4_15 h1 rfl dJ4_isLatin1_7 ?_
  refine ew_if_ne (pc := 10) (tgt := 17) dJ4_isLatin1_10 (by decide) (fun c10 => absurd (by rfl) c10) (fun c10 => ?_)
  refine ew_iconst (pc := 13) (v := 1) dJ4_isLatin1_13 rfl ?_
  refine ew_goto (pc := 14) (tgt := 18) dJ4_isLatin1_14 (by decide) ?_
  refine ew_zret (pc := 18) (ty := .boolean) rfl rfl dJ4_isLatin1_18 ?_
  exact hq
theorem t_length {g : eg} {h : eh} {p n : Nat} {f : Nat → Int32} {Q : Outcome → eh → Prop} (hg : gCS g) (hs : Str g h p n f) (hq : Q (.returned (some (.int (nI n)))) h) : ew_T g kJ4_length 1 [.ref p] h Q := by
  have hs9 := hs
  obtain ⟨v, hs, hz, h1, h2, h3, h4⟩ := hs
  have hsh : nI n >>> ((0 : Int32) &&& 31) = nI n := by
    rw [show (0 : Int32) &&& 31 = 0 by decide]
    exact Int32.shiftRight_zero
  refine ew_enter (by decide +kernel) (ew_a1 rfl ew_az) (Nat.le_of_ble_eq_true rfl) ?_
  refine ew_aload_n (pc := 0) dJ4_length_0 rfl ?_
  refine ew_getf (pc := 1) fJ4_9 h1 rfl dJ4_length_1 ?_
  refine ew_alen (pc := 4) h2 rfl dJ4_length_4 ?_
  refine ew_aload_n (pc := 5) dJ4_length_5 rfl ?_
  refine ew_cV0 (d' := 0) (pc := 6) vJ4_335 h1 dJ4_length_6 (by decide) (ew_rm (Nat.le_of_ble_eq_true rfl)) ?_
  refine t_coder hg hs9 ?_
  refine ew_Kr ?_
  refine ew_ishr (pc := 9) dJ4_length_9 ?_
  refine ew_iret (pc := 10) rfl dJ4_length_10 ?_
  rw [← hsh] at hq
  exact hq
theorem t_isEmpty {g : eg} {h : eh} {p n : Nat} {f : Nat → Int32} {Q : Outcome → eh → Prop} (hs : Str g h p n f) (hq : Q (.returned (some (.int (if n = 0 then 1 else 0)))) h) : ew_T g kJ4_isEmpty 0 [.ref p] h Q := by
  obtain ⟨v, hs, hz, h1, h2, h3, h4⟩ := hs
  refine ew_enter (by decide +kernel) (ew_a1 rfl ew_az) (Nat.le_of_ble_eq_true rfl) ?_
  refine ew_aload_n (pc := 0) dJ4_isEmpty_0 rfl ?_
  refine ew_getf (pc := 1) fJ4_9 h1 rfl dJ4_isEmpty_1 ?_
  refine ew_alen (pc := 4) h2 rfl dJ4_isEmpty_4 ?_
  refine ew_if_ne (pc := 5) (tgt := 12) dJ4_isEmpty_5 (by decide) (fun c5 => ?_) (fun c5 => ?_)
  · refine ew_iconst (pc := 12) (v := 0) dJ4_isEmpty_12 rfl ?_
    refine ew_zret (pc := 13) (ty := .boolean) rfl rfl dJ4_isEmpty_13 ?_
    first
    | rw [if_pos ((nI_z h3).mp c5)] at hq
      exact hq
    | rw [if_neg (fun h9 => c5 ((nI_z h3).mpr h9))] at hq
      exact hq
  · refine ew_iconst (pc := 8) (v := 1) dJ4_isEmpty_8 rfl ?_
    refine ew_goto (pc := 9) (tgt := 13) dJ4_isEmpty_9 (by decide) ?_
    refine ew_zret (pc := 13) (ty := .boolean) rfl rfl dJ4_isEmpty_13 ?_
    first
    | rw [if_pos ((nI_z h3).mp c5)] at hq
      exact hq
    | rw [if_neg (fun h9 => c5 ((nI_z h3).mpr h9))] at hq
      exact hq
theorem t_checkIndexP {g : eg} {h : eh} {i n : Nat} {v : Value} {Q : Outcome → eh → Prop} (hv : rN v) (hi : i < n) (hn : n < 2 ^ 31) (hq : Q (.returned (some (.int (nI i)))) h) : ew_T g kJ19_checkIndex 0 [.int (nI i), .int (nI n), v] h Q := by
  rcases hv with rfl | ⟨p, rfl⟩
  · skip
    refine ew_enter (by decide +kernel) (ew_a1 rfl (ew_a1 rfl (ew_a1 rfl ew_az))) (Nat.le_of_ble_eq_true rfl) ?_
    refine ew_iload_n (pc := 0) dJ19_checkIndex_0 rfl ?_
    refine ew_if_lt (pc := 1) (tgt := 9) dJ19_checkIndex_1 (by decide) (fun c1 => absurd c1 (nI_nn (by omega))) (fun c1 => ?_)
    refine ew_iload_n (pc := 4) dJ19_checkIndex_4 rfl ?_
    refine ew_iload_n (pc := 5) dJ19_checkIndex_5 rfl ?_
    refine ew_icmp_lt (pc := 6) (tgt := 16) dJ19_checkIndex_6 (by decide) (fun c6 => ?_) (fun c6 => absurd (nI_lt hi hn) c6)
    refine ew_iload_n (pc := 16) dJ19_checkIndex_16 rfl ?_
    refine ew_iret (pc := 17) rfl dJ19_checkIndex_17 ?_
    exact hq
  · skip
    refine ew_enter (by decide +kernel) (ew_a1 rfl (ew_a1 rfl (ew_a1 rfl ew_az))) (Nat.le_of_ble_eq_true rfl) ?_
    refine ew_iload_n (pc := 0) dJ19_checkIndex_0 rfl ?_
    refine ew_if_lt (pc := 1) (tgt := 9) dJ19_checkIndex_1 (by decide) (fun c1 => absurd c1 (nI_nn (by omega))) (fun c1 => ?_)
    refine ew_iload_n (pc := 4) dJ19_checkIndex_4 rfl ?_
    refine ew_iload_n (pc := 5) dJ19_checkIndex_5 rfl ?_
    refine ew_icmp_lt (pc := 6) (tgt := 16) dJ19_checkIndex_6 (by decide) (fun c6 => ?_) (fun c6 => absurd (nI_lt hi hn) c6)
    refine ew_iload_n (pc := 16) dJ19_checkIndex_16 rfl ?_
    refine ew_iret (pc := 17) rfl dJ19_checkIndex_17 ?_
    exact hq
theorem t_checkIndexS {g : eg} {h : eh} {i n : Nat} {Q : Outcome → eh → Prop} (hg : gSF g) (hi : i < n) (hn : n < 2 ^ 31) (hq : Q (.returned none) h) : ew_T g kJ4_checkIndex 1 [.int (nI i), .int (nI n)] h Q := by
  obtain ⟨v, hg1, hv⟩ := hg
  refine ew_enter (by decide +kernel) (ew_a1 rfl (ew_a1 rfl ew_az)) (Nat.le_of_ble_eq_true rfl) ?_
  refine ew_iload_n (pc := 0) dJ4_checkIndex_0 rfl ?_
  refine ew_iload_n (pc := 1) dJ4_checkIndex_1 rfl ?_
  refine ew_gets (pc := 2) (C := "jdk/internal/util/Preconditions") (n := "SIOOBE_FORMATTER") (dd := "Ljava/util/function/BiFunction;") (v := v) hg1 (ew_q q628) (Or.inl rfl) dJ4_checkIndex_2 ?_
  refine ew_cS3 (d' := 0) (pc := 5) sJ4_1059 dJ4_checkIndex_5 (by decide) (ew_rm (Nat.le_of_ble_eq_true rfl)) ?_
  refine t_checkIndexP hv hi hn ?_
  refine ew_Kr ?_
  refine ew_pop (pc := 8) dJ4_checkIndex_8 rfl ?_
  refine ew_vret (pc := 9) rfl dJ4_checkIndex_9 ?_
  exact hq
theorem ch_b {x : Int32} {c : Nat} (hc : c < 128) (hx : x = nI c) : ((x &&& 255).toUInt32 % 65536).toInt32 = nI c := by
  subst hx
  exact (by decide : ∀ c : Fin 128, ((nI c.val &&& 255).toUInt32 % 65536).toInt32 = nI c.val) ⟨c, hc⟩
theorem t_charAtB {g : eg} {h : eh} {a n i c : Nat} {f : Nat → Int32} {Q : Outcome → eh → Prop} (hg : gSF g) (ha : rd g h a = some (aB n f)) (hi : i < n) (hn : n < 2 ^ 31) (hc : c < 128) (hf : f i = nI c) (hq : Q (.returned (some (.int (f i)))) h) : ew_T g kJ18_charAt 2 [.ref a, .int (nI i)] h Q := by
  have hb := ch_b hc hf
  have hnar : narrow .char (.int (nI c)) = .int (nI c) := by
    rw [← hb]
    exact pk_nc _
  refine ew_enter (by decide +kernel) (ew_a1 rfl (ew_a1 rfl ew_az)) (Nat.le_of_ble_eq_true rfl) ?_
  refine ew_iload_n (pc := 0) dJ18_charAt_0 rfl ?_
  refine ew_aload_n (pc := 1) dJ18_charAt_1 rfl ?_
  refine ew_alen (pc := 2) ha rfl dJ18_charAt_2 ?_
  refine ew_cS2 (d' := 1) (pc := 3) sJ18_9 dJ18_charAt_3 (by decide) (ew_rm (Nat.le_of_ble_eq_true rfl)) ?_
  refine t_checkIndexS hg hi hn ?_
  refine ew_Kv ?_
  refine ew_aload_n (pc := 6) dJ18_charAt_6 rfl ?_
  refine ew_iload_n (pc := 7) dJ18_charAt_7 rfl ?_
  refine ew_baJ (pc := 8) ha (j := i) rfl hi hn dJ18_charAt_8 ?_
  refine ew_sipush (pc := 9) (v := 255) dJ18_charAt_9 rfl ?_
  refine ew_iand (pc := 12) dJ18_charAt_12 ?_
  refine ew_i2c (pc := 13) dJ18_charAt_13 rfl ?_
  rw [hb]
  refine ew_zret (pc := 14) (ty := .char) rfl hnar dJ18_charAt_14 ?_
  rw [hf] at hq
  exact hq
theorem t_charAt {g : eg} {h : eh} {p n i : Nat} {f : Nat → Int32} {Q : Outcome → eh → Prop} (hg : gCS g) (hg2 : gSF g) (hs : Str g h p n f) (hi : i < n) (hq : Q (.returned (some (.int (f i)))) h) : ew_T g kJ4_charAt 4 [.ref p, .int (nI i)] h Q := by
  have hs9 := hs
  obtain ⟨v, hs, hz, h1, h2, h3, h4⟩ := hs
  obtain ⟨c, hc, hf⟩ := h4 i hi
  have hnar : narrow .char (.int (f i)) = .int (f i) := by
    rw [hf, ← ch_b hc rfl]
    exact pk_nc _
  refine ew_enter (by decide +kernel) (ew_a1 rfl (ew_a1 rfl ew_az)) (Nat.le_of_ble_eq_true rfl) ?_
  refine ew_aload_n (pc := 0) dJ4_charAt_0 rfl ?_
  refine ew_cV0 (d' := 0) (pc := 1) vJ4_492 h1 dJ4_charAt_1 (by decide) (ew_rm (Nat.le_of_ble_eq_true rfl)) ?_
  refine t_isLatin1 hg hs9 ?_
  refine ew_Kr ?_
  refine ew_if_eq (pc := 4) (tgt := 16) dJ4_charAt_4 (by decide) (fun c4 => absurd c4 (by decide)) (fun c4 => ?_)
  refine ew_aload_n (pc := 7) dJ4_charAt_7 rfl ?_
  refine ew_getf (pc := 8) fJ4_9 h1 rfl dJ4_charAt_8 ?_
  refine ew_iload_n (pc := 11) dJ4_charAt_11 rfl ?_
  refine ew_cS2 (d' := 2) (pc := 12) sJ4_495 dJ4_charAt_12 (by decide) (ew_rm (Nat.le_of_ble_eq_true rfl)) ?_
  refine t_charAtB hg2 h2 hi h3 hc hf ?_
  refine ew_Kr ?_
  refine ew_zret (pc := 15) (ty := .char) rfl hnar dJ4_charAt_15 ?_
  exact hq
