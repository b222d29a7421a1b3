/-! EW: new nets -/
set_option maxRecDepth 100000
def nfxI (k e : Nat) : Int32 := if e < k then (if e = 0 then 0 else -1) else 0
def nwiI (k e : Nat) : Int32 := if e < k then -1 else 0
theorem nfxI_s (k : Nat) : upd (nfxI k) k (if k = 0 then 0 else -1) = nfxI (k + 1) := by
  funext e
  show (if e = k then (if k = 0 then (0 : Int32) else -1) else nfxI k e) = nfxI (k + 1) e
  unfold nfxI
  by_cases h1 : e = k
  · subst h1
    rw [if_pos rfl, if_pos (show e < e + 1 by omega)]
  · rw [if_neg h1]
    by_cases h2 : e < k
    · rw [if_pos h2, if_pos (show e < k + 1 by omega)]
    · rw [if_neg h2, if_neg (show ¬ e < k + 1 by omega)]
theorem nwiI_s (k : Nat) : upd (nwiI k) k (-1) = nwiI (k + 1) := by
  funext e
  show (if e = k then (-1 : Int32) else nwiI k e) = nwiI (k + 1) e
  unfold nwiI
  by_cases h1 : e = k
  · subst h1
    rw [if_pos rfl, if_pos (by omega)]
  · rw [if_neg h1]
    by_cases h2 : e < k
    · rw [if_pos h2, if_pos (by omega)]
    · rw [if_neg h2, if_neg (by omega)]
theorem nfxI_0 : nfxI 0 = fun _ => 0 := rfl
theorem nwiI_0 : nwiI 0 = fun _ => 0 := rfl
/-- an object at p gets its parts: new cells cs in their order; nothing else changed -/
def IK (h : eh) (p ci s : Nat) (cs : List ac) (fs : List Value) (H : eh) : Prop := H.1 p = some (ob ci fs) ∧ H.2.1 = h.2.1 + cs.length ∧ H.2.2 ≤ h.2.2 + s ∧ (∀ (j : Nat) (e : ac), cs[j]? = some e → H.1 (h.2.1 + j) = some e) ∧ ∀ a, a < h.2.1 → a ≠ p → H.1 a = h.1 a
theorem ik_0 {h : eh} {p ci : Nat} {fs : List Value} (h1 : h.1 p = some (ob ci fs)) : IK h p ci 0 [] fs h := ⟨h1, rfl, Nat.le_refl _, fun j e h9 => (by cases h9), fun a _ _ => rfl⟩
theorem ik_new {h H : eh} {p ci s n : Nat} {cs : List ac} {fs : List Value} {e : ac} {P : eh → Prop} (hp : p < h.2.1) (ii : IK h p ci s cs fs H) (kk : ∀ H1, IK h p ci (s + n) (cs ++ [e]) fs H1 → P H1) : P (eh_new H e n) := by
  obtain ⟨i1, i2, i3, i4, i5⟩ := ii
  refine kk _ ⟨nn_1 i1 (by omega), ?_, ?_, fun j x hj => ?_, fun a ha hne => nn_1 (i5 a ha hne) (by omega)⟩
  · show H.2.1 + 1 = _
    rw [i2, List.length_append, List.length_singleton]
    omega
  · show H.2.2 + n ≤ _
    omega
  · by_cases hl : j = cs.length
    · subst hl
      rw [List.getElem?_append_right (Nat.le_refl _), Nat.sub_self] at hj
      cases hj
      rw [← i2]
      exact ne_1 _ _ _
    · have hlt : j < cs.length := by
        have := (List.getElem?_eq_some_iff.mp hj).1
        rw [List.length_append, List.length_singleton] at this
        omega
      rw [List.getElem?_append_left hlt] at hj
      exact nn_1 (i4 j x hj) (by omega)
theorem ik_set {h H : eh} {p ci s : Nat} {cs : List ac} {fs fs1 : List Value} {P : eh → Prop} (hp : p < h.2.1) (ii : IK h p ci s cs fs H) (kk : ∀ H1, IK h p ci s cs fs1 H1 → P H1) : P (eh_set H p (ob ci fs1)) := by
  obtain ⟨i1, i2, i3, i4, i5⟩ := ii
  exact kk _ ⟨se_1 _ _ _, i2, i3, fun j x hj => sn_1 (i4 j x hj) (by omega), fun a ha hne => sn_1 (i5 a ha hne) hne⟩
theorem ik_cs {h H : eh} {p ci s j : Nat} {cs : List ac} {fs : List Value} {e : ac} {P : eh → Prop} (hp : p < h.2.1) (ii : IK h p ci s cs fs H) (hj : j < cs.length) (kk : ∀ H1, IK h p ci s (cs.set j e) fs H1 → P H1) : P (eh_set H (h.2.1 + j) e) := by
  obtain ⟨i1, i2, i3, i4, i5⟩ := ii
  refine kk _ ⟨sn_1 i1 (by omega), by rw [List.length_set]; exact i2, i3, fun i x hi => ?_, fun a ha hne => sn_1 (i5 a ha hne) (by omega)⟩
  by_cases e9 : i = j
  · subst e9
    rw [List.getElem?_set_self hj] at hi
    cases hi
    exact se_1 _ _ _
  · rw [List.getElem?_set_ne (fun h8 => e9 h8.symm)] at hi
    exact sn_1 (i4 i x hi) (by omega)
theorem IK.ke {h H : eh} {p ci s : Nat} {cs : List ac} {fs : List Value} (ii : IK h p ci s cs fs H) : Ke [p] cs.length s h H := ⟨fun a ha hA => ii.2.2.2.2 a ha (fun h9 => hA (List.mem_singleton.mpr h9)), by rw [ii.2.1]; omega, by rw [ii.2.1]; exact Nat.le_refl _, ii.2.2.1⟩
theorem IK.rd {g : eg} {h H : eh} {p ci s a : Nat} {cs : List ac} {fs : List Value} {e : ac} (ii : IK h p ci s cs fs H) (hg : gOC g) (ho : eh_ok g h) (hr : rd g h a = some e) (hne : a ≠ p) : rd g H a = some e := ii.ke.rd hg ho hr (fun h9 => hne (List.mem_singleton.mp h9))
/-- a new net without windows; E: the empty lists' array -/
def NI (h H : eh) (p nA n E : Nat) : Prop := IK h p 5 33 [ob 19 [.int 0, .ref E, .int 0], aI n (nfxI n), aI n (fun _ => 0), aI n (nwiI n)] [.ref nA, .ref h.2.1, .ref (h.2.1 + 1), .ref (h.2.1 + 2), .ref (h.2.1 + 3)] H
theorem t_nInit {g : eg} {h : eh} {p nA n E : Nat} {fn : Nat → Option Nat} {Q : Outcome → eh → Prop} (hg : gOC g) (hE : eg_s g "java/util/ArrayList" "DEFAULTCAPACITY_EMPTY_ELEMENTDATA" "[Ljava/lang/Object;" = some (.ref E)) (h1 : h.1 p = some (ob 5 [.null, .null, .null, .null, .null])) (hn : rd g h nA = some (aR 6 n fn)) (hn10 : n ≤ 10) (hq : ∀ H, NI h H p nA n E → Q (.returned none) H) : ew_T g kX6_init 4 [.ref p, .ref nA] h Q := by
  refine ew_enter (by decide +kernel) (ew_a1 rfl (ew_a1 rfl (ew_an ew_az))) (Nat.le_of_ble_eq_true rfl) ?_
  refine ew_ok (fun ho => ?_)
  have hp := h_l ho h1
  have hnp : nA ≠ p := by
    intro e
    rw [e, rd_of h1] at hn
    cases hn
  have nv := nI_clamp (n := n) (by omega)
  have ii := ik_0 h1
  have loop : ∀ m k H, k + m = n → IK h p 5 33 [ob 19 [.int 0, .ref E, .int 0], aI n (nfxI k), aI n (fun _ => 0), aI n (nwiI k)] [.ref nA, .ref h.2.1, .ref (h.2.1 + 1), .ref (h.2.1 + 2), .ref (h.2.1 + 3)] H → ew_G g kX6_init 4 46 [.ref p, .ref nA, .int (nI k)] [] H Q := by
    intro m
    induction m with
    | zero =>
      intro k H hk ii
      have e9 : k = n := by omega
      subst e9
      refine ew_iload_n (pc := 46) dX6_init_46 rfl ?_
      refine ew_aload_n (pc := 47) dX6_init_47 rfl ?_
      refine ew_alen (pc := 48) (ii.rd hg ho hn hnp) rfl dX6_init_48 ?_
      refine ew_icmp_ge (pc := 49) (tgt := 80) dX6_init_49 (by decide) (fun c49 => ?_) (fun c49 => absurd (nI_le (Nat.le_refl _) (by omega)) c49)
      refine ew_vret (pc := 80) rfl dX6_init_80 ?_
      exact hq H ii
    | succ m ih =>
      intro k H hk ii
      have s66 : ∀ v, v = (if k = 0 then (0 : Int32) else -1) → ew_G g kX6_init 4 66 [.ref p, .ref nA, .int (nI k)] [.int v, .int (nI k), .ref (h.2.1 + 1)] H Q := by
        intro v hv
        refine ew_iaS (pc := 66) (ii.2.2.2.1 1 _ rfl) (j := k) rfl (by omega) (by omega) dX6_init_66 ?_
        rw [hv, nfxI_s]
        refine ik_cs (P := fun H => ew_G g _ _ _ _ _ H Q) hp ii (j := 1) (by show 1 < 4; decide) (fun H ii => ?_)
        refine ew_aload_n (pc := 67) dX6_init_67 rfl ?_
        refine ew_getf (pc := 68) fX6_29 (rd_of ii.1) rfl dX6_init_68 ?_
        refine ew_iload_n (pc := 71) dX6_init_71 rfl ?_
        refine ew_iconst (pc := 72) (v := -1) dX6_init_72 rfl ?_
        refine ew_iaS (pc := 73) (ii.2.2.2.1 3 _ rfl) (j := k) rfl (by omega) (by omega) dX6_init_73 ?_
        rw [nwiI_s]
        refine ik_cs (P := fun H => ew_G g _ _ _ _ _ H Q) hp ii (j := 3) (by show 3 < 4; decide) (fun H ii => ?_)
        refine ew_iinc (pc := 74) dX6_init_74 rfl (nI_inc k) (by decide) (p1_2 rfl) ?_
        refine ew_goto (pc := 77) (tgt := 46) dX6_init_77 (by decide) ?_
        exact ih (k + 1) H (by omega) ii
      refine ew_iload_n (pc := 46) dX6_init_46 rfl ?_
      refine ew_aload_n (pc := 47) dX6_init_47 rfl ?_
      refine ew_alen (pc := 48) (ii.rd hg ho hn hnp) rfl dX6_init_48 ?_
      refine ew_icmp_ge (pc := 49) (tgt := 80) dX6_init_49 (by decide) (fun c49 => absurd c49 (nI_ge (by omega) (by omega))) (fun c49 => ?_)
      refine ew_aload_n (pc := 52) dX6_init_52 rfl ?_
      refine ew_getf (pc := 53) fX6_22 (rd_of ii.1) rfl dX6_init_53 ?_
      refine ew_iload_n (pc := 56) dX6_init_56 rfl ?_
      refine ew_iload_n (pc := 57) dX6_init_57 rfl ?_
      refine ew_if_ne (pc := 58) (tgt := 65) dX6_init_58 (by decide) (fun c58 => ?_) (fun c58 => ?_)
      · refine ew_iconst (pc := 65) (v := -1) dX6_init_65 rfl ?_
        first
        | exact s66 _ (if_pos ((nI_z (by omega)).mp c58)).symm
        | exact s66 _ (if_neg (fun h9 => c58 ((nI_z (by omega)).mpr h9))).symm
      · refine ew_iconst (pc := 61) (v := 0) dX6_init_61 rfl ?_
        refine ew_goto (pc := 62) (tgt := 66) dX6_init_62 (by decide) ?_
        first
        | exact s66 _ (if_pos ((nI_z (by omega)).mp c58)).symm
        | exact s66 _ (if_neg (fun h9 => c58 ((nI_z (by omega)).mpr h9))).symm
  refine ew_aload_n (pc := 0) dX6_init_0 rfl ?_
  refine ew_obj (pc := 1) (ew_q q1447) (ew_q q177) (ew_q q178) (ew_rm (Nat.le_of_ble_eq_true rfl)) dX6_init_1 ?_
  refine ew_aload_n (pc := 4) dX6_init_4 rfl ?_
  refine ew_new (pc := 5) nX6_9 dX6_init_5 ?_
  refine ik_new (P := fun H => ew_G g _ _ _ _ _ H Q) hp ii (fun H ii => ?_)
  refine ew_dup (pc := 8) dX6_init_8 rfl ?_
  refine ew_cI0 (d' := 3) (pc := 9) iX6_11 dX6_init_9 (by decide) (ew_rm (Nat.le_of_ble_eq_true rfl)) ?_
  refine t_alInitX hE (ii.2.2.2.1 0 _ rfl) ?_
  refine ew_Kv ?_
  refine ik_cs (P := fun H => ew_G g _ _ _ _ _ H Q) hp ii (j := 0) (by show 0 < 1; decide) (fun H ii => ?_)
  refine ew_putf (pc := 12) pX6_12 ii.1 st_1 (Nat.le_of_ble_eq_true rfl) rfl rfl (fun _ => rfl) dX6_init_12 ?_
  refine ik_set (P := fun H => ew_G g _ _ _ _ _ H Q) hp ii (fun H ii => ?_)
  refine ew_aload_n (pc := 15) dX6_init_15 rfl ?_
  refine ew_aload_n (pc := 16) dX6_init_16 rfl ?_
  refine ew_putf (pc := 17) pX6_18 ii.1 st_0 (Nat.le_of_ble_eq_true rfl) rfl rfl (fun _ => rfl) dX6_init_17 ?_
  refine ik_set (P := fun H => ew_G g _ _ _ _ _ H Q) hp ii (fun H ii => ?_)
  refine ew_aload_n (pc := 20) dX6_init_20 rfl ?_
  refine ew_aload_n (pc := 21) dX6_init_21 rfl ?_
  refine ew_alen (pc := 22) (ii.rd hg ho hn hnp) rfl dX6_init_22 ?_
  refine ew_newI (pc := 23) (ew_q q273) (nI_pos (by omega)) nv (by omega) dX6_init_23 ?_
  rw [ii.2.1]
  refine ik_new (P := fun H => ew_G g _ _ _ _ _ H Q) hp ii (fun H ii => ?_)
  refine ew_putf (pc := 25) pX6_22 ii.1 st_2 (Nat.le_of_ble_eq_true rfl) rfl rfl (fun _ => rfl) dX6_init_25 ?_
  refine ik_set (P := fun H => ew_G g _ _ _ _ _ H Q) hp ii (fun H ii => ?_)
  refine ew_aload_n (pc := 28) dX6_init_28 rfl ?_
  refine ew_aload_n (pc := 29) dX6_init_29 rfl ?_
  refine ew_alen (pc := 30) (ii.rd hg ho hn hnp) rfl dX6_init_30 ?_
  refine ew_newI (pc := 31) (ew_q q273) (nI_pos (by omega)) nv (by omega) dX6_init_31 ?_
  rw [ii.2.1]
  refine ik_new (P := fun H => ew_G g _ _ _ _ _ H Q) hp ii (fun H ii => ?_)
  refine ew_putf (pc := 33) pX6_26 ii.1 st_3 (Nat.le_of_ble_eq_true rfl) rfl rfl (fun _ => rfl) dX6_init_33 ?_
  refine ik_set (P := fun H => ew_G g _ _ _ _ _ H Q) hp ii (fun H ii => ?_)
  refine ew_aload_n (pc := 36) dX6_init_36 rfl ?_
  refine ew_aload_n (pc := 37) dX6_init_37 rfl ?_
  refine ew_alen (pc := 38) (ii.rd hg ho hn hnp) rfl dX6_init_38 ?_
  refine ew_newI (pc := 39) (ew_q q273) (nI_pos (by omega)) nv (by omega) dX6_init_39 ?_
  rw [ii.2.1]
  refine ik_new (P := fun H => ew_G g _ _ _ _ _ H Q) hp ii (fun H ii => ?_)
  refine ew_putf (pc := 41) pX6_29 ii.1 st_4 (Nat.le_of_ble_eq_true rfl) rfl rfl (fun _ => rfl) dX6_init_41 ?_
  refine ik_set (P := fun H => ew_G g _ _ _ _ _ H Q) hp ii (fun H ii => ?_)
  refine ew_iconst (pc := 44) (v := 0) dX6_init_44 rfl ?_
  refine ew_istore_n (pc := 45) dX6_init_45 rfl (by decide) (p1_2 rfl) ?_
  exact loop n 0 _ (by omega) (by rw [nfxI_0, nwiI_0]; exact ⟨ii.1, ii.2.1, Nat.le_trans ii.2.2.1 (by show h.2.2 + (0 + 3 + n + n + n) ≤ h.2.2 + 33; omega), ii.2.2.2⟩)
