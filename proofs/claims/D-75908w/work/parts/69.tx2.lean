/-! EW: the reference: a new object -/
set_option maxRecDepth 100000
/-- an object at t, the cells L behind it, nothing else changed -/
def IN (h : eh) (t : Nat) (L : List ac) (fs : List Value) (s : Nat) (H : eh) : Prop := H.2.1 = t + 1 + L.length ∧ H.2.2 = h.2.2 + s ∧ H.1 t = some (ob 1 fs) ∧ (∀ (j : Nat) (e : ac), L[j]? = some e → H.1 (t + 1 + j) = some e) ∧ ∀ p, p < t ∨ t + 1 + L.length ≤ p → H.1 p = h.1 p
theorem in_step {h H : eh} {t s N : Nat} {L : List ac} {fs fs1 : List Value} {e : ac} {P : eh → Prop} (ii : IN h t L fs s H) (kk : ∀ H1, IN h t (L ++ [e]) fs1 (s + N) H1 → P H1) : P (eh_set (eh_new H e N) t (ob 1 fs1)) := by
  obtain ⟨i1, i2, i3, i4, i5⟩ := ii
  refine kk _ ⟨?_, ?_, se_1 _ _ _, ?_, ?_⟩
  · show H.2.1 + 1 = _
    rw [i1, List.length_append, List.length_singleton]
    omega
  · show H.2.2 + N = _
    rw [i2]
    omega
  · intro j x hj
    by_cases hl : j = L.length
    · subst hl
      rw [List.getElem?_append_right (Nat.le_refl _), Nat.sub_self] at hj
      cases hj
      refine sn_1 ?_ (by omega)
      rw [← i1]
      exact ne_1 _ _ _
    · have hlt : j < L.length := by
        have := (List.getElem?_eq_some_iff.mp hj).1
        rw [List.length_append, List.length_singleton] at this
        omega
      rw [List.getElem?_append_left hlt] at hj
      exact sn_1 (nn_1 (i4 j x hj) (by omega)) (by omega)
  · intro p hp
    rw [List.length_append, List.length_singleton] at hp
    refine sn_1 (nn_1 (i5 p (by omega)) (by omega)) ?_
    intro e9
    subst e9
    omega
theorem in_set {h H : eh} {t s : Nat} {L : List ac} {fs fs1 : List Value} {P : eh → Prop} (ii : IN h t L fs s H) (kk : ∀ H1, IN h t L fs1 s H1 → P H1) : P (eh_set H t (ob 1 fs1)) := by
  obtain ⟨i1, i2, i3, i4, i5⟩ := ii
  refine kk _ ⟨i1, i2, se_1 _ _ _, fun j x hj => sn_1 (i4 j x hj) (by omega), fun p hp => sn_1 (i5 p hp) ?_⟩
  intro e9
  subst e9
  omega
def σ0 : tS := (fun k => if k = 4 then -1 else 0, fun _ _ => 0)
def twL : List ac := [aB 700 (fun _ => 0), aB 80 (fun _ => 0), aB 80 (fun _ => 0), aI 176 (fun _ => 0), aI 176 (fun _ => 0), aI 1408 (fun _ => 0), aI 352 (fun _ => 0), aZ 2 (fun _ => 0), aI 80 (fun _ => 0), aI 80 (fun _ => 0), aI 80 (fun _ => 0), aI 80 (fun _ => 0), aI 10 (fun _ => 0), aI 100 (fun _ => 0), aI 100 (fun _ => 0), aI 1100 (fun _ => 0), aI 10 (fun _ => 0), aI 10 (fun _ => 0), aB 300 (fun _ => 0)]
theorem in_tw {h H : eh} {t s : Nat} (ii : IN h t twL (twF t σ0) s H) : H = tw t σ0 (h.1, t + 20, h.2.2 + s) := by
  obtain ⟨i1, i2, i3, i4, i5⟩ := ii
  have hl : twL.length = 19 := rfl
  rw [hl] at i1 i5
  obtain ⟨f, n, m⟩ := H
  have e1 : n = t + 20 := i1.trans (by omega)
  have e2 : m = h.2.2 + s := i2
  subst e1 e2
  simp only [tw]
  congr 1
  funext p
  by_cases hp : t ≤ p ∧ p < t + 20
  · rw [if_pos hp]
    obtain ⟨j, rfl⟩ : ∃ j, p = t + j := ⟨p - t, by omega⟩
    rw [Nat.add_sub_cancel_left]
    have hj : j < 20 := by omega
    by_cases h0 : j = 0
    · subst h0
      exact i3
    · obtain ⟨i, rfl⟩ : ∃ i, j = i + 1 := ⟨j - 1, by omega⟩
      have hi : i < 19 := by omega
      have h9 := i4 i
      rw [show t + 1 + i = t + (i + 1) by omega] at h9
      refine h9 _ ?_
      match i, hi with
      | 0, _ => rfl
      | 1, _ => rfl
      | 2, _ => rfl
      | 3, _ => rfl
      | 4, _ => rfl
      | 5, _ => rfl
      | 6, _ => rfl
      | 7, _ => rfl
      | 8, _ => rfl
      | 9, _ => rfl
      | 10, _ => rfl
      | 11, _ => rfl
      | 12, _ => rfl
      | 13, _ => rfl
      | 14, _ => rfl
      | 15, _ => rfl
      | 16, _ => rfl
      | 17, _ => rfl
      | 18, _ => rfl
      | i + 19, hi => exact absurd hi (by omega)
  · rw [if_neg hp]
    exact i5 p (by omega)
theorem o_init {g : eg} {h : eh} {t : Nat} {Q : Outcome → eh → Prop} (ht : h.1 t = some (ob 1 (.int 0 :: .null :: .int 0 :: .int 0 :: .int 0 :: .int 0 :: .int 0 :: .int 0 :: .int 0 :: .int 0 :: .null :: .null :: .int 0 :: .int 0 :: .int 0 :: .int 0 :: .null :: .null :: .null :: .null :: .null :: .int 0 :: .int 0 :: .null :: .null :: .null :: .null :: .null :: .int 0 :: .null :: .null :: .null :: .null :: .int 0 :: .int 0 :: .int 0 :: .int 0 :: .int 0 :: .null :: .int 0 :: .null :: .int 0 :: []))) (hn : h.2.1 = t + 1) (hq : Q (.returned none) (tw t σ0 (h.1, t + 20, h.2.2 + 4924))) : ew_T g kX2_init 1 [.ref t] h Q := by
  have ii : IN h t [] (.int 0 :: .null :: .int 0 :: .int 0 :: .int 0 :: .int 0 :: .int 0 :: .int 0 :: .int 0 :: .int 0 :: .null :: .null :: .int 0 :: .int 0 :: .int 0 :: .int 0 :: .null :: .null :: .null :: .null :: .null :: .int 0 :: .int 0 :: .null :: .null :: .null :: .null :: .null :: .int 0 :: .null :: .null :: .null :: .null :: .int 0 :: .int 0 :: .int 0 :: .int 0 :: .int 0 :: .null :: .int 0 :: .null :: .int 0 :: []) 0 h := ⟨hn, rfl, ht, fun j x hj => (by cases hj), fun p _ => rfl⟩
  refine ew_enter (by decide +kernel) (ew_a1 rfl ew_az) (Nat.le_of_ble_eq_true rfl) ?_
  refine ew_aload_n (pc := 0) dX2_init_0 rfl ?_
  refine ew_obj (pc := 1) (ew_q q2598) (ew_q q177) (ew_q q178) (ew_rm (Nat.le_of_ble_eq_true rfl)) dX2_init_1 ?_
  refine ew_aload_n (pc := 4) dX2_init_4 rfl ?_
  refine ew_sipush (pc := 5) (v := 700) dX2_init_5 rfl ?_
  refine ew_newB (pc := 8) (ew_q q200) (by decide) rfl (Nat.le_of_ble_eq_true rfl) dX2_init_8 ?_
  rw [show _ = t + 1 from ii.1]
  have jj := fun e n => nn_1 (e := e) (n := n) ii.2.2.1 (by rw [ii.1]; omega)
  refine ew_putf (pc := 10) pX2_9 (jj _ _) st_1 (Nat.le_of_ble_eq_true rfl) rfl rfl (fun _ => rfl) dX2_init_10 ?_
  refine in_step (P := fun H => ew_G g _ _ _ _ _ H Q) ii (fun H ii => ?_)
  refine ew_aload_n (pc := 13) dX2_init_13 rfl ?_
  refine ew_iconst (pc := 14) (v := -1) dX2_init_14 rfl ?_
  refine ew_putf (pc := 15) pX2_13 ii.2.2.1 st_4 (Nat.le_of_ble_eq_true rfl) rfl rfl (fun h9 => absurd h9 Bool.false_ne_true) dX2_init_15 ?_
  refine in_set (P := fun H => ew_G g _ _ _ _ _ H Q) ii (fun H ii => ?_)
  refine ew_aload_n (pc := 18) dX2_init_18 rfl ?_
  refine ew_bipush (pc := 19) (v := 80) dX2_init_19 rfl ?_
  refine ew_newB (pc := 21) (ew_q q200) (by decide) rfl (Nat.le_of_ble_eq_true rfl) dX2_init_21 ?_
  rw [show _ = t + 2 from ii.1]
  have jj := fun e n => nn_1 (e := e) (n := n) ii.2.2.1 (by rw [ii.1]; omega)
  refine ew_putf (pc := 23) pX2_17 (jj _ _) st_10 (Nat.le_of_ble_eq_true rfl) rfl rfl (fun _ => rfl) dX2_init_23 ?_
  refine in_step (P := fun H => ew_G g _ _ _ _ _ H Q) ii (fun H ii => ?_)
  refine ew_aload_n (pc := 26) dX2_init_26 rfl ?_
  refine ew_bipush (pc := 27) (v := 80) dX2_init_27 rfl ?_
  refine ew_newB (pc := 29) (ew_q q200) (by decide) rfl (Nat.le_of_ble_eq_true rfl) dX2_init_29 ?_
  rw [show _ = t + 3 from ii.1]
  have jj := fun e n => nn_1 (e := e) (n := n) ii.2.2.1 (by rw [ii.1]; omega)
  refine ew_putf (pc := 31) pX2_20 (jj _ _) st_11 (Nat.le_of_ble_eq_true rfl) rfl rfl (fun _ => rfl) dX2_init_31 ?_
  refine in_step (P := fun H => ew_G g _ _ _ _ _ H Q) ii (fun H ii => ?_)
  refine ew_aload_n (pc := 34) dX2_init_34 rfl ?_
  refine ew_sipush (pc := 35) (v := 176) dX2_init_35 rfl ?_
  refine ew_newI (pc := 38) (ew_q q273) (by decide) rfl (Nat.le_of_ble_eq_true rfl) dX2_init_38 ?_
  rw [show _ = t + 4 from ii.1]
  have jj := fun e n => nn_1 (e := e) (n := n) ii.2.2.1 (by rw [ii.1]; omega)
  refine ew_putf (pc := 40) pX2_23 (jj _ _) st_16 (Nat.le_of_ble_eq_true rfl) rfl rfl (fun _ => rfl) dX2_init_40 ?_
  refine in_step (P := fun H => ew_G g _ _ _ _ _ H Q) ii (fun H ii => ?_)
  refine ew_aload_n (pc := 43) dX2_init_43 rfl ?_
  refine ew_sipush (pc := 44) (v := 176) dX2_init_44 rfl ?_
  refine ew_newI (pc := 47) (ew_q q273) (by decide) rfl (Nat.le_of_ble_eq_true rfl) dX2_init_47 ?_
  rw [show _ = t + 5 from ii.1]
  have jj := fun e n => nn_1 (e := e) (n := n) ii.2.2.1 (by rw [ii.1]; omega)
  refine ew_putf (pc := 49) pX2_27 (jj _ _) st_17 (Nat.le_of_ble_eq_true rfl) rfl rfl (fun _ => rfl) dX2_init_49 ?_
  refine in_step (P := fun H => ew_G g _ _ _ _ _ H Q) ii (fun H ii => ?_)
  refine ew_aload_n (pc := 52) dX2_init_52 rfl ?_
  refine ew_sipush (pc := 53) (v := 1408) dX2_init_53 rfl ?_
  refine ew_newI (pc := 56) (ew_q q273) (by decide) rfl (Nat.le_of_ble_eq_true rfl) dX2_init_56 ?_
  rw [show _ = t + 6 from ii.1]
  have jj := fun e n => nn_1 (e := e) (n := n) ii.2.2.1 (by rw [ii.1]; omega)
  refine ew_putf (pc := 58) pX2_30 (jj _ _) st_18 (Nat.le_of_ble_eq_true rfl) rfl rfl (fun _ => rfl) dX2_init_58 ?_
  refine in_step (P := fun H => ew_G g _ _ _ _ _ H Q) ii (fun H ii => ?_)
  refine ew_aload_n (pc := 61) dX2_init_61 rfl ?_
  refine ew_sipush (pc := 62) (v := 352) dX2_init_62 rfl ?_
  refine ew_newI (pc := 65) (ew_q q273) (by decide) rfl (Nat.le_of_ble_eq_true rfl) dX2_init_65 ?_
  rw [show _ = t + 7 from ii.1]
  have jj := fun e n => nn_1 (e := e) (n := n) ii.2.2.1 (by rw [ii.1]; omega)
  refine ew_putf (pc := 67) pX2_33 (jj _ _) st_19 (Nat.le_of_ble_eq_true rfl) rfl rfl (fun _ => rfl) dX2_init_67 ?_
  refine in_step (P := fun H => ew_G g _ _ _ _ _ H Q) ii (fun H ii => ?_)
  refine ew_aload_n (pc := 70) dX2_init_70 rfl ?_
  refine ew_iconst (pc := 71) (v := 2) dX2_init_71 rfl ?_
  refine ew_newZ (pc := 72) (ew_q q2726) (by decide) rfl (Nat.le_of_ble_eq_true rfl) dX2_init_72 ?_
  rw [show _ = t + 8 from ii.1]
  have jj := fun e n => nn_1 (e := e) (n := n) ii.2.2.1 (by rw [ii.1]; omega)
  refine ew_putf (pc := 74) pX2_36 (jj _ _) st_20 (Nat.le_of_ble_eq_true rfl) rfl rfl (fun _ => rfl) dX2_init_74 ?_
  refine in_step (P := fun H => ew_G g _ _ _ _ _ H Q) ii (fun H ii => ?_)
  refine ew_aload_n (pc := 77) dX2_init_77 rfl ?_
  refine ew_bipush (pc := 78) (v := 80) dX2_init_78 rfl ?_
  refine ew_newI (pc := 80) (ew_q q273) (by decide) rfl (Nat.le_of_ble_eq_true rfl) dX2_init_80 ?_
  rw [show _ = t + 9 from ii.1]
  have jj := fun e n => nn_1 (e := e) (n := n) ii.2.2.1 (by rw [ii.1]; omega)
  refine ew_putf (pc := 82) pX2_40 (jj _ _) st_23 (Nat.le_of_ble_eq_true rfl) rfl rfl (fun _ => rfl) dX2_init_82 ?_
  refine in_step (P := fun H => ew_G g _ _ _ _ _ H Q) ii (fun H ii => ?_)
  refine ew_aload_n (pc := 85) dX2_init_85 rfl ?_
  refine ew_bipush (pc := 86) (v := 80) dX2_init_86 rfl ?_
  refine ew_newI (pc := 88) (ew_q q273) (by decide) rfl (Nat.le_of_ble_eq_true rfl) dX2_init_88 ?_
  rw [show _ = t + 10 from ii.1]
  have jj := fun e n => nn_1 (e := e) (n := n) ii.2.2.1 (by rw [ii.1]; omega)
  refine ew_putf (pc := 90) pX2_43 (jj _ _) st_24 (Nat.le_of_ble_eq_true rfl) rfl rfl (fun _ => rfl) dX2_init_90 ?_
  refine in_step (P := fun H => ew_G g _ _ _ _ _ H Q) ii (fun H ii => ?_)
  refine ew_aload_n (pc := 93) dX2_init_93 rfl ?_
  refine ew_bipush (pc := 94) (v := 80) dX2_init_94 rfl ?_
  refine ew_newI (pc := 96) (ew_q q273) (by decide) rfl (Nat.le_of_ble_eq_true rfl) dX2_init_96 ?_
  rw [show _ = t + 11 from ii.1]
  have jj := fun e n => nn_1 (e := e) (n := n) ii.2.2.1 (by rw [ii.1]; omega)
  refine ew_putf (pc := 98) pX2_46 (jj _ _) st_25 (Nat.le_of_ble_eq_true rfl) rfl rfl (fun _ => rfl) dX2_init_98 ?_
  refine in_step (P := fun H => ew_G g _ _ _ _ _ H Q) ii (fun H ii => ?_)
  refine ew_aload_n (pc := 101) dX2_init_101 rfl ?_
  refine ew_bipush (pc := 102) (v := 80) dX2_init_102 rfl ?_
  refine ew_newI (pc := 104) (ew_q q273) (by decide) rfl (Nat.le_of_ble_eq_true rfl) dX2_init_104 ?_
  rw [show _ = t + 12 from ii.1]
  have jj := fun e n => nn_1 (e := e) (n := n) ii.2.2.1 (by rw [ii.1]; omega)
  refine ew_putf (pc := 106) pX2_49 (jj _ _) st_26 (Nat.le_of_ble_eq_true rfl) rfl rfl (fun _ => rfl) dX2_init_106 ?_
  refine in_step (P := fun H => ew_G g _ _ _ _ _ H Q) ii (fun H ii => ?_)
  refine ew_aload_n (pc := 109) dX2_init_109 rfl ?_
  refine ew_bipush (pc := 110) (v := 10) dX2_init_110 rfl ?_
  refine ew_newI (pc := 112) (ew_q q273) (by decide) rfl (Nat.le_of_ble_eq_true rfl) dX2_init_112 ?_
  rw [show _ = t + 13 from ii.1]
  have jj := fun e n => nn_1 (e := e) (n := n) ii.2.2.1 (by rw [ii.1]; omega)
  refine ew_putf (pc := 114) pX2_52 (jj _ _) st_27 (Nat.le_of_ble_eq_true rfl) rfl rfl (fun _ => rfl) dX2_init_114 ?_
  refine in_step (P := fun H => ew_G g _ _ _ _ _ H Q) ii (fun H ii => ?_)
  refine ew_aload_n (pc := 117) dX2_init_117 rfl ?_
  refine ew_bipush (pc := 118) (v := 100) dX2_init_118 rfl ?_
  refine ew_newI (pc := 120) (ew_q q273) (by decide) rfl (Nat.le_of_ble_eq_true rfl) dX2_init_120 ?_
  rw [show _ = t + 14 from ii.1]
  have jj := fun e n => nn_1 (e := e) (n := n) ii.2.2.1 (by rw [ii.1]; omega)
  refine ew_putf (pc := 122) pX2_55 (jj _ _) st_29 (Nat.le_of_ble_eq_true rfl) rfl rfl (fun _ => rfl) dX2_init_122 ?_
  refine in_step (P := fun H => ew_G g _ _ _ _ _ H Q) ii (fun H ii => ?_)
  refine ew_aload_n (pc := 125) dX2_init_125 rfl ?_
  refine ew_bipush (pc := 126) (v := 100) dX2_init_126 rfl ?_
  refine ew_newI (pc := 128) (ew_q q273) (by decide) rfl (Nat.le_of_ble_eq_true rfl) dX2_init_128 ?_
  rw [show _ = t + 15 from ii.1]
  have jj := fun e n => nn_1 (e := e) (n := n) ii.2.2.1 (by rw [ii.1]; omega)
  refine ew_putf (pc := 130) pX2_58 (jj _ _) st_30 (Nat.le_of_ble_eq_true rfl) rfl rfl (fun _ => rfl) dX2_init_130 ?_
  refine in_step (P := fun H => ew_G g _ _ _ _ _ H Q) ii (fun H ii => ?_)
  refine ew_aload_n (pc := 133) dX2_init_133 rfl ?_
  refine ew_sipush (pc := 134) (v := 1100) dX2_init_134 rfl ?_
  refine ew_newI (pc := 137) (ew_q q273) (by decide) rfl (Nat.le_of_ble_eq_true rfl) dX2_init_137 ?_
  rw [show _ = t + 16 from ii.1]
  have jj := fun e n => nn_1 (e := e) (n := n) ii.2.2.1 (by rw [ii.1]; omega)
  refine ew_putf (pc := 139) pX2_61 (jj _ _) st_31 (Nat.le_of_ble_eq_true rfl) rfl rfl (fun _ => rfl) dX2_init_139 ?_
  refine in_step (P := fun H => ew_G g _ _ _ _ _ H Q) ii (fun H ii => ?_)
  refine ew_aload_n (pc := 142) dX2_init_142 rfl ?_
  refine ew_bipush (pc := 143) (v := 10) dX2_init_143 rfl ?_
  refine ew_newI (pc := 145) (ew_q q273) (by decide) rfl (Nat.le_of_ble_eq_true rfl) dX2_init_145 ?_
  rw [show _ = t + 17 from ii.1]
  have jj := fun e n => nn_1 (e := e) (n := n) ii.2.2.1 (by rw [ii.1]; omega)
  refine ew_putf (pc := 147) pX2_64 (jj _ _) st_32 (Nat.le_of_ble_eq_true rfl) rfl rfl (fun _ => rfl) dX2_init_147 ?_
  refine in_step (P := fun H => ew_G g _ _ _ _ _ H Q) ii (fun H ii => ?_)
  refine ew_aload_n (pc := 150) dX2_init_150 rfl ?_
  refine ew_bipush (pc := 151) (v := 10) dX2_init_151 rfl ?_
  refine ew_newI (pc := 153) (ew_q q273) (by decide) rfl (Nat.le_of_ble_eq_true rfl) dX2_init_153 ?_
  rw [show _ = t + 18 from ii.1]
  have jj := fun e n => nn_1 (e := e) (n := n) ii.2.2.1 (by rw [ii.1]; omega)
  refine ew_putf (pc := 155) pX2_67 (jj _ _) st_38 (Nat.le_of_ble_eq_true rfl) rfl rfl (fun _ => rfl) dX2_init_155 ?_
  refine in_step (P := fun H => ew_G g _ _ _ _ _ H Q) ii (fun H ii => ?_)
  refine ew_aload_n (pc := 158) dX2_init_158 rfl ?_
  refine ew_sipush (pc := 159) (v := 300) dX2_init_159 rfl ?_
  refine ew_newB (pc := 162) (ew_q q200) (by decide) rfl (Nat.le_of_ble_eq_true rfl) dX2_init_162 ?_
  rw [show _ = t + 19 from ii.1]
  have jj := fun e n => nn_1 (e := e) (n := n) ii.2.2.1 (by rw [ii.1]; omega)
  refine ew_putf (pc := 164) pX2_70 (jj _ _) st_40 (Nat.le_of_ble_eq_true rfl) rfl rfl (fun _ => rfl) dX2_init_164 ?_
  refine in_step (P := fun H => ew_G g _ _ _ _ _ H Q) ii (fun H ii => ?_)
  refine ew_vret (pc := 167) rfl dX2_init_167 ?_
  rw [in_tw ii]
  exact hq
