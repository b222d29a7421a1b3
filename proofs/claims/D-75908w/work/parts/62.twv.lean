/-! EW: the reference: words, numbers, names -/
set_option maxRecDepth 100000
/-- where the reference's parser stands -/
def Ps (σ : tS) (b : Nat → Int32) (n : Nat) : rs → Prop
  | .inl e => σ.1 3 = e.1 ∧ 0 < e.1 ∧ σ.1 4 = nI e.2
  | .inr x => σ.1 3 = 0 ∧ (σ.1 8 = nI x.1 ∧ σ.1 6 = nI x.2.1 ∧ σ.1 7 = nI x.2.2.1 ∧ (x.1 = 2 → σ.1 9 = x.2.2.2)) ∧ tkO b n x ∧ σ.1 4 = -1
theorem Ps.fq {S : List Nat} {σ σ' : tS} {b : Nat → Int32} {n : Nat} {r : rs} (h : Ps σ b n r) (hF : Fq S σ σ') (hd : [3, 4, 6, 7, 8, 9].all (fun k => !S.contains k) = true) : Ps σ' b n r := by
  have hd' : ∀ k, k ∈ [3, 4, 6, 7, 8, 9] → S.contains k = false := by
    intro k hk
    have := List.all_eq_true.mp hd k hk
    simpa using this
  cases r with
  | inl e => exact ⟨(hF.s 3 (hd' 3 (by decide))).trans h.1, h.2.1, (hF.s 4 (hd' 4 (by decide))).trans h.2.2⟩
  | inr x => exact ⟨(hF.s 3 (hd' 3 (by decide))).trans h.1, ⟨(hF.s 8 (hd' 8 (by decide))).trans h.2.1.1, (hF.s 6 (hd' 6 (by decide))).trans h.2.1.2.1, (hF.s 7 (hd' 7 (by decide))).trans h.2.1.2.2.1, fun h9 => (hF.s 9 (hd' 9 (by decide))).trans (h.2.1.2.2.2 h9)⟩, h.2.2.1, (hF.s 4 (hd' 4 (by decide))).trans h.2.2.2⟩
theorem ckR_r {c : Int32} {P : tok → Prop} [DecidablePred P] {r : rs} {x : tok} (h : ckR c P r = .inr x) : r = .inr x ∧ P x := by
  cases r with
  | inl e => cases h
  | inr y =>
    by_cases hp : P y
    · rw [ckR_y hp] at h
      cases h
      exact ⟨rfl, hp⟩
    · rw [ckR_n hp] at h; cases h
theorem i_ne0 {c : Int32} (h : 0 < c) : ¬ c = 0 := fun h9 => by rw [h9] at h; exact absurd h (by decide)
theorem i_nle0 {c : Int32} (h : 0 < c) : ¬ c ≤ 0 := Int32.not_le.mpr h
theorem t_nxt {g : eg} {h : eh} {t n : Nat} {σ : tS} {b : Nat → Int32} {r : rs} {Q : Outcome → eh → Prop} (hT : Tx σ b n) (hP : Ps σ b n r)
    (hq : ∀ σ', Fq [6, 7, 8, 9] σ σ' → Ps σ' b n (nxR b n r) → Q (.returned none) (tw t σ' h)) : ew_T g kX2_nextToken 1 [.ref t] (tw t σ h) Q := by
  cases r with
  | inl e =>
    have hP2 := hP
    obtain ⟨h3, h0, h4⟩ := hP
    refine ew_enter (by decide +kernel) (ew_a1 rfl (ew_an ew_az)) (Nat.le_of_ble_eq_true rfl) ?_
    refine ew_aload_n (pc := 0) dX2_nextToken_0 rfl ?_
    refine tg_g3 (pc := 1) rfl dX2_nextToken_1 ?_
    rw [h3]
    refine ew_if_le (pc := 4) (tgt := 8) dX2_nextToken_4 (by decide) (fun c4 => absurd c4 (i_nle0 h0)) (fun c4 => ?_)
    refine ew_vret (pc := 7) rfl dX2_nextToken_7 ?_
    exact hq σ (Fq.r _ _) hP2
  | inr x =>
    obtain ⟨h3, ⟨h8, h6, h7, h9⟩, hO, hA4⟩ := hP
    refine t_nextToken hT h3 h7 hO.2.1 (fun σ' F hk => hq σ' F ?_)
    have hv := tkN_val (b := b) (n := n) (p := x.2.2.1) (v := σ.1 9)
    refine ⟨(F.s 3 rfl).trans h3, ⟨?_, ?_, ?_, fun h8 => ?_⟩, (tkN_ok hO.2.1).1, (F.s 4 rfl).trans hA4⟩
    · rw [← hv.1]; exact hk.1
    · rw [← hv.2.1]; exact hk.2.1
    · rw [← hv.2.2.1]; exact hk.2.2.1
    · rw [← hv.2.2.2 h8]; exact hk.2.2.2
theorem t_flt {g : eg} {h : eh} {t n : Nat} {σ : tS} {b : Nat → Int32} {c : Int32} {r : rs} {Q : Outcome → eh → Prop} (hc : 0 < c) (hP : Ps σ b n r)
    (hq : ∀ σ', Fq [3, 4] σ σ' → Ps σ' b n (ckR c (fun _ => False) r) → Q (.returned none) (tw t σ' h)) : ew_T g kX2_faults 0 [.ref t, .int c] (tw t σ h) Q := by
  cases r with
  | inl e =>
    have hP2 := hP
    obtain ⟨h3, h0, h4⟩ := hP
    refine ew_enter (by decide +kernel) (ew_a1 rfl (ew_a1 rfl ew_az)) (Nat.le_of_ble_eq_true rfl) ?_
    refine ew_aload_n (pc := 0) dX2_faults_0 rfl ?_
    refine tg_g3 (pc := 1) rfl dX2_faults_1 ?_
    rw [h3]
    refine ew_if_le (pc := 4) (tgt := 8) dX2_faults_4 (by decide) (fun c4 => absurd c4 (i_nle0 h0)) (fun c4 => ?_)
    refine ew_vret (pc := 7) rfl dX2_faults_7 ?_
    exact hq σ (Fq.r _ _) hP2
  | inr x =>
    obtain ⟨h3, ⟨h8, h6, h7, h9⟩, hO, hA4⟩ := hP
    refine ew_enter (by decide +kernel) (ew_a1 rfl (ew_a1 rfl ew_az)) (Nat.le_of_ble_eq_true rfl) ?_
    refine ew_aload_n (pc := 0) dX2_faults_0 rfl ?_
    refine tg_g3 (pc := 1) rfl dX2_faults_1 ?_
    rw [h3]
    refine ew_if_le (pc := 4) (tgt := 8) dX2_faults_4 (by decide) (fun c4 => ?_) (fun c4 => absurd (by decide) c4)
    refine ew_aload_n (pc := 8) dX2_faults_8 rfl ?_
    refine ew_iload_n (pc := 9) dX2_faults_9 rfl ?_
    refine tg_p3 (pc := 10) rfl dX2_faults_10 ?_
    refine ew_aload_n (pc := 13) dX2_faults_13 rfl ?_
    refine ew_aload_n (pc := 14) dX2_faults_14 rfl ?_
    refine tg_g6 (pc := 15) rfl dX2_faults_15 ?_
    refine tg_p4 (pc := 18) rfl dX2_faults_18 ?_
    refine ew_vret (pc := 21) rfl dX2_faults_21 ?_
    exact hq _ (((Fq.r _ σ).xI 3 _ rfl).xI 4 _ rfl) ⟨rfl, hc, h6⟩
theorem t_isWord {g : eg} {h : eh} {t p n m : Nat} {f : Nat → Int32} {σ : tS} {b : Nat → Int32} {r : rs} {Q : Outcome → eh → Prop} (hg : gCS g) (hg2 : gSF g) (hs : eh_ok g (tw t σ h) → Str g (tw t σ h) p m f) (hT : Tx σ b n) (hP : Ps σ b n r)
    (hq : Q (.returned (some (.int (bI (wdR b ((List.range m).map f) r = true))))) (tw t σ h)) : ew_T g kX2_isWord 5 [.ref t, .ref p] (tw t σ h) Q := by
  cases r with
  | inl e =>
    obtain ⟨h3, h0, h4⟩ := hP
    rw [bI_f (fun h9 => by cases h9)] at hq
    refine ew_enter (by decide +kernel) (ew_a1 rfl (ew_a1 rfl (ew_an ew_az))) (Nat.le_of_ble_eq_true rfl) ?_
    refine ew_aload_n (pc := 0) dX2_isWord_0 rfl ?_
    refine tg_g3 (pc := 1) rfl dX2_isWord_1 ?_
    rw [h3]
    refine ew_if_gt (pc := 4) (tgt := 31) dX2_isWord_4 (by decide) (fun c4 => ?_) (fun c4 => absurd h0 c4)
    refine ew_iconst (pc := 31) (v := 0) dX2_isWord_31 rfl ?_
    refine ew_zret (pc := 32) (ty := .boolean) rfl rfl dX2_isWord_32 ?_
    exact hq
  | inr x =>
    obtain ⟨h3, ⟨h8, h6, h7, h9⟩, hO, hA4⟩ := hP
    have hk4 := hO.2.2.1
    have hn7 := hT.2.2
    have hdef : wdR b ((List.range m).map f) (.inr x) = true ↔ x.1 = 1 ∧ (x.2.2.1 - x.2.1 = m ∧ ∀ i, i < x.2.2.1 - x.2.1 → b (x.2.1 + i) = f i) := by
      rw [wdR, decide_eq_true_iff, tkL, rmap_eq]
    rw [bI_c hdef] at hq
    have main : x.1 = 1 → x.2.2.1 - x.2.1 = m → ∀ q k, k + q = m → (∀ i, i < k → b (x.2.1 + i) = f i) → ew_G g kX2_isWord 5 35 [.ref t, .ref p, .int (nI k)] [] (tw t σ h) Q := by
      intro hx1 hm q
      have h10 := hO.2.2.2 hx1
      have h11 := hO.1
      have h12 := hO.2.1
      induction q with
      | zero =>
        intro k hk hi
        have e9 : k = m := by omega
        subst e9
        refine ew_ok (fun ho => ?_)
        have hst := hs ho
        have hst1 := hst
        obtain ⟨v, hh, hz, r1, -⟩ := hst1
        refine ew_iload_n (pc := 35) dX2_isWord_35 rfl ?_
        refine ew_aload_n (pc := 36) dX2_isWord_36 rfl ?_
        refine ew_cV0 (d' := 1) (pc := 37) vX2_109 r1 dX2_isWord_37 (by decide) (ew_rm (Nat.le_of_ble_eq_true rfl)) ?_
        refine t_length hg hst ?_
        refine ew_Kr ?_
        refine ew_icmp_ge (pc := 40) (tgt := 70) dX2_isWord_40 (by decide) (fun c40 => ?_) (fun c40 => absurd (nI_le (Nat.le_refl _) (by omega)) c40)
        refine ew_iconst (pc := 70) (v := 1) dX2_isWord_70 rfl ?_
        refine ew_zret (pc := 71) (ty := .boolean) rfl rfl dX2_isWord_71 ?_
        rw [bI_t ⟨hx1, hm, fun i h13 => hi i (by omega)⟩] at hq
        exact hq
      | succ q ih =>
        intro k hk hi
        refine ew_ok (fun ho => ?_)
        have hst := hs ho
        have hst1 := hst
        obtain ⟨v, hh, hz, r1, -⟩ := hst1
        refine ew_iload_n (pc := 35) dX2_isWord_35 rfl ?_
        refine ew_aload_n (pc := 36) dX2_isWord_36 rfl ?_
        refine ew_cV0 (d' := 1) (pc := 37) vX2_109 r1 dX2_isWord_37 (by decide) (ew_rm (Nat.le_of_ble_eq_true rfl)) ?_
        refine t_length hg hst ?_
        refine ew_Kr ?_
        refine ew_icmp_ge (pc := 40) (tgt := 70) dX2_isWord_40 (by decide) (fun c40 => absurd c40 (nI_ge (by omega) (by omega))) (fun c40 => ?_)
        refine ew_aload_n (pc := 43) dX2_isWord_43 rfl ?_
        refine tg_g1 (pc := 44) rfl dX2_isWord_44 ?_
        refine ew_aload_n (pc := 47) dX2_isWord_47 rfl ?_
        refine tg_g6 (pc := 48) rfl dX2_isWord_48 ?_
        refine ew_iload_n (pc := 51) dX2_isWord_51 rfl ?_
        refine ew_iadd (pc := 52) dX2_isWord_52 ?_
        refine tg_l1 (pc := 53) (j := x.2.1 + k) (by rw [h6]; exact nI_add _ _) (by omega) dX2_isWord_53 ?_
        rw [hT.1]
        refine ew_aload_n (pc := 54) dX2_isWord_54 rfl ?_
        refine ew_iload_n (pc := 55) dX2_isWord_55 rfl ?_
        refine ew_cV1 (d' := 4) (pc := 56) vX2_115 r1 dX2_isWord_56 (by decide) (ew_rm (Nat.le_of_ble_eq_true rfl)) ?_
        refine t_charAt hg hg2 hst (by omega) ?_
        refine ew_Kr ?_
        refine ew_icmp_eq (pc := 59) (tgt := 64) dX2_isWord_59 (by decide) (fun c59 => ?_) (fun c59 => ?_)
        · refine ew_iinc (pc := 64) dX2_isWord_64 rfl (nI_inc k) (by decide) (p1_2 rfl) ?_
          refine ew_goto (pc := 67) (tgt := 35) dX2_isWord_67 (by decide) ?_
          refine ih (k + 1) (by omega) (fun i h13 => ?_)
          by_cases e : i = k
          · rw [e]; exact c59
          · exact hi i (by omega)
        · refine ew_iconst (pc := 62) (v := 0) dX2_isWord_62 rfl ?_
          refine ew_zret (pc := 63) (ty := .boolean) rfl rfl dX2_isWord_63 ?_
          rw [bI_f (fun h13 => c59 (h13.2.2 k (by omega)))] at hq
          exact hq
    refine ew_enter (by decide +kernel) (ew_a1 rfl (ew_a1 rfl (ew_an ew_az))) (Nat.le_of_ble_eq_true rfl) ?_
    refine ew_ok (fun ho => ?_)
    have hst := hs ho
    have hst1 := hst
    obtain ⟨v, hh, hz, r1, -, hm31, -⟩ := hst1
    refine ew_aload_n (pc := 0) dX2_isWord_0 rfl ?_
    refine tg_g3 (pc := 1) rfl dX2_isWord_1 ?_
    rw [h3]
    refine ew_if_gt (pc := 4) (tgt := 31) dX2_isWord_4 (by decide) (fun c4 => absurd c4 (by decide)) (fun c4 => ?_)
    refine ew_aload_n (pc := 7) dX2_isWord_7 rfl ?_
    refine tg_g8 (pc := 8) rfl dX2_isWord_8 ?_
    refine ew_iconst (pc := 11) (v := 1) dX2_isWord_11 rfl ?_
    rw [h8]
    refine ew_icmp_ne (pc := 12) (tgt := 31) dX2_isWord_12 (by decide) (fun c12 => ?_) (fun c12 => ?_)
    · refine ew_iconst (pc := 31) (v := 0) dX2_isWord_31 rfl ?_
      refine ew_zret (pc := 32) (ty := .boolean) rfl rfl dX2_isWord_32 ?_
      first
      | rw [bI_f (fun h13 => c12 (by rw [h13.1]; decide))] at hq
        exact hq
      | rw [bI_f (fun h13 => c28 (by rw [h13.2.1]))] at hq
        exact hq
    · refine ew_aload_n (pc := 15) dX2_isWord_15 rfl ?_
      refine tg_g7 (pc := 16) rfl dX2_isWord_16 ?_
      refine ew_aload_n (pc := 19) dX2_isWord_19 rfl ?_
      refine tg_g6 (pc := 20) rfl dX2_isWord_20 ?_
      refine ew_isub (pc := 23) dX2_isWord_23 ?_
      rw [h6, h7, nI_sub hO.1]
      refine ew_aload_n (pc := 24) dX2_isWord_24 rfl ?_
      refine ew_cV0 (d' := 1) (pc := 25) vX2_109 r1 dX2_isWord_25 (by decide) (ew_rm (Nat.le_of_ble_eq_true rfl)) ?_
      refine t_length hg hst ?_
      refine ew_Kr ?_
      refine ew_icmp_eq (pc := 28) (tgt := 33) dX2_isWord_28 (by decide) (fun c28 => ?_) (fun c28 => ?_)
      · refine ew_iconst (pc := 33) (v := 0) dX2_isWord_33 rfl ?_
        refine ew_istore_n (pc := 34) dX2_isWord_34 rfl (by decide) (p1_2 rfl) ?_
        have hx1 : x.1 = 1 := (nI_eq (b := 1) (by omega) (by decide)).mp c12
        have hxm : x.2.2.1 - x.2.1 = m := (nI_eq (by have := hO.2.1; omega) hm31).mp c28
        exact main hx1 hxm m 0 (by omega) (fun i h13 => absurd h13 (Nat.not_lt_zero i))
      · refine ew_iconst (pc := 31) (v := 0) dX2_isWord_31 rfl ?_
        refine ew_zret (pc := 32) (ty := .boolean) rfl rfl dX2_isWord_32 ?_
        first
        | rw [bI_f (fun h13 => c12 (by rw [h13.1]; decide))] at hq
          exact hq
        | rw [bI_f (fun h13 => c28 (by rw [h13.2.1]))] at hq
          exact hq
theorem nuK_r {lo hi : Int32} {r : rs} {x : tok} (h : nuK lo hi r = .inr x) : r = .inr x ∧ x.1 = 2 ∧ lo ≤ x.2.2.2 ∧ x.2.2.2 ≤ hi := by
  obtain ⟨h1, h2⟩ := ckR_r h
  obtain ⟨h3, h4⟩ := ckR_r h1
  exact ⟨h3, h4, h2⟩
theorem t_num {g : eg} {h : eh} {t n : Nat} {σ : tS} {b : Nat → Int32} {lo hi : Int32} {r : rs} {Q : Outcome → eh → Prop} (hT : Tx σ b n) (hP : Ps σ b n r)
    (hq : ∀ σ', Fq [3, 4, 6, 7, 8, 9] σ σ' → Ps σ' b n (nuR b n lo hi r) → Q (.returned (some (.int (nuV lo hi r)))) (tw t σ' h)) : ew_T g kX2_number 2 [.ref t, .int lo, .int hi] (tw t σ h) Q := by
  have s44 : ∀ r2 σ1 x3, nuK lo hi r = r2 → Fq [3, 4] σ σ1 → Ps σ1 b n r2 → ew_G g kX2_number 2 44 [.ref t, .int lo, .int hi, x3] [] (tw t σ1 h) Q := by
    intro r2 σ1 x3 hr hF hP1
    cases r2 with
    | inl e =>
      have hP2 := hP1
      obtain ⟨h3, h0, h4⟩ := hP1
      refine ew_aload_n (pc := 44) dX2_number_44 rfl ?_
      refine tg_g3 (pc := 45) rfl dX2_number_45 ?_
      rw [h3]
      refine ew_if_ne (pc := 48) (tgt := 58) dX2_number_48 (by decide) (fun c48 => ?_) (fun c48 => absurd c48 (i_ne0 h0))
      refine ew_iload_n (pc := 58) dX2_number_58 rfl ?_
      refine ew_istore_n (pc := 59) dX2_number_59 rfl (by decide) (p1_3 rfl) ?_
      refine ew_aload_n (pc := 60) dX2_number_60 rfl ?_
      refine ew_cV0 (d' := 1) (pc := 61) vX2_122 (tw_ro _ _ _ _) dX2_number_61 (by decide) (ew_rm (Nat.le_of_ble_eq_true rfl)) ?_
      refine t_nxt (hT.fq hF rfl rfl) hP2 (fun σ2 F2 P2 => ?_)
      refine ew_Kv ?_
      refine ew_iload_n (pc := 64) dX2_number_64 rfl ?_
      refine ew_iret (pc := 65) rfl dX2_number_65 ?_
      have h9 := hq σ2 ((hF.w rfl).u F2 rfl) (by rw [nuR, hr]; exact P2)
      rw [nuV, hr] at h9
      exact h9
    | inr x =>
      have hP2 := hP1
      obtain ⟨h3, ⟨h8, h6, h7, h9⟩, hO, hA4⟩ := hP1
      have hx := nuK_r hr
      refine ew_aload_n (pc := 44) dX2_number_44 rfl ?_
      refine tg_g3 (pc := 45) rfl dX2_number_45 ?_
      rw [h3]
      refine ew_if_ne (pc := 48) (tgt := 58) dX2_number_48 (by decide) (fun c48 => absurd rfl c48) (fun c48 => ?_)
      refine ew_aload_n (pc := 51) dX2_number_51 rfl ?_
      refine tg_g9 (pc := 52) rfl dX2_number_52 ?_
      refine ew_goto (pc := 55) (tgt := 59) dX2_number_55 (by decide) ?_
      refine ew_istore_n (pc := 59) dX2_number_59 rfl (by decide) (p1_3 rfl) ?_
      refine ew_aload_n (pc := 60) dX2_number_60 rfl ?_
      refine ew_cV0 (d' := 1) (pc := 61) vX2_122 (tw_ro _ _ _ _) dX2_number_61 (by decide) (ew_rm (Nat.le_of_ble_eq_true rfl)) ?_
      refine t_nxt (hT.fq hF rfl rfl) hP2 (fun σ2 F2 P2 => ?_)
      refine ew_Kv ?_
      refine ew_iload_n (pc := 64) dX2_number_64 rfl ?_
      refine ew_iret (pc := 65) rfl dX2_number_65 ?_
      have h10 := hq σ2 ((hF.w rfl).u F2 rfl) (by rw [nuR, hr]; exact P2)
      rw [nuV, hr] at h10
      rw [h9 hx.2.1]
      exact h10
  have s20 : ∀ r1 σ1 x3, ckR 1 (fun x => x.1 = 2) r = r1 → Fq [3, 4] σ σ1 → Ps σ1 b n r1 → ew_G g kX2_number 2 20 [.ref t, .int lo, .int hi, x3] [] (tw t σ1 h) Q := by
    intro r1 σ1 x3 hr hF hP1
    cases r1 with
    | inl e =>
      have hP2 := hP1
      obtain ⟨h3, h0, h4⟩ := hP1
      refine ew_aload_n (pc := 20) dX2_number_20 rfl ?_
      refine tg_g3 (pc := 21) rfl dX2_number_21 ?_
      rw [h3]
      refine ew_if_ne (pc := 24) (tgt := 44) dX2_number_24 (by decide) (fun c24 => ?_) (fun c24 => absurd c24 (i_ne0 h0))
      exact s44 (.inl e) σ1 _ (by rw [nuK, hr]; rfl) hF hP2
    | inr x =>
      have hP2 := hP1
      obtain ⟨h3, ⟨h8, h6, h7, h9⟩, hO, hA4⟩ := hP1
      have hx := ckR_r hr
      refine ew_aload_n (pc := 20) dX2_number_20 rfl ?_
      refine tg_g3 (pc := 21) rfl dX2_number_21 ?_
      rw [h3]
      refine ew_if_ne (pc := 24) (tgt := 44) dX2_number_24 (by decide) (fun c24 => absurd rfl c24) (fun c24 => ?_)
      refine ew_aload_n (pc := 27) dX2_number_27 rfl ?_
      refine tg_g9 (pc := 28) rfl dX2_number_28 ?_
      rw [h9 hx.2]
      refine ew_iload_n (pc := 31) dX2_number_31 rfl ?_
      refine ew_iload_n (pc := 32) dX2_number_32 rfl ?_
      refine ew_cS3 (d' := 0) (pc := 33) sX2_102 dX2_number_33 (by decide) (ew_rm (Nat.le_of_ble_eq_true rfl)) ?_
      refine t_inT ?_
      refine ew_Kr ?_
      refine ew_if_ne (pc := 36) (tgt := 44) dX2_number_36 (by decide) (fun c36 => ?_) (fun c36 => ?_)
      · first
        | exact s44 (.inr x) σ1 _ (by rw [nuK, hr]; exact ckR_y (bI_n.mp c36)) hF hP2
        | exact s44 (.inl (2, x.2.1)) σ2 _ (by rw [nuK, hr]; exact ckR_n (bI_0.mp (Decidable.not_not.mp c36))) (hF.t1 F2) P2
        | exact s44 (.inl (2, x.2.1)) σ2 _ (by rw [nuK, hr]; exact ckR_n (bI_0.mp c36)) (hF.t1 F2) P2
      · refine ew_aload_n (pc := 39) dX2_number_39 rfl ?_
        refine ew_iconst (pc := 40) (v := 2) dX2_number_40 rfl ?_
        refine ew_cV1 (d' := 0) (pc := 41) vX2_119 (tw_ro _ _ _ _) dX2_number_41 (by decide) (ew_rm (Nat.le_of_ble_eq_true rfl)) ?_
        refine t_flt (by decide) hP2 (fun σ2 F2 P2 => ?_)
        refine ew_Kv ?_
        first
        | exact s44 (.inr x) σ1 _ (by rw [nuK, hr]; exact ckR_y (bI_n.mp c36)) hF hP2
        | exact s44 (.inl (2, x.2.1)) σ2 _ (by rw [nuK, hr]; exact ckR_n (bI_0.mp (Decidable.not_not.mp c36))) (hF.t1 F2) P2
        | exact s44 (.inl (2, x.2.1)) σ2 _ (by rw [nuK, hr]; exact ckR_n (bI_0.mp c36)) (hF.t1 F2) P2
  refine ew_enter (by decide +kernel) (ew_a1 rfl (ew_a1 rfl (ew_a1 rfl (ew_an ew_az)))) (Nat.le_of_ble_eq_true rfl) ?_
  cases r with
  | inl e =>
    have hP2 := hP
    obtain ⟨h3, h0, h4⟩ := hP
    refine ew_aload_n (pc := 0) dX2_number_0 rfl ?_
    refine tg_g3 (pc := 1) rfl dX2_number_1 ?_
    rw [h3]
    refine ew_if_ne (pc := 4) (tgt := 20) dX2_number_4 (by decide) (fun c4 => ?_) (fun c4 => absurd c4 (i_ne0 h0))
    exact s20 (.inl e) σ _ rfl (Fq.r _ _) hP2
  | inr x =>
    have hP2 := hP
    obtain ⟨h3, ⟨h8, h6, h7, h9⟩, hO, hA4⟩ := hP
    have hk4 := hO.2.2.1
    refine ew_aload_n (pc := 0) dX2_number_0 rfl ?_
    refine tg_g3 (pc := 1) rfl dX2_number_1 ?_
    rw [h3]
    refine ew_if_ne (pc := 4) (tgt := 20) dX2_number_4 (by decide) (fun c4 => absurd rfl c4) (fun c4 => ?_)
    refine ew_aload_n (pc := 7) dX2_number_7 rfl ?_
    refine tg_g8 (pc := 8) rfl dX2_number_8 ?_
    refine ew_iconst (pc := 11) (v := 2) dX2_number_11 rfl ?_
    rw [h8]
    refine ew_icmp_eq (pc := 12) (tgt := 20) dX2_number_12 (by decide) (fun c12 => ?_) (fun c12 => ?_)
    · first
      | exact s20 (.inr x) σ _ (ckR_y ((nI_eq (b := 2) (by omega) (by decide)).mp c12)) (Fq.r _ _) hP2
      | exact s20 (.inl (1, x.2.1)) σ2 _ (ckR_n (fun h9 => c12 (by rw [h9]; decide))) F2 P2
    · refine ew_aload_n (pc := 15) dX2_number_15 rfl ?_
      refine ew_iconst (pc := 16) (v := 1) dX2_number_16 rfl ?_
      refine ew_cV1 (d' := 0) (pc := 17) vX2_119 (tw_ro _ _ _ _) dX2_number_17 (by decide) (ew_rm (Nat.le_of_ble_eq_true rfl)) ?_
      refine t_flt (by decide) hP2 (fun σ2 F2 P2 => ?_)
      refine ew_Kv ?_
      first
      | exact s20 (.inr x) σ _ (ckR_y ((nI_eq (b := 2) (by omega) (by decide)).mp c12)) (Fq.r _ _) hP2
      | exact s20 (.inl (1, x.2.1)) σ2 _ (ckR_n (fun h9 => c12 (by rw [h9]; decide))) F2 P2
