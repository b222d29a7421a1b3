/-! EW: the queue gives -/
set_option maxRecDepth 100000
section
variable {g : eg} {h : eh} {Q : Outcome → eh → Prop}
theorem t_siftDnN {E c cap x n : Nat} {V : List qd} {v : drp} {f : Nat → Option Nat} (hn : n = V.length) (hE : h.1 E = some (aR 5 cap f)) (hc : rd g h c = some (ob 13 [])) (hk : V[0]? = some (x, v)) (hl : V.length ≤ cap) (hcap : cap < 2 ^ 20) (hf : agq cap f V 0) (hob : ∀ p, p ∈ V → h.1 p.1 = some (drO p.2)) (H : hpD V 0) (hq : ∀ V' F, V'.Perm V → hpO V' → agf cap F V' → Q (.returned none) (eh_set h E (aR 5 cap F))) : ew_T g kJ29_siftDownUsingComparator 11 [.int 0, .ref x, .ref E, .int (nI n), .ref c] h Q := by
  subst hn
  exact t_siftDnC hE hc hk hl hcap hf hob H hq
theorem t_pqNone {q E c cap : Nat} (hcap : cap < 2 ^ 20) (P : PQ g h q E c cap []) (hq : Q (.returned (some .null)) h) : ew_T g kJ29_poll 12 [.ref q] h Q := by
  obtain ⟨mc, f, h1, hE, hc, hl, h11, hf, hob, H⟩ := P
  have f0 : f 0 = none := hf 0 (by omega)
  refine ew_enter (by decide +kernel) (ew_a1 rfl (ew_an (ew_an (ew_an (ew_an (ew_an ew_az)))))) (Nat.le_of_ble_eq_true rfl) ?_
  refine ew_aload_n (pc := 0) dJ29_poll_0 rfl ?_
  refine ew_getf (pc := 1) fJ29_17 (rd_of h1) rfl dJ29_poll_1 ?_
  refine ew_dup (pc := 4) dJ29_poll_4 rfl ?_
  first | refine ew_astore_n (pc := 5) dJ29_poll_5 rfl (by decide) (p1_1 rfl) ?_ | refine ew_astore_nq (pc := 5) dJ29_poll_5 rfl (by decide) (p1_1 rfl) ?_ | refine ew_astore_nN (pc := 5) dJ29_poll_5 rfl (by decide) (p1_1 rfl) ?_
  refine ew_iconst (pc := 6) (v := 0) dJ29_poll_6 rfl ?_
  refine ew_aaJ (pc := 7) rfl (rd_of hE) (j := 0) rfl (by omega) (by omega) dJ29_poll_7 ?_
  rw [f0]
  refine ew_dup (pc := 8) dJ29_poll_8 rfl ?_
  first | refine ew_astore_n (pc := 9) dJ29_poll_9 rfl (by decide) (p1_2 rfl) ?_ | refine ew_astore_nq (pc := 9) dJ29_poll_9 rfl (by decide) (p1_2 rfl) ?_ | refine ew_astore_nN (pc := 9) dJ29_poll_9 rfl (by decide) (p1_2 rfl) ?_
  refine ew_ifnullN (pc := 10) (tgt := 79) dJ29_poll_10 (by decide) ?_
  first | refine ew_aload_n (pc := 79) dJ29_poll_79 rfl ?_ | refine ew_aload_nq (pc := 79) dJ29_poll_79 rfl ?_ | refine ew_aload_nN (pc := 79) dJ29_poll_79 rfl ?_
  refine ew_aret (pc := 80) rfl (Or.inl ⟨_, rfl⟩) (Or.inl rfl) dJ29_poll_80 ?_
  exact hq
theorem t_pqPoll {q E c cap : Nat} {W : List qd} {v : qd} (P : PQ g h q E c cap (v :: W)) (hcap : cap < 2 ^ 20)
    (hq : ∀ h' V', PQ g h' q E c cap V' → V'.Perm W → (∀ p, p ∈ W → kD v.2 ≤ kD p.2) → Ke [q, E] 0 0 h h' → (∀ y w, h.1 y = some (drO w) → h'.1 y = some (drO w)) → Q (.returned (some (.ref v.1))) h') : ew_T g kJ29_poll 12 [.ref q] h Q := by
  obtain ⟨mc, f, h1, hE, hc, hl, h11, hf, hob, H⟩ := P
  have hqE : q ≠ E := fun e => by
    rw [e, hE] at h1
    cases h1
  have hcq : c ≠ q := fun e => by
    rw [e, h1] at hc
    cases hc
  have hcE : c ≠ E := fun e => by
    rw [e, hE] at hc
    cases hc
  have dro : ∀ y w, h.1 y = some (drO w) → y ≠ q ∧ y ≠ E := fun y w h9 => ⟨fun e => (by rw [e, h1] at h9; cases h9), fun e => (by rw [e, hE] at h9; cases h9)⟩
  have f0 : f 0 = some v.1 := hf 0 (by omega)
  have hlen : (v :: W).length = W.length + 1 := List.length_cons
  have hmin : ∀ p, p ∈ W → kD v.2 ≤ kD p.2 := fun p hp => H.least (v := v) rfl (List.mem_cons_of_mem _ hp)
  have vo := hob v List.mem_cons_self
  have j1 := se_1 h q (ob 22 [.ref E, .int (nI (v :: W).length), .ref c, .int (mc + 1)])
  have j2 := se_1 h q (ob 22 [.ref E, .int (nI W.length), .ref c, .int (mc + 1)])
  have jE := sn_1 (e := ob 22 [.ref E, .int (nI W.length), .ref c, .int (mc + 1)]) hE (fun e => hqE e.symm)
  have jc := sn_1 (e := ob 22 [.ref E, .int (nI W.length), .ref c, .int (mc + 1)]) hc hcq
  have e23 : ∀ st1, ew_G g kJ29_poll 12 35 [.ref q, .ref E, .ref v.1, no_, no_, no_] [.int (nI W.length), .ref E] (eh_set h q (ob 22 [.ref E, .int (nI W.length), .ref c, .int (mc + 1)])) Q → st1 = nI (v :: W).length → ew_G g kJ29_poll 12 0 [.ref q, no_, no_, no_, no_, no_] [] h Q := by
    intro st1 k hst
    refine ew_aload_n (pc := 0) dJ29_poll_0 rfl ?_
    refine ew_getf (pc := 1) fJ29_17 (rd_of h1) rfl dJ29_poll_1 ?_
    refine ew_dup (pc := 4) dJ29_poll_4 rfl ?_
    first | refine ew_astore_n (pc := 5) dJ29_poll_5 rfl (by decide) (p1_1 rfl) ?_ | refine ew_astore_nq (pc := 5) dJ29_poll_5 rfl (by decide) (p1_1 rfl) ?_ | refine ew_astore_nN (pc := 5) dJ29_poll_5 rfl (by decide) (p1_1 rfl) ?_
    refine ew_iconst (pc := 6) (v := 0) dJ29_poll_6 rfl ?_
    refine ew_aaJ (pc := 7) rfl (rd_of hE) (j := 0) rfl (by omega) (by omega) dJ29_poll_7 ?_
    rw [f0]
    refine ew_dup (pc := 8) dJ29_poll_8 rfl ?_
    first | refine ew_astore_n (pc := 9) dJ29_poll_9 rfl (by decide) (p1_2 rfl) ?_ | refine ew_astore_nq (pc := 9) dJ29_poll_9 rfl (by decide) (p1_2 rfl) ?_ | refine ew_astore_nN (pc := 9) dJ29_poll_9 rfl (by decide) (p1_2 rfl) ?_
    refine ew_ifnull (pc := 10) dJ29_poll_10 ?_
    refine ew_aload_n (pc := 13) dJ29_poll_13 rfl ?_
    refine ew_dup (pc := 14) dJ29_poll_14 rfl ?_
    refine ew_getf (pc := 15) fJ29_93 (rd_of h1) rfl dJ29_poll_15 ?_
    refine ew_iconst (pc := 18) (v := 1) dJ29_poll_18 rfl ?_
    refine ew_iadd (pc := 19) dJ29_poll_19 ?_
    refine ew_putf (pc := 20) pJ29_93 h1 st_3 (Nat.le_of_ble_eq_true rfl) rfl rfl (fun h9 => absurd h9 Bool.false_ne_true) dJ29_poll_20 ?_
    refine ew_aload_n (pc := 23) dJ29_poll_23 rfl ?_
    refine ew_aload_n (pc := 24) dJ29_poll_24 rfl ?_
    refine ew_dup (pc := 25) dJ29_poll_25 rfl ?_
    refine ew_getf (pc := 26) fJ29_58 (rd_of j1) rfl dJ29_poll_26 ?_
    refine ew_iconst (pc := 29) (v := 1) dJ29_poll_29 rfl ?_
    refine ew_isub (pc := 30) dJ29_poll_30 ?_
    rw [hlen, show nI (W.length + 1) - 1 = nI W.length by rw [nI_sub1 (by omega), Nat.add_sub_cancel]]
    refine ew_dup_x1 (pc := 31) dJ29_poll_31 rfl rfl ?_
    refine ew_putf (pc := 32) pJ29_58 j1 st_1 (Nat.le_of_ble_eq_true rfl) rfl rfl (fun h9 => absurd h9 Bool.false_ne_true) dJ29_poll_32 ?_
    rw [ew_ss]
    exact k
  refine ew_enter (by decide +kernel) (ew_a1 rfl (ew_an (ew_an (ew_an (ew_an (ew_an ew_az)))))) (Nat.le_of_ble_eq_true rfl) ?_
  refine e23 _ ?_ rfl
  rcases List.eq_nil_or_concat W with hW | ⟨W2, l, hW⟩
  · have f1 : f W.length = some v.1 := by rw [hW]; exact f0
    have jE2 := se_1 (eh_set h q (ob 22 [.ref E, .int (nI W.length), .ref c, .int (mc + 1)])) E (aR 5 cap (va_up f W.length none))
    refine ew_dup (pc := 35) dJ29_poll_35 rfl ?_
    refine ew_istore_n (pc := 36) dJ29_poll_36 rfl (by decide) (p1_3 rfl) ?_
    refine ew_aaJ (pc := 37) rfl (rd_of jE) (j := W.length) rfl (by omega) (by omega) dJ29_poll_37 ?_
    rw [f1]
    first | refine ew_astore (pc := 38) dJ29_poll_38 (by decide) (p1_4 rfl) ?_ | refine ew_astoreq (pc := 38) dJ29_poll_38 (by decide) (p1_4 rfl) ?_ | refine ew_astoreN (pc := 38) dJ29_poll_38 (by decide) (p1_4 rfl) ?_
    refine ew_aload_n (pc := 40) dJ29_poll_40 rfl ?_
    refine ew_iload_n (pc := 41) dJ29_poll_41 rfl ?_
    refine ew_null (pc := 42) dJ29_poll_42 ?_
    refine ew_aaN (pc := 43) rfl jE  (j := W.length) rfl (by omega) (by omega) dJ29_poll_43 ?_
    refine ew_iload_n (pc := 44) dJ29_poll_44 rfl ?_
    refine ew_if_le (pc := 45) (tgt := 79) dJ29_poll_45 (by decide) (fun c45 => ?_) (fun c45 => absurd (by rw [hW]; decide) c45)
    refine ew_aload_n (pc := 79) dJ29_poll_79 rfl ?_
    refine ew_aret (pc := 80) rfl (Or.inl ⟨_, rfl⟩) (Or.inr ⟨_, rfl⟩) dJ29_poll_80 ?_
    refine hq _ [] ⟨mc + 1, va_up f W.length none, ?_, jE2, sn_1 jc hcE, by rw [List.length_nil]; omega, h11, fun i hi => ?_, fun p h9 => absurd h9 List.not_mem_nil, fun i h9 h8 => absurd h8 (Nat.not_lt_zero i)⟩ (by rw [hW]) hmin ?_ (fun y w h9 => sn_1 (sn_1 h9 (dro y w h9).1) (dro y w h9).2)
    · rw [hW]; rw [hW] at j2; exact sn_1 j2 hqE
    · show (if i = W.length then none else f i) = _
      by_cases e : i = W.length
      · rw [if_pos e]; rfl
      · rw [if_neg e, hf i hi, List.getElem?_eq_none (by rw [hlen]; rw [hW] at e ⊢; rw [List.length_nil] at e ⊢; omega)]; rfl
    · exact Ke.set.t Ke.set (fun b h9 _ => by rw [List.mem_singleton.mp h9]; exact List.mem_cons_self) (fun b h9 _ => by rw [List.mem_singleton.mp h9]; simp) (by decide) (by decide)
  · rw [List.concat_eq_append] at hW
    have hl2 : W.length = W2.length + 1 := by rw [hW, List.length_append]; rfl
    have f1 : f W.length = some l.1 := by
      rw [hf _ (by omega), hl2, List.getElem?_cons_succ, hW, List.getElem?_append_right (Nat.le_refl _), Nat.sub_self]
      rfl
    have lo := hob l (by rw [hW]; simp)
    have jl := sn_1 (e := ob 22 [.ref E, .int (nI W.length), .ref c, .int (mc + 1)]) lo (dro _ _ lo).1
    have jE2 := se_1 (eh_set h q (ob 22 [.ref E, .int (nI W.length), .ref c, .int (mc + 1)])) E (aR 5 cap (va_up f W.length none))
    have jc2 := sn_1 (e := aR 5 cap (va_up f W.length none)) jc hcE
    have j22 := sn_1 (e := aR 5 cap (va_up f W.length none)) j2 hqE
    have ob2 : ∀ p, p ∈ l :: W2 → (eh_set (eh_set h q (ob 22 [.ref E, .int (nI W.length), .ref c, .int (mc + 1)])) E (aR 5 cap (va_up f W.length none))).1 p.1 = some (drO p.2) := fun p h9 => by
      have h8 := hob p (List.mem_cons_of_mem _ (by rw [hW]; exact front_perm.mem_iff.mp h9))
      exact sn_1 (sn_1 h8 (dro _ _ h8).1) (dro _ _ h8).2
    have ag2 : agq cap (va_up f W.length none) (l :: W2) 0 := fun i hi hne => by
      show (if i = W.length then none else f i) = _
      obtain ⟨i, rfl⟩ : ∃ j, i = j + 1 := ⟨i - 1, by omega⟩
      by_cases e : i + 1 = W.length
      · rw [if_pos e, List.getElem?_eq_none (by rw [List.length_cons]; omega)]; rfl
      · rw [if_neg e, hf _ hi, List.getElem?_cons_succ, List.getElem?_cons_succ, hW]
        by_cases e2 : i < W2.length
        · rw [List.getElem?_append_left e2]
        · rw [List.getElem?_eq_none (by rw [List.length_append, List.length_singleton]; omega), List.getElem?_eq_none (by omega)]
    have HD : hpD (l :: W2) 0 := hpO.front (v := v) (by rw [← hW]; exact H)
    refine ew_dup (pc := 35) dJ29_poll_35 rfl ?_
    refine ew_istore_n (pc := 36) dJ29_poll_36 rfl (by decide) (p1_3 rfl) ?_
    refine ew_aaJ (pc := 37) rfl (rd_of jE) (j := W.length) rfl (by omega) (by omega) dJ29_poll_37 ?_
    rw [f1]
    first | refine ew_astore (pc := 38) dJ29_poll_38 (by decide) (p1_4 rfl) ?_ | refine ew_astoreq (pc := 38) dJ29_poll_38 (by decide) (p1_4 rfl) ?_ | refine ew_astoreN (pc := 38) dJ29_poll_38 (by decide) (p1_4 rfl) ?_
    refine ew_aload_n (pc := 40) dJ29_poll_40 rfl ?_
    refine ew_iload_n (pc := 41) dJ29_poll_41 rfl ?_
    refine ew_null (pc := 42) dJ29_poll_42 ?_
    refine ew_aaN (pc := 43) rfl jE  (j := W.length) rfl (by omega) (by omega) dJ29_poll_43 ?_
    refine ew_iload_n (pc := 44) dJ29_poll_44 rfl ?_
    refine ew_if_le (pc := 45) (tgt := 79) dJ29_poll_45 (by decide) (fun c45 => absurd c45 (nI_nle (by omega) (by omega))) (fun c45 => ?_)
    refine ew_aload_n (pc := 48) dJ29_poll_48 rfl ?_
    refine ew_getf (pc := 49) fJ29_21 (rd_of j22) rfl dJ29_poll_49 ?_
    refine ew_dup (pc := 52) dJ29_poll_52 rfl ?_
    first | refine ew_astore (pc := 53) dJ29_poll_53 (by decide) (p1_5 rfl) ?_ | refine ew_astoreq (pc := 53) dJ29_poll_53 (by decide) (p1_5 rfl) ?_ | refine ew_astoreN (pc := 53) dJ29_poll_53 (by decide) (p1_5 rfl) ?_
    refine ew_ifnonnull (pc := 55) (tgt := 69) dJ29_poll_55 (by decide) ?_
    refine ew_iconst (pc := 69) (v := 0) dJ29_poll_69 rfl ?_
    first | refine ew_aload (pc := 70) dJ29_poll_70 rfl ?_ | refine ew_aloadq (pc := 70) dJ29_poll_70 rfl ?_ | refine ew_aloadN (pc := 70) dJ29_poll_70 rfl ?_
    refine ew_aload_n (pc := 72) dJ29_poll_72 rfl ?_
    refine ew_iload_n (pc := 73) dJ29_poll_73 rfl ?_
    refine ew_aload (pc := 74) dJ29_poll_74 rfl ?_
    refine ew_cS5 (d' := 11) (pc := 76) sJ29_129 dJ29_poll_76 (by decide) (ew_rm (Nat.le_of_ble_eq_true rfl)) ?_
    refine t_siftDnN (V := l :: W2) (n := W.length) (hl2.trans List.length_cons.symm) jE2 (rd_of jc2) rfl (by rw [List.length_cons]; omega) hcap ag2 ob2 HD (fun V' F q1 q2 q3 => ?_)
    have hl4 := q1.length_eq
    rw [List.length_cons] at hl4
    refine ew_Kv ?_
    refine ew_aload_n (pc := 79) dJ29_poll_79 rfl ?_
    refine ew_aret (pc := 80) rfl (Or.inl ⟨_, rfl⟩) (Or.inr ⟨_, rfl⟩) dJ29_poll_80 ?_
    rw [ew_ss]
    refine hq _ V' ⟨mc + 1, F, ?_, se_1 _ _ _, sn_1 jc hcE, by omega, h11, q3, fun p h9 => ?_, q2⟩ (q1.trans (by rw [hW]; exact front_perm)) hmin ?_ (fun y w h9 => sn_1 (sn_1 h9 (dro y w h9).1) (dro y w h9).2)
    · rw [hl4, ← hl2]; exact sn_1 j2 hqE
    · have h8 := hob p (List.mem_cons_of_mem _ (by rw [hW]; exact front_perm.mem_iff.mp (q1.mem_iff.mp h9)))
      exact sn_1 (sn_1 h8 (dro _ _ h8).1) (dro _ _ h8).2
    · exact Ke.set.t Ke.set (fun b h9 _ => by rw [List.mem_singleton.mp h9]; exact List.mem_cons_self) (fun b h9 _ => by rw [List.mem_singleton.mp h9]; simp) (by decide) (by decide)
end
