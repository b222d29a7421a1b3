/-! EW: the queue takes and gives -/
set_option maxRecDepth 100000
section
variable {g : eg} {h : eh} {Q : Outcome → eh → Prop}
theorem t_siftUpQ {q k E c cap x : Nat} {V : List qd} {v : drp} {s mc : Int32} {f : Nat → Option Nat} (h1 : h.1 q = some (ob 22 [.ref E, .int s, .ref c, .int mc])) (hE : h.1 E = some (aR 5 cap f)) (hc : h.1 c = some (ob 13 [])) (hk : V[k]? = some (x, v)) (hl : V.length ≤ cap) (hcap : cap < 2 ^ 20) (hf : agq cap f V k) (hob : ∀ p, p ∈ V → h.1 p.1 = some (drO p.2)) (H : hpU V k) (hq : ∀ V' F, V'.Perm V → hpO V' → agf cap F V' → Q (.returned none) (eh_set h E (aR 5 cap F))) : ew_T g kJ29_siftUp 12 [.ref q, .int (nI k), .ref x] h Q := by
  have hxo := hob _ (List.mem_of_getElem? hk)
  refine ew_enter (by decide +kernel) (ew_a1 rfl (ew_a1 rfl (ew_a1 rfl ew_az))) (Nat.le_of_ble_eq_true rfl) ?_
  refine ew_aload_n (pc := 0) dJ29_siftUp_0 rfl ?_
  refine ew_getf (pc := 1) fJ29_21 (rd_of h1) rfl dJ29_siftUp_1 ?_
  refine ew_ifnull (pc := 4) dJ29_siftUp_4 ?_
  refine ew_iload_n (pc := 7) dJ29_siftUp_7 rfl ?_
  refine ew_aload_n (pc := 8) dJ29_siftUp_8 rfl ?_
  refine ew_aload_n (pc := 9) dJ29_siftUp_9 rfl ?_
  refine ew_getf (pc := 10) fJ29_17 (rd_of h1) rfl dJ29_siftUp_10 ?_
  refine ew_aload_n (pc := 13) dJ29_siftUp_13 rfl ?_
  refine ew_getf (pc := 14) fJ29_21 (rd_of h1) rfl dJ29_siftUp_14 ?_
  refine ew_cS4 (d' := 11) (pc := 17) sJ29_136 dJ29_siftUp_17 (by decide) (ew_rm (Nat.le_of_ble_eq_true rfl)) ?_
  refine t_siftUpC hE (rd_of hc) hk hl hcap hf hob H (fun V' F q1 q2 q3 => ?_)
  refine ew_Kv ?_
  refine ew_goto (pc := 20) (tgt := 32) dJ29_siftUp_20 (by decide) ?_
  refine ew_vret (pc := 32) rfl dJ29_siftUp_32 ?_
  exact hq V' F q1 q2 q3
theorem t_pqAdd {q E c cap x : Nat} {V : List qd} {v : drp} (hg : gOC g) (hM : gOM g) (P : PQ g h q E c cap V) (hx : h.1 x = some (drO v)) (hcap : cap < 2 ^ 17)
    (hq : ∀ h' E' cap' k s V', PQ g h' q E' c cap' V' → V'.Perm ((x, v) :: V) → (E' = E ∨ h.2.1 ≤ E') → cap + k ≤ cap' → 4 * cap + s ≤ 4 * cap' → cap' ≤ max cap (2 * V.length + 2) → Ke [q, E] k s h h' → (∀ y w, h.1 y = some (drO w) → h'.1 y = some (drO w)) → Q (.returned (some (.int 1))) h') : ew_T g kJ29_add 17 [.ref q, .ref x] h Q := by
  obtain ⟨mc, f, h1, hE, hc, hl, h11, hf, hob, H⟩ := P
  have hqE : q ≠ E := fun e => by
    rw [e, hE] at h1
    cases h1
  have hcq : c ≠ q := fun e => by
    rw [e, h1] at hc
    cases hc
  have hxq : x ≠ q := fun e => by
    rw [e, h1] at hx
    cases hx
  have hxE : x ≠ E := fun e => by
    rw [e, hE] at hx
    cases hx
  have hpm : ∀ (V' : List qd), V'.Perm (V ++ [(x, v)]) → V'.Perm ((x, v) :: V) := fun V' h9 => h9.trans (List.perm_append_singleton (x, v) V)
  have dro : ∀ y w, h.1 y = some (drO w) → y ≠ q ∧ y ≠ E := fun y w h9 => ⟨fun e => (by rw [e, h1] at h9; cases h9), fun e => (by rw [e, hE] at h9; cases h9)⟩
  have of : ∀ Q : Outcome → eh → Prop, (∀ h' E' cap' k s V', PQ g h' q E' c cap' V' → V'.Perm ((x, v) :: V) → (E' = E ∨ h.2.1 ≤ E') → cap + k ≤ cap' → 4 * cap + s ≤ 4 * cap' → cap' ≤ max cap (2 * V.length + 2) → Ke [q, E] k s h h' → (∀ y w, h.1 y = some (drO w) → h'.1 y = some (drO w)) → Q (.returned (some (.int 1))) h') → ew_T g kJ29_offer 16 [.ref q, .ref x] h Q := by
    intro Q hq
    refine ew_enter (by decide +kernel) (ew_a1 rfl (ew_a1 rfl (ew_an ew_az))) (Nat.le_of_ble_eq_true rfl) ?_
    refine ew_ok (fun ho => ?_)
    have s43 : ∀ h2 E2 cap2 k s F x3, h2.1 q = some (ob 22 [.ref E2, .int (nI V.length), .ref c, .int (mc + 1)]) → h2.1 E2 = some (aR 5 cap2 F) → agf cap2 F V → V.length < cap2 → cap2 < 2 ^ 20 → 11 ≤ cap2 → h2.1 c = some (ob 13 []) → (∀ y w, h.1 y = some (drO w) → h2.1 y = some (drO w)) → (E2 = E ∨ h.2.1 ≤ E2) → cap + k ≤ cap2 → 4 * cap + s ≤ 4 * cap2 → cap2 ≤ max cap (2 * V.length + 2) → Ke [q] k s h h2 → x3 = nI V.length → ew_G g kJ29_offer 16 43 [.ref q, .ref x, .int x3] [] h2 Q := by
      intro h2 E2 cap2 k s F x3 a1 a2 a3 a4 a5 a6 a7 a8 a9 b1 b2 b3 b4 hx3
      subst hx3
      have hlen : (V ++ [(x, v)]).length = V.length + 1 := by rw [List.length_append]; rfl
      have hkk : (V ++ [(x, v)])[V.length]? = some (x, v) := by rw [List.getElem?_append_right (Nat.le_refl _), Nat.sub_self]; rfl
      have hqE2 : q ≠ E2 := fun e => by
        rw [e, a2] at a1
        cases a1
      have hcq2 : c ≠ E2 := fun e => by
        rw [e, a2] at a7
        cases a7
      have hob2 : ∀ p, p ∈ V ++ [(x, v)] → h2.1 p.1 = some (drO p.2) := fun p h9 => by
        rcases List.mem_append.mp h9 with h8 | h8
        · exact a8 _ _ (hob p h8)
        · rw [List.mem_singleton.mp h8]; exact a8 _ _ hx
      have ag2 : agq cap2 F (V ++ [(x, v)]) V.length := fun i hi hne => by
        rw [a3 i hi]
        by_cases h9 : i < V.length
        · rw [List.getElem?_append_left h9]
        · rw [List.getElem?_eq_none (by omega), List.getElem?_eq_none (by omega)]
      refine ew_aload_n (pc := 43) dJ29_offer_43 rfl ?_
      refine ew_iload_n (pc := 44) dJ29_offer_44 rfl ?_
      refine ew_aload_n (pc := 45) dJ29_offer_45 rfl ?_
      refine ew_cV2 (d' := 12) (pc := 46) vJ29_100 (rd_of a1) dJ29_offer_46 (by decide) (ew_rm (Nat.le_of_ble_eq_true rfl)) ?_
      refine t_siftUpQ a1 a2 a7 hkk (by omega) a5 ag2 hob2 (H.app _) (fun V' F' q1 q2 q3 => ?_)
      have hl' := q1.length_eq
      have a12 : (eh_set h2 E2 (aR 5 cap2 F')).1 q = some (ob 22 [.ref E2, .int (nI V.length), .ref c, .int (mc + 1)]) := sn_1 a1 hqE2
      refine ew_Kv ?_
      refine ew_aload_n (pc := 49) dJ29_offer_49 rfl ?_
      refine ew_iload_n (pc := 50) dJ29_offer_50 rfl ?_
      refine ew_iconst (pc := 51) (v := 1) dJ29_offer_51 rfl ?_
      refine ew_iadd (pc := 52) dJ29_offer_52 ?_
      rw [show nI V.length + 1 = nI (V.length + 1) from nI_add _ _]
      refine ew_putf (pc := 53) pJ29_58 a12 st_1 (Nat.le_of_ble_eq_true rfl) rfl rfl (fun h9 => absurd h9 Bool.false_ne_true) dJ29_offer_53 ?_
      refine ew_iconst (pc := 56) (v := 1) dJ29_offer_56 rfl ?_
      refine ew_zret (pc := 57) (ty := .boolean) rfl rfl dJ29_offer_57 ?_
      refine hq _ E2 cap2 k s V' ⟨mc + 1, F', ?_, sn_1 (se_1 _ _ _) (fun e => hqE2 e.symm), sn_1 (sn_1 a7 hcq2) hcq, by omega, a6, q3, fun p h9 => ?_, q2⟩ (hpm _ q1) a9 b1 b2 b3 ?_ (fun y w h9 => ?_)
      · rw [hl', hlen]; exact se_1 _ _ _
      · have h8 := hob2 p (q1.mem_iff.mp h9)
        refine sn_1 (sn_1 h8 (fun e => ?_)) (fun e => ?_)
        · rw [e, a2] at h8; cases h8
        · rw [e, a1] at h8; cases h8
      · refine (b4.t Ke.set (A := [q, E]) (c := k) (s := s) (fun b h9 _ => by rw [List.mem_singleton.mp h9]; exact List.mem_cons_self) (fun b h9 h8 => ?_) (by omega) (by omega)).t Ke.set (fun b h9 _ => h9) (fun b h9 _ => by rw [List.mem_singleton.mp h9]; exact List.mem_cons_self) (by omega) (by omega)
        rw [List.mem_singleton.mp h9] at h8 ⊢
        rcases a9 with e | e
        · rw [e]; simp
        · omega
      · have h8 := a8 y w h9
        refine sn_1 (sn_1 h8 (fun e => ?_)) (fun e => ?_)
        · rw [e, a2] at h8; cases h8
        · rw [e, a1] at h8; cases h8
    have j1 := se_1 h q (ob 22 [.ref E, .int (nI V.length), .ref c, .int (mc + 1)])
    have j2 : (eh_set h q (ob 22 [.ref E, .int (nI V.length), .ref c, .int (mc + 1)])).1 E = some (aR 5 cap f) := sn_1 hE (fun e => hqE e.symm)
    have hob1 : ∀ y w, h.1 y = some (drO w) → (eh_set h q (ob 22 [.ref E, .int (nI V.length), .ref c, .int (mc + 1)])).1 y = some (drO w) := fun y w h9 => sn_1 h9 (dro y w h9).1
    have hcn : (eh_set h q (ob 22 [.ref E, .int (nI V.length), .ref c, .int (mc + 1)])).1 c = some (ob 13 []) := sn_1 hc hcq
    by_cases hfull : V.length < cap
    · skip
      refine ew_aload_n (pc := 0) dJ29_offer_0 rfl ?_
      refine ew_ifnonnull (pc := 1) (tgt := 12) dJ29_offer_1 (by decide) ?_
      refine ew_aload_n (pc := 12) dJ29_offer_12 rfl ?_
      refine ew_dup (pc := 13) dJ29_offer_13 rfl ?_
      refine ew_getf (pc := 14) fJ29_93 (rd_of h1) rfl dJ29_offer_14 ?_
      refine ew_iconst (pc := 17) (v := 1) dJ29_offer_17 rfl ?_
      refine ew_iadd (pc := 18) dJ29_offer_18 ?_
      refine ew_putf (pc := 19) pJ29_93 h1 st_3 (Nat.le_of_ble_eq_true rfl) rfl rfl (fun h9 => absurd h9 Bool.false_ne_true) dJ29_offer_19 ?_
      refine ew_aload_n (pc := 22) dJ29_offer_22 rfl ?_
      refine ew_getf (pc := 23) fJ29_58 (rd_of j1) rfl dJ29_offer_23 ?_
      refine ew_istore_n (pc := 26) dJ29_offer_26 rfl (by decide) (p1_2 rfl) ?_
      refine ew_iload_n (pc := 27) dJ29_offer_27 rfl ?_
      refine ew_aload_n (pc := 28) dJ29_offer_28 rfl ?_
      refine ew_getf (pc := 29) fJ29_17 (rd_of j1) rfl dJ29_offer_29 ?_
      refine ew_alen (pc := 32) (rd_of j2) rfl dJ29_offer_32 ?_
      rw [show Int32.ofNat cap = nI cap from rfl]
      refine ew_icmp_lt (pc := 33) (tgt := 43) dJ29_offer_33 (by decide) (fun c33 => ?_) (fun c33 => absurd (nI_lt hfull (by omega)) c33)
      exact s43 _ E cap 0 0 f _ j1 j2 hf hfull (by omega) h11 hcn hob1 (Or.inl rfl) (by omega) (by omega) (Nat.le_max_left _ _) Ke.set rfl
    · have e9 : V.length = cap := by omega
      have ho1 : eh_ok g (eh_set h q (ob 22 [.ref E, .int (nI V.length), .ref c, .int (mc + 1)])) := ho.set h1
      refine ew_aload_n (pc := 0) dJ29_offer_0 rfl ?_
      refine ew_ifnonnull (pc := 1) (tgt := 12) dJ29_offer_1 (by decide) ?_
      refine ew_aload_n (pc := 12) dJ29_offer_12 rfl ?_
      refine ew_dup (pc := 13) dJ29_offer_13 rfl ?_
      refine ew_getf (pc := 14) fJ29_93 (rd_of h1) rfl dJ29_offer_14 ?_
      refine ew_iconst (pc := 17) (v := 1) dJ29_offer_17 rfl ?_
      refine ew_iadd (pc := 18) dJ29_offer_18 ?_
      refine ew_putf (pc := 19) pJ29_93 h1 st_3 (Nat.le_of_ble_eq_true rfl) rfl rfl (fun h9 => absurd h9 Bool.false_ne_true) dJ29_offer_19 ?_
      refine ew_aload_n (pc := 22) dJ29_offer_22 rfl ?_
      refine ew_getf (pc := 23) fJ29_58 (rd_of j1) rfl dJ29_offer_23 ?_
      refine ew_istore_n (pc := 26) dJ29_offer_26 rfl (by decide) (p1_2 rfl) ?_
      refine ew_iload_n (pc := 27) dJ29_offer_27 rfl ?_
      refine ew_aload_n (pc := 28) dJ29_offer_28 rfl ?_
      refine ew_getf (pc := 29) fJ29_17 (rd_of j1) rfl dJ29_offer_29 ?_
      refine ew_alen (pc := 32) (rd_of j2) rfl dJ29_offer_32 ?_
      rw [show Int32.ofNat cap = nI cap from rfl]
      refine ew_icmp_lt (pc := 33) (tgt := 43) dJ29_offer_33 (by decide) (fun c33 => absurd c33 (nI_nlt (by omega) (by omega))) (fun c33 => ?_)
      refine ew_aload_n (pc := 36) dJ29_offer_36 rfl ?_
      refine ew_iload_n (pc := 37) dJ29_offer_37 rfl ?_
      refine ew_iconst (pc := 38) (v := 1) dJ29_offer_38 rfl ?_
      refine ew_iadd (pc := 39) dJ29_offer_39 ?_
      rw [show nI V.length + 1 = nI (V.length + 1) from nI_add _ _]
      refine ew_cV1 (d' := 15) (pc := 40) vJ29_96 (rd_of j1) dJ29_offer_40 (by decide) (ew_rm (Nat.le_of_ble_eq_true rfl)) ?_
      refine t_pqGrow hg hM j1 j2 e9 h11 (by omega) hf (fun p h9 => hob1 _ _ (hob p h9)) (fun h' F cap' q1 q2 q3 q4 q5 q6 q7 => ?_)
      refine ew_Kv ?_
      refine s43 h' _ cap' 1 cap' F _ q1 q2 q3 (by omega) (by omega) (by omega) (q7.h ho1 hcn (fun h9 => hcq (List.mem_singleton.mp h9))) (fun y w h9 => q7.h ho1 (hob1 y w h9) (fun h8 => (dro y w h9).1 (List.mem_singleton.mp h8))) (Or.inr (Nat.le_refl _)) (by omega) q5 (by omega) ?_ rfl
      exact Ke.set.t q7 (fun b h9 _ => h9) (fun b h9 _ => h9) (by omega) (by omega)
  refine ew_enter (by decide +kernel) (ew_a1 rfl (ew_a1 rfl ew_az)) (Nat.le_of_ble_eq_true rfl) ?_
  refine ew_aload_n (pc := 0) dJ29_add_0 rfl ?_
  refine ew_aload_n (pc := 1) dJ29_add_1 rfl ?_
  refine ew_cV1 (d' := 16) (pc := 2) vJ29_89 (rd_of h1) dJ29_add_2 (by decide) (ew_rm (Nat.le_of_ble_eq_true rfl)) ?_
  refine of _ (fun h' E' cap' k s V' q1 q2 q3 q4 q5 q6 q7 q8 => ?_)
  refine ew_Kr ?_
  refine ew_zret (pc := 5) (ty := .boolean) rfl rfl dJ29_add_5 ?_
  exact hq h' E' cap' k s V' q1 q2 q3 q4 q5 q6 q7 q8
end
