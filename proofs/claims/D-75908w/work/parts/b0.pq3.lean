/-! EW: the queue -/
set_option maxRecDepth 100000
/-- a queue of sets to drop at q, its array E, its order c -/
def PQ (g : eg) (h : eh) (q E c cap : Nat) (V : List qd) : Prop := ∃ mc f, h.1 q = some (ob 22 [.ref E, .int (nI V.length), .ref c, .int mc]) ∧ h.1 E = some (aR 5 cap f) ∧ h.1 c = some (ob 13 []) ∧ V.length ≤ cap ∧ 11 ≤ cap ∧ agf cap f V ∧ (∀ p, p ∈ V → h.1 p.1 = some (drO p.2)) ∧ hpO V
section
variable {g : eg} {h : eh} {Q : Outcome → eh → Prop}
theorem t_pqInit {q c : Nat} (h1 : h.1 q = some (ob 22 [.null, .int 0, .null, .int 0])) (hc : h.1 c = some (ob 13 [])) (hq : ∀ h', PQ g h' q h.2.1 c 11 [] → Ke [q] 1 11 h h' → Q (.returned none) h') : ew_T g kJ29_init 6 [.ref q, .ref c] h Q := by
  have i0 : ∀ Q : Outcome → eh → Prop, Q (.returned none) h → ew_T g kJ0_init 1 [.ref q] h Q := by
    intro Q hq
    refine ew_enter (by decide +kernel) (ew_a1 rfl ew_az) (Nat.le_of_ble_eq_true rfl) ?_
    refine ew_aload_n (pc := 0) dJ0_init_0 rfl ?_
    refine ew_obj (pc := 1) (ew_q q187) (ew_q q177) (ew_q q178) (ew_rm (Nat.le_of_ble_eq_true rfl)) dJ0_init_1 ?_
    refine ew_vret (pc := 4) rfl dJ0_init_4 ?_
    exact hq
  have i1 : ∀ Q : Outcome → eh → Prop, Q (.returned none) h → ew_T g kJ28_init 2 [.ref q] h Q := by
    intro Q hq
    refine ew_enter (by decide +kernel) (ew_a1 rfl ew_az) (Nat.le_of_ble_eq_true rfl) ?_
    refine ew_aload_n (pc := 0) dJ28_init_0 rfl ?_
    refine ew_cI0 (d' := 1) (pc := 1) iJ28_1 dJ28_init_1 (by decide) (ew_rm (Nat.le_of_ble_eq_true rfl)) ?_
    refine i0 _ ?_
    refine ew_Kv ?_
    refine ew_vret (pc := 4) rfl dJ28_init_4 ?_
    exact hq
  have i2 : ∀ Q : Outcome → eh → Prop, (∀ h', PQ g h' q h.2.1 c 11 [] → Ke [q] 1 11 h h' → Q (.returned none) h') → ew_T g kJ29_init_2 5 [.ref q, .int 11, .ref c] h Q := by
    intro Q hq
    refine ew_enter (by decide +kernel) (ew_a1 rfl (ew_a1 rfl (ew_a1 rfl ew_az))) (Nat.le_of_ble_eq_true rfl) ?_
    refine ew_ok (fun ho => ?_)
    have hql := h_l ho h1
    have hcl := h_l ho hc
    have hcq : c ≠ q := fun e => by
      rw [e, h1] at hc
      cases hc
    have j1 := nn_1 (e := aR 5 11 (fun _ => none)) (n := 11) h1 (by omega)
    refine ew_aload_n (pc := 0) dJ29_init_2_0 rfl ?_
    refine ew_cI0 (d' := 2) (pc := 1) iJ29_7 dJ29_init_2_1 (by decide) (ew_rm (Nat.le_of_ble_eq_true rfl)) ?_
    refine i1 _ ?_
    refine ew_Kv ?_
    refine ew_iload_n (pc := 4) dJ29_init_2_4 rfl ?_
    refine ew_iconst (pc := 5) (v := 1) dJ29_init_2_5 rfl ?_
    refine ew_icmp_ge (pc := 6) (tgt := 17) dJ29_init_2_6 (by decide) (fun c6 => ?_) (fun c6 => absurd (by decide) c6)
    refine ew_aload_n (pc := 17) dJ29_init_2_17 rfl ?_
    refine ew_iload_n (pc := 18) dJ29_init_2_18 rfl ?_
    refine ew_newR (t := 5) (pc := 19) rfl (ew_q q2134) (ew_qt q189 rfl) (by decide) rfl (by decide) dJ29_init_2_19 ?_
    refine ew_putf (pc := 22) pJ29_17 j1 st_0 (Nat.le_of_ble_eq_true rfl) rfl rfl (fun h9 => absurd h9 Bool.false_ne_true) dJ29_init_2_22 ?_
    have j2 := se_1 (eh_new h (aR 5 11 (fun _ => none)) 11) q (ob 22 [.ref h.2.1, .int 0, .null, .int 0])
    refine ew_aload_n (pc := 25) dJ29_init_2_25 rfl ?_
    refine ew_aload_n (pc := 26) dJ29_init_2_26 rfl ?_
    refine ew_putf (pc := 27) pJ29_21 j2 st_2 (Nat.le_of_ble_eq_true rfl) rfl rfl (fun _ => rfl) dJ29_init_2_27 ?_
    rw [ew_ss]
    refine ew_vret (pc := 30) rfl dJ29_init_2_30 ?_
    refine hq _ ⟨0, fun _ => none, se_1 _ _ _, sn_1 (ne_1 _ _ _) (by omega), sn_1 (nn_1 hc (by omega)) hcq, by decide, by decide, fun i _ => rfl, fun p h9 => absurd h9 List.not_mem_nil, fun i h9 h8 => absurd h8 (Nat.not_lt_zero i)⟩ (Ke.new.t Ke.set (fun a h9 => absurd h9 List.not_mem_nil) (fun a h9 _ => h9) (by decide) (by decide))
  refine ew_enter (by decide +kernel) (ew_a1 rfl (ew_a1 rfl ew_az)) (Nat.le_of_ble_eq_true rfl) ?_
  refine ew_aload_n (pc := 0) dJ29_init_0 rfl ?_
  refine ew_bipush (pc := 1) (v := 11) dJ29_init_1 rfl ?_
  first | refine ew_aload_n (pc := 3) dJ29_init_3 rfl ?_ | refine ew_aload_nq (pc := 3) dJ29_init_3 rfl ?_ | refine ew_aload_nN (pc := 3) dJ29_init_3 rfl ?_
  refine ew_cI2 (d' := 5) (pc := 4) iJ29_3 dJ29_init_4 (by decide) (ew_rm (Nat.le_of_ble_eq_true rfl)) ?_
  refine i2 _ (fun h' q1 q2 => ?_)
  refine ew_Kv ?_
  refine ew_vret (pc := 7) rfl dJ29_init_7 ?_
  exact hq h' q1 q2
theorem t_pqGrow {q E c cap : Nat} {V : List qd} {mc : Int32} {f : Nat → Option Nat} (hg : gOC g) (hM : gOM g) (h1 : h.1 q = some (ob 22 [.ref E, .int (nI V.length), .ref c, .int mc])) (hE : h.1 E = some (aR 5 cap f)) (hl : V.length = cap) (h11 : 11 ≤ cap) (hcap : cap < 2 ^ 18) (hf : agf cap f V) (hob : ∀ p, p ∈ V → h.1 p.1 = some (drO p.2))
    (hq : ∀ h' F cap', h'.1 q = some (ob 22 [.ref h.2.1, .int (nI V.length), .ref c, .int mc]) → h'.1 h.2.1 = some (aR 5 cap' F) → agf cap' F V → cap < cap' → 4 * cap + cap' ≤ 4 * cap' → cap' ≤ 2 * cap + 2 → Ke [q] 1 cap' h h' → Q (.returned none) h') : ew_T g kJ29_grow 15 [.ref q, .int (nI (V.length + 1))] h Q := by
  have hsh : nI cap >>> ((1 : Int32) &&& 31) = nI (cap / 2) := by
    rw [show (1 : Int32) &&& 31 = 1 by decide]
    exact nI_shr1 (by omega)
  refine ew_enter (by decide +kernel) (ew_a1 rfl (ew_a1 rfl (ew_an (ew_an ew_az)))) (Nat.le_of_ble_eq_true rfl) ?_
  refine ew_ok (fun ho => ?_)
  have hql := h_l ho h1
  have hEl := h_l ho hE
  have hqE : q ≠ E := fun e => by
    rw [e, hE] at h1
    cases h1
  have s25 : ∀ gr, 1 ≤ gr → gr < 2 ^ 21 → 4 * cap ≤ 3 * (cap + gr) → gr ≤ cap + 2 → ew_G g kJ29_grow 15 25 [.ref q, .int (nI (V.length + 1)), .int (nI cap), no_] [.int (nI gr), .int (nI (V.length + 1) - nI cap), .int (nI cap)] h Q := by
    intro gr hg1 hg2 hg3 hg4
    rw [hl, show nI (cap + 1) - nI cap = nI 1 by rw [nI_sub (by omega), Nat.add_sub_cancel_left]]
    refine ew_cS3 (d' := 14) (pc := 25) sJ29_80 dJ29_grow_25 (by decide) (ew_rm (Nat.le_of_ble_eq_true rfl)) ?_
    refine t_newLen (by omega) (by decide) (by omega) (by decide) (fun M hM9 => ?_)
    refine ew_Kr ?_
    refine ew_istore_n (pc := 28) dJ29_grow_28 rfl (by decide) (p1_3 rfl) ?_
    refine ew_aload_n (pc := 29) dJ29_grow_29 rfl ?_
    refine ew_aload_n (pc := 30) dJ29_grow_30 rfl ?_
    refine ew_getf (pc := 31) fJ29_17 (rd_of h1) rfl dJ29_grow_31 ?_
    refine ew_iload_n (pc := 34) dJ29_grow_34 rfl ?_
    refine ew_cS2 (d' := 1) (pc := 35) sJ29_86 dJ29_grow_35 (by decide) (ew_rm (Nat.le_of_ble_eq_true rfl)) ?_
    refine t_cpObj hg hM (rd_of hE) (by omega) (by omega) (fun i hi y hy => ?_) (fun F hF => ?_)
    · rw [hf i hi] at hy
      obtain ⟨p, hp, e⟩ := Option.map_eq_some_iff.mp hy
      rw [← e]
      exact drO_o (rd_of (hob p (List.mem_of_getElem? hp)))
    have j1 : (eh_set (eh_new h (aR 5 M (fun _ => none)) M) h.2.1 (aR 5 M F)).1 q = some (ob 22 [.ref E, .int (nI V.length), .ref c, .int mc]) := sn_1 (nn_1 h1 (by omega)) (by omega)
    refine ew_Kr ?_
    refine ew_putf (pc := 38) pJ29_17 j1 st_0 (Nat.le_of_ble_eq_true rfl) rfl rfl (fun h9 => absurd h9 Bool.false_ne_true) dJ29_grow_38 ?_
    refine ew_vret (pc := 41) rfl dJ29_grow_41 ?_
    refine hq _ F M (se_1 _ _ _) (sn_1 (se_1 _ _ _) (by omega)) (fun i hi => ?_) (by omega) (by omega) (by omega) ?_
    · rw [hF i hi]
      by_cases h9 : i < cap
      · rw [if_pos h9]; exact hf i h9
      · rw [if_neg h9, List.getElem?_eq_none (by omega)]; rfl
    · refine (Ke.new.t Ke.set (A := []) (c := 1) (s := M) (fun a h9 => absurd h9 (List.not_mem_nil)) (fun a h9 h8 => ?_) (by decide) (by omega)).t Ke.set (fun a h9 => absurd h9 (List.not_mem_nil)) (fun a h9 _ => h9) (by decide) (by omega)
      rw [List.mem_singleton.mp h9] at h8
      omega
  refine ew_aload_n (pc := 0) dJ29_grow_0 rfl ?_
  refine ew_getf (pc := 1) fJ29_17 (rd_of h1) rfl dJ29_grow_1 ?_
  refine ew_alen (pc := 4) (rd_of hE) rfl dJ29_grow_4 ?_
  rw [show Int32.ofNat cap = nI cap from rfl]
  refine ew_istore_n (pc := 5) dJ29_grow_5 rfl (by decide) (p1_2 rfl) ?_
  refine ew_iload_n (pc := 6) dJ29_grow_6 rfl ?_
  refine ew_iload_n (pc := 7) dJ29_grow_7 rfl ?_
  refine ew_iload_n (pc := 8) dJ29_grow_8 rfl ?_
  refine ew_isub (pc := 9) dJ29_grow_9 ?_
  refine ew_iload_n (pc := 10) dJ29_grow_10 rfl ?_
  refine ew_bipush (pc := 11) (v := 64) dJ29_grow_11 rfl ?_
  refine ew_icmp_ge (pc := 13) (tgt := 22) dJ29_grow_13 (by decide) (fun c13 => ?_) (fun c13 => ?_)
  · refine ew_iload_n (pc := 22) dJ29_grow_22 rfl ?_
    refine ew_iconst (pc := 23) (v := 1) dJ29_grow_23 rfl ?_
    refine ew_ishr (pc := 24) dJ29_grow_24 ?_
    first
    | exact s25 (cap + 2) (by omega) (by omega) (by omega) (by omega)
    | rw [hsh]
      exact s25 (cap / 2) (by omega) (by omega) (by omega) (by omega)
  · refine ew_iload_n (pc := 16) dJ29_grow_16 rfl ?_
    refine ew_iconst (pc := 17) (v := 2) dJ29_grow_17 rfl ?_
    refine ew_iadd (pc := 18) dJ29_grow_18 ?_
    rw [show nI cap + 2 = nI (cap + 2) from nI_add _ _]
    refine ew_goto (pc := 19) (tgt := 25) dJ29_grow_19 (by decide) ?_
    first
    | exact s25 (cap + 2) (by omega) (by omega) (by omega) (by omega)
    | rw [hsh]
      exact s25 (cap / 2) (by omega) (by omega) (by omega) (by omega)
end
