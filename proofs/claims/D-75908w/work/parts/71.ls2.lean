/-! EW: lists grow -/
set_option maxRecDepth 100000
theorem oO.setO {g : eg} {h : eh} {a ci v : Nat} {fs fs1 : List Value} (h0 : h.1 a = some (ob ci fs)) (hv : oO g h v) : oO g (eh_set h a (ob ci fs1)) v := by
  obtain ⟨c, vs, r, h1, h2⟩ := hv
  by_cases e : v = a
  · subst e
    rw [rd_of h0] at h1
    cases h1
    exact ⟨ci, fs1, r, rd_se _ _ _ _, h2⟩
  · exact ⟨c, vs, r, rd_sn h1 e, h2⟩
theorem oO.setA {g : eg} {h : eh} {a v : Nat} {x : Nat × vp_A} {e : ac} (h0 : h.1 a = some (.inl x)) (hv : oO g h v) : oO g (eh_set h a e) v := by
  obtain ⟨c, vs, r, h1, h2⟩ := hv
  refine ⟨c, vs, r, rd_sn h1 ?_, h2⟩
  intro e9
  subst e9
  rw [rd_of h0] at h1
  cases h1
theorem oO.lt {g : eg} {h : eh} {v : Nat} (hg : gOC g) (ho : eh_ok g h) (hv : oO g h v) : v < h.2.1 := hv.elim fun _ h1 => h1.elim fun _ h2 => h2.elim fun _ h3 => rd_l hg ho h3.1
theorem oO.new {g : eg} {h : eh} {v n : Nat} {e : ac} (hg : gOC g) (ho : eh_ok g h) (hv : oO g h v) : oO g (eh_new h e n) v := by
  have hl := hv.lt hg ho
  obtain ⟨c, vs, r, h1, h2⟩ := hv
  exact ⟨c, vs, r, rd_nn h1 (by omega), h2⟩
theorem oO.ke {g : eg} {A : List Nat} {c s v : Nat} {h h' : eh} (hv : oO g h v) (k : Ke A c s h h') (hg : gOC g) (ho : eh_ok g h) (hA : v ∉ A) : oO g h' v := hv.elim fun ci h1 => h1.elim fun vs h2 => h2.elim fun r h3 => ⟨ci, vs, r, k.rd hg ho h3.1 hA, h3.2⟩
theorem nI_shr1 {n : Nat} (h : n < 2 ^ 31) : nI n >>> (1 : Int32) = nI (n / 2) := by
  apply i_inj
  rw [nI_toInt (by omega)]
  show (nI n >>> (1 : Int32)).toBitVec.toInt = _
  rw [Int32.toBitVec_shiftRight, show (1 : Int32).toBitVec.smod 32 = 1#32 by decide, BitVec.sshiftRight', BitVec.toInt_sshiftRight, Int.shiftRight_eq_div_pow]
  have h1 : (nI n).toBitVec.toInt = (n : Int) := nI_toInt h
  rw [h1, show ((2 ^ (1#32).toNat : Nat) : Int) = 2 from rfl]
  omega
theorem t_newLen {g : eg} {h : eh} {o a b : Nat} {Q : Outcome → eh → Prop} (ho : o < 2 ^ 21) (ha : a < 2 ^ 21) (hb : b < 2 ^ 21) (h1 : 1 ≤ a) (hq : ∀ N, N = o + max a b → Q (.returned (some (.int (nI N)))) h) : ew_T g kJ15_newLength 14 [.int (nI o), .int (nI a), .int (nI b)] h Q := by
  have hm : jmax (nI a) (nI b) = nI (max a b) := by
    unfold jmax
    by_cases h9 : a < b
    · rw [if_pos (nI_lt h9 (by omega)), Nat.max_eq_right (by omega)]
    · rw [if_neg (nI_nlt (by omega) (by omega)), Nat.max_eq_left (by omega)]
  refine ew_enter (by decide +kernel) (ew_a1 rfl (ew_a1 rfl (ew_a1 rfl (ew_an ew_az)))) (Nat.le_of_ble_eq_true rfl) ?_
  refine ew_iload_n (pc := 0) dJ15_newLength_0 rfl ?_
  refine ew_iload_n (pc := 1) dJ15_newLength_1 rfl ?_
  refine ew_iload_n (pc := 2) dJ15_newLength_2 rfl ?_
  refine ew_mmax (pc := 3) (ew_q q577) (ew_q q578) (ew_q q141) (ew_q q579) (ew_rm (Nat.le_of_ble_eq_true rfl)) dJ15_newLength_3 ?_
  rw [hm]
  refine ew_iadd (pc := 6) dJ15_newLength_6 ?_
  rw [nI_add]
  refine ew_istore_n (pc := 7) dJ15_newLength_7 rfl (by decide) (p1_3 rfl) ?_
  refine ew_iconst (pc := 8) (v := 0) dJ15_newLength_8 rfl ?_
  refine ew_iload_n (pc := 9) dJ15_newLength_9 rfl ?_
  refine ew_icmp_ge (pc := 10) (tgt := 21) dJ15_newLength_10 (by decide) (fun c10 => absurd c10 (nI_nle (by omega) (by omega))) (fun c10 => ?_)
  refine ew_iload_n (pc := 13) dJ15_newLength_13 rfl ?_
  refine ew_ldc (pc := 14) (v := 2147483639) (ew_q q580) dJ15_newLength_14 ?_
  refine ew_icmp_gt (pc := 16) (tgt := 21) dJ15_newLength_16 (by decide) (fun c16 => absurd c16 (nI_nlt (a := 2147483639) (b := o + max a b) (by omega) (by decide))) (fun c16 => ?_)
  refine ew_iload_n (pc := 19) dJ15_newLength_19 rfl ?_
  refine ew_iret (pc := 20) rfl dJ15_newLength_20 ?_
  exact hq _ rfl
/-- an array of objects is copied into a longer one -/
theorem t_cpObj {g : eg} {h : eh} {E n N : Nat} {f : Nat → Option Nat} {Q : Outcome → eh → Prop} (hg : gOC g) (hM : gOM g) (hE : rd g h E = some (aR 5 n f)) (hnN : n ≤ N) (hN : N < 2 ^ 22) (hel : ∀ i, i < n → ∀ y : Nat, f i = some y → oO g h y)
    (hq : ∀ F : Nat → Option Nat, (∀ i, i < N → F i = if i < n then f i else none) → Q (.returned (some (.ref h.2.1))) (eh_set (eh_new h (aR 5 N (fun _ => none)) N) h.2.1 (aR 5 N F))) : ew_T g kJ17_copyOf_2 1 [.ref E, .int (nI N)] h Q := by
  obtain ⟨mi, hmi⟩ := hM
  have c3 : ∀ Q : Outcome → eh → Prop, (∀ F : Nat → Option Nat, (∀ i, i < N → F i = if i < n then f i else none) → Q (.returned (some (.ref h.2.1))) (eh_set (eh_new h (aR 5 N (fun _ => none)) N) h.2.1 (aR 5 N F))) → ew_T g kJ17_copyOf_3 0 [.ref E, .int (nI N), .ref mi] h Q := by
    intro Q hq
    have hmin : jmin (nI n) (nI N) = nI n := by
      unfold jmin
      by_cases h9 : N < n
      · omega
      · rw [if_neg (nI_nlt (by omega) (by omega))]
    refine ew_enter (by decide +kernel) (ew_a1 rfl (ew_a1 rfl (ew_a1 rfl (ew_an ew_az)))) (Nat.le_of_ble_eq_true rfl) ?_
    refine ew_ok (fun ho => ?_)
    have hEn := rd_nn (n := N) (e := aR 5 N (fun _ => none)) hE (by have := rd_l hg ho hE; omega)
    have cl := nI_clamp (n := n) (by omega)
    first | refine ew_aload_n (pc := 0) dJ17_copyOf_3_0 rfl ?_ | refine ew_aload_nq (pc := 0) dJ17_copyOf_3_0 rfl ?_ | refine ew_aload_nN (pc := 0) dJ17_copyOf_3_0 rfl ?_
    refine ew_ldcM (pc := 1) (ew_q q1292) hmi dJ17_copyOf_3_1 ?_
    refine ew_acmp_ne (pc := 3) (rx := some mi) (ry := some mi) (tgt := 13) dJ17_copyOf_3_3 (by decide) (fun c3 => absurd rfl c3) (fun c3 => ?_)
    refine ew_iload_n (pc := 6) dJ17_copyOf_3_6 rfl ?_
    refine ew_newR (t := 5) (pc := 7) rfl (ew_q q1293) (ew_qt q189 rfl) (nI_pos (by omega)) (nI_clamp (by omega)) (by omega) dJ17_copyOf_3_7 ?_
    refine ew_goto (pc := 10) (tgt := 24) dJ17_copyOf_3_10 (by decide) ?_
    first | refine ew_astore_n (pc := 24) dJ17_copyOf_3_24 rfl (by decide) (p1_3 rfl) ?_ | refine ew_astore_nq (pc := 24) dJ17_copyOf_3_24 rfl (by decide) (p1_3 rfl) ?_ | refine ew_astore_nN (pc := 24) dJ17_copyOf_3_24 rfl (by decide) (p1_3 rfl) ?_
    refine ew_aload_n (pc := 25) dJ17_copyOf_3_25 rfl ?_
    refine ew_iconst (pc := 26) (v := 0) dJ17_copyOf_3_26 rfl ?_
    refine ew_aload_n (pc := 27) dJ17_copyOf_3_27 rfl ?_
    refine ew_iconst (pc := 28) (v := 0) dJ17_copyOf_3_28 rfl ?_
    refine ew_aload_n (pc := 29) dJ17_copyOf_3_29 rfl ?_
    refine ew_alen (pc := 30) hEn rfl dJ17_copyOf_3_30 ?_
    refine ew_iload_n (pc := 31) dJ17_copyOf_3_31 rfl ?_
    refine ew_mmin (pc := 32) (ew_q q595) (ew_q q596) (ew_q q141) (ew_q q597) (ew_rm (Nat.le_of_ble_eq_true rfl)) dJ17_copyOf_3_32 ?_
    rw [show Int32.ofNat n = nI n from rfl, hmin]
    refine ew_copyq (pc := 35) rfl (ew_q q598) (ew_q q600) (ew_q q599) (ew_q q143) hEn (ne_1 _ _ _) (by decide) (by decide) (nI_pos (by omega)) (by rw [cl]; exact Nat.le_of_eq (Nat.zero_add n)) (by rw [cl]; exact Nat.le_trans (Nat.le_of_eq (Nat.zero_add n)) hnN) (fun i hi y hy => (hel i (by rw [cl] at hi; exact hi) y (by rw [show (0 : Int32).toNatClampNeg + i = i from Nat.zero_add i] at hy; exact hy)).new hg ho) (ew_rm (Nat.le_of_ble_eq_true rfl)) dJ17_copyOf_3_35 ?_
    refine ew_aload_n (pc := 38) dJ17_copyOf_3_38 rfl ?_
    refine ew_aret (pc := 39) rfl (Or.inr ⟨_, rfl⟩) (Or.inr ⟨_, rfl⟩) dJ17_copyOf_3_39 ?_
    refine hq _ (fun i hi => ?_)
    rw [cl, show (0 : Int32).toNatClampNeg = 0 from rfl]
    by_cases h9 : i < n
    · rw [if_pos h9, pk_cpy_in (Nat.zero_le _) (by omega), Nat.zero_add, Nat.sub_zero]
    · rw [if_neg h9, pk_cpy_out (Or.inr (by omega))]
  refine ew_enter (by decide +kernel) (ew_a1 rfl (ew_a1 rfl ew_az)) (Nat.le_of_ble_eq_true rfl) ?_
  refine ew_aload_n (pc := 0) dJ17_copyOf_2_0 rfl ?_
  refine ew_iload_n (pc := 1) dJ17_copyOf_2_1 rfl ?_
  refine ew_aload_n (pc := 2) dJ17_copyOf_2_2 rfl ?_
  refine ew_getC (pc := 3) (ew_q q1255) (ew_qt q3386 rfl) (ew_q q3385) (ew_q q1256) (ew_q q1288) hmi hE (ew_rm (Nat.le_of_ble_eq_true rfl)) dJ17_copyOf_2_3 ?_
  refine ew_cS3 (d' := 0) (pc := 6) sJ17_300 dJ17_copyOf_2_6 (by decide) (ew_rm (Nat.le_of_ble_eq_true rfl)) ?_
  refine c3 _ (fun F hF => ?_)
  refine ew_Kr ?_
  refine ew_aret (pc := 9) rfl (Or.inr ⟨_, rfl⟩) (Or.inr ⟨_, rfl⟩) dJ17_copyOf_2_9 ?_
  exact hq F hF
/-- a full list gets a longer array -/
theorem t_alGrow {g : eg} {h : eh} {L E : Nat} {ws : List Nat} {Q : Outcome → eh → Prop} (hg : gOC g) (hM : gOM g) (ha : AL g h L E ws) (hel : ∀ y, y ∈ ws → oO g h y) (hlen : ws.length < 2 ^ 19)
    (hfull : ∀ mc cap f, h.1 L = some (ob 19 [.int mc, .ref E, .int (nI ws.length)]) → rd g h E = some (aR 5 cap f) → cap = ws.length)
    (hq : ∀ h' cap F mc, h'.1 L = some (ob 19 [.int mc, .ref h.2.1, .int (nI ws.length)]) → h'.1 h.2.1 = some (aR 5 cap F) → ws.length < cap → cap < 2 ^ 20 → (∀ i, i < cap → F i = ws[i]?) → Ke [L] 1 (10 + 2 * ws.length) h h' → Q (.returned (some (.ref h.2.1))) h') : ew_T g kJ14_grow 16 [.ref L] h Q := by
  obtain ⟨mc, cap, f, h1, h2, h3, h4, h5, h6, h7⟩ := ha
  have hcap := hfull mc cap f h1 h2
  subst hcap
  have g2 : ∀ Q : Outcome → eh → Prop, (∀ h' cap F mc, h'.1 L = some (ob 19 [.int mc, .ref h.2.1, .int (nI ws.length)]) → h'.1 h.2.1 = some (aR 5 cap F) → ws.length < cap → cap < 2 ^ 20 → (∀ i, i < cap → F i = ws[i]?) → Ke [L] 1 (10 + 2 * ws.length) h h' → Q (.returned (some (.ref h.2.1))) h') → ew_T g kJ14_grow_2 15 [.ref L, .int (nI (ws.length + 1))] h Q := by
    intro Q hq
    refine ew_enter (by decide +kernel) (ew_a1 rfl (ew_a1 rfl (ew_an (ew_an ew_az)))) (Nat.le_of_ble_eq_true rfl) ?_
    refine ew_ok (fun ho => ?_)
    have hLl := h_l ho h1
    have hLE : L ≠ E := by
      intro e9
      rw [← e9, rd_of h1] at h2
      cases h2
    by_cases hz : ws.length = 0
    · have hst := h4 hz
      have hw : ws = [] := List.length_eq_zero_iff.mp hz
      subst hw
      have hL2 := nn_1 (e := aR 5 10 (fun _ => none)) (n := 10) h1 (by omega)
      refine ew_aload_n (pc := 0) dJ14_grow_2_0 rfl ?_
      refine ew_getf (pc := 1) fJ14_9 (rd_of h1) rfl dJ14_grow_2_1 ?_
      refine ew_alen (pc := 4) h2 rfl dJ14_grow_2_4 ?_
      refine ew_istore_n (pc := 5) dJ14_grow_2_5 rfl (by decide) (p1_2 rfl) ?_
      refine ew_iload_n (pc := 6) dJ14_grow_2_6 rfl ?_
      rw [show Int32.ofNat ([] : List Nat).length = 0 from rfl]
      refine ew_if_gt (pc := 7) (tgt := 20) dJ14_grow_2_7 (by decide) (fun c7 => absurd c7 (by decide)) (fun c7 => ?_)
      refine ew_aload_n (pc := 10) dJ14_grow_2_10 rfl ?_
      refine ew_getf (pc := 11) fJ14_9 (rd_of h1) rfl dJ14_grow_2_11 ?_
      refine ew_gets (pc := 14) (C := "java/util/ArrayList") (n := "DEFAULTCAPACITY_EMPTY_ELEMENTDATA") (dd := "[Ljava/lang/Object;") (v := (.ref E)) hst (ew_q q481) (Or.inl rfl) dJ14_grow_2_14 ?_
      refine ew_acmp_eq (pc := 17) (rx := some E) (ry := some E) (tgt := 45) dJ14_grow_2_17 (by decide) (fun c17 => ?_) (fun c17 => absurd rfl c17)
      refine ew_aload_n (pc := 45) dJ14_grow_2_45 rfl ?_
      refine ew_bipush (pc := 46) (v := 10) dJ14_grow_2_46 rfl ?_
      refine ew_iload_n (pc := 48) dJ14_grow_2_48 rfl ?_
      refine ew_mmax (pc := 49) (ew_q q1294) (ew_q q578) (ew_q q141) (ew_q q579) (ew_rm (Nat.le_of_ble_eq_true rfl)) dJ14_grow_2_49 ?_
      refine ew_newR (t := 5) (pc := 52) rfl (ew_q q1295) (ew_qt q189 rfl) (by decide) rfl (by decide) dJ14_grow_2_52 ?_
      refine ew_dup_x1 (pc := 55) dJ14_grow_2_55 rfl rfl ?_
      refine ew_putf (pc := 56) pJ14_9 hL2 st_1 (Nat.le_of_ble_eq_true rfl) rfl rfl (fun h9 => absurd h9 Bool.false_ne_true) dJ14_grow_2_56 ?_
      refine ew_aret (pc := 59) rfl (Or.inr ⟨_, rfl⟩) (Or.inr ⟨_, rfl⟩) dJ14_grow_2_59 ?_
      refine hq _ 10 (fun _ => none) mc (se_1 _ _ _) (sn_1 (ne_1 _ _ _) (by omega)) (by decide) (by decide) (fun i _ => rfl) ?_
      exact Ke.new.t Ke.set (fun a h9 => absurd h9 (List.not_mem_nil)) (fun a h9 _ => h9) (by decide) (by decide)
    · have hsh : nI ws.length >>> ((1 : Int32) &&& 31) = nI (ws.length / 2) := by
        rw [show (1 : Int32) &&& 31 = 1 by decide]
        exact nI_shr1 (by omega)
      refine ew_aload_n (pc := 0) dJ14_grow_2_0 rfl ?_
      refine ew_getf (pc := 1) fJ14_9 (rd_of h1) rfl dJ14_grow_2_1 ?_
      refine ew_alen (pc := 4) h2 rfl dJ14_grow_2_4 ?_
      rw [show Int32.ofNat ws.length = nI ws.length from rfl]
      refine ew_istore_n (pc := 5) dJ14_grow_2_5 rfl (by decide) (p1_2 rfl) ?_
      refine ew_iload_n (pc := 6) dJ14_grow_2_6 rfl ?_
      refine ew_if_gt (pc := 7) (tgt := 20) dJ14_grow_2_7 (by decide) (fun c7 => ?_) (fun c7 => absurd (nI_lt (a := 0) (by omega) (by omega)) c7)
      refine ew_iload_n (pc := 20) dJ14_grow_2_20 rfl ?_
      refine ew_iload_n (pc := 21) dJ14_grow_2_21 rfl ?_
      refine ew_iload_n (pc := 22) dJ14_grow_2_22 rfl ?_
      refine ew_isub (pc := 23) dJ14_grow_2_23 ?_
      rw [nI_sub (Nat.le_succ _), show ws.length + 1 - ws.length = 1 by omega]
      refine ew_iload_n (pc := 24) dJ14_grow_2_24 rfl ?_
      refine ew_iconst (pc := 25) (v := 1) dJ14_grow_2_25 rfl ?_
      refine ew_ishr (pc := 26) dJ14_grow_2_26 ?_
      rw [hsh]
      refine ew_cS3 (d' := 14) (pc := 27) sJ14_73 dJ14_grow_2_27 (by decide) (ew_rm (Nat.le_of_ble_eq_true rfl)) ?_
      refine t_newLen (by omega) (by decide) (by omega) (by decide) (fun N hN => ?_)
      refine ew_Kr ?_
      refine ew_istore_n (pc := 30) dJ14_grow_2_30 rfl (by decide) (p1_3 rfl) ?_
      refine ew_aload_n (pc := 31) dJ14_grow_2_31 rfl ?_
      refine ew_aload_n (pc := 32) dJ14_grow_2_32 rfl ?_
      refine ew_getf (pc := 33) fJ14_9 (rd_of h1) rfl dJ14_grow_2_33 ?_
      refine ew_iload_n (pc := 36) dJ14_grow_2_36 rfl ?_
      refine ew_cS2 (d' := 1) (pc := 37) sJ14_66 dJ14_grow_2_37 (by decide) (ew_rm (Nat.le_of_ble_eq_true rfl)) ?_
      refine t_cpObj hg hM h2 (by omega) (by omega) (fun i hi y hy => hel y ?_) (fun F hF => ?_)
      · rw [h7 i hi] at hy
        exact List.mem_of_getElem? hy
      have hL2 : (eh_set (eh_new h (aR 5 N (fun _ => none)) N) h.2.1 (aR 5 N F)).1 L = some (ob 19 [.int mc, .ref E, .int (nI ws.length)]) := sn_1 (nn_1 h1 (by omega)) (by omega)
      refine ew_Kr ?_
      refine ew_dup_x1 (pc := 40) dJ14_grow_2_40 rfl rfl ?_
      refine ew_putf (pc := 41) pJ14_9 hL2 st_1 (Nat.le_of_ble_eq_true rfl) rfl rfl (fun h9 => absurd h9 Bool.false_ne_true) dJ14_grow_2_41 ?_
      refine ew_aret (pc := 44) rfl (Or.inr ⟨_, rfl⟩) (Or.inr ⟨_, rfl⟩) dJ14_grow_2_44 ?_
      refine hq _ N F mc (se_1 _ _ _) (sn_1 (se_1 _ _ _) (by omega)) (by omega) (by omega) (fun i hi => ?_) ?_
      · rw [hF i hi]
        by_cases h9 : i < ws.length
        · rw [if_pos h9, h7 i h9]
        · rw [if_neg h9, List.getElem?_eq_none (by omega)]
      · refine (Ke.new.t Ke.set (A := []) (c := 1) (s := N) (fun a h9 => absurd h9 (List.not_mem_nil)) (fun a h9 h8 => ?_) (by decide) (by omega)).t Ke.set (fun a h9 => absurd h9 (List.not_mem_nil)) (fun a h9 _ => h9) (by decide) (by omega)
        rw [List.mem_singleton.mp h9] at h8
        omega
  refine ew_enter (by decide +kernel) (ew_a1 rfl ew_az) (Nat.le_of_ble_eq_true rfl) ?_
  refine ew_aload_n (pc := 0) dJ14_grow_0 rfl ?_
  refine ew_aload_n (pc := 1) dJ14_grow_1 rfl ?_
  refine ew_getf (pc := 2) fJ14_48 (rd_of h1) rfl dJ14_grow_2 ?_
  refine ew_iconst (pc := 5) (v := 1) dJ14_grow_5 rfl ?_
  refine ew_iadd (pc := 6) dJ14_grow_6 ?_
  rw [nI_1]
  refine ew_cV1 (d' := 15) (pc := 7) vJ14_69 (rd_of h1) dJ14_grow_7 (by decide) (ew_rm (Nat.le_of_ble_eq_true rfl)) ?_
  refine g2 _ (fun h' cap F mc q1 q2 q3 q4 q5 q6 => ?_)
  refine ew_Kr ?_
  refine ew_aret (pc := 10) rfl (Or.inr ⟨_, rfl⟩) (Or.inr ⟨_, rfl⟩) dJ14_grow_10 ?_
  exact hq h' cap F mc q1 q2 q3 q4 q5 q6
/-- what becomes of a list to which x is added -/
theorem AL.put {g : eg} {h : eh} {L E cap x : Nat} {m2 : Int32} {ws : List Nat} {F : Nat → Option Nat} (h1 : h.1 L = some (ob 19 [.int m2, .ref E, .int (nI ws.length)])) (h2 : h.1 E = some (aR 5 cap F)) (hl : ws.length < cap) (hc : cap < 2 ^ 20) (hF : ∀ i, i < cap → F i = ws[i]?) :
    AL g (eh_set (eh_set h E (aR 5 cap (va_up F ws.length (some x)))) L (ob 19 [.int m2, .ref E, .int (nI (ws.length + 1))])) L E (ws ++ [x]) := by
  have hLE : E ≠ L := by
    intro e9
    rw [e9, h1] at h2
    cases h2
  have h3 : (eh_set (eh_set h E (aR 5 cap (va_up F ws.length (some x)))) L (ob 19 [.int m2, .ref E, .int (nI (ws.length + 1))])).1 E = some (aR 5 cap (va_up F ws.length (some x))) := sn_1 (se_1 _ _ _) hLE
  refine ⟨m2, cap, va_up F ws.length (some x), ?_, rd_of h3, fun _ => h3, fun h9 => by omega, ?_, hc, fun i hi => ?_⟩
  · rw [List.length_append, List.length_singleton]; exact se_1 _ _ _
  · rw [List.length_append, List.length_singleton]; omega
  · show (if i = ws.length then some x else F i) = _
    by_cases h9 : i = ws.length
    · rw [if_pos h9, h9, List.getElem?_append_right (Nat.le_refl _), Nat.sub_self]
      rfl
    · rw [if_neg h9, hF i hi]
      by_cases h8 : i < ws.length
      · rw [List.getElem?_append_left h8]
      · rw [List.getElem?_eq_none (by omega), List.getElem?_eq_none (by rw [List.length_append, List.length_singleton]; omega)]
theorem t_alAdd2 {g : eg} {h : eh} {L E x : Nat} {ws : List Nat} {Q : Outcome → eh → Prop} (hg : gOC g) (hM : gOM g) (ha : AL g h L E ws) (hel : ∀ y, y ∈ ws → oO g h y) (hx : oO g h x) (hxL : x ≠ L) (hlen : ws.length < 2 ^ 18)
    (hq : ∀ h' E', AL g h' L E' (ws ++ [x]) → (E' = E ∨ h.2.1 ≤ E') → Ke [L, E] 1 (10 + 2 * ws.length) h h' → Q (.returned none) h') : ew_T g kJ14_add_2 17 [.ref L, .ref x, .ref E, .int (nI ws.length)] h Q := by
  have ha2 := ha
  obtain ⟨mc, cap, f, h1, h2, h3, h4, h5, h6, h7⟩ := ha
  refine ew_enter (by decide +kernel) (ew_a1 rfl (ew_a1 rfl (ew_a1 rfl (ew_a1 rfl ew_az)))) (Nat.le_of_ble_eq_true rfl) ?_
  refine ew_ok (fun ho => ?_)
  have hLl := h_l ho h1
  have hLE : L ≠ E := by
    intro e9
    rw [← e9, rd_of h1] at h2
    cases h2
  by_cases hc : ws.length = cap
  · subst hc
    refine ew_iload_n (pc := 0) dJ14_add_2_0 rfl ?_
    refine ew_aload_n (pc := 1) dJ14_add_2_1 rfl ?_
    refine ew_alen (pc := 2) h2 rfl dJ14_add_2_2 ?_
    rw [show Int32.ofNat (ws.length, (Sum.inr (Sum.inr (Sum.inr (Sum.inr f))) : (Nat → Int32) ⊕ (Nat → Int64) ⊕ (Nat → UInt32) ⊕ (Nat → UInt64) ⊕ (Nat → Option Nat))).1 = nI ws.length from rfl]
    refine ew_icmp_ne (pc := 3) (tgt := 11) dJ14_add_2_3 (by decide) (fun c3 => absurd rfl c3) (fun c3 => ?_)
    refine ew_aload_n (pc := 6) dJ14_add_2_6 rfl ?_
    refine ew_cV0 (d' := 16) (pc := 7) vJ14_129 (rd_of h1) dJ14_add_2_7 (by decide) (ew_rm (Nat.le_of_ble_eq_true rfl)) ?_
    refine t_alGrow hg hM ha2 hel (by omega) (fun mc2 cap2 f2 e1 e2 => ?_) (fun h' cap F m2 q1 q2 q3 q4 q5 q6 => ?_)
    · rw [h2] at e2
      cases e2
      rfl
    have hx' := hx.ke q6 hg ho (fun h9 => hxL (List.mem_singleton.mp h9))
    refine ew_Kr ?_
    first | refine ew_astore_n (pc := 10) dJ14_add_2_10 rfl (by decide) (p1_2 rfl) ?_ | refine ew_astore_nq (pc := 10) dJ14_add_2_10 rfl (by decide) (p1_2 rfl) ?_ | refine ew_astore_nN (pc := 10) dJ14_add_2_10 rfl (by decide) (p1_2 rfl) ?_
    first | refine ew_aload_n (pc := 11) dJ14_add_2_11 rfl ?_ | refine ew_aload_nq (pc := 11) dJ14_add_2_11 rfl ?_ | refine ew_aload_nN (pc := 11) dJ14_add_2_11 rfl ?_
    refine ew_iload_n (pc := 12) dJ14_add_2_12 rfl ?_
    refine ew_aload_n (pc := 13) dJ14_add_2_13 rfl ?_
    refine ew_aaS (pc := 14) rfl (by assumption) hx' (j := ws.length) rfl q3 (by omega) dJ14_add_2_14 ?_
    refine ew_aload_n (pc := 15) dJ14_add_2_15 rfl ?_
    refine ew_iload_n (pc := 16) dJ14_add_2_16 rfl ?_
    refine ew_iconst (pc := 17) (v := 1) dJ14_add_2_17 rfl ?_
    refine ew_iadd (pc := 18) dJ14_add_2_18 ?_
    rw [nI_1]
    refine ew_putf (pc := 19) pJ14_48 (sn_1 q1 (by omega)) st_2 (Nat.le_of_ble_eq_true rfl) rfl rfl (fun h9 => absurd h9 Bool.false_ne_true) dJ14_add_2_19 ?_
    refine ew_vret (pc := 22) rfl dJ14_add_2_22 ?_
    refine hq _ h.2.1 (AL.put q1 q2 q3 q4 q5) (Or.inr (Nat.le_refl _)) ?_
    refine (q6.t Ke.set (A := [L, E]) (c := 1) (s := 10 + 2 * ws.length) (fun a h9 _ => by rw [List.mem_singleton.mp h9]; exact List.mem_cons_self) (fun a h9 h8 => ?_) (by omega) (by omega)).t Ke.set (fun a h9 _ => h9) (fun a h9 _ => by rw [List.mem_singleton.mp h9]; exact List.mem_cons_self) (by omega) (by omega)
    rw [List.mem_singleton.mp h9] at h8
    omega
  · skip
    refine ew_iload_n (pc := 0) dJ14_add_2_0 rfl ?_
    refine ew_aload_n (pc := 1) dJ14_add_2_1 rfl ?_
    refine ew_alen (pc := 2) h2 rfl dJ14_add_2_2 ?_
    refine ew_icmp_ne (pc := 3) (tgt := 11) dJ14_add_2_3 (by decide) (fun c3 => ?_) (fun c3 => absurd c3 (fun e => hc ((nI_eq (by omega) (by omega)).mp e)))
    refine ew_aload_n (pc := 11) dJ14_add_2_11 rfl ?_
    refine ew_iload_n (pc := 12) dJ14_add_2_12 rfl ?_
    refine ew_aload_n (pc := 13) dJ14_add_2_13 rfl ?_
    refine ew_aaS (pc := 14) rfl (h3 (by omega)) hx (j := ws.length) rfl (by omega) (by omega) dJ14_add_2_14 ?_
    refine ew_aload_n (pc := 15) dJ14_add_2_15 rfl ?_
    refine ew_iload_n (pc := 16) dJ14_add_2_16 rfl ?_
    refine ew_iconst (pc := 17) (v := 1) dJ14_add_2_17 rfl ?_
    refine ew_iadd (pc := 18) dJ14_add_2_18 ?_
    rw [nI_1]
    refine ew_putf (pc := 19) pJ14_48 (sn_1 h1 (fun e => hLE e)) st_2 (Nat.le_of_ble_eq_true rfl) rfl rfl (fun h9 => absurd h9 Bool.false_ne_true) dJ14_add_2_19 ?_
    refine ew_vret (pc := 22) rfl dJ14_add_2_22 ?_
    refine hq _ E (AL.put h1 (h3 (by omega)) (by omega) h6 h7) (Or.inl rfl) ?_
    exact Ke.set.t Ke.set (fun a h9 _ => by rw [List.mem_singleton.mp h9]; exact List.mem_cons_of_mem _ (List.mem_singleton.mpr rfl)) (fun a h9 _ => by rw [List.mem_singleton.mp h9]; exact List.mem_cons_self) (by omega) (by omega)
theorem t_alAdd {g : eg} {h : eh} {L E x : Nat} {ws : List Nat} {Q : Outcome → eh → Prop} (hg : gOC g) (hM : gOM g) (ha : AL g h L E ws) (hel : ∀ y, y ∈ ws → oO g h y) (hx : oO g h x) (hxL : x ≠ L) (hlen : ws.length < 2 ^ 18)
    (hq : ∀ h' E', AL g h' L E' (ws ++ [x]) → (E' = E ∨ h.2.1 ≤ E') → Ke [L, E] 1 (10 + 2 * ws.length) h h' → Q (.returned (some (.int 1))) h') : ew_T g kJ14_add 18 [.ref L, .ref x] h Q := by
  obtain ⟨mc, cap, f, h1, h2, h3, h4, h5, h6, h7⟩ := ha
  refine ew_enter (by decide +kernel) (ew_a1 rfl (ew_a1 rfl ew_az)) (Nat.le_of_ble_eq_true rfl) ?_
  refine ew_ok (fun ho => ?_)
  have hLE : L ≠ E := by
    intro e9
    rw [← e9, rd_of h1] at h2
    cases h2
  have a1 := se_1 h L (ob 19 [.int (mc + 1), .ref E, .int (nI ws.length)])
  have ha1 : AL g (eh_set h L (ob 19 [.int (mc + 1), .ref E, .int (nI ws.length)])) L E ws := ⟨mc + 1, cap, f, a1, rd_sn h2 (fun e => hLE e.symm), fun h9 => sn_1 (h3 h9) (fun e => hLE e.symm), h4, h5, h6, h7⟩
  have k1 : Ke [L] 0 0 h (eh_set h L (ob 19 [.int (mc + 1), .ref E, .int (nI ws.length)])) := Ke.set
  refine ew_aload_n (pc := 0) dJ14_add_0 rfl ?_
  refine ew_dup (pc := 1) dJ14_add_1 rfl ?_
  refine ew_getf (pc := 2) fJ14_63 (rd_of h1) rfl dJ14_add_2 ?_
  refine ew_iconst (pc := 5) (v := 1) dJ14_add_5 rfl ?_
  refine ew_iadd (pc := 6) dJ14_add_6 ?_
  refine ew_putf (pc := 7) pJ14_63 h1 st_0 (Nat.le_of_ble_eq_true rfl) rfl rfl (fun h9 => absurd h9 Bool.false_ne_true) dJ14_add_7 ?_
  refine ew_aload_n (pc := 10) dJ14_add_10 rfl ?_
  refine ew_aload_n (pc := 11) dJ14_add_11 rfl ?_
  refine ew_aload_n (pc := 12) dJ14_add_12 rfl ?_
  refine ew_getf (pc := 13) fJ14_9 (rd_of a1) rfl dJ14_add_13 ?_
  refine ew_aload_n (pc := 16) dJ14_add_16 rfl ?_
  refine ew_getf (pc := 17) fJ14_48 (rd_of a1) rfl dJ14_add_17 ?_
  refine ew_cV3 (d' := 17) (pc := 20) vJ14_131 (rd_of a1) dJ14_add_20 (by decide) (ew_rm (Nat.le_of_ble_eq_true rfl)) ?_
  refine t_alAdd2 hg hM ha1 (fun y hy => (hel y hy).setO h1) (hx.setO h1) hxL hlen (fun h' E' q1 q2 q3 => ?_)
  refine ew_Kv ?_
  refine ew_iconst (pc := 23) (v := 1) dJ14_add_23 rfl ?_
  refine ew_zret (pc := 24) (ty := .boolean) rfl rfl dJ14_add_24 ?_
  refine hq h' E' q1 q2 (k1.t q3 (fun a h9 _ => by rw [List.mem_singleton.mp h9]; exact List.mem_cons_self) (fun a h9 _ => h9) (by omega) (by omega))
theorem t_ablInit {g : eg} {h : eh} {L : Nat} {v1 v2 : Value} {Q : Outcome → eh → Prop} (h1 : h.1 L = some (ob 19 [.int 0, v1, v2])) (hq : Q (.returned none) h) : ew_T g kJ13_init 2 [.ref L] h Q := by
  have ini0 : ∀ Q : Outcome → eh → Prop, Q (.returned none) h → ew_T g kJ0_init 1 [.ref L] h Q := by
    intro Q hq
    refine ew_enter (by decide +kernel) (ew_a1 rfl ew_az) (Nat.le_of_ble_eq_true rfl) ?_
    refine ew_aload_n (pc := 0) dJ0_init_0 rfl ?_
    refine ew_obj (pc := 1) (ew_q q187) (ew_q q177) (ew_q q178) (ew_rm (Nat.le_of_ble_eq_true rfl)) dJ0_init_1 ?_
    refine ew_vret (pc := 4) rfl dJ0_init_4 ?_
    exact hq
  refine ew_enter (by decide +kernel) (ew_a1 rfl ew_az) (Nat.le_of_ble_eq_true rfl) ?_
  refine ew_aload_n (pc := 0) dJ13_init_0 rfl ?_
  refine ew_cI0 (d' := 1) (pc := 1) iJ13_1 dJ13_init_1 (by decide) (ew_rm (Nat.le_of_ble_eq_true rfl)) ?_
  refine ini0 _ ?_
  refine ew_Kv ?_
  refine ew_aload_n (pc := 4) dJ13_init_4 rfl ?_
  refine ew_iconst (pc := 5) (v := 0) dJ13_init_5 rfl ?_
  refine ew_putf (pc := 6) pJ13_7 h1 st_0 (Nat.le_of_ble_eq_true rfl) rfl rfl (fun h9 => absurd h9 Bool.false_ne_true) dJ13_init_6 ?_
  rw [ew_sid h1]
  refine ew_vret (pc := 9) rfl dJ13_init_9 ?_
  exact hq
theorem ew_okT {g : eg} {K : ek} {d : Nat} {av : List Value} {h : eh} {Q : Outcome → eh → Prop} (k : eh_ok g h → ew_T g K d av h Q) : ew_T g K d av h Q := fun ho => k ho ho
theorem t_alInitX {g : eg} {h : eh} {L E : Nat} {Q : Outcome → eh → Prop} (e1 : eg_s g "java/util/ArrayList" "DEFAULTCAPACITY_EMPTY_ELEMENTDATA" "[Ljava/lang/Object;" = some (.ref E)) (h1 : h.1 L = some (ob 19 [.int 0, .null, .int 0]))
    (hq : Q (.returned none) (eh_set h L (ob 19 [.int 0, .ref E, .int 0]))) : ew_T g kJ14_init 3 [.ref L] h Q := by
  refine ew_enter (by decide +kernel) (ew_a1 rfl ew_az) (Nat.le_of_ble_eq_true rfl) ?_
  refine ew_aload_n (pc := 0) dJ14_init_0 rfl ?_
  refine ew_cI0 (d' := 2) (pc := 1) iJ14_1 dJ14_init_1 (by decide) (ew_rm (Nat.le_of_ble_eq_true rfl)) ?_
  refine t_ablInit h1 ?_
  refine ew_Kv ?_
  refine ew_aload_n (pc := 4) dJ14_init_4 rfl ?_
  refine ew_gets (pc := 5) (C := "java/util/ArrayList") (n := "DEFAULTCAPACITY_EMPTY_ELEMENTDATA") (dd := "[Ljava/lang/Object;") (v := (.ref E)) e1 (ew_q q481) (Or.inl rfl) dJ14_init_5 ?_
  refine ew_putf (pc := 8) pJ14_9 h1 st_1 (Nat.le_of_ble_eq_true rfl) rfl rfl (fun h9 => absurd h9 Bool.false_ne_true) dJ14_init_8 ?_
  refine ew_vret (pc := 11) rfl dJ14_init_11 ?_
  exact hq
theorem t_alInit {g : eg} {h : eh} {L : Nat} {Q : Outcome → eh → Prop} (hD : gDE g) (h1 : h.1 L = some (ob 19 [.int 0, .null, .int 0]))
    (hq : ∀ h' E, AL g h' L E [] → E < eb g → Ke [L] 0 0 h h' → Q (.returned none) h') : ew_T g kJ14_init 3 [.ref L] h Q := by
  obtain ⟨E, e1, e2⟩ := hD
  refine ew_okT (fun ho => ?_)
  have hLb := (ho.2 _ _ h1).1
  have hle := e2.2
  have hne : E ≠ L := fun e9 => by rw [e9] at hle; omega
  have r2 := rd_c e2 ho
  refine t_alInitX e1 h1 ?_
  exact hq _ E ⟨0, 0, fun _ => none, se_1 _ _ _, rd_sn r2 hne, fun h9 => absurd h9 (Nat.lt_irrefl 0), fun _ => e1, Nat.le_refl _, by decide, fun i h9 => absurd h9 (Nat.not_lt_zero i)⟩ hle Ke.set
theorem t_alInitN {g : eg} {h : eh} {L n : Nat} {Q : Outcome → eh → Prop} (h1 : h.1 L = some (ob 19 [.int 0, .null, .int 0])) (hn : 0 < n) (hn2 : n < 2 ^ 20)
    (hq : ∀ h', AL g h' L h.2.1 [] → Ke [L] 1 n h h' → Q (.returned none) h') : ew_T g kJ14_init_2 20 [.ref L, .int (nI n)] h Q := by
  refine ew_enter (by decide +kernel) (ew_a1 rfl (ew_a1 rfl ew_az)) (Nat.le_of_ble_eq_true rfl) ?_
  refine ew_ok (fun ho => ?_)
  have hLl := h_l ho h1
  have hL2 := nn_1 (e := aR 5 n (fun _ => none)) (n := n) h1 (by omega)
  refine ew_aload_n (pc := 0) dJ14_init_2_0 rfl ?_
  refine ew_cI0 (d' := 2) (pc := 1) iJ14_1 dJ14_init_2_1 (by decide) (ew_rm (Nat.le_of_ble_eq_true rfl)) ?_
  refine t_ablInit h1 ?_
  refine ew_Kv ?_
  refine ew_iload_n (pc := 4) dJ14_init_2_4 rfl ?_
  refine ew_if_le (pc := 5) (tgt := 19) dJ14_init_2_5 (by decide) (fun c5 => absurd c5 (nI_nle hn (by omega))) (fun c5 => ?_)
  refine ew_aload_n (pc := 8) dJ14_init_2_8 rfl ?_
  refine ew_iload_n (pc := 9) dJ14_init_2_9 rfl ?_
  refine ew_newR (t := 5) (pc := 10) rfl (ew_q q1295) (ew_qt q189 rfl) (nI_pos (by omega)) (nI_clamp (by omega)) (by omega) dJ14_init_2_10 ?_
  refine ew_putf (pc := 13) pJ14_9 hL2 st_1 (Nat.le_of_ble_eq_true rfl) rfl rfl (fun h9 => absurd h9 Bool.false_ne_true) dJ14_init_2_13 ?_
  refine ew_goto (pc := 16) (tgt := 60) dJ14_init_2_16 (by decide) ?_
  refine ew_vret (pc := 60) rfl dJ14_init_2_60 ?_
  have h3 : (eh_set (eh_new h (aR 5 n (fun _ => none)) n) L (ob 19 [.int 0, .ref h.2.1, .int 0])).1 h.2.1 = some (aR 5 n (fun _ => none)) := sn_1 (ne_1 _ _ _) (by omega)
  refine hq _ ⟨0, n, fun _ => none, se_1 _ _ _, rd_of h3, fun _ => h3, fun h9 => by omega, Nat.zero_le _, hn2, fun i _ => rfl⟩ ?_
  exact Ke.new.t Ke.set (fun a h9 => absurd h9 (List.not_mem_nil)) (fun a h9 _ => h9) (by omega) (by omega)
