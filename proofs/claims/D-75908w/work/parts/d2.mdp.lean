/-! EW: the component mends its net, drops windows -/
set_option maxRecDepth 100000
theorem mdB_mem : ∀ (ms : List mnd) (o : Option mnd) (v : mnd), ms.foldl mdB o = some v → v ∈ ms ∨ o = some v
  | [], o, v, h => Or.inr h
  | x :: ms, o, v, h => by
    rw [List.foldl_cons] at h
    rcases mdB_mem ms (mdB o x) v h with h1 | h1
    · exact Or.inl (List.mem_cons_of_mem _ h1)
    · cases o with
      | none =>
        have h2 : some x = some v := h1
        exact Or.inl (by rw [Option.some.inj h2]; exact List.mem_cons_self)
      | some y =>
        have h2 : (if _ then some x else some y) = some v := h1
        split at h2
        · exact Or.inl (by rw [Option.some.inj h2]; exact List.mem_cons_self)
        · exact Or.inr h2
theorem beL_mem {N : Nat → Int32} : ∀ c v, v ∈ beL N c → ∃ k, k < c ∧ v.1 = nI k
  | 0, v, h => absurd h List.not_mem_nil
  | c + 1, v, h => by
    rw [beL] at h
    rcases List.mem_append.mp h with h1 | h1
    · obtain ⟨k, hk, e⟩ := beL_mem c v h1
      exact ⟨k, by omega, e⟩
    · split at h1
      · exact absurd h1 List.not_mem_nil
      · rw [List.mem_singleton.mp h1]
        exact ⟨c, by omega, rfl⟩
theorem beC_c {N : Nat → Int32} {v : mnd} (h : beC N = some v) : ∃ c, c < 2 * nW N ∧ v.1 = nI c := by
  rw [beC] at h
  split at h
  · cases h
  · rcases mdB_mem _ _ _ h with h1 | h1
    · exact beL_mem _ _ h1
    · cases h1
/-- a net that is mended is well made -/
def CMD (N : Nat → Int32) : Prop := ∀ v, beC N = some v → okN (mdN N (ix v.1) v.2.1)
/-- what a mend gives: the net and the units -/
def mdQ (N : Nat → Int32) : (Nat → Int32) × Int32 := match beC N with
  | none => (N, 0)
  | some v => (mdN N (ix v.1) v.2.1, v.2.1)
section
variable {g : eg} {h h' : eh} {a : Nat → Nat} {ws : List Nat} {N N' : Nat → Int32} {m pe ep : Int32} {fb ft : Nat → Int32} {ρ : ru} {Q : Outcome → eh → Prop} {A2 hd A4 c s : Nat} {P : List nbd} {sv : Nat → Option nbd} {tx : List Int32} {fbuf nm : Nat → Int32} {sn vn : Nat → Nat}
theorem CQ.budN {e : ac} {k : Nat} (q : CQ g a ws N m pe ep h h') (hk : k ≤ 6) : Bud h (eh_new h' e k) := by
  obtain ⟨_, _, _, -, kk⟩ := q
  have h1 := kk.2.2.1
  have h2 := kk.2.2.2
  exact ⟨by show h'.2.1 + 1 ≤ _; omega, by show h'.2.2 + k ≤ _; omega⟩
theorem c_mend (hg : gOC g) (hM : gOM g) (hD : gDE g) (hX : CMD N) (F : FS g h a ws N m pe ep nm sn vn fbuf A2 hd P sv A4 tx) (hq : ∀ o h', CR SA (as1 1 (bI (¬ beC N = none))) (.int (mdQ N).2) (fun h' => CX g h' (a 0) N nm m pe ep fbuf (P.map (fun b => b.2.2)) (fun i => (sv i).map (fun b => b.2.2)) tx) (fun h' => CX g h' (a 0) (mdQ N).1 nm m pe ep fbuf (reP (P.map (fun b => b.2.2)) N) (fun i => (sv i).map (fun b => b.2.2)) tx) h o h' → Q o h') : ew_T g kX1_mend 21 [.ref (a 0)] h Q := by
  obtain ⟨fb, ft, ρ, C⟩ := F.cv
  have hW := C.n.ok.w2
  refine ew_enter (by decide +kernel) (ew_a1 rfl (ew_an (ew_an ew_az))) (Nat.le_of_ble_eq_true rfl) ?_
  refine ew_ok (fun ho => ?_)
  have s10 : ∀ h1 r, CQ g a ws N m pe ep h h1 → beR g h1 r (beC N) → ew_G g kX1_mend 21 10 [.ref (a 0), r, no_] [] h1 Q := by
    intro h1 r hQ hr
    refine ew_ok (fun ho1 => ?_)
    have F1 := F.q hg ho ho1 hQ
    have bud := hQ.bud
    obtain ⟨fb1, ft1, ρ1, C1⟩ := F1.cv
    cases hb : beC N with
    | none =>
      rw [hb] at hr
      have e9 : r = .null := hr
      subst e9
      first | refine ew_aload_n (pc := 10) dX1_mend_10 rfl ?_ | refine ew_aload_nq (pc := 10) dX1_mend_10 rfl ?_ | refine ew_aload_nN (pc := 10) dX1_mend_10 rfl ?_
      refine ew_ifnullN (pc := 11) (tgt := 18) dX1_mend_11 (by decide) ?_
      refine ew_iconst (pc := 18) (v := 0) dX1_mend_18 rfl ?_
      refine ew_cS1 (d' := 5) (pc := 19) sX1_198 dX1_mend_19 (by decide) (ew_rm (Nat.le_of_ble_eq_true rfl)) ?_
      refine t_chkA (fun h9 => ?_) (fun h9 => absurd h9 (by decide))
      exact ew_Kx (ew_out (fun x hx => nomatch hx) (hq _ _ (CR.no (k := 2) (as1_i (fun h8 => h8 hb)) (by decide) (hQ.budN (by decide)) rfl (ne_1 _ _ _) (F1.err hg ho1 (by decide)).2)))
    | some v =>
      rw [hb] at hr
      obtain ⟨y, e9, hy⟩ := hr
      subst e9
      obtain ⟨c, hc, hvc⟩ := beC_c hb
      have hok := hX v hb
      rw [hvc, ix_nI (by omega)] at hok
      have hmd : mdQ N = (mdN N c v.2.1, v.2.1) := by
        rw [mdQ, hb]
        simp only [hvc, ix_nI (show c < 2 ^ 31 by omega)]
      rw [hmd] at hq
      have d2 : v.1 / 2 = nI (c / 2) := by rw [hvc]; exact nI_div (b := 2) (by omega) (by decide) (by decide)
      have r2 : v.1 - v.1 / 2 * 2 = nI (c % 2) := by rw [hvc]; exact nI_rem (b := 2) (by omega) (by decide) (by decide)
      refine ew_aload_n (pc := 10) dX1_mend_10 rfl ?_
      refine ew_ifnull (pc := 11) dX1_mend_11 ?_
      refine ew_iconst (pc := 14) (v := 1) dX1_mend_14 rfl ?_
      refine ew_goto (pc := 15) (tgt := 19) dX1_mend_15 (by decide) ?_
      refine ew_cS1 (d' := 5) (pc := 19) sX1_198 dX1_mend_19 (by decide) (ew_rm (Nat.le_of_ble_eq_true rfl)) ?_
      refine t_chkA (fun h9 => absurd h9 (by decide)) (fun h9 => ?_)
      refine ew_Kv ?_
      refine ew_aload_n (pc := 22) dX1_mend_22 rfl ?_
      refine ew_cV0 (d' := 20) (pc := 23) vX1_416 (rd_of C1.o) dX1_mend_23 (by decide) (ew_rm (Nat.le_of_ble_eq_true rfl)) ?_
      refine t_keep hg hM hD F1 (fun h2 hd2 bk F2 ebk k2 => ?_)
      refine ew_Kv ?_
      refine ew_ok (fun ho2 => ?_)
      obtain ⟨fb2, ft2, ρ2, C2⟩ := F2.cv
      have hy2 := k2.rd hg ho1 hy (F1.ktp hy (fun fs h9 => by cases h9) (fun n f h9 => by cases h9))
      obtain ⟨mc, cap, fl, hL, -⟩ := C2.n.l
      obtain ⟨x, hx, hxw⟩ := C2.n.at (i := c / 2) (by omega)
      have kk : Ke ([a 2, A2] ++ rgA a) 25060 112000 h h2 := by
        obtain ⟨_, _, _, -, k⟩ := hQ
        exact k.t k2 (fun b h9 _ => List.mem_append_right _ h9) (fun b h9 _ => List.mem_append_left _ h9) (by decide) (by decide)
      have hxy : y ≠ x := fun e => by
        rw [e, rd_of hxw] at hy2
        cases hy2
      refine ew_aload_n (pc := 26) dX1_mend_26 rfl ?_
      refine ew_getf (pc := 27) fX1_84 (rd_of C2.o) rfl dX1_mend_27 ?_
      refine ew_getf (pc := 30) fX1_117 (rd_of C2.n.o) rfl dX1_mend_30 ?_
      refine ew_aload_n (pc := 33) dX1_mend_33 rfl ?_
      refine ew_getf (pc := 34) fX1_324 hy2 rfl dX1_mend_34 ?_
      refine ew_iconst (pc := 37) (v := 2) dX1_mend_37 rfl ?_
      refine ew_idiv (pc := 38) dX1_mend_38 (by decide) ?_
      rw [d2]
      refine ew_cF1 (d' := 2) (pc := 39) tX1_126_19 (rd_of hL) dX1_mend_39 (by decide) (ew_rm (Nat.le_of_ble_eq_true rfl)) ?_
      refine t_alGet C2.n.l hx ?_
      refine ew_Kr ?_
      refine ew_cast (pc := 44) rfl (rd_of hxw) (ew_q q1622) (Or.inl rfl) dX1_mend_44 ?_
      first | refine ew_astore_n (pc := 47) dX1_mend_47 rfl (by decide) (p1_2 rfl) ?_ | refine ew_astore_nq (pc := 47) dX1_mend_47 rfl (by decide) (p1_2 rfl) ?_ | refine ew_astore_nN (pc := 47) dX1_mend_47 rfl (by decide) (p1_2 rfl) ?_
      refine ew_aload_n (pc := 48) dX1_mend_48 rfl ?_
      refine ew_getf (pc := 49) fX1_324 hy2 rfl dX1_mend_49 ?_
      refine ew_iconst (pc := 52) (v := 2) dX1_mend_52 rfl ?_
      refine ew_irem (pc := 53) dX1_mend_53 (by decide) ?_
      rw [r2]
      refine ew_iconst (pc := 54) (v := 1) dX1_mend_54 rfl ?_
      refine ew_icmp_ne (pc := 55) (tgt := 74) dX1_mend_55 (by decide) (fun c55 => ?_) (fun c55 => ?_)
      · refine ew_aload_n (pc := 74) dX1_mend_74 rfl ?_
        refine ew_dup (pc := 75) dX1_mend_75 rfl ?_
        refine ew_getf (pc := 76) fX1_258 (rd_of hxw) rfl dX1_mend_76 ?_
        refine ew_aload_n (pc := 79) dX1_mend_79 rfl ?_
        refine ew_getf (pc := 80) fX1_429 hy2 rfl dX1_mend_80 ?_
        refine ew_iadd (pc := 83) dX1_mend_83 ?_
        refine ew_putf (pc := 84) pX1_258 hxw st_3 (Nat.le_of_ble_eq_true rfl) rfl rfl (fun h9 => absurd h9 Bool.false_ne_true) dX1_mend_84 ?_
        refine ew_aload_n (pc := 87) dX1_mend_87 rfl ?_
        refine ew_getf (pc := 88) fX1_429 (rd_sn hy2 hxy) rfl dX1_mend_88 ?_
        refine ew_iret (pc := 91) rfl dX1_mend_91 ?_
        first
        | have hc1 : c % 2 = 1 := (nI_eq (b := 1) (by omega) (by decide)).mp c55
          have em : mdN N c v.2.1 = upd N (2 + 6 * (c / 2) + 2) (N (2 + 6 * (c / 2) + 2) - v.2.1) := by rw [mdN, if_pos hc1]
          rw [em] at hok hq
          have fin := (F2.win hg ho2 ebk k2 (by decide) hx hok (nLk.up (by omega)) (fun i hi9 => wN_o (by decide) hi9) (fun i h7 h8 => up_n (by omega))).2
          rw [wN_2] at fin
          exact hq _ _ (CR.ok (as1_y (by rw [hb]; exact fun h8 => by cases h8)) (kk.bud (by decide) (by decide)) fin)
        | have hc1 : ¬ c % 2 = 1 := fun h8 => c55 (by rw [h8]; decide)
          have em : mdN N c v.2.1 = upd N (2 + 6 * (c / 2) + 3) (N (2 + 6 * (c / 2) + 3) + v.2.1) := by rw [mdN, if_neg hc1]
          rw [em] at hok hq
          have fin := (F2.win hg ho2 ebk k2 (by decide) hx hok (nLk.up (by omega)) (fun i hi9 => wN_o (by decide) hi9) (fun i h7 h8 => up_n (by omega))).2
          rw [wN_3] at fin
          exact hq _ _ (CR.ok (as1_y (by rw [hb]; exact fun h8 => by cases h8)) (kk.bud (by decide) (by decide)) fin)
      · refine ew_aload_n (pc := 58) dX1_mend_58 rfl ?_
        refine ew_dup (pc := 59) dX1_mend_59 rfl ?_
        refine ew_getf (pc := 60) fX1_255 (rd_of hxw) rfl dX1_mend_60 ?_
        refine ew_aload_n (pc := 63) dX1_mend_63 rfl ?_
        refine ew_getf (pc := 64) fX1_429 hy2 rfl dX1_mend_64 ?_
        refine ew_isub (pc := 67) dX1_mend_67 ?_
        refine ew_putf (pc := 68) pX1_255 hxw st_2 (Nat.le_of_ble_eq_true rfl) rfl rfl (fun h9 => absurd h9 Bool.false_ne_true) dX1_mend_68 ?_
        refine ew_goto (pc := 71) (tgt := 87) dX1_mend_71 (by decide) ?_
        refine ew_aload_n (pc := 87) dX1_mend_87 rfl ?_
        refine ew_getf (pc := 88) fX1_429 (rd_sn hy2 hxy) rfl dX1_mend_88 ?_
        refine ew_iret (pc := 91) rfl dX1_mend_91 ?_
        first
        | have hc1 : c % 2 = 1 := (nI_eq (b := 1) (by omega) (by decide)).mp c55
          have em : mdN N c v.2.1 = upd N (2 + 6 * (c / 2) + 2) (N (2 + 6 * (c / 2) + 2) - v.2.1) := by rw [mdN, if_pos hc1]
          rw [em] at hok hq
          have fin := (F2.win hg ho2 ebk k2 (by decide) hx hok (nLk.up (by omega)) (fun i hi9 => wN_o (by decide) hi9) (fun i h7 h8 => up_n (by omega))).2
          rw [wN_2] at fin
          exact hq _ _ (CR.ok (as1_y (by rw [hb]; exact fun h8 => by cases h8)) (kk.bud (by decide) (by decide)) fin)
        | have hc1 : ¬ c % 2 = 1 := fun h8 => c55 (by rw [h8]; decide)
          have em : mdN N c v.2.1 = upd N (2 + 6 * (c / 2) + 3) (N (2 + 6 * (c / 2) + 3) + v.2.1) := by rw [mdN, if_neg hc1]
          rw [em] at hok hq
          have fin := (F2.win hg ho2 ebk k2 (by decide) hx hok (nLk.up (by omega)) (fun i hi9 => wN_o (by decide) hi9) (fun i h7 h8 => up_n (by omega))).2
          rw [wN_3] at fin
          exact hq _ _ (CR.ok (as1_y (by rw [hb]; exact fun h8 => by cases h8)) (kk.bud (by decide) (by decide)) fin)
  refine ew_aload_n (pc := 0) dX1_mend_0 rfl ?_
  refine ew_cV0 (d' := 6) (pc := 1) vX1_106 (rd_of C.o) dX1_mend_1 (by decide) (ew_rm (Nat.le_of_ble_eq_true rfl)) ?_
  refine t_there C ?_
  refine ew_Kr ?_
  refine ew_pop (pc := 4) dX1_mend_4 rfl ?_
  refine ew_aload_n (pc := 5) dX1_mend_5 rfl ?_
  refine ew_cV0 (d' := 19) (pc := 6) vX1_320 (rd_of C.o) dX1_mend_6 (by decide) (ew_rm (Nat.le_of_ble_eq_true rfl)) ?_
  refine t_best hg hM hD C (fun h2 r hQ hr => ?_)
  refine ew_Kr ?_
  have h8 := s10 h2 r hQ hr
  cases hb : beC N with
  | none =>
    rw [hb] at hr
    have e9 : r = .null := hr
    subst e9
    refine ew_astore_nN (pc := 9) dX1_mend_9 rfl (by decide) (p1_1 rfl) ?_
    exact h8
  | some v =>
    rw [hb] at hr
    obtain ⟨y, e9, hy⟩ := hr
    subst e9
    refine ew_astore_n (pc := 9) dX1_mend_9 rfl (by decide) (p1_1 rfl) ?_
    exact h8
  skip
theorem dpN_at {N : Nat → Int32} {s9 : Int32} {k : Nat} : ∀ w, (∀ i, i < w → k ≠ 2 + 6 * i + 5) → dpN N s9 w k = N k
  | 0, _ => rfl
  | w + 1, h => by
    rw [dpN]
    split
    · rw [up_n (h w (by omega))]
      exact dpN_at w (fun i hi => h i (by omega))
    · exact dpN_at w (fun i hi => h i (by omega))
theorem dpN_ok {N : Nat → Int32} {s9 : Int32} (ok : okN N) : ∀ w, w ≤ nW N → okN (dpN N s9 w) ∧ nLk N (dpN N s9 w)
  | 0, _ => ⟨ok, rfl, rfl⟩
  | w + 1, h => by
    obtain ⟨ih, e1, e2⟩ := dpN_ok (s9 := s9) ok w (by omega)
    rw [dpN]
    split
    · obtain ⟨u1, u2⟩ : nLk (dpN N s9 w) (upd (dpN N s9 w) (2 + 6 * w + 5) 1) := nLk.up (by omega)
      exact ⟨ih.uw (by omega) (by decide) (by decide) (fun h9 => absurd h9 (by decide)) (fun h9 => absurd h9 (by decide)) (fun h9 => absurd h9 (by decide)) (fun _ => Or.inr rfl), u1.trans e1, u2.trans e2⟩
    · exact ⟨ih, e1, e2⟩
theorem dpN_w {N : Nat → Int32} {s9 : Int32} {w : Nat} : wN (dpN N s9 w) w = wN N w := by
  have hj : ∀ k, k < 6 → dpN N s9 w (2 + 6 * w + k) = N (2 + 6 * w + k) := fun k hk => dpN_at w (fun i hi => by omega)
  unfold wN
  rw [hj 0 (by decide), hj 1 (by decide), hj 2 (by decide), hj 3 (by decide), hj 4 (by decide), hj 5 (by decide)]
theorem c_dropLeast (hg : gOC g) (hM : gOM g) (hD : gDE g) (hS : sfn N (nW N) ≤ 10) (F : FS g h a ws N m pe ep nm sn vn fbuf A2 hd P sv A4 tx) (hq : ∀ v, isLd N v → ∀ o h', CR SA (as1 1 (bI (¬ v = none))) (.int (oL (fun x => x.2.2.1) v)) (fun h' => CX g h' (a 0) N nm m pe ep fbuf (P.map (fun b => b.2.2)) (fun i => (sv i).map (fun b => b.2.2)) tx) (fun h' => CX g h' (a 0) (dpN N (oL (fun x => x.1) v) (nW N)) nm m pe ep fbuf (reP (P.map (fun b => b.2.2)) N) (fun i => (sv i).map (fun b => b.2.2)) tx) h o h' → Q o h') : ew_T g kX1_dropLeast 21 [.ref (a 0)] h Q := by
  obtain ⟨fb, ft, ρ, C⟩ := F.cv
  have ok := C.n.ok
  have hW := ok.w2
  refine ew_enter (by decide +kernel) (ew_a1 rfl (ew_an (ew_an ew_az))) (Nat.le_of_ble_eq_true rfl) ?_
  refine ew_ok (fun ho => ?_)
  have loop : ∀ (v : drp) (y : Nat) (h2 : eh) (hd2 : Nat) (bk : nbd), (∀ h3, CX g h3 (a 0) (dpN N v.1 (nW N)) nm m pe ep fbuf (reP (P.map (fun b => b.2.2)) N) (fun i => (sv i).map (fun b => b.2.2)) tx → h3.2 = h2.2 → Q (.returned (some (.int v.2.2.1))) h3) → bk.2.2 = N → ∀ q w h3, w + q = nW N → FS g h3 a ws (dpN N v.1 w) m pe ep nm sn vn fbuf A2 hd2 (reD P bk) sv A4 tx → rd g h3 y = some (drO v) → h3.2 = h2.2 → ew_G g kX1_dropLeast 21 28 [.ref (a 0), .ref y, .int (nI w)] [] h3 Q := by
    intro v y h2 hd2 bk hfin ebk q
    induction q with
    | zero =>
      intro w h3 hw F3 hy he
      have e9 : w = nW N := by omega
      subst e9
      obtain ⟨fb3, ft3, ρ3, C3⟩ := F3.cv
      obtain ⟨mc, cap, fl, hL, -⟩ := C3.n.l
      have fin := F3.cx.keep (PN := []) ebk
      refine ew_iload_n (pc := 28) dX1_dropLeast_28 rfl ?_
      refine ew_aload_n (pc := 29) dX1_dropLeast_29 rfl ?_
      refine ew_getf (pc := 30) fX1_84 (rd_of C3.o) rfl dX1_dropLeast_30 ?_
      refine ew_getf (pc := 33) fX1_117 (rd_of C3.n.o) rfl dX1_dropLeast_33 ?_
      refine ew_cF0 (d' := 0) (pc := 36) tX1_121_19 (rd_of hL) dX1_dropLeast_36 (by decide) (ew_rm (Nat.le_of_ble_eq_true rfl)) ?_
      refine t_alSize C3.n.l ?_
      rw [C3.n.len, (dpN_ok ok _ (Nat.le_refl _)).2.2]
      refine ew_Kr ?_
      refine ew_icmp_ge (pc := 41) (tgt := 81) dX1_dropLeast_41 (by decide) (fun c41 => ?_) (fun c41 => absurd (nI_le (Nat.le_refl _) (by omega)) c41)
      refine ew_aload_n (pc := 81) dX1_dropLeast_81 rfl ?_
      refine ew_getf (pc := 82) fX1_431 hy rfl dX1_dropLeast_82 ?_
      refine ew_iret (pc := 85) rfl dX1_dropLeast_85 ?_
      exact hfin _ fin he
    | succ q ih =>
      intro w h3 hw F3 hy he
      have hwl : w < nW N := by omega
      obtain ⟨fb3, ft3, ρ3, C3⟩ := F3.cv
      obtain ⟨okw, ew1, ew2⟩ := dpN_ok (s9 := v.1) ok w (by omega)
      obtain ⟨okw', ew1', ew2'⟩ := dpN_ok (s9 := v.1) ok (w + 1) (by omega)
      obtain ⟨mc, cap, fl, hL, -⟩ := C3.n.l
      obtain ⟨x, hx, hxw⟩ := C3.n.at (i := w) (by rw [ew2]; exact hwl)
      rw [dpN_w] at hxw
      refine ew_ok (fun ho3 => ?_)
      by_cases hb : hasB v.1 (nI w)
      · have ed : dpN N v.1 (w + 1) = upd (dpN N v.1 w) (2 + 6 * w + 5) 1 := by rw [dpN, if_pos hb]
        rw [ed] at okw'
        have C4 := cv_win C3 hx okw' (nLk.up (by omega)) (fun i hi9 => wN_o (by decide) hi9) (fun i h7 h8 => up_n (by omega))
        have h15 : x ≠ a 15 := fun e => by
          obtain ⟨fn, hn⟩ := C3.n.n
          rw [← e, rd_of hxw] at hn
          cases hn
        have hxm : x ∈ cvA a ws := List.mem_append_right _ (by simp only [nO, List.mem_cons]; exact Or.inr (Or.inr (Or.inr (Or.inr (Or.inr (Or.inr (List.mem_of_getElem? hx)))))))
        have F4 := F3.chg hg ho3 hxw hxm h15 C4 (nLk.up (by omega)).1
        have hxy : y ≠ x := fun e => by
          rw [e, rd_of hxw] at hy
          cases hy
        have ew5 : wN (upd (dpN N v.1 w) (2 + 6 * w + 5) 1) w = wV (N (2 + 6 * w + 0)) (N (2 + 6 * w + 1)) (N (2 + 6 * w + 2)) (N (2 + 6 * w + 3)) (N (2 + 6 * w + 4)) 1 := by
          have hj : ∀ k, k < 6 → dpN N v.1 w (2 + 6 * w + k) = N (2 + 6 * w + k) := fun k hk => dpN_at w (fun i hi => by omega)
          rw [wN_5, hj 0 (by decide), hj 1 (by decide), hj 2 (by decide), hj 3 (by decide), hj 4 (by decide)]
        have ih1 := ih (w + 1) _ (by omega) (by rw [ed]; exact F4) (rd_sn hy hxy) he
        rw [ew5] at ih1
        refine ew_iload_n (pc := 28) dX1_dropLeast_28 rfl ?_
        refine ew_aload_n (pc := 29) dX1_dropLeast_29 rfl ?_
        refine ew_getf (pc := 30) fX1_84 (rd_of C3.o) rfl dX1_dropLeast_30 ?_
        refine ew_getf (pc := 33) fX1_117 (rd_of C3.n.o) rfl dX1_dropLeast_33 ?_
        refine ew_cF0 (d' := 0) (pc := 36) tX1_121_19 (rd_of hL) dX1_dropLeast_36 (by decide) (ew_rm (Nat.le_of_ble_eq_true rfl)) ?_
        refine t_alSize C3.n.l ?_
        rw [C3.n.len, ew2]
        refine ew_Kr ?_
        refine ew_icmp_ge (pc := 41) (tgt := 81) dX1_dropLeast_41 (by decide) (fun c41 => absurd c41 (nI_ge hwl (by omega))) (fun c41 => ?_)
        refine ew_aload_n (pc := 44) dX1_dropLeast_44 rfl ?_
        refine ew_getf (pc := 45) fX1_341 hy rfl dX1_dropLeast_45 ?_
        refine ew_iload_n (pc := 48) dX1_dropLeast_48 rfl ?_
        refine ew_cS2 (d' := 0) (pc := 49) sX1_277 dX1_dropLeast_49 (by decide) (ew_rm (Nat.le_of_ble_eq_true rfl)) ?_
        refine t_hasC ?_
        refine ew_Kr ?_
        refine ew_if_eq (pc := 52) (tgt := 75) dX1_dropLeast_52 (by decide) (fun c52 => absurd c52 (bI_n.mpr hb)) (fun c52 => ?_)
        refine ew_aload_n (pc := 55) dX1_dropLeast_55 rfl ?_
        refine ew_getf (pc := 56) fX1_84 (rd_of C3.o) rfl dX1_dropLeast_56 ?_
        refine ew_getf (pc := 59) fX1_117 (rd_of C3.n.o) rfl dX1_dropLeast_59 ?_
        refine ew_iload_n (pc := 62) dX1_dropLeast_62 rfl ?_
        refine ew_cF1 (d' := 2) (pc := 63) tX1_126_19 (rd_of hL) dX1_dropLeast_63 (by decide) (ew_rm (Nat.le_of_ble_eq_true rfl)) ?_
        refine t_alGet C3.n.l hx ?_
        refine ew_Kr ?_
        refine ew_cast (pc := 68) rfl (rd_of hxw) (ew_q q1622) (Or.inl rfl) dX1_dropLeast_68 ?_
        refine ew_iconst (pc := 71) (v := 1) dX1_dropLeast_71 rfl ?_
        refine ew_putf (pc := 72) pX1_261 hxw st_5 (Nat.le_of_ble_eq_true rfl) rfl rfl (fun h9 => absurd h9 Bool.false_ne_true) dX1_dropLeast_72 ?_
        refine ew_iinc (pc := 75) dX1_dropLeast_75 rfl (nI_inc w) (by decide) (p1_2 rfl) ?_
        refine ew_goto (pc := 78) (tgt := 28) dX1_dropLeast_78 (by decide) ?_
        exact ih1
      · have ed : dpN N v.1 (w + 1) = dpN N v.1 w := by rw [dpN, if_neg hb]
        have ih1 := ih (w + 1) h3 (by omega) (by rw [ed]; exact F3) hy he
        refine ew_iload_n (pc := 28) dX1_dropLeast_28 rfl ?_
        refine ew_aload_n (pc := 29) dX1_dropLeast_29 rfl ?_
        refine ew_getf (pc := 30) fX1_84 (rd_of C3.o) rfl dX1_dropLeast_30 ?_
        refine ew_getf (pc := 33) fX1_117 (rd_of C3.n.o) rfl dX1_dropLeast_33 ?_
        refine ew_cF0 (d' := 0) (pc := 36) tX1_121_19 (rd_of hL) dX1_dropLeast_36 (by decide) (ew_rm (Nat.le_of_ble_eq_true rfl)) ?_
        refine t_alSize C3.n.l ?_
        rw [C3.n.len, ew2]
        refine ew_Kr ?_
        refine ew_icmp_ge (pc := 41) (tgt := 81) dX1_dropLeast_41 (by decide) (fun c41 => absurd c41 (nI_ge hwl (by omega))) (fun c41 => ?_)
        refine ew_aload_n (pc := 44) dX1_dropLeast_44 rfl ?_
        refine ew_getf (pc := 45) fX1_341 hy rfl dX1_dropLeast_45 ?_
        refine ew_iload_n (pc := 48) dX1_dropLeast_48 rfl ?_
        refine ew_cS2 (d' := 0) (pc := 49) sX1_277 dX1_dropLeast_49 (by decide) (ew_rm (Nat.le_of_ble_eq_true rfl)) ?_
        refine t_hasC ?_
        refine ew_Kr ?_
        refine ew_if_eq (pc := 52) (tgt := 75) dX1_dropLeast_52 (by decide) (fun c52 => ?_) (fun c52 => absurd (bI_0.mpr hb) c52)
        refine ew_iinc (pc := 75) dX1_dropLeast_75 rfl (nI_inc w) (by decide) (p1_2 rfl) ?_
        refine ew_goto (pc := 78) (tgt := 28) dX1_dropLeast_78 (by decide) ?_
        exact ih1
  have s10 : ∀ h1 r v, CQ g a ws N m pe ep h h1 → isLd N v → ldR g h1 r v → ew_G g kX1_dropLeast 21 10 [.ref (a 0), r, no_] [] h1 Q := by
    intro h1 r v hQ hL hr
    refine ew_ok (fun ho1 => ?_)
    have F1 := F.q hg ho ho1 hQ
    obtain ⟨fb1, ft1, ρ1, C1⟩ := F1.cv
    cases v with
    | none =>
      have e9 : r = .null := hr
      subst e9
      first | refine ew_aload_n (pc := 10) dX1_dropLeast_10 rfl ?_ | refine ew_aload_nq (pc := 10) dX1_dropLeast_10 rfl ?_ | refine ew_aload_nN (pc := 10) dX1_dropLeast_10 rfl ?_
      refine ew_ifnullN (pc := 11) (tgt := 18) dX1_dropLeast_11 (by decide) ?_
      refine ew_iconst (pc := 18) (v := 0) dX1_dropLeast_18 rfl ?_
      refine ew_cS1 (d' := 5) (pc := 19) sX1_198 dX1_dropLeast_19 (by decide) (ew_rm (Nat.le_of_ble_eq_true rfl)) ?_
      refine t_chkA (fun h9 => ?_) (fun h9 => absurd h9 (by decide))
      exact ew_Kx (ew_out (fun x hx => nomatch hx) (hq _ hL _ _ (CR.no (k := 2) (as1_i (fun h8 => h8 rfl)) (by decide) (hQ.budN (by decide)) rfl (ne_1 _ _ _) (F1.err hg ho1 (by decide)).2)))
    | some v =>
      obtain ⟨y, e9, hy⟩ := hr
      subst e9
      refine ew_aload_n (pc := 10) dX1_dropLeast_10 rfl ?_
      refine ew_ifnull (pc := 11) dX1_dropLeast_11 ?_
      refine ew_iconst (pc := 14) (v := 1) dX1_dropLeast_14 rfl ?_
      refine ew_goto (pc := 15) (tgt := 19) dX1_dropLeast_15 (by decide) ?_
      refine ew_cS1 (d' := 5) (pc := 19) sX1_198 dX1_dropLeast_19 (by decide) (ew_rm (Nat.le_of_ble_eq_true rfl)) ?_
      refine t_chkA (fun h9 => absurd h9 (by decide)) (fun h9 => ?_)
      refine ew_Kv ?_
      refine ew_aload_n (pc := 22) dX1_dropLeast_22 rfl ?_
      refine ew_cV0 (d' := 20) (pc := 23) vX1_416 (rd_of C1.o) dX1_dropLeast_23 (by decide) (ew_rm (Nat.le_of_ble_eq_true rfl)) ?_
      refine t_keep hg hM hD F1 (fun h2 hd2 bk F2 ebk k2 => ?_)
      have hy2 := k2.rd hg ho1 hy (F1.ktp hy (fun fs h9 => by cases h9) (fun n f h9 => by cases h9))
      have kk : Ke ([a 2, A2] ++ rgA a) 25060 112000 h h2 := by
        obtain ⟨_, _, _, -, k⟩ := hQ
        exact k.t k2 (fun b h9 _ => List.mem_append_right _ h9) (fun b h9 _ => List.mem_append_left _ h9) (by decide) (by decide)
      have bud := kk.bud (by decide) (by decide)
      refine ew_Kv ?_
      refine ew_iconst (pc := 26) (v := 0) dX1_dropLeast_26 rfl ?_
      refine ew_istore_n (pc := 27) dX1_dropLeast_27 rfl (by decide) (p1_2 rfl) ?_
      refine loop v y h2 hd2 bk (fun h3 cx he => ?_) ebk (nW N) 0 h2 (by omega) F2 hy2 rfl
      exact hq _ hL _ _ (CR.ok (as1_y (fun h8 => by cases h8)) ⟨by rw [he]; exact bud.1, by rw [he]; exact bud.2⟩ cx)
  refine ew_aload_n (pc := 0) dX1_dropLeast_0 rfl ?_
  refine ew_cV0 (d' := 6) (pc := 1) vX1_106 (rd_of C.o) dX1_dropLeast_1 (by decide) (ew_rm (Nat.le_of_ble_eq_true rfl)) ?_
  refine t_there C ?_
  refine ew_Kr ?_
  refine ew_pop (pc := 4) dX1_dropLeast_4 rfl ?_
  refine ew_aload_n (pc := 5) dX1_dropLeast_5 rfl ?_
  refine ew_cV0 (d' := 18) (pc := 6) vX1_350 (rd_of C.o) dX1_dropLeast_6 (by decide) (ew_rm (Nat.le_of_ble_eq_true rfl)) ?_
  refine t_cheapest hg hM hS C (fun h2 r v hQ hL hr => ?_)
  refine ew_Kr ?_
  have h8 := s10 h2 r v hQ hL hr
  cases v with
  | none =>
    have e9 : r = .null := hr
    subst e9
    refine ew_astore_nN (pc := 9) dX1_dropLeast_9 rfl (by decide) (p1_1 rfl) ?_
    exact h8
  | some v =>
    obtain ⟨y, e9, hy⟩ := hr
    subst e9
    refine ew_astore_n (pc := 9) dX1_dropLeast_9 rfl (by decide) (p1_1 rfl) ?_
    exact h8
  skip
end
