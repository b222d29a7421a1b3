/-! EW: the cheapest set to drop is found -/
set_option maxRecDepth 100000
/-- what is found, as it lies there -/
def ldR (g : eg) (h' : eh) (v : Value) : Option drp → Prop
  | none => v = .null
  | some x => ∃ y, v = .ref y ∧ rd g h' y = some (drO x)
theorem nxD_eq {N : Nat → Int32} (ok : okN N) : ∀ {l : List Nat}, okL N l → (ndV N l).2.2.2 + 1 = nI (nxD (ndV N l))
  | [], _ => by rw [nxD_nil]; show (-1 : Int32) + 1 = nI 0; decide
  | w :: l, h => by
    have h24 := ok.w2
    have hw := h.1.1
    rw [ndV, nxD_ch (by omega)]
    show nI w + nI 1 = nI (w + 1)
    exact nI_add _ _
section
variable {g : eg} {h : eh} {a : Nat → Nat} {ws : List Nat} {N : Nat → Int32} {m pe ep : Int32} {fb ft : Nat → Int32} {ρ : ru} {Q : Outcome → eh → Prop}
theorem PQ.setI {q E c cap A n : Nat} {V : List qd} {f f2 : Nat → Int32} (P : PQ g h q E c cap V) (hA : h.1 A = some (aI n f)) : PQ g (eh_set h A (aI n f2)) q E c cap V := by
  obtain ⟨mc, F, h1, hE, hc, hl, h11, hf, hob, H⟩ := P
  exact ⟨mc, F, sn_1 h1 (rd_ob (rd_of (g := g) h1) hA), sn_1 hE (fun e => by rw [e, hA] at hE; cases hE), sn_1 hc (rd_ob (rd_of (g := g) hc) hA), hl, h11, hf, fun p hp => sn_1 (hob p hp) (rd_ob (rd_of (g := g) (hob p hp)) hA), H⟩
theorem PQ.ke {q E c cap k s : Nat} {V : List qd} {h' : eh} (P : PQ g h q E c cap V) (ho : eh_ok g h) (kk : Ke [] k s h h') : PQ g h' q E c cap V := by
  obtain ⟨mc, F, h1, hE, hc, hl, h11, hf, hob, H⟩ := P
  have nm : ∀ b : Nat, b ∉ ([] : List Nat) := fun b => List.not_mem_nil
  exact ⟨mc, F, kk.h ho h1 (nm _), kk.h ho hE (nm _), kk.h ho hc (nm _), hl, h11, hf, fun p hp => kk.h ho (hob p hp) (nm _), H⟩
/-- the state between two takes: mm sets were made -/
def LdI (g : eg) (h h2 : eh) (a : Nat → Nat) (ws : List Nat) (N : Nat → Int32) (m pe ep : Int32) (fb : Nat → Int32) (ρ : ru) (q E c cap mm : Nat) (V : List qd) : Prop :=
  (∃ ft2, CV g h2 a ws N m pe ep fb ft2 ρ) ∧ PQ g h2 q E c cap V ∧ cap ≤ 2100 ∧ Ke [a 8] (mm + cap) (4 * mm + 4 * cap) h h2 ∧ h.2.1 ≤ q ∧ h.2.1 ≤ E
theorem LdI.q {h2 : eh} {q E c cap mm : Nat} {V : List qd} (I : LdI g h h2 a ws N m pe ep fb ρ q E c cap mm V) : ∃ fs, h2.1 q = some (ob 22 fs) := by
  obtain ⟨-, ⟨mc, F, h1, -⟩, -⟩ := I
  exact ⟨_, h1⟩
/-- the square that is tried may be laid anew -/
theorem LdI.lay {h2 : eh} {q E c cap mm : Nat} {V : List qd} (I : LdI g h h2 a ws N m pe ep fb ρ q E c cap mm V) (f : Nat → Int32) : LdI g h (eh_set h2 (a 8) (aI (nE N * nE N) f)) a ws N m pe ep fb ρ q E c cap mm V := by
  obtain ⟨⟨ft2, C2⟩, P, c1, k, b1, b2⟩ := I
  exact ⟨⟨_, C2.setT f⟩, P.setI C2.t.2.1, c1, k.t Ke.set (fun b h9 _ => h9) (fun b h9 _ => h9) (Nat.le_refl _) (Nat.le_refl _), b1, b2⟩
/-- a set is taken -/
theorem LdI.take {h2 h3 : eh} {q E c cap mm : Nat} {V V' : List qd} (hg : gOC g) (ho : eh_ok g h) (ho2 : eh_ok g h2) (C : CV g h a ws N m pe ep fb ft ρ) (I : LdI g h h2 a ws N m pe ep fb ρ q E c cap mm V) (P : PQ g h3 q E c cap V') (k3 : Ke [q, E] 0 0 h2 h3) : LdI g h h3 a ws N m pe ep fb ρ q E c cap mm V' := by
  obtain ⟨⟨ft2, C2⟩, P2, c1, k, b1, b2⟩ := I
  refine ⟨⟨_, C2.keA k3 hg ho2 (fun b hb h9 => ?_)⟩, P, c1, k.t k3 (fun b h9 _ => h9) (fun b h9 h8 => ?_) (Nat.le_refl _) (Nat.le_refl _), b1, b2⟩
  · have h8 := C.lt hg ho b hb
    rw [List.mem_cons, List.mem_singleton] at h9
    omega
  · rw [List.mem_cons, List.mem_singleton] at h9
    omega
/-- a set is made and put in -/
theorem LdI.add {h2 h3 h4 : eh} {q E E' c cap cap' mm k s : Nat} {V V' : List qd} (hg : gOC g) (ho : eh_ok g h) (ho2 : eh_ok g h2) (ho3 : eh_ok g h3) (C : CV g h a ws N m pe ep fb ft ρ) (I : LdI g h h2 a ws N m pe ep fb ρ q E c cap mm V) (k3 : Ke [] 1 4 h2 h3) (P : PQ g h4 q E' c cap' V') (hE : E' = E ∨ h3.2.1 ≤ E') (e1 : cap + k ≤ cap') (e2 : 4 * cap + s ≤ 4 * cap') (e3 : cap' ≤ 2100) (k4 : Ke [q, E] k s h3 h4) : LdI g h h4 a ws N m pe ep fb ρ q E' c cap' (mm + 1) V' := by
  obtain ⟨⟨ft2, C2⟩, P2, c1, kk, b1, b2⟩ := I
  have C3 := C2.ke k3 hg ho2
  have l1 := kk.2.1
  have l2 := k3.2.1
  refine ⟨⟨_, C3.keA k4 hg ho3 (fun b hb h9 => ?_)⟩, P, e3, (kk.t k3 (c := mm + cap + 1) (s := 4 * mm + 4 * cap + 4) (A := [a 8]) (fun b h9 _ => h9) (fun b h9 => absurd h9 List.not_mem_nil) (by omega) (by omega)).t k4 (fun b h9 _ => h9) (fun b h9 h8 => ?_) (by omega) (by omega), b1, ?_⟩
  · have h8 := C.lt hg ho b hb
    rw [List.mem_cons, List.mem_singleton] at h9
    omega
  · rw [List.mem_cons, List.mem_singleton] at h9
    omega
  · omega
theorem LdI.fin {h2 : eh} {q E c cap mm : Nat} {V : List qd} (I : LdI g h h2 a ws N m pe ep fb ρ q E c cap mm V) (hm : mm ≤ 1100) : CQ g a ws N m pe ep h h2 := by
  obtain ⟨⟨ft2, C2⟩, P2, c1, kk, b1, b2⟩ := I
  exact ⟨_, _, _, C2, kk.w (fun b h9 _ => by rw [List.mem_singleton.mp h9]; exact List.mem_cons_of_mem _ List.mem_cons_self) (by omega) (by omega)⟩
theorem t_cheapest (hg : gOC g) (hM : gOM g) (hS : sfn N (nW N) ≤ 10) (C : CV g h a ws N m pe ep fb ft ρ) (hq : ∀ h' r v, CQ g a ws N m pe ep h h' → isLd N v → ldR g h' r v → Q (.returned (some r)) h') : ew_T g kX1_cheapest 18 [.ref (a 0)] h Q := by
  have ok := C.n.ok
  have hW := ok.w2
  have nm : ∀ b : Nat, b ∉ ([] : List Nat) := fun b => List.not_mem_nil
  refine ew_enter (by decide +kernel) (ew_a1 rfl (ew_an (ew_an (ew_an (ew_an ew_az))))) (Nat.le_of_ble_eq_true rfl) ?_
  refine ew_ok (fun ho => ?_)
  have s39 : ∀ h2 q x3 x4, isLd N none → CQ g a ws N m pe ep h h2 → ew_G g kX1_cheapest 18 39 [.ref (a 0), .ref q, .null, x3, x4] [] h2 Q := by
    intro h2 q x3 x4 hL hQ
    first | refine ew_aload_n (pc := 39) dX1_cheapest_39 rfl ?_ | refine ew_aload_nq (pc := 39) dX1_cheapest_39 rfl ?_ | refine ew_aload_nN (pc := 39) dX1_cheapest_39 rfl ?_
    refine ew_ifnullN (pc := 40) (tgt := 148) dX1_cheapest_40 (by decide) ?_
    refine ew_null (pc := 148) dX1_cheapest_148 ?_
    refine ew_aret (pc := 149) rfl (Or.inl ⟨_, rfl⟩) (Or.inl rfl) dX1_cheapest_149 ?_
    exact hq _ _ none hQ hL rfl
  have main : ∀ r h2 q E c cap mm v V x3 x4, r ≤ 1024 → wQ N (v :: V) = r → mm + r ≤ 1025 + V.length → LdI g h h2 a ws N m pe ep fb ρ q E c cap mm V → okQ N (v :: V) → cvQ N (v :: V) → (∀ p, p ∈ V → kD v.2 ≤ kD p.2) → h2.1 v.1 = some (drO v.2) → ew_G g kX1_cheapest 18 39 [.ref (a 0), .ref q, .ref v.1, x3, x4] [] h2 Q := by
    intro r
    induction r using Nat.strongRecOn with
    | _ r ih =>
    intro h2 q E c cap mm v V x3 x4 hr1 hr hmm I oQ cQ hmin hv
    obtain ⟨lv, hlv, hev⟩ := oQ v List.mem_cons_self
    have hlen : (v :: V).length ≤ wQ N (v :: V) := wQ_len
    rw [List.length_cons] at hlen
    have inner : ∀ k w h4 E4 cap4 mm4 V4 x4, w + k = nW N → LdI g h h4 a ws N m pe ep fb ρ q E4 c cap4 mm4 V4 → okQ N V4 → cvW N V4 v.2 w → nxD v.2 ≤ w → wQ N V4 + wR N w ≤ r → mm4 + wQ N V4 + wR N w ≤ 1025 + V4.length → h4.1 v.1 = some (drO v.2) → ew_G g kX1_cheapest 18 74 [.ref (a 0), .ref q, .ref v.1, .int (nI w), x4] [] h4 Q := by
      intro k
      induction k with
      | zero =>
        intro w h4 E4 cap4 mm4 V4 x4 hw I4 oQ4 cW hn hr4 hm4 hv4
        have e9 : w = nW N := by omega
        subst e9
        rw [wR_e] at hr4 hm4
        have cQ4 := cW.fin
        have hl4 : V4.length ≤ wQ N V4 := wQ_len
        refine ew_ok (fun ho4 => ?_)
        have I4c := I4
        obtain ⟨⟨ft4, C4⟩, P4, c4, k4, -⟩ := I4c
        obtain ⟨mc, cl, fl, hL, -⟩ := C4.n.l
        obtain ⟨fs, hqq⟩ := I4.q
        cases V4 with
        | nil =>
          refine ew_iload_n (pc := 74) dX1_cheapest_74 rfl ?_
          refine ew_aload_n (pc := 75) dX1_cheapest_75 rfl ?_
          refine ew_getf (pc := 76) fX1_84 (rd_of C4.o) rfl dX1_cheapest_76 ?_
          refine ew_getf (pc := 79) fX1_117 (rd_of C4.n.o) rfl dX1_cheapest_79 ?_
          refine ew_cF0 (d' := 0) (pc := 82) tX1_121_19 (rd_of hL) dX1_cheapest_82 (by decide) (ew_rm (Nat.le_of_ble_eq_true rfl)) ?_
          refine t_alSize C4.n.l ?_
          rw [C4.n.len]
          refine ew_Kr ?_
          refine ew_icmp_ge (pc := 87) (tgt := 137) dX1_cheapest_87 (by decide) (fun c87 => ?_) (fun c87 => absurd (nI_le (Nat.le_refl _) (by omega)) c87)
          refine ew_aload_n (pc := 137) dX1_cheapest_137 rfl ?_
          refine ew_cV0 (d' := 12) (pc := 138) vX1_338 (rd_of hqq) dX1_cheapest_138 (by decide) (ew_rm (Nat.le_of_ble_eq_true rfl)) ?_
          refine t_pqNone (by omega) P4 ?_
          refine ew_Kr ?_
          refine ew_castN (pc := 141) dX1_cheapest_141 ?_
          first | refine ew_astore_n (pc := 144) dX1_cheapest_144 rfl (by decide) (p1_2 rfl) ?_ | refine ew_astore_nq (pc := 144) dX1_cheapest_144 rfl (by decide) (p1_2 rfl) ?_ | refine ew_astore_nN (pc := 144) dX1_cheapest_144 rfl (by decide) (p1_2 rfl) ?_
          refine ew_goto (pc := 145) (tgt := 39) dX1_cheapest_145 (by decide) ?_
          exact s39 _ _ _ _ cQ4.nil (I4.fin (by omega))
        | cons v2 W2 =>
          refine ew_iload_n (pc := 74) dX1_cheapest_74 rfl ?_
          refine ew_aload_n (pc := 75) dX1_cheapest_75 rfl ?_
          refine ew_getf (pc := 76) fX1_84 (rd_of C4.o) rfl dX1_cheapest_76 ?_
          refine ew_getf (pc := 79) fX1_117 (rd_of C4.n.o) rfl dX1_cheapest_79 ?_
          refine ew_cF0 (d' := 0) (pc := 82) tX1_121_19 (rd_of hL) dX1_cheapest_82 (by decide) (ew_rm (Nat.le_of_ble_eq_true rfl)) ?_
          refine t_alSize C4.n.l ?_
          rw [C4.n.len]
          refine ew_Kr ?_
          refine ew_icmp_ge (pc := 87) (tgt := 137) dX1_cheapest_87 (by decide) (fun c87 => ?_) (fun c87 => absurd (nI_le (Nat.le_refl _) (by omega)) c87)
          refine ew_aload_n (pc := 137) dX1_cheapest_137 rfl ?_
          refine ew_cV0 (d' := 12) (pc := 138) vX1_338 (rd_of hqq) dX1_cheapest_138 (by decide) (ew_rm (Nat.le_of_ble_eq_true rfl)) ?_
          refine t_pqPoll P4 (by omega) (fun h5 V5 p1 p2 p3 p4 p5 => ?_)
          obtain ⟨mc4, f4, -, -, -, -, -, -, ob4, -⟩ := P4
          have hv5 := p5 _ _ (ob4 v2 List.mem_cons_self)
          have I5 := I4.take hg ho ho4 C p1 p4
          have hp5 : (v2 :: V5).Perm (v2 :: W2) := p2.cons v2
          have hw5 := wQ_perm (N := N) hp5
          have hl5 := p2.length_eq
          rw [List.length_cons] at hm4
          refine ew_Kr ?_
          refine ew_cast (pc := 141) rfl (rd_of hv5) (ew_q q2148) (Or.inl rfl) dX1_cheapest_141 ?_
          first | refine ew_astore_n (pc := 144) dX1_cheapest_144 rfl (by decide) (p1_2 rfl) ?_ | refine ew_astore_nq (pc := 144) dX1_cheapest_144 rfl (by decide) (p1_2 rfl) ?_ | refine ew_astore_nN (pc := 144) dX1_cheapest_144 rfl (by decide) (p1_2 rfl) ?_
          refine ew_goto (pc := 145) (tgt := 39) dX1_cheapest_145 (by decide) ?_
          exact ih (wQ N (v2 :: V5)) (by omega) h5 q E4 c cap4 mm4 v2 V5 _ _ (by omega) rfl (by omega) I5 (oQ4.p hp5) (cQ4.p hp5) (fun p h9 => p3 p (p2.mem_iff.mp h9)) hv5
      | succ k ihk =>
        intro w h4 E4 cap4 mm4 V4 x4 hw I4 oQ4 cW hn hr4 hm4 hv4
        have hwl : w < nW N := by omega
        have hl4 : V4.length ≤ wQ N V4 := wQ_len
        refine ew_ok (fun ho4 => ?_)
        have I4c := I4
        obtain ⟨⟨ft4, C4⟩, P4, c4, k4, -⟩ := I4c
        obtain ⟨mc, cl, fl, hL, -⟩ := C4.n.l
        obtain ⟨fs, hqq⟩ := I4.q
        obtain ⟨x, hx, hxw⟩ := C4.n.at hwl
        have hv4l := h_l ho4 hv4
        have k5 : Ke [] 1 4 h4 (eh_set (eh_new h4 (drO (0, 0, 0, 0)) 4) h4.2.1 (drO (chD N v.2 w))) := Ke.new.t Ke.set (fun b h9 => absurd h9 (nm b)) (fun b h9 h8 => by rw [List.mem_singleton.mp h9] at h8; exact absurd h8 (Nat.lt_irrefl _)) (Nat.le_refl _) (Nat.le_refl _)
        have ho5 : eh_ok g (eh_set (eh_new h4 (drO (0, 0, 0, 0)) 4) h4.2.1 (drO (chD N v.2 w))) := (ho4.new).set (ne_1 _ _ _)
        have hq5 := k5.h ho4 hqq (nm _)
        have hv5 := k5.h ho4 hv4 (nm _)
        refine ew_iload_n (pc := 74) dX1_cheapest_74 rfl ?_
        refine ew_aload_n (pc := 75) dX1_cheapest_75 rfl ?_
        refine ew_getf (pc := 76) fX1_84 (rd_of C4.o) rfl dX1_cheapest_76 ?_
        refine ew_getf (pc := 79) fX1_117 (rd_of C4.n.o) rfl dX1_cheapest_79 ?_
        refine ew_cF0 (d' := 0) (pc := 82) tX1_121_19 (rd_of hL) dX1_cheapest_82 (by decide) (ew_rm (Nat.le_of_ble_eq_true rfl)) ?_
        refine t_alSize C4.n.l ?_
        rw [C4.n.len]
        refine ew_Kr ?_
        refine ew_icmp_ge (pc := 87) (tgt := 137) dX1_cheapest_87 (by decide) (fun c87 => absurd c87 (nI_ge (by omega) (by omega))) (fun c87 => ?_)
        refine ew_aload_n (pc := 90) dX1_cheapest_90 rfl ?_
        refine ew_getf (pc := 91) fX1_84 (rd_of C4.o) rfl dX1_cheapest_91 ?_
        refine ew_getf (pc := 94) fX1_117 (rd_of C4.n.o) rfl dX1_cheapest_94 ?_
        refine ew_iload_n (pc := 97) dX1_cheapest_97 rfl ?_
        refine ew_cF1 (d' := 2) (pc := 98) tX1_126_19 (rd_of hL) dX1_cheapest_98 (by decide) (ew_rm (Nat.le_of_ble_eq_true rfl)) ?_
        refine t_alGet C4.n.l hx ?_
        refine ew_Kr ?_
        refine ew_cast (pc := 103) rfl (rd_of hxw) (ew_q q1622) (Or.inl rfl) dX1_cheapest_103 ?_
        first | refine ew_astore (pc := 106) dX1_cheapest_106 (by decide) (p1_4 rfl) ?_ | refine ew_astoreq (pc := 106) dX1_cheapest_106 (by decide) (p1_4 rfl) ?_ | refine ew_astoreN (pc := 106) dX1_cheapest_106 (by decide) (p1_4 rfl) ?_
        refine ew_aload (pc := 108) dX1_cheapest_108 rfl ?_
        refine ew_cV0 (d' := 0) (pc := 110) vX1_289 (rd_of hxw) dX1_cheapest_110 (by decide) (ew_rm (Nat.le_of_ble_eq_true rfl)) ?_
        refine t_wSoft (rd_of hxw) ?_
        refine ew_Kr ?_
        refine ew_if_eq (pc := 113) (tgt := 131) dX1_cheapest_113 (by decide) (fun c113 => ?_) (fun c113 => ?_)
        · refine ew_iinc (pc := 131) dX1_cheapest_131 rfl (nI_inc w) (by decide) (p1_3 rfl) ?_
          refine ew_goto (pc := 134) (tgt := 74) dX1_cheapest_134 (by decide) ?_
          first
          | have hs : ¬ sfC N w := bI_0.mp c113
            have e1 := wR_n hs
            exact ihk (w + 1) h4 E4 cap4 mm4 V4 _ (by omega) I4 oQ4 (cW.no hs) (by omega) (by omega) (by omega) hv4
          | have hs : sfC N w := bI_n.mp c113
            have e1 := wR_y hs hwl
            have e2 := wQ_perm (N := N) p2
            rw [wQ_cons, wD_ch (by omega)] at e2
            have e3 := p2.length_eq
            rw [List.length_cons] at e3
            exact ihk (w + 1) h6 E6 cap6 (mm4 + 1) V6 _ (by omega) (I4.add hg ho ho4 ho5 C k5 p1 p3 p4 p5 (by omega) p7) (oQ4.add ok ⟨lv, hlv, hev⟩ hwl hs hn p2) (cW.yes p2) (by omega) (by omega) (by omega) (p8 _ _ hv5)
        · refine ew_aload_n (pc := 116) dX1_cheapest_116 rfl ?_
          refine ew_aload_n (pc := 117) dX1_cheapest_117 rfl ?_
          refine ew_iload_n (pc := 118) dX1_cheapest_118 rfl ?_
          refine ew_aload (pc := 119) dX1_cheapest_119 rfl ?_
          refine ew_getf (pc := 121) fX1_294 (rd_of hxw) rfl dX1_cheapest_121 ?_
          refine ew_cV2 (d' := 2) (pc := 124) vX1_346 (rd_of hv4) dX1_cheapest_124 (by decide) (ew_rm (Nat.le_of_ble_eq_true rfl)) ?_
          refine t_drWith hv4 ?_
          refine ew_Kr ?_
          refine ew_cV1 (d' := 17) (pc := 127) vX1_337 (rd_of hq5) dX1_cheapest_127 (by decide) (ew_rm (Nat.le_of_ble_eq_true rfl)) ?_
          refine t_pqAdd hg hM (P4.ke ho4 k5) (se_1 _ _ (drO (chD N v.2 w))) (by omega) (fun h6 E6 cap6 k6 s6 V6 p1 p2 p3 p4 p5 p6 p7 p8 => ?_)
          refine ew_Kr ?_
          refine ew_pop (pc := 130) dX1_cheapest_130 rfl ?_
          refine ew_iinc (pc := 131) dX1_cheapest_131 rfl (nI_inc w) (by decide) (p1_3 rfl) ?_
          refine ew_goto (pc := 134) (tgt := 74) dX1_cheapest_134 (by decide) ?_
          first
          | have hs : ¬ sfC N w := bI_0.mp c113
            have e1 := wR_n hs
            exact ihk (w + 1) h4 E4 cap4 mm4 V4 _ (by omega) I4 oQ4 (cW.no hs) (by omega) (by omega) (by omega) hv4
          | have hs : sfC N w := bI_n.mp c113
            have e1 := wR_y hs hwl
            have e2 := wQ_perm (N := N) p2
            rw [wQ_cons, wD_ch (by omega)] at e2
            have e3 := p2.length_eq
            rw [List.length_cons] at e3
            exact ihk (w + 1) h6 E6 cap6 (mm4 + 1) V6 _ (by omega) (I4.add hg ho ho4 ho5 C k5 p1 p3 p4 p5 (by omega) p7) (oQ4.add ok ⟨lv, hlv, hev⟩ hwl hs hn p2) (cW.yes p2) (by omega) (by omega) (by omega) (p8 _ _ hv5)
    have I2 := I
    obtain ⟨⟨ft2, C2⟩, P2, c2, k2, -⟩ := I2
    have C3 := C2.setT (lyF N v.2.1 (-1) ft2)
    have hf := lyF_cSq ok v.2.1 (-1) ft2
    have I3 := I.lay (lyF N v.2.1 (-1) ft2)
    have hv3 : (eh_set h2 (a 8) (aI (nE N * nE N) (lyF N v.2.1 (-1) ft2))).1 v.1 = some (drO v.2) := sn_1 hv (rd_ob (rd_of (g := g) hv) C2.t.2.1)
    have hst : v.2.2.2.2 + 1 = nI (nxD v.2) := by rw [hev]; exact nxD_eq ok hlv
    have hnx : nxD v.2 ≤ nW N := by rw [hev]; exact nxD_le ok hlv
    rw [wQ_cons] at hr hlen
    have hwr : wD N v.2 = wR N (nxD v.2) := rfl
    refine ew_aload_n (pc := 39) dX1_cheapest_39 rfl ?_
    refine ew_ifnull (pc := 40) dX1_cheapest_40 ?_
    refine ew_aload_n (pc := 43) dX1_cheapest_43 rfl ?_
    refine ew_getf (pc := 44) fX1_84 (rd_of C2.o) rfl dX1_cheapest_44 ?_
    refine ew_aload_n (pc := 47) dX1_cheapest_47 rfl ?_
    refine ew_getf (pc := 48) fX1_163 (rd_of C2.o) rfl dX1_cheapest_48 ?_
    refine ew_aload_n (pc := 51) dX1_cheapest_51 rfl ?_
    refine ew_getf (pc := 52) fX1_341 (rd_of hv) rfl dX1_cheapest_52 ?_
    refine ew_iconst (pc := 55) (v := -1) dX1_cheapest_55 rfl ?_
    refine ew_cV3 (d' := 3) (pc := 56) vX1_96 (rd_of C2.n.o) dX1_cheapest_56 (by decide) (ew_rm (Nat.le_of_ble_eq_true rfl)) ?_
    refine t_nLay C2.n C2.t C2.ne.2.1.2.2.2 ?_
    refine ew_Kr ?_
    refine ew_cV0 (d' := 1) (pc := 59) vX1_100 C3.t.1 dX1_cheapest_59 (by decide) (ew_rm (Nat.le_of_ble_eq_true rfl)) ?_
    refine t_isSoundS C3.t (fun y hy => ?_)
    rw [sqS_ag hf] at hy
    refine ew_Kr ?_
    refine ew_if_eq (pc := 62) (tgt := 67) dX1_cheapest_62 (by decide) (fun c62 => ?_) (fun c62 => ?_)
    · refine ew_aload_n (pc := 67) dX1_cheapest_67 rfl ?_
      refine ew_getf (pc := 68) fX1_343 (rd_of hv3) rfl dX1_cheapest_68 ?_
      refine ew_iconst (pc := 71) (v := 1) dX1_cheapest_71 rfl ?_
      refine ew_iadd (pc := 72) dX1_cheapest_72 ?_
      rw [hst]
      refine ew_istore_n (pc := 73) dX1_cheapest_73 rfl (by decide) (p1_3 rfl) ?_
      have hs : ¬ soD N v.2 := hy.elim (fun h8 => absurd c62 (by rw [h8.1]; decide)) (fun h8 => h8.2)
      exact inner (nW N - nxD v.2) (nxD v.2) _ E cap mm V _ (by omega) I3 (fun p h9 => oQ p (List.mem_cons_of_mem _ h9)) (cQ.opn ok hs (List.Perm.refl _)) (Nat.le_refl _) (by omega) (by omega) hv3
    · refine ew_aload_n (pc := 65) dX1_cheapest_65 rfl ?_
      refine ew_aret (pc := 66) rfl (Or.inl ⟨_, rfl⟩) (Or.inr ⟨_, rfl⟩) dX1_cheapest_66 ?_
      have hs : soD N v.2 := hy.elim (fun h8 => h8.2) (fun h8 => absurd h8.1 c62)
      exact hq _ _ (some v.2) (I3.fin (by omega)) (cQ.least ok oQ hs hmin) ⟨_, rfl, rd_of hv3⟩
  obtain ⟨hc, hc9⟩ : ∃ hc, hc = eh_new (eh_new h (ob 22 [.null, .int 0, .null, .int 0]) 4) (ob 13 []) 0 := ⟨_, rfl⟩
  have kc : Ke [] 2 4 h hc := by rw [hc9]; exact Ke.new.t Ke.new (fun b h9 => absurd h9 (nm b)) (fun b h9 => absurd h9 (nm b)) (Nat.le_refl _) (Nat.le_refl _)
  have c1 : hc.1 h.2.1 = some (ob 22 [.null, .int 0, .null, .int 0]) := by rw [hc9]; exact nn_1 (ne_1 _ _ _) (by show h.2.1 ≠ h.2.1 + 1; omega)
  have c2 : hc.1 (h.2.1 + 1) = some (ob 13 []) := by rw [hc9]; exact ne_1 _ _ _
  have binit : ∀ Q : Outcome → eh → Prop, Q (.returned none) hc → ew_T g kX14_init 1 [.ref (h.2.1 + 1)] hc Q := by
    intro Q hq
    refine ew_enter (by decide +kernel) (ew_a1 rfl ew_az) (Nat.le_of_ble_eq_true rfl) ?_
    refine ew_aload_n (pc := 0) dX14_init_0 rfl ?_
    refine ew_obj (pc := 1) (ew_q q2120) (ew_q q177) (ew_q q178) (ew_rm (Nat.le_of_ble_eq_true rfl)) dX14_init_1 ?_
    refine ew_vret (pc := 4) rfl dX14_init_4 ?_
    exact hq
  have hc21 : hc.2.1 = h.2.1 + 2 := by rw [hc9]; rfl
  have hoc : eh_ok g hc := by rw [hc9]; exact ho.new.new
  rw [hc9] at binit
  have hw0 : wQ N [(0, ((0, 0, 0, -1) : drp))] ≤ 1024 := by
    rw [wQ_cons]
    show 2 ^ (sfn N (nW N) - 0) + 0 ≤ 1024
    exact Nat.pow_le_pow_right (n := 2) (j := 10) (by decide) (by omega)
  refine ew_new (pc := 0) nX1_326 dX1_cheapest_0 ?_
  refine ew_dup (pc := 3) dX1_cheapest_3 rfl ?_
  refine ew_new (pc := 4) nX1_328 dX1_cheapest_4 ?_
  refine ew_dup (pc := 7) dX1_cheapest_7 rfl ?_
  refine ew_cI0 (d' := 1) (pc := 8) iX1_330 dX1_cheapest_8 (by decide) (ew_rm (Nat.le_of_ble_eq_true rfl)) ?_
  refine binit _ ?_
  refine ew_Kv ?_
  refine ew_cI1 (d' := 6) (pc := 11) iX1_331 dX1_cheapest_11 (by decide) (ew_rm (Nat.le_of_ble_eq_true rfl)) ?_
  rw [← hc9]
  refine t_pqInit c1 c2 (fun h1 P1 k1 => ?_)
  refine ew_Kv ?_
  refine ew_ok (fun ho1 => ?_)
  have k01 : Ke [] 3 15 h h1 := kc.t k1 (fun b h9 => absurd h9 (nm b)) (fun b h9 h8 => by rw [List.mem_singleton.mp h9] at h8; exact absurd h8 (Nat.lt_irrefl _)) (Nat.le_refl _) (Nat.le_refl _)
  have I1 : LdI g h h1 a ws N m pe ep fb ρ h.2.1 hc.2.1 (h.2.1 + 1) 11 0 [] := ⟨⟨_, C.ke k01 hg ho⟩, P1, by omega, k01.w (fun b h9 => absurd h9 (nm b)) (by omega) (by omega), Nat.le_refl _, by omega⟩
  have k2 : Ke [] 1 4 h1 (eh_set (eh_new h1 (drO (0, 0, 0, 0)) 4) h1.2.1 (drO (0, 0, 0, -1))) := Ke.new.t Ke.set (fun b h9 => absurd h9 (nm b)) (fun b h9 h8 => by rw [List.mem_singleton.mp h9] at h8; exact absurd h8 (Nat.lt_irrefl _)) (Nat.le_refl _) (Nat.le_refl _)
  have ho2 : eh_ok g (eh_set (eh_new h1 (drO (0, 0, 0, 0)) 4) h1.2.1 (drO (0, 0, 0, -1))) := (ho1.new).set (ne_1 _ _ _)
  obtain ⟨fs1, hq1⟩ := I1.q
  first | refine ew_astore_n (pc := 14) dX1_cheapest_14 rfl (by decide) (p1_1 rfl) ?_ | refine ew_astore_nq (pc := 14) dX1_cheapest_14 rfl (by decide) (p1_1 rfl) ?_ | refine ew_astore_nN (pc := 14) dX1_cheapest_14 rfl (by decide) (p1_1 rfl) ?_
  first | refine ew_aload_n (pc := 15) dX1_cheapest_15 rfl ?_ | refine ew_aload_nq (pc := 15) dX1_cheapest_15 rfl ?_ | refine ew_aload_nN (pc := 15) dX1_cheapest_15 rfl ?_
  refine ew_new (pc := 16) nX1_332 dX1_cheapest_16 ?_
  refine ew_dup (pc := 19) dX1_cheapest_19 rfl ?_
  refine ew_iconst (pc := 20) (v := 0) dX1_cheapest_20 rfl ?_
  refine ew_iconst (pc := 21) (v := 0) dX1_cheapest_21 rfl ?_
  refine ew_iconst (pc := 22) (v := 0) dX1_cheapest_22 rfl ?_
  refine ew_iconst (pc := 23) (v := -1) dX1_cheapest_23 rfl ?_
  refine ew_cI4 (d' := 1) (pc := 24) iX1_334 dX1_cheapest_24 (by decide) (ew_rm (Nat.le_of_ble_eq_true rfl)) ?_
  refine t_drInit (ne_1 _ _ _) ?_
  refine ew_Kv ?_
  refine ew_cV1 (d' := 17) (pc := 27) vX1_337 (rd_of (k2.h ho1 hq1 (nm _))) dX1_cheapest_27 (by decide) (ew_rm (Nat.le_of_ble_eq_true rfl)) ?_
  refine t_pqAdd hg hM (P1.ke ho1 k2) (se_1 _ _ (drO (0, 0, 0, -1))) (by omega) (fun h3 E3 cap3 k3 s3 V3 p1 p2 p3 p4 p5 p6 p7 p8 => ?_)
  have I3 := I1.add hg ho ho1 ho2 C k2 p1 p3 p4 p5 (by rw [List.length_nil] at p6; omega) p7
  have e3 := List.perm_singleton.mp p2
  subst e3
  refine ew_Kr ?_
  refine ew_ok (fun ho3 => ?_)
  obtain ⟨fs3, hq3⟩ := I3.q
  refine ew_pop (pc := 30) dX1_cheapest_30 rfl ?_
  refine ew_aload_n (pc := 31) dX1_cheapest_31 rfl ?_
  refine ew_cV0 (d' := 12) (pc := 32) vX1_338 (rd_of hq3) dX1_cheapest_32 (by decide) (ew_rm (Nat.le_of_ble_eq_true rfl)) ?_
  refine t_pqPoll p1 (by have := I3.2.2.1; omega) (fun h4 V4 b1 b2 b3 b4 b5 => ?_)
  obtain ⟨mc3, f3, -, -, -, -, -, -, ob3, -⟩ := p1
  have hv4 := b5 _ _ (ob3 _ List.mem_cons_self)
  have I4 := I3.take hg ho ho3 C b1 b4
  have e4 := List.perm_nil.mp b2
  subst e4
  refine ew_Kr ?_
  refine ew_cast (pc := 35) rfl (rd_of hv4) (ew_q q2148) (Or.inl rfl) dX1_cheapest_35 ?_
  first | refine ew_astore_n (pc := 38) dX1_cheapest_38 rfl (by decide) (p1_2 rfl) ?_ | refine ew_astore_nq (pc := 38) dX1_cheapest_38 rfl (by decide) (p1_2 rfl) ?_ | refine ew_astore_nN (pc := 38) dX1_cheapest_38 rfl (by decide) (p1_2 rfl) ?_
  exact main _ h4 _ E3 _ cap3 1 (h1.2.1, (0, 0, 0, -1)) [] _ _ hw0 rfl (by show 1 + wQ N [(0, ((0, 0, 0, -1) : drp))] ≤ 1025 + 0; omega) I4 okQ.one cvQ.one (fun p h9 => absurd h9 List.not_mem_nil) hv4
end
