/-! EW: the component's share of needed windows, widenings -/
set_option maxRecDepth 100000
def sqB (n : Nat) (f : Nat → Int32) : Bool := (List.range n).all (fun e => decide (¬ f (n * e + e) < 0))
theorem sqB_iff {n : Nat} {f : Nat → Int32} : sqB n f = true ↔ sqSound n f := by
  rw [sqB, List.all_eq_true]
  constructor
  · intro h e he
    exact of_decide_eq_true (h e (List.mem_range.mpr he))
  · intro h e he
    exact decide_eq_true (h e (List.mem_range.mp he))
/-- the step that a widening leaves out -/
def unK (w : Nat) (l : Int32) : Int32 := nI (2 * w) + (if l = 0 then 0 else 1)
/-- units by which a bound of window w is widened, when the net is not sound -/
def unC (N : Nat → Int32) (w : Nat) (l : Int32) : Int32 :=
  if ¬ ((N (2 + 6 * w + 5) = 0 ∧ (l = 0 → ¬ N (2 + 6 * w + 3) = -1)) ∧ sqB (nE N) (cSq N 0 (unK w l)) = true) then -1
  else if l = 0 then (if N (2 + 6 * w + 3) + (-cSq N 0 (unK w l) (nE N * fB N w + fA N w) - N (2 + 6 * w + 3)) ≤ 999 then -cSq N 0 (unK w l) (nE N * fB N w + fA N w) - N (2 + 6 * w + 3) else -1)
  else (if N (2 + 6 * w + 2) - cSq N 0 (unK w l) (nE N * fA N w + fB N w) ≤ N (2 + 6 * w + 2) then N (2 + 6 * w + 2) - cSq N 0 (unK w l) (nE N * fA N w + fB N w) else -1)
section
variable {g : eg} {h : eh} {a : Nat → Nat} {ws : List Nat} {N : Nat → Int32} {m pe ep : Int32} {fb ft : Nat → Int32} {ρ : ru} {Q : Outcome → eh → Prop}
theorem c_neededShare (hg : gOC g) (C : CV g h a ws N m pe ep fb ft ρ) (hq : ∀ o h', CO SI (se1 1 (cSb N) 1) (.float (shC N)) (CQ g a ws N m pe ep h) o h' → Q o h') : ew_T g kX1_neededShare 8 [.ref (a 0)] h Q := by
  have hW := C.n.ok.w2
  have main : ∀ f, cSo N 0 (-1) → agN (nE N) f (cSq N 0 (-1)) → ∀ q w h2 f2, w + q = nW N → CV g h2 a ws N m pe ep f f2 ρ → Ke (rgA a) 0 0 h h2 → ew_G g kX1_neededShare 8 12 [.ref (a 0), .ref (a 5), .int (nI (neC N w)), .int (nI (thC N w)), .int (nI w)] [] h2 Q := by
    intro f hs hf q
    induction q with
    | zero =>
      intro w h2 f2 hw C2 k
      have e9 : w = nW N := by omega
      rw [e9]
      obtain ⟨mc, cap, fl, hL, -⟩ := C2.n.l
      have h1 := thC_le N (nW N)
      have h3 := neC_le N (nW N)
      have h8 := hq (.returned (some (.float (shC N)))) h2 (CO.y (se1_1y hs) ⟨_, _, _, C2, k.w (fun b h9 _ => h9) (by decide) (by decide)⟩)
      rw [shC] at h8
      refine ew_iload (pc := 12) dX1_neededShare_12 rfl ?_
      refine ew_aload_n (pc := 14) dX1_neededShare_14 rfl ?_
      refine ew_getf (pc := 15) fX1_84 (rd_of C2.o) rfl dX1_neededShare_15 ?_
      refine ew_getf (pc := 18) fX1_117 (rd_of C2.n.o) rfl dX1_neededShare_18 ?_
      refine ew_cF0 (d' := 0) (pc := 21) tX1_121_19 (rd_of hL) dX1_neededShare_21 (by decide) (ew_rm (Nat.le_of_ble_eq_true rfl)) ?_
      refine t_alSize C2.n.l ?_
      rw [C2.n.len]
      refine ew_Kr ?_
      refine ew_icmp_ge (pc := 26) (tgt := 83) dX1_neededShare_26 (by decide) (fun c26 => ?_) (fun c26 => absurd (nI_le (Nat.le_refl _) (by omega)) c26)
      refine ew_iload_n (pc := 83) dX1_neededShare_83 rfl ?_
      refine ew_if_ne (pc := 84) (tgt := 91) dX1_neededShare_84 (by decide) (fun c84 => ?_) (fun c84 => ?_)
      · refine ew_iload_n (pc := 91) dX1_neededShare_91 rfl ?_
        refine ew_i2f (pc := 92) dX1_neededShare_92 ?_
        refine ew_iload_n (pc := 93) dX1_neededShare_93 rfl ?_
        refine ew_i2f (pc := 94) dX1_neededShare_94 ?_
        refine ew_fdiv (pc := 95) dX1_neededShare_95 (fdiv_n (by omega) (by omega) (fun h9 => c84 ((nI_z (by omega)).mpr h9))) ?_
        refine ew_fret (pc := 96) rfl dX1_neededShare_96 ?_
        first
        | rw [if_pos ((nI_z (by omega)).mp c84)] at h8
          exact h8
        | rw [if_neg (fun h9 => c84 ((nI_z (by omega)).mpr h9))] at h8
          exact h8
      · refine ew_fconst0 (pc := 87) dX1_neededShare_87 ?_
        refine ew_goto (pc := 88) (tgt := 96) dX1_neededShare_88 (by decide) ?_
        refine ew_fret (pc := 96) rfl dX1_neededShare_96 ?_
        first
        | rw [if_pos ((nI_z (by omega)).mp c84)] at h8
          exact h8
        | rw [if_neg (fun h9 => c84 ((nI_z (by omega)).mpr h9))] at h8
          exact h8
    | succ q ih =>
      intro w h2 f2 hw C2 k
      obtain ⟨mc, cap, fl, hL, -⟩ := C2.n.l
      obtain ⟨x, hx, hxw⟩ := C2.n.at (i := w) (by omega)
      have hdr := C2.n.ok.dr w (by omega)
      have s60 : ∀ v, v = nI (thC N (w + 1)) → ew_G g kX1_neededShare 8 60 [.ref (a 0), .ref (a 5), .int (nI (neC N w)), .int v, .int (nI w)] [] h2 Q := by
        intro v hv
        rw [hv]
        refine ew_iload_n (pc := 60) dX1_neededShare_60 rfl ?_
        refine ew_aload_n (pc := 61) dX1_neededShare_61 rfl ?_
        refine ew_iload (pc := 62) dX1_neededShare_62 rfl ?_
        refine ew_cV1 (d' := 4) (pc := 64) vX1_269 (rd_of C2.o) dX1_neededShare_64 (by decide) (ew_rm (Nat.le_of_ble_eq_true rfl)) ?_
        refine t_isNeededNow1 C2 hf (by omega) (fun h3 f3 C3 k3 => ?_)
        have k4 : Ke (rgA a) 0 0 h h3 := k.t k3 (fun b h9 _ => h9) (fun b h9 _ => by rw [List.mem_singleton.mp h9]; exact List.mem_cons_of_mem _ List.mem_cons_self) (Nat.le_refl _) (Nat.le_refl _)
        have h8 := ih (w + 1) h3 f3 (by omega) C3 k4
        rw [neC] at h8
        refine ew_Kr ?_
        refine ew_if_eq (pc := 67) (tgt := 74) dX1_neededShare_67 (by decide) (fun c67 => ?_) (fun c67 => ?_)
        · refine ew_iconst (pc := 74) (v := 0) dX1_neededShare_74 rfl ?_
          refine ew_iadd (pc := 75) dX1_neededShare_75 ?_
          refine ew_istore_n (pc := 76) dX1_neededShare_76 rfl (by decide) (p1_2 rfl) ?_
          refine ew_iinc (pc := 77) dX1_neededShare_77 rfl (nI_inc w) (by decide) (p1_4 rfl) ?_
          refine ew_goto (pc := 80) (tgt := 12) dX1_neededShare_80 (by decide) ?_
          first
          | rw [if_neg (bI_0.mp c67), Nat.add_zero] at h8
            rw [Int32.add_zero]
            exact h8
          | rw [if_pos (bI_n.mp c67), ← nI_1] at h8
            exact h8
        · refine ew_iconst (pc := 70) (v := 1) dX1_neededShare_70 rfl ?_
          refine ew_goto (pc := 71) (tgt := 75) dX1_neededShare_71 (by decide) ?_
          refine ew_iadd (pc := 75) dX1_neededShare_75 ?_
          refine ew_istore_n (pc := 76) dX1_neededShare_76 rfl (by decide) (p1_2 rfl) ?_
          refine ew_iinc (pc := 77) dX1_neededShare_77 rfl (nI_inc w) (by decide) (p1_4 rfl) ?_
          refine ew_goto (pc := 80) (tgt := 12) dX1_neededShare_80 (by decide) ?_
          first
          | rw [if_neg (bI_0.mp c67), Nat.add_zero] at h8
            rw [Int32.add_zero]
            exact h8
          | rw [if_pos (bI_n.mp c67), ← nI_1] at h8
            exact h8
      refine ew_iload (pc := 12) dX1_neededShare_12 rfl ?_
      refine ew_aload_n (pc := 14) dX1_neededShare_14 rfl ?_
      refine ew_getf (pc := 15) fX1_84 (rd_of C2.o) rfl dX1_neededShare_15 ?_
      refine ew_getf (pc := 18) fX1_117 (rd_of C2.n.o) rfl dX1_neededShare_18 ?_
      refine ew_cF0 (d' := 0) (pc := 21) tX1_121_19 (rd_of hL) dX1_neededShare_21 (by decide) (ew_rm (Nat.le_of_ble_eq_true rfl)) ?_
      refine t_alSize C2.n.l ?_
      rw [C2.n.len]
      refine ew_Kr ?_
      refine ew_icmp_ge (pc := 26) (tgt := 83) dX1_neededShare_26 (by decide) (fun c26 => absurd c26 (nI_ge (by omega) (by omega))) (fun c26 => ?_)
      refine ew_iload_n (pc := 29) dX1_neededShare_29 rfl ?_
      refine ew_aload_n (pc := 30) dX1_neededShare_30 rfl ?_
      refine ew_getf (pc := 31) fX1_84 (rd_of C2.o) rfl dX1_neededShare_31 ?_
      refine ew_getf (pc := 34) fX1_117 (rd_of C2.n.o) rfl dX1_neededShare_34 ?_
      refine ew_iload (pc := 37) dX1_neededShare_37 rfl ?_
      refine ew_cF1 (d' := 2) (pc := 39) tX1_126_19 (rd_of hL) dX1_neededShare_39 (by decide) (ew_rm (Nat.le_of_ble_eq_true rfl)) ?_
      refine t_alGet C2.n.l hx ?_
      refine ew_Kr ?_
      refine ew_cast (pc := 44) rfl (rd_of hxw) (ew_q q1622) (Or.inl rfl) dX1_neededShare_44 ?_
      refine ew_getf (pc := 47) fX1_261 (rd_of hxw) rfl dX1_neededShare_47 ?_
      refine ew_if_eq (pc := 50) (tgt := 57) dX1_neededShare_50 (by decide) (fun c50 => ?_) (fun c50 => ?_)
      · refine ew_iconst (pc := 57) (v := 1) dX1_neededShare_57 rfl ?_
        refine ew_iadd (pc := 58) dX1_neededShare_58 ?_
        refine ew_istore_n (pc := 59) dX1_neededShare_59 rfl (by decide) (p1_3 rfl) ?_
        first
        | refine s60 _ ?_
          have c51 : ¬ N (2 + 6 * w + 5) = 1 := fun h9 => absurd (h9.symm.trans c50) (by decide)
          rw [thC, if_neg c51, ← nI_1]
        | refine s60 _ ?_
          rw [thC, if_pos (hdr.resolve_left c50), Nat.add_zero, Int32.add_zero]
      · refine ew_iconst (pc := 53) (v := 0) dX1_neededShare_53 rfl ?_
        refine ew_goto (pc := 54) (tgt := 58) dX1_neededShare_54 (by decide) ?_
        refine ew_iadd (pc := 58) dX1_neededShare_58 ?_
        refine ew_istore_n (pc := 59) dX1_neededShare_59 rfl (by decide) (p1_3 rfl) ?_
        first
        | refine s60 _ ?_
          have c51 : ¬ N (2 + 6 * w + 5) = 1 := fun h9 => absurd (h9.symm.trans c50) (by decide)
          rw [thC, if_neg c51, ← nI_1]
        | refine s60 _ ?_
          rw [thC, if_pos (hdr.resolve_left c50), Nat.add_zero, Int32.add_zero]
  refine ew_enter (by decide +kernel) (ew_a1 rfl (ew_an (ew_an (ew_an (ew_an ew_az))))) (Nat.le_of_ble_eq_true rfl) ?_
  refine ew_ok (fun ho => ?_)
  refine ew_aload_n (pc := 0) dX1_neededShare_0 rfl ?_
  refine ew_cV0 (d' := 7) (pc := 1) vX1_132 (rd_of C.o) dX1_neededShare_1 (by decide) (ew_rm (Nat.le_of_ble_eq_true rfl)) ?_
  refine t_sound C (fun hs f => ?_) (fun hs f hf => ?_)
  · exact ew_Kx (ew_out (fun x hx => nomatch hx) (hq _ _ (CO.n (k := 1) (se1_n hs) (by decide) rfl (ne_1 _ _ _) (CQ.newB hg ho C f (by decide)))))
  refine ew_Kr ?_
  first | refine ew_astore_n (pc := 4) dX1_neededShare_4 rfl (by decide) (p1_1 rfl) ?_ | refine ew_astore_nq (pc := 4) dX1_neededShare_4 rfl (by decide) (p1_1 rfl) ?_ | refine ew_astore_nN (pc := 4) dX1_neededShare_4 rfl (by decide) (p1_1 rfl) ?_
  refine ew_iconst (pc := 5) (v := 0) dX1_neededShare_5 rfl ?_
  refine ew_istore_n (pc := 6) dX1_neededShare_6 rfl (by decide) (p1_2 rfl) ?_
  refine ew_iconst (pc := 7) (v := 0) dX1_neededShare_7 rfl ?_
  refine ew_istore_n (pc := 8) dX1_neededShare_8 rfl (by decide) (p1_3 rfl) ?_
  refine ew_iconst (pc := 9) (v := 0) dX1_neededShare_9 rfl ?_
  refine ew_istore (pc := 10) dX1_neededShare_10 (by decide) (p1_4 rfl) ?_
  exact main f hs hf (nW N) 0 _ ft (by omega) (C.setB f) keB
theorem t_units1 {w : Nat} {l : Int32} (C : CV g h a ws N m pe ep fb ft ρ) (hw : w < nW N)
    (hq : ∀ h' f2, CV g h' a ws N m pe ep fb f2 ρ → Ke [a 8] 0 0 h h' → Q (.returned (some (.int (unC N w l)))) h') : ew_T g kX1_units 4 [.ref (a 0), .int (nI w), .int l] h Q := by
  obtain ⟨mc, cap, fl, hL, -⟩ := C.n.l
  obtain ⟨x, hx, hxw⟩ := C.n.at hw
  have ha := C.n.ok.a _ hw
  have hb := C.n.ok.b _ hw
  have hal := C.n.ok.al _ hw
  have hbl := C.n.ok.bl _ hw
  rw [wN, ha, hb] at hxw
  refine ew_enter (by decide +kernel) (ew_a1 rfl (ew_a1 rfl (ew_a1 rfl (ew_an (ew_an ew_az))))) (Nat.le_of_ble_eq_true rfl) ?_
  have s46 : ∀ v, v = (if l = 0 then 0 else 1) → (N (2 + 6 * w + 5) = 0 ∧ (l = 0 → ¬ N (2 + 6 * w + 3) = -1)) → ew_G g kX1_units 4 46 [.ref (a 0), .int (nI w), .int l, .ref x, no_] [.int v, .int (2 * nI w), .int 0, .ref (a 7), .ref (a 14)] h Q := by
    intro v hv hh
    have e9 : (2 : Int32) * nI w + v = unK w l := by rw [unK, hv, show (2 : Int32) * nI w = nI (2 * w) from nI_mul 2 w]
    have C2 := C.setT (lyF N 0 (unK w l) ft)
    have hf := lyF_cSq C.n.ok 0 (unK w l) ft
    have hx2 : (eh_set h (a 8) (aI (nE N * nE N) (lyF N 0 (unK w l) ft))).1 x = some (wV (nI (fA N w)) (nI (fB N w)) (N (2 + 6 * w + 2)) (N (2 + 6 * w + 3)) (N (2 + 6 * w + 4)) (N (2 + 6 * w + 5))) := by
      have h9 := C2.n.w w x hx
      rw [wN, ha, hb] at h9
      exact h9
    have q2 := hq _ _ C2 Ke.set
    rw [unC] at q2
    refine ew_iadd (pc := 46) dX1_units_46 ?_
    rw [e9]
    refine ew_cV3 (d' := 3) (pc := 47) vX1_96 (rd_of C.n.o) dX1_units_47 (by decide) (ew_rm (Nat.le_of_ble_eq_true rfl)) ?_
    refine t_nLay C.n C.t C.ne.2.1.2.2.2 ?_
    refine ew_Kr ?_
    refine ew_cV0 (d' := 1) (pc := 50) vX1_100 C2.t.1 dX1_units_50 (by decide) (ew_rm (Nat.le_of_ble_eq_true rfl)) ?_
    refine t_isSoundS C2.t (fun y hy => ?_)
    rw [sqS_ag hf, ← sqB_iff] at hy
    refine ew_Kr ?_
    refine ew_if_ne (pc := 53) (tgt := 58) dX1_units_53 (by decide) (fun c53 => ?_) (fun c53 => ?_)
    · refine ew_iload_n (pc := 58) dX1_units_58 rfl ?_
      refine ew_if_eq (pc := 59) (tgt := 100) dX1_units_59 (by decide) (fun c59 => ?_) (fun c59 => ?_)
      · refine ew_aload_n (pc := 100) dX1_units_100 rfl ?_
        refine ew_getf (pc := 101) fX1_163 (rd_of C2.o) rfl dX1_units_101 ?_
        refine ew_aload_n (pc := 104) dX1_units_104 rfl ?_
        refine ew_getf (pc := 105) fX1_250 (rd_of hx2) rfl dX1_units_105 ?_
        refine ew_aload_n (pc := 108) dX1_units_108 rfl ?_
        refine ew_getf (pc := 109) fX1_252 (rd_of hx2) rfl dX1_units_109 ?_
        refine ew_cV2 (d' := 0) (pc := 112) vX1_227 C2.t.1 dX1_units_112 (by decide) (ew_rm (Nat.le_of_ble_eq_true rfl)) ?_
        refine t_sum C2.t hbl hal ?_
        rw [hf.at hbl hal]
        refine ew_Kr ?_
        refine ew_ineg (pc := 115) dX1_units_115 ?_
        refine ew_aload_n (pc := 116) dX1_units_116 rfl ?_
        refine ew_getf (pc := 117) fX1_258 (rd_of hx2) rfl dX1_units_117 ?_
        refine ew_isub (pc := 120) dX1_units_120 ?_
        refine ew_istore (pc := 121) dX1_units_121 (by decide) (p1_4 rfl) ?_
        refine ew_aload_n (pc := 123) dX1_units_123 rfl ?_
        refine ew_getf (pc := 124) fX1_258 (rd_of hx2) rfl dX1_units_124 ?_
        refine ew_iload (pc := 127) dX1_units_127 rfl ?_
        refine ew_iadd (pc := 129) dX1_units_129 ?_
        refine ew_sipush (pc := 130) (v := 999) dX1_units_130 rfl ?_
        refine ew_icmp_gt (pc := 133) (tgt := 141) dX1_units_133 (by decide) (fun c133 => ?_) (fun c133 => ?_)
        · refine ew_iconst (pc := 141) (v := -1) dX1_units_141 rfl ?_
          refine ew_iret (pc := 142) rfl dX1_units_142 ?_
          first
          | have hs : ¬ sqB (nE N) (cSq N 0 (unK w l)) = true := hy.elim (fun h8 => absurd c53 (by rw [h8.1]; decide)) (fun h8 => h8.2)
            rw [if_pos (fun h9 => hs h9.2)] at q2
            exact q2
          | have hs : sqB (nE N) (cSq N 0 (unK w l)) = true := hy.elim (fun h8 => h8.2) (fun h8 => absurd h8.1 c53)
            rw [if_neg (fun h9 => h9 ⟨hh, hs⟩)] at q2
            first
            | rw [if_neg c59, if_neg (Int32.not_le.mpr c90)] at q2
              exact q2
            | rw [if_neg c59, if_pos (Int32.not_lt.mp c90)] at q2
              exact q2
            | rw [if_pos c59, if_neg (Int32.not_le.mpr c133)] at q2
              exact q2
            | rw [if_pos c59, if_pos (Int32.not_lt.mp c133)] at q2
              exact q2
        · refine ew_iload (pc := 136) dX1_units_136 rfl ?_
          refine ew_goto (pc := 138) (tgt := 142) dX1_units_138 (by decide) ?_
          refine ew_iret (pc := 142) rfl dX1_units_142 ?_
          first
          | have hs : ¬ sqB (nE N) (cSq N 0 (unK w l)) = true := hy.elim (fun h8 => absurd c53 (by rw [h8.1]; decide)) (fun h8 => h8.2)
            rw [if_pos (fun h9 => hs h9.2)] at q2
            exact q2
          | have hs : sqB (nE N) (cSq N 0 (unK w l)) = true := hy.elim (fun h8 => h8.2) (fun h8 => absurd h8.1 c53)
            rw [if_neg (fun h9 => h9 ⟨hh, hs⟩)] at q2
            first
            | rw [if_neg c59, if_neg (Int32.not_le.mpr c90)] at q2
              exact q2
            | rw [if_neg c59, if_pos (Int32.not_lt.mp c90)] at q2
              exact q2
            | rw [if_pos c59, if_neg (Int32.not_le.mpr c133)] at q2
              exact q2
            | rw [if_pos c59, if_pos (Int32.not_lt.mp c133)] at q2
              exact q2
      · refine ew_aload_n (pc := 62) dX1_units_62 rfl ?_
        refine ew_getf (pc := 63) fX1_255 (rd_of hx2) rfl dX1_units_63 ?_
        refine ew_aload_n (pc := 66) dX1_units_66 rfl ?_
        refine ew_getf (pc := 67) fX1_163 (rd_of C2.o) rfl dX1_units_67 ?_
        refine ew_aload_n (pc := 70) dX1_units_70 rfl ?_
        refine ew_getf (pc := 71) fX1_252 (rd_of hx2) rfl dX1_units_71 ?_
        refine ew_aload_n (pc := 74) dX1_units_74 rfl ?_
        refine ew_getf (pc := 75) fX1_250 (rd_of hx2) rfl dX1_units_75 ?_
        refine ew_cV2 (d' := 0) (pc := 78) vX1_227 C2.t.1 dX1_units_78 (by decide) (ew_rm (Nat.le_of_ble_eq_true rfl)) ?_
        refine t_sum C2.t hal hbl ?_
        rw [hf.at hal hbl]
        refine ew_Kr ?_
        refine ew_isub (pc := 81) dX1_units_81 ?_
        refine ew_istore (pc := 82) dX1_units_82 (by decide) (p1_4 rfl) ?_
        refine ew_iload (pc := 84) dX1_units_84 rfl ?_
        refine ew_aload_n (pc := 86) dX1_units_86 rfl ?_
        refine ew_getf (pc := 87) fX1_255 (rd_of hx2) rfl dX1_units_87 ?_
        refine ew_icmp_gt (pc := 90) (tgt := 98) dX1_units_90 (by decide) (fun c90 => ?_) (fun c90 => ?_)
        · refine ew_iconst (pc := 98) (v := -1) dX1_units_98 rfl ?_
          refine ew_iret (pc := 99) rfl dX1_units_99 ?_
          first
          | have hs : ¬ sqB (nE N) (cSq N 0 (unK w l)) = true := hy.elim (fun h8 => absurd c53 (by rw [h8.1]; decide)) (fun h8 => h8.2)
            rw [if_pos (fun h9 => hs h9.2)] at q2
            exact q2
          | have hs : sqB (nE N) (cSq N 0 (unK w l)) = true := hy.elim (fun h8 => h8.2) (fun h8 => absurd h8.1 c53)
            rw [if_neg (fun h9 => h9 ⟨hh, hs⟩)] at q2
            first
            | rw [if_neg c59, if_neg (Int32.not_le.mpr c90)] at q2
              exact q2
            | rw [if_neg c59, if_pos (Int32.not_lt.mp c90)] at q2
              exact q2
            | rw [if_pos c59, if_neg (Int32.not_le.mpr c133)] at q2
              exact q2
            | rw [if_pos c59, if_pos (Int32.not_lt.mp c133)] at q2
              exact q2
        · refine ew_iload (pc := 93) dX1_units_93 rfl ?_
          refine ew_goto (pc := 95) (tgt := 99) dX1_units_95 (by decide) ?_
          refine ew_iret (pc := 99) rfl dX1_units_99 ?_
          first
          | have hs : ¬ sqB (nE N) (cSq N 0 (unK w l)) = true := hy.elim (fun h8 => absurd c53 (by rw [h8.1]; decide)) (fun h8 => h8.2)
            rw [if_pos (fun h9 => hs h9.2)] at q2
            exact q2
          | have hs : sqB (nE N) (cSq N 0 (unK w l)) = true := hy.elim (fun h8 => h8.2) (fun h8 => absurd h8.1 c53)
            rw [if_neg (fun h9 => h9 ⟨hh, hs⟩)] at q2
            first
            | rw [if_neg c59, if_neg (Int32.not_le.mpr c90)] at q2
              exact q2
            | rw [if_neg c59, if_pos (Int32.not_lt.mp c90)] at q2
              exact q2
            | rw [if_pos c59, if_neg (Int32.not_le.mpr c133)] at q2
              exact q2
            | rw [if_pos c59, if_pos (Int32.not_lt.mp c133)] at q2
              exact q2
    · refine ew_iconst (pc := 56) (v := -1) dX1_units_56 rfl ?_
      refine ew_iret (pc := 57) rfl dX1_units_57 ?_
      first
      | have hs : ¬ sqB (nE N) (cSq N 0 (unK w l)) = true := hy.elim (fun h8 => absurd c53 (by rw [h8.1]; decide)) (fun h8 => h8.2)
        rw [if_pos (fun h9 => hs h9.2)] at q2
        exact q2
      | have hs : sqB (nE N) (cSq N 0 (unK w l)) = true := hy.elim (fun h8 => h8.2) (fun h8 => absurd h8.1 c53)
        rw [if_neg (fun h9 => h9 ⟨hh, hs⟩)] at q2
        first
        | rw [if_neg c59, if_neg (Int32.not_le.mpr c90)] at q2
          exact q2
        | rw [if_neg c59, if_pos (Int32.not_lt.mp c90)] at q2
          exact q2
        | rw [if_pos c59, if_neg (Int32.not_le.mpr c133)] at q2
          exact q2
        | rw [if_pos c59, if_pos (Int32.not_lt.mp c133)] at q2
          exact q2
  refine ew_aload_n (pc := 0) dX1_units_0 rfl ?_
  refine ew_getf (pc := 1) fX1_84 (rd_of C.o) rfl dX1_units_1 ?_
  refine ew_getf (pc := 4) fX1_117 (rd_of C.n.o) rfl dX1_units_4 ?_
  refine ew_iload_n (pc := 7) dX1_units_7 rfl ?_
  refine ew_cF1 (d' := 2) (pc := 8) tX1_126_19 (rd_of hL) dX1_units_8 (by decide) (ew_rm (Nat.le_of_ble_eq_true rfl)) ?_
  refine t_alGet C.n.l hx ?_
  refine ew_Kr ?_
  refine ew_cast (pc := 13) rfl (rd_of hxw) (ew_q q1622) (Or.inl rfl) dX1_units_13 ?_
  first | refine ew_astore_n (pc := 16) dX1_units_16 rfl (by decide) (p1_3 rfl) ?_ | refine ew_astore_nq (pc := 16) dX1_units_16 rfl (by decide) (p1_3 rfl) ?_ | refine ew_astore_nN (pc := 16) dX1_units_16 rfl (by decide) (p1_3 rfl) ?_
  refine ew_aload_n (pc := 17) dX1_units_17 rfl ?_
  refine ew_iload_n (pc := 18) dX1_units_18 rfl ?_
  refine ew_cV1 (d' := 0) (pc := 19) vX1_246 (rd_of hxw) dX1_units_19 (by decide) (ew_rm (Nat.le_of_ble_eq_true rfl)) ?_
  refine t_wHas (rd_of hxw) ?_
  refine ew_Kr ?_
  refine ew_if_eq (pc := 22) (tgt := 56) dX1_units_22 (by decide) (fun c22 => ?_) (fun c22 => ?_)
  · refine ew_iconst (pc := 56) (v := -1) dX1_units_56 rfl ?_
    refine ew_iret (pc := 57) rfl dX1_units_57 ?_
    have q2 := hq _ _ C (Ke.r _ _)
    rw [unC, if_pos (fun h9 => bI_0.mp c22 h9.1)] at q2
    exact q2
  · refine ew_aload_n (pc := 25) dX1_units_25 rfl ?_
    refine ew_getf (pc := 26) fX1_84 (rd_of C.o) rfl dX1_units_26 ?_
    refine ew_aload_n (pc := 29) dX1_units_29 rfl ?_
    refine ew_getf (pc := 30) fX1_163 (rd_of C.o) rfl dX1_units_30 ?_
    refine ew_iconst (pc := 33) (v := 0) dX1_units_33 rfl ?_
    refine ew_iconst (pc := 34) (v := 2) dX1_units_34 rfl ?_
    refine ew_iload_n (pc := 35) dX1_units_35 rfl ?_
    refine ew_imul (pc := 36) dX1_units_36 ?_
    refine ew_iload_n (pc := 37) dX1_units_37 rfl ?_
    refine ew_if_eq (pc := 38) (tgt := 45) dX1_units_38 (by decide) (fun c38 => ?_) (fun c38 => ?_)
    · refine ew_iconst (pc := 45) (v := 0) dX1_units_45 rfl ?_
      first
      | exact s46 _ (if_pos c38).symm (bI_n.mp c22)
      | exact s46 _ (if_neg c38).symm (bI_n.mp c22)
    · refine ew_iconst (pc := 41) (v := 1) dX1_units_41 rfl ?_
      refine ew_goto (pc := 42) (tgt := 46) dX1_units_42 (by decide) ?_
      first
      | exact s46 _ (if_pos c38).symm (bI_n.mp c22)
      | exact s46 _ (if_neg c38).symm (bI_n.mp c22)
theorem c_widening {w l : Int32} (hg : gOC g) (C : CV g h a ws N m pe ep fb ft ρ) (hq : ∀ o h', CO SI (as1 1 (bI (isIx (nW N) w))) (.int (if cSb N = true then 0 else unC N (ix w) l)) (CQ g a ws N m pe ep h) o h' → Q o h') : ew_T g kX1_widening 8 [.ref (a 0), .int w, .int l] h Q := by
  have hW := C.n.ok.w2
  refine ew_enter (by decide +kernel) (ew_a1 rfl (ew_a1 rfl (ew_a1 rfl (ew_an ew_az)))) (Nat.le_of_ble_eq_true rfl) ?_
  refine ew_ok (fun ho => ?_)
  refine ew_aload_n (pc := 0) dX1_widening_0 rfl ?_
  refine ew_iload_n (pc := 1) dX1_widening_1 rfl ?_
  refine ew_cV1 (d' := 7) (pc := 2) vX1_140 (rd_of C.o) dX1_widening_2 (by decide) (ew_rm (Nat.le_of_ble_eq_true rfl)) ?_
  refine t_withWindow C (fun hi => ?_) (fun hi x hx hxw => ?_)
  · exact ew_Kx (ew_out (fun x hx => nomatch hx) (hq _ _ (CO.n (k := 2) (as1_i hi) (by decide) rfl (ne_1 _ _ _) (CQ.new hg ho C (by decide)))))
  have hw := hi.to hW
  refine ew_Kr ?_
  first | refine ew_astore_n (pc := 5) dX1_widening_5 rfl (by decide) (p1_3 rfl) ?_ | refine ew_astore_nq (pc := 5) dX1_widening_5 rfl (by decide) (p1_3 rfl) ?_ | refine ew_astore_nN (pc := 5) dX1_widening_5 rfl (by decide) (p1_3 rfl) ?_
  refine ew_aload_n (pc := 6) dX1_widening_6 rfl ?_
  refine ew_cV0 (d' := 4) (pc := 7) vX1_110 (rd_of C.o) dX1_widening_7 (by decide) (ew_rm (Nat.le_of_ble_eq_true rfl)) ?_
  refine t_soundNow C (fun f hf y hy => ?_)
  have C2 := C.setB f
  refine ew_Kr ?_
  refine ew_if_eq (pc := 10) (tgt := 17) dX1_widening_10 (by decide) (fun c10 => ?_) (fun c10 => ?_)
  · refine ew_aload_n (pc := 17) dX1_widening_17 rfl ?_
    refine ew_iload_n (pc := 18) dX1_widening_18 rfl ?_
    refine ew_iload_n (pc := 19) dX1_widening_19 rfl ?_
    refine ew_cV2 (d' := 4) (pc := 20) vX1_284 (rd_of C2.o) dX1_widening_20 (by decide) (ew_rm (Nat.le_of_ble_eq_true rfl)) ?_
    have hs : ¬ cSb N = true := fun h9 => hy.elim (fun h8 => absurd c10 (by rw [h8.1]; decide)) (fun h8 => h8.2 (cSb_iff.mp h9))
    rw [if_neg hs] at hq
    rw [hw.2]
    refine t_units1 C2 hw.1 (fun h2 f2 C3 k => ?_)
    rw [← hw.2]
    refine ew_Kr ?_
    refine ew_iret (pc := 23) rfl dX1_widening_23 ?_
    first
    | have hs : cSb N = true := hy.elim (fun h8 => cSb_iff.mpr h8.2) (fun h8 => absurd h8.1 c10)
      rw [if_pos hs] at hq
      exact hq _ _ (CO.y (as1_y hi) (CQ.B C f))
    | refine hq _ _ (CO.y (as1_y hi) ⟨_, _, _, C3, keB.t k (fun b h9 _ => h9) (fun b h9 _ => ?_) (by decide) (by decide)⟩)
      rw [List.mem_singleton.mp h9]
      exact List.mem_cons_of_mem _ List.mem_cons_self
  · refine ew_iconst (pc := 13) (v := 0) dX1_widening_13 rfl ?_
    refine ew_goto (pc := 14) (tgt := 23) dX1_widening_14 (by decide) ?_
    refine ew_iret (pc := 23) rfl dX1_widening_23 ?_
    first
    | have hs : cSb N = true := hy.elim (fun h8 => cSb_iff.mpr h8.2) (fun h8 => absurd h8.1 c10)
      rw [if_pos hs] at hq
      exact hq _ _ (CO.y (as1_y hi) (CQ.B C f))
    | refine hq _ _ (CO.y (as1_y hi) ⟨_, _, _, C3, keB.t k (fun b h9 _ => h9) (fun b h9 _ => ?_) (by decide) (by decide)⟩)
      rw [List.mem_singleton.mp h9]
      exact List.mem_cons_of_mem _ List.mem_cons_self
end
