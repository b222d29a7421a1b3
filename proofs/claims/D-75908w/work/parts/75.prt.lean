/-! EW: parts of a net -/
set_option maxRecDepth 100000
theorem sh_shl1 (e : Int32) : sh e = shl1 e := rfl
theorem hasB_sh {i j : Nat} (hi : i < 32) (hj : j < 32) : hasB (sh (nI i)) (nI j) ↔ i = j := hasB_shl hi hj
/-- sets that hold the same of the first 32 are the same -/
theorem bit_ext {x y : Int32} (h : ∀ j, j < 32 → (hasB x (nI j) ↔ hasB y (nI j))) : x = y := by
  apply Int32.toBitVec_inj.mp
  apply BitVec.eq_of_getLsbD_eq
  intro j hj
  have h1 := h j hj
  rw [hasB_bit hj, hasB_bit hj] at h1
  exact Bool.eq_iff_iff.mpr h1
theorem hasB_and {x y : Int32} {j : Nat} (h : j < 32) : hasB (x &&& y) (nI j) ↔ hasB x (nI j) ∧ hasB y (nI j) := by
  rw [hasB_bit h, hasB_bit h, hasB_bit h, Int32.toBitVec_and, BitVec.getLsbD_and, Bool.and_eq_true]
theorem hasB_0 {j : Nat} (h : j < 32) : ¬ hasB 0 (nI j) := by
  rw [hasB_bit h]
  show ¬ (0#32).getLsbD j = true
  simp
theorem ends_has {N : Nat → Int32} {w j : Nat} (ha : fA N w < 32) (hb : fB N w < 32) (hj : j < 32) : hasB (endsV N w) (nI j) ↔ fA N w = j ∨ fB N w = j := by
  rw [endsV, hasB_or hj, hasB_sh ha hj, hasB_sh hb hj]
theorem ends_0 {N : Nat → Int32} {w : Nat} {x : Int32} (ha : fA N w < 32) (hb : fB N w < 32) : endsV N w &&& x = 0 ↔ ¬ hasB x (nI (fA N w)) ∧ ¬ hasB x (nI (fB N w)) := by
  constructor
  · intro h
    have h1 : ∀ j, j < 32 → ¬ (hasB (endsV N w) (nI j) ∧ hasB x (nI j)) := fun j hj h9 => by
      have h8 := (hasB_and hj).mpr h9
      rw [h] at h8
      exact hasB_0 hj h8
    exact ⟨fun h9 => h1 _ ha ⟨(ends_has ha hb ha).mpr (Or.inl rfl), h9⟩, fun h9 => h1 _ hb ⟨(ends_has ha hb hb).mpr (Or.inr rfl), h9⟩⟩
  · intro h
    apply bit_ext
    intro j hj
    constructor
    · intro h9
      have h8 := (hasB_and hj).mp h9
      rcases (ends_has ha hb hj).mp h8.1 with e | e
      · exact absurd h8.2 (by rw [← e]; exact h.1)
      · exact absurd h8.2 (by rw [← e]; exact h.2)
    · intro h9
      exact absurd h9 (hasB_0 hj)
/-- how many of the first m a set holds -/
def cntB (x : Int32) : Nat → Nat
  | 0 => 0
  | m + 1 => cntB x m + if hasB x (nI m) then 1 else 0
theorem cntB_le (x : Int32) : ∀ m, cntB x m ≤ m
  | 0 => Nat.le_refl 0
  | m + 1 => by
    have := cntB_le x m
    rw [cntB]
    split <;> omega
theorem cntB_mono {x y : Int32} : ∀ m, (∀ j, j < m → hasB x (nI j) → hasB y (nI j)) → cntB x m ≤ cntB y m
  | 0, _ => Nat.le_refl 0
  | m + 1, h => by
    have h1 := cntB_mono m (fun j hj => h j (by omega))
    have h2 := h m (by omega)
    rw [cntB, cntB]
    by_cases h3 : hasB x (nI m)
    · rw [if_pos h3, if_pos (h2 h3)]; omega
    · rw [if_neg h3]; omega
theorem cntB_lt {x y : Int32} : ∀ m, (∀ j, j < m → hasB x (nI j) → hasB y (nI j)) → (∃ j, j < m ∧ hasB y (nI j) ∧ ¬ hasB x (nI j)) → cntB x m < cntB y m
  | 0, _, h => by obtain ⟨j, h1, -⟩ := h; omega
  | m + 1, h, h9 => by
    obtain ⟨j, h1, h2, h3⟩ := h9
    rw [cntB, cntB]
    by_cases e : j = m
    · subst e
      rw [if_neg h3, if_pos h2]
      have := cntB_mono j (fun i hi => h i (by omega))
      omega
    · have h4 := cntB_lt m (fun i hi => h i (by omega)) ⟨j, by omega, h2, h3⟩
      have h5 := h m (by omega)
      by_cases h6 : hasB x (nI m)
      · rw [if_pos h6, if_pos (h5 h6)]; omega
      · rw [if_neg h6]; omega
/-- a set of events of the net -/
def evS (m : Nat) (x : Int32) : Prop := ∀ j, j < 32 → hasB x (nI j) → j < m
theorem partS_has {N : Nat → Int32} (ok : okN N) {w j : Nat} {x : Int32} (hw : w < nW N) (hj : j < 32) : hasB (partS N w x) (nI j) ↔ hasB x (nI j) ∨ (¬ (N (2 + 6 * w + 5) = 1 ∨ endsV N w &&& x = 0) ∧ (fA N w = j ∨ fB N w = j)) := by
  have h1 := ok.al w hw
  have h2 := ok.bl w hw
  have h3 := ok.e2
  rw [partS]
  by_cases h : N (2 + 6 * w + 5) = 1 ∨ endsV N w &&& x = 0
  · rw [if_pos h]
    exact ⟨Or.inl, fun h9 => h9.elim id (fun h8 => absurd h h8.1)⟩
  · rw [if_neg h, hasB_or hj, ends_has (by omega) (by omega) hj]
    exact ⟨fun h9 => h9.elim Or.inl (fun h8 => Or.inr ⟨h, h8⟩), fun h9 => h9.elim Or.inl (fun h8 => Or.inr h8.2)⟩
theorem partW_mono {N : Nat → Int32} (ok : okN N) {j : Nat} {x : Int32} (hj : j < 32) : ∀ m, m ≤ nW N → hasB x (nI j) → hasB (partW N x m) (nI j)
  | 0, _, h => h
  | m + 1, hm, h => (partS_has ok (by omega) hj).mpr (Or.inl (partW_mono ok hj m (by omega) h))
theorem partW_ev {N : Nat → Int32} (ok : okN N) {x : Int32} (hx : evS (nE N) x) : ∀ m, m ≤ nW N → evS (nE N) (partW N x m)
  | 0, _ => hx
  | m + 1, hm => fun j hj h => by
    have h1 := ok.al m (by omega)
    have h2 := ok.bl m (by omega)
    rcases (partS_has ok (by omega) hj).mp h with h9 | h9
    · exact partW_ev ok hx m (by omega) j hj h9
    · rcases h9.2 with e | e <;> omega
theorem partR_ev {N : Nat → Int32} (ok : okN N) {x : Int32} (hx : evS (nE N) x) : ∀ r, evS (nE N) (partR N x r)
  | 0 => hx
  | r + 1 => partW_ev ok (partR_ev ok hx r) _ (Nat.le_refl _)
theorem partR_eq {N : Nat → Int32} (ok : okN N) {x : Int32} {k : Nat} (h : partR N x (k + 1) = partR N x k) : ∀ m, partR N x (k + m) = partR N x k
  | 0 => rfl
  | m + 1 => by
    show partW N (partR N x (k + m)) (nW N) = _
    rw [partR_eq ok h m]
    exact h
/-- rounds that find more come to an end -/
theorem partR_cnt {N : Nat → Int32} (ok : okN N) {x : Int32} (hx : evS (nE N) x) : ∀ k, (∀ j, j < k → ¬ partR N x (j + 1) = partR N x j) → k ≤ cntB (partR N x k) (nE N)
  | 0, _ => Nat.zero_le _
  | k + 1, h => by
    have h1 := partR_cnt ok hx k (fun j hj => h j (by omega))
    have h2 : cntB (partR N x k) (nE N) < cntB (partR N x (k + 1)) (nE N) := by
      have hE := ok.e2
      refine cntB_lt _ (fun j hj => partW_mono ok (by omega) _ (Nat.le_refl _)) ?_
      refine Classical.byContradiction (fun h9 => h k (by omega) (bit_ext (fun j hj => ⟨fun h8 => ?_, partW_mono ok hj _ (Nat.le_refl _)⟩)))
      refine Classical.byContradiction (fun h7 => h9 ⟨j, partR_ev ok hx (k + 1) j hj h8, h8, h7⟩)
    omega
theorem partR_fix {N : Nat → Int32} (ok : okN N) {x : Int32} (hx : evS (nE N) x) (h0 : ∃ j, j < nE N ∧ hasB x (nI j)) : partR N x 11 = partR N x 10 := by
  have hE := ok.e2
  refine Classical.byContradiction (fun h9 => ?_)
  have h1 : ∀ j, j < 11 → ¬ partR N x (j + 1) = partR N x j := by
    intro j hj h8
    have h2 := partR_eq ok h8 (11 - j)
    have h3 := partR_eq ok h8 (10 - j)
    rw [show j + (11 - j) = 11 by omega] at h2
    rw [show j + (10 - j) = 10 by omega] at h3
    exact h9 (h2.trans h3.symm)
  have h4 := partR_cnt ok hx 11 h1
  have h5 := cntB_le (partR N x 11) (nE N)
  omega
theorem sh_ev {n e : Nat} (he : e < n) (hn : n ≤ 10) : evS n (sh (nI e)) := fun j hj h => by
  have := (hasB_sh (by omega) hj).mp h
  omega
theorem sh_n0 {e : Nat} (he : e < 10) : ¬ sh (nI e) = 0 := (by decide : ∀ e : Fin 10, ¬ sh (nI e.val) = 0) ⟨e, he⟩
section
variable {g : eg} {h : eh} {p nA L E F D W : Nat} {ws : List Nat} {N : Nat → Int32} {Q : Outcome → eh → Prop}
theorem t_nPart {e : Nat} (r : NR g h p nA L E F D W ws N) (he : e < nE N) (hq : Q (.returned (some (.int (partV N e)))) h) : ew_T g kX6_part 3 [.ref p, .int (nI e)] h Q := by
  have hw := r.ok.w2
  have hE := r.ok.e2
  have hx := sh_ev he hE
  have lW : ∀ s b1, (∀ x5, ew_G g kX6_part 3 102 [.ref p, .int (nI e), .int (partW N s (nW N)), .int b1, .int (nI (nW N)), x5] [] h Q) → ∀ m w x5, w + m = nW N → ew_G g kX6_part 3 16 [.ref p, .int (nI e), .int (partW N s w), .int b1, .int (nI w), x5] [] h Q := by
    intro s b1 k1 m
    induction m with
    | zero =>
      intro w x5 hw
      have e9 : w = nW N := by omega
      subst e9
      obtain ⟨mc, cap, fl, h1, -⟩ := r.l
      refine ew_iload (pc := 16) dX6_part_16 rfl ?_
      refine ew_aload_n (pc := 18) dX6_part_18 rfl ?_
      refine ew_getf (pc := 19) fX6_12 (rd_of r.o) rfl dX6_part_19 ?_
      refine ew_cF0 (d' := 0) (pc := 22) tX6_35_19 (rd_of h1) dX6_part_22 (by decide) (ew_rm (Nat.le_of_ble_eq_true rfl)) ?_
      refine t_alSize r.l ?_
      rw [r.len]
      refine ew_Kr ?_
      refine ew_icmp_ge (pc := 27) (tgt := 102) dX6_part_27 (by decide) (fun c27 => ?_) (fun c27 => absurd (nI_le (Nat.le_refl _) (by omega)) c27)
      exact k1 _
    | succ m ih =>
      intro w x5 hw
      obtain ⟨mc, cap, fl, h1, -⟩ := r.l
      obtain ⟨x, hx, hxw⟩ := r.at (i := w) (by omega)
      have ha := r.ok.a w (by omega)
      have hb := r.ok.b w (by omega)
      have hal := r.ok.al w (by omega)
      have hbl := r.ok.bl w (by omega)
      have hxw2 : rd g h x = some (wV (nI (fA N w)) (nI (fB N w)) (N (2 + 6 * w + 2)) (N (2 + 6 * w + 3)) (N (2 + 6 * w + 4)) (N (2 + 6 * w + 5))) := by
        rw [← ha, ← hb]
        exact rd_of hxw
      have hdr := r.ok.dr w (by omega)
      have hor : partW N s w ||| ((1 : Int32) <<< (nI (fA N w) &&& 31) ||| (1 : Int32) <<< (nI (fB N w) &&& 31)) = partW N s w ||| endsV N w := rfl
      have e0 := ends_0 (N := N) (w := w) (x := partW N s w) (by omega) (by omega)
      refine ew_iload (pc := 16) dX6_part_16 rfl ?_
      refine ew_aload_n (pc := 18) dX6_part_18 rfl ?_
      refine ew_getf (pc := 19) fX6_12 (rd_of r.o) rfl dX6_part_19 ?_
      refine ew_cF0 (d' := 0) (pc := 22) tX6_35_19 (rd_of h1) dX6_part_22 (by decide) (ew_rm (Nat.le_of_ble_eq_true rfl)) ?_
      refine t_alSize r.l ?_
      rw [r.len]
      refine ew_Kr ?_
      refine ew_icmp_ge (pc := 27) (tgt := 102) dX6_part_27 (by decide) (fun c27 => absurd c27 (nI_ge (by omega) (by omega))) (fun c27 => ?_)
      refine ew_aload_n (pc := 30) dX6_part_30 rfl ?_
      refine ew_getf (pc := 31) fX6_12 (rd_of r.o) rfl dX6_part_31 ?_
      refine ew_iload (pc := 34) dX6_part_34 rfl ?_
      refine ew_cF1 (d' := 2) (pc := 36) tX6_41_19 (rd_of h1) dX6_part_36 (by decide) (ew_rm (Nat.le_of_ble_eq_true rfl)) ?_
      refine t_alGet r.l hx ?_
      refine ew_Kr ?_
      refine ew_cast (pc := 41) rfl hxw2 (ew_q q1675) (Or.inl rfl) dX6_part_41 ?_
      first | refine ew_astore (pc := 44) dX6_part_44 (by decide) (p1_5 rfl) ?_ | refine ew_astoreq (pc := 44) dX6_part_44 (by decide) (p1_5 rfl) ?_ | refine ew_astoreN (pc := 44) dX6_part_44 (by decide) (p1_5 rfl) ?_
      refine ew_aload (pc := 46) dX6_part_46 rfl ?_
      refine ew_getf (pc := 48) fX6_70 hxw2 rfl dX6_part_48 ?_
      refine ew_if_ne (pc := 51) (tgt := 96) dX6_part_51 (by decide) (fun c51 => ?_) (fun c51 => ?_)
      · refine ew_iinc (pc := 96) dX6_part_96 rfl (nI_inc w) (by decide) (p1_4 rfl) ?_
        refine ew_goto (pc := 99) (tgt := 16) dX6_part_99 (by decide) ?_
        have h8 := ih (w + 1) (.ref x) (by omega)
        rw [partW, partS] at h8
        first
        | rw [if_neg (show ¬ (N (2 + 6 * w + 5) = 1 ∨ endsV N w &&& partW N s w = 0) from fun h9 => h9.elim (fun h7 => absurd (h7.symm.trans c51) (by decide)) (fun h7 => (e0.mp h7).1 (bI_n.mp c63)))] at h8
          exact h8
        | rw [if_neg (show ¬ (N (2 + 6 * w + 5) = 1 ∨ endsV N w &&& partW N s w = 0) from fun h9 => h9.elim (fun h7 => absurd (h7.symm.trans c51) (by decide)) (fun h7 => (e0.mp h7).2 (bI_n.mp c75)))] at h8
          exact h8
        | rw [if_pos (show N (2 + 6 * w + 5) = 1 ∨ endsV N w &&& partW N s w = 0 from Or.inr (e0.mpr ⟨bI_0.mp c63, bI_0.mp c75⟩))] at h8
          exact h8
        | rw [if_pos (show N (2 + 6 * w + 5) = 1 ∨ endsV N w &&& partW N s w = 0 from Or.inl (hdr.resolve_left c51))] at h8
          exact h8
      · refine ew_iload_n (pc := 54) dX6_part_54 rfl ?_
        refine ew_aload (pc := 55) dX6_part_55 rfl ?_
        refine ew_getf (pc := 57) fX6_106 hxw2 rfl dX6_part_57 ?_
        refine ew_cS2 (d' := 0) (pc := 60) sX6_74 dX6_part_60 (by decide) (ew_rm (Nat.le_of_ble_eq_true rfl)) ?_
        refine t_hasC ?_
        refine ew_Kr ?_
        refine ew_if_ne (pc := 63) (tgt := 78) dX6_part_63 (by decide) (fun c63 => ?_) (fun c63 => ?_)
        · refine ew_iload_n (pc := 78) dX6_part_78 rfl ?_
          refine ew_iconst (pc := 79) (v := 1) dX6_part_79 rfl ?_
          refine ew_aload (pc := 80) dX6_part_80 rfl ?_
          refine ew_getf (pc := 82) fX6_106 hxw2 rfl dX6_part_82 ?_
          refine ew_ishl (pc := 85) dX6_part_85 ?_
          refine ew_iconst (pc := 86) (v := 1) dX6_part_86 rfl ?_
          refine ew_aload (pc := 87) dX6_part_87 rfl ?_
          refine ew_getf (pc := 89) fX6_109 hxw2 rfl dX6_part_89 ?_
          refine ew_ishl (pc := 92) dX6_part_92 ?_
          refine ew_ior (pc := 93) dX6_part_93 ?_
          refine ew_ior (pc := 94) dX6_part_94 ?_
          refine ew_istore_n (pc := 95) dX6_part_95 rfl (by decide) (p1_2 rfl) ?_
          refine ew_iinc (pc := 96) dX6_part_96 rfl (nI_inc w) (by decide) (p1_4 rfl) ?_
          refine ew_goto (pc := 99) (tgt := 16) dX6_part_99 (by decide) ?_
          have h8 := ih (w + 1) (.ref x) (by omega)
          rw [partW, partS] at h8
          first
          | rw [if_neg (show ¬ (N (2 + 6 * w + 5) = 1 ∨ endsV N w &&& partW N s w = 0) from fun h9 => h9.elim (fun h7 => absurd (h7.symm.trans c51) (by decide)) (fun h7 => (e0.mp h7).1 (bI_n.mp c63)))] at h8
            exact h8
          | rw [if_neg (show ¬ (N (2 + 6 * w + 5) = 1 ∨ endsV N w &&& partW N s w = 0) from fun h9 => h9.elim (fun h7 => absurd (h7.symm.trans c51) (by decide)) (fun h7 => (e0.mp h7).2 (bI_n.mp c75)))] at h8
            exact h8
          | rw [if_pos (show N (2 + 6 * w + 5) = 1 ∨ endsV N w &&& partW N s w = 0 from Or.inr (e0.mpr ⟨bI_0.mp c63, bI_0.mp c75⟩))] at h8
            exact h8
          | rw [if_pos (show N (2 + 6 * w + 5) = 1 ∨ endsV N w &&& partW N s w = 0 from Or.inl (hdr.resolve_left c51))] at h8
            exact h8
        · refine ew_iload_n (pc := 66) dX6_part_66 rfl ?_
          refine ew_aload (pc := 67) dX6_part_67 rfl ?_
          refine ew_getf (pc := 69) fX6_109 hxw2 rfl dX6_part_69 ?_
          refine ew_cS2 (d' := 0) (pc := 72) sX6_74 dX6_part_72 (by decide) (ew_rm (Nat.le_of_ble_eq_true rfl)) ?_
          refine t_hasC ?_
          refine ew_Kr ?_
          refine ew_if_eq (pc := 75) (tgt := 96) dX6_part_75 (by decide) (fun c75 => ?_) (fun c75 => ?_)
          · refine ew_iinc (pc := 96) dX6_part_96 rfl (nI_inc w) (by decide) (p1_4 rfl) ?_
            refine ew_goto (pc := 99) (tgt := 16) dX6_part_99 (by decide) ?_
            have h8 := ih (w + 1) (.ref x) (by omega)
            rw [partW, partS] at h8
            first
            | rw [if_neg (show ¬ (N (2 + 6 * w + 5) = 1 ∨ endsV N w &&& partW N s w = 0) from fun h9 => h9.elim (fun h7 => absurd (h7.symm.trans c51) (by decide)) (fun h7 => (e0.mp h7).1 (bI_n.mp c63)))] at h8
              exact h8
            | rw [if_neg (show ¬ (N (2 + 6 * w + 5) = 1 ∨ endsV N w &&& partW N s w = 0) from fun h9 => h9.elim (fun h7 => absurd (h7.symm.trans c51) (by decide)) (fun h7 => (e0.mp h7).2 (bI_n.mp c75)))] at h8
              exact h8
            | rw [if_pos (show N (2 + 6 * w + 5) = 1 ∨ endsV N w &&& partW N s w = 0 from Or.inr (e0.mpr ⟨bI_0.mp c63, bI_0.mp c75⟩))] at h8
              exact h8
            | rw [if_pos (show N (2 + 6 * w + 5) = 1 ∨ endsV N w &&& partW N s w = 0 from Or.inl (hdr.resolve_left c51))] at h8
              exact h8
          · refine ew_iload_n (pc := 78) dX6_part_78 rfl ?_
            refine ew_iconst (pc := 79) (v := 1) dX6_part_79 rfl ?_
            refine ew_aload (pc := 80) dX6_part_80 rfl ?_
            refine ew_getf (pc := 82) fX6_106 hxw2 rfl dX6_part_82 ?_
            refine ew_ishl (pc := 85) dX6_part_85 ?_
            refine ew_iconst (pc := 86) (v := 1) dX6_part_86 rfl ?_
            refine ew_aload (pc := 87) dX6_part_87 rfl ?_
            refine ew_getf (pc := 89) fX6_109 hxw2 rfl dX6_part_89 ?_
            refine ew_ishl (pc := 92) dX6_part_92 ?_
            refine ew_ior (pc := 93) dX6_part_93 ?_
            refine ew_ior (pc := 94) dX6_part_94 ?_
            refine ew_istore_n (pc := 95) dX6_part_95 rfl (by decide) (p1_2 rfl) ?_
            refine ew_iinc (pc := 96) dX6_part_96 rfl (nI_inc w) (by decide) (p1_4 rfl) ?_
            refine ew_goto (pc := 99) (tgt := 16) dX6_part_99 (by decide) ?_
            have h8 := ih (w + 1) (.ref x) (by omega)
            rw [partW, partS] at h8
            first
            | rw [if_neg (show ¬ (N (2 + 6 * w + 5) = 1 ∨ endsV N w &&& partW N s w = 0) from fun h9 => h9.elim (fun h7 => absurd (h7.symm.trans c51) (by decide)) (fun h7 => (e0.mp h7).1 (bI_n.mp c63)))] at h8
              exact h8
            | rw [if_neg (show ¬ (N (2 + 6 * w + 5) = 1 ∨ endsV N w &&& partW N s w = 0) from fun h9 => h9.elim (fun h7 => absurd (h7.symm.trans c51) (by decide)) (fun h7 => (e0.mp h7).2 (bI_n.mp c75)))] at h8
              exact h8
            | rw [if_pos (show N (2 + 6 * w + 5) = 1 ∨ endsV N w &&& partW N s w = 0 from Or.inr (e0.mpr ⟨bI_0.mp c63, bI_0.mp c75⟩))] at h8
              exact h8
            | rw [if_pos (show N (2 + 6 * w + 5) = 1 ∨ endsV N w &&& partW N s w = 0 from Or.inl (hdr.resolve_left c51))] at h8
              exact h8
  have fin : ∀ k x4 x5, k ≤ 11 → partR N (sh (nI e)) (k + 1) = partR N (sh (nI e)) k → ew_G g kX6_part 3 6 [.ref p, .int (nI e), .int (partR N (sh (nI e)) (k + 1)), .int (partR N (sh (nI e)) k), x4, x5] [] h Q := by
    intro k x4 x5 hk hs
    have hv : partV N e = partR N (sh (nI e)) (k + 1) := by
      have h1 := partR_eq r.ok hs (11 - k)
      rw [show k + (11 - k) = 11 by omega, partR_fix r.ok hx ⟨e, he, (hasB_sh (by omega) (by omega)).mpr rfl⟩] at h1
      rw [hs]
      exact h1
    rw [hv] at hq
    refine ew_iload_n (pc := 6) dX6_part_6 rfl ?_
    refine ew_iload_n (pc := 7) dX6_part_7 rfl ?_
    refine ew_icmp_eq (pc := 8) (tgt := 105) dX6_part_8 (by decide) (fun c8 => ?_) (fun c8 => absurd hs.symm c8)
    refine ew_iload_n (pc := 105) dX6_part_105 rfl ?_
    refine ew_iret (pc := 106) rfl dX6_part_106 ?_
    exact hq
  have lR : ∀ m k b1 x4 x5, k + m = 11 → (∀ j, j < k → ¬ partR N (sh (nI e)) (j + 1) = partR N (sh (nI e)) j) → ¬ b1 = partR N (sh (nI e)) k → ew_G g kX6_part 3 6 [.ref p, .int (nI e), .int (partR N (sh (nI e)) k), .int b1, x4, x5] [] h Q := by
    intro m
    induction m with
    | zero =>
      intro k b1 x4 x5 hk hj hb
      exact absurd (partR_fix r.ok hx ⟨e, he, (hasB_sh (by omega) (by omega)).mpr rfl⟩) (hj 10 (by omega))
    | succ m ih =>
      intro k b1 x4 x5 hk hj hb
      refine ew_iload_n (pc := 6) dX6_part_6 rfl ?_
      refine ew_iload_n (pc := 7) dX6_part_7 rfl ?_
      refine ew_icmp_eq (pc := 8) (tgt := 105) dX6_part_8 (by decide) (fun c8 => absurd c8 hb) (fun c8 => ?_)
      refine ew_iload_n (pc := 11) dX6_part_11 rfl ?_
      refine ew_istore_n (pc := 12) dX6_part_12 rfl (by decide) (p1_3 rfl) ?_
      refine ew_iconst (pc := 13) (v := 0) dX6_part_13 rfl ?_
      refine ew_istore (pc := 14) dX6_part_14 (by decide) (p1_4 rfl) ?_
      refine lW _ _ (fun x5 => ?_) (nW N) 0 _ (by omega)
      refine ew_goto (pc := 102) (tgt := 6) dX6_part_102 (by decide) ?_
      by_cases hs : partR N (sh (nI e)) (k + 1) = partR N (sh (nI e)) k
      · exact fin k _ _ (by omega) hs
      · refine ih (k + 1) _ _ _ (by omega) (fun j h9 => ?_) (fun h9 => hs h9.symm)
        by_cases e9 : j = k
        · rw [e9]; exact hs
        · exact hj j (by omega)
  refine ew_enter (by decide +kernel) (ew_a1 rfl (ew_a1 rfl (ew_an (ew_an (ew_an (ew_an ew_az)))))) (Nat.le_of_ble_eq_true rfl) ?_
  refine ew_iconst (pc := 0) (v := 1) dX6_part_0 rfl ?_
  refine ew_iload_n (pc := 1) dX6_part_1 rfl ?_
  refine ew_ishl (pc := 2) dX6_part_2 ?_
  refine ew_istore_n (pc := 3) dX6_part_3 rfl (by decide) (p1_2 rfl) ?_
  refine ew_iconst (pc := 4) (v := 0) dX6_part_4 rfl ?_
  refine ew_istore_n (pc := 5) dX6_part_5 rfl (by decide) (p1_3 rfl) ?_
  exact lR 11 0 0 _ _ (by omega) (fun j h9 => absurd h9 (Nat.not_lt_zero j)) (fun h9 => sh_n0 (by omega) h9.symm)
end
