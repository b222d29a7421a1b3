/-! EW: a run goes -/
set_option maxRecDepth 100000
def mnF (f : Nat → Int32) (k : Nat) : Nat → Int32 := fun i => if i < k then -1 else f i
theorem mnF_0 (f : Nat → Int32) : mnF f 0 = f := funext fun i => if_neg (Nat.not_lt_zero i)
theorem mnF_s (f : Nat → Int32) (k : Nat) : upd (mnF f k) k (-1) = mnF f (k + 1) := by
  funext i
  show (if i = k then -1 else if i < k then -1 else f i) = if i < k + 1 then -1 else f i
  by_cases h1 : i = k
  · rw [if_pos h1, if_pos (by omega)]
  · rw [if_neg h1]
    by_cases h2 : i < k
    · rw [if_pos h2, if_pos (by omega)]
    · rw [if_neg h2, if_neg (by omega)]
/-- fixed events below e have their times -/
def fxR (N : Nat → Int32) (ρ : ru) : Nat → ru
  | 0 => ρ
  | e + 1 => if N (146 + e) = -1 then fxR N ρ e else gv (fxR N ρ e) e (N (146 + e))
/-- the time that an event gets -/
def tmC (n : Nat) (N : Nat → Int32) (k : Nat) (oth dl : Int32) (S : Nat → Int32) (e : Nat) : Int32 := plC n S e k (N (166 + e)) + (if nI e = oth then dl else N (156 + e))
def goC (n : Nat) (N : Nat → Int32) (k : Nat) (oth dl : Int32) : Nat → ru → ru
  | 0, ρ => ρ
  | f + 1, ρ => match nxF n ρ.2.1 ρ.1 n with
    | none => ρ
    | some e => if ρ.1 e < tmC n N k oth dl ρ.1 e then (ρ.1, ρ.2.1, ρ.2.2.1, ρ.2.2.2.1, nI e) else goC n N k oth dl f (sqFix n ρ.1 e (tmC n N k oth dl ρ.1 e), (gv ρ e (tmC n N k oth dl ρ.1 e)).2)
/-- a run comes to its end, and no more events are told than there are -/
def okRn (n : Nat) (N : Nat → Int32) (k : Nat) (oth dl : Int32) : Nat → ru → Prop
  | 0, ρ => nxF n ρ.2.1 ρ.1 n = none
  | f + 1, ρ => match nxF n ρ.2.1 ρ.1 n with
    | none => True
    | some e => ρ.1 e < tmC n N k oth dl ρ.1 e ∨ (ρ.2.2.2.1 < n ∧ okRn n N k oth dl f (sqFix n ρ.1 e (tmC n N k oth dl ρ.1 e), (gv ρ e (tmC n N k oth dl ρ.1 e)).2))
theorem fxR_m (N : Nat → Int32) (ρ : ru) (h0 : ρ.2.2.2.1 = 0) : ∀ e, (fxR N ρ e).2.2.2.1 ≤ e ∧ (fxR N ρ e).2.2.2.2 = ρ.2.2.2.2
  | 0 => ⟨Nat.le_of_eq h0, rfl⟩
  | e + 1 => by
    have := fxR_m N ρ h0 e
    rw [fxR]
    split
    · exact ⟨by omega, this.2⟩
    · exact ⟨by show (fxR N ρ e).2.2.2.1 + 1 ≤ e + 1; omega, this.2⟩
section
variable {g : eg} {h : eh} {q qs A TT OO p nA L E F D W b B : Nat} {ws : List Nat} {N FB : Nat → Int32} {ρ : ru} {Q : Outcome → eh → Prop}
theorem t_goes {k : Nat} {oth dl : Int32} (r : rA g h q qs A TT OO (nE N)) (hN : ∀ ρ, NR g (RU q qs A TT OO (nE N) ρ h) p nA L E F D W ws N) (hB : ∀ ρ, Sq g (RU q qs A TT OO (nE N) ρ h) b B (nE N) FB) (hk : k < 4)
    (hok : okRn (nE N) N k oth dl (nE N + 1) (fxR N (va_cpy FB ρ.1 0 0 (nE N * nE N), mnF ρ.2.1 (nE N), ρ.2.2.1, 0, -1) (nE N)))
    (hq : Q (.returned (some (.ref q))) (RU q qs A TT OO (nE N) (goC (nE N) N k oth dl (nE N + 1) (fxR N (va_cpy FB ρ.1 0 0 (nE N * nE N), mnF ρ.2.1 (nE N), ρ.2.2.1, 0, -1) (nE N))) h)) : ew_T g kX8_goes 5 [.ref q, .ref p, .ref b, .int (nI k), .int oth, .int dl] (RU q qs A TT OO (nE N) ρ h) Q := by
  have hn := r.2.2.2.2.2.2.2.1
  have l92 : ∀ f ρ x7, okRn (nE N) N k oth dl f ρ → ρ.2.2.2.2 = -1 → Q (.returned (some (.ref q))) (RU q qs A TT OO (nE N) (goC (nE N) N k oth dl f ρ) h) → ew_G g kX8_goes 5 92 [.ref q, .ref p, .ref b, .int (nI k), .int oth, .int dl, .int (oI (nxF (nE N) ρ.2.1 ρ.1 (nE N))), x7] [] (RU q qs A TT OO (nE N) ρ h) Q := by
    intro f
    induction f with
    | zero =>
      intro ρ x7 ho hb hq
      rw [okRn] at ho
      rw [ho]
      refine ew_iload (pc := 92) dX8_goes_92 rfl ?_
      refine ew_iconst (pc := 94) (v := -1) dX8_goes_94 rfl ?_
      refine ew_icmp_eq (pc := 95) (tgt := 193) dX8_goes_95 (by decide) (fun c95 => ?_) (fun c95 => absurd rfl c95)
      refine ew_aload_n (pc := 193) dX8_goes_193 rfl ?_
      refine ew_aret (pc := 194) rfl (Or.inl ⟨_, rfl⟩) (Or.inr ⟨_, rfl⟩) dX8_goes_194 ?_
      exact hq
    | succ f ih =>
      intro ρ x7 ho hb hq
      rw [okRn] at ho
      rw [goC] at hq
      cases hf : nxF (nE N) ρ.2.1 ρ.1 (nE N) with
      | none =>
        rw [hf] at hq
        refine ew_iload (pc := 92) dX8_goes_92 rfl ?_
        refine ew_iconst (pc := 94) (v := -1) dX8_goes_94 rfl ?_
        refine ew_icmp_eq (pc := 95) (tgt := 193) dX8_goes_95 (by decide) (fun c95 => ?_) (fun c95 => absurd rfl c95)
        refine ew_aload_n (pc := 193) dX8_goes_193 rfl ?_
        refine ew_aret (pc := 194) rfl (Or.inl ⟨_, rfl⟩) (Or.inr ⟨_, rfl⟩) dX8_goes_194 ?_
        exact hq
      | some e =>
        rw [hf] at ho hq
        dsimp only at hq
        have he := nxF_lt _ _ _ _ _ hf
        have hne : ¬ nI e = -1 := fun h9 => absurd (show nI e < 0 by rw [h9]; decide) (nI_pos (by omega))
        have rN := hN ρ
        have hSq := ru_Sq (ρ := ρ) r
        obtain ⟨fW, hfW, fW2⟩ := rN.W
        obtain ⟨fD, hfD, fD2⟩ := rN.D
        have s139 : ∀ v, v = (if nI e = oth then dl else N (156 + e)) → ew_G g kX8_goes 5 139 [.ref q, .ref p, .ref b, .int (nI k), .int oth, .int dl, .int (nI e), x7] [.int v, .int (plC (nE N) ρ.1 e k (N (166 + e)))] (RU q qs A TT OO (nE N) ρ h) Q := by
          intro v hv
          have e9 : plC (nE N) ρ.1 e k (N (166 + e)) + v = tmC (nE N) N k oth dl ρ.1 e := by rw [hv, tmC]
          have r2 := ru_Sq (ρ := gv ρ e (tmC (nE N) N k oth dl ρ.1 e)) r
          refine ew_iadd (pc := 139) dX8_goes_139 ?_
          rw [e9]
          refine ew_istore (pc := 140) dX8_goes_140 (by decide) (p1_7 rfl) ?_
          refine ew_iload (pc := 142) dX8_goes_142 rfl ?_
          refine ew_aload_n (pc := 144) dX8_goes_144 rfl ?_
          refine ew_getf (pc := 145) fX8_14 (rd_of (ru_Q r)) rfl dX8_goes_145 ?_
          refine ew_iload (pc := 148) dX8_goes_148 rfl ?_
          refine ew_cV1 (d' := 1) (pc := 150) vX8_39 hSq.1 dX8_goes_150 (by decide) (ew_rm (Nat.le_of_ble_eq_true rfl)) ?_
          refine t_latestS hSq he ?_
          refine ew_Kr ?_
          refine ew_icmp_le (pc := 153) (tgt := 165) dX8_goes_153 (by decide) (fun c153 => ?_) (fun c153 => ?_)
          · refine ew_aload_n (pc := 165) dX8_goes_165 rfl ?_
            refine ew_iload (pc := 166) dX8_goes_166 rfl ?_
            refine ew_iload (pc := 168) dX8_goes_168 rfl ?_
            refine ew_cV2 (d' := 0) (pc := 170) vX8_69 (rd_of (ru_Q r)) dX8_goes_170 (by decide) (ew_rm (Nat.le_of_ble_eq_true rfl)) ?_
            have hle : ¬ ρ.1 e < tmC (nE N) N k oth dl ρ.1 e := Int32.not_lt.mpr c153
            have ho2 := ho.resolve_left hle
            rw [if_neg hle] at hq
            refine t_gives r he ho2.1 ?_
            refine ew_Kv ?_
            refine ew_aload_n (pc := 173) dX8_goes_173 rfl ?_
            refine ew_getf (pc := 174) fX8_14 (rd_of (ru_Q r)) rfl dX8_goes_174 ?_
            refine ew_iload (pc := 177) dX8_goes_177 rfl ?_
            refine ew_iload (pc := 179) dX8_goes_179 rfl ?_
            refine ew_cV2 (d' := 2) (pc := 181) vX8_87 r2.1 dX8_goes_181 (by decide) (ew_rm (Nat.le_of_ble_eq_true rfl)) ?_
            refine t_fixS r2 he ?_
            rw [ru_setA]
            refine ew_Kv ?_
            refine ew_aload_n (pc := 184) dX8_goes_184 rfl ?_
            refine ew_cV0 (d' := 2) (pc := 185) vX8_73 (rd_of (ru_Q r)) dX8_goes_185 (by decide) (ew_rm (Nat.le_of_ble_eq_true rfl)) ?_
            refine t_next r ?_
            refine ew_Kr ?_
            refine ew_istore (pc := 188) dX8_goes_188 (by decide) (p1_6 rfl) ?_
            refine ew_goto (pc := 190) (tgt := 92) dX8_goes_190 (by decide) ?_
            exact ih _ _ ho2.2 hb hq
          · refine ew_aload_n (pc := 156) dX8_goes_156 rfl ?_
            refine ew_iload (pc := 157) dX8_goes_157 rfl ?_
            refine ew_putf (pc := 159) pX8_58 (ru_Q r) st_4 (Nat.le_of_ble_eq_true rfl) rfl rfl (fun h9 => absurd h9 Bool.false_ne_true) dX8_goes_159 ?_
            rw [ru_setQ r]
            refine ew_goto (pc := 162) (tgt := 193) dX8_goes_162 (by decide) ?_
            refine ew_aload_n (pc := 193) dX8_goes_193 rfl ?_
            refine ew_aret (pc := 194) rfl (Or.inl ⟨_, rfl⟩) (Or.inr ⟨_, rfl⟩) dX8_goes_194 ?_
            rw [if_pos (show ρ.1 e < tmC (nE N) N k oth dl ρ.1 e from Int32.not_le.mp c153)] at hq
            exact hq
        refine ew_iload (pc := 92) dX8_goes_92 rfl ?_
        refine ew_iconst (pc := 94) (v := -1) dX8_goes_94 rfl ?_
        refine ew_icmp_eq (pc := 95) (tgt := 193) dX8_goes_95 (by decide) (fun c95 => absurd c95 hne) (fun c95 => ?_)
        refine ew_aload_n (pc := 98) dX8_goes_98 rfl ?_
        refine ew_getf (pc := 99) fX8_58 (rd_of (ru_Q r)) rfl dX8_goes_99 ?_
        refine ew_iconst (pc := 102) (v := -1) dX8_goes_102 rfl ?_
        rw [hb]
        refine ew_icmp_ne (pc := 103) (tgt := 193) dX8_goes_103 (by decide) (fun c103 => absurd rfl c103) (fun c103 => ?_)
        refine ew_aload_n (pc := 106) dX8_goes_106 rfl ?_
        refine ew_iload (pc := 107) dX8_goes_107 rfl ?_
        refine ew_iload_n (pc := 109) dX8_goes_109 rfl ?_
        refine ew_aload_n (pc := 110) dX8_goes_110 rfl ?_
        refine ew_getf (pc := 111) fX8_77 (rd_of rN.o) rfl dX8_goes_111 ?_
        refine ew_iload (pc := 114) dX8_goes_114 rfl ?_
        refine ew_iaJ (pc := 116) (rd_of hfW) (j := e) rfl he (by omega) dX8_goes_116 ?_
        rw [fW2 e he]
        refine ew_cV3 (d' := 4) (pc := 117) vX8_80 (rd_of (ru_Q r)) dX8_goes_117 (by decide) (ew_rm (Nat.le_of_ble_eq_true rfl)) ?_
        refine t_planned r he hk ?_
        refine ew_Kr ?_
        refine ew_iload (pc := 120) dX8_goes_120 rfl ?_
        refine ew_iload (pc := 122) dX8_goes_122 rfl ?_
        refine ew_icmp_ne (pc := 124) (tgt := 132) dX8_goes_124 (by decide) (fun c124 => ?_) (fun c124 => ?_)
        · refine ew_aload_n (pc := 132) dX8_goes_132 rfl ?_
          refine ew_getf (pc := 133) fX8_84 (rd_of rN.o) rfl dX8_goes_133 ?_
          refine ew_iload (pc := 136) dX8_goes_136 rfl ?_
          refine ew_iaJ (pc := 138) (rd_of hfD) (j := e) rfl he (by omega) dX8_goes_138 ?_
          first
          | exact s139 _ (if_pos c124).symm
          | rw [fD2 e he]
            exact s139 _ (if_neg c124).symm
          | exact s139 _ (if_pos (Decidable.not_not.mp c124)).symm
        · refine ew_iload (pc := 127) dX8_goes_127 rfl ?_
          refine ew_goto (pc := 129) (tgt := 139) dX8_goes_129 (by decide) ?_
          first
          | exact s139 _ (if_pos c124).symm
          | rw [fD2 e he]
            exact s139 _ (if_neg c124).symm
          | exact s139 _ (if_pos (Decidable.not_not.mp c124)).symm
  have l48 : ∀ m e ρ0 x7, e + m = nE N → ρ0.2.2.2.1 = 0 → ρ0.2.2.2.2 = -1 → okRn (nE N) N k oth dl (nE N + 1) (fxR N ρ0 (nE N)) → Q (.returned (some (.ref q))) (RU q qs A TT OO (nE N) (goC (nE N) N k oth dl (nE N + 1) (fxR N ρ0 (nE N))) h) → ew_G g kX8_goes 5 48 [.ref q, .ref p, .ref b, .int (nI k), .int oth, .int dl, .int (nI e), x7] [] (RU q qs A TT OO (nE N) (fxR N ρ0 e) h) Q := by
    intro m
    induction m with
    | zero =>
      intro e ρ0 x7 hk2 h0 hb hok hq
      have e9 : e = nE N := by omega
      rw [e9]
      refine ew_iload (pc := 48) dX8_goes_48 rfl ?_
      refine ew_aload_n (pc := 50) dX8_goes_50 rfl ?_
      refine ew_getf (pc := 51) fX8_20 (rd_of (ru_Q r)) rfl dX8_goes_51 ?_
      refine ew_alen (pc := 54) (rd_of (ru_T r)) rfl dX8_goes_54 ?_
      refine ew_icmp_ge (pc := 55) (tgt := 86) dX8_goes_55 (by decide) (fun c55 => ?_) (fun c55 => absurd (nI_le (Nat.le_refl _) (by omega)) c55)
      refine ew_aload_n (pc := 86) dX8_goes_86 rfl ?_
      refine ew_cV0 (d' := 2) (pc := 87) vX8_73 (rd_of (ru_Q r)) dX8_goes_87 (by decide) (ew_rm (Nat.le_of_ble_eq_true rfl)) ?_
      refine t_next r ?_
      refine ew_Kr ?_
      refine ew_istore (pc := 90) dX8_goes_90 (by decide) (p1_6 rfl) ?_
      exact l92 _ _ _ hok ((fxR_m N ρ0 h0 (nE N)).2.trans hb) hq
    | succ m ih =>
      intro e ρ0 x7 hk2 h0 hb hok hq
      have rN := hN (fxR N ρ0 e)
      obtain ⟨fF, hfF, fF2⟩ := rN.F
      have hmm := (fxR_m N ρ0 h0 e).1
      refine ew_iload (pc := 48) dX8_goes_48 rfl ?_
      refine ew_aload_n (pc := 50) dX8_goes_50 rfl ?_
      refine ew_getf (pc := 51) fX8_20 (rd_of (ru_Q r)) rfl dX8_goes_51 ?_
      refine ew_alen (pc := 54) (rd_of (ru_T r)) rfl dX8_goes_54 ?_
      refine ew_icmp_ge (pc := 55) (tgt := 86) dX8_goes_55 (by decide) (fun c55 => absurd c55 (nI_ge (by omega) (by omega))) (fun c55 => ?_)
      refine ew_aload_n (pc := 58) dX8_goes_58 rfl ?_
      refine ew_iload (pc := 59) dX8_goes_59 rfl ?_
      refine ew_cV1 (d' := 0) (pc := 61) vX8_61 (rd_of rN.o) dX8_goes_61 (by decide) (ew_rm (Nat.le_of_ble_eq_true rfl)) ?_
      refine t_nFree rN (by omega) ?_
      refine ew_Kr ?_
      refine ew_if_ne (pc := 64) (tgt := 80) dX8_goes_64 (by decide) (fun c64 => ?_) (fun c64 => ?_)
      · refine ew_iinc (pc := 80) dX8_goes_80 rfl (nI_inc e) (by decide) (p1_6 rfl) ?_
        refine ew_goto (pc := 83) (tgt := 48) dX8_goes_83 (by decide) ?_
        have h8 := ih (e + 1) ρ0 x7 (by omega) h0 hb hok hq
        rw [fxR] at h8
        first
        | rw [if_pos (show N (146 + e) = -1 from bI_n.mp c64)] at h8
          exact h8
        | rw [if_neg (show ¬ N (146 + e) = -1 from bI_0.mp c64)] at h8
          exact h8
        | rw [if_neg (show ¬ N (146 + e) = -1 from bI_0.mp (Decidable.not_not.mp c64))] at h8
          exact h8
      · refine ew_aload_n (pc := 67) dX8_goes_67 rfl ?_
        refine ew_iload (pc := 68) dX8_goes_68 rfl ?_
        refine ew_aload_n (pc := 70) dX8_goes_70 rfl ?_
        refine ew_getf (pc := 71) fX8_66 (rd_of rN.o) rfl dX8_goes_71 ?_
        refine ew_iload (pc := 74) dX8_goes_74 rfl ?_
        refine ew_iaJ (pc := 76) (rd_of hfF) (j := e) rfl (by omega) (by omega) dX8_goes_76 ?_
        rw [fF2 e (by omega)]
        refine ew_cV2 (d' := 0) (pc := 77) vX8_69 (rd_of (ru_Q r)) dX8_goes_77 (by decide) (ew_rm (Nat.le_of_ble_eq_true rfl)) ?_
        refine t_gives r (by omega) (by omega) ?_
        refine ew_Kv ?_
        refine ew_iinc (pc := 80) dX8_goes_80 rfl (nI_inc e) (by decide) (p1_6 rfl) ?_
        refine ew_goto (pc := 83) (tgt := 48) dX8_goes_83 (by decide) ?_
        have h8 := ih (e + 1) ρ0 x7 (by omega) h0 hb hok hq
        rw [fxR] at h8
        first
        | rw [if_pos (show N (146 + e) = -1 from bI_n.mp c64)] at h8
          exact h8
        | rw [if_neg (show ¬ N (146 + e) = -1 from bI_0.mp c64)] at h8
          exact h8
        | rw [if_neg (show ¬ N (146 + e) = -1 from bI_0.mp (Decidable.not_not.mp c64))] at h8
          exact h8
  have l21 : ∀ m e S x7, e + m = nE N → okRn (nE N) N k oth dl (nE N + 1) (fxR N (S, mnF ρ.2.1 (nE N), ρ.2.2.1, 0, -1) (nE N)) → Q (.returned (some (.ref q))) (RU q qs A TT OO (nE N) (goC (nE N) N k oth dl (nE N + 1) (fxR N (S, mnF ρ.2.1 (nE N), ρ.2.2.1, 0, -1) (nE N))) h) → ew_G g kX8_goes 5 21 [.ref q, .ref p, .ref b, .int (nI k), .int oth, .int dl, .int (nI e), x7] [] (RU q qs A TT OO (nE N) (S, mnF ρ.2.1 e, ρ.2.2.1, 0, -1) h) Q := by
    intro m
    induction m with
    | zero =>
      intro e S x7 hk2 hok hq
      have e9 : e = nE N := by omega
      rw [e9]
      refine ew_iload (pc := 21) dX8_goes_21 rfl ?_
      refine ew_aload_n (pc := 23) dX8_goes_23 rfl ?_
      refine ew_getf (pc := 24) fX8_20 (rd_of (ru_Q r)) rfl dX8_goes_24 ?_
      refine ew_alen (pc := 27) (rd_of (ru_T r)) rfl dX8_goes_27 ?_
      refine ew_icmp_ge (pc := 28) (tgt := 45) dX8_goes_28 (by decide) (fun c28 => ?_) (fun c28 => absurd (nI_le (Nat.le_refl _) (by omega)) c28)
      refine ew_iconst (pc := 45) (v := 0) dX8_goes_45 rfl ?_
      refine ew_istore (pc := 46) dX8_goes_46 (by decide) (p1_6 rfl) ?_
      exact l48 (nE N) 0 _ _ (by omega) rfl rfl hok hq
    | succ m ih =>
      intro e S x7 hk2 hok hq
      refine ew_iload (pc := 21) dX8_goes_21 rfl ?_
      refine ew_aload_n (pc := 23) dX8_goes_23 rfl ?_
      refine ew_getf (pc := 24) fX8_20 (rd_of (ru_Q r)) rfl dX8_goes_24 ?_
      refine ew_alen (pc := 27) (rd_of (ru_T r)) rfl dX8_goes_27 ?_
      refine ew_icmp_ge (pc := 28) (tgt := 45) dX8_goes_28 (by decide) (fun c28 => absurd c28 (nI_ge (by omega) (by omega))) (fun c28 => ?_)
      refine ew_aload_n (pc := 31) dX8_goes_31 rfl ?_
      refine ew_getf (pc := 32) fX8_20 (rd_of (ru_Q r)) rfl dX8_goes_32 ?_
      refine ew_iload (pc := 35) dX8_goes_35 rfl ?_
      refine ew_iconst (pc := 37) (v := -1) dX8_goes_37 rfl ?_
      refine ew_iaS (pc := 38) (ru_T r) (j := e) rfl (by omega) (by omega) dX8_goes_38 ?_
      rw [ru_setT r, mnF_s]
      refine ew_iinc (pc := 39) dX8_goes_39 rfl (nI_inc e) (by decide) (p1_6 rfl) ?_
      refine ew_goto (pc := 42) (tgt := 21) dX8_goes_42 (by decide) ?_
      exact ih (e + 1) S x7 (by omega) hok hq
  refine ew_enter (by decide +kernel) (ew_a1 rfl (ew_a1 rfl (ew_a1 rfl (ew_a1 rfl (ew_a1 rfl (ew_a1 rfl (ew_an (ew_an ew_az)))))))) (Nat.le_of_ble_eq_true rfl) ?_
  refine ew_aload_n (pc := 0) dX8_goes_0 rfl ?_
  refine ew_getf (pc := 1) fX8_14 (rd_of (ru_Q r)) rfl dX8_goes_1 ?_
  first | refine ew_aload_n (pc := 4) dX8_goes_4 rfl ?_ | refine ew_aload_nq (pc := 4) dX8_goes_4 rfl ?_ | refine ew_aload_nN (pc := 4) dX8_goes_4 rfl ?_
  refine ew_cV1 (d' := 0) (pc := 5) vX8_54 (ru_Sq r).1 dX8_goes_5 (by decide) (ew_rm (Nat.le_of_ble_eq_true rfl)) ?_
  refine t_copiesS (ru_Sq r) (hB ρ) ?_
  rw [ru_setA]
  refine ew_Kv ?_
  refine ew_aload_n (pc := 8) dX8_goes_8 rfl ?_
  refine ew_iconst (pc := 9) (v := 0) dX8_goes_9 rfl ?_
  refine ew_putf (pc := 10) pX8_27 (ru_Q r) st_3 (Nat.le_of_ble_eq_true rfl) rfl rfl (fun h9 => absurd h9 Bool.false_ne_true) dX8_goes_10 ?_
  rw [show (0 : Int32) = nI 0 from rfl, ru_setQ r]
  refine ew_aload_n (pc := 13) dX8_goes_13 rfl ?_
  refine ew_iconst (pc := 14) (v := -1) dX8_goes_14 rfl ?_
  refine ew_putf (pc := 15) pX8_58 (ru_Q r) st_4 (Nat.le_of_ble_eq_true rfl) rfl rfl (fun h9 => absurd h9 Bool.false_ne_true) dX8_goes_15 ?_
  rw [ru_setQ r]
  refine ew_iconst (pc := 18) (v := 0) dX8_goes_18 rfl ?_
  refine ew_istore (pc := 19) dX8_goes_19 (by decide) (p1_6 rfl) ?_
  have h8 := l21 (nE N) 0 (va_cpy FB ρ.1 0 0 (nE N * nE N)) no_ (by omega) hok hq
  rw [mnF_0] at h8
  exact h8
end
