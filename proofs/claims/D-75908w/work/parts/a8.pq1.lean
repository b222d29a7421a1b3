/-! EW: the queue's walks up and down -/
set_option maxRecDepth 100000
theorem nI_ush {n : Nat} (h : n < 2 ^ 31) : ((nI n).toUInt32 >>> ((1 : Int32).toUInt32 &&& Int32.toUInt32 31)).toInt32 = nI (n / 2) := by
  show (UInt32.ofNat n >>> ((1 : Int32).toUInt32 &&& Int32.toUInt32 31)).toInt32 = (UInt32.ofNat (n / 2)).toInt32
  congr 1
  apply UInt32.toNat_inj.mp
  rw [UInt32.toNat_shiftRight, show ((1 : Int32).toUInt32 &&& Int32.toUInt32 31).toNat % 32 = 1 by decide, UInt32.toNat_ofNat', UInt32.toNat_ofNat', Nat.mod_eq_of_lt (by omega), Nat.mod_eq_of_lt (by omega), Nat.shiftRight_eq_div_pow]
theorem nI_shl1 {n : Nat} : nI n <<< ((1 : Int32) &&& 31) = nI (2 * n) := by
  apply Int32.toBitVec_inj.mp
  apply BitVec.eq_of_toNat_eq
  rw [show (1 : Int32) &&& 31 = 1 by decide, Int32.toBitVec_shiftLeft, show (1 : Int32).toBitVec.smod 32 = 1#32 by decide, BitVec.shiftLeft_eq', BitVec.toNat_shiftLeft]
  show (BitVec.ofNat 32 n).toNat <<< 1 % 2 ^ 32 = (BitVec.ofNat 32 (2 * n)).toNat
  rw [BitVec.toNat_ofNat, BitVec.toNat_ofNat, Nat.shiftLeft_eq]
  omega
def agq (cap : Nat) (F : Nat → Option Nat) (V : List qd) (k : Nat) : Prop := ∀ i, i < cap → i ≠ k → F i = (V[i]?).map (fun p => p.1)
def agf (cap : Nat) (F : Nat → Option Nat) (V : List qd) : Prop := ∀ i, i < cap → F i = (V[i]?).map (fun p => p.1)
theorem agq.st {cap k j : Nat} {F : Nat → Option Nat} {V : List qd} {x y : qd} (h : agq cap F V k) (hk : k < V.length) (hn : k ≠ j) : agq cap (va_up F k (some y.1)) (swq V k j x y) j := by
  intro i hi hj
  show (if i = k then some y.1 else F i) = _
  by_cases e : i = k
  · rw [if_pos e, e, swq_k hk hn]; rfl
  · rw [if_neg e, swq_o e hj]; exact h i hi e
theorem agq.fin {cap k : Nat} {F : Nat → Option Nat} {V : List qd} {x : qd} (h : agq cap F V k) (hk : V[k]? = some x) : agf cap (va_up F k (some x.1)) V := by
  intro i hi
  show (if i = k then some x.1 else F i) = _
  by_cases e : i = k
  · rw [if_pos e, e, hk]; rfl
  · rw [if_neg e]; exact h i hi e
section
variable {g : eg} {h : eh} {Q : Outcome → eh → Prop}
theorem drO_o {x : Nat} {v : drp} (hx : rd g h x = some (drO v)) : oO g h x := ⟨14, _, _, hx, rfl, Or.inr (ew_qt q3381 rfl)⟩
theorem t_siftUpC {k E c cap x : Nat} {V : List qd} {v : drp} {f : Nat → Option Nat} (hE : h.1 E = some (aR 5 cap f)) (hc : rd g h c = some (ob 13 [])) (hk : V[k]? = some (x, v)) (hl : V.length ≤ cap) (hcap : cap < 2 ^ 20) (hf : agq cap f V k) (hob : ∀ p, p ∈ V → h.1 p.1 = some (drO p.2)) (H : hpU V k) (hq : ∀ V' F, V'.Perm V → hpO V' → agf cap F V' → Q (.returned none) (eh_set h E (aR 5 cap F))) : ew_T g kJ29_siftUpUsingComparator 11 [.int (nI k), .ref x, .ref E, .ref c] h Q := by
  have hcE : c ≠ E := fun e => by
    rw [e, rd_of hE] at hc
    cases hc
  have nE9 : ∀ (p : qd) , p ∈ V → p.1 ≠ E := fun p hp e => by
    have h9 := hob p hp
    rw [e, hE] at h9
    cases h9
  have main : ∀ q k W F x4 x5, k ≤ q → W.Perm V → W[k]? = some (x, v) → agq cap F W k → hpU W k → ew_G g kJ29_siftUpUsingComparator 11 0 [.int (nI k), .ref x, .ref E, .ref c, x4, x5] [] (eh_set h E (aR 5 cap F)) Q := by
    have hx0 := hob _ (List.mem_of_getElem? hk)
    have hxE : x ≠ E := nE9 _ (List.mem_of_getElem? hk)
    have fin : ∀ k W F x4 x5, W.Perm V → W[k]? = some (x, v) → agq cap F W k → hpO W → ew_G g kJ29_siftUpUsingComparator 11 43 [.int (nI k), .ref x, .ref E, .ref c, x4, x5] [] (eh_set h E (aR 5 cap F)) Q := by
      intro k W F x4 x5 hp hk hf H
      have hkl := (List.getElem?_eq_some_iff.mp hk).1
      have hlen := hp.length_eq
      refine ew_aload_n (pc := 43) dJ29_siftUpUsingComparator_43 rfl ?_
      refine ew_iload_n (pc := 44) dJ29_siftUpUsingComparator_44 rfl ?_
      first | refine ew_aload_n (pc := 45) dJ29_siftUpUsingComparator_45 rfl ?_ | refine ew_aload_nq (pc := 45) dJ29_siftUpUsingComparator_45 rfl ?_ | refine ew_aload_nN (pc := 45) dJ29_siftUpUsingComparator_45 rfl ?_
      refine ew_aaS (pc := 46) rfl (se_1 _ _ _) (drO_o (rd_sn (rd_of hx0) hxE)) (j := k) rfl (by omega) (by omega) dJ29_siftUpUsingComparator_46 ?_
      rw [ew_ss]
      refine ew_vret (pc := 47) rfl dJ29_siftUpUsingComparator_47 ?_
      exact hq W _ hp H (hf.fin hk)
    intro q
    induction q with
    | zero =>
      intro k W F x4 x5 hkq hp hk hf H
      have e9 : k = 0 := by omega
      subst e9
      refine ew_iload_n (pc := 0) dJ29_siftUpUsingComparator_0 rfl ?_
      refine ew_if_le (pc := 1) (tgt := 43) dJ29_siftUpUsingComparator_1 (by decide) (fun c1 => ?_) (fun c1 => absurd (by decide) c1)
      exact fin 0 W F _ _ hp hk hf (H.fin (fun h9 => absurd h9 (Nat.lt_irrefl 0)))
    | succ q ih =>
      intro k W F x4 x5 hkq hp hk hf H
      by_cases h0 : k = 0
      · subst h0
        refine ew_iload_n (pc := 0) dJ29_siftUpUsingComparator_0 rfl ?_
        refine ew_if_le (pc := 1) (tgt := 43) dJ29_siftUpUsingComparator_1 (by decide) (fun c1 => ?_) (fun c1 => absurd (by decide) c1)
        exact fin 0 W F _ _ hp hk hf (H.fin (fun h9 => absurd h9 (Nat.lt_irrefl 0)))
      · have hkl := (List.getElem?_eq_some_iff.mp hk).1
        have hlen := hp.length_eq
        have hpl : (k - 1) / 2 < W.length := by omega
        obtain ⟨y, hy⟩ : ∃ y, W[(k - 1) / 2]? = some y := ⟨_, List.getElem?_eq_getElem hpl⟩
        have hyV : y ∈ V := hp.mem_iff.mp (List.mem_of_getElem? hy)
        have hyo := hob y hyV
        have hfy : F ((k - 1) / 2) = some y.1 := by rw [hf _ (by omega) (by omega), hy]; rfl
        refine ew_iload_n (pc := 0) dJ29_siftUpUsingComparator_0 rfl ?_
        refine ew_if_le (pc := 1) (tgt := 43) dJ29_siftUpUsingComparator_1 (by decide) (fun c1 => absurd c1 (nI_nle (by omega) (by omega))) (fun c1 => ?_)
        refine ew_iload_n (pc := 4) dJ29_siftUpUsingComparator_4 rfl ?_
        refine ew_iconst (pc := 5) (v := 1) dJ29_siftUpUsingComparator_5 rfl ?_
        refine ew_isub (pc := 6) dJ29_siftUpUsingComparator_6 ?_
        rw [nI_sub1 (by omega)]
        refine ew_iconst (pc := 7) (v := 1) dJ29_siftUpUsingComparator_7 rfl ?_
        refine ew_iushr (pc := 8) dJ29_siftUpUsingComparator_8 rfl ?_
        rw [nI_ush (by omega)]
        refine ew_istore (pc := 9) dJ29_siftUpUsingComparator_9 (by decide) (p1_4 rfl) ?_
        refine ew_aload_n (pc := 11) dJ29_siftUpUsingComparator_11 rfl ?_
        refine ew_iload (pc := 12) dJ29_siftUpUsingComparator_12 rfl ?_
        refine ew_aaJ (pc := 14) rfl (rd_se _ _ _ _) (j := (k - 1) / 2) rfl (by omega) (by omega) dJ29_siftUpUsingComparator_14 ?_
        rw [hfy]
        first | refine ew_astore (pc := 15) dJ29_siftUpUsingComparator_15 (by decide) (p1_5 rfl) ?_ | refine ew_astoreq (pc := 15) dJ29_siftUpUsingComparator_15 (by decide) (p1_5 rfl) ?_ | refine ew_astoreN (pc := 15) dJ29_siftUpUsingComparator_15 (by decide) (p1_5 rfl) ?_
        refine ew_aload_n (pc := 17) dJ29_siftUpUsingComparator_17 rfl ?_
        first | refine ew_aload_n (pc := 18) dJ29_siftUpUsingComparator_18 rfl ?_ | refine ew_aload_nq (pc := 18) dJ29_siftUpUsingComparator_18 rfl ?_ | refine ew_aload_nN (pc := 18) dJ29_siftUpUsingComparator_18 rfl ?_
        first | refine ew_aload (pc := 19) dJ29_siftUpUsingComparator_19 rfl ?_ | refine ew_aloadq (pc := 19) dJ29_siftUpUsingComparator_19 rfl ?_ | refine ew_aloadN (pc := 19) dJ29_siftUpUsingComparator_19 rfl ?_
        refine ew_cF2 (d' := 2) (pc := 21) tJ29_149_13 (rd_sn hc hcE) dJ29_siftUpUsingComparator_21 (by decide) (ew_rm (Nat.le_of_ble_eq_true rfl)) ?_
        refine t_drCmp (rd_sn hc hcE) (rd_sn (rd_of hx0) hxE) (rd_sn (rd_of hyo) (nE9 _ hyV)) ?_
        refine ew_Kr ?_
        refine ew_if_lt (pc := 26) (tgt := 32) dJ29_siftUpUsingComparator_26 (by decide) (fun c26 => ?_) (fun c26 => ?_)
        · refine ew_aload_n (pc := 32) dJ29_siftUpUsingComparator_32 rfl ?_
          refine ew_iload_n (pc := 33) dJ29_siftUpUsingComparator_33 rfl ?_
          first | refine ew_aload (pc := 34) dJ29_siftUpUsingComparator_34 rfl ?_ | refine ew_aloadq (pc := 34) dJ29_siftUpUsingComparator_34 rfl ?_ | refine ew_aloadN (pc := 34) dJ29_siftUpUsingComparator_34 rfl ?_
          refine ew_aaS (pc := 36) rfl (se_1 _ _ _) (drO_o (rd_sn (rd_of hyo) (nE9 _ hyV))) (j := k) rfl (by omega) (by omega) dJ29_siftUpUsingComparator_36 ?_
          rw [ew_ss]
          refine ew_iload (pc := 37) dJ29_siftUpUsingComparator_37 rfl ?_
          refine ew_istore_n (pc := 39) dJ29_siftUpUsingComparator_39 rfl (by decide) (p1_0) ?_
          refine ew_goto (pc := 40) (tgt := 0) dJ29_siftUpUsingComparator_40 (by decide) ?_
          exact ih ((k - 1) / 2) (swq W k ((k - 1) / 2) (x, v) y) _ _ _ (by omega) ((swq_perm hk hy (by omega)).trans hp) (swq_p hpl) (hf.st hkl (by omega)) (H.up (by omega) hkl hk hy (kD_lt.mp c26))
        · refine ew_goto (pc := 29) (tgt := 43) dJ29_siftUpUsingComparator_29 (by decide) ?_
          exact fin k W F _ _ hp hk hf (H.fin (fun _ _ => by
            rw [kq_s hk, kq_s hy]
            have := fun h9 => c26 (kD_lt.mpr h9)
            exact Int.not_lt.mp this))
  have hs : eh_set h E (aR 5 cap f) = h := ew_sid hE
  refine ew_enter (by decide +kernel) (ew_a1 rfl (ew_a1 rfl (ew_a1 rfl (ew_a1 rfl (ew_an (ew_an ew_az)))))) (Nat.le_of_ble_eq_true rfl) ?_
  have h8 := main k k V f no_ no_ (Nat.le_refl _) (List.Perm.refl _) hk hf H
  rw [hs] at h8
  exact h8
end
