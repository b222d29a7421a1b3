/-! EW: the weakest event that the component tells -/
set_option maxRecDepth 100000
section
variable {g : eg} {h : eh} {a : Nat → Nat} {ws : List Nat} {N : Nat → Int32} {m pe ep : Int32} {fb ft : Nat → Int32} {ρ : ru} {Q : Outcome → eh → Prop}
theorem c_weakest {p : Int32} (hg : gOC g) (C : CV g h a ws N m pe ep fb ft ρ) (hR : RC2 N) (hq : ∀ o h', CO SA (se1 1 (cSb N) (bI (isIx 4 p))) (.int (wkC N (ix p) (nE N - 1)).1) (CQ g a ws N m pe ep h) o h' → Q o h') : ew_T g kX1_weakest 8 [.ref (a 0), .int p] h Q := by
  have hE := C.n.ok.e2
  have hE1 := C.n.ok.e1
  refine ew_enter (by decide +kernel) (ew_a1 rfl (ew_a1 rfl (ew_an (ew_an (ew_an (ew_an (ew_an ew_az))))))) (Nat.le_of_ble_eq_true rfl) ?_
  refine ew_ok (fun ho => ?_)
  have main : ∀ f, cSo N 0 (-1) → isIx 4 p → agN (nE N) f (cSq N 0 (-1)) → ∀ q e h2 σ x6, e + q + 1 = nE N → CV g h2 a ws N m pe ep f ft σ → Ke (rgA a) 0 0 (eh_set h (a 6) (aI (nE N * nE N) f)) h2 → ew_G g kX1_weakest 8 22 [.ref (a 0), .int p, .ref (a 5), .int (wkC N (ix p) e).1, .int (wkC N (ix p) e).2, .int (nI (e + 1)), x6] [] h2 Q := by
    intro f hs hi hf q
    have hp := hi.to (by decide)
    induction q with
    | zero =>
      intro e h2 σ x6 he C2 k2
      have e9 : e = nE N - 1 := by omega
      rw [e9, show nE N - 1 + 1 = nE N by omega]
      refine ew_iload (pc := 22) dX1_weakest_22 rfl ?_
      refine ew_aload_n (pc := 24) dX1_weakest_24 rfl ?_
      refine ew_getf (pc := 25) fX1_84 (rd_of C2.o) rfl dX1_weakest_25 ?_
      refine ew_cV0 (d' := 0) (pc := 28) vX1_13 (rd_of C2.n.o) dX1_weakest_28 (by decide) (ew_rm (Nat.le_of_ble_eq_true rfl)) ?_
      refine t_nEvents C2.n ?_
      refine ew_Kr ?_
      refine ew_icmp_ge (pc := 31) (tgt := 86) dX1_weakest_31 (by decide) (fun c31 => ?_) (fun c31 => absurd (nI_le (Nat.le_refl _) (by omega)) c31)
      refine ew_iload_n (pc := 86) dX1_weakest_86 rfl ?_
      refine ew_iret (pc := 87) rfl dX1_weakest_87 ?_
      exact hq _ _ (CO.y (se1_y hs hi) (CQ.B2 hg ho C C2 k2))
    | succ q ih =>
      intro e h2 σ x6 he C2 k2
      have ih1 := ih (e + 1)
      rw [wkC, wkT1] at ih1
      refine ew_iload (pc := 22) dX1_weakest_22 rfl ?_
      refine ew_aload_n (pc := 24) dX1_weakest_24 rfl ?_
      refine ew_getf (pc := 25) fX1_84 (rd_of C2.o) rfl dX1_weakest_25 ?_
      refine ew_cV0 (d' := 0) (pc := 28) vX1_13 (rd_of C2.n.o) dX1_weakest_28 (by decide) (ew_rm (Nat.le_of_ble_eq_true rfl)) ?_
      refine t_nEvents C2.n ?_
      refine ew_Kr ?_
      refine ew_icmp_ge (pc := 31) (tgt := 86) dX1_weakest_31 (by decide) (fun c31 => absurd c31 (nI_ge (by omega) (by omega))) (fun c31 => ?_)
      refine ew_aload_n (pc := 34) dX1_weakest_34 rfl ?_
      refine ew_getf (pc := 35) fX1_84 (rd_of C2.o) rfl dX1_weakest_35 ?_
      refine ew_iload (pc := 38) dX1_weakest_38 rfl ?_
      refine ew_cV1 (d' := 0) (pc := 40) vX1_369 (rd_of C2.n.o) dX1_weakest_40 (by decide) (ew_rm (Nat.le_of_ble_eq_true rfl)) ?_
      refine t_nFree C2.n (by omega) ?_
      refine ew_Kr ?_
      refine ew_if_ne (pc := 43) (tgt := 49) dX1_weakest_43 (by decide) (fun c43 => ?_) (fun c43 => ?_)
      · refine ew_aload_n (pc := 49) dX1_weakest_49 rfl ?_
        refine ew_iload_n (pc := 50) dX1_weakest_50 rfl ?_
        refine ew_iload (pc := 51) dX1_weakest_51 rfl ?_
        rw [hp.2]
        refine ew_cV2 (d' := 6) (pc := 53) vX1_372 (rd_of C2.o) dX1_weakest_53 (by decide) (ew_rm (Nat.le_of_ble_eq_true rfl)) ?_
        refine t_spareOf1 hg C2 hf hs hR hp.1 (by omega) (fun h3 σ3 C3 k3 => ?_)
        rw [← hp.2]
        refine ew_Kr ?_
        refine ew_istore (pc := 56) dX1_weakest_56 (by decide) (p1_6 rfl) ?_
        refine ew_iload_n (pc := 58) dX1_weakest_58 rfl ?_
        refine ew_iconst (pc := 59) (v := -1) dX1_weakest_59 rfl ?_
        refine ew_icmp_eq (pc := 60) (tgt := 73) dX1_weakest_60 (by decide) (fun c60 => ?_) (fun c60 => ?_)
        · refine ew_iload (pc := 73) dX1_weakest_73 rfl ?_
          refine ew_istore_n (pc := 75) dX1_weakest_75 rfl (by decide) (p1_3 rfl) ?_
          refine ew_iload (pc := 76) dX1_weakest_76 rfl ?_
          refine ew_istore (pc := 78) dX1_weakest_78 (by decide) (p1_4 rfl) ?_
          refine ew_iinc (pc := 80) dX1_weakest_80 rfl (nI_inc (e + 1)) (by decide) (p1_5 rfl) ?_
          refine ew_goto (pc := 83) (tgt := 22) dX1_weakest_83 (by decide) ?_
          first
          | rw [if_pos (show ¬ N (146 + (e + 1)) = -1 ∨ (¬ (wkC N (ix p) e).1 = -1 ∧ (wkC N (ix p) e).2 ≤ sprF N (ix p) (e + 1) 100) from Or.inl (bI_0.mp c43))] at ih1
            exact ih1 h2 σ _ (by omega) C2 k2
          | rw [if_pos (show ¬ N (146 + (e + 1)) = -1 ∨ (¬ (wkC N (ix p) e).1 = -1 ∧ (wkC N (ix p) e).2 ≤ sprF N (ix p) (e + 1) 100) from Or.inr ⟨c60, Int32.not_lt.mp c67⟩)] at ih1
            exact ih1 h3 σ3 _ (by omega) C3 (k2.t k3 (fun b h9 _ => h9) (fun b h9 _ => h9) (Nat.le_refl _) (Nat.le_refl _))
          | rw [if_neg (show ¬ (¬ N (146 + (e + 1)) = -1 ∨ (¬ (wkC N (ix p) e).1 = -1 ∧ (wkC N (ix p) e).2 ≤ sprF N (ix p) (e + 1) 100)) from fun h9 => h9.elim (fun h8 => h8 (bI_n.mp c43)) (fun h8 => by first | exact h8.1 c60 | exact absurd h8.2 (Int32.not_le.mpr c67)))] at ih1
            exact ih1 h3 σ3 _ (by omega) C3 (k2.t k3 (fun b h9 _ => h9) (fun b h9 _ => h9) (Nat.le_refl _) (Nat.le_refl _))
        · refine ew_iload (pc := 63) dX1_weakest_63 rfl ?_
          refine ew_iload (pc := 65) dX1_weakest_65 rfl ?_
          refine ew_icmp_lt (pc := 67) (tgt := 73) dX1_weakest_67 (by decide) (fun c67 => ?_) (fun c67 => ?_)
          · refine ew_iload (pc := 73) dX1_weakest_73 rfl ?_
            refine ew_istore_n (pc := 75) dX1_weakest_75 rfl (by decide) (p1_3 rfl) ?_
            refine ew_iload (pc := 76) dX1_weakest_76 rfl ?_
            refine ew_istore (pc := 78) dX1_weakest_78 (by decide) (p1_4 rfl) ?_
            refine ew_iinc (pc := 80) dX1_weakest_80 rfl (nI_inc (e + 1)) (by decide) (p1_5 rfl) ?_
            refine ew_goto (pc := 83) (tgt := 22) dX1_weakest_83 (by decide) ?_
            first
            | rw [if_pos (show ¬ N (146 + (e + 1)) = -1 ∨ (¬ (wkC N (ix p) e).1 = -1 ∧ (wkC N (ix p) e).2 ≤ sprF N (ix p) (e + 1) 100) from Or.inl (bI_0.mp c43))] at ih1
              exact ih1 h2 σ _ (by omega) C2 k2
            | rw [if_pos (show ¬ N (146 + (e + 1)) = -1 ∨ (¬ (wkC N (ix p) e).1 = -1 ∧ (wkC N (ix p) e).2 ≤ sprF N (ix p) (e + 1) 100) from Or.inr ⟨c60, Int32.not_lt.mp c67⟩)] at ih1
              exact ih1 h3 σ3 _ (by omega) C3 (k2.t k3 (fun b h9 _ => h9) (fun b h9 _ => h9) (Nat.le_refl _) (Nat.le_refl _))
            | rw [if_neg (show ¬ (¬ N (146 + (e + 1)) = -1 ∨ (¬ (wkC N (ix p) e).1 = -1 ∧ (wkC N (ix p) e).2 ≤ sprF N (ix p) (e + 1) 100)) from fun h9 => h9.elim (fun h8 => h8 (bI_n.mp c43)) (fun h8 => by first | exact h8.1 c60 | exact absurd h8.2 (Int32.not_le.mpr c67)))] at ih1
              exact ih1 h3 σ3 _ (by omega) C3 (k2.t k3 (fun b h9 _ => h9) (fun b h9 _ => h9) (Nat.le_refl _) (Nat.le_refl _))
          · refine ew_goto (pc := 70) (tgt := 80) dX1_weakest_70 (by decide) ?_
            refine ew_iinc (pc := 80) dX1_weakest_80 rfl (nI_inc (e + 1)) (by decide) (p1_5 rfl) ?_
            refine ew_goto (pc := 83) (tgt := 22) dX1_weakest_83 (by decide) ?_
            first
            | rw [if_pos (show ¬ N (146 + (e + 1)) = -1 ∨ (¬ (wkC N (ix p) e).1 = -1 ∧ (wkC N (ix p) e).2 ≤ sprF N (ix p) (e + 1) 100) from Or.inl (bI_0.mp c43))] at ih1
              exact ih1 h2 σ _ (by omega) C2 k2
            | rw [if_pos (show ¬ N (146 + (e + 1)) = -1 ∨ (¬ (wkC N (ix p) e).1 = -1 ∧ (wkC N (ix p) e).2 ≤ sprF N (ix p) (e + 1) 100) from Or.inr ⟨c60, Int32.not_lt.mp c67⟩)] at ih1
              exact ih1 h3 σ3 _ (by omega) C3 (k2.t k3 (fun b h9 _ => h9) (fun b h9 _ => h9) (Nat.le_refl _) (Nat.le_refl _))
            | rw [if_neg (show ¬ (¬ N (146 + (e + 1)) = -1 ∨ (¬ (wkC N (ix p) e).1 = -1 ∧ (wkC N (ix p) e).2 ≤ sprF N (ix p) (e + 1) 100)) from fun h9 => h9.elim (fun h8 => h8 (bI_n.mp c43)) (fun h8 => by first | exact h8.1 c60 | exact absurd h8.2 (Int32.not_le.mpr c67)))] at ih1
              exact ih1 h3 σ3 _ (by omega) C3 (k2.t k3 (fun b h9 _ => h9) (fun b h9 _ => h9) (Nat.le_refl _) (Nat.le_refl _))
      · refine ew_goto (pc := 46) (tgt := 80) dX1_weakest_46 (by decide) ?_
        refine ew_iinc (pc := 80) dX1_weakest_80 rfl (nI_inc (e + 1)) (by decide) (p1_5 rfl) ?_
        refine ew_goto (pc := 83) (tgt := 22) dX1_weakest_83 (by decide) ?_
        first
        | rw [if_pos (show ¬ N (146 + (e + 1)) = -1 ∨ (¬ (wkC N (ix p) e).1 = -1 ∧ (wkC N (ix p) e).2 ≤ sprF N (ix p) (e + 1) 100) from Or.inl (bI_0.mp c43))] at ih1
          exact ih1 h2 σ _ (by omega) C2 k2
        | rw [if_pos (show ¬ N (146 + (e + 1)) = -1 ∨ (¬ (wkC N (ix p) e).1 = -1 ∧ (wkC N (ix p) e).2 ≤ sprF N (ix p) (e + 1) 100) from Or.inr ⟨c60, Int32.not_lt.mp c67⟩)] at ih1
          exact ih1 h3 σ3 _ (by omega) C3 (k2.t k3 (fun b h9 _ => h9) (fun b h9 _ => h9) (Nat.le_refl _) (Nat.le_refl _))
        | rw [if_neg (show ¬ (¬ N (146 + (e + 1)) = -1 ∨ (¬ (wkC N (ix p) e).1 = -1 ∧ (wkC N (ix p) e).2 ≤ sprF N (ix p) (e + 1) 100)) from fun h9 => h9.elim (fun h8 => h8 (bI_n.mp c43)) (fun h8 => by first | exact h8.1 c60 | exact absurd h8.2 (Int32.not_le.mpr c67)))] at ih1
          exact ih1 h3 σ3 _ (by omega) C3 (k2.t k3 (fun b h9 _ => h9) (fun b h9 _ => h9) (Nat.le_refl _) (Nat.le_refl _))
  refine ew_aload_n (pc := 0) dX1_weakest_0 rfl ?_
  refine ew_cV0 (d' := 7) (pc := 1) vX1_132 (rd_of C.o) dX1_weakest_1 (by decide) (ew_rm (Nat.le_of_ble_eq_true rfl)) ?_
  refine t_sound C (fun hs f => ?_) (fun hs f hf => ?_)
  · exact ew_Kx (ew_out (fun x hx => nomatch hx) (hq _ _ (CO.n (k := 1) (se1_n hs) (by decide) rfl (ne_1 _ _ _) (CQ.newB hg ho C f (by decide)))))
  have C2 := C.setB f
  refine ew_Kr ?_
  first | refine ew_astore_n (pc := 4) dX1_weakest_4 rfl (by decide) (p1_2 rfl) ?_ | refine ew_astore_nq (pc := 4) dX1_weakest_4 rfl (by decide) (p1_2 rfl) ?_ | refine ew_astore_nN (pc := 4) dX1_weakest_4 rfl (by decide) (p1_2 rfl) ?_
  refine ew_iload_n (pc := 5) dX1_weakest_5 rfl ?_
  refine ew_iconst (pc := 6) (v := 0) dX1_weakest_6 rfl ?_
  refine ew_iconst (pc := 7) (v := 3) dX1_weakest_7 rfl ?_
  refine ew_cS3 (d' := 0) (pc := 8) sX1_74 dX1_weakest_8 (by decide) (ew_rm (Nat.le_of_ble_eq_true rfl)) ?_
  refine t_inC ?_
  refine ew_Kr ?_
  refine ew_cS1 (d' := 5) (pc := 11) sX1_198 dX1_weakest_11 (by decide) (ew_rm (Nat.le_of_ble_eq_true rfl)) ?_
  refine t_chkA (fun h9 => ?_) (fun h9 => ?_)
  · exact ew_Kx (ew_out (fun x hx => nomatch hx) (hq _ _ (CO.n (k := 2) (se1_i hs (fun h8 => bI_0.mp h9 h8)) (by decide) rfl (ne_1 _ _ _) (CQ.newB hg ho C f (by decide)))))
  refine ew_Kv ?_
  refine ew_iconst (pc := 14) (v := -1) dX1_weakest_14 rfl ?_
  refine ew_istore_n (pc := 15) dX1_weakest_15 rfl (by decide) (p1_3 rfl) ?_
  refine ew_iconst (pc := 16) (v := 0) dX1_weakest_16 rfl ?_
  refine ew_istore (pc := 17) dX1_weakest_17 (by decide) (p1_4 rfl) ?_
  refine ew_iconst (pc := 19) (v := 1) dX1_weakest_19 rfl ?_
  refine ew_istore (pc := 20) dX1_weakest_20 (by decide) (p1_5 rfl) ?_
  exact main f hs (bI_n.mp h9) hf (nE N - 1) 0 _ ρ _ (by omega) C2 (Ke.r _ _)
end
