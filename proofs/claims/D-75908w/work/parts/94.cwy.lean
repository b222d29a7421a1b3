/-! EW: the component's ways -/
set_option maxRecDepth 100000
theorem fwC_s {es : List ed} {s : Int32} {i b mm : Nat} : ∀ r k, fwC es s i b r k = some mm → k ≤ mm ∧ mm < k + r ∧ xcR es b mm i = s
  | 0, k, h => by cases h
  | r + 1, k, h => by
    rw [fwC] at h
    split at h
    · rename_i h9
      cases h
      exact ⟨Nat.le_refl _, by omega, h9⟩
    · have := fwC_s r (k + 1) h
      exact ⟨by omega, by omega, this.2.2⟩
section
variable {g : eg} {h : eh} {a : Nat → Nat} {ws : List Nat} {N : Nat → Int32} {m pe ep : Int32} {fb ft : Nat → Int32} {ρ : ru} {Q : Outcome → eh → Prop}
/-- the least sum of ways from i to j; the fewest steps with it -/
abbrev cS2 (N : Nat → Int32) (i j : Nat) : Int32 := cSq N 0 (-1) (nE N * i + j)
abbrev wyM (N : Nat → Int32) (i j : Nat) : Option Nat := fwC (eN N 0 (-1)) (cS2 N i j) i j (nE N + 1) 0
def wyV (N : Nat → Int32) (i j : Nat) : Int32 := if cS2 N i j = 100000000 then -1 else oI (wyM N i j)
theorem c_wayLength {x y : Int32} (hg : gOC g) (hM : gOM g) (C : CV g h a ws N m pe ep fb ft ρ) (hq : ∀ o h', CO SI (se1 1 (cSb N) (bI (isIx (nE N) x ∧ isIx (nE N) y))) (.int (wyV N (ix x) (ix y))) (CQ g a ws N m pe ep h) o h' → Q o h') : ew_T g kX1_wayLength 22 [.ref (a 0), .int x, .int y] h Q := by
  have hE := C.n.ok.e2
  have nm : ∀ b : Nat, b ∉ ([] : List Nat) := fun b => List.not_mem_nil
  obtain ⟨es, hes⟩ : ∃ es, es = eN N 0 (-1) := ⟨_, rfl⟩
  have hel : es.length < 80 := by rw [hes]; exact eAll_len C.n.ok
  have hokE : okE (nE N) es := by rw [hes]; exact eAll_ok C.n.ok
  refine ew_enter (by decide +kernel) (ew_a1 rfl (ew_a1 rfl (ew_a1 rfl (ew_an (ew_an ew_az))))) (Nat.le_of_ble_eq_true rfl) ?_
  refine ew_ok (fun ho => ?_)
  have s20 : ∀ f, cSo N 0 (-1) → isIx (nE N) x → isIx (nE N) y → agN (nE N) f (cSq N 0 (-1)) → ¬ cS2 N (ix x) (ix y) = 100000000 → ew_G g kX1_wayLength 22 20 [.ref (a 0), .int (nI (ix x)), .int (nI (ix y)), .int (cS2 N (ix x) (ix y)), no_] [] (eh_set h (a 6) (aI (nE N * nE N) f)) Q := by
    intro f hs hi hj hf hno
    have hx := hi.to (n := nE N) (by omega)
    have hy := hj.to (n := nE N) (by omega)
    have C2 := C.setB f
    refine ew_ok (fun ho2 => ?_)
    have C3 := C2.ke Ke.new hg ho2 (c := 1) (s := 3) (h' := eh_new (eh_set h (a 6) (aI (nE N * nE N) f)) (ob 8 [.null, .int 0, .null]) 3)
    have hv : wyV N (ix x) (ix y) = oI (fwC es (cS2 N (ix x) (ix y)) (ix x) (ix y) (nE N + 1) 0) := by rw [wyV, if_neg hno, hes]
    rw [hv] at hq
    refine ew_new (pc := 20) nX1_1 dX1_wayLength_20 ?_
    refine ew_dup (pc := 23) dX1_wayLength_23 rfl ?_
    refine ew_aload_n (pc := 24) dX1_wayLength_24 rfl ?_
    refine ew_getf (pc := 25) fX1_84 (rd_of C3.o) rfl dX1_wayLength_25 ?_
    refine ew_aload_n (pc := 28) dX1_wayLength_28 rfl ?_
    refine ew_getf (pc := 29) fX1_84 (rd_of C3.o) rfl dX1_wayLength_29 ?_
    refine ew_cV0 (d' := 21) (pc := 32) vX1_3 (rd_of C3.n.o) dX1_wayLength_32 (by decide) (ew_rm (Nat.le_of_ble_eq_true rfl)) ?_
    refine t_nSteps hg hM C3.n (fun h1 K E1 xs S => ?_)
    rw [← hes] at S
    have k0 := S.2.1
    refine ew_Kr ?_
    refine ew_ok (fun ho1 => ?_)
    have r1 := C3.n.ke k0 hg ho2.new (fun b _ => nm b)
    have hw1 := k0.h ho2.new (ne_1 (eh_set h (a 6) (aI (nE N * nE N) f)) (ob 8 [.null, .int 0, .null]) 3) (nm _)
    have hk0 := k0.2.1
    refine ew_cI2 (d' := 1) (pc := 35) iX1_9 dX1_wayLength_35 (by decide) (ew_rm (Nat.le_of_ble_eq_true rfl)) ?_
    refine t_wyInit hg hw1 r1 S.1 hokE (fun h2 wr k2 => ?_)
    refine ew_Kv ?_
    refine ew_ok (fun ho3 => ?_)
    have kA : Ke [] 170 17000 (eh_set h (a 6) (aI (nE N * nE N) f)) h2 := (Ke.new.t k0 (A := []) (c := 169) (s := 16800) (fun b h9 => absurd h9 (nm b)) (fun b h9 => absurd h9 (nm b)) (by omega) (by show 3 + (70 + 200 * es.length) ≤ 16800; omega)).t k2 (fun b h9 => absurd h9 (nm b)) (fun b h9 h8 => by rw [List.mem_singleton.mp h9] at h8; exact absurd h8 (Nat.lt_irrefl _)) (by decide) (by decide)
    first | refine ew_astore (pc := 38) dX1_wayLength_38 (by decide) (p1_4 rfl) ?_ | refine ew_astoreq (pc := 38) dX1_wayLength_38 (by decide) (p1_4 rfl) ?_ | refine ew_astoreN (pc := 38) dX1_wayLength_38 (by decide) (p1_4 rfl) ?_
    refine ew_aload (pc := 40) dX1_wayLength_40 rfl ?_
    refine ew_iload_n (pc := 42) dX1_wayLength_42 rfl ?_
    refine ew_cV1 (d' := 3) (pc := 43) vX1_19 (rd_of wr.1) dX1_wayLength_43 (by decide) (ew_rm (Nat.le_of_ble_eq_true rfl)) ?_
    refine t_wyTo wr (by omega) hy.1 (fun G2 hG2 => ?_)
    have wr3 := wr.set G2
    refine ew_Kv ?_
    refine ew_aload (pc := 46) dX1_wayLength_46 rfl ?_
    refine ew_iload_n (pc := 48) dX1_wayLength_48 rfl ?_
    refine ew_iload_n (pc := 49) dX1_wayLength_49 rfl ?_
    refine ew_cV2 (d' := 1) (pc := 50) vX1_240 (rd_of wr3.1) dX1_wayLength_50 (by decide) (ew_rm (Nat.le_of_ble_eq_true rfl)) ?_
    refine t_wyFew wr3 hG2 hx.1 ?_
    refine ew_Kr ?_
    refine ew_iret (pc := 53) rfl dX1_wayLength_53 ?_
    refine hq _ _ (CO.y (se1_y hs ⟨hi, hj⟩) ?_)
    have hA0 : h.2.1 ≤ h1.2.1 := Nat.le_trans (Nat.le_succ _) hk0
    have kB : Ke [] 170 17000 (eh_set h (a 6) (aI (nE N * nE N) f)) (eh_set h2 h1.2.1 (aI ((nE N + 1) * nE N) G2)) := kA.t Ke.set (fun b h9 => absurd h9 (nm b)) (fun b h9 h8 => by rw [List.mem_singleton.mp h9] at h8; exact absurd h8 (Nat.not_lt_of_le hA0)) (Nat.le_refl _) (Nat.le_refl _)
    exact ⟨_, _, _, C2.ke kB hg ho2, keB.t kB (fun b h9 _ => h9) (fun b h9 => absurd h9 (nm b)) (by decide) (by decide)⟩
  refine ew_aload_n (pc := 0) dX1_wayLength_0 rfl ?_
  refine ew_iload_n (pc := 1) dX1_wayLength_1 rfl ?_
  refine ew_iload_n (pc := 2) dX1_wayLength_2 rfl ?_
  refine ew_cV2 (d' := 9) (pc := 3) vX1_224 (rd_of C.o) dX1_wayLength_3 (by decide) (ew_rm (Nat.le_of_ble_eq_true rfl)) ?_
  refine t_soundWith2 C (fun hs f => ?_) (fun hs hi f => ?_) (fun hs hi hj f hf => ?_)
  · exact ew_Kx (ew_out (fun x hx => nomatch hx) (hq _ _ (CO.n (k := 1) (se1_n hs) (by decide) rfl (ne_1 _ _ _) (CQ.newB hg ho C f (by decide)))))
  · exact ew_Kx (ew_out (fun x hx => nomatch hx) (hq _ _ (CO.n (k := 2) (se1_i hs hi) (by decide) rfl (ne_1 _ _ _) (CQ.newB hg ho C f (by decide)))))
  have hx := hi.to (n := nE N) (by omega)
  have hy := hj.to (n := nE N) (by omega)
  have C2 := C.setB f
  refine ew_Kr ?_
  refine ew_iload_n (pc := 6) dX1_wayLength_6 rfl ?_
  refine ew_iload_n (pc := 7) dX1_wayLength_7 rfl ?_
  rw [hx.2, hy.2]
  refine ew_cV2 (d' := 0) (pc := 8) vX1_227 C2.b.1 dX1_wayLength_8 (by decide) (ew_rm (Nat.le_of_ble_eq_true rfl)) ?_
  refine t_sum C2.b hx.1 hy.1 ?_
  rw [hf.at hx.1 hy.1]
  refine ew_Kr ?_
  refine ew_istore_n (pc := 11) dX1_wayLength_11 rfl (by decide) (p1_3 rfl) ?_
  refine ew_iload_n (pc := 12) dX1_wayLength_12 rfl ?_
  refine ew_ldc (pc := 13) (v := 100000000) (ew_q q1844) dX1_wayLength_13 ?_
  refine ew_icmp_ne (pc := 15) (tgt := 20) dX1_wayLength_15 (by decide) (fun c15 => ?_) (fun c15 => ?_)
  · exact s20 f hs hi hj hf c15
  · refine ew_iconst (pc := 18) (v := -1) dX1_wayLength_18 rfl ?_
    refine ew_iret (pc := 19) rfl dX1_wayLength_19 ?_
    have hv : wyV N (ix x) (ix y) = -1 := if_pos c15
    rw [hv] at hq
    exact hq _ _ (CO.y (se1_y hs ⟨hi, hj⟩) (CQ.B C f))
/-- the code of wayStep: events, a way, its k-th step -/
def wsM (N : Nat → Int32) (i j : Nat) : Nat := (wyM N i j).getD 0
def wsT (N : Nat → Int32) (x y k : Int32) : Int32 := if se1 1 (cSb N) (bI (isIx (nE N) x ∧ isIx (nE N) y)) = 0 then (if ¬ cS2 N (ix x) (ix y) = 100000000 ∧ isIx (wsM N (ix x) (ix y)) k then 0 else 2) else se1 1 (cSb N) (bI (isIx (nE N) x ∧ isIx (nE N) y))
theorem c_wayStep {x y k : Int32} (hg : gOC g) (hM : gOM g) (C : CV g h a ws N m pe ep fb ft ρ) (hW : cSo N 0 (-1) → ∀ i j, i < nE N → j < nE N → ¬ cS2 N i j = 100000000 → wyM N i j ≠ none) (hq : ∀ o h', CO SI (wsT N x y k) (.int (lcode (rowC (eN N 0 (-1)) (ix y) (wsM N (ix x) (ix y)) (ix x)) (ix k))) (CQ g a ws N m pe ep h) o h' → Q o h') : ew_T g kX1_wayStep 22 [.ref (a 0), .int x, .int y, .int k] h Q := by
  have hE := C.n.ok.e2
  have nm : ∀ b : Nat, b ∉ ([] : List Nat) := fun b => List.not_mem_nil
  obtain ⟨es, hes⟩ : ∃ es, es = eN N 0 (-1) := ⟨_, rfl⟩
  have hel : es.length < 80 := by rw [hes]; exact eAll_len C.n.ok
  have hokE : okE (nE N) es := by rw [hes]; exact eAll_ok C.n.ok
  refine ew_enter (by decide +kernel) (ew_a1 rfl (ew_a1 rfl (ew_a1 rfl (ew_a1 rfl (ew_an (ew_an (ew_an ew_az))))))) (Nat.le_of_ble_eq_true rfl) ?_
  refine ew_ok (fun ho => ?_)
  have s28 : ∀ f, cSo N 0 (-1) → isIx (nE N) x → isIx (nE N) y → agN (nE N) f (cSq N 0 (-1)) → ¬ cS2 N (ix x) (ix y) = 100000000 → ew_G g kX1_wayStep 22 28 [.ref (a 0), .int (nI (ix x)), .int (nI (ix y)), .int k, .int (cS2 N (ix x) (ix y)), no_, no_] [] (eh_set h (a 6) (aI (nE N * nE N) f)) Q := by
    intro f hs hi hj hf hno
    have hx := hi.to (n := nE N) (by omega)
    have hy := hj.to (n := nE N) (by omega)
    have C2 := C.setB f
    refine ew_ok (fun ho2 => ?_)
    have C3 := C2.ke Ke.new hg ho2 (c := 1) (s := 3) (h' := eh_new (eh_set h (a 6) (aI (nE N * nE N) f)) (ob 8 [.null, .int 0, .null]) 3)
    obtain ⟨mm, hmm⟩ : ∃ mm, wyM N (ix x) (ix y) = some mm := by
      cases hw : wyM N (ix x) (ix y) with
      | none => exact absurd hw (hW hs _ _ hx.1 hy.1 hno)
      | some mm => exact ⟨mm, rfl⟩
    have hM9 : wsM N (ix x) (ix y) = mm := by rw [wsM, hmm]; rfl
    have hsp := fwC_s _ _ hmm
    have hsm : mm ≤ nE N := by have := hsp.2.1; omega
    have hth : wsT N x y k = if isIx mm k then 0 else 2 := by
      rw [wsT, se1_y hs ⟨hi, hj⟩, if_pos rfl, hM9]
      by_cases hk : isIx mm k
      · rw [if_pos hk, if_pos ⟨hno, hk⟩]
      · rw [if_neg hk, if_neg (fun h9 => hk h9.2)]
    rw [hM9, ← hes] at hq
    have fin : ∀ h3 w K E1 A xs G2, WyR g h3 w (nE N) K E1 A xs es G2 → (∀ m e, m ≤ nE N → e < nE N → G2 (nE N * m + e) = xcR es (ix y) m e) → Ke [] 170 17000 (eh_set h (a 6) (aI (nE N * nE N) f)) h3 → ew_G g kX1_wayStep 22 64 [.ref (a 0), .int (nI (ix x)), .int (nI (ix y)), .int k, .int (cS2 N (ix x) (ix y)), .ref w, .int (nI mm)] [] h3 Q := by
      intro h3 w K E1 A xs G2 wr hG kB
      refine ew_ok (fun ho3 => ?_)
      have hQ : ∀ h4, Ke [] 200 18000 (eh_set h (a 6) (aI (nE N * nE N) f)) h4 → CQ g a ws N m pe ep h h4 := fun h4 k4 => ⟨_, _, _, C2.ke k4 hg ho2, keB.t k4 (fun b h9 _ => h9) (fun b h9 => absurd h9 (nm b)) (by decide) (by decide)⟩
      by_cases hk : isIx mm k
      · have hk2 := hk.to (by omega)
        have hne : ¬ xcR es (ix y) mm (ix x) = 100000000 := by rw [hes, hsp.2.2]; exact hno
        refine ew_iload_n (pc := 64) dX1_wayStep_64 rfl ?_
        refine ew_iload (pc := 65) dX1_wayStep_65 rfl ?_
        refine ew_cS2 (d' := 5) (pc := 67) sX1_113 dX1_wayStep_67 (by decide) (ew_rm (Nat.le_of_ble_eq_true rfl)) ?_
        refine t_chkI (fun h9 => absurd hk h9) (fun _ => ?_)
        refine ew_Kv ?_
        refine ew_aload (pc := 70) dX1_wayStep_70 rfl ?_
        refine ew_iload (pc := 72) dX1_wayStep_72 rfl ?_
        refine ew_iload_n (pc := 74) dX1_wayStep_74 rfl ?_
        refine ew_cV2 (d' := 21) (pc := 75) vX1_36 (rd_of wr.1) dX1_wayStep_75 (by decide) (ew_rm (Nat.le_of_ble_eq_true rfl)) ?_
        refine t_wyRow hg hM wr hG (by omega) hx.1 hsm (by omega) hne (fun h4 E2 ys R hl => ?_)
        obtain ⟨mc, hK⟩ := R.1.o
        obtain ⟨z, hz, hzo⟩ := R.1.x (i := ix k) (by rw [hl]; exact hk2.1)
        rw [hk2.2]
        refine ew_Kr ?_
        refine ew_iload_n (pc := 78) dX1_wayStep_78 rfl ?_
        refine ew_cF1 (d' := 2) (pc := 79) tX1_126_19 (rd_of hK) dX1_wayStep_79 (by decide) (ew_rm (Nat.le_of_ble_eq_true rfl)) ?_
        refine t_alGet R.1.1 hz ?_
        refine ew_Kr ?_
        refine ew_cast (pc := 84) rfl (rd_of hzo) (ew_q q1816) (Or.inl rfl) dX1_wayStep_84 ?_
        refine ew_getf (pc := 87) fX1_221 (rd_of hzo) rfl dX1_wayStep_87 ?_
        refine ew_iret (pc := 90) rfl dX1_wayStep_90 ?_
        refine hq _ _ ⟨hQ _ (kB.t R.2.2 (fun b h9 => absurd h9 (nm b)) (fun b h9 => absurd h9 (nm b)) (by rw [hl]; omega) (by rw [hl]; omega)), fun _ => ?_, fun h9 => absurd (hth.trans (if_pos hk)) h9⟩
        rw [lcode, List.getElem?_eq_getElem (by rw [hl]; exact hk2.1)]
      · skip
        refine ew_iload_n (pc := 64) dX1_wayStep_64 rfl ?_
        refine ew_iload (pc := 65) dX1_wayStep_65 rfl ?_
        refine ew_cS2 (d' := 5) (pc := 67) sX1_113 dX1_wayStep_67 (by decide) (ew_rm (Nat.le_of_ble_eq_true rfl)) ?_
        refine t_chkI (fun h9 => ?_) (fun h9 => absurd h9 hk)
        exact ew_Kx (ew_out (fun x hx => nomatch hx) (hq _ _ (CO.n (k := 2) (hth.trans (if_neg hk)) (by decide) rfl (ne_1 _ _ _) (hQ _ (kB.t Ke.new (fun b h9 => absurd h9 (nm b)) (fun b h9 => absurd h9 (nm b)) (by decide) (by decide))))))
    refine ew_new (pc := 28) nX1_1 dX1_wayStep_28 ?_
    refine ew_dup (pc := 31) dX1_wayStep_31 rfl ?_
    refine ew_aload_n (pc := 32) dX1_wayStep_32 rfl ?_
    refine ew_getf (pc := 33) fX1_84 (rd_of C3.o) rfl dX1_wayStep_33 ?_
    refine ew_aload_n (pc := 36) dX1_wayStep_36 rfl ?_
    refine ew_getf (pc := 37) fX1_84 (rd_of C3.o) rfl dX1_wayStep_37 ?_
    refine ew_cV0 (d' := 21) (pc := 40) vX1_3 (rd_of C3.n.o) dX1_wayStep_40 (by decide) (ew_rm (Nat.le_of_ble_eq_true rfl)) ?_
    refine t_nSteps hg hM C3.n (fun h1 K E1 xs S => ?_)
    rw [← hes] at S
    have k0 := S.2.1
    refine ew_Kr ?_
    refine ew_ok (fun ho1 => ?_)
    have r1 := C3.n.ke k0 hg ho2.new (fun b _ => nm b)
    have hw1 := k0.h ho2.new (ne_1 (eh_set h (a 6) (aI (nE N * nE N) f)) (ob 8 [.null, .int 0, .null]) 3) (nm _)
    have hk0 := k0.2.1
    refine ew_cI2 (d' := 1) (pc := 43) iX1_9 dX1_wayStep_43 (by decide) (ew_rm (Nat.le_of_ble_eq_true rfl)) ?_
    refine t_wyInit hg hw1 r1 S.1 hokE (fun h2 wr k2 => ?_)
    refine ew_Kv ?_
    refine ew_ok (fun ho3 => ?_)
    have kA : Ke [] 170 17000 (eh_set h (a 6) (aI (nE N * nE N) f)) h2 := (Ke.new.t k0 (A := []) (c := 169) (s := 16800) (fun b h9 => absurd h9 (nm b)) (fun b h9 => absurd h9 (nm b)) (by omega) (by show 3 + (70 + 200 * es.length) ≤ 16800; omega)).t k2 (fun b h9 => absurd h9 (nm b)) (fun b h9 h8 => by rw [List.mem_singleton.mp h9] at h8; exact absurd h8 (Nat.lt_irrefl _)) (by decide) (by decide)
    first | refine ew_astore (pc := 46) dX1_wayStep_46 (by decide) (p1_5 rfl) ?_ | refine ew_astoreq (pc := 46) dX1_wayStep_46 (by decide) (p1_5 rfl) ?_ | refine ew_astoreN (pc := 46) dX1_wayStep_46 (by decide) (p1_5 rfl) ?_
    refine ew_aload (pc := 48) dX1_wayStep_48 rfl ?_
    refine ew_iload_n (pc := 50) dX1_wayStep_50 rfl ?_
    refine ew_cV1 (d' := 3) (pc := 51) vX1_19 (rd_of wr.1) dX1_wayStep_51 (by decide) (ew_rm (Nat.le_of_ble_eq_true rfl)) ?_
    refine t_wyTo wr (by omega) hy.1 (fun G2 hG2 => ?_)
    have wr3 := wr.set G2
    refine ew_Kv ?_
    refine ew_aload (pc := 54) dX1_wayStep_54 rfl ?_
    refine ew_iload_n (pc := 56) dX1_wayStep_56 rfl ?_
    refine ew_iload (pc := 57) dX1_wayStep_57 rfl ?_
    refine ew_cV2 (d' := 1) (pc := 59) vX1_240 (rd_of wr3.1) dX1_wayStep_59 (by decide) (ew_rm (Nat.le_of_ble_eq_true rfl)) ?_
    refine t_wyFew wr3 hG2 hx.1 ?_
    rw [hes, show fwC (eN N 0 (-1)) (cS2 N (ix x) (ix y)) (ix x) (ix y) (nE N + 1) 0 = some mm from hmm]
    refine ew_Kr ?_
    refine ew_istore (pc := 62) dX1_wayStep_62 (by decide) (p1_6 rfl) ?_
    have hA0 : h.2.1 ≤ h1.2.1 := Nat.le_trans (Nat.le_succ _) hk0
    have kB : Ke [] 170 17000 (eh_set h (a 6) (aI (nE N * nE N) f)) (eh_set h2 h1.2.1 (aI ((nE N + 1) * nE N) G2)) := kA.t Ke.set (fun b h9 => absurd h9 (nm b)) (fun b h9 h8 => by rw [List.mem_singleton.mp h9] at h8; exact absurd h8 (Nat.not_lt_of_le hA0)) (Nat.le_refl _) (Nat.le_refl _)
    exact fin _ _ _ _ _ _ _ wr3 hG2 kB
  refine ew_aload_n (pc := 0) dX1_wayStep_0 rfl ?_
  refine ew_iload_n (pc := 1) dX1_wayStep_1 rfl ?_
  refine ew_iload_n (pc := 2) dX1_wayStep_2 rfl ?_
  refine ew_cV2 (d' := 9) (pc := 3) vX1_224 (rd_of C.o) dX1_wayStep_3 (by decide) (ew_rm (Nat.le_of_ble_eq_true rfl)) ?_
  refine t_soundWith2 C (fun hs f => ?_) (fun hs hi f => ?_) (fun hs hi hj f hf => ?_)
  · exact ew_Kx (ew_out (fun x hx => nomatch hx) (hq _ _ (CO.n (k := 1) ((show wsT N x y k = 1 by rw [wsT, se1_n hs, if_neg (by decide)])) (by decide) rfl (ne_1 _ _ _) (CQ.newB hg ho C f (by decide)))))
  · exact ew_Kx (ew_out (fun x hx => nomatch hx) (hq _ _ (CO.n (k := 2) ((show wsT N x y k = 2 by rw [wsT, se1_i hs hi, if_neg (by decide)])) (by decide) rfl (ne_1 _ _ _) (CQ.newB hg ho C f (by decide)))))
  have hx := hi.to (n := nE N) (by omega)
  have hy := hj.to (n := nE N) (by omega)
  have C2 := C.setB f
  refine ew_Kr ?_
  refine ew_iload_n (pc := 6) dX1_wayStep_6 rfl ?_
  refine ew_iload_n (pc := 7) dX1_wayStep_7 rfl ?_
  rw [hx.2, hy.2]
  refine ew_cV2 (d' := 0) (pc := 8) vX1_227 C2.b.1 dX1_wayStep_8 (by decide) (ew_rm (Nat.le_of_ble_eq_true rfl)) ?_
  refine t_sum C2.b hx.1 hy.1 ?_
  rw [hf.at hx.1 hy.1]
  refine ew_Kr ?_
  refine ew_istore (pc := 11) dX1_wayStep_11 (by decide) (p1_4 rfl) ?_
  refine ew_iload (pc := 13) dX1_wayStep_13 rfl ?_
  refine ew_ldc (pc := 15) (v := 100000000) (ew_q q1844) dX1_wayStep_15 ?_
  refine ew_icmp_ne (pc := 17) (tgt := 28) dX1_wayStep_17 (by decide) (fun c17 => ?_) (fun c17 => ?_)
  · exact s28 f hs hi hj hf c17
  · refine ew_mk0 (pc := 20) (ci := 25) rfl (by decide) (by decide) (ew_q q412) (ew_q q133) xat_X1_80 (by decide) (ew_rm (Nat.le_of_ble_eq_true rfl)) dX1_wayStep_20 dX1_wayStep_23 dX1_wayStep_24 ?_
    refine ew_athrow (pc := 27) dX1_wayStep_27 ?_
    refine ew_out (fun x hx => nomatch hx) ?_
    exact hq _ _ (CO.n (k := 2) (by rw [wsT, se1_y hs ⟨hi, hj⟩, if_pos rfl, if_neg (fun h9 => h9.1 c17)]) (by decide) rfl (ne_1 _ _ _) (CQ.newB hg ho C f (by decide)))
end
