/-! EW: the component tightens its windows -/
set_option maxRecDepth 100000
/-- an index whose number becomes x, if that is a time and another one; how many became other ones -/
def tkF (N : Nat → Int32) (k : Nat) (x : Int32) : Nat → Int32 := if x ≤ 999 ∧ ¬ x = N k then upd N k x else N
def tkC (N : Nat → Int32) (k : Nat) (x : Int32) : Int32 := if x ≤ 999 ∧ ¬ x = N k then 1 else 0
def tkT (n : Nat) (N F : Nat → Int32) (w : Nat) (s : (Nat → Int32) × Int32) : (Nat → Int32) × Int32 := if N (2 + 6 * w + 5) = 0 then (tkF (tkF s.1 (2 + 6 * w + 2) (-F (n * fB N w + fA N w))) (2 + 6 * w + 3) (F (n * fA N w + fB N w)), s.2 + (tkC s.1 (2 + 6 * w + 2) (-F (n * fB N w + fA N w)) + tkC (tkF s.1 (2 + 6 * w + 2) (-F (n * fB N w + fA N w))) (2 + 6 * w + 3) (F (n * fA N w + fB N w)))) else s
def tkS (n : Nat) (N F : Nat → Int32) : Nat → (Nat → Int32) × Int32
  | 0 => (N, 0)
  | w + 1 => tkT n N F w (tkS n N F w)
theorem tkF_at {N : Nat → Int32} {a k : Nat} {x : Int32} (h : k ≠ a) : tkF N a x k = N k := by
  unfold tkF
  split
  · exact up_n h
  · rfl
theorem tkT_at {n w k : Nat} {N F : Nat → Int32} {s : (Nat → Int32) × Int32} (h1 : k ≠ 2 + 6 * w + 2) (h2 : k ≠ 2 + 6 * w + 3) : (tkT n N F w s).1 k = s.1 k := by
  unfold tkT
  split
  · show tkF (tkF s.1 (2 + 6 * w + 2) _) (2 + 6 * w + 3) _ k = s.1 k
    rw [tkF_at h2, tkF_at h1]
  · rfl
theorem tkS_at (n : Nat) (N F : Nat → Int32) : ∀ m k, (∀ w, w < m → k ≠ 2 + 6 * w + 2 ∧ k ≠ 2 + 6 * w + 3) → (tkS n N F m).1 k = N k
  | 0, _, _ => rfl
  | m + 1, k, h => by
    rw [tkS, tkT_at (h m (by omega)).1 (h m (by omega)).2]
    exact tkS_at n N F m k (fun w hw => h w (by omega))
/-- bounds that are told by the square are times -/
def CTI (N : Nat → Int32) : Prop := cSo N 0 (-1) → ∀ w, w < nW N → N (2 + 6 * w + 5) = 0 → 0 ≤ -cSq N 0 (-1) (nE N * fB N w + fA N w) ∧ -1 ≤ cSq N 0 (-1) (nE N * fA N w + fB N w)
theorem tkS_ok {N F : Nat → Int32} (ok : okN N) (hF : ∀ w, w < nW N → N (2 + 6 * w + 5) = 0 → 0 ≤ -F (nE N * fB N w + fA N w) ∧ -1 ≤ F (nE N * fA N w + fB N w)) : ∀ m, m ≤ nW N → okN (tkS (nE N) N F m).1
  | 0, _ => ok
  | m + 1, h => by
    have ih := tkS_ok ok hF m (by omega)
    have hW := ok.w2
    have e1 : nW (tkS (nE N) N F m).1 = nW N := by
      unfold nW
      rw [tkS_at _ _ _ _ _ (fun w hw => ⟨by omega, by omega⟩)]
    rw [tkS, tkT]
    split
    · rename_i h5
      obtain ⟨f1, f2⟩ := hF m (by omega) h5
      have ok1 : okN (tkF (tkS (nE N) N F m).1 (2 + 6 * m + 2) (-F (nE N * fB N m + fA N m))) := by
        unfold tkF
        split
        · rename_i h9
          exact ih.uw (by omega) (by decide) (by decide) (fun _ => ⟨f1, h9.1⟩) (fun h8 => absurd h8 (by decide)) (fun h8 => absurd h8 (by decide)) (fun h8 => absurd h8 (by decide))
        · exact ih
      have e2 : nW (tkF (tkS (nE N) N F m).1 (2 + 6 * m + 2) (-F (nE N * fB N m + fA N m))) = nW N := by
        rw [← e1]
        unfold nW
        rw [tkF_at (by omega)]
      show okN (tkF (tkF (tkS (nE N) N F m).1 (2 + 6 * m + 2) (-F (nE N * fB N m + fA N m))) (2 + 6 * m + 3) (F (nE N * fA N m + fB N m)))
      rw [tkF]
      split
      · rename_i h9
        exact ok1.uw (by omega) (by decide) (by decide) (fun h8 => absurd h8 (by decide)) (fun _ => ⟨f2, h9.1⟩) (fun h8 => absurd h8 (by decide)) (fun h8 => absurd h8 (by decide))
      · exact ok1
    · exact ih
section
variable {g : eg} {h h' : eh} {a : Nat → Nat} {ws : List Nat} {N N' : Nat → Int32} {m pe ep : Int32} {fb ft : Nat → Int32} {ρ : ru} {Q : Outcome → eh → Prop} {A2 hd A4 c s : Nat} {P : List nbd} {sv : Nat → Option nbd} {tx : List Int32} {fbuf nm : Nat → Int32} {sn vn : Nat → Nat}
theorem t_wTig {q A n x i j : Nat} {lo up co dr : Int32} {F : Nat → Int32} (hs : Sq g h q A n F) (h1 : h.1 x = some (wV (nI i) (nI j) lo up co dr)) (hii : i < n) (hjj : j < n)
    (hq : Q (.returned (some (.int ((if -F (n * j + i) ≤ 999 ∧ ¬ -F (n * j + i) = lo then 1 else 0) + (if F (n * i + j) ≤ 999 ∧ ¬ F (n * i + j) = up then 1 else 0))))) (eh_set h x (wV (nI i) (nI j) (if -F (n * j + i) ≤ 999 ∧ ¬ -F (n * j + i) = lo then -F (n * j + i) else lo) (if F (n * i + j) ≤ 999 ∧ ¬ F (n * i + j) = up then F (n * i + j) else up) co dr))) : ew_T g kX5_tighten 1 [.ref x, .ref q] h Q := by
  have hxq : q ≠ x := fun e => by
    have h9 := hs.1
    rw [e, rd_of h1] at h9
    cases h9
  have s53 : ∀ l2 k, l2 = (if -F (n * j + i) ≤ 999 ∧ ¬ -F (n * j + i) = lo then -F (n * j + i) else lo) → k = (if -F (n * j + i) ≤ 999 ∧ ¬ -F (n * j + i) = lo then 1 else 0) → ew_G g kX5_tighten 1 53 [.ref x, .ref q, .int (-F (n * j + i)), .int (F (n * i + j)), .int k] [] (eh_set h x (wV (nI i) (nI j) l2 up co dr)) Q := by
    intro l2 k e1 e2
    rw [← e1, ← e2] at hq
    have j1 := se_1 h x (wV (nI i) (nI j) l2 up co dr)
    refine ew_iload_n (pc := 53) dX5_tighten_53 rfl ?_
    refine ew_sipush (pc := 54) (v := 999) dX5_tighten_54 rfl ?_
    refine ew_icmp_gt (pc := 57) (tgt := 76) dX5_tighten_57 (by decide) (fun c57 => ?_) (fun c57 => ?_)
    · refine ew_iload (pc := 76) dX5_tighten_76 rfl ?_
      refine ew_iret (pc := 78) rfl dX5_tighten_78 ?_
      first
      | rw [if_pos (show F (n * i + j) ≤ 999 ∧ ¬ F (n * i + j) = up from ⟨Int32.not_lt.mp c57, c65⟩), if_pos (show F (n * i + j) ≤ 999 ∧ ¬ F (n * i + j) = up from ⟨Int32.not_lt.mp c57, c65⟩)] at hq
        rw [ew_ss]
        exact hq
      | rw [if_neg (show ¬ (F (n * i + j) ≤ 999 ∧ ¬ F (n * i + j) = up) from fun h9 => h9.2 c65), if_neg (show ¬ (F (n * i + j) ≤ 999 ∧ ¬ F (n * i + j) = up) from fun h9 => h9.2 c65), Int32.add_zero] at hq
        exact hq
      | rw [if_neg (show ¬ (F (n * i + j) ≤ 999 ∧ ¬ F (n * i + j) = up) from fun h9 => absurd c57 (Int32.not_lt.mpr h9.1)), if_neg (show ¬ (F (n * i + j) ≤ 999 ∧ ¬ F (n * i + j) = up) from fun h9 => absurd c57 (Int32.not_lt.mpr h9.1)), Int32.add_zero] at hq
        exact hq
    · refine ew_iload_n (pc := 60) dX5_tighten_60 rfl ?_
      refine ew_aload_n (pc := 61) dX5_tighten_61 rfl ?_
      refine ew_getf (pc := 62) fX5_21 (rd_of j1) rfl dX5_tighten_62 ?_
      refine ew_icmp_eq (pc := 65) (tgt := 76) dX5_tighten_65 (by decide) (fun c65 => ?_) (fun c65 => ?_)
      · refine ew_iload (pc := 76) dX5_tighten_76 rfl ?_
        refine ew_iret (pc := 78) rfl dX5_tighten_78 ?_
        first
        | rw [if_pos (show F (n * i + j) ≤ 999 ∧ ¬ F (n * i + j) = up from ⟨Int32.not_lt.mp c57, c65⟩), if_pos (show F (n * i + j) ≤ 999 ∧ ¬ F (n * i + j) = up from ⟨Int32.not_lt.mp c57, c65⟩)] at hq
          rw [ew_ss]
          exact hq
        | rw [if_neg (show ¬ (F (n * i + j) ≤ 999 ∧ ¬ F (n * i + j) = up) from fun h9 => h9.2 c65), if_neg (show ¬ (F (n * i + j) ≤ 999 ∧ ¬ F (n * i + j) = up) from fun h9 => h9.2 c65), Int32.add_zero] at hq
          exact hq
        | rw [if_neg (show ¬ (F (n * i + j) ≤ 999 ∧ ¬ F (n * i + j) = up) from fun h9 => absurd c57 (Int32.not_lt.mpr h9.1)), if_neg (show ¬ (F (n * i + j) ≤ 999 ∧ ¬ F (n * i + j) = up) from fun h9 => absurd c57 (Int32.not_lt.mpr h9.1)), Int32.add_zero] at hq
          exact hq
      · refine ew_aload_n (pc := 68) dX5_tighten_68 rfl ?_
        refine ew_iload_n (pc := 69) dX5_tighten_69 rfl ?_
        refine ew_putf (pc := 70) pX5_21 j1 st_3 (Nat.le_of_ble_eq_true rfl) rfl rfl (fun h9 => absurd h9 Bool.false_ne_true) dX5_tighten_70 ?_
        refine ew_iinc (pc := 73) dX5_tighten_73 rfl rfl (by decide) (p1_4 rfl) ?_
        refine ew_iload (pc := 76) dX5_tighten_76 rfl ?_
        refine ew_iret (pc := 78) rfl dX5_tighten_78 ?_
        first
        | rw [if_pos (show F (n * i + j) ≤ 999 ∧ ¬ F (n * i + j) = up from ⟨Int32.not_lt.mp c57, c65⟩), if_pos (show F (n * i + j) ≤ 999 ∧ ¬ F (n * i + j) = up from ⟨Int32.not_lt.mp c57, c65⟩)] at hq
          rw [ew_ss]
          exact hq
        | rw [if_neg (show ¬ (F (n * i + j) ≤ 999 ∧ ¬ F (n * i + j) = up) from fun h9 => h9.2 c65), if_neg (show ¬ (F (n * i + j) ≤ 999 ∧ ¬ F (n * i + j) = up) from fun h9 => h9.2 c65), Int32.add_zero] at hq
          exact hq
        | rw [if_neg (show ¬ (F (n * i + j) ≤ 999 ∧ ¬ F (n * i + j) = up) from fun h9 => absurd c57 (Int32.not_lt.mpr h9.1)), if_neg (show ¬ (F (n * i + j) ≤ 999 ∧ ¬ F (n * i + j) = up) from fun h9 => absurd c57 (Int32.not_lt.mpr h9.1)), Int32.add_zero] at hq
          exact hq
  refine ew_enter (by decide +kernel) (ew_a1 rfl (ew_a1 rfl (ew_an (ew_an (ew_an ew_az))))) (Nat.le_of_ble_eq_true rfl) ?_
  refine ew_aload_n (pc := 0) dX5_tighten_0 rfl ?_
  refine ew_aload_n (pc := 1) dX5_tighten_1 rfl ?_
  refine ew_getf (pc := 2) fX5_15 (rd_of h1) rfl dX5_tighten_2 ?_
  refine ew_aload_n (pc := 5) dX5_tighten_5 rfl ?_
  refine ew_getf (pc := 6) fX5_9 (rd_of h1) rfl dX5_tighten_6 ?_
  refine ew_cV2 (d' := 0) (pc := 9) vX5_40 hs.1 dX5_tighten_9 (by decide) (ew_rm (Nat.le_of_ble_eq_true rfl)) ?_
  refine t_sum hs hjj hii ?_
  refine ew_Kr ?_
  refine ew_ineg (pc := 12) dX5_tighten_12 ?_
  refine ew_istore_n (pc := 13) dX5_tighten_13 rfl (by decide) (p1_2 rfl) ?_
  refine ew_aload_n (pc := 14) dX5_tighten_14 rfl ?_
  refine ew_aload_n (pc := 15) dX5_tighten_15 rfl ?_
  refine ew_getf (pc := 16) fX5_9 (rd_of h1) rfl dX5_tighten_16 ?_
  refine ew_aload_n (pc := 19) dX5_tighten_19 rfl ?_
  refine ew_getf (pc := 20) fX5_15 (rd_of h1) rfl dX5_tighten_20 ?_
  refine ew_cV2 (d' := 0) (pc := 23) vX5_40 hs.1 dX5_tighten_23 (by decide) (ew_rm (Nat.le_of_ble_eq_true rfl)) ?_
  refine t_sum hs hii hjj ?_
  refine ew_Kr ?_
  refine ew_istore_n (pc := 26) dX5_tighten_26 rfl (by decide) (p1_3 rfl) ?_
  refine ew_iconst (pc := 27) (v := 0) dX5_tighten_27 rfl ?_
  refine ew_istore (pc := 28) dX5_tighten_28 (by decide) (p1_4 rfl) ?_
  refine ew_iload_n (pc := 30) dX5_tighten_30 rfl ?_
  refine ew_sipush (pc := 31) (v := 999) dX5_tighten_31 rfl ?_
  refine ew_icmp_gt (pc := 34) (tgt := 53) dX5_tighten_34 (by decide) (fun c34 => ?_) (fun c34 => ?_)
  · first
    | have h9 : ¬ (-F (n * j + i) ≤ 999 ∧ ¬ -F (n * j + i) = lo) := fun h9 => absurd c34 (Int32.not_lt.mpr h9.1)
      have h8 := s53 lo 0 (if_neg h9).symm (if_neg h9).symm
      rw [eh_sid h1] at h8
      exact h8
    | have h9 : ¬ (-F (n * j + i) ≤ 999 ∧ ¬ -F (n * j + i) = lo) := fun h9 => h9.2 c42
      have h8 := s53 lo 0 (if_neg h9).symm (if_neg h9).symm
      rw [eh_sid h1] at h8
      exact h8
    | have h9 : -F (n * j + i) ≤ 999 ∧ ¬ -F (n * j + i) = lo := ⟨Int32.not_lt.mp c34, c42⟩
      exact s53 _ _ (if_pos h9).symm (by rw [if_pos h9]; rfl)
  · refine ew_iload_n (pc := 37) dX5_tighten_37 rfl ?_
    refine ew_aload_n (pc := 38) dX5_tighten_38 rfl ?_
    refine ew_getf (pc := 39) fX5_18 (rd_of h1) rfl dX5_tighten_39 ?_
    refine ew_icmp_eq (pc := 42) (tgt := 53) dX5_tighten_42 (by decide) (fun c42 => ?_) (fun c42 => ?_)
    · first
      | have h9 : ¬ (-F (n * j + i) ≤ 999 ∧ ¬ -F (n * j + i) = lo) := fun h9 => absurd c34 (Int32.not_lt.mpr h9.1)
        have h8 := s53 lo 0 (if_neg h9).symm (if_neg h9).symm
        rw [eh_sid h1] at h8
        exact h8
      | have h9 : ¬ (-F (n * j + i) ≤ 999 ∧ ¬ -F (n * j + i) = lo) := fun h9 => h9.2 c42
        have h8 := s53 lo 0 (if_neg h9).symm (if_neg h9).symm
        rw [eh_sid h1] at h8
        exact h8
      | have h9 : -F (n * j + i) ≤ 999 ∧ ¬ -F (n * j + i) = lo := ⟨Int32.not_lt.mp c34, c42⟩
        exact s53 _ _ (if_pos h9).symm (by rw [if_pos h9]; rfl)
    · refine ew_aload_n (pc := 45) dX5_tighten_45 rfl ?_
      refine ew_iload_n (pc := 46) dX5_tighten_46 rfl ?_
      refine ew_putf (pc := 47) pX5_18 h1 st_2 (Nat.le_of_ble_eq_true rfl) rfl rfl (fun h9 => absurd h9 Bool.false_ne_true) dX5_tighten_47 ?_
      refine ew_iinc (pc := 50) dX5_tighten_50 rfl rfl (by decide) (p1_4 rfl) ?_
      first
      | have h9 : ¬ (-F (n * j + i) ≤ 999 ∧ ¬ -F (n * j + i) = lo) := fun h9 => absurd c34 (Int32.not_lt.mpr h9.1)
        have h8 := s53 lo 0 (if_neg h9).symm (if_neg h9).symm
        rw [eh_sid h1] at h8
        exact h8
      | have h9 : ¬ (-F (n * j + i) ≤ 999 ∧ ¬ -F (n * j + i) = lo) := fun h9 => h9.2 c42
        have h8 := s53 lo 0 (if_neg h9).symm (if_neg h9).symm
        rw [eh_sid h1] at h8
        exact h8
      | have h9 : -F (n * j + i) ≤ 999 ∧ ¬ -F (n * j + i) = lo := ⟨Int32.not_lt.mp c34, c42⟩
        exact s53 _ _ (if_pos h9).symm (by rw [if_pos h9]; rfl)
end
