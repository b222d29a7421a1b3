/-! EW: the round that the component tells -/
set_option maxRecDepth 100000
def rdCc (es : List ed) (b M : Nat) (l : Int32) (m : Nat) : Prop := xcR es b m b < 0 ∧ ¬ (m = M ∧ l ≤ xcR es b m b)
def rdCn (es : List ed) (b M : Nat) (l : Int32) : Nat → Nat → Option Nat
  | 0, _ => none
  | r + 1, m => if xcR es b m b < 0 ∧ ¬ (m = M ∧ l ≤ xcR es b m b) then some m else rdCn es b M l r (m + 1)
/-- how many steps, their sum, the event, events below e looked at -/
def rdC (n : Nat) (es : List ed) : Nat → Nat × Int32 × Option Nat
  | 0 => (n + 1, 0, none)
  | e + 1 => match rdCn es e (rdC n es e).1 (rdC n es e).2.1 (min (rdC n es e).1 n) 1 with
    | none => rdC n es e
    | some m => (m, xcR es e m e, some e)
def roC (n : Nat) (es : List ed) : List ed := match (rdC n es n).2.2 with
  | none => []
  | some a => rowC es a (rdC n es n).1 a
theorem rdCn_s {es : List ed} {b M m : Nat} {l : Int32} : ∀ r k, rdCn es b M l r k = some m → k ≤ m ∧ m < k + r ∧ xcR es b m b < 0
  | 0, k, h => by cases h
  | r + 1, k, h => by
    rw [rdCn] at h
    split at h
    · rename_i h9
      cases h
      exact ⟨Nat.le_refl _, by omega, h9.1⟩
    · have := rdCn_s r (k + 1) h
      exact ⟨by omega, by omega, this.2.2⟩
/-- what holds of the state after some events -/
theorem rdC_s (n : Nat) (es : List ed) : ∀ e, (rdC n es e).1 ≤ n + 1 ∧ 1 ≤ (rdC n es e).1 ∧ ∀ a, (rdC n es e).2.2 = some a → a < e ∧ (rdC n es e).1 ≤ n ∧ xcR es a (rdC n es e).1 a < 0
  | 0 => ⟨Nat.le_refl _, by show 1 ≤ n + 1; omega, fun a h => by cases h⟩
  | e + 1 => by
    have ih := rdC_s n es e
    rw [rdC]
    split
    · exact ⟨ih.1, ih.2.1, fun a h => by have := ih.2.2 a h; exact ⟨by omega, this.2⟩⟩
    · rename_i m hm
      have h1 := rdCn_s _ _ hm
      refine ⟨by show m ≤ n + 1; omega, h1.1, fun a h => ?_⟩
      cases h
      exact ⟨by omega, by show m ≤ n; omega, h1.2.2⟩
section
variable {g : eg} {h : eh} {p nA L E F D W : Nat} {ws : List Nat} {N : Nat → Int32} {Q : Outcome → eh → Prop}
theorem t_wyInit {w K E1 : Nat} {xs : List Nat} {es : List ed} (hg : gOC g) (hw : h.1 w = some (ob 8 [.null, .int 0, .null])) (r : NR g h p nA L E F D W ws N) (S : StL g h K E1 xs es) (hE : okE (nE N) es)
    (hq : ∀ h', WyR g h' w (nE N) K E1 h.2.1 xs es (fun _ => 0) → Ke [w] 1 110 h h' → Q (.returned none) h') : ew_T g kX9_init 1 [.ref w, .ref p, .ref K] h Q := by
  have hE2 := r.ok.e2
  have hb := ix_b hE2
  have nm : ∀ a : Nat, a ∉ ([] : List Nat) := fun a => List.not_mem_nil
  refine ew_enter (by decide +kernel) (ew_a1 rfl (ew_a1 rfl (ew_a1 rfl ew_az))) (Nat.le_of_ble_eq_true rfl) ?_
  refine ew_ok (fun ho => ?_)
  have hwl := h_l ho hw
  have hwne : w ≠ h.2.1 := by omega
  have j1 := se_1 h w (ob 8 [.ref K, .int 0, .null])
  have j2 := se_1 h w (ob 8 [.ref K, .int (nI (nE N)), .null])
  have hwp : p ≠ w := by
    intro e
    rw [← e, r.o] at hw
    cases hw
  have z : (nI (nE N) + 1) * nI (nE N) = nI ((nE N + 1) * nE N) := by rw [nI_1, nI_mul]
  obtain ⟨fn, hn⟩ := r.n
  have hnw : nA ≠ w := by
    intro e
    rw [e, rd_of hw] at hn
    cases hn
  have ev : ∀ Q : Outcome → eh → Prop, Q (.returned (some (.int (nI (nE N))))) (eh_set h w (ob 8 [.ref K, .int 0, .null])) → ew_T g kX6_events 0 [.ref p] (eh_set h w (ob 8 [.ref K, .int 0, .null])) Q := by
    intro Q hq
    refine ew_enter (by decide +kernel) (ew_a1 rfl ew_az) (Nat.le_of_ble_eq_true rfl) ?_
    refine ew_aload_n (pc := 0) dX6_events_0 rfl ?_
    refine ew_getf (pc := 1) fX6_18 (rd_of (sn_1 r.o hwp)) rfl dX6_events_1 ?_
    refine ew_alen (pc := 4) (rd_sn hn hnw) rfl dX6_events_4 ?_
    refine ew_iret (pc := 5) rfl dX6_events_5 ?_
    exact hq
  refine ew_aload_n (pc := 0) dX9_init_0 rfl ?_
  refine ew_obj (pc := 1) (ew_q q1770) (ew_q q177) (ew_q q178) (ew_rm (Nat.le_of_ble_eq_true rfl)) dX9_init_1 ?_
  refine ew_aload_n (pc := 4) dX9_init_4 rfl ?_
  first | refine ew_aload_n (pc := 5) dX9_init_5 rfl ?_ | refine ew_aload_nq (pc := 5) dX9_init_5 rfl ?_ | refine ew_aload_nN (pc := 5) dX9_init_5 rfl ?_
  refine ew_putf (pc := 6) pX9_9 hw st_0 (Nat.le_of_ble_eq_true rfl) rfl rfl (fun _ => rfl) dX9_init_6 ?_
  refine ew_aload_n (pc := 9) dX9_init_9 rfl ?_
  refine ew_aload_n (pc := 10) dX9_init_10 rfl ?_
  refine ew_cV0 (d' := 0) (pc := 11) vX9_15 (rd_of (sn_1 r.o hwp)) dX9_init_11 (by decide) (ew_rm (Nat.le_of_ble_eq_true rfl)) ?_
  refine ev _ ?_
  refine ew_Kr ?_
  refine ew_putf (pc := 14) pX9_21 j1 st_1 (Nat.le_of_ble_eq_true rfl) rfl rfl (fun _ => rfl) dX9_init_14 ?_
  rw [ew_ss]
  refine ew_aload_n (pc := 17) dX9_init_17 rfl ?_
  refine ew_aload_n (pc := 18) dX9_init_18 rfl ?_
  refine ew_getf (pc := 19) fX9_21 (rd_of j2) rfl dX9_init_19 ?_
  refine ew_iconst (pc := 22) (v := 1) dX9_init_22 rfl ?_
  refine ew_iadd (pc := 23) dX9_init_23 ?_
  refine ew_aload_n (pc := 24) dX9_init_24 rfl ?_
  refine ew_getf (pc := 25) fX9_21 (rd_of j2) rfl dX9_init_25 ?_
  refine ew_imul (pc := 28) dX9_init_28 ?_
  rw [z]
  refine ew_newI (pc := 29) (ew_q q273) (nI_pos (by omega)) (nI_clamp (by omega)) (by omega) dX9_init_29 ?_
  refine ew_putf (pc := 31) pX9_24 (nn_1 j2 hwne) st_2 (Nat.le_of_ble_eq_true rfl) rfl rfl (fun _ => rfl) dX9_init_31 ?_
  refine ew_vret (pc := 34) rfl dX9_init_34 ?_
  refine hq _ ⟨se_1 _ _ _, ?_, sn_1 (ne_1 _ _ _) (by show h.2.1 ≠ w; omega), hE2, hE⟩ ?_
  · have k1 : Ke [w] 1 110 h (eh_set (eh_new (eh_set h w (ob 8 [.ref K, .int (nI (nE N)), .null])) (aI ((nE N + 1) * nE N) (fun _ => 0)) ((nE N + 1) * nE N)) w (ob 8 [.ref K, .int (nI (nE N)), .ref h.2.1])) := (Ke.set.t Ke.new (A := [w]) (c := 1) (s := 110) (fun a h9 _ => h9) (fun a h9 => absurd h9 (nm a)) (by decide) (by omega)).t Ke.set (fun a h9 _ => h9) (fun a h9 _ => h9) (by decide) (by omega)
    have S2 := S
    obtain ⟨⟨mc, cap, f, a1, a2, -⟩, sl, sx⟩ := S2
    refine S.ke k1 hg ho ?_ ?_ ?_
    · intro h9
      rw [List.mem_singleton.mp h9, hw] at a1
      cases a1
    · intro h9
      rw [List.mem_singleton.mp h9, rd_of hw] at a2
      cases a2
    · intro x hx h9
      obtain ⟨i, hi⟩ := List.getElem?_of_mem hx
      have hlt : i < es.length := by have := (List.getElem?_eq_some_iff.mp hi).1; omega
      have h8 := sx i x _ hi (List.getElem?_eq_getElem hlt)
      rw [List.mem_singleton.mp h9, hw] at h8
      cases h8
  · exact (Ke.set.t Ke.new (A := [w]) (c := 1) (s := 110) (fun a h9 _ => h9) (fun a h9 => absurd h9 (nm a)) (by decide) (by omega)).t Ke.set (fun a h9 _ => h9) (fun a h9 _ => h9) (by decide) (by omega)
end
