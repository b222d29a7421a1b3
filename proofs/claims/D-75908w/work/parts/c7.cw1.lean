/-! EW: the component's changes of windows -/
set_option maxRecDepth 100000
theorem i_pos {x : Int32} (h1 : 0 ≤ x) (h2 : ¬ x = 0) : 0 < x := by
  have e0 : (0 : Int32).toInt = 0 := rfl
  have h3 := i_le.mp h1
  have h4 : x.toInt ≠ 0 := fun h9 => h2 (i_inj (h9.trans e0.symm))
  rw [i_lt]
  omega
theorem wN_o {N : Nat → Int32} {w i k : Nat} {v : Int32} (hk : k < 6) (hi : i ≠ w) : wN (upd N (2 + 6 * w + k) v) i = wN N i := by
  unfold wN
  rw [up_n (by omega), up_n (by omega), up_n (by omega), up_n (by omega), up_n (by omega), up_n (by omega)]
theorem wN_2 {N : Nat → Int32} {w : Nat} {v : Int32} : wN (upd N (2 + 6 * w + 2) v) w = wV (N (2 + 6 * w + 0)) (N (2 + 6 * w + 1)) v (N (2 + 6 * w + 3)) (N (2 + 6 * w + 4)) (N (2 + 6 * w + 5)) := by
  unfold wN
  rw [up_e, up_n (j := 2 + 6 * w + 0) (by omega), up_n (j := 2 + 6 * w + 1) (by omega), up_n (j := 2 + 6 * w + 3) (by omega), up_n (j := 2 + 6 * w + 4) (by omega), up_n (j := 2 + 6 * w + 5) (by omega)]
theorem wN_3 {N : Nat → Int32} {w : Nat} {v : Int32} : wN (upd N (2 + 6 * w + 3) v) w = wV (N (2 + 6 * w + 0)) (N (2 + 6 * w + 1)) (N (2 + 6 * w + 2)) v (N (2 + 6 * w + 4)) (N (2 + 6 * w + 5)) := by
  unfold wN
  rw [up_e, up_n (j := 2 + 6 * w + 0) (by omega), up_n (j := 2 + 6 * w + 1) (by omega), up_n (j := 2 + 6 * w + 2) (by omega), up_n (j := 2 + 6 * w + 4) (by omega), up_n (j := 2 + 6 * w + 5) (by omega)]
theorem wN_4 {N : Nat → Int32} {w : Nat} {v : Int32} : wN (upd N (2 + 6 * w + 4) v) w = wV (N (2 + 6 * w + 0)) (N (2 + 6 * w + 1)) (N (2 + 6 * w + 2)) (N (2 + 6 * w + 3)) v (N (2 + 6 * w + 5)) := by
  unfold wN
  rw [up_e, up_n (j := 2 + 6 * w + 0) (by omega), up_n (j := 2 + 6 * w + 1) (by omega), up_n (j := 2 + 6 * w + 2) (by omega), up_n (j := 2 + 6 * w + 3) (by omega), up_n (j := 2 + 6 * w + 5) (by omega)]
theorem wN_5 {N : Nat → Int32} {w : Nat} {v : Int32} : wN (upd N (2 + 6 * w + 5) v) w = wV (N (2 + 6 * w + 0)) (N (2 + 6 * w + 1)) (N (2 + 6 * w + 2)) (N (2 + 6 * w + 3)) (N (2 + 6 * w + 4)) v := by
  unfold wN
  rw [up_e, up_n (j := 2 + 6 * w + 0) (by omega), up_n (j := 2 + 6 * w + 1) (by omega), up_n (j := 2 + 6 * w + 2) (by omega), up_n (j := 2 + 6 * w + 3) (by omega), up_n (j := 2 + 6 * w + 4) (by omega)]
section
variable {g : eg} {h h' : eh} {a : Nat → Nat} {ws : List Nat} {N N' : Nat → Int32} {m pe ep : Int32} {fb ft : Nat → Int32} {ρ : ru} {Q : Outcome → eh → Prop} {A2 hd A4 c s : Nat} {P : List nbd} {sv : Nat → Option nbd} {tx : List Int32} {fbuf nm : Nat → Int32} {sn vn : Nat → Nat}
theorem FS.cv (F : FS g h a ws N m pe ep nm sn vn fbuf A2 hd P sv A4 tx) : ∃ fb ft ρ, CV g h a ws N m pe ep fb ft ρ := F.1
/-- something new, and all stays -/
theorem FS.err {e : ac} {k : Nat} (hg : gOC g) (ho : eh_ok g h) (F : FS g h a ws N m pe ep nm sn vn fbuf A2 hd P sv A4 tx) (hk : k ≤ 6) : Bud h (eh_new h e k) ∧ CX g (eh_new h e k) (a 0) N nm m pe ep fbuf (P.map (fun b => b.2.2)) (fun i => (sv i).map (fun b => b.2.2)) tx := ⟨(Ke.new (h := h) (e := e) (n := k)).bud (by decide) (by omega), (F.new hg ho ho.new Ke.new).cx⟩
theorem CX.keep {h2 : eh} {x : Nat} {M : Nat → Int32} {PN : List (Nat → Int32)} {SN : Nat → Option (Nat → Int32)} {b : nbd} (hx : CX g h2 x N nm m pe ep fbuf ((reD P b).map (fun b => b.2.2)) SN tx) (hb : b.2.2 = M) : CX g h2 x N nm m pe ep fbuf (reP (P.map (fun b => b.2.2)) M) SN tx := by
  rw [reD_map, hb] at hx
  exact hx
/-- a window becomes as N' has it, the net before is kept -/
theorem FS.win {w x c1 : Nat} {h2 : eh} {hd2 : Nat} {b : nbd} (hg : gOC g) (ho2 : eh_ok g h2) (F2 : FS g h2 a ws N m pe ep nm sn vn fbuf A2 hd2 (reD P b) sv A4 tx) {M : Nat → Int32} (eb : b.2.2 = M) (k2 : Ke [a 2, A2] 60 c1 h h2) (hc1 : c1 ≤ 100000) (hx : ws[w]? = some x) (ok' : okN N') (hl : nLk N N') (h1 : ∀ i, i ≠ w → wN N' i = wN N i) (h3 : ∀ i, 146 ≤ i → i < 176 → N' i = N i) : Bud h (eh_set h2 x (wN N' w)) ∧ CX g (eh_set h2 x (wN N' w)) (a 0) N' nm m pe ep fbuf (reP (P.map (fun b => b.2.2)) M) (fun i => (sv i).map (fun b => b.2.2)) tx := by
  obtain ⟨fb, ft, ρ, C2⟩ := F2.cv
  have hxw := C2.n.w w x hx
  have h15 : x ≠ a 15 := fun e => by
    obtain ⟨fn, hn⟩ := C2.n.n
    rw [← e, rd_of hxw] at hn
    cases hn
  have hxm : x ∈ cvA a ws := List.mem_append_right _ (by simp only [nO, List.mem_cons]; exact Or.inr (Or.inr (Or.inr (Or.inr (Or.inr (Or.inr (List.mem_of_getElem? hx)))))))
  have F3 := F2.chg hg ho2 hxw hxm h15 (cv_win C2 hx ok' hl h1 h3) hl.1
  exact ⟨⟨by have := k2.2.2.1; show h2.2.1 ≤ _; omega, by have := k2.2.2.2; show h2.2.2 ≤ _; omega⟩, F3.cx.keep (PN := []) eb⟩
theorem c_setLow {w v : Int32} (hg : gOC g) (hM : gOM g) (hD : gDE g) (F : FS g h a ws N m pe ep nm sn vn fbuf A2 hd P sv A4 tx) (hq : ∀ o h', CR SI (as2 1 (bI (isIx (nW N) w)) (bI (isIx (nW N) w ∧ inO v (N (2 + 6 * ix w + 3))))) (.int (N (2 + 6 * ix w + 2))) (fun h' => CX g h' (a 0) N nm m pe ep fbuf (P.map (fun b => b.2.2)) (fun i => (sv i).map (fun b => b.2.2)) tx) (fun h' => CX g h' (a 0) (upd N (2 + 6 * ix w + 2) v) nm m pe ep fbuf (reP (P.map (fun b => b.2.2)) N) (fun i => (sv i).map (fun b => b.2.2)) tx) h o h' → Q o h') : ew_T g kX1_setLow 21 [.ref (a 0), .int w, .int v] h Q := by
  obtain ⟨fb, ft, ρ, C⟩ := F.cv
  have hW := C.n.ok.w2
  refine ew_enter (by decide +kernel) (ew_a1 rfl (ew_a1 rfl (ew_a1 rfl (ew_an (ew_an ew_az))))) (Nat.le_of_ble_eq_true rfl) ?_
  refine ew_ok (fun ho => ?_)
  have s29 : isIx (nW N) w → ∀ x, ws[ix w]? = some x → h.1 x = some (wN N (ix w)) → ∀ f, f = bI (isIx (nW N) w ∧ inO v (N (2 + 6 * ix w + 3))) → ew_G g kX1_setLow 21 29 [.ref (a 0), .int w, .int v, .ref x, no_] [.int f] h Q := by
    intro hi x hx hxw f hf
    subst hf
    have hw := hi.to hW
    refine ew_cS1 (d' := 5) (pc := 29) sX1_198 dX1_setLow_29 (by decide) (ew_rm (Nat.le_of_ble_eq_true rfl)) ?_
    refine t_chkA (fun h9 => ?_) (fun h9 => ?_)
    · exact ew_Kx (ew_out (fun x hx => nomatch hx) (hq _ _ (CR.no (k := 3) (as2_j hi (fun h8 => bI_0.mp h9 h8)) (by decide) (F.err hg ho (by decide)).1 rfl (ne_1 _ _ _) (F.err hg ho (by decide)).2)))
    have hc := bI_n.mp h9
    refine ew_Kv ?_
    refine ew_aload_n (pc := 32) dX1_setLow_32 rfl ?_
    refine ew_cV0 (d' := 20) (pc := 33) vX1_416 (rd_of C.o) dX1_setLow_33 (by decide) (ew_rm (Nat.le_of_ble_eq_true rfl)) ?_
    refine t_keep hg hM hD F (fun h2 hd2 b F2 eb k2 => ?_)
    refine ew_Kv ?_
    refine ew_ok (fun ho2 => ?_)
    obtain ⟨fb2, ft2, ρ2, C2⟩ := F2.cv
    have hxw2 := C2.n.w _ x hx
    have ok' : okN (upd N (2 + 6 * ix w + 2) v) := C2.n.ok.uw hw.1 (by decide) (by decide) (fun _ => ⟨hc.2.1.1, hc.2.1.2⟩) (fun h9 => absurd h9 (by decide)) (fun h9 => absurd h9 (by decide)) (fun h9 => absurd h9 (by decide))
    have fin := F2.win hg ho2 eb k2 (by decide) hx ok' (nLk.up (by omega)) (fun i hi9 => wN_o (by decide) hi9) (fun i h7 h8 => up_n (by omega))
    rw [wN_2] at fin
    refine ew_aload_n (pc := 36) dX1_setLow_36 rfl ?_
    refine ew_getf (pc := 37) fX1_255 (rd_of hxw2) rfl dX1_setLow_37 ?_
    refine ew_istore (pc := 40) dX1_setLow_40 (by decide) (p1_4 rfl) ?_
    refine ew_aload_n (pc := 42) dX1_setLow_42 rfl ?_
    refine ew_iload_n (pc := 43) dX1_setLow_43 rfl ?_
    refine ew_putf (pc := 44) pX1_255 hxw2 st_2 (Nat.le_of_ble_eq_true rfl) rfl rfl (fun h9 => absurd h9 Bool.false_ne_true) dX1_setLow_44 ?_
    refine ew_iload (pc := 47) dX1_setLow_47 rfl ?_
    refine ew_iret (pc := 49) rfl dX1_setLow_49 ?_
    exact hq _ _ (CR.ok (as2_y hi hc) fin.1 fin.2)
  refine ew_aload_n (pc := 0) dX1_setLow_0 rfl ?_
  refine ew_iload_n (pc := 1) dX1_setLow_1 rfl ?_
  refine ew_cV1 (d' := 7) (pc := 2) vX1_140 (rd_of C.o) dX1_setLow_2 (by decide) (ew_rm (Nat.le_of_ble_eq_true rfl)) ?_
  refine t_withWindow C (fun hi => ?_) (fun hi x hx hxw => ?_)
  · exact ew_Kx (ew_out (fun x hx => nomatch hx) (hq _ _ (CR.no (k := 2) (as2_i hi) (by decide) (F.err hg ho (by decide)).1 rfl (ne_1 _ _ _) (F.err hg ho (by decide)).2)))
  have hw := hi.to hW
  have hlo := C.n.ok.lo _ hw.1
  have hhi := C.n.ok.hi _ hw.1
  have hco := C.n.ok.co _ hw.1
  refine ew_Kr ?_
  first | refine ew_astore_n (pc := 5) dX1_setLow_5 rfl (by decide) (p1_3 rfl) ?_ | refine ew_astore_nq (pc := 5) dX1_setLow_5 rfl (by decide) (p1_3 rfl) ?_ | refine ew_astore_nN (pc := 5) dX1_setLow_5 rfl (by decide) (p1_3 rfl) ?_
  refine ew_iload_n (pc := 6) dX1_setLow_6 rfl ?_
  refine ew_iconst (pc := 7) (v := 0) dX1_setLow_7 rfl ?_
  refine ew_aload_n (pc := 8) dX1_setLow_8 rfl ?_
  refine ew_getf (pc := 9) fX1_258 (rd_of hxw) rfl dX1_setLow_9 ?_
  refine ew_iconst (pc := 12) (v := -1) dX1_setLow_12 rfl ?_
  refine ew_icmp_ne (pc := 13) (tgt := 22) dX1_setLow_13 (by decide) (fun c13 => ?_) (fun c13 => ?_)
  · refine ew_aload_n (pc := 22) dX1_setLow_22 rfl ?_
    refine ew_getf (pc := 23) fX1_258 (rd_of hxw) rfl dX1_setLow_23 ?_
    refine ew_cS3 (d' := 0) (pc := 26) sX1_74 dX1_setLow_26 (by decide) (ew_rm (Nat.le_of_ble_eq_true rfl)) ?_
    refine t_inC ?_
    refine ew_Kr ?_
    first
    | refine s29 hi x hx hxw _ (bI_c ?_)
      constructor
      · exact fun h9 => ⟨hi, h9, Or.inl c13⟩
      · exact fun h9 => h9.2.1
    | refine s29 hi x hx hxw _ (bI_c ?_)
      constructor
      · exact fun h9 => ⟨hi, ⟨h9.1, Int32.le_trans h9.2 hhi.2⟩, Or.inr ⟨h9.2, hhi.2⟩⟩
      · exact fun h9 => ⟨h9.2.1.1, (h9.2.2.resolve_left c13).1⟩
  · refine ew_sipush (pc := 16) (v := 999) dX1_setLow_16 rfl ?_
    refine ew_goto (pc := 19) (tgt := 26) dX1_setLow_19 (by decide) ?_
    refine ew_cS3 (d' := 0) (pc := 26) sX1_74 dX1_setLow_26 (by decide) (ew_rm (Nat.le_of_ble_eq_true rfl)) ?_
    refine t_inC ?_
    refine ew_Kr ?_
    first
    | refine s29 hi x hx hxw _ (bI_c ?_)
      constructor
      · exact fun h9 => ⟨hi, h9, Or.inl c13⟩
      · exact fun h9 => h9.2.1
    | refine s29 hi x hx hxw _ (bI_c ?_)
      constructor
      · exact fun h9 => ⟨hi, ⟨h9.1, Int32.le_trans h9.2 hhi.2⟩, Or.inr ⟨h9.2, hhi.2⟩⟩
      · exact fun h9 => ⟨h9.2.1.1, (h9.2.2.resolve_left c13).1⟩
theorem c_setHigh {w v : Int32} (hg : gOC g) (hM : gOM g) (hD : gDE g) (F : FS g h a ws N m pe ep nm sn vn fbuf A2 hd P sv A4 tx) (hq : ∀ o h', CR SI (as2 1 (bI (isIx (nW N) w)) (bI (isIx (nW N) w ∧ inO (N (2 + 6 * ix w + 2)) v))) (.int (N (2 + 6 * ix w + 3))) (fun h' => CX g h' (a 0) N nm m pe ep fbuf (P.map (fun b => b.2.2)) (fun i => (sv i).map (fun b => b.2.2)) tx) (fun h' => CX g h' (a 0) (upd N (2 + 6 * ix w + 3) v) nm m pe ep fbuf (reP (P.map (fun b => b.2.2)) N) (fun i => (sv i).map (fun b => b.2.2)) tx) h o h' → Q o h') : ew_T g kX1_setHigh 21 [.ref (a 0), .int w, .int v] h Q := by
  obtain ⟨fb, ft, ρ, C⟩ := F.cv
  have hW := C.n.ok.w2
  refine ew_enter (by decide +kernel) (ew_a1 rfl (ew_a1 rfl (ew_a1 rfl (ew_an (ew_an ew_az))))) (Nat.le_of_ble_eq_true rfl) ?_
  refine ew_ok (fun ho => ?_)
  have s30 : isIx (nW N) w → ∀ x, ws[ix w]? = some x → h.1 x = some (wN N (ix w)) → ∀ f, f = bI (isIx (nW N) w ∧ inO (N (2 + 6 * ix w + 2)) v) → ew_G g kX1_setHigh 21 30 [.ref (a 0), .int w, .int v, .ref x, no_] [.int f] h Q := by
    intro hi x hx hxw f hf
    subst hf
    have hw := hi.to hW
    refine ew_cS1 (d' := 5) (pc := 30) sX1_198 dX1_setHigh_30 (by decide) (ew_rm (Nat.le_of_ble_eq_true rfl)) ?_
    refine t_chkA (fun h9 => ?_) (fun h9 => ?_)
    · exact ew_Kx (ew_out (fun x hx => nomatch hx) (hq _ _ (CR.no (k := 3) (as2_j hi (fun h8 => bI_0.mp h9 h8)) (by decide) (F.err hg ho (by decide)).1 rfl (ne_1 _ _ _) (F.err hg ho (by decide)).2)))
    have hc := bI_n.mp h9
    refine ew_Kv ?_
    refine ew_aload_n (pc := 33) dX1_setHigh_33 rfl ?_
    refine ew_cV0 (d' := 20) (pc := 34) vX1_416 (rd_of C.o) dX1_setHigh_34 (by decide) (ew_rm (Nat.le_of_ble_eq_true rfl)) ?_
    refine t_keep hg hM hD F (fun h2 hd2 b F2 eb k2 => ?_)
    refine ew_Kv ?_
    refine ew_ok (fun ho2 => ?_)
    obtain ⟨fb2, ft2, ρ2, C2⟩ := F2.cv
    have hxw2 := C2.n.w _ x hx
    have ok' : okN (upd N (2 + 6 * ix w + 3) v) := C2.n.ok.uw hw.1 (by decide) (by decide) (fun h9 => absurd h9 (by decide)) (fun _ => ⟨hc.2.2.elim (fun h8 => by rw [h8]; decide) (fun h8 => Int32.le_trans (by decide) (Int32.le_trans hc.2.1.1 h8.1)), hc.2.2.elim (fun h8 => by rw [h8]; decide) (fun h8 => h8.2)⟩) (fun h9 => absurd h9 (by decide)) (fun h9 => absurd h9 (by decide))
    have fin := F2.win hg ho2 eb k2 (by decide) hx ok' (nLk.up (by omega)) (fun i hi9 => wN_o (by decide) hi9) (fun i h7 h8 => up_n (by omega))
    rw [wN_3] at fin
    refine ew_aload_n (pc := 37) dX1_setHigh_37 rfl ?_
    refine ew_getf (pc := 38) fX1_258 (rd_of hxw2) rfl dX1_setHigh_38 ?_
    refine ew_istore (pc := 41) dX1_setHigh_41 (by decide) (p1_4 rfl) ?_
    refine ew_aload_n (pc := 43) dX1_setHigh_43 rfl ?_
    refine ew_iload_n (pc := 44) dX1_setHigh_44 rfl ?_
    refine ew_putf (pc := 45) pX1_258 hxw2 st_3 (Nat.le_of_ble_eq_true rfl) rfl rfl (fun h9 => absurd h9 Bool.false_ne_true) dX1_setHigh_45 ?_
    refine ew_iload (pc := 48) dX1_setHigh_48 rfl ?_
    refine ew_iret (pc := 50) rfl dX1_setHigh_50 ?_
    exact hq _ _ (CR.ok (as2_y hi hc) fin.1 fin.2)
  refine ew_aload_n (pc := 0) dX1_setHigh_0 rfl ?_
  refine ew_iload_n (pc := 1) dX1_setHigh_1 rfl ?_
  refine ew_cV1 (d' := 7) (pc := 2) vX1_140 (rd_of C.o) dX1_setHigh_2 (by decide) (ew_rm (Nat.le_of_ble_eq_true rfl)) ?_
  refine t_withWindow C (fun hi => ?_) (fun hi x hx hxw => ?_)
  · exact ew_Kx (ew_out (fun x hx => nomatch hx) (hq _ _ (CR.no (k := 2) (as2_i hi) (by decide) (F.err hg ho (by decide)).1 rfl (ne_1 _ _ _) (F.err hg ho (by decide)).2)))
  have hw := hi.to hW
  have hlo := C.n.ok.lo _ hw.1
  have hhi := C.n.ok.hi _ hw.1
  have hco := C.n.ok.co _ hw.1
  refine ew_Kr ?_
  first | refine ew_astore_n (pc := 5) dX1_setHigh_5 rfl (by decide) (p1_3 rfl) ?_ | refine ew_astore_nq (pc := 5) dX1_setHigh_5 rfl (by decide) (p1_3 rfl) ?_ | refine ew_astore_nN (pc := 5) dX1_setHigh_5 rfl (by decide) (p1_3 rfl) ?_
  refine ew_iload_n (pc := 6) dX1_setHigh_6 rfl ?_
  refine ew_iconst (pc := 7) (v := -1) dX1_setHigh_7 rfl ?_
  refine ew_icmp_eq (pc := 8) (tgt := 25) dX1_setHigh_8 (by decide) (fun c8 => ?_) (fun c8 => ?_)
  · refine ew_iconst (pc := 25) (v := 1) dX1_setHigh_25 rfl ?_
    refine ew_goto (pc := 26) (tgt := 30) dX1_setHigh_26 (by decide) ?_
    first
    | exact s30 hi x hx hxw _ (bI_T ⟨hi, hlo, Or.inl c8⟩)
    | exact s30 hi x hx hxw _ (bI_T ⟨hi, hlo, Or.inr (bI_n.mp c22)⟩)
    | exact s30 hi x hx hxw _ (bI_F (fun h9 => bI_0.mp c22 (h9.2.2.resolve_left c8)))
  · refine ew_iload_n (pc := 11) dX1_setHigh_11 rfl ?_
    refine ew_aload_n (pc := 12) dX1_setHigh_12 rfl ?_
    refine ew_getf (pc := 13) fX1_255 (rd_of hxw) rfl dX1_setHigh_13 ?_
    refine ew_sipush (pc := 16) (v := 999) dX1_setHigh_16 rfl ?_
    refine ew_cS3 (d' := 0) (pc := 19) sX1_74 dX1_setHigh_19 (by decide) (ew_rm (Nat.le_of_ble_eq_true rfl)) ?_
    refine t_inC ?_
    refine ew_Kr ?_
    refine ew_if_eq (pc := 22) (tgt := 29) dX1_setHigh_22 (by decide) (fun c22 => ?_) (fun c22 => ?_)
    · refine ew_iconst (pc := 29) (v := 0) dX1_setHigh_29 rfl ?_
      first
      | exact s30 hi x hx hxw _ (bI_T ⟨hi, hlo, Or.inl c8⟩)
      | exact s30 hi x hx hxw _ (bI_T ⟨hi, hlo, Or.inr (bI_n.mp c22)⟩)
      | exact s30 hi x hx hxw _ (bI_F (fun h9 => bI_0.mp c22 (h9.2.2.resolve_left c8)))
    · refine ew_iconst (pc := 25) (v := 1) dX1_setHigh_25 rfl ?_
      refine ew_goto (pc := 26) (tgt := 30) dX1_setHigh_26 (by decide) ?_
      first
      | exact s30 hi x hx hxw _ (bI_T ⟨hi, hlo, Or.inl c8⟩)
      | exact s30 hi x hx hxw _ (bI_T ⟨hi, hlo, Or.inr (bI_n.mp c22)⟩)
      | exact s30 hi x hx hxw _ (bI_F (fun h9 => bI_0.mp c22 (h9.2.2.resolve_left c8)))
theorem c_setCost {w v : Int32} (hg : gOC g) (hM : gOM g) (hD : gDE g) (F : FS g h a ws N m pe ep nm sn vn fbuf A2 hd P sv A4 tx) (hq : ∀ o h', CR SI (as2 1 (bI (isIx (nW N) w)) (bI ((0 ≤ v ∧ v ≤ 99) ∧ fitC N w v))) (.int (N (2 + 6 * ix w + 4))) (fun h' => CX g h' (a 0) N nm m pe ep fbuf (P.map (fun b => b.2.2)) (fun i => (sv i).map (fun b => b.2.2)) tx) (fun h' => CX g h' (a 0) (upd N (2 + 6 * ix w + 4) v) nm m pe ep fbuf (reP (P.map (fun b => b.2.2)) N) (fun i => (sv i).map (fun b => b.2.2)) tx) h o h' → Q o h') : ew_T g kX1_setCost 21 [.ref (a 0), .int w, .int v] h Q := by
  obtain ⟨fb, ft, ρ, C⟩ := F.cv
  have hW := C.n.ok.w2
  refine ew_enter (by decide +kernel) (ew_a1 rfl (ew_a1 rfl (ew_a1 rfl (ew_an (ew_an ew_az))))) (Nat.le_of_ble_eq_true rfl) ?_
  refine ew_ok (fun ho => ?_)
  have s44 : isIx (nW N) w → ∀ x, ws[ix w]? = some x → h.1 x = some (wN N (ix w)) → ∀ f, f = bI ((0 ≤ v ∧ v ≤ 99) ∧ fitC N w v) → ew_G g kX1_setCost 21 44 [.ref (a 0), .int w, .int v, .ref x, no_] [.int f] h Q := by
    intro hi x hx hxw f hf
    subst hf
    have hw := hi.to hW
    refine ew_cS1 (d' := 5) (pc := 44) sX1_198 dX1_setCost_44 (by decide) (ew_rm (Nat.le_of_ble_eq_true rfl)) ?_
    refine t_chkA (fun h9 => ?_) (fun h9 => ?_)
    · exact ew_Kx (ew_out (fun x hx => nomatch hx) (hq _ _ (CR.no (k := 3) (as2_j hi (fun h8 => bI_0.mp h9 h8)) (by decide) (F.err hg ho (by decide)).1 rfl (ne_1 _ _ _) (F.err hg ho (by decide)).2)))
    have hc := bI_n.mp h9
    refine ew_Kv ?_
    refine ew_aload_n (pc := 47) dX1_setCost_47 rfl ?_
    refine ew_cV0 (d' := 20) (pc := 48) vX1_416 (rd_of C.o) dX1_setCost_48 (by decide) (ew_rm (Nat.le_of_ble_eq_true rfl)) ?_
    refine t_keep hg hM hD F (fun h2 hd2 b F2 eb k2 => ?_)
    refine ew_Kv ?_
    refine ew_ok (fun ho2 => ?_)
    obtain ⟨fb2, ft2, ρ2, C2⟩ := F2.cv
    have hxw2 := C2.n.w _ x hx
    have ok' : okN (upd N (2 + 6 * ix w + 4) v) := C2.n.ok.uw hw.1 (by decide) (by decide) (fun h9 => absurd h9 (by decide)) (fun h9 => absurd h9 (by decide)) (fun _ => hc.1) (fun h9 => absurd h9 (by decide))
    have fin := F2.win hg ho2 eb k2 (by decide) hx ok' (nLk.up (by omega)) (fun i hi9 => wN_o (by decide) hi9) (fun i h7 h8 => up_n (by omega))
    rw [wN_4] at fin
    refine ew_aload_n (pc := 51) dX1_setCost_51 rfl ?_
    refine ew_getf (pc := 52) fX1_294 (rd_of hxw2) rfl dX1_setCost_52 ?_
    refine ew_istore (pc := 55) dX1_setCost_55 (by decide) (p1_4 rfl) ?_
    refine ew_aload_n (pc := 57) dX1_setCost_57 rfl ?_
    refine ew_iload_n (pc := 58) dX1_setCost_58 rfl ?_
    refine ew_putf (pc := 59) pX1_294 hxw2 st_4 (Nat.le_of_ble_eq_true rfl) rfl rfl (fun h9 => absurd h9 Bool.false_ne_true) dX1_setCost_59 ?_
    refine ew_iload (pc := 62) dX1_setCost_62 rfl ?_
    refine ew_iret (pc := 64) rfl dX1_setCost_64 ?_
    exact hq _ _ (CR.ok (as2_y hi hc) fin.1 fin.2)
  refine ew_aload_n (pc := 0) dX1_setCost_0 rfl ?_
  refine ew_iload_n (pc := 1) dX1_setCost_1 rfl ?_
  refine ew_cV1 (d' := 7) (pc := 2) vX1_140 (rd_of C.o) dX1_setCost_2 (by decide) (ew_rm (Nat.le_of_ble_eq_true rfl)) ?_
  refine t_withWindow C (fun hi => ?_) (fun hi x hx hxw => ?_)
  · exact ew_Kx (ew_out (fun x hx => nomatch hx) (hq _ _ (CR.no (k := 2) (as2_i hi) (by decide) (F.err hg ho (by decide)).1 rfl (ne_1 _ _ _) (F.err hg ho (by decide)).2)))
  have hw := hi.to hW
  have hlo := C.n.ok.lo _ hw.1
  have hhi := C.n.ok.hi _ hw.1
  have hco := C.n.ok.co _ hw.1
  refine ew_Kr ?_
  first | refine ew_astore_n (pc := 5) dX1_setCost_5 rfl (by decide) (p1_3 rfl) ?_ | refine ew_astore_nq (pc := 5) dX1_setCost_5 rfl (by decide) (p1_3 rfl) ?_ | refine ew_astore_nN (pc := 5) dX1_setCost_5 rfl (by decide) (p1_3 rfl) ?_
  refine ew_iload_n (pc := 6) dX1_setCost_6 rfl ?_
  refine ew_iconst (pc := 7) (v := 0) dX1_setCost_7 rfl ?_
  refine ew_bipush (pc := 8) (v := 99) dX1_setCost_8 rfl ?_
  refine ew_cS3 (d' := 0) (pc := 10) sX1_74 dX1_setCost_10 (by decide) (ew_rm (Nat.le_of_ble_eq_true rfl)) ?_
  refine t_inC ?_
  refine ew_Kr ?_
  refine ew_if_eq (pc := 13) (tgt := 43) dX1_setCost_13 (by decide) (fun c13 => ?_) (fun c13 => ?_)
  · refine ew_iconst (pc := 43) (v := 0) dX1_setCost_43 rfl ?_
    first
    | exact s44 hi x hx hxw _ (bI_F (fun h9 => bI_0.mp c13 h9.1))
    | exact s44 hi x hx hxw _ (bI_T ⟨bI_n.mp c13, Or.inl c17⟩)
    | exact s44 hi x hx hxw _ (bI_T ⟨bI_n.mp c13, Or.inr (Or.inl ⟨hi, fun h8 => by rw [h8] at c24; exact absurd c24 (by decide)⟩)⟩)
    | exact s44 hi x hx hxw _ (bI_T ⟨bI_n.mp c13, Or.inr (Or.inr (Int32.not_le.mp c36))⟩)
    | exact s44 hi x hx hxw _ (bI_F (fun h9 => h9.2.elim c17 (fun h8 => h8.elim (fun h7 => c24 (i_pos hco.1 h7.2)) (fun h7 => absurd h7 (Int32.not_lt.mpr c36)))))
  · refine ew_iload_n (pc := 16) dX1_setCost_16 rfl ?_
    refine ew_if_eq (pc := 17) (tgt := 39) dX1_setCost_17 (by decide) (fun c17 => ?_) (fun c17 => ?_)
    · refine ew_iconst (pc := 39) (v := 1) dX1_setCost_39 rfl ?_
      refine ew_goto (pc := 40) (tgt := 44) dX1_setCost_40 (by decide) ?_
      first
      | exact s44 hi x hx hxw _ (bI_F (fun h9 => bI_0.mp c13 h9.1))
      | exact s44 hi x hx hxw _ (bI_T ⟨bI_n.mp c13, Or.inl c17⟩)
      | exact s44 hi x hx hxw _ (bI_T ⟨bI_n.mp c13, Or.inr (Or.inl ⟨hi, fun h8 => by rw [h8] at c24; exact absurd c24 (by decide)⟩)⟩)
      | exact s44 hi x hx hxw _ (bI_T ⟨bI_n.mp c13, Or.inr (Or.inr (Int32.not_le.mp c36))⟩)
      | exact s44 hi x hx hxw _ (bI_F (fun h9 => h9.2.elim c17 (fun h8 => h8.elim (fun h7 => c24 (i_pos hco.1 h7.2)) (fun h7 => absurd h7 (Int32.not_lt.mpr c36)))))
    · refine ew_aload_n (pc := 20) dX1_setCost_20 rfl ?_
      refine ew_getf (pc := 21) fX1_294 (rd_of hxw) rfl dX1_setCost_21 ?_
      refine ew_if_gt (pc := 24) (tgt := 39) dX1_setCost_24 (by decide) (fun c24 => ?_) (fun c24 => ?_)
      · refine ew_iconst (pc := 39) (v := 1) dX1_setCost_39 rfl ?_
        refine ew_goto (pc := 40) (tgt := 44) dX1_setCost_40 (by decide) ?_
        first
        | exact s44 hi x hx hxw _ (bI_F (fun h9 => bI_0.mp c13 h9.1))
        | exact s44 hi x hx hxw _ (bI_T ⟨bI_n.mp c13, Or.inl c17⟩)
        | exact s44 hi x hx hxw _ (bI_T ⟨bI_n.mp c13, Or.inr (Or.inl ⟨hi, fun h8 => by rw [h8] at c24; exact absurd c24 (by decide)⟩)⟩)
        | exact s44 hi x hx hxw _ (bI_T ⟨bI_n.mp c13, Or.inr (Or.inr (Int32.not_le.mp c36))⟩)
        | exact s44 hi x hx hxw _ (bI_F (fun h9 => h9.2.elim c17 (fun h8 => h8.elim (fun h7 => c24 (i_pos hco.1 h7.2)) (fun h7 => absurd h7 (Int32.not_lt.mpr c36)))))
      · refine ew_aload_n (pc := 27) dX1_setCost_27 rfl ?_
        refine ew_getf (pc := 28) fX1_84 (rd_of C.o) rfl dX1_setCost_28 ?_
        refine ew_cV0 (d' := 3) (pc := 31) vX1_419 (rd_of C.n.o) dX1_setCost_31 (by decide) (ew_rm (Nat.le_of_ble_eq_true rfl)) ?_
        refine t_nSoft C.n ?_
        refine ew_Kr ?_
        refine ew_bipush (pc := 34) (v := 10) dX1_setCost_34 rfl ?_
        refine ew_icmp_ge (pc := 36) (tgt := 43) dX1_setCost_36 (by decide) (fun c36 => ?_) (fun c36 => ?_)
        · refine ew_iconst (pc := 43) (v := 0) dX1_setCost_43 rfl ?_
          first
          | exact s44 hi x hx hxw _ (bI_F (fun h9 => bI_0.mp c13 h9.1))
          | exact s44 hi x hx hxw _ (bI_T ⟨bI_n.mp c13, Or.inl c17⟩)
          | exact s44 hi x hx hxw _ (bI_T ⟨bI_n.mp c13, Or.inr (Or.inl ⟨hi, fun h8 => by rw [h8] at c24; exact absurd c24 (by decide)⟩)⟩)
          | exact s44 hi x hx hxw _ (bI_T ⟨bI_n.mp c13, Or.inr (Or.inr (Int32.not_le.mp c36))⟩)
          | exact s44 hi x hx hxw _ (bI_F (fun h9 => h9.2.elim c17 (fun h8 => h8.elim (fun h7 => c24 (i_pos hco.1 h7.2)) (fun h7 => absurd h7 (Int32.not_lt.mpr c36)))))
        · refine ew_iconst (pc := 39) (v := 1) dX1_setCost_39 rfl ?_
          refine ew_goto (pc := 40) (tgt := 44) dX1_setCost_40 (by decide) ?_
          first
          | exact s44 hi x hx hxw _ (bI_F (fun h9 => bI_0.mp c13 h9.1))
          | exact s44 hi x hx hxw _ (bI_T ⟨bI_n.mp c13, Or.inl c17⟩)
          | exact s44 hi x hx hxw _ (bI_T ⟨bI_n.mp c13, Or.inr (Or.inl ⟨hi, fun h8 => by rw [h8] at c24; exact absurd c24 (by decide)⟩)⟩)
          | exact s44 hi x hx hxw _ (bI_T ⟨bI_n.mp c13, Or.inr (Or.inr (Int32.not_le.mp c36))⟩)
          | exact s44 hi x hx hxw _ (bI_F (fun h9 => h9.2.elim c17 (fun h8 => h8.elim (fun h7 => c24 (i_pos hco.1 h7.2)) (fun h7 => absurd h7 (Int32.not_lt.mpr c36)))))
theorem c_turn {w : Int32} (hg : gOC g) (hM : gOM g) (hD : gDE g) (F : FS g h a ws N m pe ep nm sn vn fbuf A2 hd P sv A4 tx) (hq : ∀ o h', CR SI (as1 1 (bI (isIx (nW N) w))) (.int (bI (N (2 + 6 * ix w + 5) = 0))) (fun h' => CX g h' (a 0) N nm m pe ep fbuf (P.map (fun b => b.2.2)) (fun i => (sv i).map (fun b => b.2.2)) tx) (fun h' => CX g h' (a 0) (upd N (2 + 6 * ix w + 5) (1 - N (2 + 6 * ix w + 5))) nm m pe ep fbuf (reP (P.map (fun b => b.2.2)) N) (fun i => (sv i).map (fun b => b.2.2)) tx) h o h' → Q o h') : ew_T g kX1_turn 21 [.ref (a 0), .int w] h Q := by
  obtain ⟨fb, ft, ρ, C⟩ := F.cv
  have hW := C.n.ok.w2
  refine ew_enter (by decide +kernel) (ew_a1 rfl (ew_a1 rfl (ew_an ew_az))) (Nat.le_of_ble_eq_true rfl) ?_
  refine ew_ok (fun ho => ?_)
  have s23 : isIx (nW N) w → ∀ x, ws[ix w]? = some x → ∀ h2 hd2 b, FS g h2 a ws N m pe ep nm sn vn fbuf A2 hd2 (reD P b) sv A4 tx → b.2.2 = N → Ke [a 2, A2] 60 2000 h h2 → ∀ f, f = 1 - N (2 + 6 * ix w + 5) → ew_G g kX1_turn 21 23 [.ref (a 0), .int w, .ref x] [.int f, .ref x] h2 Q := by
    intro hi x hx h2 hd2 b F2 eb k2 f hf
    have hw := hi.to hW
    obtain ⟨fb2, ft2, ρ2, C2⟩ := F2.cv
    have hxw2 := C2.n.w _ x hx
    have hdr := C2.n.ok.dr _ hw.1
    have hf01 : f = 0 ∨ f = 1 := by
      rcases hdr with h9 | h9 <;> rw [hf, h9]
      · exact Or.inr (by decide)
      · exact Or.inl (by decide)
    have hfb : f = bI (N (2 + 6 * ix w + 5) = 0) := by
      rcases hdr with h9 | h9
      · rw [bI_t h9, hf, h9]; decide
      · rw [bI_f (fun h8 => by rw [h9] at h8; exact absurd h8 (by decide)), hf, h9]; decide
    have hnar : narrow .boolean (.int f) = .int f ∧ fits .boolean (.int f) = true := by rcases hf01 with rfl | rfl <;> exact ⟨rfl, rfl⟩
    refine ew_ok (fun ho2 => ?_)
    have ok' : okN (upd N (2 + 6 * ix w + 5) f) := C2.n.ok.uw hw.1 (by decide) (by decide) (fun h9 => absurd h9 (by decide)) (fun h9 => absurd h9 (by decide)) (fun h9 => absurd h9 (by decide)) (fun _ => hf01)
    have fin := F2.win hg ho2 eb k2 (by decide) hx ok' (nLk.up (by omega)) (fun i hi9 => wN_o (by decide) hi9) (fun i h7 h8 => up_n (by omega))
    rw [wN_5] at fin
    rw [← hf, ← hfb] at hq
    have j1 := se_1 h2 x (wV (N (2 + 6 * ix w + 0)) (N (2 + 6 * ix w + 1)) (N (2 + 6 * ix w + 2)) (N (2 + 6 * ix w + 3)) (N (2 + 6 * ix w + 4)) f)
    refine ew_putf (pc := 23) pX1_261 hxw2 st_5 (Nat.le_of_ble_eq_true rfl) hnar.1 hnar.2 (fun h9 => absurd h9 Bool.false_ne_true) dX1_turn_23 ?_
    refine ew_aload_n (pc := 26) dX1_turn_26 rfl ?_
    refine ew_getf (pc := 27) fX1_261 (rd_of j1) rfl dX1_turn_27 ?_
    refine ew_zret (pc := 30) (ty := .boolean) rfl hnar.1 dX1_turn_30 ?_
    exact hq _ _ (CR.ok (as1_y hi) fin.1 fin.2)
  refine ew_aload_n (pc := 0) dX1_turn_0 rfl ?_
  refine ew_iload_n (pc := 1) dX1_turn_1 rfl ?_
  refine ew_cV1 (d' := 7) (pc := 2) vX1_140 (rd_of C.o) dX1_turn_2 (by decide) (ew_rm (Nat.le_of_ble_eq_true rfl)) ?_
  refine t_withWindow C (fun hi => ?_) (fun hi x hx hxw => ?_)
  · exact ew_Kx (ew_out (fun x hx => nomatch hx) (hq _ _ (CR.no (k := 2) (as1_i hi) (by decide) (F.err hg ho (by decide)).1 rfl (ne_1 _ _ _) (F.err hg ho (by decide)).2)))
  have hw := hi.to hW
  refine ew_Kr ?_
  first | refine ew_astore_n (pc := 5) dX1_turn_5 rfl (by decide) (p1_2 rfl) ?_ | refine ew_astore_nq (pc := 5) dX1_turn_5 rfl (by decide) (p1_2 rfl) ?_ | refine ew_astore_nN (pc := 5) dX1_turn_5 rfl (by decide) (p1_2 rfl) ?_
  refine ew_aload_n (pc := 6) dX1_turn_6 rfl ?_
  refine ew_cV0 (d' := 20) (pc := 7) vX1_416 (rd_of C.o) dX1_turn_7 (by decide) (ew_rm (Nat.le_of_ble_eq_true rfl)) ?_
  refine t_keep hg hM hD F (fun h2 hd2 b F2 eb k2 => ?_)
  obtain ⟨fb2, ft2, ρ2, C2⟩ := F2.cv
  have hxw2 := C2.n.w _ x hx
  have hdr := C2.n.ok.dr _ hw.1
  refine ew_Kv ?_
  refine ew_aload_n (pc := 10) dX1_turn_10 rfl ?_
  refine ew_aload_n (pc := 11) dX1_turn_11 rfl ?_
  refine ew_getf (pc := 12) fX1_261 (rd_of hxw2) rfl dX1_turn_12 ?_
  refine ew_if_ne (pc := 15) (tgt := 22) dX1_turn_15 (by decide) (fun c15 => ?_) (fun c15 => ?_)
  · refine ew_iconst (pc := 22) (v := 0) dX1_turn_22 rfl ?_
    first
    | exact s23 hi x hx h2 hd2 b F2 eb k2 _ (by rw [hdr.resolve_left c15]; decide)
    | exact s23 hi x hx h2 hd2 b F2 eb k2 _ (by rw [c15]; decide)
  · refine ew_iconst (pc := 18) (v := 1) dX1_turn_18 rfl ?_
    refine ew_goto (pc := 19) (tgt := 23) dX1_turn_19 (by decide) ?_
    first
    | exact s23 hi x hx h2 hd2 b F2 eb k2 _ (by rw [hdr.resolve_left c15]; decide)
    | exact s23 hi x hx h2 hd2 b F2 eb k2 _ (by rw [c15]; decide)
end
