/-! EW: rows that read and write the heap -/
set_option maxRecDepth 100000
/-- the field access: entry idx of the class own names field k of the class numbered ci -/
def ew_F (own : String) (idx ci k : Nat) : Prop := ∃ (C : String) (T : u_T) (N : Nat) (ref : String), ewCl[ci]? = some (C, T, N) ∧ k < N ∧ (∀ w ∈ u_ws C T N, w ∈ lw_all) ∧
  (ew_w (.fieldLink own idx ref (T k).2.1 (T k).2.2.1) ∨ ∃ host, ew_w (.fieldLinkNest own idx ref (T k).2.1 (T k).2.2.1 host)) ∧ (ref = (T k).1 ∨ ew_w (.sameField ref (T k).1 (T k).2.1 (T k).2.2.1))
/-- the same for a store: the field's type, and whether it is final -/
def ew_P (own : String) (idx ci k : Nat) (ty : FieldType) (fin : Bool) : Prop := ∃ (C : String) (T : u_T) (N : Nat) (ref : String) (ty0 : Nat → FieldType), ewCl[ci]? = some (C, T, N) ∧ k < N ∧ (∀ w ∈ u_ws C T N, w ∈ lw_all) ∧
  (ew_w (.fieldLink own idx ref (T k).2.1 (T k).2.2.1) ∨ (fin = false ∧ ∃ host, ew_w (.fieldLinkNest own idx ref (T k).2.1 (T k).2.2.1 host))) ∧ (ref = (T k).1 ∨ ew_w (.sameField ref (T k).1 (T k).2.1 (T k).2.2.1)) ∧
  (∀ j, j < N → parseFieldDescriptor (T j).2.2.1 = some (ty0 j)) ∧ (∀ a, a < N → ∀ b, b < N → a ≠ b → (T a).2.1 ≠ (T b).2.1) ∧ parseFieldDescriptor (T k).2.2.1 = some ty ∧ (T k).2.2.2 = fin ∧ (fin = true → (T k).1 = own)
theorem ew_lays {g : eg} {s : State} (hg : ew_good g s) (a : Array Value) : ∀ w ∈ lw_all, w.before a s = true := fun w hw => hg.word (ew_q hw) a
theorem ew_same {g : eg} {s : State} (hg : ew_good g s) (a : Array Value) {ref : String} {T : u_T} {k : Nat} (h : ref = (T k).1 ∨ ew_w (.sameField ref (T k).1 (T k).2.1 (T k).2.2.1)) : ∀ x, s.fieldFound? (T k).1 (T k).2.1 (T k).2.2.1 = some x → s.fieldFound? ref (T k).2.1 (T k).2.2.1 = some x := by
  intro x hx
  rcases h with h | h
  · rw [h]; exact hx
  · exact u_same (hg.word h a) x hx
theorem ew_getf {g : eg} {K : ek} {d pc : Nat} {L rest : List Value} {h : eh} {Q : Outcome → eh → Prop} {a ci k idx : Nat} {fs : List Value} {v : Value} (hf : ew_F K.1.cls idx ci k) (ha : rd g h a = some (ob ci fs)) (hv : fs[k]? = some v) (hdg : decode K.2.1 pc = .ok (.getfield idx, 3)) (kk : ew_G g K d (pc + 3) L (v :: rest) h Q) : ew_G g K d pc L (.ref a :: rest) h Q := by
  refine ew_purel ?_ kk
  intro p e R s m args below meth c C H locs cells slots ls Q' hs hl kk
  obtain ⟨hx, hb, hml, hr, hlk, hown, htab, hnm, hg, hfr, hlo⟩ := C
  obtain ⟨C, T, N, ref, hc, hk, hin, hlink, hsame⟩ := hf
  have hts := ew_lays hg args
  obtain ⟨r, h1, cell, q1, q2, q3, q4⟩ := hs.rd hg ha
  have hr : r = (C, T, N) := Option.some.inj (h1.symm.trans hc)
  subst hr
  obtain ⟨hS, hfc, kC, hkC, hkind⟩ := hg.2.1 ci _ hc
  obtain ⟨cf, kf, fi, f, hi, hsl⟩ := hS k hk
  have hst := (u_facts hfc hkC (u_lays hts hin hk) hi).1
  have hi2 := ew_same hg args hsame _ hi
  have hslot : cell.slots[f.slot]? = some v := by
    rw [hsl, q4 k hk]
    simp [vp_V, hv]
  rcases hlink with hlink | ⟨host, hlink⟩
  · exact W.getf hx hb hown (hg.word hlink _) hi2 hst q1 (by rw [q3]; exact fun h => by cases h) hslot rfl rfl hdg kk
  · exact va_Wgetf hx hb hown (hg.word hlink _) hi2 hst q1 (by rw [q3]; exact fun h => by cases h) hslot rfl rfl hdg kk
theorem ew_apart {g : eg} {s : State} (hg : ew_good g s) (args : Array Value) {C : String} {T : u_T} {N ci : Nat} {ty : Nat → FieldType} (hc : ewCl[ci]? = some (C, T, N)) (hin : ∀ w ∈ u_ws C T N, w ∈ lw_all) (hty : ∀ j, j < N → parseFieldDescriptor (T j).2.2.1 = some (ty j)) (hnm : ∀ a, a < N → ∀ b, b < N → a ≠ b → (T a).2.1 ≠ (T b).2.1) : ∀ x y, x < N → y < N → x ≠ y → ((eg_D g).2 ci) x ≠ ((eg_D g).2 ci) y := by
  intro x y hx hy hne
  have hts := ew_lays hg args
  obtain ⟨hS, -⟩ := hg.2.1 ci _ hc
  obtain ⟨_, _, _, fa, hia, ea⟩ := hS x hx
  obtain ⟨_, _, _, fb, hib, eb⟩ := hS y hy
  rw [← ea, ← eb]
  refine u_apart (u_lays hts hin hx) (u_lays hts hin hy) hia hib ?_
  rw [(State.fieldFound?_type hia (hty x hx)).1, (State.fieldFound?_type hib (hty y hy)).1]
  exact hnm x hx y hy hne
theorem ew_putf {g : eg} {K : ek} {d pc : Nat} {L rest : List Value} {h : eh} {Q : Outcome → eh → Prop} {a ci k idx : Nat} {fs fs1 : List Value} {v : Value} {ty : FieldType} {fin : Bool} (hf : ew_P K.1.cls idx ci k ty fin) (ha : h.1 a = some (ob ci fs)) (hset : fs.set k v = fs1) (hlen : k < fs.length) (hn : narrow ty v = v) (hfit : fits ty v = true) (hini : fin = true → K.1.name = "<init>") (hdg : decode K.2.1 pc = .ok (.putfield idx, 3)) (kk : ew_G g K d (pc + 3) L rest (eh_set h a (ob ci fs1)) Q) : ew_G g K d pc L (v :: .ref a :: rest) h Q := by
  subst hset
  refine ew_upd ha ?_ kk
  intro p e R s m args below meth c C H locs cells slots ls Q' hs hl hz kk
  obtain ⟨hx, hb, hml, hr, hlk, hown, htab, hnm9, hg, hfr, hlo⟩ := C
  obtain ⟨C, T, N, ref, ty0, hc, hk, hin, hlink, hsame, hty, hnm, hd, hfin, hdecl⟩ := hf
  have hts := ew_lays hg args
  have hap := ew_apart hg args hc hin hty hnm
  have hb9 := (hs.2.2.2 a _ ha).1
  obtain ⟨r, h1, cell, q1, q2, q3, q4⟩ := (hs.2.2.2 a _ ha).2
  have hr : r = (C, T, N) := Option.some.inj (h1.symm.trans hc)
  subst hr
  obtain ⟨hS, hfc, kC, hkC, hkind⟩ := hg.2.1 ci _ hc
  obtain ⟨cf, kf, fi, f, hi, hsl⟩ := hS k hk
  have hlay := hts _ (hin _ (u_in_lay hk))
  unfold u_lay at hlay
  have hst := (u_facts hfc hkC (u_lays hts hin hk) hi).1
  have hi2 := ew_same hg args hsame _ hi
  have fin9 : ∀ H' : Heap, H'[a]? = some (cell.setSlot f.slot v) → H'.size = H.size → (∀ q, q ≠ a → H'[q]? = H[q]?) → W p (eg_l g) e R s m args below meth c H' (locs ++ [⟨a, f.slot⟩]) cells slots Q' (F0 m (pc + 3) ls rest) := by
    intro H' e1 e2 e3
    rw [hsl] at e1 ⊢
    refine kk H' _ (hs.set ha ⟨_, hc, t_OB.to (V := updV (vp_V fs) k v) ⟨_, e1, q2, q3, t_set q4 hap hk v⟩ (fun j _ => vp_updV_set hlen v j)⟩ e2 e3) (fun z hz9 => ?_)
    rcases List.mem_append.mp hz9 with h9 | h9
    · exact hz z h9
    · rw [List.mem_singleton.mp h9]; exact hb9
  cases fin with
  | false =>
    rw [if_neg (by rw [hfin]; decide)] at hlay
    have h6 := u_store hfc hkC hkind hlay hi hd hn hfit
    rcases hlink with hlink | ⟨-, host, hlink⟩
    · exact W.putK hx hb (f := f) ⟨hown, hg.word hlink _, ⟨_, _, _, hi2⟩, hst⟩ (by rw [q2]; exact h6) q1 q3 (by rw [hsl]; exact k2_hasslot (q4 k hk)) rfl rfl hdg fin9
    · have ha9 : a < H.size := (Array.getElem?_eq_some_iff.mp q1).1
      refine va_Wputf hx hb hown (hg.word hlink _) hi2 hst (Or.inl h6.1) q1 (by rw [q3]; exact fun h => by cases h) (by rw [hsl]; exact k2_hasslot (q4 k hk)) h6.2.1 (by rw [q2, q3]; exact h6.2.2) rfl rfl hdg (fin9 _ ?_ ?_ ?_)
      · simp [Array.getElem?_setIfInBounds, ha9]
      · simp
      · intro q hq
        simp [Array.getElem?_setIfInBounds, Ne.symm hq]
  | true =>
    rw [if_pos hfin] at hlay
    have hcf : m.cls = cf := by
      obtain ⟨_, _, c', _, _, _, -, -, hf', -, -, -, hown2, -⟩ := Cond.laysFinal_spec hlay
      have e1 : c' = cf := by have := hi.symm.trans hf'; simp at this; exact this.1.symm
      rw [hdecl rfl] at hown2
      rw [← e1]; exact Option.some.inj (hown.symm.trans hown2)
    have h6 := u_fits hfc hkC hkind (Or.inr hlay) hi hd hn hfit
    rcases hlink with hlink | ⟨h9, -⟩
    · exact W.putFinK hx hb hown (hg.word hlink _) hi2 hst hcf (hnm9.trans (hini rfl)) (by rw [q2]; exact h6) q1 q3 (by rw [hsl]; exact k2_hasslot (q4 k hk)) rfl rfl hdg fin9
    · cases h9
theorem ew_tyl {t : Nat} {ty : FieldType} (h : ewTy[t]? = some ty) : t < ewTy.length := (List.getElem?_eq_some_iff.mp h).1
theorem ew_iald {g : eg} {K : ek} {d pc : Nat} {L rest : List Value} {h : eh} {Q : Outcome → eh → Prop} {a n : Nat} {f : Nat → Int32} {i : Int32} (ha : rd g h a = some (.inl (0, n, .inl f))) (hin : vp_in i n) (hdg : decode K.2.1 pc = .ok (.iaload, 1)) (kk : ew_G g K d (pc + 1) L (.int (f i.toNatClampNeg) :: rest) h Q) : ew_G g K d pc L (.int i :: .ref a :: rest) h Q := by
  refine ew_purel ?_ kk
  intro p e R s m args below meth c C H locs cells slots ls Q' hs hl kk
  obtain ⟨hx, hb, hml, hr, hlk, hown, htab, hnm, hg, hfr, hlo⟩ := C
  have hlt : i.toNatClampNeg < n := Nat.not_le.mp fun q => hin (Or.inr q)
  exact W.iald (v := .int (f i.toNatClampNeg)) hx hb (hs.rd hg ha).1 ((hg.2.2.1 0 _ rfl).1 n (fun j => .int (f j))) (fun q => by cases q) (by show ¬ (i < 0 ∨ (arrV _ _ _).slots.size ≤ _); rw [arrV_size]; exact hin) (by show (arrV _ _ _).slots[_]? = _; rw [arrV_read _ _ hlt]) rfl rfl hdg kk
theorem ew_bald {g : eg} {K : ek} {d pc : Nat} {L rest : List Value} {h : eh} {Q : Outcome → eh → Prop} {a n : Nat} {f : Nat → Int32} {i : Int32} (ha : rd g h a = some (.inl (1, n, .inl f))) (hin : vp_in i n) (hdg : decode K.2.1 pc = .ok (.baload, 1)) (kk : ew_G g K d (pc + 1) L (.int (f i.toNatClampNeg) :: rest) h Q) : ew_G g K d pc L (.int i :: .ref a :: rest) h Q := by
  refine ew_purel ?_ kk
  intro p e R s m args below meth c C H locs cells slots ls Q' hs hl kk
  obtain ⟨hx, hb, hml, hr, hlk, hown, htab, hnm, hg, hfr, hlo⟩ := C
  have hlt : i.toNatClampNeg < n := Nat.not_le.mp fun q => hin (Or.inr q)
  exact W.bald (v := .int (f i.toNatClampNeg)) hx hb (hs.rd hg ha).1 ((hg.2.2.1 1 _ rfl).1 n (fun j => .int (f j))) (fun q => by cases q) (by show ¬ (i < 0 ∨ (arrV _ _ _).slots.size ≤ _); rw [arrV_size]; exact hin) (by show (arrV _ _ _).slots[_]? = _; rw [arrV_read _ _ hlt]) rfl rfl hdg kk
theorem ew_zald {g : eg} {K : ek} {d pc : Nat} {L rest : List Value} {h : eh} {Q : Outcome → eh → Prop} {a n : Nat} {f : Nat → Int32} {i : Int32} (ha : rd g h a = some (.inl (4, n, .inl f))) (hin : vp_in i n) (hdg : decode K.2.1 pc = .ok (.baload, 1)) (kk : ew_G g K d (pc + 1) L (.int (f i.toNatClampNeg) :: rest) h Q) : ew_G g K d pc L (.int i :: .ref a :: rest) h Q := by
  refine ew_purel ?_ kk
  intro p e R s m args below meth c C H locs cells slots ls Q' hs hl kk
  obtain ⟨hx, hb, hml, hr, hlk, hown, htab, hnm, hg, hfr, hlo⟩ := C
  have hlt : i.toNatClampNeg < n := Nat.not_le.mp fun q => hin (Or.inr q)
  exact W.zald (v := .int (f i.toNatClampNeg)) hx hb (hs.rd hg ha).1 ((hg.2.2.1 4 _ rfl).1 n (fun j => .int (f j))) (fun q => by cases q) (by show ¬ (i < 0 ∨ (arrV _ _ _).slots.size ≤ _); rw [arrV_size]; exact hin) (by show (arrV _ _ _).slots[_]? = _; rw [arrV_read _ _ hlt]) rfl rfl hdg kk
theorem ew_lald {g : eg} {K : ek} {d pc : Nat} {L rest : List Value} {h : eh} {Q : Outcome → eh → Prop} {a n : Nat} {f : Nat → Int64} {i : Int32} (ha : rd g h a = some (.inl (2, n, .inr (.inl f)))) (hin : vp_in i n) (hdg : decode K.2.1 pc = .ok (.laload, 1)) (kk : ew_G g K d (pc + 1) L (.long (f i.toNatClampNeg) :: rest) h Q) : ew_G g K d pc L (.int i :: .ref a :: rest) h Q := by
  refine ew_purel ?_ kk
  intro p e R s m args below meth c C H locs cells slots ls Q' hs hl kk
  obtain ⟨hx, hb, hml, hr, hlk, hown, htab, hnm, hg, hfr, hlo⟩ := C
  have hlt : i.toNatClampNeg < n := Nat.not_le.mp fun q => hin (Or.inr q)
  exact W.lald (v := .long (f i.toNatClampNeg)) hx hb (hs.rd hg ha).1 ((hg.2.2.1 2 _ rfl).1 n (fun j => .long (f j))) (fun q => by cases q) (by show ¬ (i < 0 ∨ (arrV _ _ _).slots.size ≤ _); rw [arrV_size]; exact hin) (by show (arrV _ _ _).slots[_]? = _; rw [arrV_read _ _ hlt]) rfl rfl hdg kk
theorem ew_dald {g : eg} {K : ek} {d pc : Nat} {L rest : List Value} {h : eh} {Q : Outcome → eh → Prop} {a n : Nat} {f : Nat → UInt64} {i : Int32} (ha : rd g h a = some (.inl (3, n, .inr (.inr (.inr (.inl f)))))) (hin : vp_in i n) (hdg : decode K.2.1 pc = .ok (.daload, 1)) (kk : ew_G g K d (pc + 1) L (.double (f i.toNatClampNeg) :: rest) h Q) : ew_G g K d pc L (.int i :: .ref a :: rest) h Q := by
  refine ew_purel ?_ kk
  intro p e R s m args below meth c C H locs cells slots ls Q' hs hl kk
  obtain ⟨hx, hb, hml, hr, hlk, hown, htab, hnm, hg, hfr, hlo⟩ := C
  have hlt : i.toNatClampNeg < n := Nat.not_le.mp fun q => hin (Or.inr q)
  exact W.dald (v := .double (f i.toNatClampNeg)) hx hb (hs.rd hg ha).1 ((hg.2.2.1 3 _ rfl).1 n (fun j => .double (f j))) (fun q => by cases q) (by show ¬ (i < 0 ∨ (arrV _ _ _).slots.size ≤ _); rw [arrV_size]; exact hin) (by show (arrV _ _ _).slots[_]? = _; rw [arrV_read _ _ hlt]) rfl rfl hdg kk
theorem ew_aald {g : eg} {K : ek} {d pc : Nat} {L rest : List Value} {h : eh} {Q : Outcome → eh → Prop} {a t n : Nat} {E : String} {f : Nat → Option Nat} {i : Int32} (ht : ewTy[t]? = some (.object E)) (ha : rd g h a = some (aR t n f)) (hin : vp_in i n) (hdg : decode K.2.1 pc = .ok (.aaload, 1)) (kk : ew_G g K d (pc + 1) L (va_rf (f i.toNatClampNeg) :: rest) h Q) : ew_G g K d pc L (.int i :: .ref a :: rest) h Q := by
  refine ew_purel ?_ kk
  intro p e R s m args below meth c C H locs cells slots ls Q' hs hl kk
  obtain ⟨hx, hb, hml, hr, hlk, hown, htab, hnm, hg, hfr, hlo⟩ := C
  have hlt : i.toNatClampNeg < n := Nat.not_le.mp fun q => hin (Or.inr q)
  exact W.aald (v := va_rf (f i.toNatClampNeg)) (ty := .object E) hx hb (hs.rd hg ha).1 ((hg.2.2.1 t _ ht).1 n (fun j => va_rf (f j))) rfl (fun q => by cases q) (by show ¬ (i < 0 ∨ (arrV _ _ _).slots.size ≤ _); rw [arrV_size]; exact hin) (by show (arrV _ _ _).slots[_]? = _; rw [arrV_read _ _ hlt]) rfl rfl hdg kk
theorem ew_alen {g : eg} {K : ek} {d pc : Nat} {L rest : List Value} {h : eh} {Q : Outcome → eh → Prop} {a t : Nat} {x : vp_A} {v : Int32} (ha : rd g h a = some (.inl (t, x))) (hv : Int32.ofNat x.1 = v) (hdg : decode K.2.1 pc = .ok (.arraylength, 1)) (kk : ew_G g K d (pc + 1) L (.int v :: rest) h Q) : ew_G g K d pc L (.ref a :: rest) h Q := by
  subst hv
  refine ew_purel ?_ kk
  intro p e R s m args below meth c C H locs cells slots ls Q' hs hl kk
  obtain ⟨hx, hb, hml, hr, hlk, hown, htab, hnm, hg, hfr, hlo⟩ := C
  have h1 := hs.rd hg ha
  have ht : ewTy[t]? = some (ewTy[t]'h1.2) := List.getElem?_eq_getElem h1.2
  obtain ⟨n, f | f | f | f | f⟩ := x
  · exact W.alen (n := Int32.ofNat n) hx hb h1.1 ((hg.2.2.1 t _ ht).1 n (fun j => .int (f j))) (by rw [vp_cell_i, arrV_size] <;> rfl) rfl rfl hdg kk
  · exact W.alen (n := Int32.ofNat n) hx hb h1.1 ((hg.2.2.1 t _ ht).1 n (fun j => .long (f j))) (by rw [vp_cell_l, arrV_size] <;> rfl) rfl rfl hdg kk
  · exact W.alen (n := Int32.ofNat n) hx hb h1.1 ((hg.2.2.1 t _ ht).1 n (fun j => .float (f j))) (by rw [vp_cell_f, arrV_size] <;> rfl) rfl rfl hdg kk
  · exact W.alen (n := Int32.ofNat n) hx hb h1.1 ((hg.2.2.1 t _ ht).1 n (fun j => .double (f j))) (by rw [vp_cell_d, arrV_size] <;> rfl) rfl rfl hdg kk
  · exact W.alen (n := Int32.ofNat n) hx hb h1.1 ((hg.2.2.1 t _ ht).1 n (fun j => va_rf (f j))) (by rw [vp_cell_q, arrV_size] <;> rfl) rfl rfl hdg kk
theorem ew_iast {g : eg} {K : ek} {d pc : Nat} {L rest : List Value} {h : eh} {Q : Outcome → eh → Prop} {a n : Nat} {f : Nat → Int32} {i : Int32} {x : Int32} (ha : h.1 a = some (.inl (0, n, .inl f))) (hin : vp_in i n) (hdg : decode K.2.1 pc = .ok (.iastore, 1)) (kk : ew_G g K d (pc + 1) L rest (eh_set h a (.inl (0, n, .inl (upd f i.toNatClampNeg x)))) Q) : ew_G g K d pc L (.int x :: .int i :: .ref a :: rest) h Q := by
  refine ew_upd ha ?_ kk
  intro p e R s m args below meth c C H locs cells slots ls Q' hs hl hz kk
  obtain ⟨hx, hb, hml, hr, hlk, hown, htab, hnm, hg, hfr, hlo⟩ := C
  have hlt : i.toNatClampNeg < n := Nat.not_le.mp fun q => hin (Or.inr q)
  have hb9 := (hs.2.2.2 a _ ha).1
  refine W.iast hx hb (hs.2.2.2 a _ ha).2.1 ((hg.2.2.1 0 _ rfl).1 n (fun j => .int (f j))) (fun q => by cases q) (by show ¬ (i < 0 ∨ (arrV _ _ _).slots.size ≤ _); rw [arrV_size]; exact hin) rfl rfl hdg fun H1 e z oq => ?_
  refine kk H1 _ (hs.set ha ⟨?_, (hs.2.2.2 a _ ha).2.2⟩ z oq) (fun z hz9 => ?_)
  · show H1[a]? = some (vp_cell _ _)
    rw [e]
    rw [vp_cell_i, vp_cell_i, arrV_store]
    congr 2
    funext q
    by_cases hq : q = i.toNatClampNeg
    · subst hq
      simp [updV, upd]
    · simp [updV, upd, hq]
  · rcases List.mem_append.mp hz9 with h9 | h9
    · exact hz z h9
    · rw [List.mem_singleton.mp h9]; exact hb9
theorem ew_bast {g : eg} {K : ek} {d pc : Nat} {L rest : List Value} {h : eh} {Q : Outcome → eh → Prop} {a n : Nat} {f : Nat → Int32} {i : Int32} {x : Int32} (ha : h.1 a = some (.inl (1, n, .inl f))) (hin : vp_in i n) (hdg : decode K.2.1 pc = .ok (.bastore, 1)) (kk : ew_G g K d (pc + 1) L rest (eh_set h a (.inl (1, n, .inl (upd f i.toNatClampNeg (vp_nar .byte x))))) Q) : ew_G g K d pc L (.int x :: .int i :: .ref a :: rest) h Q := by
  refine ew_upd ha ?_ kk
  intro p e R s m args below meth c C H locs cells slots ls Q' hs hl hz kk
  obtain ⟨hx, hb, hml, hr, hlk, hown, htab, hnm, hg, hfr, hlo⟩ := C
  have hlt : i.toNatClampNeg < n := Nat.not_le.mp fun q => hin (Or.inr q)
  have hb9 := (hs.2.2.2 a _ ha).1
  refine W.bast hx hb (hs.2.2.2 a _ ha).2.1 ((hg.2.2.1 1 _ rfl).1 n (fun j => .int (f j))) (fun q => by cases q) (by show ¬ (i < 0 ∨ (arrV _ _ _).slots.size ≤ _); rw [arrV_size]; exact hin) rfl rfl hdg fun H1 e z oq => ?_
  refine kk H1 _ (hs.set ha ⟨?_, (hs.2.2.2 a _ ha).2.2⟩ z oq) (fun z hz9 => ?_)
  · show H1[a]? = some (vp_cell _ _)
    rw [e]
    rw [vp_cell_i, vp_cell_i, arrV_store]
    congr 2
    funext q
    by_cases hq : q = i.toNatClampNeg
    · subst hq
      simp [updV, upd, vp_nar]
      try rfl
    · simp [updV, upd, hq]
  · rcases List.mem_append.mp hz9 with h9 | h9
    · exact hz z h9
    · rw [List.mem_singleton.mp h9]; exact hb9
theorem ew_zast {g : eg} {K : ek} {d pc : Nat} {L rest : List Value} {h : eh} {Q : Outcome → eh → Prop} {a n : Nat} {f : Nat → Int32} {i : Int32} {x : Int32} (ha : h.1 a = some (.inl (4, n, .inl f))) (hin : vp_in i n) (hdg : decode K.2.1 pc = .ok (.bastore, 1)) (kk : ew_G g K d (pc + 1) L rest (eh_set h a (.inl (4, n, .inl (upd f i.toNatClampNeg (vp_nar .boolean x))))) Q) : ew_G g K d pc L (.int x :: .int i :: .ref a :: rest) h Q := by
  refine ew_upd ha ?_ kk
  intro p e R s m args below meth c C H locs cells slots ls Q' hs hl hz kk
  obtain ⟨hx, hb, hml, hr, hlk, hown, htab, hnm, hg, hfr, hlo⟩ := C
  have hlt : i.toNatClampNeg < n := Nat.not_le.mp fun q => hin (Or.inr q)
  have hb9 := (hs.2.2.2 a _ ha).1
  refine W.zast hx hb (hs.2.2.2 a _ ha).2.1 ((hg.2.2.1 4 _ rfl).1 n (fun j => .int (f j))) (fun q => by cases q) (by show ¬ (i < 0 ∨ (arrV _ _ _).slots.size ≤ _); rw [arrV_size]; exact hin) rfl rfl hdg fun H1 e z oq => ?_
  refine kk H1 _ (hs.set ha ⟨?_, (hs.2.2.2 a _ ha).2.2⟩ z oq) (fun z hz9 => ?_)
  · show H1[a]? = some (vp_cell _ _)
    rw [e]
    rw [vp_cell_i, vp_cell_i, arrV_store]
    congr 2
    funext q
    by_cases hq : q = i.toNatClampNeg
    · subst hq
      simp [updV, upd, vp_nar]
      try rfl
    · simp [updV, upd, hq]
  · rcases List.mem_append.mp hz9 with h9 | h9
    · exact hz z h9
    · rw [List.mem_singleton.mp h9]; exact hb9
theorem ew_last {g : eg} {K : ek} {d pc : Nat} {L rest : List Value} {h : eh} {Q : Outcome → eh → Prop} {a n : Nat} {f : Nat → Int64} {i : Int32} {x : Int64} (ha : h.1 a = some (.inl (2, n, .inr (.inl f)))) (hin : vp_in i n) (hdg : decode K.2.1 pc = .ok (.lastore, 1)) (kk : ew_G g K d (pc + 1) L rest (eh_set h a (.inl (2, n, .inr (.inl (vp_updL f i.toNatClampNeg x))))) Q) : ew_G g K d pc L (.long x :: .int i :: .ref a :: rest) h Q := by
  refine ew_upd ha ?_ kk
  intro p e R s m args below meth c C H locs cells slots ls Q' hs hl hz kk
  obtain ⟨hx, hb, hml, hr, hlk, hown, htab, hnm, hg, hfr, hlo⟩ := C
  have hlt : i.toNatClampNeg < n := Nat.not_le.mp fun q => hin (Or.inr q)
  have hb9 := (hs.2.2.2 a _ ha).1
  refine W.last hx hb (hs.2.2.2 a _ ha).2.1 ((hg.2.2.1 2 _ rfl).1 n (fun j => .long (f j))) (fun q => by cases q) (by show ¬ (i < 0 ∨ (arrV _ _ _).slots.size ≤ _); rw [arrV_size]; exact hin) rfl rfl hdg fun H1 e z oq => ?_
  refine kk H1 _ (hs.set ha ⟨?_, (hs.2.2.2 a _ ha).2.2⟩ z oq) (fun z hz9 => ?_)
  · show H1[a]? = some (vp_cell _ _)
    rw [e]
    rw [vp_cell_l, vp_cell_l, arrV_store]
    congr 2
    funext q
    by_cases hq : q = i.toNatClampNeg
    · subst hq
      simp [updV, vp_updL]
    · simp [updV, vp_updL, hq]
  · rcases List.mem_append.mp hz9 with h9 | h9
    · exact hz z h9
    · rw [List.mem_singleton.mp h9]; exact hb9
theorem ew_dast {g : eg} {K : ek} {d pc : Nat} {L rest : List Value} {h : eh} {Q : Outcome → eh → Prop} {a n : Nat} {f : Nat → UInt64} {i : Int32} {x : UInt64} (ha : h.1 a = some (.inl (3, n, .inr (.inr (.inr (.inl f)))))) (hin : vp_in i n) (hdg : decode K.2.1 pc = .ok (.dastore, 1)) (kk : ew_G g K d (pc + 1) L rest (eh_set h a (.inl (3, n, .inr (.inr (.inr (.inl (vf_upd f i.toNatClampNeg x))))))) Q) : ew_G g K d pc L (.double x :: .int i :: .ref a :: rest) h Q := by
  refine ew_upd ha ?_ kk
  intro p e R s m args below meth c C H locs cells slots ls Q' hs hl hz kk
  obtain ⟨hx, hb, hml, hr, hlk, hown, htab, hnm, hg, hfr, hlo⟩ := C
  have hlt : i.toNatClampNeg < n := Nat.not_le.mp fun q => hin (Or.inr q)
  have hb9 := (hs.2.2.2 a _ ha).1
  refine W.dast hx hb (hs.2.2.2 a _ ha).2.1 ((hg.2.2.1 3 _ rfl).1 n (fun j => .double (f j))) (fun q => by cases q) (by show ¬ (i < 0 ∨ (arrV _ _ _).slots.size ≤ _); rw [arrV_size]; exact hin) rfl rfl hdg fun H1 e z oq => ?_
  refine kk H1 _ (hs.set ha ⟨?_, (hs.2.2.2 a _ ha).2.2⟩ z oq) (fun z hz9 => ?_)
  · show H1[a]? = some (vp_cell _ _)
    rw [e]
    rw [vp_cell_d, vp_cell_d, arrV_store]
    congr 2
    funext q
    by_cases hq : q = i.toNatClampNeg
    · subst hq
      simp [updV, vf_upd]
    · simp [updV, vf_upd, hq]
  · rcases List.mem_append.mp hz9 with h9 | h9
    · exact hz z h9
    · rw [List.mem_singleton.mp h9]; exact hb9
theorem ew_zl {g : eg} {locs : List Loc} {a j : Nat} (hz : ∀ z ∈ locs, eb g ≤ z.base) (hb9 : eb g ≤ a) : ∀ z ∈ locs ++ [(⟨a, j⟩ : Loc)], eb g ≤ z.base := by
  intro z hz9
  rcases List.mem_append.mp hz9 with h9 | h9
  · exact hz z h9
  · rw [List.mem_singleton.mp h9]; exact hb9
theorem ew_recv {g : eg} {s : State} {H : Heap} {a ci : Nat} {r : vw_C} {fs : List Value} (hg : ew_good g s) (hc : ewCl[ci]? = some r) (he : ew_at g a (ob ci fs) H) : ∃ cell : Cell, H[a]? = some cell ∧ cell.vm.isStatics = false ∧ s.vm.findClass r.1 = some cell.cls := by
  obtain ⟨q', h1, cell, g1, g2, g3, -⟩ := he
  exact ⟨cell, g1, by rw [g3]; rfl, by rw [g2]; exact (hg.2.1 ci r hc).2.1⟩
/-- a reference is laid into an array of a type that its class is cast to -/
theorem ew_aast {g : eg} {K : ek} {d pc : Nat} {L rest : List Value} {h : eh} {Q : Outcome → eh → Prop} {a t n v ci : Nat} {E : String} {r : vw_C} {vs : List Value} {f : Nat → Option Nat} {i : Int32} (ht : ewTy[t]? = some (.object E)) (ha : h.1 a = some (aR t n f)) (hc : ewCl[ci]? = some r) (hv : rd g h v = some (ob ci vs)) (hca : r.1 = E ∨ ew_w (.castable r.1 E)) (hin : vp_in i n) (hdg : decode K.2.1 pc = .ok (.aastore, 1))
    (kk : ew_G g K d (pc + 1) L rest (eh_set h a (aR t n (va_up f i.toNatClampNeg (some v)))) Q) (h8 : t ≠ 8 := by decide) : ew_G g K d pc L (.ref v :: .int i :: .ref a :: rest) h Q := by
  refine ew_upd ha ?_ kk
  intro p e R s m args below meth c C H locs cells slots ls Q' hs hl hz kk
  obtain ⟨hx, hb, hml, hr, hlk, hown, htab, hnm, hg, hfr, hlo⟩ := C
  have hlt : i.toNatClampNeg < n := Nat.not_le.mp fun q => hin (Or.inr q)
  have h0 : ¬ i < 0 := fun q => hin (Or.inl q)
  have hb9 := (hs.2.2.2 a _ ha).1
  obtain ⟨r', hr', cellV, g1, g2, g3, -⟩ := hs.rd hg hv
  have hcls := (hg.2.1 ci r hc).2
  obtain ⟨kA, comp, k1, k2, k3, -⟩ := (hg.2.2.1 t _ ht).2 h8
  obtain ⟨kC, hkC, hkind⟩ := hcls.2
  have hasg : s.vm.assignable ((eg_D g).1 ci) comp = true := by
    rcases hca with hca | hca
    · have hcomp : comp = (eg_D g).1 ci := Option.some.inj (k3.symm.trans (by rw [← hca]; exact hcls.1))
      rw [hcomp]
      exact va_assign hcls
    · obtain ⟨c3, c4, hc3, hc4, hasg⟩ := Cond.castable_spec (hg.word hca args)
      cases Option.some.inj (hc3.symm.trans hcls.1)
      cases Option.some.inj (hc4.symm.trans k3)
      exact hasg
  obtain ⟨kcomp, hkcomp, -⟩ := Vm.findClass_spec k3
  refine W.aast hx hb (hs.2.2.2 a _ ha).2.1 (fun q h => by cases h) (fun h => by cases h) k1 k2 rfl hkcomp ⟨h0, by show _ < (arrV _ _ _).slots.size; rw [arrV_size]; exact hlt⟩ g1 (fun q h => by rw [g3] at h; cases h) (by rw [g2]; exact hkC) (by rw [g2]; exact hasg) rfl rfl hdg fun H1 e z oq => ?_
  refine kk H1 _ (hs.set ha ⟨?_, (hs.2.2.2 a _ ha).2.2⟩ z oq) (ew_zl hz hb9)
  show H1[a]? = some (vp_cell _ _)
  rw [e]
  rw [vp_cell_q, vp_cell_q, arrV_store]
  congr 2
  funext q
  by_cases hq : q = i.toNatClampNeg
  · subst hq
    simp [updV, va_up, va_rf]
  · simp [updV, va_up, hq]
theorem ew_aastN {g : eg} {K : ek} {d pc : Nat} {L rest : List Value} {h : eh} {Q : Outcome → eh → Prop} {a t n : Nat} {E : String} {f : Nat → Option Nat} {i : Int32} (ht : ewTy[t]? = some (.object E)) (ha : h.1 a = some (aR t n f)) (hin : vp_in i n) (hdg : decode K.2.1 pc = .ok (.aastore, 1))
    (kk : ew_G g K d (pc + 1) L rest (eh_set h a (aR t n (va_up f i.toNatClampNeg none))) Q) : ew_G g K d pc L (.null :: .int i :: .ref a :: rest) h Q := by
  refine ew_upd ha ?_ kk
  intro p e R s m args below meth c C H locs cells slots ls Q' hs hl hz kk
  obtain ⟨hx, hb, hml, hr, hlk, hown, htab, hnm, hg, hfr, hlo⟩ := C
  have hb9 := (hs.2.2.2 a _ ha).1
  refine va_WaastN (C := E) hx hb (hs.2.2.2 a _ ha).2.1 ((hg.2.2.1 t _ ht).1 n (fun j => va_rf (f j))) (fun h => by cases h) (by show ¬ (i < 0 ∨ (arrV _ _ _).slots.size ≤ _); rw [arrV_size]; exact hin) rfl rfl hdg fun H1 e z oq => ?_
  refine kk H1 _ (hs.set ha ⟨?_, (hs.2.2.2 a _ ha).2.2⟩ z oq) (ew_zl hz hb9)
  show H1[a]? = some (vp_cell _ _)
  rw [e]
  rw [vp_cell_q, vp_cell_q, arrV_store]
  congr 2
  funext q
  by_cases hq : q = i.toNatClampNeg
  · subst hq
    simp [updV, va_up, va_rf]
  · simp [updV, va_up, hq]
/-- what 'new' asks: the entry, the class's number, its fields at the beginning -/
def ew_N (own : String) (idx ci : Nat) (fs : List Value) : Prop := ∃ (C : String) (T : u_T) (N : Nat) (ty : Nat → FieldType), ewCl[ci]? = some (C, T, N) ∧ (∀ w ∈ u_ws C T N, w ∈ lw_all) ∧ (∀ j, j < N → parseFieldDescriptor (T j).2.2.1 = some (ty j)) ∧ ew_w (.classLink own idx C) ∧ ew_w (.instantiable C N) ∧ ew_w (.initialized C) ∧ fs.length = N ∧ ∀ j, j < N → defaultValue (ty j) = vp_V fs j
theorem ew_new {g : eg} {K : ek} {d pc : Nat} {L rest : List Value} {h : eh} {Q : Outcome → eh → Prop} {ci idx : Nat} {fs : List Value} (hn : ew_N K.1.cls idx ci fs) (hdg : decode K.2.1 pc = .ok (.new idx, 3)) (kk : ew_G g K d (pc + 3) L (.ref h.2.1 :: rest) (eh_new h (ob ci fs) fs.length) Q) : ew_G g K d pc L rest h Q := by
  refine ew_gen (h1 := eh_new h (ob ci fs) fs.length) (Nat.le_succ _) (Nat.le_add_right _ _) (fun h9 => h9.new) ?_ kk
  intro p e R s m args below meth c C H locs cells slots ls Q' hs hl hz hcel hsl kk
  obtain ⟨hx, hb, hml, hr, hlk, hown, htab, hnm, hg, hfr, hlo⟩ := C
  obtain ⟨C, T, N, ty, hc, hin, hty, w1, w2, w3, hlen, hfs⟩ := hn
  have hts := ew_lays hg args
  have hKn := hg.2.1 ci _ hc
  have z1 : (eh_new h (ob ci fs) fs.length).2.1 - h.2.1 = 1 := by show h.2.1 + 1 - h.2.1 = 1; omega
  have z2 : (eh_new h (ob ci fs) fs.length).2.2 - h.2.2 = N := by show h.2.2 + fs.length - h.2.2 = N; omega
  rw [z1] at hcel kk
  rw [z2] at hsl kk
  refine W.newcK hx hb hown (hg.word w1 _) (hg.word w2 _) (hg.word w3 _) rfl hdg hcel hsl hKn.2.1 hs.1 fun H1 kC hkC e1 z1 o1 => ?_
  rw [← hs.1] at e1 z1 o1
  exact kk H1 locs ls (hs.new _ ⟨_, hc, (u_born ty hts hin hKn hkC e1 hty).to hfs⟩ z1 o1) hl hz
/-- newarray: t the type's number, a0 the contents at the beginning -/
theorem ew_newa {g : eg} {K : ek} {d pc : Nat} {L rest : List Value} {h : eh} {Q : Outcome → eh → Prop} {t N : Nat} {ty : FieldType} {atype : ArrayType} {n : Int32} {a0 : vp_A} (ht : ewTy[t]? = some ty) (hty : newarray.typeOf atype = ty) (hw : ew_w (.arrayClass (newarray.typeOf atype))) (hra : ∀ cA : ClassId, vp_cell cA a0 = arrV cA N (fun _ => defaultValue ty)) (hprim : ∀ U cA, va_RA U cA ty → U.vm.findClass ("[" ++ ty.toString) = some cA) (hn : ¬ n < 0) (hN : n.toNatClampNeg = N) (hbytes : N * componentBytes ty ≤ 536870912) (hdg : decode K.2.1 pc = .ok (.newarray atype, 2))
    (kk : ew_G g K d (pc + 2) L (.ref h.2.1 :: rest) (eh_new h (.inl (t, a0)) N) Q) (h8 : t ≠ 8 := by decide) : ew_G g K d pc L (.int n :: rest) h Q := by
  subst hty
  refine ew_gen (h1 := eh_new h (.inl (t, a0)) N) (Nat.le_succ _) (Nat.le_add_right _ _) (fun h9 => h9.new) ?_ kk
  intro p e R s m args below meth c C H locs cells slots ls Q' hs hl hz hcel hsl kk
  obtain ⟨hx, hb, hml, hr, hlk, hown, htab, hnm, hg, hfr, hlo⟩ := C
  have z1 : (eh_new h (.inl (t, a0)) N).2.1 - h.2.1 = 1 := by show h.2.1 + 1 - h.2.1 = 1; omega
  have z2 : (eh_new h (.inl (t, a0)) N).2.2 - h.2.2 = N := by show h.2.2 + N - h.2.2 = N; omega
  rw [z1] at hcel kk
  rw [z2] at hsl kk
  refine va_newaK hx hb (hg.word hw _) rfl hdg rfl hn hN hbytes hcel hsl hs.1 fun H1 cA e1 z1 o1 hAr hNm => ?_
  rw [← hs.1] at e1 z1 o1
  have hid : cA = eg_t g t := Option.some.inj (hNm.symm.trans (hprim _ _ ((hg.2.2.1 t _ ht).2 h8)))
  subst hid
  exact kk H1 locs ls (hs.new _ ⟨by rw [hra]; exact e1, ew_tyl ht⟩ z1 o1) hl hz
theorem ew_newI {g : eg} {K : ek} {d pc : Nat} {L rest : List Value} {h : eh} {Q : Outcome → eh → Prop} {N : Nat} {n : Int32} (hw : ew_w (.arrayClass .int)) (hn : ¬ n < 0) (hN : n.toNatClampNeg = N) (hbytes : N * 4 ≤ 536870912) (hdg : decode K.2.1 pc = .ok (.newarray .int, 2)) (kk : ew_G g K d (pc + 2) L (.ref h.2.1 :: rest) (eh_new h (aI N (fun _ => 0)) N) Q) : ew_G g K d pc L (.int n :: rest) h Q :=
  ew_newa (t := 0) (ty := .int) (atype := .int) rfl rfl hw (fun cA => rfl) (fun U cA h => h) hn hN hbytes hdg kk
theorem ew_newB {g : eg} {K : ek} {d pc : Nat} {L rest : List Value} {h : eh} {Q : Outcome → eh → Prop} {N : Nat} {n : Int32} (hw : ew_w (.arrayClass .byte)) (hn : ¬ n < 0) (hN : n.toNatClampNeg = N) (hbytes : N * 1 ≤ 536870912) (hdg : decode K.2.1 pc = .ok (.newarray .byte, 2)) (kk : ew_G g K d (pc + 2) L (.ref h.2.1 :: rest) (eh_new h (aB N (fun _ => 0)) N) Q) : ew_G g K d pc L (.int n :: rest) h Q :=
  ew_newa (t := 1) (ty := .byte) (atype := .byte) rfl rfl hw (fun cA => rfl) (fun U cA h => h) hn hN hbytes hdg kk
theorem ew_newZ {g : eg} {K : ek} {d pc : Nat} {L rest : List Value} {h : eh} {Q : Outcome → eh → Prop} {N : Nat} {n : Int32} (hw : ew_w (.arrayClass .boolean)) (hn : ¬ n < 0) (hN : n.toNatClampNeg = N) (hbytes : N * 1 ≤ 536870912) (hdg : decode K.2.1 pc = .ok (.newarray .boolean, 2)) (kk : ew_G g K d (pc + 2) L (.ref h.2.1 :: rest) (eh_new h (aZ N (fun _ => 0)) N) Q) : ew_G g K d pc L (.int n :: rest) h Q :=
  ew_newa (t := 4) (ty := .boolean) (atype := .boolean) rfl rfl hw (fun cA => rfl) (fun U cA h => h) hn hN hbytes hdg kk
theorem ew_newJ {g : eg} {K : ek} {d pc : Nat} {L rest : List Value} {h : eh} {Q : Outcome → eh → Prop} {N : Nat} {n : Int32} (hw : ew_w (.arrayClass .long)) (hn : ¬ n < 0) (hN : n.toNatClampNeg = N) (hbytes : N * 8 ≤ 536870912) (hdg : decode K.2.1 pc = .ok (.newarray .long, 2)) (kk : ew_G g K d (pc + 2) L (.ref h.2.1 :: rest) (eh_new h (aJ N (fun _ => 0)) N) Q) : ew_G g K d pc L (.int n :: rest) h Q :=
  ew_newa (t := 2) (ty := .long) (atype := .long) rfl rfl hw (fun cA => rfl) (fun U cA h => h) hn hN hbytes hdg kk
theorem ew_newD {g : eg} {K : ek} {d pc : Nat} {L rest : List Value} {h : eh} {Q : Outcome → eh → Prop} {N : Nat} {n : Int32} (hw : ew_w (.arrayClass .double)) (hn : ¬ n < 0) (hN : n.toNatClampNeg = N) (hbytes : N * 8 ≤ 536870912) (hdg : decode K.2.1 pc = .ok (.newarray .double, 2)) (kk : ew_G g K d (pc + 2) L (.ref h.2.1 :: rest) (eh_new h (aD N (fun _ => 0)) N) Q) : ew_G g K d pc L (.int n :: rest) h Q :=
  ew_newa (t := 3) (ty := .double) (atype := .double) rfl rfl hw (fun cA => rfl) (fun U cA h => h) hn hN hbytes hdg kk
theorem ew_newR {g : eg} {K : ek} {d pc : Nat} {L rest : List Value} {h : eh} {Q : Outcome → eh → Prop} {t N idx : Nat} {E : String} {n : Int32} (ht : ewTy[t]? = some (.object E)) (w1 : ew_w (.classLink K.1.cls idx E)) (w2 : ew_w (.arrayOver (.object E))) (hn : ¬ n < 0) (hN : n.toNatClampNeg = N) (hbytes : N * 4 ≤ 536870912) (hdg : decode K.2.1 pc = .ok (.anewarray idx, 3)) (kk : ew_G g K d (pc + 3) L (.ref h.2.1 :: rest) (eh_new h (aR t N (fun _ => none)) N) Q) (h8 : t ≠ 8 := by decide) : ew_G g K d pc L (.int n :: rest) h Q := by
  subst hN
  refine ew_gen (h1 := eh_new h (aR t n.toNatClampNeg (fun _ => none)) n.toNatClampNeg) (Nat.le_succ _) (Nat.le_add_right _ _) (fun h9 => h9.new) ?_ kk
  intro p e R s m args below meth c C H locs cells slots ls Q' hs hl hz hcel hsl kk
  obtain ⟨hx, hb, hml, hr, hlk, hown, htab, hnm, hg, hfr, hlo⟩ := C
  have z1 : (eh_new h (aR t n.toNatClampNeg (fun _ => none)) n.toNatClampNeg).2.1 - h.2.1 = 1 := by show h.2.1 + 1 - h.2.1 = 1; omega
  have z2 : (eh_new h (aR t n.toNatClampNeg (fun _ => none)) n.toNatClampNeg).2.2 - h.2.2 = n.toNatClampNeg := by show h.2.2 + n.toNatClampNeg - h.2.2 = n.toNatClampNeg; omega
  rw [z1] at hcel kk
  rw [z2] at hsl kk
  refine W.anew hx hb hown (hg.word w1 _) (hg.word w2 _) rfl hdg rfl hn hbytes hcel hsl fun cA kA comp f1 f2 f3 f4 => ?_
  obtain ⟨kA', comp', g1, g2, g3, g4⟩ := (hg.2.2.1 t _ ht).2 h8
  have hid : cA = eg_t g t := Option.some.inj (f1.symm.trans g4)
  subst hid
  have e9 : ({ method := m, pc := pc + 3, locals := ls, stack := Value.ref H.size :: rest, locked := none } : JFrame) = F0 m (pc + 3) ls (Value.ref h.2.1 :: rest) := by rw [hs.1]
  refine W.eq e9 (kk _ locs ls (hs.new _ ⟨?_, ew_tyl ht⟩ (by rw [Array.size_push]) (fun q hq => by rw [Array.getElem?_push, if_neg (Nat.ne_of_lt hq)])) hl hz)
  rw [Array.getElem?_push_size]
  show _ = some (vp_cell (eg_t g t) (n.toNatClampNeg, _))
  rw [vp_cell_q]
  show _ = some (arrV (eg_t g t) n.toNatClampNeg (fun _ => Value.null))
  rw [← arrV_new]
theorem ew_castN {g : eg} {K : ek} {d pc : Nat} {L rest : List Value} {h : eh} {Q : Outcome → eh → Prop} {idx : Nat} (hdg : decode K.2.1 pc = .ok (.checkcast idx, 3)) (kk : ew_G g K d (pc + 3) L (.null :: rest) h Q) : ew_G g K d pc L (.null :: rest) h Q :=
  ew_purel (fun C _ _ _ _ _ _ _ _ kk => lv_castN C.1 C.2.1 hdg kk) kk
/-- checkcast of an object of a known class: the class itself, or one that it is cast to -/
theorem ew_cast {g : eg} {K : ek} {d pc : Nat} {L rest : List Value} {h : eh} {Q : Outcome → eh → Prop} {a idx ci : Nat} {r : vw_C} {nm : String} {fs : List Value} (hc : ewCl[ci]? = some r) (ha : rd g h a = some (ob ci fs)) (hw : ew_w (.classLink K.1.cls idx nm)) (hca : r.1 = nm ∨ ew_w (.castable r.1 nm)) (hdg : decode K.2.1 pc = .ok (.checkcast idx, 3)) (kk : ew_G g K d (pc + 3) L (.ref a :: rest) h Q) : ew_G g K d pc L (.ref a :: rest) h Q := by
  refine ew_purel ?_ kk
  intro p e R s m args below meth c C H locs cells slots ls Q' hs hl kk
  obtain ⟨hx, hb, hml, hr, hlk, hown, htab, hnm, hg, hfr, hlo⟩ := C
  have hrv := ew_recv hg hc (hs.rd hg ha)
  rcases hca with hca | hca
  · subst hca
    exact va_castE hx hb hown (hg.word hw _) hrv hdg kk
  · exact va_castY hx hb hown (hg.word hw _) (hg.word hca _) hrv hdg kk
/-- checkcast of an array to its own class -/
theorem ew_castA {g : eg} {K : ek} {d pc : Nat} {L rest : List Value} {h : eh} {Q : Outcome → eh → Prop} {a idx t : Nat} {x : vp_A} {nm : String} (ha : rd g h a = some (.inl (t, x))) (hw : ew_w (.classLink K.1.cls idx nm)) (hcl : ∀ (U : State) (cA : ClassId) (ty : FieldType), ewTy[t]? = some ty → va_RA U cA ty → U.vm.findClass nm = some cA) (hdg : decode K.2.1 pc = .ok (.checkcast idx, 3)) (kk : ew_G g K d (pc + 3) L (.ref a :: rest) h Q) (h8 : t ≠ 8 := by decide) : ew_G g K d pc L (.ref a :: rest) h Q := by
  refine ew_purel ?_ kk
  intro p e R s m args below meth c C H locs cells slots ls Q' hs hl kk
  obtain ⟨hx, hb, hml, hr, hlk, hown, htab, hnm, hg, hfr, hlo⟩ := C
  have h1 := hs.rd hg ha
  have ht : ewTy[t]? = some (ewTy[t]'h1.2) := List.getElem?_eq_getElem h1.2
  have hP : va_P (eg_D g) ewCl [(a, (.inl (eg_t g t, x) : va_E))] H := by
    intro k q hk
    have hz : k < 1 := (List.getElem?_eq_some_iff.mp hk).1
    rw [show k = 0 by omega] at hk
    cases hk
    exact h1.1
  exact va_castA hx hb hown (hg.word hw _) hP 0 rfl (hcl _ _ _ ht ((hg.2.2.1 t _ ht).2 h8)) hdg kk
theorem ew_instN {g : eg} {K : ek} {d pc : Nat} {L rest : List Value} {h : eh} {Q : Outcome → eh → Prop} {idx : Nat} (hdg : decode K.2.1 pc = .ok (.instanceof idx, 3)) (kk : ew_G g K d (pc + 3) L (.int 0 :: rest) h Q) : ew_G g K d pc L (.null :: rest) h Q :=
  ew_purel (fun C _ _ _ _ _ _ _ _ kk => lv_instN C.1 C.2.1 hdg kk) kk
theorem ew_inst {g : eg} {K : ek} {d pc : Nat} {L rest : List Value} {h : eh} {Q : Outcome → eh → Prop} {a idx ci : Nat} {r : vw_C} {nm : String} {fs : List Value} (hc : ewCl[ci]? = some r) (ha : rd g h a = some (ob ci fs)) (hw : ew_w (.classLink K.1.cls idx nm)) (hca : r.1 = nm ∨ ew_w (.castable r.1 nm)) (hdg : decode K.2.1 pc = .ok (.instanceof idx, 3)) (kk : ew_G g K d (pc + 3) L (.int 1 :: rest) h Q) : ew_G g K d pc L (.ref a :: rest) h Q := by
  refine ew_purel ?_ kk
  intro p e R s m args below meth c C H locs cells slots ls Q' hs hl kk
  obtain ⟨hx, hb, hml, hr, hlk, hown, htab, hnm, hg, hfr, hlo⟩ := C
  have hrv := ew_recv hg hc (hs.rd hg ha)
  rcases hca with hca | hca
  · subst hca
    exact va_instE hx hb hown (hg.word hw _) hrv hdg kk
  · exact va_instY hx hb hown (hg.word hw _) (hg.word hca _) hrv hdg kk
/-- a static that nobody writes -/
theorem ew_gets {g : eg} {K : ek} {d pc : Nat} {L rest : List Value} {h : eh} {Q : Outcome → eh → Prop} {idx : Nat} {C n dd ref : String} {v : Value} (hv : eg_s g C n dd = some v) (hw : ew_w (.fieldLink K.1.cls idx ref n dd)) (hsame : ref = C ∨ ew_w (.sameField ref C n dd)) (hdg : decode K.2.1 pc = .ok (.getstatic idx, 3)) (kk : ew_G g K d (pc + 3) L (v :: rest) h Q) : ew_G g K d pc L rest h Q := by
  refine ew_purel ?_ kk
  intro p e R s m args below meth c X H locs cells slots ls Q' hs hl kk
  obtain ⟨hx, hb, hml, hr, hlk, hown, htab, hnm, hg, hfr, hlo⟩ := X
  obtain ⟨cf, kf, fi, f, a, cell, h1, h2, h3, h4, h5, h6, h7, h8⟩ := hg.2.2.2.1 C n dd v hv
  have hi2 : s.fieldFound? ref n dd = some (cf, kf, fi, f) := by
    rcases hsame with hsame | hsame
    · rw [hsame]; exact h1
    · exact u_same (hg.word hsame args) _ h1
  exact W.gets hx hb hown (hg.word hw _) hi2 h2 h3 h4 (by rw [hs.2.2.1 a (Nat.not_le.mp h8)]; exact h5) (fun e => by rw [e] at h6; cases h6) h7 rfl hdg kk
