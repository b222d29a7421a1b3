/-! EW: ends, exceptions, methods, calls -/
set_option maxRecDepth 100000
theorem ew_fin {g : eg} {below : List Frame} {args : Array Value} {s t : State} {o : Outcome} {h : eh} {H : Heap} {mc ms : Nat} (hs : ew_sim g h H) (hm : MQ below (fun _ _ oc t => oc = o ∧ t.heap = H) args s mc ms (fun q => eb g ≤ q) t) : ew_end g below s o h mc ms t := by
  obtain ⟨o', hrun, hend, ⟨rfl, hH⟩, L, ⟨-, hW, hsame⟩, hL⟩ := hm
  exact ⟨hrun, hend, by rw [hH]; exact hs, hW, L, hsame, hL⟩
theorem ew_Wm {p : Program} {l : Launch} {e : Env} {R : Room} {s : State} {m : MethodId} {args : Array Value} {below : List Frame} {meth : Method} {c : Code} {H : Heap} {locs : List Loc} {cells slots : Nat} {Q Q' : State → Prop} {g : JFrame} (hq : ∀ t, Q t → Q' t) (k : W p l e R s m args below meth c H locs cells slots Q g) : W p l e R s m args below meth c H locs cells slots Q' g := by
  intro T hT X
  obtain ⟨t, a, b⟩ := k T hT X
  exact ⟨t, a, hq t b⟩
/-- the common part of all ends -/
theorem ew_leave {g : eg} {K : ek} {d pc : Nat} {L st : List Value} {h : eh} {Q : Outcome → eh → Prop} {o : Outcome} (hq : Q o h)
    (hw : ∀ {p : Program} {e : Env} {R : Room} {s : State} {m : MethodId} {args : Array Value} {below : List Frame} {meth : Method} {c : Code}, ew_ctx g K d p e R s m args below meth c →
      ∀ {H : Heap} {locs : List Loc} {cells slots : Nat} {ls : Array Slot}, (∀ z ∈ locs, eb g ≤ z.base) → W p (eg_l g) e R s m args below meth c H locs cells slots (MQ below (fun _ _ oc t => oc = o ∧ t.heap = H) args s cells slots (fun q => eb g ≤ q)) (F0 m pc ls st)) : ew_G g K d pc L st h Q := by
  intro hok
  refine ⟨o, h, ⟨Nat.le_refl _, Nat.le_refl _, fun h9 => h9, ?_⟩, hq⟩
  intro p e R s m args below meth c C H locs cells slots ls hs hl hz hc hsl
  rw [Nat.sub_self, Nat.sub_self, Nat.add_zero, Nat.add_zero]
  exact ew_Wm (fun t ht => ew_fin hs ht) (hw C hz)
section Ends
variable {g : eg} {K : ek} {d pc : Nat} {L : List Value} {h : eh} {Q : Outcome → eh → Prop}
theorem ew_iret {v : Int32} (hr : K.2.2.2.1 = some .int) (hdg : decode K.2.1 pc = .ok (.ireturn, 1)) (hq : Q (.returned (some (.int v))) h) : ew_G g K d pc L [.int v] h Q :=
  ew_leave hq (fun C _ _ _ _ _ hz => W.iret C.1 C.2.1 (C.2.2.2.1.trans hr) (fun t ht _ => ⟨rfl, ht⟩) hz hdg C.2.2.2.2.1)
theorem ew_zret {v : Int32} {ty : FieldType} (hr : K.2.2.2.1 = some ty) (hn : narrow ty (.int v) = .int v) (hdg : decode K.2.1 pc = .ok (.ireturn, 1)) (hq : Q (.returned (some (.int v))) h) : ew_G g K d pc L [.int v] h Q :=
  ew_leave hq (fun C _ _ _ _ _ hz => W.zret C.1 C.2.1 (C.2.2.2.1.trans hr) hn (fun t ht _ => ⟨rfl, ht⟩) hz hdg C.2.2.2.2.1)
theorem ew_vret (hr : K.2.2.2.1 = none) (hdg : decode K.2.1 pc = .ok (.return_, 1)) (hq : Q (.returned none) h) : ew_G g K d pc L [] h Q :=
  ew_leave hq (fun C _ _ _ _ _ hz => W.vret C.1 C.2.1 (C.2.2.2.1.trans hr) (fun t ht _ => ⟨rfl, ht⟩) hz hdg C.2.2.2.2.1)
theorem ew_lret {v : Int64} (hr : K.2.2.2.1 = some .long) (hdg : decode K.2.1 pc = .ok (.lreturn, 1)) (hq : Q (.returned (some (.long v))) h) : ew_G g K d pc L [.long v] h Q :=
  ew_leave hq (fun C _ _ _ _ _ hz => W.lret C.1 C.2.1 (C.2.2.2.1.trans hr) (fun t ht _ => ⟨rfl, ht⟩) hz hdg C.2.2.2.2.1)
theorem ew_fret {v : UInt32} (hr : K.2.2.2.1 = some .float) (hdg : decode K.2.1 pc = .ok (.freturn, 1)) (hq : Q (.returned (some (.float v))) h) : ew_G g K d pc L [.float v] h Q :=
  ew_leave hq (fun C _ _ _ _ _ hz => W.fret C.1 C.2.1 (C.2.2.2.1.trans hr) (fun t ht _ => ⟨rfl, ht⟩) hz hdg C.2.2.2.2.1)
theorem ew_dret {v : UInt64} (hr : K.2.2.2.1 = some .double) (hdg : decode K.2.1 pc = .ok (.dreturn, 1)) (hq : Q (.returned (some (.double v))) h) : ew_G g K d pc L [.double v] h Q :=
  ew_leave hq (fun C _ _ _ _ _ hz => W.dret C.1 C.2.1 (C.2.2.2.1.trans hr) (fun t ht _ => ⟨rfl, ht⟩) hz hdg C.2.2.2.2.1)
theorem ew_aret {v : Value} {rt : FieldType} (hr : K.2.2.2.1 = some rt) (hrt : (∃ n, rt = .object n) ∨ ∃ t, rt = .array t) (hv : v = .null ∨ ∃ a, v = .ref a) (hdg : decode K.2.1 pc = .ok (.areturn, 1)) (hq : Q (.returned (some v)) h) : ew_G g K d pc L [v] h Q :=
  ew_leave hq (fun C _ _ _ _ _ hz => W.aret C.1 C.2.1 (C.2.2.2.1.trans hr) hrt hv (fun t ht _ => ⟨rfl, ht⟩) hz hdg C.2.2.2.2.1)
end Ends
/-- q is thrown over the frame at pc -/
def ew_runX (g : eg) (K : ek) (d pc : Nat) (L : List Value) (h : eh) (q : Nat) (o : Outcome) (h' : eh) : Prop :=
  h.2.1 ≤ h'.2.1 ∧ h.2.2 ≤ h'.2.2 ∧ (eh_ok g h → eh_ok g h') ∧ ∀ (p : Program) (e : Env) (R : Room) (s : State) (m : MethodId) (args : Array Value) (below : List Frame) (meth : Method) (c : Code), ew_ctx g K d p e R s m args below meth c →
    ∀ (H : Heap) (locs : List Loc) (cells slots : Nat) (ls : Array Slot) (st : List Value), ew_sim g h H → ew_loc L ls K.2.2.1 → (∀ z ∈ locs, eb g ≤ z.base) → cells + (h'.2.1 - h.2.1) ≤ R.cells → slots + (h'.2.2 - h.2.2) ≤ R.slots →
      vx_W p (eg_l g) e R s m args below meth c H locs cells slots (ew_end g below s o h' (cells + (h'.2.1 - h.2.1)) (slots + (h'.2.2 - h.2.2))) (F0 m pc ls st) q
def ew_X (g : eg) (K : ek) (d pc : Nat) (L : List Value) (h : eh) (q : Nat) (Q : Outcome → eh → Prop) : Prop := eh_ok g h → ∃ o h', ew_runX g K d pc L h q o h' ∧ Q o h'
theorem ew_athrow {g : eg} {K : ek} {d pc : Nat} {L rest : List Value} {h : eh} {Q : Outcome → eh → Prop} {q : Nat} (hdg : decode K.2.1 pc = .ok (.athrow, 1)) (k : ew_X g K d pc L h q Q) : ew_G g K d pc L (.ref q :: rest) h Q := by
  intro hok
  obtain ⟨o, h', ⟨n1, n2, n3, hrun⟩, hq⟩ := k hok
  refine ⟨o, h', ⟨n1, n2, n3, ?_⟩, hq⟩
  intro p e R s m args below meth c C H locs cells slots ls hs hl hz hc hsl
  exact vx_athrow C.1 C.2.1 hdg (hrun p e R s m args below meth c C H locs cells slots ls rest hs hl hz hc hsl)
theorem ew_out {g : eg} {K : ek} {d pc : Nat} {L : List Value} {h : eh} {Q : Outcome → eh → Prop} {q : Nat} (hout : ∀ x ∈ tableOf K.2.2.2.2, covers x pc = false) (hq : Q (.threw q) h) : ew_X g K d pc L h q Q := by
  intro hok
  refine ⟨.threw q, h, ⟨Nat.le_refl _, Nat.le_refl _, fun h9 => h9, ?_⟩, hq⟩
  intro p e R s m args below meth c C H locs cells slots ls st hs hl hz hc hsl
  rw [Nat.sub_self, Nat.sub_self, Nat.add_zero, Nat.add_zero]
  obtain ⟨hx, hb, hml, hr, hlk, hown, htab, hnm, hg, hfr, hlo⟩ := C
  intro T hT X
  obtain ⟨st1, hrun, hend, hW, hsm⟩ := X.leaveThrown q (g := F0 m pc ls st) rfl rfl rfl (by rw [htab]; exact hout) hlk
  exact ⟨_, st1, hrun, hend, by show ew_sim g h T.heap; rw [hT]; exact hs, hW, locs, hsm, hz⟩
theorem ew_catch {g : eg} {K : ek} {d pc ci : Nat} {L : List Value} {h : eh} {Q : Outcome → eh → Prop} {q : Nat} {r : vw_C} {fs : List Value} (hc : ewCl[ci]? = some r) (hq : rd g h q = some (ob ci fs)) (pre : List ExceptionTableEntry) (x : ExceptionTableEntry) (suf : List ExceptionTableEntry) (hsplit : tableOf K.2.2.2.2 = pre ++ x :: suf)
    (hpass : ∀ z ∈ pre, covers z pc = false ∨ (z.catchType ≠ 0 ∧ ∃ nm : String, ew_w (.classLink K.1.cls z.catchType nm) ∧ eg_n g r.1 nm = true)) (hx : covers x pc = true)
    (h0 : x.catchType = 0 ∨ (x.catchType ≠ 0 ∧ ∃ nm : String, ew_w (.classLink K.1.cls x.catchType nm) ∧ (r.1 = nm ∨ ew_w (.castable r.1 nm)))) (k : ew_G g K d x.handlerPc L [.ref q] h Q) : ew_X g K d pc L h q Q := by
  intro hok
  obtain ⟨o, h', ⟨n1, n2, n3, hrun⟩, hq9⟩ := k hok
  refine ⟨o, h', ⟨n1, n2, n3, ?_⟩, hq9⟩
  intro p e R s m args below meth c C H locs cells slots ls st hs hl hz hcl hsl
  have kk := hrun p e R s m args below meth c C H locs cells slots ls hs hl hz hcl hsl
  obtain ⟨hx9, hb, hml, hr, hlk, hown, htab, hnm, hg, hfr, hlo⟩ := C
  intro T hT X
  have hpl : e.platform.magicAccessors = ({} : Platform).magicAccessors := by rw [X.admits.platform]
  obtain ⟨ce, hcell, hobj, hfc⟩ := ew_recv hg hc (hs.rd hg hq)
  obtain ⟨vm', X', st⟩ := X.thenCaughtThrough q (g := F0 m pc ls st) rfl (Steps.refl _) (by rw [hT]; exact hcell) hobj (by obtain ⟨k9, h9, -⟩ := Vm.findClass_spec hfc; exact ⟨k9, h9⟩) pre x suf (by rw [htab]; exact hsplit)
    (fun z hz => by
      rcases hpass z hz with h | ⟨hz0, nm, hl1, hn1⟩
      · exact Or.inl h
      · obtain ⟨c6, hc6, hcl6⟩ := Cond.classLink_spec hown (hg.word hl1 args) e.platform hpl
        obtain ⟨a8, b8, h1, h2, h3⟩ := hg.2.2.2.2.2.2.1 _ _ hn1
        cases Option.some.inj (h1.symm.trans hfc)
        cases Option.some.inj (h2.symm.trans hc6)
        exact Or.inr ⟨hz0, _, hcl6, h3⟩) hx (by
      rcases h0 with h0 | ⟨h0, nm, hl1, hca⟩
      · exact Or.inl h0
      · obtain ⟨c5, hc5, hcl5⟩ := Cond.classLink_spec hown (hg.word hl1 args) e.platform hpl
        refine Or.inr ⟨h0, c5, hcl5, ?_⟩
        rcases hca with hca | hca
        · subst hca
          have hat := (hg.2.1 ci r hc).2
          have e1 : c5 = ce.cls := Option.some.inj (hc5.symm.trans hfc)
          have e2 : (eg_D g).1 ci = ce.cls := Option.some.inj (hat.1.symm.trans hfc)
          rw [e1, ← e2]
          exact va_assign hat
        · obtain ⟨c3, c4, hc3, hc4, hasg⟩ := Cond.castable_spec (hg.word hca args)
          cases Option.some.inj (hc3.symm.trans hfc)
          cases Option.some.inj (hc4.symm.trans hc5)
          exact hasg)
  obtain ⟨t, a1, b1⟩ := kk (T.setVm vm') hT X'
  exact ⟨t, st.trans a1, b1⟩
/-- the word of a method's code -/
def ew_cw : ek → Cond
  | (y, b, n, r, []) => .code y b n r
  | (y, b, n, r, x :: hh) => .codeWith y b n r (x :: hh)
def ew_room (d : Nat) (h h' : eh) : Room := { frames := d + 16, cells := h'.2.1 - h.2.1, slots := h'.2.2 - h.2.2, locals := 12000 + 80 * d }
/-- the method K, called with av in the heap h, ends so -/
def ew_M (g : eg) (K : ek) (d : Nat) (av : List Value) (h : eh) (o : Outcome) (h' : eh) : Prop :=
  h.2.1 ≤ h'.2.1 ∧ h.2.2 ≤ h'.2.2 ∧ (eh_ok g h → eh_ok g h') ∧ MetFree (eg_l g) K.1 (headSpec [ew_cw K] (ew_room d h h')) (fun a U => a = av.toArray ∧ ew_good g U ∧ ew_sim g h U.heap) (fun _ _ _ _ _ => True)
    (fun _ st oc t => oc = o ∧ ew_sim g h' t.heap ∧ st.WarmedH t.vm ∧ ∃ L, st.sameButNew ({ t with vm := st.vm } : State) L (h'.2.1 - h.2.1) (h'.2.2 - h.2.2) ∧ ∀ z ∈ L, eb g ≤ z.base)
def ew_T (g : eg) (K : ek) (d : Nat) (av : List Value) (h : eh) (Q : Outcome → eh → Prop) : Prop := eh_ok g h → ∃ o h', ew_M g K d av h o h' ∧ Q o h'
theorem ew_T.mono {g : eg} {K : ek} {d : Nat} {av : List Value} {h : eh} {Q Q' : Outcome → eh → Prop} (k : ew_T g K d av h Q) (hq : ∀ o h', Q o h' → Q' o h') : ew_T g K d av h Q' := by
  intro hok
  obtain ⟨o, h', h1, h2⟩ := k hok
  exact ⟨o, h', h1, hq o h' h2⟩
theorem ew_G.mono {g : eg} {K : ek} {d pc : Nat} {L st : List Value} {h : eh} {Q Q' : Outcome → eh → Prop} (k : ew_G g K d pc L st h Q) (hq : ∀ o h', Q o h' → Q' o h') : ew_G g K d pc L st h Q' := by
  intro hok
  obtain ⟨o, h', h1, h2⟩ := k hok
  exact ⟨o, h', h1, hq o h' h2⟩
/-- the locals at a method's begin -/
def ew_arg (k : Nat) (av : List Value) (L : List Value) : Prop := ∀ (i : Nat) (v : Value), L[i]? = some v → ew_isv v = true → (k + i, v) ∈ lv_args k av
theorem ew_az {k : Nat} {av : List Value} : ew_arg k av [] := fun i v h => by simp at h
theorem ew_an {k : Nat} {L : List Value} (h : ew_arg (k + 1) [] L) : ew_arg k [] (no_ :: L) := by
  intro i v hi hv
  cases i with
  | zero =>
    have e : no_ = v := by simpa using hi
    subst e
    cases hv
  | succ i =>
    have := h i v (by simpa using hi) hv
    simp [lv_args] at this
theorem ew_a1 {k : Nat} {x : Value} {av L : List Value} (hx : ew_c2 x = false) (h : ew_arg (k + 1) av L) : ew_arg k (x :: av) (x :: L) := by
  intro i v hi hv
  rw [lv_args, if_neg (ew_c2n hx)]
  cases i with
  | zero =>
    have e : x = v := by simpa using hi
    subst e
    exact List.mem_cons_self
  | succ i =>
    have := h i v (by simpa using hi) hv
    rw [show k + 1 + i = k + (i + 1) by omega] at this
    exact List.mem_cons_of_mem _ this
theorem ew_a2 {k : Nat} {x : Value} {av L : List Value} (hx : x.category = 2) (h : ew_arg (k + 2) av L) : ew_arg k (x :: av) (x :: no_ :: L) := by
  intro i v hi hv
  rw [lv_args, if_pos hx]
  match i, hi with
  | 0, hi =>
    have e : x = v := by simpa using hi
    subst e
    exact List.mem_cons_self
  | 1, hi =>
    have e : no_ = v := by simpa using hi
    subst e
    cases hv
  | i + 2, hi =>
    have := h i v (by simpa using hi) hv
    rw [show k + 2 + i = k + (i + 2) by omega] at this
    exact List.mem_cons_of_mem _ this
theorem ew_code {K : ek} {U : State} {a : Array Value} {mk : MethodId} (hn : U.methodNamed? K.1 = some mk) (h : (ew_cw K).before a U = true) :
    ∃ meth c, U.vm.method? mk = some meth ∧ meth.code = some c ∧ c.code = K.2.1 ∧ c.maxLocals = K.2.2.1 ∧ meth.sig.returnType = K.2.2.2.1 ∧ meth.locks = false ∧ c.exceptionTable.toList = tableOf K.2.2.2.2 ∧ parseMethodDescriptor K.1.desc = some meth.sig := by
  obtain ⟨y, b, n, r, hh⟩ := K
  cases hh with
  | nil =>
    obtain ⟨meth, c, h1, h2, h3, h4, h5, h6, h7, h8⟩ := Cond.code_spec hn (show (Cond.code y b n r).before a U = true from h)
    refine ⟨meth, c, h1, h2, h3, h4, h5, h6, ?_, h8⟩
    rw [Array.isEmpty_iff.mp h7]
    rfl
  | cons x hh =>
    obtain ⟨m9, meth, c, hn9, h1, h2, h3, h4, h6, h5, h7, h8⟩ := Cond.codeWith_spec (show (Cond.codeWith y b n r (x :: hh)).before a U = true from h)
    cases Option.some.inj (hn9.symm.trans hn)
    exact ⟨meth, c, h1, h2, h3, h4, h5, h7, by rw [← h6, table_eq], h8⟩
theorem ew_enter {g : eg} {K : ek} {d : Nat} {av L : List Value} {h : eh} {Q : Outcome → eh → Prop} (hy : plainFor K.1 = true) (hL : ew_arg 0 av L) (hlen : (lg_sl av).length ≤ K.2.2.1) (k : ew_G g K d 0 L [] h Q) : ew_T g K d av h Q := by
  intro hok
  obtain ⟨o, h', ⟨n1, n2, n3, hrun⟩, hq⟩ := k hok
  refine ⟨o, h', ⟨n1, n2, n3, ?_⟩, hq⟩
  refine MetFree.of_bodySF (code := K.2.1) (maxLocals := K.2.2.1) (ret := K.2.2.2.1) hy ?_ ?_
  · intro args s m h9 hn
    obtain ⟨meth, c, h1, h2, h3, h4, h5, h6, -, -⟩ := ew_code hn (atoms_spec (ws := [ew_cw K]) h9 _ List.mem_cons_self)
    exact ⟨meth, c, h1, h2, h3, h4, h5, h6⟩
  · intro p e s m args below meth c s₁ B hml hP _
    obtain ⟨rfl, hg, hs⟩ := hP
    have hh0 : s₁.heap = s.heap := by rw [B.state]; rfl
    obtain ⟨meth9, c9, h1, h2, h3, h4, h5, h6, htab, h8⟩ := ew_code B.named (atoms_spec (ws := [ew_cw K]) B.pre _ List.mem_cons_self)
    cases Option.some.inj (h1.symm.trans B.method)
    cases Option.some.inj (h2.symm.trans (Stand.of_body B).code)
    have C : ew_ctx g K d p e (headSpec [ew_cw K] (ew_room d h h')).room s m av.toArray below meth c :=
      ⟨B.exec, B.bytes, hml, B.returns, B.notSynchronized, findClass_of_methodNamed B.named, htab, (name_of_methodNamed B.named B.method).1, hg, Nat.le_refl _, Nat.le_refl _⟩
    have hl0 := lv_entry av (n := K.2.2.1) hlen
    have hk := hrun p e _ s m av.toArray below meth c C s.heap [] 0 0 (lg_sl av ++ List.replicate (K.2.2.1 - (lg_sl av).length) Slot.unset).toArray hs ⟨hl0.1, hl0.2.1, fun i v hi hv => hl0.2.2 (i, v) (by have := hL i v hi hv; rwa [Nat.zero_add] at this)⟩ (fun z hz => nomatch hz) (by rw [Nat.zero_add]; exact Nat.le_refl _) (by rw [Nat.zero_add]; exact Nat.le_refl _)
    rw [Nat.zero_add, Nat.zero_add] at hk
    have hk2 : W p (eg_l g) e (headSpec [ew_cw K] (ew_room d h h')).room s m av.toArray below meth c s.heap [] 0 0 (ew_end g below s o h' (h'.2.1 - h.2.1) (h'.2.2 - h.2.2)) (entryFrame m av.toArray K.2.2.1) := by
      rw [lg_entry_eq]
      exact hk
    obtain ⟨t, a1, b1, b2, b3, b4, b5⟩ := hk2 s₁ hh0 (Stand.of_body B)
    exact ⟨t, o, a1, b1, b2, rfl, b3, b4, b5⟩
/-- what a callee pays its caller -/
theorem ew_pay {g : eg} {K : ek} {d : Nat} {av : List Value} {h h1 : eh} {o : Outcome} (hM : ew_M g K d av h o h1) {R : Room} {p : Program} {e : Env} {below : List Frame} {s : State} {sargs : Array Value} {len : Nat} (hg : ew_good g s) (hfr : d + 17 ≤ R.frames) (hlo : 24 + (K.2.2.1 + 11) + (12000 + 80 * d) ≤ R.locals) (hw : ew_w (ew_cw K)) (hini : ew_w (.initialized K.1.cls)) :
    vx_Back (eg_l g) R p e below s sargs K.1 len 24
      (fun A a => A.cells + (h1.2.1 - h.2.1) ≤ R.cells ∧ A.slots + (h1.2.2 - h.2.2) ≤ R.slots ∧ a = av.toArray ∧ ew_sim g h A.U.heap)
      (fun A a v B => o = .returned v ∧ ew_sim g h1 B.U.heap ∧ ∃ L, B.locs = A.locs ++ L ∧ (∀ z ∈ L, eb g ≤ z.base) ∧ B.cells = A.cells + (h1.2.1 - h.2.1) ∧ B.slots = A.slots + (h1.2.2 - h.2.2))
      (fun A a q B => o = .threw q ∧ ew_sim g h1 B.U.heap ∧ ∃ L, B.locs = A.locs ++ L ∧ (∀ z ∈ L, eb g ≤ z.base) ∧ B.cells = A.cells + (h1.2.1 - h.2.1) ∧ B.slots = A.slots + (h1.2.2 - h.2.2)) := by
  obtain ⟨n1, n2, -, hM⟩ := hM
  intro m meth c A gf ig mk a X hgm hsize hdg hW hn hp
  obtain ⟨U, Ls, c0, s0⟩ := A
  dsimp only [Pt.U, Pt.locs, Pt.cells, Pt.slots] at X hn hp ⊢
  obtain ⟨h4, h5, rfl, hsim⟩ := hp
  have hgU : ew_good g U := hg.warm X.warmed
  have h1' : (headSpec [ew_cw K] (ew_room d h h1)).pre.before av.toArray U = true := atoms_intro fun w hw9 => by rw [List.mem_singleton.mp hw9]; exact hgU.word hw _
  have h3 : (Cond.initialized K.1.cls).before av.toArray U = true := hgU.word hini _
  obtain ⟨methY, cY, hmY, hcY, -, hlY, -, -, -, -⟩ := ew_code hn (hgU.word hw #[])
  obtain ⟨kY, hkY, -⟩ := className_of_methodNamed hn
  have hinitY : kY.init = .initialized := Cond.initialized_spec (findClass_of_methodNamed hn) hkY h3
  have hAt : At U gf.method c below := by rw [hgm]; exact X.here
  have happ : (headSpec [ew_cw K] (ew_room d h h1)).appliesLoose K.1 e.platform (U.calling gf mk av.toArray) = true :=
    Spec.appliesLoose_calling (g := gf) hAt hdg hn hkY hinitY
      (X.room_calling (g := gf) (R' := (headSpec [ew_cw K] (ew_room d h h1)).room) hsize hmY hcY (show d + 16 + 1 ≤ R.frames by omega) (by rw [hlY]; show _ + (12000 + 80 * d) ≤ R.locals; omega) h4 h5) h1'
  obtain ⟨mid, hmid⟩ := hAt.above
  have hfrm : (U.setTop gf).frames = (.java gf :: mid) ++ below := by rw [State.frames_setTop' gf hAt.top, hmid]; rfl
  obtain ⟨o9, s₂, hsteps, -, hend, hq⟩ := Steps.callFree hM p X.admits X.cas X.clock (acts := []) hfrm happ ⟨rfl, hgU.vm rfl, hsim⟩ trivial
  obtain ⟨rfl, hsim1, hW₂, L, hsm, hL⟩ := hq
  rw [State.frames_setTop' gf hAt.top] at hend
  obtain ⟨g₀, hg0⟩ := Option.isSome_iff_exists.mp hAt.top
  obtain ⟨r, hr⟩ := State.topJava?_eq_some.mp hg0
  have hr' : (({ U with heap := s₂.heap, slotsUsed := s₂.slotsUsed } : State).setVm s₂.vm).frames = .java g₀ :: r := hr
  obtain ⟨e2, q2, q3, q4, q5, q6⟩ := id hsm
  have e3 : s₂ = ({ (U.calling gf mk av.toArray).setFrames s₂.frames with heap := s₂.heap, slotsUsed := s₂.slotsUsed } : State).setVm s₂.vm := by
    have : s₂ = ({ s₂ with vm := (U.calling gf mk av.toArray).vm } : State).setVm s₂.vm := rfl
    exact this.trans (congrArg (fun z : State => z.setVm s₂.vm) e2)
  have hW' : U.WarmedH s₂.vm := hW₂
  have hsame : U.sameButNew ({ U with heap := s₂.heap, slotsUsed := s₂.slotsUsed } : State) L (h1.2.1 - h.2.1) (h1.2.2 - h.2.2) := by
    refine ⟨?_, q2, q3, q4, q5, q6⟩
    obtain ⟨t, ht, -⟩ := State.frames_cons hr
    show ({ U with heap := s₂.heap, slotsUsed := s₂.slotsUsed } : State) = { U.setFrames U.frames with heap := s₂.heap, slotsUsed := s₂.slotsUsed }
    rw [State.setFrames_self ht]
  have hSt : Stand p (eg_l g) e R s m sargs below meth c (({ U with heap := s₂.heap, slotsUsed := s₂.slotsUsed } : State).setVm s₂.vm) (Ls ++ L) (c0 + (h1.2.1 - h.2.1)) (s0 + (h1.2.2 - h.2.2)) :=
    ⟨X.admits, X.cas, X.clock, X.frames, X.room, X.hears, X.method, X.code, (X.here.setHeapUsed s₂.heap s₂.slotsUsed).setVm hW'.alike, X.tail, State.WarmedH.trans X.warmed hW', X.limits, X.bytes, X.same.trans (hsame.setVm s.vm)⟩
  cases o9 with
  | returned v =>
    obtain ⟨c₂, i₂, len₂, hc₂, hd₂, hf₂⟩ := hend
    have hcc : c₂ = c := by
      have h1 : s₂.code? gf.method = U.code? gf.method := by
        rw [State.code?_eq, State.code?_eq, hW'.alike.method?]
      exact Option.some.inj (hc₂.symm.trans (h1.trans hAt.code))
    subst hcc
    have hlen : len₂ = len := by rw [hdg] at hd₂; cases hd₂; rfl
    subst hlen
    have hs₂ : s₂ = (({ U with heap := s₂.heap, slotsUsed := s₂.slotsUsed } : State).setVm s₂.vm).setTop { gf with pc := gf.pc + len₂, stack := v.toList ++ gf.stack } := by
      refine e3.trans ?_
      rw [hf₂, State.calling_eq hAt.top, State.setFrames_setFrames, State.setTop_of_frames _ hr', hr]
      rfl
    refine Or.inl ⟨v, ⟨(({ U with heap := s₂.heap, slotsUsed := s₂.slotsUsed } : State).setVm s₂.vm), Ls ++ L, c0 + (h1.2.1 - h.2.1), s0 + (h1.2.2 - h.2.2)⟩, hSt, ⟨rfl, hsim1, L, rfl, hL, rfl, rfl⟩, ?_⟩
    show Steps p.tables e below _ ((({ U with heap := s₂.heap, slotsUsed := s₂.slotsUsed } : State).setVm s₂.vm).setTop { gf with pc := gf.pc + len₂, stack := v.toList ++ gf.stack })
    rw [← hs₂]
    exact hsteps
  | threw q =>
    have hf₂ : s₂.frames = .throwing q :: .java gf :: U.frames.tail := hend
    have hs₂ : s₂ = ((({ U with heap := s₂.heap, slotsUsed := s₂.slotsUsed } : State).setVm s₂.vm).setTop gf).pushFrame (.throwing q) := by
      refine e3.trans ?_
      rw [hf₂, State.calling_eq hAt.top, State.setFrames_setFrames, State.pushFrame, State.frames_setTop _ hr', State.setTop_of_frames _ hr', State.setFrames_setFrames, hr]
      rfl
    refine Or.inr ⟨q, ⟨(({ U with heap := s₂.heap, slotsUsed := s₂.slotsUsed } : State).setVm s₂.vm), Ls ++ L, c0 + (h1.2.1 - h.2.1), s0 + (h1.2.2 - h.2.2)⟩, hSt, ⟨rfl, hsim1, L, rfl, hL, rfl, rfl⟩, ?_⟩
    show Steps p.tables e below _ (((({ U with heap := s₂.heap, slotsUsed := s₂.slotsUsed } : State).setVm s₂.vm).setTop gf).pushFrame (.throwing q))
    rw [← hs₂]
    exact hsteps
/-- what a call instruction does, for any payer -/
def ew_inv (g : eg) (K : ek) (d pc len : Nat) (st rest : List Value) (h : eh) (K' : ek) (av : List Value) : Prop :=
  ∀ {p : Program} {e : Env} {R : Room} {s : State} {m : MethodId} {args : Array Value} {below : List Frame} {meth : Method} {c : Code}, ew_ctx g K d p e R s m args below meth c →
    ∀ {T : State} {locs : List Loc} {cells slots : Nat} {ls : Array Slot} {Pre : Pt → Array Value → Prop} {Post : Pt → Array Value → Option Value → Pt → Prop} {PostX : Pt → Array Value → Addr → Pt → Prop}, ew_sim g h T.heap → ls.size = c.maxLocals →
      Stand p (eg_l g) e R s m args below meth c T locs cells slots → vx_Back (eg_l g) R p e below s args K'.1 len 24 Pre Post PostX → (∀ vm₁, s.WarmedH vm₁ → Pre ⟨T.setVm vm₁, locs, cells, slots⟩ av.toArray) → (rest.map fun v => v.category).sum ≤ 24 →
      (∃ (v : Option Value) (vm₁ : Vm) (B : Pt), s.WarmedH vm₁ ∧ Stand p (eg_l g) e R s m args below meth c B.U B.locs B.cells B.slots ∧ Post ⟨T.setVm vm₁, locs, cells, slots⟩ av.toArray v B ∧
        ∀ target, Steps p.tables e below (B.U.setTop (F0 m (pc + len) ls (v.toList ++ rest))) target → Steps p.tables e below (T.setTop (F0 m pc ls st)) target) ∨
      (∃ (q : Addr) (vm₁ : Vm) (B : Pt), s.WarmedH vm₁ ∧ Stand p (eg_l g) e R s m args below meth c B.U B.locs B.cells B.slots ∧ PostX ⟨T.setVm vm₁, locs, cells, slots⟩ av.toArray q B ∧
        Steps p.tables e below (T.setTop (F0 m pc ls st)) ((B.U.setTop (F0 m pc ls rest)).pushFrame (.throwing q)))
/-- behind a call -/
def ew_K (g : eg) (K : ek) (d pc pc1 : Nat) (L rest : List Value) (Q : Outcome → eh → Prop) (o : Outcome) (h : eh) : Prop := match o with
  | .returned v => ew_G g K d pc1 L (v.toList ++ rest) h Q
  | .threw q => ew_X g K d pc L h q Q
theorem ew_call {g : eg} {K K' : ek} {d d' pc len : Nat} {L st rest av : List Value} {h : eh} {Q : Outcome → eh → Prop} (hv : ew_inv g K d pc len st rest h K' av) (hd : d' + 1 ≤ d) (hL : K'.2.2.1 ≤ 40) (hw : ew_w (ew_cw K')) (hini : ew_w (.initialized K'.1.cls)) (hrest : (rest.map fun v => v.category).sum ≤ 24)
    (k : ew_T g K' d' av h (ew_K g K d pc (pc + len) L rest Q)) : ew_G g K d pc L st h Q := by
  intro hok
  obtain ⟨o, h1, hM, hk⟩ := k hok
  have n1 := hM.1
  have n2 := hM.2.1
  have ok1 := hM.2.2.1 hok
  cases o with
  | returned v =>
    obtain ⟨o', h', ⟨m1, m2, m3, hrun⟩, hq⟩ := hk ok1
    refine ⟨o', h', ⟨Nat.le_trans n1 m1, Nat.le_trans n2 m2, fun _ => m3 ok1, ?_⟩, hq⟩
    intro p e R s m args below meth c C H locs cells slots ls hs hl hz hc hsl
    intro T hT X
    subst hT
    have hpay := ew_pay (len := len) (R := R) (p := p) (e := e) (below := below) (s := s) (sargs := args) hM C.2.2.2.2.2.2.2.2.1 (by have := C.2.2.2.2.2.2.2.2.2.1; omega) (by have := C.2.2.2.2.2.2.2.2.2.2; omega) hw hini
    rcases hv C hs (hl.1.trans C.2.2.1.symm) X hpay (fun vm₁ _ => ⟨by dsimp only [Pt.cells]; omega, by dsimp only [Pt.slots]; omega, rfl, hs⟩) hrest with ⟨v1, vm₁, ⟨U', l2, c2, s2⟩, hW₁, X', ⟨hov, hs1, L9, e1, e2, e3, e4⟩, st9⟩ | ⟨q, vm₁, B, hW₁, X', ⟨hov, -⟩, st9⟩
    · cases hov
      dsimp only [Pt.U, Pt.locs, Pt.cells, Pt.slots] at X' hs1 e1 e3 e4 st9
      subst e1; subst e3; subst e4
      have hz1 : ∀ z ∈ locs ++ L9, eb g ≤ z.base := fun z hz9 => (List.mem_append.mp hz9).elim (hz z) (e2 z)
      have hh := hrun p e R s m args below meth c C U'.heap (locs ++ L9) (cells + (h1.2.1 - h.2.1)) (slots + (h1.2.2 - h.2.2)) ls hs1 hl hz1 (by omega) (by omega)
      obtain ⟨t, a1, b1⟩ := hh U' rfl X'
      refine ⟨t, st9 _ a1, ?_⟩
      have f1 : cells + (h1.2.1 - h.2.1) + (h'.2.1 - h1.2.1) = cells + (h'.2.1 - h.2.1) := by omega
      have f2 : slots + (h1.2.2 - h.2.2) + (h'.2.2 - h1.2.2) = slots + (h'.2.2 - h.2.2) := by omega
      rw [f1, f2] at b1
      exact b1
    · cases hov
  | threw q0 =>
    obtain ⟨o', h', ⟨m1, m2, m3, hrun⟩, hq⟩ := hk ok1
    refine ⟨o', h', ⟨Nat.le_trans n1 m1, Nat.le_trans n2 m2, fun _ => m3 ok1, ?_⟩, hq⟩
    intro p e R s m args below meth c C H locs cells slots ls hs hl hz hc hsl
    intro T hT X
    subst hT
    have hpay := ew_pay (len := len) (R := R) (p := p) (e := e) (below := below) (s := s) (sargs := args) hM C.2.2.2.2.2.2.2.2.1 (by have := C.2.2.2.2.2.2.2.2.2.1; omega) (by have := C.2.2.2.2.2.2.2.2.2.2; omega) hw hini
    rcases hv C hs (hl.1.trans C.2.2.1.symm) X hpay (fun vm₁ _ => ⟨by dsimp only [Pt.cells]; omega, by dsimp only [Pt.slots]; omega, rfl, hs⟩) hrest with ⟨v1, vm₁, B, hW₁, X', ⟨hov, -⟩, st9⟩ | ⟨q, vm₁, ⟨U', l2, c2, s2⟩, hW₁, X', ⟨hov, hs1, L9, e1, e2, e3, e4⟩, st9⟩
    · cases hov
    · cases hov
      dsimp only [Pt.U, Pt.locs, Pt.cells, Pt.slots] at X' hs1 e1 e3 e4 st9
      subst e1; subst e3; subst e4
      have hz1 : ∀ z ∈ locs ++ L9, eb g ≤ z.base := fun z hz9 => (List.mem_append.mp hz9).elim (hz z) (e2 z)
      have hh := hrun p e R s m args below meth c C U'.heap (locs ++ L9) (cells + (h1.2.1 - h.2.1)) (slots + (h1.2.2 - h.2.2)) ls rest hs1 hl hz1 (by omega) (by omega)
      obtain ⟨t, a1, b1⟩ := hh U' rfl X'
      refine ⟨t, st9.trans a1, ?_⟩
      have f1 : cells + (h1.2.1 - h.2.1) + (h'.2.1 - h1.2.1) = cells + (h'.2.1 - h.2.1) := by omega
      have f2 : slots + (h1.2.2 - h.2.2) + (h'.2.2 - h1.2.2) = slots + (h'.2.2 - h.2.2) := by omega
      rw [f1, f2] at b1
      exact b1
