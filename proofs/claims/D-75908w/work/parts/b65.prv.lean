/-! EW: private methods by invokevirtual; the Unsafe object -/
set_option maxRecDepth 100000
/-- invokevirtual of a private method, on an object of the class numbered ci -/
def ew_iW (own : String) (idx ci : Nat) (K' : ek) (n : Nat) : Prop := (∃ r : vw_C, ewCl[ci]? = some r) ∧ ew_w (.methodLink own idx K'.1) ∧ ew_w (.privateMethod K'.1) ∧ ew_w (.sameMethod K'.1.cls K'.1.cls K'.1.name K'.1.desc) ∧ ew_w (.instanceMethod K'.1) ∧ (K'.1.cls ≠ "java/lang/invoke/MethodHandle" ∧ K'.1.cls ≠ "java/lang/invoke/VarHandle") ∧ (parseMethodDescriptor K'.1.desc).map (fun d => d.parameters.length) = some n ∧ ew_w (ew_cw K') ∧ ew_w (.initialized K'.1.cls) ∧ K'.2.2.1 ≤ 40
theorem ew_invW {g : eg} {K K' : ek} {d pc idx ci n b : Nat} {rest As : List Value} {fs : List Value} {h : eh} (hI : ew_iW K.1.cls idx ci K' n) (ha : rd g h b = some (ob ci fs)) (hn : As.length = n) (hdg : decode K.2.1 pc = .ok (.invokevirtual idx, 3)) : ew_inv g K d pc 3 (As.reverse ++ .ref b :: rest) rest h K' (.ref b :: As) := by
  intro p e R s m args below meth c C T locs cells slots ls Pre Post PostX hs hsize X hK hpre hrest
  obtain ⟨hx, hb, hml, hr, hlk, hown, htab, hnm, hg, hfr, hlo⟩ := C
  have hdg' : decode c.code pc = .ok (.invokevirtual idx, 3) := by rw [hb]; exact hdg
  obtain ⟨⟨r, hc⟩, hlink, hpm, hsame, hinst, hy, har, hcw, hini, hL⟩ := hI
  obtain ⟨cellB, hcell, hobj, hcls⟩ := ew_recv hg hc (hs.rd hg ha)
  obtain ⟨mk, methM, hnamed, hmethM, hstM, habM⟩ := Cond.instanceMethod_spec (hg.word hinst args)
  obtain ⟨methM', cM, hmethM', -, -, -, -, -, -, hsigM⟩ := ew_code hnamed (hg.word hcw args)
  cases hmethM.symm.trans hmethM'
  obtain ⟨cn, kP, r1, hcn, hkP, hkPi, hf, hn1⟩ := Cond.sameMethod_found (hg.word hsame args)
  have hcls2 : mk.cls = cn := Option.some.inj ((findClass_of_methodNamed hnamed).symm.trans hcn)
  rw [← hcls2] at hkP
  have hselP : selectMethod e.platform s.vm cellB.cls mk = .method mk := selectMethod_private hmethM (Cond.privateMethod_at (hg.word hpm args) mk methM hnamed hmethM)
  have hlen := ew_ari har hn
  obtain ⟨vm₁, X₁, hstep₁⟩ := X.invokevirtual hx hown (hg.word hlink args) hnamed hmethM hstM hkP hkPi hy (a := b) (cell := cellB) hcell
    (fun z h => by rw [h] at hobj; cases hobj) hselP hmethM habM hkP hkPi (g := F0 m pc ls (As.reverse ++ .ref b :: rest)) rfl (argsL := As) (rest := rest) (hlen _ hsigM) rfl hdg'
  rcases hK m meth c ⟨T.setVm vm₁, locs, cells, slots⟩ (F0 m pc ls rest) (.invokevirtual idx) mk (Value.ref b :: As).toArray X₁ rfl hsize hdg' (by show 2 * 0 + (rest.map fun v => v.category).sum ≤ 24; omega) (X₁.named hnamed) (hpre vm₁ X₁.warmed) with ⟨v, B, X', hpost, hsteps⟩ | ⟨q, B, X', hpost, hsteps⟩
  · exact Or.inl ⟨v, vm₁, B, X₁.warmed, X', hpost, fun target h => hstep₁ _ fun acts => (by rw [doInvoke_state]; exact hsteps.trans h)⟩
  · exact Or.inr ⟨q, vm₁, B, X₁.warmed, X', hpost, hstep₁ _ fun acts => (by rw [doInvoke_state]; exact hsteps)⟩
/-- the Unsafe object -/
def gUN (g : eg) (u : Nat) : Prop := eg_s g "jdk/internal/util/ArraysSupport" "U" "Ljdk/internal/misc/Unsafe;" = some (.ref u) ∧ u < eb g
/-- invokevirtual on it -/
def ew_iO (own : String) (idx : Nat) (K' : ek) (n : Nat) : Prop := ew_w (.selects "jdk/internal/misc/Unsafe" K'.1 K'.1) ∧ ew_w (.methodLink own idx K'.1) ∧ ew_w (.instanceMethod K'.1) ∧ (K'.1.cls ≠ "java/lang/invoke/MethodHandle" ∧ K'.1.cls ≠ "java/lang/invoke/VarHandle") ∧ (parseMethodDescriptor K'.1.desc).map (fun d => d.parameters.length) = some n ∧ ew_w (ew_cw K') ∧ ew_w (.initialized K'.1.cls) ∧ K'.2.2.1 ≤ 40
theorem ew_invO {g : eg} {K K' : ek} {d pc idx n b : Nat} {rest As : List Value} {h : eh} (hI : ew_iO K.1.cls idx K' n) (ha : gUN g b) (hn : As.length = n) (hdg : decode K.2.1 pc = .ok (.invokevirtual idx, 3)) : ew_inv g K d pc 3 (As.reverse ++ .ref b :: rest) rest h K' (.ref b :: As) := by
  intro p e R s m args below meth c C T locs cells slots ls Pre Post PostX hs hsize X hK hpre hrest
  obtain ⟨hx, hb, hml, hr, hlk, hown, htab, hnm, hg, hfr, hlo⟩ := C
  have hdg' : decode c.code pc = .ok (.invokevirtual idx, 3) := by rw [hb]; exact hdg
  obtain ⟨hsel, hlink, hinst, hy, har, hcw, hini, hL⟩ := hI
  obtain ⟨cellB, hcell0, hobj, hcls⟩ := hg.2.2.2.2.2.2.2.2.2.2.2 b ha.1
  have hcell : T.heap[b]? = some cellB := (hs.2.2.1 b ha.2).trans hcell0
  obtain ⟨mk, methM, hnamed, hmethM, hstM, habM⟩ := Cond.instanceMethod_spec (hg.word hinst args)
  obtain ⟨methM', cM, hmethM', -, -, -, -, -, -, hsigM⟩ := ew_code hnamed (hg.word hcw args)
  cases hmethM.symm.trans hmethM'
  obtain ⟨c2, r2, m2, q1, q2, q3, q4, kP, hkP, hkPi⟩ := Cond.selects_spec (hg.word hsel args)
  cases hcls.symm.trans q1
  cases (State.methodFound?_of_named hnamed hy).symm.trans q2
  cases hnamed.symm.trans q3
  have hselP : selectMethod e.platform s.vm cellB.cls mk = .method mk := by rw [Launch.admits_selectMethod X.admits]; exact q4
  have hlen := ew_ari har hn
  obtain ⟨vm₁, X₁, hstep₁⟩ := X.invokevirtual hx hown (hg.word hlink args) hnamed hmethM hstM hkP hkPi hy (a := b) (cell := cellB) hcell
    (fun z h => by rw [h] at hobj; cases hobj) hselP hmethM habM hkP hkPi (g := F0 m pc ls (As.reverse ++ .ref b :: rest)) rfl (argsL := As) (rest := rest) (hlen _ hsigM) rfl hdg'
  rcases hK m meth c ⟨T.setVm vm₁, locs, cells, slots⟩ (F0 m pc ls rest) (.invokevirtual idx) mk (Value.ref b :: As).toArray X₁ rfl hsize hdg' (by show 2 * 0 + (rest.map fun v => v.category).sum ≤ 24; omega) (X₁.named hnamed) (hpre vm₁ X₁.warmed) with ⟨v, B, X', hpost, hsteps⟩ | ⟨q, B, X', hpost, hsteps⟩
  · exact Or.inl ⟨v, vm₁, B, X₁.warmed, X', hpost, fun target h => hstep₁ _ fun acts => (by rw [doInvoke_state]; exact hsteps.trans h)⟩
  · exact Or.inr ⟨q, vm₁, B, X₁.warmed, X', hpost, hstep₁ _ fun acts => (by rw [doInvoke_state]; exact hsteps)⟩
theorem ew_comW {own : String} {idx ci n : Nat} {K' : ek} (h : ew_iW own idx ci K' n) : ew_w (ew_cw K') ∧ ew_w (.initialized K'.1.cls) ∧ K'.2.2.1 ≤ 40 := h.2.2.2.2.2.2.2
theorem ew_cW0 {b ci : Nat} {fs : List Value} {g : eg} {K K' : ek} {d d' pc idx : Nat} {L rest : List Value} {h : eh} {Q : Outcome → eh → Prop} (hI : ew_iW K.1.cls idx ci K' 0) (ha : rd g h b = some (ob ci fs)) (hdg : decode K.2.1 pc = .ok (.invokevirtual idx, 3)) (hd : d' + 1 ≤ d) (hrest : (rest.map fun v => v.category).sum ≤ 24) (k : ew_T g K' d' [.ref b] h (ew_K g K d pc (pc + 3) L rest Q)) : ew_G g K d pc L (.ref b :: rest) h Q := by
  obtain ⟨h1, h2, h3⟩ := ew_comW hI
  exact ew_call (ew_invW (As := []) hI ha rfl hdg) hd h3 h1 h2 hrest k
theorem ew_cW1 {b ci : Nat} {fs : List Value} {g : eg} {K K' : ek} {d d' pc idx : Nat} {L rest : List Value} {h : eh} {Q : Outcome → eh → Prop} {x1 : Value} (hI : ew_iW K.1.cls idx ci K' 1) (ha : rd g h b = some (ob ci fs)) (hdg : decode K.2.1 pc = .ok (.invokevirtual idx, 3)) (hd : d' + 1 ≤ d) (hrest : (rest.map fun v => v.category).sum ≤ 24) (k : ew_T g K' d' [.ref b, x1] h (ew_K g K d pc (pc + 3) L rest Q)) : ew_G g K d pc L (x1 :: .ref b :: rest) h Q := by
  obtain ⟨h1, h2, h3⟩ := ew_comW hI
  exact ew_call (ew_invW (As := [x1]) hI ha rfl hdg) hd h3 h1 h2 hrest k
theorem ew_cW2 {b ci : Nat} {fs : List Value} {g : eg} {K K' : ek} {d d' pc idx : Nat} {L rest : List Value} {h : eh} {Q : Outcome → eh → Prop} {x1 x2 : Value} (hI : ew_iW K.1.cls idx ci K' 2) (ha : rd g h b = some (ob ci fs)) (hdg : decode K.2.1 pc = .ok (.invokevirtual idx, 3)) (hd : d' + 1 ≤ d) (hrest : (rest.map fun v => v.category).sum ≤ 24) (k : ew_T g K' d' [.ref b, x1, x2] h (ew_K g K d pc (pc + 3) L rest Q)) : ew_G g K d pc L (x2 :: x1 :: .ref b :: rest) h Q := by
  obtain ⟨h1, h2, h3⟩ := ew_comW hI
  exact ew_call (ew_invW (As := [x1, x2]) hI ha rfl hdg) hd h3 h1 h2 hrest k
theorem ew_cO2 {b : Nat} {g : eg} {K K' : ek} {d d' pc idx : Nat} {L rest : List Value} {h : eh} {Q : Outcome → eh → Prop} {x1 x2 : Value} (hI : ew_iO K.1.cls idx K' 2) (ha : gUN g b) (hdg : decode K.2.1 pc = .ok (.invokevirtual idx, 3)) (hd : d' + 1 ≤ d) (hrest : (rest.map fun v => v.category).sum ≤ 24) (k : ew_T g K' d' [.ref b, x1, x2] h (ew_K g K d pc (pc + 3) L rest Q)) : ew_G g K d pc L (x2 :: x1 :: .ref b :: rest) h Q := by
  exact ew_call (ew_invO (As := [x1, x2]) hI ha rfl hdg) hd hI.2.2.2.2.2.2.2 hI.2.2.2.2.2.1 hI.2.2.2.2.2.2.1 hrest k
theorem wJ2_100 : ew_iW RJ2 100 16 kJ2_ensureCapacityInternal 1 := ⟨⟨_, rfl⟩, ew_q q566, ew_qt q567 rfl, ew_q q3338, ew_q q568, ⟨by decide +kernel, by decide +kernel⟩, by decide +kernel, w_J2_ensureCapacityInternal, ew_q q125, by decide⟩
theorem wJ2_104 : ew_iW RJ2 104 16 kJ2_newCapacity 1 := ⟨⟨_, rfl⟩, ew_q q570, ew_qt q571 rfl, ew_q q3339, ew_q q572, ⟨by decide +kernel, by decide +kernel⟩, by decide +kernel, w_J2_newCapacity, ew_q q125, by decide⟩
theorem wJ2_195 : ew_iW RJ2 195 16 kJ2_inflate 0 := ⟨⟨_, rfl⟩, ew_q q609, ew_qt q610 rfl, ew_q q3340, ew_q q611, ⟨by decide +kernel, by decide +kernel⟩, by decide +kernel, w_J2_inflate, ew_q q125, by decide⟩
theorem wJ2_204 : ew_iW RJ2 204 16 kJ2_appendNull 0 := ⟨⟨_, rfl⟩, ew_q q743, ew_qt q744 rfl, ew_q q3343, ew_q q745, ⟨by decide +kernel, by decide +kernel⟩, by decide +kernel, w_J2_appendNull, ew_q q125, by decide⟩
theorem wJ2_208 : ew_iW RJ2 208 16 kJ2_putStringAt 2 := ⟨⟨_, rfl⟩, ew_q q759, ew_qt q760 rfl, ew_q q3344, ew_q q761, ⟨by decide +kernel, by decide +kernel⟩, by decide +kernel, w_J2_putStringAt, ew_q q125, by decide⟩
theorem wJ2_397 : ew_iW RJ2 397 16 kJ2_inflateIfNeededFor 1 := ⟨⟨_, rfl⟩, ew_q q763, ew_qt q764 rfl, ew_q q3345, ew_q q765, ⟨by decide +kernel, by decide +kernel⟩, by decide +kernel, w_J2_inflateIfNeededFor, ew_q q125, by decide⟩
theorem oJ15_30 : ew_iO RJ15 30 kJ23_getLongUnaligned 2 := ⟨ew_q q981, ew_q q979, ew_q q980, ⟨by decide +kernel, by decide +kernel⟩, by decide +kernel, w_J23_getLongUnaligned, ew_q q150, by decide⟩
theorem oJ15_54 : ew_iO RJ15 54 kJ23_getIntUnaligned 2 := ⟨ew_q q1052, ew_q q1050, ew_q q1051, ⟨by decide +kernel, by decide +kernel⟩, by decide +kernel, w_J23_getIntUnaligned, ew_q q150, by decide⟩
