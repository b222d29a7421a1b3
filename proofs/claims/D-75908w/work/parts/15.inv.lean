/-! EW: the call instructions -/
set_option maxRecDepth 100000
theorem ew_ari {x : MethodName} {n k : Nat} (h : (parseMethodDescriptor x.desc).map (fun d => d.parameters.length) = some n) (hk : k = n) : ∀ sig, parseMethodDescriptor x.desc = some sig → k = sig.parameters.length := by
  intro sig hs
  rw [hs] at h
  exact hk.trans (Option.some.inj h).symm
/-- invokevirtual: entry idx of own, on an object of the class numbered ci, runs K', of n arguments -/
def ew_iV (own : String) (idx ci : Nat) (K' : ek) (n : Nat) : Prop := (∃ r : vw_C, ewCl[ci]? = some r ∧ ew_w (.selects r.1 K'.1 K'.1)) ∧ (ew_w (.methodLink own idx K'.1) ∨ ∃ host, ew_w (.methodLinkNest own idx K'.1 host)) ∧ ew_w (.instanceMethod K'.1) ∧ (K'.1.cls ≠ "java/lang/invoke/MethodHandle" ∧ K'.1.cls ≠ "java/lang/invoke/VarHandle") ∧ (parseMethodDescriptor K'.1.desc).map (fun d => d.parameters.length) = some n ∧ ew_w (ew_cw K') ∧ ew_w (.initialized K'.1.cls) ∧ K'.2.2.1 ≤ 40
/-- the same, the entry naming the method through another class or a method that is overridden -/
def ew_iU (own : String) (idx ci : Nat) (K' : ek) (n : Nat) : Prop := ∃ (r : vw_C) (x : MethodName) (owner : String), ewCl[ci]? = some r ∧ ew_w (.selects r.1 x K'.1) ∧ ew_w (.methodLink own idx x) ∧ ew_w (.sameMethod x.cls owner x.name x.desc) ∧ ew_w (.instanceMethod ⟨owner, x.name, x.desc⟩) ∧ (∃ Kx : ek, Kx.1 = ⟨owner, x.name, x.desc⟩ ∧ ew_w (ew_cw Kx)) ∧ (owner ≠ "java/lang/invoke/MethodHandle" ∧ owner ≠ "java/lang/invoke/VarHandle") ∧ ew_w (.instanceMethod K'.1) ∧ (parseMethodDescriptor x.desc).map (fun d => d.parameters.length) = some n ∧ ew_w (ew_cw K') ∧ ew_w (.initialized K'.1.cls) ∧ K'.2.2.1 ≤ 40
/-- invokestatic -/
def ew_iS (own : String) (idx : Nat) (K' : ek) (n : Nat) : Prop := (ew_w (.methodLink own idx K'.1) ∨ ∃ host, ew_w (.methodLinkNest own idx K'.1 host)) ∧ ew_w (.static K'.1) ∧ (K'.1.cls ≠ "java/lang/invoke/MethodHandle" ∧ K'.1.cls ≠ "java/lang/invoke/VarHandle") ∧ (parseMethodDescriptor K'.1.desc).map (fun d => d.parameters.length) = some n ∧ ew_w (ew_cw K') ∧ ew_w (.initialized K'.1.cls) ∧ K'.2.2.1 ≤ 40
/-- a constructor -/
def ew_iI (own : String) (idx : Nat) (K' : ek) (n : Nat) : Prop := (ew_w (.methodLink own idx K'.1) ∨ ∃ host, ew_w (.methodLinkNest own idx K'.1 host)) ∧ ew_w (.instanceMethod K'.1) ∧ K'.1.name = "<init>" ∧ K'.2.2.2.1 = none ∧ K'.2.2.2.2 = [] ∧ (K'.1.cls ≠ "java/lang/invoke/MethodHandle" ∧ K'.1.cls ≠ "java/lang/invoke/VarHandle") ∧ (parseMethodDescriptor K'.1.desc).map (fun d => d.parameters.length) = some n ∧ ew_w (ew_cw K') ∧ ew_w (.initialized K'.1.cls) ∧ K'.2.2.1 ≤ 40
/-- super.m(..) -/
def ew_iP (own : String) (idx : Nat) (K' : ek) (n : Nat) : Prop := ew_w (.methodLink own idx K'.1) ∧ ew_w (.sameMethod K'.1.cls K'.1.cls K'.1.name K'.1.desc) ∧ ew_w (.superclass own K'.1.cls) ∧ ew_w (.instanceMethod K'.1) ∧ K'.1.name ≠ "<init>" ∧ (parseMethodDescriptor K'.1.desc).map (fun d => d.parameters.length) = some n ∧ ew_w (ew_cw K') ∧ ew_w (.initialized K'.1.cls) ∧ K'.2.2.1 ≤ 40
/-- invokeinterface -/
def ew_iF (own : String) (idx ci : Nat) (K' : ek) (n : Nat) : Prop := ∃ (r : vw_C) (x : MethodName), ewCl[ci]? = some r ∧ ew_w (.methodLink own idx x) ∧ ew_w (.declares x) ∧ ew_w (.interfaceMethod x.cls x.cls x.name x.desc) ∧ ew_w (.selects r.1 x K'.1) ∧ ew_w (.instanceMethod K'.1) ∧ ew_w (.publicMethod K'.1) ∧ ew_w (.unhidden r.1 x.name x.desc) ∧ ew_w (.castable r.1 x.cls) ∧ (x.cls ≠ "java/lang/invoke/MethodHandle" ∧ x.cls ≠ "java/lang/invoke/VarHandle") ∧ (parseMethodDescriptor x.desc).map (fun d => d.parameters.length) = some n ∧ ew_w (ew_cw K') ∧ ew_w (.initialized K'.1.cls) ∧ K'.2.2.1 ≤ 40
theorem ew_invV {g : eg} {K K' : ek} {d pc idx ci n b : Nat} {rest As : List Value} {fs : List Value} {h : eh} (hI : ew_iV K.1.cls idx ci K' n) (ha : rd g h b = some (ob ci fs)) (hn : As.length = n) (hdg : decode K.2.1 pc = .ok (.invokevirtual idx, 3)) : ew_inv g K d pc 3 (As.reverse ++ .ref b :: rest) rest h K' (.ref b :: As) := by
  intro p e R s m args below meth c C T locs cells slots ls Pre Post PostX hs hsize X hK hpre hrest
  obtain ⟨hx, hb, hml, hr, hlk, hown, htab, hnm, hg, hfr, hlo⟩ := C
  have hdg' : decode c.code pc = .ok (.invokevirtual idx, 3) := by rw [hb]; exact hdg
  obtain ⟨⟨r, hc, hsel⟩, hlink, hinst, hy, har, hcw, hini, hL⟩ := hI
  obtain ⟨cellB, hcell, hobj, hcls⟩ := ew_recv hg hc (hs.rd hg ha)
  obtain ⟨mk, methM, hnamed, hmethM, hstM, habM⟩ := Cond.instanceMethod_spec (hg.word hinst args)
  obtain ⟨methM', cM, hmethM', -, -, -, -, -, -, hsigM⟩ := ew_code hnamed (hg.word hcw args)
  cases hmethM.symm.trans hmethM'
  obtain ⟨c2, r2, m2, q1, q2, q3, q4, kP, hkP, hkPi⟩ := Cond.selects_spec (hg.word hsel args)
  cases hcls.symm.trans q1
  cases (State.methodFound?_of_named hnamed hy).symm.trans q2
  cases hnamed.symm.trans q3
  have hselP : selectMethod e.platform s.vm cellB.cls mk = .method mk := by rw [Launch.admits_selectMethod X.admits]; exact q4
  have hlen := ew_ari har hn
  have hor : ∃ vm₁, Stand p (eg_l g) e R s m args below meth c (T.setVm vm₁) locs cells slots ∧ ∀ target, (∀ acts, Steps p.tables e below (doInvoke e ((T.setVm vm₁).setTop (F0 m pc ls rest)) acts mk (Value.ref b :: As).toArray).1 target) → Steps p.tables e below (T.setTop (F0 m pc ls (As.reverse ++ .ref b :: rest))) target := by
    rcases hlink with hlink | ⟨host, hlink⟩
    · exact X.invokevirtual hx hown (hg.word hlink args) hnamed hmethM hstM hkP hkPi hy (a := b) (cell := cellB) hcell
        (fun z h => by rw [h] at hobj; cases hobj) hselP hmethM habM hkP hkPi (g := F0 m pc ls (As.reverse ++ .ref b :: rest)) rfl (argsL := As) (rest := rest) (hlen _ hsigM) rfl hdg'
    · exact X.invokevirtualNest hx hown (hg.word hlink args) hnamed hmethM hstM hkP hkPi hy (a := b) (cell := cellB) hcell
        (fun z h => by rw [h] at hobj; cases hobj) hselP hmethM habM hkP hkPi (g := F0 m pc ls (As.reverse ++ .ref b :: rest)) rfl (argsL := As) (rest := rest) (hlen _ hsigM) rfl hdg'
  obtain ⟨vm₁, X₁, hstep₁⟩ := hor
  rcases hK m meth c ⟨T.setVm vm₁, locs, cells, slots⟩ (F0 m pc ls rest) (.invokevirtual idx) mk (Value.ref b :: As).toArray X₁ rfl hsize hdg' (by show 2 * 0 + (rest.map fun v => v.category).sum ≤ 24; omega) (X₁.named hnamed) (hpre vm₁ X₁.warmed) with ⟨v, B, X', hpost, hsteps⟩ | ⟨q, B, X', hpost, hsteps⟩
  · exact Or.inl ⟨v, vm₁, B, X₁.warmed, X', hpost, fun target h => hstep₁ _ fun acts => (by rw [doInvoke_state]; exact hsteps.trans h)⟩
  · exact Or.inr ⟨q, vm₁, B, X₁.warmed, X', hpost, hstep₁ _ fun acts => (by rw [doInvoke_state]; exact hsteps)⟩
theorem ew_invU {g : eg} {K K' : ek} {d pc idx ci n b : Nat} {rest As : List Value} {fs : List Value} {h : eh} (hI : ew_iU K.1.cls idx ci K' n) (ha : rd g h b = some (ob ci fs)) (hn : As.length = n) (hdg : decode K.2.1 pc = .ok (.invokevirtual idx, 3)) : ew_inv g K d pc 3 (As.reverse ++ .ref b :: rest) rest h K' (.ref b :: As) := by
  intro p e R s m args below meth c C T locs cells slots ls Pre Post PostX hs hsize X hK hpre hrest
  obtain ⟨hx, hb, hml, hr, hlk, hown, htab, hnm, hg, hfr, hlo⟩ := C
  have hdg' : decode c.code pc = .ok (.invokevirtual idx, 3) := by rw [hb]; exact hdg
  obtain ⟨r, x, owner, hc, hsel, hlink, hsame, hinst0, ⟨Kx, hKx, hcx⟩, howner, hinst, har, hcw, hini, hL⟩ := hI
  obtain ⟨cellB, hcell, hobj, hcls⟩ := ew_recv hg hc (hs.rd hg ha)
  obtain ⟨r0, rm, hn0, hrm, hstR, -⟩ := Cond.instanceMethod_spec (hg.word hinst0 args)
  obtain ⟨rm', cR, hrm', -, -, -, -, -, -, hsigR⟩ := ew_code (K := Kx) (by rw [hKx]; exact hn0) (hg.word hcx args)
  cases hrm.symm.trans hrm'
  rw [hKx] at hsigR
  obtain ⟨cn, ck, r1, hcn, hck, hni, hf, hn1⟩ := Cond.sameMethod_found (hg.word hsame args)
  cases hn0.symm.trans hn1
  obtain ⟨mk, methM, hnamed, hmethM, -, habM⟩ := Cond.instanceMethod_spec (hg.word hinst args)
  obtain ⟨c2, r2, m2, q1, q2, q3, q4, kP, hkP, hkPi⟩ := Cond.selects_spec (hg.word hsel args)
  cases hcls.symm.trans q1
  cases hf.symm.trans q2
  cases hnamed.symm.trans q3
  have hselP : selectMethod e.platform s.vm cellB.cls r0 = .method mk := by rw [Launch.admits_selectMethod X.admits]; exact q4
  obtain ⟨vm₁, X₁, hstep₁⟩ := X.invokevirtualUp hx hown (hg.word hlink args) (hg.word hsame args) howner hn0 hrm hstR (a := b) (cell := cellB) hcell
    (fun z h => by rw [h] at hobj; cases hobj) hselP hmethM habM hkP hkPi (g := F0 m pc ls (As.reverse ++ .ref b :: rest)) rfl (argsL := As) (rest := rest) (ew_ari har hn _ hsigR) rfl hdg'
  rcases hK m meth c ⟨T.setVm vm₁, locs, cells, slots⟩ (F0 m pc ls rest) (.invokevirtual idx) mk (Value.ref b :: As).toArray X₁ rfl hsize hdg' (by show 2 * 0 + (rest.map fun v => v.category).sum ≤ 24; omega) (X₁.named hnamed) (hpre vm₁ X₁.warmed) with ⟨v, B, X', hpost, hsteps⟩ | ⟨q, B, X', hpost, hsteps⟩
  · exact Or.inl ⟨v, vm₁, B, X₁.warmed, X', hpost, fun target h => hstep₁ _ fun acts => (by rw [doInvoke_state]; exact hsteps.trans h)⟩
  · exact Or.inr ⟨q, vm₁, B, X₁.warmed, X', hpost, hstep₁ _ fun acts => (by rw [doInvoke_state]; exact hsteps)⟩
theorem ew_invS {g : eg} {K K' : ek} {d pc idx n : Nat} {rest As : List Value} {h : eh} (hI : ew_iS K.1.cls idx K' n) (hn : As.length = n) (hdg : decode K.2.1 pc = .ok (.invokestatic idx, 3)) : ew_inv g K d pc 3 (As.reverse ++ rest) rest h K' As := by
  intro p e R s m args below meth c C T locs cells slots ls Pre Post PostX hs hsize X hK hpre hrest
  obtain ⟨hx, hb, hml, hr, hlk, hown, htab, hnm, hg, hfr, hlo⟩ := C
  have hdg' : decode c.code pc = .ok (.invokestatic idx, 3) := by rw [hb]; exact hdg
  obtain ⟨hlink, hstat, hy, har, hcw, hini, hL⟩ := hI
  have hmk : ∃ mk, s.methodNamed? K'.1 = some mk := by
    obtain ⟨y, b, nn, r, hh⟩ := K'
    cases hh with
    | nil => exact Cond.code_named (show (Cond.code y b nn r).before args s = true from hg.word hcw args)
    | cons x hh =>
      obtain ⟨m9, meth9, c9, hn9, -⟩ := Cond.codeWith_spec (show (Cond.codeWith y b nn r (x :: hh)).before args s = true from hg.word hcw args)
      exact ⟨m9, hn9⟩
  obtain ⟨mk, hnamed⟩ := hmk
  obtain ⟨methM, cM, hmethM, -, -, -, -, -, -, hsigM⟩ := ew_code hnamed (hg.word hcw args)
  have hstatic : methM.isStatic = true := Cond.static_spec hnamed hmethM (hg.word hstat args)
  obtain ⟨kP, hkP, -⟩ := className_of_methodNamed hnamed
  have hinitP : kP.init = .initialized := Cond.initialized_spec (findClass_of_methodNamed hnamed) hkP (hg.word hini args)
  have hlen := ew_ari har hn
  have hor : ∃ vm₁, Stand p (eg_l g) e R s m args below meth c (T.setVm vm₁) locs cells slots ∧ ∀ target, (∀ acts, Steps p.tables e below (doInvoke e ((T.setVm vm₁).setTop (F0 m pc ls rest)) acts mk As.toArray).1 target) → Steps p.tables e below (T.setTop (F0 m pc ls (As.reverse ++ rest))) target := by
    rcases hlink with hlink | ⟨host, hlink⟩
    · exact X.invokestatic hx hown (hg.word hlink args) hnamed hmethM hstatic hkP hinitP hy (g := F0 m pc ls (As.reverse ++ rest)) rfl (argsL := As) (rest := rest) (hlen _ hsigM) rfl hdg'
    · exact X.invokestaticNest hx hown (hg.word hlink args) hnamed hmethM hstatic hkP hinitP hy (g := F0 m pc ls (As.reverse ++ rest)) rfl (argsL := As) (rest := rest) (hlen _ hsigM) rfl hdg'
  obtain ⟨vm₁, X₁, hstep₁⟩ := hor
  rcases hK m meth c ⟨T.setVm vm₁, locs, cells, slots⟩ (F0 m pc ls rest) (.invokestatic idx) mk (As).toArray X₁ rfl hsize hdg' (by show 2 * 0 + (rest.map fun v => v.category).sum ≤ 24; omega) (X₁.named hnamed) (hpre vm₁ X₁.warmed) with ⟨v, B, X', hpost, hsteps⟩ | ⟨q, B, X', hpost, hsteps⟩
  · exact Or.inl ⟨v, vm₁, B, X₁.warmed, X', hpost, fun target h => hstep₁ _ fun acts => (by rw [doInvoke_state]; exact hsteps.trans h)⟩
  · exact Or.inr ⟨q, vm₁, B, X₁.warmed, X', hpost, hstep₁ _ fun acts => (by rw [doInvoke_state]; exact hsteps)⟩
theorem ew_invI {g : eg} {K K' : ek} {d pc idx n b : Nat} {rest As : List Value} {h : eh} (hI : ew_iI K.1.cls idx K' n) (hn : As.length = n) (hdg : decode K.2.1 pc = .ok (.invokespecial idx, 3)) : ew_inv g K d pc 3 (As.reverse ++ .ref b :: rest) rest h K' (.ref b :: As) := by
  intro p e R s m args below meth c C T locs cells slots ls Pre Post PostX hs hsize X hK hpre hrest
  obtain ⟨hx, hb, hml, hr, hlk, hown, htab, hnm, hg, hfr, hlo⟩ := C
  have hdg' : decode c.code pc = .ok (.invokespecial idx, 3) := by rw [hb]; exact hdg
  obtain ⟨hlink, hinst, hy1, hret, hhh, hy, har, hcw, hini, hL⟩ := hI
  have hcode : (Cond.code K'.1 K'.2.1 K'.2.2.1 none).before args s = true := by
    obtain ⟨y, bb, nn, r, hh⟩ := K'
    dsimp only at hret hhh
    subst hret; subst hhh
    exact hg.word hcw args
  have hpl : e.platform.magicAccessors = ({} : Platform).magicAccessors := by rw [X.admits.platform]
  have hlen := ew_ari har hn
  have hor : ∃ vm₁ mk, s.methodNamed? K'.1 = some mk ∧ Stand p (eg_l g) e R s m args below meth c (T.setVm vm₁) locs cells slots ∧ ∀ target, (∀ acts, Steps p.tables e below (doInvoke e ((T.setVm vm₁).setTop (F0 m pc ls rest)) acts mk (Value.ref b :: As).toArray).1 target) → Steps p.tables e below (T.setTop (F0 m pc ls (As.reverse ++ .ref b :: rest))) target := by
    rcases hlink with hlink | ⟨host, hlink⟩
    · obtain ⟨mk, methM, cM, kP, vm₁, hnamed, hmethM, hcodeM, -, hlocalsM, -, hkP, -, hW₁, hstep₁⟩ := Steps.initColdArgs (e := e) X.here hx X.warmed hpl hown hy1 hy (hg.word hlink args) (hg.word hinst args) hcode (f := F0 m pc ls (As.reverse ++ .ref b :: rest)) rfl hlen rfl hdg'
      exact ⟨vm₁, mk, hnamed, X.noted hW₁, hstep₁⟩
    · obtain ⟨mk, methM, cM, kP, vm₁, hnamed, hmethM, hcodeM, -, hlocalsM, -, hkP, -, hW₁, hstep₁⟩ := Steps.initColdArgsNest (e := e) X.here hx X.warmed hpl hown hy1 hy (hg.word hlink args) (hg.word hinst args) hcode (f := F0 m pc ls (As.reverse ++ .ref b :: rest)) rfl hlen rfl hdg'
      exact ⟨vm₁, mk, hnamed, X.noted hW₁, hstep₁⟩
  obtain ⟨vm₁, mk, hnamed, X₁, hstep₁⟩ := hor
  rcases hK m meth c ⟨T.setVm vm₁, locs, cells, slots⟩ (F0 m pc ls rest) (.invokespecial idx) mk (Value.ref b :: As).toArray X₁ rfl hsize hdg' (by show 2 * 0 + (rest.map fun v => v.category).sum ≤ 24; omega) (X₁.named hnamed) (hpre vm₁ X₁.warmed) with ⟨v, B, X', hpost, hsteps⟩ | ⟨q, B, X', hpost, hsteps⟩
  · exact Or.inl ⟨v, vm₁, B, X₁.warmed, X', hpost, fun target h => hstep₁ _ fun acts => (by rw [doInvoke_state]; exact hsteps.trans h)⟩
  · exact Or.inr ⟨q, vm₁, B, X₁.warmed, X', hpost, hstep₁ _ fun acts => (by rw [doInvoke_state]; exact hsteps)⟩
theorem ew_invP {g : eg} {K K' : ek} {d pc idx ci n b : Nat} {rest As : List Value} {fs : List Value} {r : vw_C} {h : eh} (hI : ew_iP K.1.cls idx K' n) (hc : ewCl[ci]? = some r) (ha : rd g h b = some (ob ci fs)) (hn : As.length = n) (hdg : decode K.2.1 pc = .ok (.invokespecial idx, 3)) : ew_inv g K d pc 3 (As.reverse ++ .ref b :: rest) rest h K' (.ref b :: As) := by
  intro p e R s m args below meth c C T locs cells slots ls Pre Post PostX hs hsize X hK hpre hrest
  obtain ⟨hx, hb, hml, hr, hlk, hown, htab, hnm, hg, hfr, hlo⟩ := C
  have hdg' : decode c.code pc = .ok (.invokespecial idx, 3) := by rw [hb]; exact hdg
  obtain ⟨hlink, hsame, hsup, hinst, hno, har, hcw, hini, hL⟩ := hI
  obtain ⟨cellB, hcell, hobj, hcls⟩ := ew_recv hg hc (hs.rd hg ha)
  obtain ⟨kB, hkB, -⟩ := Vm.findClass_spec hcls
  obtain ⟨mk, methM, hnamed, hmethM, hstM, habM⟩ := Cond.instanceMethod_spec (hg.word hinst args)
  obtain ⟨methM', cM, hmethM', -, -, -, -, -, -, hsigM⟩ := ew_code hnamed (hg.word hcw args)
  cases hmethM.symm.trans hmethM'
  obtain ⟨ps, dk, kp, hps, hdk, hkp, hsuper, -, -, hnid⟩ := Cond.superclass_spec hown (hg.word hsup args)
  have hpm : ps = mk.cls := Option.some.inj (hps.symm.trans (findClass_of_methodNamed hnamed))
  have hsub : s.vm.isSubclass ps mk.cls = true := by rw [hpm]; simp [Vm.isSubclass, Vm.isSubclassAux]
  obtain ⟨vm₁, X₁, hstep₁⟩ := X.invokespecialUp hx hown (hg.word hlink args) (hg.word hsame args) (show s.methodNamed? ⟨K'.1.cls, K'.1.name, K'.1.desc⟩ = some mk from hnamed) hmethM hstM habM hno hdk hnid hps hsuper hsub (a := b) (cell := cellB) hcell
    (fun z h => by rw [h] at hobj; cases hobj) hkB (g := F0 m pc ls (As.reverse ++ .ref b :: rest)) rfl (argsL := As) (rest := rest) (ew_ari har hn _ hsigM) rfl hdg'
  rcases hK m meth c ⟨T.setVm vm₁, locs, cells, slots⟩ (F0 m pc ls rest) (.invokespecial idx) mk (Value.ref b :: As).toArray X₁ rfl hsize hdg' (by show 2 * 0 + (rest.map fun v => v.category).sum ≤ 24; omega) (X₁.named hnamed) (hpre vm₁ X₁.warmed) with ⟨v, B, X', hpost, hsteps⟩ | ⟨q, B, X', hpost, hsteps⟩
  · exact Or.inl ⟨v, vm₁, B, X₁.warmed, X', hpost, fun target h => hstep₁ _ (by rw [doInvoke_state]; exact hsteps.trans h)⟩
  · exact Or.inr ⟨q, vm₁, B, X₁.warmed, X', hpost, hstep₁ _ (by rw [doInvoke_state]; exact hsteps)⟩
theorem ew_invF {g : eg} {K K' : ek} {d pc idx ci n b count : Nat} {rest As : List Value} {fs : List Value} {h : eh} (hI : ew_iF K.1.cls idx ci K' n) (ha : rd g h b = some (ob ci fs)) (hn : As.length = n) (hdg : decode K.2.1 pc = .ok (.invokeinterface idx count, 5)) : ew_inv g K d pc 5 (As.reverse ++ .ref b :: rest) rest h K' (.ref b :: As) := by
  intro p e R s m args below meth c C T locs cells slots ls Pre Post PostX hs hsize X hK hpre hrest
  obtain ⟨hx, hb, hml, hr, hlk, hown, htab, hnm, hg, hfr, hlo⟩ := C
  have hdg' : decode c.code pc = .ok (.invokeinterface idx count, 5) := by rw [hb]; exact hdg
  obtain ⟨rc, x, hc, hlink, hdecl, hface, hsel, hinst, hpub, hunh, hcast, hx9, har, hcw, hini, hL⟩ := hI
  obtain ⟨cellB, hcell, hobj, hcls⟩ := ew_recv hg hc (hs.rd hg ha)
  obtain ⟨kB, hkB, -⟩ := Vm.findClass_spec hcls
  obtain ⟨r0, r, hn0, hrm, hstR, hsigR⟩ := Cond.declares_spec (hg.word hdecl args)
  obtain ⟨cL, kL, r1, hcL, hkL, hiL, hfoundL, hn1⟩ := Cond.interfaceMethod_spec (hg.word hface args)
  cases hn0.symm.trans hn1
  have hr0cls : r0.cls = cL := Option.some.inj ((findClass_of_methodNamed hn0).symm.trans hcL)
  obtain ⟨hnameR, hdescR⟩ := name_of_methodNamed hn0 hrm
  obtain ⟨mk, methM, hnamed, hmethM, -, habM⟩ := Cond.instanceMethod_spec (hg.word hinst args)
  obtain ⟨c2, r2, m2, q1, q2, q3, q4, -⟩ := Cond.selects_spec (hg.word hsel args)
  cases hcls.symm.trans q1
  cases hfoundL.symm.trans q2
  cases hnamed.symm.trans q3
  have hselP : selectMethod e.platform s.vm cellB.cls r0 = .method mk := by rw [Launch.admits_selectMethod X.admits]; exact q4
  have hpubM : hasFlag methM.accessFlags Acc.public_ = true := Cond.publicMethod_spec hnamed hmethM (hg.word hpub args)
  have hway : ((cellB.cls :: s.vm.superclasses cellB.cls).any fun k => (declaredIn s.vm r.name r.desc k).any fun (_, z) => z.isPrivate || z.isStatic) = false := by
    rw [hnameR, hdescR]; exact Cond.unhidden_spec hcls (hg.word hunh args)
  obtain ⟨c3, t3, w1, w2, w3⟩ := Cond.castable_spec (hg.word hcast args)
  cases hcls.symm.trans w1
  cases hcL.symm.trans w2
  obtain ⟨vm₁, X₁, hstep₁⟩ := X.invokeinterface hx hown (hg.word hlink args) hn0 hrm hstR (by rw [hr0cls]; exact hkL) hiL hx9 (a := b) (cell := cellB) (kcell := kB) hcell
    (fun z h => by rw [h] at hobj; cases hobj) hkB (by rw [hr0cls]; exact w3) hselP hmethM hway hpubM habM (g := F0 m pc ls (As.reverse ++ .ref b :: rest)) rfl (argsL := As) (rest := rest) (ew_ari har hn _ hsigR) rfl hdg'
  rcases hK m meth c ⟨T.setVm vm₁, locs, cells, slots⟩ (F0 m pc ls rest) (.invokeinterface idx count) mk (Value.ref b :: As).toArray X₁ rfl hsize hdg' (by show 2 * 0 + (rest.map fun v => v.category).sum ≤ 24; omega) (X₁.named hnamed) (hpre vm₁ X₁.warmed) with ⟨v, B, X', hpost, hsteps⟩ | ⟨q, B, X', hpost, hsteps⟩
  · exact Or.inl ⟨v, vm₁, B, X₁.warmed, X', hpost, fun target h => hstep₁ _ fun acts => (by rw [doInvoke_state]; exact hsteps.trans h)⟩
  · exact Or.inr ⟨q, vm₁, B, X₁.warmed, X', hpost, hstep₁ _ fun acts => (by rw [doInvoke_state]; exact hsteps)⟩
theorem ew_Kr {g : eg} {K : ek} {d pc pc1 : Nat} {L rest : List Value} {Q : Outcome → eh → Prop} {h : eh} {v : Value} (k : ew_G g K d pc1 L (v :: rest) h Q) : ew_K g K d pc pc1 L rest Q (.returned (some v)) h := k
theorem ew_Kv {g : eg} {K : ek} {d pc pc1 : Nat} {L rest : List Value} {Q : Outcome → eh → Prop} {h : eh} (k : ew_G g K d pc1 L rest h Q) : ew_K g K d pc pc1 L rest Q (.returned none) h := k
theorem ew_Kx {g : eg} {K : ek} {d pc pc1 : Nat} {L rest : List Value} {Q : Outcome → eh → Prop} {h : eh} {q : Nat} (k : ew_X g K d pc L h q Q) : ew_K g K d pc pc1 L rest Q (.threw q) h := k
theorem ew_comV {own : String} {idx ci n : Nat} {K' : ek} (h : ew_iV own idx ci K' n) : ew_w (ew_cw K') ∧ ew_w (.initialized K'.1.cls) ∧ K'.2.2.1 ≤ 40 := h.2.2.2.2.2
theorem ew_comU {own : String} {idx ci n : Nat} {K' : ek} (h : ew_iU own idx ci K' n) : ew_w (ew_cw K') ∧ ew_w (.initialized K'.1.cls) ∧ K'.2.2.1 ≤ 40 := by
  obtain ⟨r, x, owner, -, -, -, -, -, -, -, -, -, h1, h2, h3⟩ := h
  exact ⟨h1, h2, h3⟩
theorem ew_comF {own : String} {idx ci n : Nat} {K' : ek} (h : ew_iF own idx ci K' n) : ew_w (ew_cw K') ∧ ew_w (.initialized K'.1.cls) ∧ K'.2.2.1 ≤ 40 := by
  obtain ⟨r, x, -, -, -, -, -, -, -, -, -, -, -, h1, h2, h3⟩ := h
  exact ⟨h1, h2, h3⟩
theorem ew_comP {own : String} {idx n : Nat} {K' : ek} (h : ew_iP own idx K' n) : ew_w (ew_cw K') ∧ ew_w (.initialized K'.1.cls) ∧ K'.2.2.1 ≤ 40 := by
  obtain ⟨-, -, -, -, -, -, h1, h2, h3⟩ := h
  exact ⟨h1, h2, h3⟩
theorem ew_cS0 {g : eg} {K K' : ek} {d d' pc idx : Nat} {L rest : List Value} {h : eh} {Q : Outcome → eh → Prop} (hI : ew_iS K.1.cls idx K' 0) (hdg : decode K.2.1 pc = .ok (.invokestatic idx, 3)) (hd : d' + 1 ≤ d) (hrest : (rest.map fun v => v.category).sum ≤ 24) (k : ew_T g K' d' [] h (ew_K g K d pc (pc + 3) L rest Q)) : ew_G g K d pc L (rest) h Q :=
  ew_call (ew_invS (As := []) hI rfl hdg) hd hI.2.2.2.2.2.2 hI.2.2.2.2.1 hI.2.2.2.2.2.1 hrest k
theorem ew_cI0 {b : Nat} {g : eg} {K K' : ek} {d d' pc idx : Nat} {L rest : List Value} {h : eh} {Q : Outcome → eh → Prop} (hI : ew_iI K.1.cls idx K' 0) (hdg : decode K.2.1 pc = .ok (.invokespecial idx, 3)) (hd : d' + 1 ≤ d) (hrest : (rest.map fun v => v.category).sum ≤ 24) (k : ew_T g K' d' [.ref b] h (ew_K g K d pc (pc + 3) L rest Q)) : ew_G g K d pc L (.ref b :: rest) h Q :=
  ew_call (ew_invI (As := []) hI rfl hdg) hd hI.2.2.2.2.2.2.2.2.2 hI.2.2.2.2.2.2.2.1 hI.2.2.2.2.2.2.2.2.1 hrest k
theorem ew_cV0 {b ci : Nat} {fs : List Value} {g : eg} {K K' : ek} {d d' pc idx : Nat} {L rest : List Value} {h : eh} {Q : Outcome → eh → Prop} (hI : ew_iV K.1.cls idx ci K' 0) (ha : rd g h b = some (ob ci fs)) (hdg : decode K.2.1 pc = .ok (.invokevirtual idx, 3)) (hd : d' + 1 ≤ d) (hrest : (rest.map fun v => v.category).sum ≤ 24) (k : ew_T g K' d' [.ref b] h (ew_K g K d pc (pc + 3) L rest Q)) : ew_G g K d pc L (.ref b :: rest) h Q := by
  obtain ⟨h1, h2, h3⟩ := ew_comV hI
  exact ew_call (ew_invV (As := []) hI ha rfl hdg) hd h3 h1 h2 hrest k
theorem ew_cU0 {b ci : Nat} {fs : List Value} {g : eg} {K K' : ek} {d d' pc idx : Nat} {L rest : List Value} {h : eh} {Q : Outcome → eh → Prop} (hI : ew_iU K.1.cls idx ci K' 0) (ha : rd g h b = some (ob ci fs)) (hdg : decode K.2.1 pc = .ok (.invokevirtual idx, 3)) (hd : d' + 1 ≤ d) (hrest : (rest.map fun v => v.category).sum ≤ 24) (k : ew_T g K' d' [.ref b] h (ew_K g K d pc (pc + 3) L rest Q)) : ew_G g K d pc L (.ref b :: rest) h Q := by
  obtain ⟨h1, h2, h3⟩ := ew_comU hI
  exact ew_call (ew_invU (As := []) hI ha rfl hdg) hd h3 h1 h2 hrest k
theorem ew_cF0 {b ci count : Nat} {fs : List Value} {g : eg} {K K' : ek} {d d' pc idx : Nat} {L rest : List Value} {h : eh} {Q : Outcome → eh → Prop} (hI : ew_iF K.1.cls idx ci K' 0) (ha : rd g h b = some (ob ci fs)) (hdg : decode K.2.1 pc = .ok (.invokeinterface idx count, 5)) (hd : d' + 1 ≤ d) (hrest : (rest.map fun v => v.category).sum ≤ 24) (k : ew_T g K' d' [.ref b] h (ew_K g K d pc (pc + 5) L rest Q)) : ew_G g K d pc L (.ref b :: rest) h Q := by
  obtain ⟨h1, h2, h3⟩ := ew_comF hI
  exact ew_call (ew_invF (As := []) hI ha rfl hdg) hd h3 h1 h2 hrest k
theorem ew_cP0 {b ci : Nat} {fs : List Value} {r : vw_C} {g : eg} {K K' : ek} {d d' pc idx : Nat} {L rest : List Value} {h : eh} {Q : Outcome → eh → Prop} (hI : ew_iP K.1.cls idx K' 0) (hc : ewCl[ci]? = some r) (ha : rd g h b = some (ob ci fs)) (hdg : decode K.2.1 pc = .ok (.invokespecial idx, 3)) (hd : d' + 1 ≤ d) (hrest : (rest.map fun v => v.category).sum ≤ 24) (k : ew_T g K' d' [.ref b] h (ew_K g K d pc (pc + 3) L rest Q)) : ew_G g K d pc L (.ref b :: rest) h Q := by
  obtain ⟨h1, h2, h3⟩ := ew_comP hI
  exact ew_call (ew_invP (As := []) hI hc ha rfl hdg) hd h3 h1 h2 hrest k
theorem ew_cS1 {g : eg} {K K' : ek} {d d' pc idx : Nat} {L rest : List Value} {h : eh} {Q : Outcome → eh → Prop} {x1 : Value} (hI : ew_iS K.1.cls idx K' 1) (hdg : decode K.2.1 pc = .ok (.invokestatic idx, 3)) (hd : d' + 1 ≤ d) (hrest : (rest.map fun v => v.category).sum ≤ 24) (k : ew_T g K' d' [x1] h (ew_K g K d pc (pc + 3) L rest Q)) : ew_G g K d pc L (x1 :: rest) h Q :=
  ew_call (ew_invS (As := [x1]) hI rfl hdg) hd hI.2.2.2.2.2.2 hI.2.2.2.2.1 hI.2.2.2.2.2.1 hrest k
theorem ew_cI1 {b : Nat} {g : eg} {K K' : ek} {d d' pc idx : Nat} {L rest : List Value} {h : eh} {Q : Outcome → eh → Prop} {x1 : Value} (hI : ew_iI K.1.cls idx K' 1) (hdg : decode K.2.1 pc = .ok (.invokespecial idx, 3)) (hd : d' + 1 ≤ d) (hrest : (rest.map fun v => v.category).sum ≤ 24) (k : ew_T g K' d' [.ref b, x1] h (ew_K g K d pc (pc + 3) L rest Q)) : ew_G g K d pc L (x1 :: .ref b :: rest) h Q :=
  ew_call (ew_invI (As := [x1]) hI rfl hdg) hd hI.2.2.2.2.2.2.2.2.2 hI.2.2.2.2.2.2.2.1 hI.2.2.2.2.2.2.2.2.1 hrest k
theorem ew_cV1 {b ci : Nat} {fs : List Value} {g : eg} {K K' : ek} {d d' pc idx : Nat} {L rest : List Value} {h : eh} {Q : Outcome → eh → Prop} {x1 : Value} (hI : ew_iV K.1.cls idx ci K' 1) (ha : rd g h b = some (ob ci fs)) (hdg : decode K.2.1 pc = .ok (.invokevirtual idx, 3)) (hd : d' + 1 ≤ d) (hrest : (rest.map fun v => v.category).sum ≤ 24) (k : ew_T g K' d' [.ref b, x1] h (ew_K g K d pc (pc + 3) L rest Q)) : ew_G g K d pc L (x1 :: .ref b :: rest) h Q := by
  obtain ⟨h1, h2, h3⟩ := ew_comV hI
  exact ew_call (ew_invV (As := [x1]) hI ha rfl hdg) hd h3 h1 h2 hrest k
theorem ew_cU1 {b ci : Nat} {fs : List Value} {g : eg} {K K' : ek} {d d' pc idx : Nat} {L rest : List Value} {h : eh} {Q : Outcome → eh → Prop} {x1 : Value} (hI : ew_iU K.1.cls idx ci K' 1) (ha : rd g h b = some (ob ci fs)) (hdg : decode K.2.1 pc = .ok (.invokevirtual idx, 3)) (hd : d' + 1 ≤ d) (hrest : (rest.map fun v => v.category).sum ≤ 24) (k : ew_T g K' d' [.ref b, x1] h (ew_K g K d pc (pc + 3) L rest Q)) : ew_G g K d pc L (x1 :: .ref b :: rest) h Q := by
  obtain ⟨h1, h2, h3⟩ := ew_comU hI
  exact ew_call (ew_invU (As := [x1]) hI ha rfl hdg) hd h3 h1 h2 hrest k
theorem ew_cF1 {b ci count : Nat} {fs : List Value} {g : eg} {K K' : ek} {d d' pc idx : Nat} {L rest : List Value} {h : eh} {Q : Outcome → eh → Prop} {x1 : Value} (hI : ew_iF K.1.cls idx ci K' 1) (ha : rd g h b = some (ob ci fs)) (hdg : decode K.2.1 pc = .ok (.invokeinterface idx count, 5)) (hd : d' + 1 ≤ d) (hrest : (rest.map fun v => v.category).sum ≤ 24) (k : ew_T g K' d' [.ref b, x1] h (ew_K g K d pc (pc + 5) L rest Q)) : ew_G g K d pc L (x1 :: .ref b :: rest) h Q := by
  obtain ⟨h1, h2, h3⟩ := ew_comF hI
  exact ew_call (ew_invF (As := [x1]) hI ha rfl hdg) hd h3 h1 h2 hrest k
theorem ew_cP1 {b ci : Nat} {fs : List Value} {r : vw_C} {g : eg} {K K' : ek} {d d' pc idx : Nat} {L rest : List Value} {h : eh} {Q : Outcome → eh → Prop} {x1 : Value} (hI : ew_iP K.1.cls idx K' 1) (hc : ewCl[ci]? = some r) (ha : rd g h b = some (ob ci fs)) (hdg : decode K.2.1 pc = .ok (.invokespecial idx, 3)) (hd : d' + 1 ≤ d) (hrest : (rest.map fun v => v.category).sum ≤ 24) (k : ew_T g K' d' [.ref b, x1] h (ew_K g K d pc (pc + 3) L rest Q)) : ew_G g K d pc L (x1 :: .ref b :: rest) h Q := by
  obtain ⟨h1, h2, h3⟩ := ew_comP hI
  exact ew_call (ew_invP (As := [x1]) hI hc ha rfl hdg) hd h3 h1 h2 hrest k
theorem ew_cS2 {g : eg} {K K' : ek} {d d' pc idx : Nat} {L rest : List Value} {h : eh} {Q : Outcome → eh → Prop} {x1 x2 : Value} (hI : ew_iS K.1.cls idx K' 2) (hdg : decode K.2.1 pc = .ok (.invokestatic idx, 3)) (hd : d' + 1 ≤ d) (hrest : (rest.map fun v => v.category).sum ≤ 24) (k : ew_T g K' d' [x1, x2] h (ew_K g K d pc (pc + 3) L rest Q)) : ew_G g K d pc L (x2 :: x1 :: rest) h Q :=
  ew_call (ew_invS (As := [x1, x2]) hI rfl hdg) hd hI.2.2.2.2.2.2 hI.2.2.2.2.1 hI.2.2.2.2.2.1 hrest k
theorem ew_cI2 {b : Nat} {g : eg} {K K' : ek} {d d' pc idx : Nat} {L rest : List Value} {h : eh} {Q : Outcome → eh → Prop} {x1 x2 : Value} (hI : ew_iI K.1.cls idx K' 2) (hdg : decode K.2.1 pc = .ok (.invokespecial idx, 3)) (hd : d' + 1 ≤ d) (hrest : (rest.map fun v => v.category).sum ≤ 24) (k : ew_T g K' d' [.ref b, x1, x2] h (ew_K g K d pc (pc + 3) L rest Q)) : ew_G g K d pc L (x2 :: x1 :: .ref b :: rest) h Q :=
  ew_call (ew_invI (As := [x1, x2]) hI rfl hdg) hd hI.2.2.2.2.2.2.2.2.2 hI.2.2.2.2.2.2.2.1 hI.2.2.2.2.2.2.2.2.1 hrest k
theorem ew_cV2 {b ci : Nat} {fs : List Value} {g : eg} {K K' : ek} {d d' pc idx : Nat} {L rest : List Value} {h : eh} {Q : Outcome → eh → Prop} {x1 x2 : Value} (hI : ew_iV K.1.cls idx ci K' 2) (ha : rd g h b = some (ob ci fs)) (hdg : decode K.2.1 pc = .ok (.invokevirtual idx, 3)) (hd : d' + 1 ≤ d) (hrest : (rest.map fun v => v.category).sum ≤ 24) (k : ew_T g K' d' [.ref b, x1, x2] h (ew_K g K d pc (pc + 3) L rest Q)) : ew_G g K d pc L (x2 :: x1 :: .ref b :: rest) h Q := by
  obtain ⟨h1, h2, h3⟩ := ew_comV hI
  exact ew_call (ew_invV (As := [x1, x2]) hI ha rfl hdg) hd h3 h1 h2 hrest k
theorem ew_cU2 {b ci : Nat} {fs : List Value} {g : eg} {K K' : ek} {d d' pc idx : Nat} {L rest : List Value} {h : eh} {Q : Outcome → eh → Prop} {x1 x2 : Value} (hI : ew_iU K.1.cls idx ci K' 2) (ha : rd g h b = some (ob ci fs)) (hdg : decode K.2.1 pc = .ok (.invokevirtual idx, 3)) (hd : d' + 1 ≤ d) (hrest : (rest.map fun v => v.category).sum ≤ 24) (k : ew_T g K' d' [.ref b, x1, x2] h (ew_K g K d pc (pc + 3) L rest Q)) : ew_G g K d pc L (x2 :: x1 :: .ref b :: rest) h Q := by
  obtain ⟨h1, h2, h3⟩ := ew_comU hI
  exact ew_call (ew_invU (As := [x1, x2]) hI ha rfl hdg) hd h3 h1 h2 hrest k
theorem ew_cF2 {b ci count : Nat} {fs : List Value} {g : eg} {K K' : ek} {d d' pc idx : Nat} {L rest : List Value} {h : eh} {Q : Outcome → eh → Prop} {x1 x2 : Value} (hI : ew_iF K.1.cls idx ci K' 2) (ha : rd g h b = some (ob ci fs)) (hdg : decode K.2.1 pc = .ok (.invokeinterface idx count, 5)) (hd : d' + 1 ≤ d) (hrest : (rest.map fun v => v.category).sum ≤ 24) (k : ew_T g K' d' [.ref b, x1, x2] h (ew_K g K d pc (pc + 5) L rest Q)) : ew_G g K d pc L (x2 :: x1 :: .ref b :: rest) h Q := by
  obtain ⟨h1, h2, h3⟩ := ew_comF hI
  exact ew_call (ew_invF (As := [x1, x2]) hI ha rfl hdg) hd h3 h1 h2 hrest k
theorem ew_cP2 {b ci : Nat} {fs : List Value} {r : vw_C} {g : eg} {K K' : ek} {d d' pc idx : Nat} {L rest : List Value} {h : eh} {Q : Outcome → eh → Prop} {x1 x2 : Value} (hI : ew_iP K.1.cls idx K' 2) (hc : ewCl[ci]? = some r) (ha : rd g h b = some (ob ci fs)) (hdg : decode K.2.1 pc = .ok (.invokespecial idx, 3)) (hd : d' + 1 ≤ d) (hrest : (rest.map fun v => v.category).sum ≤ 24) (k : ew_T g K' d' [.ref b, x1, x2] h (ew_K g K d pc (pc + 3) L rest Q)) : ew_G g K d pc L (x2 :: x1 :: .ref b :: rest) h Q := by
  obtain ⟨h1, h2, h3⟩ := ew_comP hI
  exact ew_call (ew_invP (As := [x1, x2]) hI hc ha rfl hdg) hd h3 h1 h2 hrest k
theorem ew_cS3 {g : eg} {K K' : ek} {d d' pc idx : Nat} {L rest : List Value} {h : eh} {Q : Outcome → eh → Prop} {x1 x2 x3 : Value} (hI : ew_iS K.1.cls idx K' 3) (hdg : decode K.2.1 pc = .ok (.invokestatic idx, 3)) (hd : d' + 1 ≤ d) (hrest : (rest.map fun v => v.category).sum ≤ 24) (k : ew_T g K' d' [x1, x2, x3] h (ew_K g K d pc (pc + 3) L rest Q)) : ew_G g K d pc L (x3 :: x2 :: x1 :: rest) h Q :=
  ew_call (ew_invS (As := [x1, x2, x3]) hI rfl hdg) hd hI.2.2.2.2.2.2 hI.2.2.2.2.1 hI.2.2.2.2.2.1 hrest k
theorem ew_cI3 {b : Nat} {g : eg} {K K' : ek} {d d' pc idx : Nat} {L rest : List Value} {h : eh} {Q : Outcome → eh → Prop} {x1 x2 x3 : Value} (hI : ew_iI K.1.cls idx K' 3) (hdg : decode K.2.1 pc = .ok (.invokespecial idx, 3)) (hd : d' + 1 ≤ d) (hrest : (rest.map fun v => v.category).sum ≤ 24) (k : ew_T g K' d' [.ref b, x1, x2, x3] h (ew_K g K d pc (pc + 3) L rest Q)) : ew_G g K d pc L (x3 :: x2 :: x1 :: .ref b :: rest) h Q :=
  ew_call (ew_invI (As := [x1, x2, x3]) hI rfl hdg) hd hI.2.2.2.2.2.2.2.2.2 hI.2.2.2.2.2.2.2.1 hI.2.2.2.2.2.2.2.2.1 hrest k
theorem ew_cV3 {b ci : Nat} {fs : List Value} {g : eg} {K K' : ek} {d d' pc idx : Nat} {L rest : List Value} {h : eh} {Q : Outcome → eh → Prop} {x1 x2 x3 : Value} (hI : ew_iV K.1.cls idx ci K' 3) (ha : rd g h b = some (ob ci fs)) (hdg : decode K.2.1 pc = .ok (.invokevirtual idx, 3)) (hd : d' + 1 ≤ d) (hrest : (rest.map fun v => v.category).sum ≤ 24) (k : ew_T g K' d' [.ref b, x1, x2, x3] h (ew_K g K d pc (pc + 3) L rest Q)) : ew_G g K d pc L (x3 :: x2 :: x1 :: .ref b :: rest) h Q := by
  obtain ⟨h1, h2, h3⟩ := ew_comV hI
  exact ew_call (ew_invV (As := [x1, x2, x3]) hI ha rfl hdg) hd h3 h1 h2 hrest k
theorem ew_cU3 {b ci : Nat} {fs : List Value} {g : eg} {K K' : ek} {d d' pc idx : Nat} {L rest : List Value} {h : eh} {Q : Outcome → eh → Prop} {x1 x2 x3 : Value} (hI : ew_iU K.1.cls idx ci K' 3) (ha : rd g h b = some (ob ci fs)) (hdg : decode K.2.1 pc = .ok (.invokevirtual idx, 3)) (hd : d' + 1 ≤ d) (hrest : (rest.map fun v => v.category).sum ≤ 24) (k : ew_T g K' d' [.ref b, x1, x2, x3] h (ew_K g K d pc (pc + 3) L rest Q)) : ew_G g K d pc L (x3 :: x2 :: x1 :: .ref b :: rest) h Q := by
  obtain ⟨h1, h2, h3⟩ := ew_comU hI
  exact ew_call (ew_invU (As := [x1, x2, x3]) hI ha rfl hdg) hd h3 h1 h2 hrest k
theorem ew_cF3 {b ci count : Nat} {fs : List Value} {g : eg} {K K' : ek} {d d' pc idx : Nat} {L rest : List Value} {h : eh} {Q : Outcome → eh → Prop} {x1 x2 x3 : Value} (hI : ew_iF K.1.cls idx ci K' 3) (ha : rd g h b = some (ob ci fs)) (hdg : decode K.2.1 pc = .ok (.invokeinterface idx count, 5)) (hd : d' + 1 ≤ d) (hrest : (rest.map fun v => v.category).sum ≤ 24) (k : ew_T g K' d' [.ref b, x1, x2, x3] h (ew_K g K d pc (pc + 5) L rest Q)) : ew_G g K d pc L (x3 :: x2 :: x1 :: .ref b :: rest) h Q := by
  obtain ⟨h1, h2, h3⟩ := ew_comF hI
  exact ew_call (ew_invF (As := [x1, x2, x3]) hI ha rfl hdg) hd h3 h1 h2 hrest k
theorem ew_cP3 {b ci : Nat} {fs : List Value} {r : vw_C} {g : eg} {K K' : ek} {d d' pc idx : Nat} {L rest : List Value} {h : eh} {Q : Outcome → eh → Prop} {x1 x2 x3 : Value} (hI : ew_iP K.1.cls idx K' 3) (hc : ewCl[ci]? = some r) (ha : rd g h b = some (ob ci fs)) (hdg : decode K.2.1 pc = .ok (.invokespecial idx, 3)) (hd : d' + 1 ≤ d) (hrest : (rest.map fun v => v.category).sum ≤ 24) (k : ew_T g K' d' [.ref b, x1, x2, x3] h (ew_K g K d pc (pc + 3) L rest Q)) : ew_G g K d pc L (x3 :: x2 :: x1 :: .ref b :: rest) h Q := by
  obtain ⟨h1, h2, h3⟩ := ew_comP hI
  exact ew_call (ew_invP (As := [x1, x2, x3]) hI hc ha rfl hdg) hd h3 h1 h2 hrest k
theorem ew_cS4 {g : eg} {K K' : ek} {d d' pc idx : Nat} {L rest : List Value} {h : eh} {Q : Outcome → eh → Prop} {x1 x2 x3 x4 : Value} (hI : ew_iS K.1.cls idx K' 4) (hdg : decode K.2.1 pc = .ok (.invokestatic idx, 3)) (hd : d' + 1 ≤ d) (hrest : (rest.map fun v => v.category).sum ≤ 24) (k : ew_T g K' d' [x1, x2, x3, x4] h (ew_K g K d pc (pc + 3) L rest Q)) : ew_G g K d pc L (x4 :: x3 :: x2 :: x1 :: rest) h Q :=
  ew_call (ew_invS (As := [x1, x2, x3, x4]) hI rfl hdg) hd hI.2.2.2.2.2.2 hI.2.2.2.2.1 hI.2.2.2.2.2.1 hrest k
theorem ew_cI4 {b : Nat} {g : eg} {K K' : ek} {d d' pc idx : Nat} {L rest : List Value} {h : eh} {Q : Outcome → eh → Prop} {x1 x2 x3 x4 : Value} (hI : ew_iI K.1.cls idx K' 4) (hdg : decode K.2.1 pc = .ok (.invokespecial idx, 3)) (hd : d' + 1 ≤ d) (hrest : (rest.map fun v => v.category).sum ≤ 24) (k : ew_T g K' d' [.ref b, x1, x2, x3, x4] h (ew_K g K d pc (pc + 3) L rest Q)) : ew_G g K d pc L (x4 :: x3 :: x2 :: x1 :: .ref b :: rest) h Q :=
  ew_call (ew_invI (As := [x1, x2, x3, x4]) hI rfl hdg) hd hI.2.2.2.2.2.2.2.2.2 hI.2.2.2.2.2.2.2.1 hI.2.2.2.2.2.2.2.2.1 hrest k
theorem ew_cV4 {b ci : Nat} {fs : List Value} {g : eg} {K K' : ek} {d d' pc idx : Nat} {L rest : List Value} {h : eh} {Q : Outcome → eh → Prop} {x1 x2 x3 x4 : Value} (hI : ew_iV K.1.cls idx ci K' 4) (ha : rd g h b = some (ob ci fs)) (hdg : decode K.2.1 pc = .ok (.invokevirtual idx, 3)) (hd : d' + 1 ≤ d) (hrest : (rest.map fun v => v.category).sum ≤ 24) (k : ew_T g K' d' [.ref b, x1, x2, x3, x4] h (ew_K g K d pc (pc + 3) L rest Q)) : ew_G g K d pc L (x4 :: x3 :: x2 :: x1 :: .ref b :: rest) h Q := by
  obtain ⟨h1, h2, h3⟩ := ew_comV hI
  exact ew_call (ew_invV (As := [x1, x2, x3, x4]) hI ha rfl hdg) hd h3 h1 h2 hrest k
theorem ew_cU4 {b ci : Nat} {fs : List Value} {g : eg} {K K' : ek} {d d' pc idx : Nat} {L rest : List Value} {h : eh} {Q : Outcome → eh → Prop} {x1 x2 x3 x4 : Value} (hI : ew_iU K.1.cls idx ci K' 4) (ha : rd g h b = some (ob ci fs)) (hdg : decode K.2.1 pc = .ok (.invokevirtual idx, 3)) (hd : d' + 1 ≤ d) (hrest : (rest.map fun v => v.category).sum ≤ 24) (k : ew_T g K' d' [.ref b, x1, x2, x3, x4] h (ew_K g K d pc (pc + 3) L rest Q)) : ew_G g K d pc L (x4 :: x3 :: x2 :: x1 :: .ref b :: rest) h Q := by
  obtain ⟨h1, h2, h3⟩ := ew_comU hI
  exact ew_call (ew_invU (As := [x1, x2, x3, x4]) hI ha rfl hdg) hd h3 h1 h2 hrest k
theorem ew_cF4 {b ci count : Nat} {fs : List Value} {g : eg} {K K' : ek} {d d' pc idx : Nat} {L rest : List Value} {h : eh} {Q : Outcome → eh → Prop} {x1 x2 x3 x4 : Value} (hI : ew_iF K.1.cls idx ci K' 4) (ha : rd g h b = some (ob ci fs)) (hdg : decode K.2.1 pc = .ok (.invokeinterface idx count, 5)) (hd : d' + 1 ≤ d) (hrest : (rest.map fun v => v.category).sum ≤ 24) (k : ew_T g K' d' [.ref b, x1, x2, x3, x4] h (ew_K g K d pc (pc + 5) L rest Q)) : ew_G g K d pc L (x4 :: x3 :: x2 :: x1 :: .ref b :: rest) h Q := by
  obtain ⟨h1, h2, h3⟩ := ew_comF hI
  exact ew_call (ew_invF (As := [x1, x2, x3, x4]) hI ha rfl hdg) hd h3 h1 h2 hrest k
theorem ew_cP4 {b ci : Nat} {fs : List Value} {r : vw_C} {g : eg} {K K' : ek} {d d' pc idx : Nat} {L rest : List Value} {h : eh} {Q : Outcome → eh → Prop} {x1 x2 x3 x4 : Value} (hI : ew_iP K.1.cls idx K' 4) (hc : ewCl[ci]? = some r) (ha : rd g h b = some (ob ci fs)) (hdg : decode K.2.1 pc = .ok (.invokespecial idx, 3)) (hd : d' + 1 ≤ d) (hrest : (rest.map fun v => v.category).sum ≤ 24) (k : ew_T g K' d' [.ref b, x1, x2, x3, x4] h (ew_K g K d pc (pc + 3) L rest Q)) : ew_G g K d pc L (x4 :: x3 :: x2 :: x1 :: .ref b :: rest) h Q := by
  obtain ⟨h1, h2, h3⟩ := ew_comP hI
  exact ew_call (ew_invP (As := [x1, x2, x3, x4]) hI hc ha rfl hdg) hd h3 h1 h2 hrest k
theorem ew_cS5 {g : eg} {K K' : ek} {d d' pc idx : Nat} {L rest : List Value} {h : eh} {Q : Outcome → eh → Prop} {x1 x2 x3 x4 x5 : Value} (hI : ew_iS K.1.cls idx K' 5) (hdg : decode K.2.1 pc = .ok (.invokestatic idx, 3)) (hd : d' + 1 ≤ d) (hrest : (rest.map fun v => v.category).sum ≤ 24) (k : ew_T g K' d' [x1, x2, x3, x4, x5] h (ew_K g K d pc (pc + 3) L rest Q)) : ew_G g K d pc L (x5 :: x4 :: x3 :: x2 :: x1 :: rest) h Q :=
  ew_call (ew_invS (As := [x1, x2, x3, x4, x5]) hI rfl hdg) hd hI.2.2.2.2.2.2 hI.2.2.2.2.1 hI.2.2.2.2.2.1 hrest k
theorem ew_cI5 {b : Nat} {g : eg} {K K' : ek} {d d' pc idx : Nat} {L rest : List Value} {h : eh} {Q : Outcome → eh → Prop} {x1 x2 x3 x4 x5 : Value} (hI : ew_iI K.1.cls idx K' 5) (hdg : decode K.2.1 pc = .ok (.invokespecial idx, 3)) (hd : d' + 1 ≤ d) (hrest : (rest.map fun v => v.category).sum ≤ 24) (k : ew_T g K' d' [.ref b, x1, x2, x3, x4, x5] h (ew_K g K d pc (pc + 3) L rest Q)) : ew_G g K d pc L (x5 :: x4 :: x3 :: x2 :: x1 :: .ref b :: rest) h Q :=
  ew_call (ew_invI (As := [x1, x2, x3, x4, x5]) hI rfl hdg) hd hI.2.2.2.2.2.2.2.2.2 hI.2.2.2.2.2.2.2.1 hI.2.2.2.2.2.2.2.2.1 hrest k
theorem ew_cV5 {b ci : Nat} {fs : List Value} {g : eg} {K K' : ek} {d d' pc idx : Nat} {L rest : List Value} {h : eh} {Q : Outcome → eh → Prop} {x1 x2 x3 x4 x5 : Value} (hI : ew_iV K.1.cls idx ci K' 5) (ha : rd g h b = some (ob ci fs)) (hdg : decode K.2.1 pc = .ok (.invokevirtual idx, 3)) (hd : d' + 1 ≤ d) (hrest : (rest.map fun v => v.category).sum ≤ 24) (k : ew_T g K' d' [.ref b, x1, x2, x3, x4, x5] h (ew_K g K d pc (pc + 3) L rest Q)) : ew_G g K d pc L (x5 :: x4 :: x3 :: x2 :: x1 :: .ref b :: rest) h Q := by
  obtain ⟨h1, h2, h3⟩ := ew_comV hI
  exact ew_call (ew_invV (As := [x1, x2, x3, x4, x5]) hI ha rfl hdg) hd h3 h1 h2 hrest k
theorem ew_cU5 {b ci : Nat} {fs : List Value} {g : eg} {K K' : ek} {d d' pc idx : Nat} {L rest : List Value} {h : eh} {Q : Outcome → eh → Prop} {x1 x2 x3 x4 x5 : Value} (hI : ew_iU K.1.cls idx ci K' 5) (ha : rd g h b = some (ob ci fs)) (hdg : decode K.2.1 pc = .ok (.invokevirtual idx, 3)) (hd : d' + 1 ≤ d) (hrest : (rest.map fun v => v.category).sum ≤ 24) (k : ew_T g K' d' [.ref b, x1, x2, x3, x4, x5] h (ew_K g K d pc (pc + 3) L rest Q)) : ew_G g K d pc L (x5 :: x4 :: x3 :: x2 :: x1 :: .ref b :: rest) h Q := by
  obtain ⟨h1, h2, h3⟩ := ew_comU hI
  exact ew_call (ew_invU (As := [x1, x2, x3, x4, x5]) hI ha rfl hdg) hd h3 h1 h2 hrest k
theorem ew_cF5 {b ci count : Nat} {fs : List Value} {g : eg} {K K' : ek} {d d' pc idx : Nat} {L rest : List Value} {h : eh} {Q : Outcome → eh → Prop} {x1 x2 x3 x4 x5 : Value} (hI : ew_iF K.1.cls idx ci K' 5) (ha : rd g h b = some (ob ci fs)) (hdg : decode K.2.1 pc = .ok (.invokeinterface idx count, 5)) (hd : d' + 1 ≤ d) (hrest : (rest.map fun v => v.category).sum ≤ 24) (k : ew_T g K' d' [.ref b, x1, x2, x3, x4, x5] h (ew_K g K d pc (pc + 5) L rest Q)) : ew_G g K d pc L (x5 :: x4 :: x3 :: x2 :: x1 :: .ref b :: rest) h Q := by
  obtain ⟨h1, h2, h3⟩ := ew_comF hI
  exact ew_call (ew_invF (As := [x1, x2, x3, x4, x5]) hI ha rfl hdg) hd h3 h1 h2 hrest k
theorem ew_cP5 {b ci : Nat} {fs : List Value} {r : vw_C} {g : eg} {K K' : ek} {d d' pc idx : Nat} {L rest : List Value} {h : eh} {Q : Outcome → eh → Prop} {x1 x2 x3 x4 x5 : Value} (hI : ew_iP K.1.cls idx K' 5) (hc : ewCl[ci]? = some r) (ha : rd g h b = some (ob ci fs)) (hdg : decode K.2.1 pc = .ok (.invokespecial idx, 3)) (hd : d' + 1 ≤ d) (hrest : (rest.map fun v => v.category).sum ≤ 24) (k : ew_T g K' d' [.ref b, x1, x2, x3, x4, x5] h (ew_K g K d pc (pc + 3) L rest Q)) : ew_G g K d pc L (x5 :: x4 :: x3 :: x2 :: x1 :: .ref b :: rest) h Q := by
  obtain ⟨h1, h2, h3⟩ := ew_comP hI
  exact ew_call (ew_invP (As := [x1, x2, x3, x4, x5]) hI hc ha rfl hdg) hd h3 h1 h2 hrest k
theorem ew_cS6 {g : eg} {K K' : ek} {d d' pc idx : Nat} {L rest : List Value} {h : eh} {Q : Outcome → eh → Prop} {x1 x2 x3 x4 x5 x6 : Value} (hI : ew_iS K.1.cls idx K' 6) (hdg : decode K.2.1 pc = .ok (.invokestatic idx, 3)) (hd : d' + 1 ≤ d) (hrest : (rest.map fun v => v.category).sum ≤ 24) (k : ew_T g K' d' [x1, x2, x3, x4, x5, x6] h (ew_K g K d pc (pc + 3) L rest Q)) : ew_G g K d pc L (x6 :: x5 :: x4 :: x3 :: x2 :: x1 :: rest) h Q :=
  ew_call (ew_invS (As := [x1, x2, x3, x4, x5, x6]) hI rfl hdg) hd hI.2.2.2.2.2.2 hI.2.2.2.2.1 hI.2.2.2.2.2.1 hrest k
theorem ew_cI6 {b : Nat} {g : eg} {K K' : ek} {d d' pc idx : Nat} {L rest : List Value} {h : eh} {Q : Outcome → eh → Prop} {x1 x2 x3 x4 x5 x6 : Value} (hI : ew_iI K.1.cls idx K' 6) (hdg : decode K.2.1 pc = .ok (.invokespecial idx, 3)) (hd : d' + 1 ≤ d) (hrest : (rest.map fun v => v.category).sum ≤ 24) (k : ew_T g K' d' [.ref b, x1, x2, x3, x4, x5, x6] h (ew_K g K d pc (pc + 3) L rest Q)) : ew_G g K d pc L (x6 :: x5 :: x4 :: x3 :: x2 :: x1 :: .ref b :: rest) h Q :=
  ew_call (ew_invI (As := [x1, x2, x3, x4, x5, x6]) hI rfl hdg) hd hI.2.2.2.2.2.2.2.2.2 hI.2.2.2.2.2.2.2.1 hI.2.2.2.2.2.2.2.2.1 hrest k
theorem ew_cV6 {b ci : Nat} {fs : List Value} {g : eg} {K K' : ek} {d d' pc idx : Nat} {L rest : List Value} {h : eh} {Q : Outcome → eh → Prop} {x1 x2 x3 x4 x5 x6 : Value} (hI : ew_iV K.1.cls idx ci K' 6) (ha : rd g h b = some (ob ci fs)) (hdg : decode K.2.1 pc = .ok (.invokevirtual idx, 3)) (hd : d' + 1 ≤ d) (hrest : (rest.map fun v => v.category).sum ≤ 24) (k : ew_T g K' d' [.ref b, x1, x2, x3, x4, x5, x6] h (ew_K g K d pc (pc + 3) L rest Q)) : ew_G g K d pc L (x6 :: x5 :: x4 :: x3 :: x2 :: x1 :: .ref b :: rest) h Q := by
  obtain ⟨h1, h2, h3⟩ := ew_comV hI
  exact ew_call (ew_invV (As := [x1, x2, x3, x4, x5, x6]) hI ha rfl hdg) hd h3 h1 h2 hrest k
theorem ew_cU6 {b ci : Nat} {fs : List Value} {g : eg} {K K' : ek} {d d' pc idx : Nat} {L rest : List Value} {h : eh} {Q : Outcome → eh → Prop} {x1 x2 x3 x4 x5 x6 : Value} (hI : ew_iU K.1.cls idx ci K' 6) (ha : rd g h b = some (ob ci fs)) (hdg : decode K.2.1 pc = .ok (.invokevirtual idx, 3)) (hd : d' + 1 ≤ d) (hrest : (rest.map fun v => v.category).sum ≤ 24) (k : ew_T g K' d' [.ref b, x1, x2, x3, x4, x5, x6] h (ew_K g K d pc (pc + 3) L rest Q)) : ew_G g K d pc L (x6 :: x5 :: x4 :: x3 :: x2 :: x1 :: .ref b :: rest) h Q := by
  obtain ⟨h1, h2, h3⟩ := ew_comU hI
  exact ew_call (ew_invU (As := [x1, x2, x3, x4, x5, x6]) hI ha rfl hdg) hd h3 h1 h2 hrest k
theorem ew_cF6 {b ci count : Nat} {fs : List Value} {g : eg} {K K' : ek} {d d' pc idx : Nat} {L rest : List Value} {h : eh} {Q : Outcome → eh → Prop} {x1 x2 x3 x4 x5 x6 : Value} (hI : ew_iF K.1.cls idx ci K' 6) (ha : rd g h b = some (ob ci fs)) (hdg : decode K.2.1 pc = .ok (.invokeinterface idx count, 5)) (hd : d' + 1 ≤ d) (hrest : (rest.map fun v => v.category).sum ≤ 24) (k : ew_T g K' d' [.ref b, x1, x2, x3, x4, x5, x6] h (ew_K g K d pc (pc + 5) L rest Q)) : ew_G g K d pc L (x6 :: x5 :: x4 :: x3 :: x2 :: x1 :: .ref b :: rest) h Q := by
  obtain ⟨h1, h2, h3⟩ := ew_comF hI
  exact ew_call (ew_invF (As := [x1, x2, x3, x4, x5, x6]) hI ha rfl hdg) hd h3 h1 h2 hrest k
theorem ew_cP6 {b ci : Nat} {fs : List Value} {r : vw_C} {g : eg} {K K' : ek} {d d' pc idx : Nat} {L rest : List Value} {h : eh} {Q : Outcome → eh → Prop} {x1 x2 x3 x4 x5 x6 : Value} (hI : ew_iP K.1.cls idx K' 6) (hc : ewCl[ci]? = some r) (ha : rd g h b = some (ob ci fs)) (hdg : decode K.2.1 pc = .ok (.invokespecial idx, 3)) (hd : d' + 1 ≤ d) (hrest : (rest.map fun v => v.category).sum ≤ 24) (k : ew_T g K' d' [.ref b, x1, x2, x3, x4, x5, x6] h (ew_K g K d pc (pc + 3) L rest Q)) : ew_G g K d pc L (x6 :: x5 :: x4 :: x3 :: x2 :: x1 :: .ref b :: rest) h Q := by
  obtain ⟨h1, h2, h3⟩ := ew_comP hI
  exact ew_call (ew_invP (As := [x1, x2, x3, x4, x5, x6]) hI hc ha rfl hdg) hd h3 h1 h2 hrest k
theorem ew_cS7 {g : eg} {K K' : ek} {d d' pc idx : Nat} {L rest : List Value} {h : eh} {Q : Outcome → eh → Prop} {x1 x2 x3 x4 x5 x6 x7 : Value} (hI : ew_iS K.1.cls idx K' 7) (hdg : decode K.2.1 pc = .ok (.invokestatic idx, 3)) (hd : d' + 1 ≤ d) (hrest : (rest.map fun v => v.category).sum ≤ 24) (k : ew_T g K' d' [x1, x2, x3, x4, x5, x6, x7] h (ew_K g K d pc (pc + 3) L rest Q)) : ew_G g K d pc L (x7 :: x6 :: x5 :: x4 :: x3 :: x2 :: x1 :: rest) h Q :=
  ew_call (ew_invS (As := [x1, x2, x3, x4, x5, x6, x7]) hI rfl hdg) hd hI.2.2.2.2.2.2 hI.2.2.2.2.1 hI.2.2.2.2.2.1 hrest k
theorem ew_cI7 {b : Nat} {g : eg} {K K' : ek} {d d' pc idx : Nat} {L rest : List Value} {h : eh} {Q : Outcome → eh → Prop} {x1 x2 x3 x4 x5 x6 x7 : Value} (hI : ew_iI K.1.cls idx K' 7) (hdg : decode K.2.1 pc = .ok (.invokespecial idx, 3)) (hd : d' + 1 ≤ d) (hrest : (rest.map fun v => v.category).sum ≤ 24) (k : ew_T g K' d' [.ref b, x1, x2, x3, x4, x5, x6, x7] h (ew_K g K d pc (pc + 3) L rest Q)) : ew_G g K d pc L (x7 :: x6 :: x5 :: x4 :: x3 :: x2 :: x1 :: .ref b :: rest) h Q :=
  ew_call (ew_invI (As := [x1, x2, x3, x4, x5, x6, x7]) hI rfl hdg) hd hI.2.2.2.2.2.2.2.2.2 hI.2.2.2.2.2.2.2.1 hI.2.2.2.2.2.2.2.2.1 hrest k
theorem ew_cV7 {b ci : Nat} {fs : List Value} {g : eg} {K K' : ek} {d d' pc idx : Nat} {L rest : List Value} {h : eh} {Q : Outcome → eh → Prop} {x1 x2 x3 x4 x5 x6 x7 : Value} (hI : ew_iV K.1.cls idx ci K' 7) (ha : rd g h b = some (ob ci fs)) (hdg : decode K.2.1 pc = .ok (.invokevirtual idx, 3)) (hd : d' + 1 ≤ d) (hrest : (rest.map fun v => v.category).sum ≤ 24) (k : ew_T g K' d' [.ref b, x1, x2, x3, x4, x5, x6, x7] h (ew_K g K d pc (pc + 3) L rest Q)) : ew_G g K d pc L (x7 :: x6 :: x5 :: x4 :: x3 :: x2 :: x1 :: .ref b :: rest) h Q := by
  obtain ⟨h1, h2, h3⟩ := ew_comV hI
  exact ew_call (ew_invV (As := [x1, x2, x3, x4, x5, x6, x7]) hI ha rfl hdg) hd h3 h1 h2 hrest k
theorem ew_cU7 {b ci : Nat} {fs : List Value} {g : eg} {K K' : ek} {d d' pc idx : Nat} {L rest : List Value} {h : eh} {Q : Outcome → eh → Prop} {x1 x2 x3 x4 x5 x6 x7 : Value} (hI : ew_iU K.1.cls idx ci K' 7) (ha : rd g h b = some (ob ci fs)) (hdg : decode K.2.1 pc = .ok (.invokevirtual idx, 3)) (hd : d' + 1 ≤ d) (hrest : (rest.map fun v => v.category).sum ≤ 24) (k : ew_T g K' d' [.ref b, x1, x2, x3, x4, x5, x6, x7] h (ew_K g K d pc (pc + 3) L rest Q)) : ew_G g K d pc L (x7 :: x6 :: x5 :: x4 :: x3 :: x2 :: x1 :: .ref b :: rest) h Q := by
  obtain ⟨h1, h2, h3⟩ := ew_comU hI
  exact ew_call (ew_invU (As := [x1, x2, x3, x4, x5, x6, x7]) hI ha rfl hdg) hd h3 h1 h2 hrest k
theorem ew_cF7 {b ci count : Nat} {fs : List Value} {g : eg} {K K' : ek} {d d' pc idx : Nat} {L rest : List Value} {h : eh} {Q : Outcome → eh → Prop} {x1 x2 x3 x4 x5 x6 x7 : Value} (hI : ew_iF K.1.cls idx ci K' 7) (ha : rd g h b = some (ob ci fs)) (hdg : decode K.2.1 pc = .ok (.invokeinterface idx count, 5)) (hd : d' + 1 ≤ d) (hrest : (rest.map fun v => v.category).sum ≤ 24) (k : ew_T g K' d' [.ref b, x1, x2, x3, x4, x5, x6, x7] h (ew_K g K d pc (pc + 5) L rest Q)) : ew_G g K d pc L (x7 :: x6 :: x5 :: x4 :: x3 :: x2 :: x1 :: .ref b :: rest) h Q := by
  obtain ⟨h1, h2, h3⟩ := ew_comF hI
  exact ew_call (ew_invF (As := [x1, x2, x3, x4, x5, x6, x7]) hI ha rfl hdg) hd h3 h1 h2 hrest k
theorem ew_cP7 {b ci : Nat} {fs : List Value} {r : vw_C} {g : eg} {K K' : ek} {d d' pc idx : Nat} {L rest : List Value} {h : eh} {Q : Outcome → eh → Prop} {x1 x2 x3 x4 x5 x6 x7 : Value} (hI : ew_iP K.1.cls idx K' 7) (hc : ewCl[ci]? = some r) (ha : rd g h b = some (ob ci fs)) (hdg : decode K.2.1 pc = .ok (.invokespecial idx, 3)) (hd : d' + 1 ≤ d) (hrest : (rest.map fun v => v.category).sum ≤ 24) (k : ew_T g K' d' [.ref b, x1, x2, x3, x4, x5, x6, x7] h (ew_K g K d pc (pc + 3) L rest Q)) : ew_G g K d pc L (x7 :: x6 :: x5 :: x4 :: x3 :: x2 :: x1 :: .ref b :: rest) h Q := by
  obtain ⟨h1, h2, h3⟩ := ew_comP hI
  exact ew_call (ew_invP (As := [x1, x2, x3, x4, x5, x6, x7]) hI hc ha rfl hdg) hd h3 h1 h2 hrest k
