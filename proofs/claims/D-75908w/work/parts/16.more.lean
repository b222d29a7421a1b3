/-! EW: exceptions that are made, arrays that are copied, the law's own begin and end -/
set_option maxRecDepth 100000
theorem ew_traces {g : eg} {s : State} (hg : ew_good g s) : (eg_l g).stackTraces = false := by
  have h := hg.2.2.2.2.2.2.2.2.1
  simp [Launch.stackTraces, h, flags0]
/-- 'new E()': the object goes on the stack, its fields unsaid -/
theorem ew_mk0 {g : eg} {K : ek} {d pc ik ic ci : Nat} {L rest : List Value} {h : eh} {Q : Outcome → eh → Prop} {cls : String} {names : List String} {T0 : u_T} (hc : ewCl[ci]? = some (cls, T0, 0)) (hcls : Bundle.fit cls = true) (hnames : ∀ n ∈ names, Bundle.fit n = true)
    (hk : ew_w (.classLink K.1.cls ik cls)) (hini : ew_w (.initialized cls)) (hat : ∀ w ∈ vx_at0 K.1.cls ic cls names, ew_w w) (hnl : names.length ≤ 8) (hrest : (rest.map fun v => v.category).sum ≤ 24)
    (d0 : decode K.2.1 pc = .ok (.new ik, 3)) (d3 : decode K.2.1 (pc + 3) = .ok (.dup, 1)) (d4 : decode K.2.1 (pc + 4) = .ok (.invokespecial ic, 3))
    (kk : ew_G g K d (pc + 7) L (.ref h.2.1 :: rest) (eh_new h (ob ci []) 6) Q) : ew_G g K d pc L rest h Q := by
  refine ew_gen (h1 := eh_new h (ob ci []) 6) (Nat.le_succ _) (Nat.le_add_right _ _) (fun h9 => h9.new) ?_ kk
  intro p e R s m args below meth c C H locs cells slots ls Q' hs hl hz hRcells hRslots kk
  have z1 : (eh_new h (ob ci []) 6).2.1 - h.2.1 = 1 := by show h.2.1 + 1 - h.2.1 = 1; omega
  have z2 : (eh_new h (ob ci []) 6).2.2 - h.2.2 = 6 := by show h.2.2 + 6 - h.2.2 = 6; omega
  rw [z1] at hRcells kk
  rw [z2] at hRslots kk
  obtain ⟨hexec, hb, hml, hr, hlk, hown, htab, hnm, hg, hfr, hlo⟩ := C
  have hsize : ls.size = c.maxLocals := hl.1.trans hml.symm
  intro T hT X
  subst hT
  have htr : e.platform.stackTraces = false := (show e.platform.stackTraces = (eg_l g).stackTraces by rw [X.admits.platform]).trans (ew_traces hg)
  have Y := vx_rebase X (R' := { frames := R.frames, locals := R.locals, cells := 1, slots := 6 }) (Nat.le_refl _) (Nat.le_refl _) hRcells hRslots
  obtain ⟨s', hA'⟩ : ∃ z, z = (T.setVm s.vm).setFrames (.invoking m args :: below) := ⟨_, rfl⟩
  rw [← hA'] at Y
  have hvm : s'.vm = s.vm := by rw [hA']; rfl
  have hhp : s'.heap = T.heap := by rw [hA']; rfl
  have hg' : ew_good g s' := hg.vm hvm
  have hat' : ∀ w ∈ vx_at0 K.1.cls ic cls names, w.before args s' = true := fun w hw => hg'.word (hat w hw) args
  have hU' : vx_Zq Bundle.tN "UNASSIGNED_STACK" Bundle.steD (fun q => eb g ≤ q) s' s'.heap := by
    rw [hhp]
    exact hg'.2.2.2.2.2.2.2.2.2.1.kept (fun a h1 h2 => hs.2.2.1 a h1)
  have hN' : vx_Zq Bundle.tN "SUPPRESSED_SENTINEL" Bundle.listD (fun q => eb g ≤ q) s' s'.heap := by
    rw [hhp]
    exact hg'.2.2.2.2.2.2.2.2.2.2.1.kept (fun a h1 h2 => hs.2.2.1 a h1)
  have h9 : ∀ w ∈ Bundle.ownAtoms0 K.1.cls ic cls names, w.before args s' = true := vx_own hat' (vx_isRefq hU'.1) (vx_isRefq hN'.1) hU'.2.word hN'.2.word
  have hown' : s'.vm.findClass K.1.cls = some m.cls := by rw [hvm]; exact hown
  have hins : (Cond.instantiable cls 6).before args s' = true := h9 _ (by simp [Bundle.ownAtoms0])
  obtain ⟨vm₁, cX, kX, hfX, hkX, -, -, X₁, st1⟩ := Y.newCold hexec (own := K.1.cls) (C := cls) (index := ik) (n := 6) hown' (hg'.word hk args) hins (hg'.word hini args)
    (g := F0 m pc ls rest) rfl (by rw [hb]; exact d0) (Nat.le_refl _) (Nat.le_refl _)
  generalize hT1 : (T.setVm vm₁).pushCell { cls := cX, slots := kX.instanceTypes.map defaultValue, vm := .none } = T1 at X₁ st1
  have hcat : (Value.ref T.heap.size).category = 1 := rfl
  have hcellA : T1.heap[T.heap.size]? = some (freshCell cX kX) := by rw [← hT1]; exact State.heap_pushCell_size _ _
  have d3' : decode c.code (pc + 3) = .ok (.dup, 1) := by rw [hb]; exact d3
  obtain ⟨V, ce, L9, Z, hL, hlt, hcl9, hvm9, st⟩ := vx_ctorMade0 X₁ hexec htr (own := K.1.cls) (cls := cls) (names := names) (ic := ic) hown' hcls hnames h9 (fun x hx => nomatch hx) hfX hkX hcellA (by rw [hhp]; exact Nat.le_refl _)
    (g := { method := m, pc := pc + 4, locals := ls, stack := .ref T.heap.size :: .ref T.heap.size :: rest, locked := none }) rfl hsize (rest := rest) rfl
    (by rw [hb]; exact d4) (by show names.length + 3 < R.frames; omega) (by simp only [List.map_cons, List.sum_cons, hcat]; show _ ≤ R.locals; omega)
  have Z0 := Stand.forget (locs := []) Z (fun y hy => by rw [hL y hy, hhp]; exact Nat.le_refl _)
  obtain ⟨f1, f2⟩ := vx_frame Z0.same
  have f3 : (V.setCell T.heap.size ce).heap.size ≤ T.heap.size + 1 := by
    have h3 := Z0.same.2.2.1
    rw [hhp] at h3
    exact h3
  rw [hhp] at f1 f2
  have hcid : ce.cls = (eg_D g).1 ci := by
    rw [hcl9]
    have h1 := (hg.2.1 ci _ hc).2.1
    rw [hvm] at hfX
    exact Option.some.inj (hfX.symm.trans h1)
  have hh : (V.setCell T.heap.size ce).heap[T.heap.size]? = some ce := heapAt_setCell_self (s := V) ce hlt
  have f4 : T.heap.size < (V.setCell T.heap.size ce).heap.size := (Array.getElem?_eq_some_iff.mp hh).1
  subst hA'
  have X5 := vx_back9 X Y Z0
  have X6 : Stand p (eg_l g) e R s m args below meth c (V.setCell T.heap.size ce) locs (cells + 1) (slots + 6) := { X5 with same := X5.same.mono (by omega) (by omega) }
  obtain ⟨t, a1, b1⟩ := kk (V.setCell T.heap.size ce).heap locs ls (hs.new 6 ⟨_, hc, ce, hh, hcid, hvm9, fun k hk => absurd hk (Nat.not_lt_zero k)⟩ (by omega) (fun q hq => f2 q hq (fun z hz => nomatch hz))) hl hz _ rfl X6
  refine ⟨t, st1 _ ?_, b1⟩
  show Steps p.tables e below (T1.setTop { method := m, pc := pc + 3, locals := ls, stack := .ref T.heap.size :: rest, locked := none }) _
  jvm_step X₁.here [X₁.here.top, hexec, d3', Value.category]
  have e9 : (F0 m (pc + 7) ls (.ref h.2.1 :: rest) : JFrame) = { method := m, pc := pc + 7, locals := ls, stack := .ref T.heap.size :: rest, locked := none } := by rw [hs.1]
  rw [e9] at a1
  exact st _ a1
theorem ew_nn {z : Int32} (hz : ¬ z < 0) : z.toInt = (z.toNatClampNeg : Int) := by
  have hz0 : (0 : Int) ≤ z.toInt := by
    have := Int32.not_lt.mp hz
    simpa using Int32.le_iff_toInt_le.mp this
  show z.toInt = ((z.toInt.toNat : Nat) : Int)
  omega
theorem ew_native {R : Room} {d : Nat} {rest : List Value} (hrest : (rest.map fun v => v.category).sum ≤ 24) (hlo : 12000 + 80 * d ≤ R.locals) : 2 * 0 + (rest.map fun v => v.category).sum + (nativeFrameWords "java/lang/System" "arraycopy" 5 + 11) ≤ R.locals := by
  have e9 : nativeFrameWords "java/lang/System" "arraycopy" 5 + 11 ≤ 100 := by decide +kernel
  omega
/-- System.arraycopy between int arrays (ty .int) or byte arrays (ty .byte); into itself too -/
theorem ew_copyi {g : eg} {K : ek} {d pc idx a0 a t n0 n1 : Nat} {L rest : List Value} {h : eh} {Q : Outcome → eh → Prop} {ty : FieldType} {f f1 : Nat → Int32} {sp dp n : Int32} (ht : ewTy[t]? = some ty) (hprim : refKind ty = false) (w1 : ew_w (.methodLink K.1.cls idx arraycopyName)) (w2 : ew_w (.native arraycopyName)) (w3 : ew_w (.static arraycopyName)) (w4 : ew_w (.initialized "java/lang/System"))
    (ha0 : rd g h a0 = some (.inl (t, n0, .inl f))) (ha : h.1 a = some (.inl (t, n1, .inl f1))) (h1 : ¬ sp < 0) (h2 : ¬ dp < 0) (h3 : ¬ n < 0) (h4 : sp.toNatClampNeg + n.toNatClampNeg ≤ n0) (h5 : dp.toNatClampNeg + n.toNatClampNeg ≤ n1) (hfit : ∀ i, i < n.toNatClampNeg → fits ty (.int (f (sp.toNatClampNeg + i))) = true)
    (hrest : (rest.map fun v => v.category).sum ≤ 24) (hdg : decode K.2.1 pc = .ok (.invokestatic idx, 3))
    (kk : ew_G g K d (pc + 3) L rest (eh_set h a (.inl (t, n1, .inl (va_cpy f f1 sp.toNatClampNeg dp.toNatClampNeg n.toNatClampNeg)))) Q) : ew_G g K d pc L (.int n :: .int dp :: .ref a :: .int sp :: .ref a0 :: rest) h Q := by
  refine ew_upd ha ?_ kk
  intro p e R s m args below meth c C H locs cells slots ls Q' hs hl hz kk
  obtain ⟨hexec, hb, hml, hr, hlk, hown, htab, hnm, hg, hfr, hlo⟩ := C
  intro T hT X
  subst hT
  have hc0 : T.heap[a0]? = some (vp_cell (eg_t g t) (n0, .inl f)) := (hs.rd hg ha0).1
  have hc1 : T.heap[a]? = some (vp_cell (eg_t g t) (n1, .inl f1)) := (hs.2.2.2 a _ ha).2.1
  obtain ⟨-, k0, hk0, cm0, hkk0⟩ := (hg.2.2.1 t _ ht).1 n0 (fun j => .int (f j))
  obtain ⟨vm', X', step⟩ := X.arraycopy hexec hown (hg.word w1 _) (hg.word w2 _) (hg.word w3 _) (hg.word w4 _) (src := a0) (dst := a) (cs := vp_cell (eg_t g t) (n0, .inl f)) (cd := vp_cell (eg_t g t) (n1, .inl f1)) (srcPos := sp) (destPos := dp) (n := n) hc0 hc1
    (fun _ h => by cases h) (fun _ h => by cases h) (fun h => by cases h) (fun h => by cases h) hk0 hk0 hkk0 hkk0 (by simp [hprim]) h1 h2 h3
    (by rw [ew_nn h1, ew_nn h3]; show ¬ _ > ((arrV (eg_t g t) n0 (fun j => .int (f j))).slots.size : Int); rw [arrV_size]; omega)
    (by rw [ew_nn h2, ew_nn h3]; show ¬ _ > ((arrV (eg_t g t) n1 (fun j => .int (f1 j))).slots.size : Int); rw [arrV_size]; omega)
    (fun vm₁ _ i hi => by
      have e : (vp_cell (eg_t g t) (n0, .inl f)).slots.getD (sp.toNatClampNeg + i) .null = .int (f (sp.toNatClampNeg + i)) := by
        show (arrV (eg_t g t) n0 (fun j => .int (f j))).slots.getD _ _ = _
        rw [Array.getD_eq_getD_getElem?, arrV_read _ _ (by omega)]
        rfl
      refine ⟨?_, ?_⟩
      · rw [e]
        exact hfit i hi
      · rw [e]
        exact trivial)
    (g := F0 m pc ls (.int n :: .int dp :: .ref a :: .int sp :: .ref a0 :: rest)) rfl (hl.1.trans hml.symm) (rest := rest) rfl (by rw [hb]; exact hdg) (by omega) (by exact ew_native hrest hlo)
  have e1 : copied (vp_cell (eg_t g t) (n0, .inl f)) (vp_cell (eg_t g t) (n1, .inl f1)) sp dp n = vp_cell (eg_t g t) (n1, .inl (va_cpy f f1 sp.toNatClampNeg dp.toNatClampNeg n.toNatClampNeg)) := va_copied (fun z => .int z) (eg_t g t) (eg_t g t) f f1 h4
  rw [e1] at X' step
  have hb9 := (hs.2.2.2 a _ ha).1
  have hl9 : a < T.heap.size := (Array.getElem?_eq_some_iff.mp hc1).1
  obtain ⟨tt, a1, b1⟩ := kk (T.heap.setIfInBounds a (vp_cell (eg_t g t) (n1, .inl (va_cpy f f1 sp.toNatClampNeg dp.toNatClampNeg n.toNatClampNeg)))) _ (hs.set ha ⟨by simp [Array.getElem?_setIfInBounds, hl9], ew_tyl ht⟩ (by simp) (fun q hq => by simp [Array.getElem?_setIfInBounds, Ne.symm hq])) (fun q hq => by
      rcases List.mem_append.mp hq with h9 | h9
      · exact hz q h9
      · obtain ⟨z, -, hz9⟩ := List.mem_map.mp h9
        rw [← hz9]
        exact hb9) _ rfl X'
  exact ⟨tt, step tt a1, b1⟩
/-- the same, between arrays of references of one type -/
theorem ew_copyq {g : eg} {K : ek} {d pc idx a0 a t n0 n1 : Nat} {E : String} {L rest : List Value} {h : eh} {Q : Outcome → eh → Prop} {f f1 : Nat → Option Nat} {sp dp n : Int32} (ht : ewTy[t]? = some (.object E)) (w1 : ew_w (.methodLink K.1.cls idx arraycopyName)) (w2 : ew_w (.native arraycopyName)) (w3 : ew_w (.static arraycopyName)) (w4 : ew_w (.initialized "java/lang/System"))
    (ha0 : rd g h a0 = some (aR t n0 f)) (ha : h.1 a = some (aR t n1 f1)) (h1 : ¬ sp < 0) (h2 : ¬ dp < 0) (h3 : ¬ n < 0) (h4 : sp.toNatClampNeg + n.toNatClampNeg ≤ n0) (h5 : dp.toNatClampNeg + n.toNatClampNeg ≤ n1) (hel : ∀ i, i < n.toNatClampNeg → ∀ y : Nat, f (sp.toNatClampNeg + i) = some y → ∃ (ci : Nat) (fs : List Value) (r : vw_C), rd g h y = some (ob ci fs) ∧ ewCl[ci]? = some r ∧ (r.1 = E ∨ ew_w (.castable r.1 E)))
    (hrest : (rest.map fun v => v.category).sum ≤ 24) (hdg : decode K.2.1 pc = .ok (.invokestatic idx, 3))
    (kk : ew_G g K d (pc + 3) L rest (eh_set h a (aR t n1 (va_cpy f f1 sp.toNatClampNeg dp.toNatClampNeg n.toNatClampNeg))) Q) (h8 : t ≠ 8 := by decide) : ew_G g K d pc L (.int n :: .int dp :: .ref a :: .int sp :: .ref a0 :: rest) h Q := by
  refine ew_upd ha ?_ kk
  intro p e R s m args below meth c C H locs cells slots ls Q' hs hl hz kk
  obtain ⟨hexec, hb, hml, hr, hlk, hown, htab, hnm, hg, hfr, hlo⟩ := C
  intro T hT X
  subst hT
  have hc0 : T.heap[a0]? = some (vp_cell (eg_t g t) (n0, .inr (.inr (.inr (.inr f))))) := (hs.rd hg ha0).1
  have hc1 : T.heap[a]? = some (vp_cell (eg_t g t) (n1, .inr (.inr (.inr (.inr f1))))) := (hs.2.2.2 a _ ha).2.1
  obtain ⟨-, k0, hk0, cm0, hkk0⟩ := (hg.2.2.1 t _ ht).1 n0 (fun j => va_rf (f j))
  obtain ⟨vm', X', step⟩ := X.arraycopy hexec hown (hg.word w1 _) (hg.word w2 _) (hg.word w3 _) (hg.word w4 _) (src := a0) (dst := a) (cs := vp_cell (eg_t g t) (n0, .inr (.inr (.inr (.inr f))))) (cd := vp_cell (eg_t g t) (n1, .inr (.inr (.inr (.inr f1))))) (srcPos := sp) (destPos := dp) (n := n) hc0 hc1
    (fun _ h => by cases h) (fun _ h => by cases h) (fun h => by cases h) (fun h => by cases h) hk0 hk0 hkk0 hkk0 rfl h1 h2 h3
    (by rw [ew_nn h1, ew_nn h3]; show ¬ _ > ((arrV (eg_t g t) n0 (fun j => va_rf (f j))).slots.size : Int); rw [arrV_size]; omega)
    (by rw [ew_nn h2, ew_nn h3]; show ¬ _ > ((arrV (eg_t g t) n1 (fun j => va_rf (f1 j))).slots.size : Int); rw [arrV_size]; omega)
    (fun vm₁ hal i hi => by
      have e : (vp_cell (eg_t g t) (n0, .inr (.inr (.inr (.inr f))))).slots.getD (sp.toNatClampNeg + i) .null = va_rf (f (sp.toNatClampNeg + i)) := by
        show (arrV (eg_t g t) n0 (fun j => va_rf (f j))).slots.getD _ _ = _
        rw [Array.getD_eq_getD_getElem?, arrV_read _ _ (by omega)]
        rfl
      rw [e]
      cases hy : f (sp.toNatClampNeg + i) with
      | none => exact ⟨rfl, trivial⟩
      | some y =>
        obtain ⟨ci, fs, rc, hry, hrc, hca⟩ := hel i hi y hy
        obtain ⟨cellV, g1, g2, g3⟩ := ew_recv hg hrc (hs.rd hg hry)
        obtain ⟨kA, comp, r1, r2, r3, -⟩ := (hg.2.2.1 t _ ht).2 h8
        have hasg : s.vm.assignable cellV.cls comp = true := by
          rcases hca with hca | hca
          · have hat := (hg.2.1 ci rc hrc).2
            have e1 : (eg_D g).1 ci = cellV.cls := Option.some.inj (hat.1.symm.trans g3)
            have e2 : comp = cellV.cls := Option.some.inj (r3.symm.trans (by rw [← hca]; exact g3))
            rw [e2, ← e1]
            exact va_assign hat
          · obtain ⟨c3, c4, hc3, hc4, hasg⟩ := Cond.castable_spec (hg.word hca args)
            cases Option.some.inj (hc3.symm.trans g3)
            cases Option.some.inj (hc4.symm.trans r3)
            exact hasg
        obtain ⟨kC, hkC, -⟩ := Vm.findClass_spec g3
        obtain ⟨kE, hkE, -⟩ := Vm.findClass_spec r3
        obtain ⟨kC', hkC', -⟩ := hal.2.2 _ _ hkC
        obtain ⟨kE', hkE', -⟩ := hal.2.2 _ _ hkE
        cases hk0.symm.trans r1
        cases hkk0.symm.trans r2
        refine ⟨rfl, cellV, g1, (fun q h => by rw [h] at g2; cases g2), ⟨kC', hkC'⟩, ?_, ?_⟩
        · exact ⟨kE', hkE'⟩
        · show vm₁.assignable _ _ = true
          rw [hal.assignable]
          exact hasg)
    (g := F0 m pc ls (.int n :: .int dp :: .ref a :: .int sp :: .ref a0 :: rest)) rfl (hl.1.trans hml.symm) (rest := rest) rfl (by rw [hb]; exact hdg) (by omega) (by exact ew_native hrest hlo)
  have e1 : copied (vp_cell (eg_t g t) (n0, .inr (.inr (.inr (.inr f))))) (vp_cell (eg_t g t) (n1, .inr (.inr (.inr (.inr f1))))) sp dp n = vp_cell (eg_t g t) (n1, .inr (.inr (.inr (.inr (va_cpy f f1 sp.toNatClampNeg dp.toNatClampNeg n.toNatClampNeg))))) := by
    rw [vp_cell_q, vp_cell_q, vp_cell_q]
    exact va_copied (fun z => va_rf z) (eg_t g t) (eg_t g t) f f1 h4
  rw [e1] at X' step
  have hb9 := (hs.2.2.2 a _ ha).1
  have hl9 : a < T.heap.size := (Array.getElem?_eq_some_iff.mp hc1).1
  obtain ⟨tt, a1, b1⟩ := kk (T.heap.setIfInBounds a (vp_cell (eg_t g t) (n1, .inr (.inr (.inr (.inr (va_cpy f f1 sp.toNatClampNeg dp.toNatClampNeg n.toNatClampNeg))))))) _ (hs.set ha ⟨by simp [Array.getElem?_setIfInBounds, hl9], ew_tyl ht⟩ (by simp) (fun q hq => by simp [Array.getElem?_setIfInBounds, Ne.symm hq])) (fun q hq => by
      rcases List.mem_append.mp hq with h9 | h9
      · exact hz q h9
      · obtain ⟨z, -, hz9⟩ := List.mem_map.mp h9
        rw [← hz9]
        exact hb9) _ rfl X'
  exact ⟨tt, step tt a1, b1⟩
/-- Math.max, Math.min: by the library's contracts -/
def jmax (x y : Int32) : Int32 := if x < y then y else x
def jmin (x y : Int32) : Int32 := if y < x then y else x
theorem ew_mmax {g : eg} {K : ek} {d pc idx : Nat} {L rest : List Value} {h : eh} {Q : Outcome → eh → Prop} {x y : Int32} (w1 : ew_w (.methodLink K.1.cls idx Lib.Math.max.name)) (w2 : ew_w (.static Lib.Math.max.name)) (w3 : ew_w (.initialized "java/lang/Math")) (w4 : ew_w (.code Lib.Math.max.name Lib.Math.max.code 2 (some .int))) (hrest : (rest.map fun v => v.category).sum ≤ 24) (hdg : decode K.2.1 pc = .ok (.invokestatic idx, 3)) (k : ew_G g K d (pc + 3) L (.int (jmax x y) :: rest) h Q) : ew_G g K d pc L (.int y :: .int x :: rest) h Q := by
  refine ew_gen (Nat.le_refl _) (Nat.le_refl _) (fun h9 => h9) ?_ k
  intro p e R s m args below meth c C H locs cells slots ls Q' hs hl hz hc hsl kk
  obtain ⟨hexec, hb, hml, hr, hlk, hown, htab, hnm, hg, hfr, hlo⟩ := C
  have hh := kk H locs ls hs hl hz
  rw [Nat.sub_self, Nat.sub_self, Nat.add_zero, Nat.add_zero] at hh
  exact va_mmax hexec hb (hml.trans hl.1.symm) hown (hg.word w1 _) (hg.word w2 _) (hg.word w3 _) (hg.word w4 _) (by omega) (by omega) (by omega) (by omega) hdg hh
theorem ew_mmin {g : eg} {K : ek} {d pc idx : Nat} {L rest : List Value} {h : eh} {Q : Outcome → eh → Prop} {x y : Int32} (w1 : ew_w (.methodLink K.1.cls idx Lib.Math.min.name)) (w2 : ew_w (.static Lib.Math.min.name)) (w3 : ew_w (.initialized "java/lang/Math")) (w4 : ew_w (.code Lib.Math.min.name Lib.Math.min.code 2 (some .int))) (hrest : (rest.map fun v => v.category).sum ≤ 24) (hdg : decode K.2.1 pc = .ok (.invokestatic idx, 3)) (k : ew_G g K d (pc + 3) L (.int (jmin x y) :: rest) h Q) : ew_G g K d pc L (.int y :: .int x :: rest) h Q := by
  refine ew_gen (Nat.le_refl _) (Nat.le_refl _) (fun h9 => h9) ?_ k
  intro p e R s m args below meth c C H locs cells slots ls Q' hs hl hz hc hsl kk
  obtain ⟨hexec, hb, hml, hr, hlk, hown, htab, hnm, hg, hfr, hlo⟩ := C
  have hh := kk H locs ls hs hl hz
  rw [Nat.sub_self, Nat.sub_self, Nat.add_zero, Nat.add_zero] at hh
  exact va_mmin hexec hb (hml.trans hl.1.symm) hown (hg.word w1 _) (hg.word w2 _) (hg.word w3 _) (hg.word w4 _) (by omega) (by omega) (by omega) (by omega) hdg hh
theorem ew_obj {g : eg} {K : ek} {d pc idx a : Nat} {L rest : List Value} {h : eh} {Q : Outcome → eh → Prop} (w1 : ew_w (.methodLink K.1.cls idx Lib.objectInit)) (w2 : ew_w (.instanceMethod Lib.objectInit)) (w3 : ew_w (.code Lib.objectInit ⟨#[0xb1]⟩ 1 none)) (hrest : (rest.map fun v => v.category).sum ≤ 24) (hdg : decode K.2.1 pc = .ok (.invokespecial idx, 3)) (k : ew_G g K d (pc + 3) L rest h Q) : ew_G g K d pc L (.ref a :: rest) h Q := by
  refine ew_purel ?_ k
  intro p e R s m args below meth c C H locs cells slots ls Q' hs hl kk
  obtain ⟨hexec, hb, hml, hr, hlk, hown, htab, hnm, hg, hfr, hlo⟩ := C
  exact W.objInit hexec hb hown (hg.word w1 _) (hg.word w2 _) (hg.word w3 _) rfl (hl.1.trans hml.symm) rfl hdg (by omega) (by show 2 * 0 + (rest.map fun v => v.category).sum + 12 ≤ R.locals; omega) kk
