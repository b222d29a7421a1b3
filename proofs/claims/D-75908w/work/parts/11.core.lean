/-! EW: a logic of its own over the machine: words that stay, an abstract heap, runs of a frame and of a method -/
set_option maxRecDepth 100000
/-- the classes whose objects are spoken of, by number -/
def ewCl : List vw_C := [(RX1, TX1, 11), (RX2, TX2, 42), (RX3, TX3, 16), (RX4, TX4, 8), (RX5, TX5, 6), (RX6, TX6, 5), (RX7, TX7, 2), (RX8, TX8, 5), (RX9, TX9, 3), (RX10, TX10, 4), (RX11, TX11, 3), (RX12, TX12, 2), (RX13, TX7, 0), (RX14, TX7, 0), (RX15, TX15, 4), (RJ1, TJ1, 3), (RJ3, TJ3, 4), (RJ4, TJ4, 4), (RJ12, TJ12, 9), (RJ14, TJ14, 3), (RJ22, TJ22, 1), (RJ26, TJ26, 6), (RJ29, TJ29, 4), (RJ27, TX7, 0), (RJ20, TX7, 0), (RJ9, TX7, 0)]
/-- the array types that are spoken of, by number -/
def ewTy : List FieldType := [.int, .byte, .long, .double, .boolean, .object "java/lang/Object", .object "java/lang/String", .object "EventWindows$Net", .object "java/lang/Integer"]
theorem pm_warm {args args' : Array Value} {s U : State} {y : MethodName} (hW : s.WarmedH U.vm) (h : (Cond.privateMethod y).before args s = true) : (Cond.privateMethod y).before args' U = true := by
  have hal := hW.alike
  have e0 : ∀ {A B : State}, A.vm = B.vm → A.methodNamed? = B.methodNamed? := fun h9 => by
    funext y; simp only [State.methodNamed?, h9]
  have e1 : U.methodNamed? y = s.methodNamed? y := by rw [e0 (show U.vm = (s.setVm U.vm).vm from rfl), State.methodNamed?_setVm hal]
  have e2 : U.vm.method? = s.vm.method? := funext hal.method?
  simp only [Cond.before, Cond.holds, Cond.value] at h ⊢
  rw [e1, e2]; exact h
/-- words that stay true under warmer tables -/
def ew_kind : Cond → Bool
  | .fieldLinkNest .. => true
  | .methodLinkNest .. => true
  | .declares _ => true
  | .castable .. => true
  | .publicMethod _ => true
  | .privateMethod _ => true
  | .unhidden .. => true
  | .arrayOver (.object _) => true
  | .interfaceMethod r o _ _ => (r == o) && ((r != "java/lang/invoke/MethodHandle") && (r != "java/lang/invoke/VarHandle"))
  | w => goodWord w
theorem ew_keep {w : Cond} (hk : ew_kind w = true) {s U : State} {a a' : Array Value} (hW : s.WarmedH U.vm) (h : w.before a s = true) : w.before a' U = true := by
  have tr : ∀ {c : Cond}, c.onTables = true → c.before a (s.setVm U.vm) = true → c.before a' U = true := by
    intro c hc h
    exact va_tabs hc (rfl : (s.setVm U.vm).vm = U.vm) h
  cases w
  case fieldLinkNest => exact tr rfl (Cond.fieldLinkNest_warmed hW h)
  case methodLinkNest => exact tr rfl (Cond.methodLinkNest_warmed hW h)
  case declares => exact tr rfl (by rw [Cond.declares_setVm hW.alike]; exact h)
  case castable => exact tr rfl (by rw [Cond.castable_setVm hW.alike]; exact h)
  case privateMethod => exact pm_warm hW h
  case publicMethod => exact tr rfl (by rw [Cond.publicMethod_setVm hW.alike]; exact h)
  case unhidden => exact tr rfl (by rw [Cond.unhidden_setVm hW.alike]; exact h)
  case arrayOver ty =>
    cases ty
    case object C => exact (va_AO.moved hW.alike (va_AO.of h) : va_AO C U)
    all_goals exact word_at hW (good_of_word hk) h
  case interfaceMethod r o n d =>
    have h9 : (r == o && (r != "java/lang/invoke/MethodHandle" && r != "java/lang/invoke/VarHandle")) = true := hk
    simp only [Bool.and_eq_true, beq_iff_eq, bne_iff_ne] at h9
    obtain ⟨rfl, h1, h2⟩ := h9
    obtain ⟨c, k, m, -, -, -, -, hn⟩ := Cond.interfaceMethod_spec h
    exact tr rfl (by rw [Cond.interfaceMethod_setVm hW.alike hn ⟨h1, h2⟩]; exact h)
  all_goals exact word_at hW (good_of_word hk) h
/-- a word of the tables that stays -/
def ew_w (w : Cond) : Prop := w ∈ lw_tbl ∧ ew_kind w = true
theorem ew_kg {w : Cond} (h : goodWord w = true) : ew_kind w = true := by
  cases w
  case interfaceMethod r o n d => exact absurd (show (Cond.onTables (.interfaceMethod r o n d) && Cond.keeps (.interfaceMethod r o n d)) = true from h) (by simp [Cond.keeps, Cond.steady])
  case arrayOver ty =>
    cases ty
    case object C => rfl
    all_goals exact h
  all_goals first | rfl | exact h
theorem ew_q {w : Cond} (h : w ∈ lw_all) : ew_w w := ⟨lw_all_tbl h, ew_kg (List.mem_filter.mp h).2⟩
theorem ew_qt {w : Cond} (h : w ∈ lw_tbl) (hk : ew_kind w = true) : ew_w w := ⟨h, hk⟩

/-- an abstract cell: an array (type's number, length, contents), an object (class's number, fields) -/
abbrev ac : Type := (Nat × vp_A) ⊕ (Nat × List Value)
/-- an abstract heap: cells, the next address, how many slots are made -/
abbrev eh : Type := (Nat → Option ac) × Nat × Nat
def eh_set (h : eh) (a : Nat) (e : ac) : eh := (fun q => if q = a then some e else h.1 q, h.2.1, h.2.2)
def eh_new (h : eh) (e : ac) (n : Nat) : eh := (fun q => if q = h.2.1 then some e else h.1 q, h.2.1 + 1, h.2.2 + n)
abbrev aI (n : Nat) (f : Nat → Int32) : ac := .inl (0, n, .inl f)
abbrev aB (n : Nat) (f : Nat → Int32) : ac := .inl (1, n, .inl f)
abbrev aJ (n : Nat) (f : Nat → Int64) : ac := .inl (2, n, .inr (.inl f))
abbrev aD (n : Nat) (f : Nat → UInt64) : ac := .inl (3, n, .inr (.inr (.inr (.inl f))))
abbrev aZ (n : Nat) (f : Nat → Int32) : ac := .inl (4, n, .inl f)
abbrev aR (t n : Nat) (f : Nat → Option Nat) : ac := .inl (t, n, .inr (.inr (.inr (.inr f))))
abbrev ob (ci : Nat) (fs : List Value) : ac := .inr (ci, fs)
/-- what is fixed for a whole run: launch, classes' numbers, array classes' numbers, the heap at the start, constant cells, statics, String constants, Class objects, classes that are not castable -/
abbrev eg : Type := Launch × va_G × (Nat → ClassId) × Heap × (Nat → Option ac) × (String → String → String → Option Value) × (String → Nat → Option Nat) × (String → Option Nat) × (String → String → Bool)
abbrev eg_l (g : eg) : Launch := g.1
abbrev eg_D (g : eg) : va_G := g.2.1
abbrev eg_t (g : eg) : Nat → ClassId := g.2.2.1
abbrev eg_H (g : eg) : Heap := g.2.2.2.1
abbrev eg_c (g : eg) : Nat → Option ac := g.2.2.2.2.1
abbrev eg_s (g : eg) : String → String → String → Option Value := g.2.2.2.2.2.1
abbrev eg_k (g : eg) : String → Nat → Option Nat := g.2.2.2.2.2.2.1
abbrev eg_m (g : eg) : String → Option Nat := g.2.2.2.2.2.2.2.1
abbrev eg_n (g : eg) : String → String → Bool := g.2.2.2.2.2.2.2.2
def eb (g : eg) : Nat := (eg_H g).size
def ew_at (g : eg) (a : Nat) (e : ac) (H : Heap) : Prop := match e with
  | .inl x => H[a]? = some (vp_cell (eg_t g x.1) x.2) ∧ x.1 < ewTy.length
  | .inr o => ∃ r : vw_C, ewCl[o.1]? = some r ∧ t_OB a ((eg_D g).1 o.1) r.2.2 ((eg_D g).2 o.1) H (vp_V o.2)
theorem ew_at.kept {g : eg} {a : Nat} {e : ac} {H H1 : Heap} (h : ew_at g a e H) (hq : H1[a]? = H[a]?) : ew_at g a e H1 := by
  cases e with
  | inl x => exact ⟨hq.trans h.1, h.2⟩
  | inr o =>
    obtain ⟨r, h1, h2⟩ := h
    exact ⟨r, h1, h2.kept hq⟩
theorem ew_at.lt {g : eg} {a : Nat} {e : ac} {H : Heap} (h : ew_at g a e H) : a < H.size := by
  cases e with
  | inl x => exact (Array.getElem?_eq_some_iff.mp h.1).1
  | inr o =>
    obtain ⟨r, h1, cell, h2, -⟩ := h
    exact (Array.getElem?_eq_some_iff.mp h2).1
/-- what the tables say, all through the run -/
def ew_good (g : eg) (U : State) : Prop :=
  (∀ w, ew_w w → w.before #[] U = true) ∧ (∀ (c : Nat) (q : vw_C), ewCl[c]? = some q → u_Kn U q.1 q.2.1 q.2.2 ((eg_D g).1 c) ((eg_D g).2 c)) ∧
  (∀ (t : Nat) (ty : FieldType), ewTy[t]? = some ty → ArrOfT U (eg_t g t) ty ∧ (t ≠ 8 → va_RA U (eg_t g t) ty)) ∧
  (∀ C n d v, eg_s g C n d = some v → va_Z C n d v (fun q => eb g ≤ q) U (eg_H g)) ∧
  (∀ own k a, eg_k g own k = some a → ∃ tx, vk_R own k tx a U) ∧ (∀ C mi, eg_m g C = some mi → va_Mi C mi U) ∧ (∀ E nm, eg_n g E nm = true → va_Nc E nm U) ∧
  (∀ a e, eg_c g a = some e → a < eb g ∧ ew_at g a e (eg_H g)) ∧ (eg_l g).flags = flags0 ∧
  vx_Zq Bundle.tN "UNASSIGNED_STACK" Bundle.steD (fun q => eb g ≤ q) U (eg_H g) ∧ vx_Zq Bundle.tN "SUPPRESSED_SENTINEL" Bundle.listD (fun q => eb g ≤ q) U (eg_H g) ∧
  ∀ u : Nat, eg_s g "jdk/internal/util/ArraysSupport" "U" "Ljdk/internal/misc/Unsafe;" = some (.ref u) → ∃ cell : Cell, (eg_H g)[u]? = some cell ∧ cell.vm.isStatics = false ∧ U.vm.findClass "jdk/internal/misc/Unsafe" = some cell.cls
theorem ew_good.warm {g : eg} {s U : State} (h : ew_good g s) (hW : s.WarmedH U.vm) : ew_good g U := by
  obtain ⟨h1, h2, h3, h4, h5, h6, h7, h8, h9, ha, hb, hu⟩ := h
  refine ⟨fun w hw => ew_keep hw.2 hW (h1 w hw), fun c q hq => u_Kn_moved hW.alike (h2 c q hq), fun t ty ht => ⟨arrOfT_moved hW.alike (h3 t ty ht).1, fun h9 => ((h3 t ty ht).2 h9).moved hW.alike⟩, fun C n d v hv => va_Z.moved hW.alike (h4 C n d v hv), fun own k a ha => ?_, fun C mi hm => va_Mi.moved hW.alike (h6 C mi hm), fun E nm hn => va_Nc.moved hW.alike (h7 E nm hn), h8, h9, vx_Zq.moved hW.alike ha, vx_Zq.moved hW.alike hb, fun u hu9 => ?_⟩
  · obtain ⟨tx, hx⟩ := h5 own k a ha
    exact ⟨tx, vk_R.warm hW hx⟩
  · obtain ⟨cell, c1, c2, c3⟩ := hu u hu9
    exact ⟨cell, c1, c2, by rw [hW.alike.findClass]; exact c3⟩
theorem ew_good.vm {g : eg} {s U : State} (h : ew_good g s) (hv : U.vm = s.vm) : ew_good g U := h.warm (by rw [hv]; exact State.WarmedH.refl s)
theorem ew_good.word {g : eg} {s : State} (h : ew_good g s) {w : Cond} (hw : ew_w w) (a : Array Value) : w.before a s = true := ew_keep hw.2 (State.WarmedH.refl s) (h.1 w hw)
/-- the heap is as the abstract heap says -/
def ew_sim (g : eg) (h : eh) (H : Heap) : Prop := H.size = h.2.1 ∧ eb g ≤ H.size ∧ (∀ q : Nat, q < eb g → H[q]? = (eg_H g)[q]?) ∧ ∀ a e, h.1 a = some e → eb g ≤ a ∧ ew_at g a e H
/-- a cell that is read: one of the run's own, or a constant one -/
def rd (g : eg) (h : eh) (a : Nat) : Option ac := match h.1 a with
  | some e => some e
  | none => eg_c g a
theorem rd_of {g : eg} {h : eh} {a : Nat} {e : ac} (hh : h.1 a = some e) : rd g h a = some e := by simp [rd, hh]
theorem ew_sim.rd {g : eg} {h : eh} {H : Heap} {s : State} (hs : ew_sim g h H) (hg : ew_good g s) {a : Nat} {e : ac} (he : rd g h a = some e) : ew_at g a e H := by
  unfold Pilot.CEventWindowsLaw_law_r6665_89732d.rd at he
  split at he
  · rename_i e0 h0
    cases he
    exact (hs.2.2.2 a _ h0).2
  · obtain ⟨h1, h2⟩ := hg.2.2.2.2.2.2.2.1 a e he
    exact h2.kept (hs.2.2.1 a h1)
theorem ew_sim.set {g : eg} {h : eh} {H H1 : Heap} {a : Nat} {e e0 : ac} (hs : ew_sim g h H) (h0 : h.1 a = some e0) (he : ew_at g a e H1) (hz : H1.size = H.size) (ho : ∀ q : Nat, q ≠ a → H1[q]? = H[q]?) : ew_sim g (eh_set h a e) H1 := by
  obtain ⟨s1, s2, s3, s4⟩ := hs
  have hb := (s4 a e0 h0).1
  refine ⟨hz.trans s1, by rw [hz]; exact s2, fun q hq => (ho q (by omega)).trans (s3 q hq), fun b x hx => ?_⟩
  simp only [eh_set] at hx
  split at hx
  · rename_i hba
    cases hx
    subst hba
    exact ⟨hb, he⟩
  · rename_i hba
    obtain ⟨t1, t2⟩ := s4 b x hx
    exact ⟨t1, t2.kept (ho b hba)⟩
theorem ew_sim.new {g : eg} {h : eh} {H H1 : Heap} {e : ac} (n : Nat) (hs : ew_sim g h H) (he : ew_at g H.size e H1) (hz : H1.size = H.size + 1) (ho : ∀ q : Nat, q < H.size → H1[q]? = H[q]?) : ew_sim g (eh_new h e n) H1 := by
  obtain ⟨s1, s2, s3, s4⟩ := hs
  refine ⟨by rw [hz, s1]; rfl, by omega, fun q hq => (ho q (by omega)).trans (s3 q hq), fun b x hx => ?_⟩
  simp only [eh_new] at hx
  split at hx
  · rename_i hba
    cases hx
    rw [hba, ← s1]
    exact ⟨s2, he⟩
  · obtain ⟨t1, t2⟩ := s4 b x hx
    exact ⟨t1, t2.kept (ho b t2.lt)⟩

/-- a method: name, code, locals, answer, handlers -/
abbrev ek : Type := MethodName × ByteArray × Nat × Option FieldType × List (Nat × Nat × Nat × Nat)
/-- a place of the locals that holds nothing -/
abbrev no_ : Value := .retAddr 0
def ew_isv : Value → Bool
  | .retAddr _ => false
  | _ => true
/-- the locals, by a list of what they hold -/
def ew_loc (L : List Value) (ls : Array Slot) (n : Nat) : Prop := ls.size = n ∧ lv_wf ls ∧ ∀ (i : Nat) (v : Value), L[i]? = some v → ew_isv v = true → ls[i]? = some (.val v)
/-- where an invocation of the method K stands, that may go d calls deeper -/
def ew_ctx (g : eg) (K : ek) (d : Nat) (p : Program) (e : Env) (R : Room) (s : State) (m : MethodId) (args : Array Value) (below : List Frame) (meth : Method) (c : Code) : Prop :=
  p.tables.exec = Jvm.exec ∧ c.code = K.2.1 ∧ c.maxLocals = K.2.2.1 ∧ meth.sig.returnType = K.2.2.2.1 ∧ meth.locks = false ∧ s.vm.findClass K.1.cls = some m.cls ∧ c.exceptionTable.toList = tableOf K.2.2.2.2 ∧ meth.name = K.1.name ∧ ew_good g s ∧ d + 16 ≤ R.frames ∧ 12000 + 80 * d ≤ R.locals
/-- the end of an invocation -/
def ew_end (g : eg) (below : List Frame) (s : State) (o : Outcome) (h' : eh) (mc ms : Nat) : State → Prop := fun t =>
  t.status = .running ∧ Ended t below o ∧ ew_sim g h' t.heap ∧ s.WarmedH t.vm ∧ ∃ L, s.sameButNew ({ t with vm := s.vm } : State) L mc ms ∧ ∀ z ∈ L, eb g ≤ z.base
/-- the abstract heap's cells lie between the start heap and the next address -/
def eh_ok (g : eg) (h : eh) : Prop := eb g ≤ h.2.1 ∧ ∀ (p : Nat) (e : ac), h.1 p = some e → eb g ≤ p ∧ p < h.2.1
theorem eh_ok.set {g : eg} {h : eh} {a : Nat} {e e0 : ac} (ho : eh_ok g h) (h0 : h.1 a = some e0) : eh_ok g (eh_set h a e) := by
  refine ⟨ho.1, fun p x hx => ?_⟩
  simp only [eh_set] at hx
  split at hx
  · rename_i hp
    rw [hp]
    exact ho.2 a e0 h0
  · exact ho.2 p x hx
theorem eh_ok.new {g : eg} {h : eh} {e : ac} {n : Nat} (ho : eh_ok g h) : eh_ok g (eh_new h e n) := by
  refine ⟨Nat.le_succ_of_le ho.1, fun p x hx => ?_⟩
  simp only [eh_new] at hx
  split at hx
  · rename_i hp
    rw [hp]
    exact ⟨ho.1, Nat.lt_succ_self _⟩
  · exact ⟨(ho.2 p x hx).1, Nat.lt_succ_of_lt (ho.2 p x hx).2⟩
/-- from pc, with these locals, this stack, this heap, the invocation ends so -/
def ew_run (g : eg) (K : ek) (d pc : Nat) (L : List Value) (st : List Value) (h : eh) (o : Outcome) (h' : eh) : Prop :=
  h.2.1 ≤ h'.2.1 ∧ h.2.2 ≤ h'.2.2 ∧ (eh_ok g h → eh_ok g h') ∧ ∀ (p : Program) (e : Env) (R : Room) (s : State) (m : MethodId) (args : Array Value) (below : List Frame) (meth : Method) (c : Code), ew_ctx g K d p e R s m args below meth c →
    ∀ (H : Heap) (locs : List Loc) (cells slots : Nat) (ls : Array Slot), ew_sim g h H → ew_loc L ls K.2.2.1 → (∀ z ∈ locs, eb g ≤ z.base) → cells + (h'.2.1 - h.2.1) ≤ R.cells → slots + (h'.2.2 - h.2.2) ≤ R.slots →
      W p (eg_l g) e R s m args below meth c H locs cells slots (ew_end g below s o h' (cells + (h'.2.1 - h.2.1)) (slots + (h'.2.2 - h.2.2))) (F0 m pc ls st)
def ew_G (g : eg) (K : ek) (d pc : Nat) (L : List Value) (st : List Value) (h : eh) (Q : Outcome → eh → Prop) : Prop := eh_ok g h → ∃ o h', ew_run g K d pc L st h o h' ∧ Q o h'
theorem ew_gen {g : eg} {K : ek} {d pc pc1 : Nat} {L L1 st st1 : List Value} {h h1 : eh} {Q : Outcome → eh → Prop} (hm : h.2.1 ≤ h1.2.1) (hm2 : h.2.2 ≤ h1.2.2) (ho : eh_ok g h → eh_ok g h1)
    (hw : ∀ {p : Program} {e : Env} {R : Room} {s : State} {m : MethodId} {args : Array Value} {below : List Frame} {meth : Method} {c : Code}, ew_ctx g K d p e R s m args below meth c →
      ∀ {H : Heap} {locs : List Loc} {cells slots : Nat} {ls : Array Slot} {Q' : State → Prop}, ew_sim g h H → ew_loc L ls K.2.2.1 → (∀ z ∈ locs, eb g ≤ z.base) → cells + (h1.2.1 - h.2.1) ≤ R.cells → slots + (h1.2.2 - h.2.2) ≤ R.slots →
        (∀ (H1 : Heap) (locs1 : List Loc) (ls1 : Array Slot), ew_sim g h1 H1 → ew_loc L1 ls1 K.2.2.1 → (∀ z ∈ locs1, eb g ≤ z.base) → W p (eg_l g) e R s m args below meth c H1 locs1 (cells + (h1.2.1 - h.2.1)) (slots + (h1.2.2 - h.2.2)) Q' (F0 m pc1 ls1 st1)) →
        W p (eg_l g) e R s m args below meth c H locs cells slots Q' (F0 m pc ls st))
    (k : ew_G g K d pc1 L1 st1 h1 Q) : ew_G g K d pc L st h Q := by
  intro hok
  obtain ⟨o, h', ⟨n1, n2, n3, hrun⟩, hq⟩ := k (ho hok)
  refine ⟨o, h', ⟨Nat.le_trans hm n1, Nat.le_trans hm2 n2, fun _ => n3 (ho hok), ?_⟩, hq⟩
  intro p e R s m args below meth c C H locs cells slots ls hs hl hz hc hsl
  refine hw C hs hl hz (by omega) (by omega) ?_
  intro H1 locs1 ls1 hs1 hl1 hz1
  have hh := hrun p e R s m args below meth c C H1 locs1 (cells + (h1.2.1 - h.2.1)) (slots + (h1.2.2 - h.2.2)) ls1 hs1 hl1 hz1 (by omega) (by omega)
  have e1 : cells + (h1.2.1 - h.2.1) + (h'.2.1 - h1.2.1) = cells + (h'.2.1 - h.2.1) := by omega
  have e2 : slots + (h1.2.2 - h.2.2) + (h'.2.2 - h1.2.2) = slots + (h'.2.2 - h.2.2) := by omega
  rw [e1, e2] at hh
  exact hh
/-- a step that leaves the heap -/
theorem ew_pure {g : eg} {K : ek} {d pc pc1 : Nat} {L L1 st st1 : List Value} {h : eh} {Q : Outcome → eh → Prop}
    (hw : ∀ {p : Program} {e : Env} {R : Room} {s : State} {m : MethodId} {args : Array Value} {below : List Frame} {meth : Method} {c : Code}, ew_ctx g K d p e R s m args below meth c →
      ∀ {H : Heap} {locs : List Loc} {cells slots : Nat} {ls : Array Slot} {Q' : State → Prop}, ew_sim g h H → ew_loc L ls K.2.2.1 →
        (∀ ls1 : Array Slot, ew_loc L1 ls1 K.2.2.1 → W p (eg_l g) e R s m args below meth c H locs cells slots Q' (F0 m pc1 ls1 st1)) →
        W p (eg_l g) e R s m args below meth c H locs cells slots Q' (F0 m pc ls st))
    (k : ew_G g K d pc1 L1 st1 h Q) : ew_G g K d pc L st h Q := by
  refine ew_gen (Nat.le_refl _) (Nat.le_refl _) (fun h9 => h9) ?_ k
  intro p e R s m args below meth c C H locs cells slots ls Q' hs hl hz hc hsl kk
  refine hw C hs hl (fun ls1 hl1 => ?_)
  have hh := kk H locs ls1 hs hl1 hz
  rw [Nat.sub_self, Nat.sub_self, Nat.add_zero, Nat.add_zero] at hh
  exact hh
/-- the same, where the locals stay too -/
theorem ew_purel {g : eg} {K : ek} {d pc pc1 : Nat} {L st st1 : List Value} {h : eh} {Q : Outcome → eh → Prop}
    (hw : ∀ {p : Program} {e : Env} {R : Room} {s : State} {m : MethodId} {args : Array Value} {below : List Frame} {meth : Method} {c : Code}, ew_ctx g K d p e R s m args below meth c →
      ∀ {H : Heap} {locs : List Loc} {cells slots : Nat} {ls : Array Slot} {Q' : State → Prop}, ew_sim g h H → ew_loc L ls K.2.2.1 →
        W p (eg_l g) e R s m args below meth c H locs cells slots Q' (F0 m pc1 ls st1) → W p (eg_l g) e R s m args below meth c H locs cells slots Q' (F0 m pc ls st))
    (k : ew_G g K d pc1 L st1 h Q) : ew_G g K d pc L st h Q :=
  ew_pure (fun C _ _ _ _ _ _ hs hl kk => hw C hs hl (kk _ hl)) k
/-- a cell is written -/
theorem ew_upd {g : eg} {K : ek} {d pc pc1 : Nat} {L st st1 : List Value} {h : eh} {Q : Outcome → eh → Prop} {a : Nat} {e0 e1 : ac} (h0 : h.1 a = some e0)
    (hw : ∀ {p : Program} {e : Env} {R : Room} {s : State} {m : MethodId} {args : Array Value} {below : List Frame} {meth : Method} {c : Code}, ew_ctx g K d p e R s m args below meth c →
      ∀ {H : Heap} {locs : List Loc} {cells slots : Nat} {ls : Array Slot} {Q' : State → Prop}, ew_sim g h H → ew_loc L ls K.2.2.1 → (∀ z ∈ locs, eb g ≤ z.base) →
        (∀ (H1 : Heap) (locs1 : List Loc), ew_sim g (eh_set h a e1) H1 → (∀ z ∈ locs1, eb g ≤ z.base) → W p (eg_l g) e R s m args below meth c H1 locs1 cells slots Q' (F0 m pc1 ls st1)) →
        W p (eg_l g) e R s m args below meth c H locs cells slots Q' (F0 m pc ls st))
    (k : ew_G g K d pc1 L st1 (eh_set h a e1) Q) : ew_G g K d pc L st h Q := by
  refine ew_gen (h1 := eh_set h a e1) (Nat.le_refl _) (Nat.le_refl _) (fun h9 => h9.set h0) ?_ k
  intro p e R s m args below meth c C H locs cells slots ls Q' hs hl hz hc hsl kk
  refine hw C hs hl hz (fun H1 locs1 hs1 hz1 => ?_)
  have hh := kk H1 locs1 ls hs1 hl hz1
  simp only [eh_set, Nat.sub_self, Nat.add_zero] at hh
  exact hh
/-- what is known of the heap's addresses may be used anywhere -/
theorem ew_ok {g : eg} {K : ek} {d pc : Nat} {L st : List Value} {h : eh} {Q : Outcome → eh → Prop} (k : eh_ok g h → ew_G g K d pc L st h Q) : ew_G g K d pc L st h Q := fun ho => k ho ho
