/-! ends -/
/-! THE CLAIM OUT OF ONE WALK OF THE LAW'S BODY. Your part is whole_start (and what it stands on); all else here is the same for every law, but numbers. -/
def R_law : String := "EventWindowsLaw"
def lw_P (b : Addr) (xs : List Int32) (args : Array Value) (s : State) : Prop := args = #[.ref b] ∧ s.IntsAt b xs ∧ xs.length ≤ 144 ∧ (Jvm.Cond.and given_1 narrow_1).before args s = true
def lw_Q (_ : Array Value) (s : State) (o : Outcome) (t : State) : Prop := o = .returned (some (.int 1)) ∧ Framed s o t [] 1200144 5496826
def lw_Z (below : List Frame) (a : Array Value) (s : State) : State → Prop := fun t => ∃ o, t.status = .running ∧ Ended t below o ∧ lw_Q a s o t
/-! EW: the law's own begin and end -/
set_option maxRecDepth 100000
def kLaw : ek := (x, code, 9, ret, [])
theorem ew_nolocs {s : State} {S : State} {L : List Loc} {k n k' n' : Nat} (h : s.sameButNew S L k n) (hL : ∀ z ∈ L, s.heap.size ≤ z.base) (hk : k ≤ k') (hn : n ≤ n') : s.sameButNew S [] k' n' := by
  obtain ⟨e1, e2, e3, e4, e5, e6⟩ := h
  refine ⟨e1, e2, by omega, e4, by omega, fun a c hc => ?_⟩
  obtain ⟨c', h1, h2, h3, h4⟩ := e6 a c hc
  have hlt : a < s.heap.size := (Array.getElem?_eq_some_iff.mp hc).1
  exact ⟨c', h1, h2, h3, fun i _ => h4 i (fun hm => absurd hlt (Nat.not_lt.mpr (hL _ hm)))⟩
theorem ew_top {g : eg} {p : Program} {l : Launch} {e : Env} {s : State} {m : MethodId} {below : List Frame} {meth : Method} {c : Code} {b : Nat} (hl : eg_l g = l) (hH : eg_H g = s.heap) (hg : ew_good g s) (hx : p.tables.exec = Jvm.exec) (hb : c.code = code) (hml : c.maxLocals = 9) (hr : meth.sig.returnType = ret) (hlk : meth.locks = false) (hown : s.vm.findClass x.cls = some m.cls) (htab : c.exceptionTable.toList = []) (hnm : meth.name = x.name)
    (k : ew_G g kLaw 1000 0 [.ref b, no_, no_, no_, no_, no_, no_, no_, no_] [] (fun _ => none, s.heap.size, 0) (fun o h' => o = .returned (some (.int 1)) ∧ h'.2.1 ≤ s.heap.size + 1200144 ∧ h'.2.2 ≤ 5496826)) :
    W p l e room_1 s m #[Value.ref b] below meth c s.heap [] 0 0 (lw_Z below #[Value.ref b] s) (entryFrame m ([Value.ref b] : List Value).toArray 9) := by
  subst hl
  have hbe : eb g = s.heap.size := by unfold eb; rw [hH]
  obtain ⟨o, h', ⟨n1, n2, n3, hrun⟩, rfl, hq1, hq2⟩ := k ⟨by rw [hbe]; exact Nat.le_refl _, fun q e he => by cases he⟩
  have C : ew_ctx g kLaw 1000 p e room_1 s m #[Value.ref b] below meth c := ⟨hx, hb, hml, hr, hlk, hown, htab, hnm, hg, by decide, by decide⟩
  have hl0 := lv_entry [Value.ref b] (n := 9) (Nat.le_of_ble_eq_true rfl)
  have hs : ew_sim g (fun _ => none, s.heap.size, 0) s.heap := ⟨rfl, by rw [hbe]; exact Nat.le_refl _, fun q hq => by rw [hH], fun a e he => by cases he⟩
  have hL : ew_arg 0 [Value.ref b] [.ref b, no_, no_, no_, no_, no_, no_, no_, no_] := ew_a1 rfl (ew_an (ew_an (ew_an (ew_an (ew_an (ew_an (ew_an (ew_an ew_az))))))))
  have hk := hrun p e room_1 s m #[Value.ref b] below meth c C s.heap [] 0 0 (lg_sl [Value.ref b] ++ List.replicate (9 - (lg_sl [Value.ref b]).length) Slot.unset).toArray hs ⟨hl0.1, hl0.2.1, fun i v hi hv => hl0.2.2 (i, v) (by have := hL i v hi hv; rwa [Nat.zero_add] at this)⟩ (fun z hz => nomatch hz) (by show 0 + (h'.2.1 - s.heap.size) ≤ 1200144; omega) (by show 0 + (h'.2.2 - 0) ≤ 5496826; omega)
  rw [lg_entry_eq]
  refine ew_Wm (fun t ht => ?_) hk
  obtain ⟨b1, b2, b3, b4, L9, b5, b6⟩ := ht
  refine ⟨_, b1, b2, rfl, ⟨_, rfl⟩, b4, ew_nolocs b5 (fun z hz => by have := b6 z hz; rw [hbe] at this; exact this) ?_ ?_⟩
  · show 0 + (h'.2.1 - s.heap.size) ≤ 1200144; omega
  · show 0 + (h'.2.2 - 0) ≤ 5496826; omega
