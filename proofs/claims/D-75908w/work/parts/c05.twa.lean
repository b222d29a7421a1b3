/-! EW: things are appended to the label -/
set_option maxRecDepth 100000
section
variable {g : eg} {h h2 : eh} {a : Nat → Nat} {ws : List Nat} {N : Nat → Int32} {m pe ep : Int32} {fb ft fb2 ft2 : Nat → Int32} {ρ ρ2 : ru} {Q : Outcome → eh → Prop} {A4 k : Nat} {nm : Nat → Int32} {sn vn : Nat → Nat} {tx : List Int32}
/-- only the label changes -/
def SBk (q : Nat) (h2 h3 : eh) : Prop := ∃ A2 tx, SB h2 q A2 tx ∧ Ke [q, A2] 1 1000 h2 h3
theorem SBk.ne {q b : Nat} {h3 : eh} {e : ac} (s : SBk q h2 h3) (hb : rd g h2 b = some e) (h1 : ∀ fs, e ≠ ob 16 fs) (h9 : ∀ n f, e ≠ aB n f) : ∃ A2, Ke [q, A2] 1 1000 h2 h3 ∧ b ∉ [q, A2] := by
  obtain ⟨A2, tx, ⟨ml, cap, f, s1, s2, -⟩, k⟩ := s
  refine ⟨A2, k, fun h8 => ?_⟩
  rw [List.mem_cons, List.mem_singleton] at h8
  rcases h8 with e9 | e9
  · rw [e9, rd_of s1] at hb
    exact h1 _ (Option.some.inj hb).symm
  · rw [e9, rd_of s2] at hb
    exact h9 _ _ (Option.some.inj hb).symm
theorem StL.sb {q L E : Nat} {xs : List Nat} {es : List ed} {h3 : eh} (hg : gOC g) (ho2 : eh_ok g h2) (S : StL g h2 L E xs es) (s : SBk q h2 h3) : StL g h3 L E xs es := by
  obtain ⟨A2, tx, ⟨ml, cap, f, s1, s2, -⟩, k⟩ := s
  obtain ⟨⟨mc, cap', F, l1, l2, l3⟩, S2, S3⟩ := S
  have nin : ∀ b e, rd g h2 b = some e → (∀ fs, e ≠ ob 16 fs) → (∀ n f, e ≠ aB n f) → b ∉ [q, A2] := fun b e hb h1 h9 h8 => by
    rw [List.mem_cons, List.mem_singleton] at h8
    rcases h8 with e9 | e9
    · rw [e9, rd_of s1] at hb
      exact h1 _ (Option.some.inj hb).symm
    · rw [e9, rd_of s2] at hb
      exact h9 _ _ (Option.some.inj hb).symm
  refine ⟨AL.ke ⟨mc, cap', F, l1, l2, l3⟩ k hg ho2 (nin _ _ (rd_of l1) (fun fs h9 => by cases h9) (fun n f h9 => by cases h9)) (nin _ _ l2 (fun fs h9 => by cases h9) (fun n f h9 => by cases h9)), S2, fun i x e h1 h9 => k.h ho2 (S3 i x e h1 h9) (nin _ _ (rd_of (S3 i x e h1 h9)) (fun fs h9 => by cases h9) (fun n f h9 => by cases h9))⟩
theorem TW.s (W : TW g h h2 a ws N m pe ep fb2 ft2 ρ2 A4 nm sn vn k tx) : ∃ A2 fs, SB h2 (a 4) A2 tx ∧ (A2 = A4 ∨ h.2.1 ≤ A2) ∧ h2.1 (a 4) = some (ob 16 fs) := by
  obtain ⟨w1, w2, ⟨A2, w3, w5⟩, w4⟩ := W
  obtain ⟨fs, h1⟩ := w3.o
  exact ⟨A2, fs, w3, w5, h1⟩
theorem TW.nme {e : Nat} (hc : gCS g) (hg : gOC g) (ho : eh_ok g h) (C : CV g h a ws N m pe ep fb ft ρ) (T : TS g h a ws N A4 nm sn vn) (W : TW g h h2 a ws N m pe ep fb2 ft2 ρ2 A4 nm sn vn k tx) (he : e < nE N) (hl : tx.length ≤ 390) (hq : ∀ h3, TW g h h3 a ws N m pe ep fb2 ft2 ρ2 A4 nm sn vn (k + 1) (tx ++ nmV nm e) → SBk (a 4) h2 h3 → Q (.returned (some (.ref (a 4)))) h3) : ew_T g kJ3_append_3 19 [.ref (a 4), .ref (sn e)] h2 Q := by
  refine ew_okT (fun ho2 => ?_)
  obtain ⟨A2, fs, w3, w5, hqo⟩ := W.s
  obtain ⟨f, hs, hf⟩ := W.2.1.str he
  have hl8 := ltV_le nm e
  refine t_sbAppS hc hg w3 hs (by omega) (fun h3 q3 => ?_)
  rw [tx1_nm hf] at q3
  have q4 := q3
  obtain ⟨A3, -, -, kk⟩ := q4
  exact hq h3 (W.app hg ho ho2 C T w5 q3) ⟨A2, tx, w3, kk⟩
theorem TW.chr {c : Nat} (hc : gCS g) (hg : gOC g) (ho : eh_ok g h) (C : CV g h a ws N m pe ep fb ft ρ) (T : TS g h a ws N A4 nm sn vn) (W : TW g h h2 a ws N m pe ep fb2 ft2 ρ2 A4 nm sn vn k tx) (hcc : c < 128) (hl : tx.length ≤ 390) (hq : ∀ h3, TW g h h3 a ws N m pe ep fb2 ft2 ρ2 A4 nm sn vn (k + 1) (tx ++ [nI c]) → SBk (a 4) h2 h3 → Q (.returned (some (.ref (a 4)))) h3) : ew_T g kJ3_append 18 [.ref (a 4), .int (nI c)] h2 Q := by
  refine ew_okT (fun ho2 => ?_)
  obtain ⟨A2, fs, w3, w5, hqo⟩ := W.s
  refine t_sbAppC hc w3 hcc (by omega) (fun h3 q3 => ?_)
  have q4 := q3
  obtain ⟨A3, -, -, kk⟩ := q4
  exact hq h3 (W.app hg ho ho2 C T w5 q3) ⟨A2, tx, w3, kk⟩
theorem TW.num {v : Nat} (hc : gCS g) (hd : gDG g) (hg : gOC g) (ho : eh_ok g h) (C : CV g h a ws N m pe ep fb ft ρ) (T : TS g h a ws N A4 nm sn vn) (W : TW g h h2 a ws N m pe ep fb2 ft2 ρ2 A4 nm sn vn k tx) (hv : v < 2 ^ 31) (hl : tx.length ≤ 380) (hq : ∀ h3, TW g h h3 a ws N m pe ep fb2 ft2 ρ2 A4 nm sn vn (k + 1) (tx ++ dgV v) → SBk (a 4) h2 h3 → Q (.returned (some (.ref (a 4)))) h3) : ew_T g kJ3_append_2 18 [.ref (a 4), .int (nI v)] h2 Q := by
  refine ew_okT (fun ho2 => ?_)
  obtain ⟨A2, fs, w3, w5, hqo⟩ := W.s
  refine t_sbAppI hc hd w3 hv (by omega) (fun h3 q3 => ?_)
  have q4 := q3
  obtain ⟨A3, -, -, kk⟩ := q4
  exact hq h3 (W.app hg ho ho2 C T w5 q3) ⟨A2, tx, w3, kk⟩
theorem TW.wrd {L : List Nat} {p : Nat} (hc : gCS g) (hg : gOC g) (ho : eh_ok g h) (C : CV g h a ws N m pe ep fb ft ρ) (T : TS g h a ws N A4 nm sn vn) (W : TW g h h2 a ws N m pe ep fb2 ft2 ρ2 A4 nm sn vn k tx) (hs : ∀ h, eh_ok g h → Str g h p L.length (fun i => nI (L.getD i 0))) (hL : ∀ c, c ∈ L → c < 128) (hll : L.length ≤ 10) (hl : tx.length ≤ 390) (hq : ∀ h3, TW g h h3 a ws N m pe ep fb2 ft2 ρ2 A4 nm sn vn (k + 1) (tx ++ wdC L) → SBk (a 4) h2 h3 → Q (.returned (some (.ref (a 4)))) h3) : ew_T g kJ3_append_3 19 [.ref (a 4), .ref p] h2 Q := by
  refine ew_okT (fun ho2 => ?_)
  obtain ⟨A2, fs, w3, w5, hqo⟩ := W.s
  have hch : ∀ i, i < L.length → ∃ c : Nat, c < 128 ∧ nI (L.getD i 0) = nI c := fun i hi => ⟨L.getD i 0, by
    rw [List.getD_eq_getElem?_getD, List.getElem?_eq_getElem hi]
    exact hL _ (List.getElem_mem hi), rfl⟩
  refine t_sbAppS hc hg w3 (hs h2 ho2) (by omega) (fun h3 q3 => ?_)
  rw [tx1_wd hch] at q3
  have q4 := q3
  obtain ⟨A3, -, -, kk⟩ := q4
  exact hq h3 (W.app hg ho ho2 C T w5 q3) ⟨A2, tx, w3, kk⟩
theorem TW.len (W : TW g h h2 a ws N m pe ep fb2 ft2 ρ2 A4 nm sn vn k tx) (hq : Q (.returned (some (.int (nI tx.length)))) h2) : ew_T g kJ3_length 1 [.ref (a 4)] h2 Q := by
  obtain ⟨A2, fs, w3, w5, hqo⟩ := W.s
  exact t_sbLen w3 hq
theorem TW.nms (W : TW g h h2 a ws N m pe ep fb2 ft2 ρ2 A4 nm sn vn k tx) : ∃ fn, rd g h2 (a 15) = some (aR 6 (nE N) fn) ∧ ∀ e, e < nE N → fn e = some (sn e) := W.2.1.1
/-- the label is cleared -/
theorem TW.clr {h1 : eh} {c s : Nat} {tx0 : List Int32} (hg : gOC g) (ho : eh_ok g h) (C : CV g h a ws N m pe ep fb ft ρ) (T : TS g h a ws N A4 nm sn vn) (S : SB h (a 4) A4 tx0) (C1 : CV g h1 a ws N m pe ep fb2 ft2 ρ2) (kk : Ke (rgA a) c s h h1) (hc : c ≤ 5000) (hs : s ≤ 40000) (hq : ∀ h3, TW g h h3 a ws N m pe ep fb2 ft2 ρ2 A4 nm sn vn 0 [] → Ke [a 4] 0 0 h1 h3 → Q (.returned none) h3) : ew_T g kJ3_setLength 25 [.ref (a 4), .int 0] h1 Q := by
  refine ew_okT (fun ho1 => ?_)
  have S1 := SB.q ho T S kk
  exact t_sbSet0 S1 (fun h3 S3 k3 => hq h3 (TW.start hg ho ho1 C T S C1 kk hc hs S3 k3) k3)
theorem StL.clr {q L E : Nat} {xs : List Nat} {es : List ed} {h3 : eh} {fs : List Value} (hg : gOC g) (ho2 : eh_ok g h2) (S : StL g h2 L E xs es) (hq : h2.1 q = some (ob 16 fs)) (kk : Ke [q] 0 0 h2 h3) : StL g h3 L E xs es := by
  obtain ⟨⟨mc, cap', F, l1, l2, l3⟩, S2, S3⟩ := S
  have nin : ∀ b e, rd g h2 b = some e → (∀ fs, e ≠ ob 16 fs) → b ∉ [q] := fun b e hb h1 h8 => by
    rw [List.mem_singleton.mp h8, rd_of hq] at hb
    exact h1 _ (Option.some.inj hb).symm
  refine ⟨AL.ke ⟨mc, cap', F, l1, l2, l3⟩ kk hg ho2 (nin _ _ (rd_of l1) (fun fs h9 => by cases h9)) (nin _ _ l2 (fun fs h9 => by cases h9)), S2, fun i x e h1 h9 => kk.h ho2 (S3 i x e h1 h9) (nin _ _ (rd_of (S3 i x e h1 h9)) (fun fs h9 => by cases h9))⟩
theorem TW.up {k' : Nat} (W : TW g h h2 a ws N m pe ep fb2 ft2 ρ2 A4 nm sn vn k tx) (hk : k ≤ k') : TW g h h2 a ws N m pe ep fb2 ft2 ρ2 A4 nm sn vn k' tx := by
  obtain ⟨w1, w2, w3, w4⟩ := W
  exact ⟨w1, w2, w3, w4.w (fun b h9 _ => h9) (by omega) (by omega)⟩
end
