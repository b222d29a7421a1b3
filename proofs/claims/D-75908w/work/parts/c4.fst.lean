/-! EW: the whole component with a net: what lies beside the net -/
set_option maxRecDepth 100000
/-- a net that is kept: addresses (at 14 .. 20), windows, numbers -/
abbrev nbd : Type := (Nat → Nat) × List Nat × (Nat → Int32)
def nbO (b : nbd) : List Nat := nO (b.1 14) (b.1 16) (b.1 17) (b.1 18) (b.1 19) (b.1 20) b.2.1
def NB (g : eg) (h : eh) (nA n : Nat) (b : nbd) : Prop := NR g h (b.1 14) nA (b.1 16) (b.1 17) (b.1 18) (b.1 19) (b.1 20) b.2.1 b.2.2 ∧ nE b.2.2 = n
/-- common cells are constant ones -/
def djn (g : eg) (X Y : List Nat) : Prop := ∀ b, b ∈ X → b ∈ Y → b < eb g
theorem djn.symm {g : eg} {X Y : List Nat} (h : djn g X Y) : djn g Y X := fun b h1 h2 => h b h2 h1
def bdd (n : Nat) (Ls : List (List Nat)) : Prop := ∀ l, l ∈ Ls → ∀ b, b ∈ l → b < n
theorem bdd.le {n n' : Nat} {Ls : List (List Nat)} (h : bdd n Ls) (hn : n ≤ n') : bdd n' Ls := fun l h1 b h2 => Nat.lt_of_lt_of_le (h l h1 b h2) hn
theorem pw_head {g : eg} {X X' : List Nat} {Ls : List (List Nat)} {n : Nat} (h : (X :: Ls).Pairwise (djn g)) (hb : bdd n Ls) (hx : ∀ b, b ∈ X' → b ∈ X ∨ n ≤ b ∨ b < eb g) : (X' :: Ls).Pairwise (djn g) := by
  rw [List.pairwise_cons] at h ⊢
  refine ⟨fun l hl b h1 h2 => ?_, h.2⟩
  rcases hx b h1 with h3 | h3 | h3
  · exact h.1 l hl b h3 h2
  · have := hb l hl b h2
    omega
  · exact h3
theorem pw_mid {g : eg} {X X' : List Nat} {A B : List (List Nat)} {n : Nat} (h : (A ++ X :: B).Pairwise (djn g)) (hb : bdd n (A ++ B)) (hx : ∀ b, b ∈ X' → b ∈ X ∨ n ≤ b ∨ b < eb g) : (A ++ X' :: B).Pairwise (djn g) := by
  have h1 : (X :: (A ++ B)).Pairwise (djn g) := (List.Perm.pairwise_iff (fun h9 => h9.symm) List.perm_middle).mp h
  exact (List.Perm.pairwise_iff (fun h9 => h9.symm) List.perm_middle).mpr (pw_head h1 hb hx)
theorem pw_ins {g : eg} {X' : List Nat} {A B : List (List Nat)} {n : Nat} (h : (A ++ B).Pairwise (djn g)) (hb : bdd n (A ++ B)) (hx : ∀ b, b ∈ X' → n ≤ b ∨ b < eb g) : (A ++ X' :: B).Pairwise (djn g) := by
  refine (List.Perm.pairwise_iff (fun h9 => h9.symm) List.perm_middle).mpr ?_
  rw [List.pairwise_cons]
  refine ⟨fun l hl b h1 h2 => ?_, h⟩
  rcases hx b h1 with h3 | h3
  · have := hb l hl b h2
    omega
  · exact h3
theorem bdd.ins {n n' : Nat} {X' : List Nat} {A B : List (List Nat)} (hb : bdd n (A ++ B)) (hn : n ≤ n') (hx : ∀ b, b ∈ X' → b < n') : bdd n' (A ++ X' :: B) := by
  intro l hl b h1
  rcases List.mem_append.mp hl with h2 | h2
  · exact Nat.lt_of_lt_of_le (hb l (List.mem_append_left _ h2) b h1) hn
  · rcases List.mem_cons.mp h2 with h3 | h3
    · rw [h3] at h1
      exact hx b h1
    · exact Nat.lt_of_lt_of_le (hb l (List.mem_append_right _ h3) b h1) hn
theorem bdd.del {n : Nat} {X : List Nat} {A B : List (List Nat)} (hb : bdd n (A ++ X :: B)) : bdd n (A ++ B) := by
  intro l hl
  refine hb l ?_
  rcases List.mem_append.mp hl with h2 | h2
  · exact List.mem_append_left _ h2
  · exact List.mem_append_right _ (List.mem_cons_of_mem _ h2)
theorem pw_del {g : eg} {X : List Nat} {A B : List (List Nat)} (h : (A ++ X :: B).Pairwise (djn g)) : (A ++ B).Pairwise (djn g) := h.sublist (List.Sublist.append (List.Sublist.refl A) (List.sublist_cons_self X B))
/-- two of them -/
theorem pw_two {g : eg} {X Y : List Nat} {Ls : List (List Nat)} {i j : Nat} (h : Ls.Pairwise (djn g)) (hi : Ls[i]? = some X) (hj : Ls[j]? = some Y) (hn : i ≠ j) : djn g X Y := by
  have h1 := List.pairwise_iff_getElem.mp h
  obtain ⟨hi1, hi2⟩ := List.getElem?_eq_some_iff.mp hi
  obtain ⟨hj1, hj2⟩ := List.getElem?_eq_some_iff.mp hj
  rcases Nat.lt_or_gt_of_ne hn with h9 | h9
  · have := h1 i j hi1 hj1 h9
    rw [hi2, hj2] at this
    exact this
  · have := h1 j i hj1 hi1 h9
    rw [hi2, hj2] at this
    exact this.symm
def nmL2 (n : Nat) (sn vn : Nat → Nat) : List Nat := (List.range n).flatMap (fun e => [sn e, vn e])
theorem nmL2_mem {n : Nat} {sn vn : Nat → Nat} {e : Nat} (he : e < n) : sn e ∈ nmL2 n sn vn ∧ vn e ∈ nmL2 n sn vn := by
  constructor
  · exact List.mem_flatMap.mpr ⟨e, List.mem_range.mpr he, by simp⟩
  · exact List.mem_flatMap.mpr ⟨e, List.mem_range.mpr he, by simp⟩
def svL (sv : Nat → Option nbd) : List nbd := (sv 0).toList ++ (sv 1).toList
def rsL (a : Nat → Nat) (A2 A4 : Nat) (P : List nbd) (sv : Nat → Option nbd) : List (List Nat) := [a 1] :: [a 2, A2] :: [a 3] :: [a 4, A4] :: (P ++ svL sv).map nbO
def fsL (a : Nat → Nat) (ws : List Nat) (n : Nat) (sn vn : Nat → Nat) (A2 A4 : Nat) (P : List nbd) (sv : Nat → Option nbd) : List (List Nat) := nmL2 n sn vn :: cvA a ws :: rsL a A2 A4 P sv
/-- buffer, nets that are kept or saved, label -/
def RS (g : eg) (h : eh) (a : Nat → Nat) (n : Nat) (fbuf : Nat → Int32) (A2 hd : Nat) (P : List nbd) (sv : Nat → Option nbd) (A4 : Nat) (tx : List Int32) : Prop :=
  h.1 (a 1) = some (aB 700 fbuf) ∧ DQ h (a 2) A2 hd (P.map (fun b => b.1 14)) ∧ (∃ f, h.1 (a 3) = some (aR 7 2 f) ∧ ∀ i, i < 2 → f i = (sv i).map (fun b => b.1 14)) ∧ SB h (a 4) A4 tx ∧ ∀ b, b ∈ P ++ svL sv → NB g h (a 15) n b
section
variable {g : eg} {h h' : eh} {a : Nat → Nat} {ws : List Nat} {N : Nat → Int32} {m pe ep : Int32} {fb ft : Nat → Int32} {ρ : ru} {Q : Outcome → eh → Prop} {n A2 hd A4 c s : Nat} {P : List nbd} {sv : Nat → Option nbd} {tx : List Int32} {fbuf nm : Nat → Int32} {sn vn : Nat → Nat}
theorem RS.ke {A : List Nat} (R : RS g h a n fbuf A2 hd P sv A4 tx) (k : Ke A c s h h') (hg : gOC g) (ho : eh_ok g h) (hA : ∀ l, l ∈ rsL a A2 A4 P sv → ∀ b, b ∈ l → b ∉ A) (h15 : a 15 ∉ A) : RS g h' a n fbuf A2 hd P sv A4 tx := by
  obtain ⟨r1, r2, ⟨f, r3, r3'⟩, r4, r5⟩ := R
  have m1 : ∀ b, b ∈ [a 1] → b ∉ A := hA _ (by simp [rsL])
  have m2 : ∀ b, b ∈ [a 2, A2] → b ∉ A := hA _ (by simp [rsL])
  have m3 : ∀ b, b ∈ [a 3] → b ∉ A := hA _ (by simp [rsL])
  have m4 : ∀ b, b ∈ [a 4, A4] → b ∉ A := hA _ (by simp [rsL])
  refine ⟨k.h ho r1 (m1 _ (by simp)), r2.ke k ho (m2 _ (by simp)) (m2 _ (by simp)), ⟨f, k.h ho r3 (m3 _ (by simp)), r3'⟩, r4.ke k ho (m4 _ (by simp)) (m4 _ (by simp)), fun b hb => ⟨(r5 b hb).1.ke k hg ho (fun x hx => ?_), (r5 b hb).2⟩⟩
  rcases List.mem_cons.mp hx with e | e
  · rw [e]; exact h15
  · refine hA (nbO b) ?_ x e
    simp only [rsL, List.mem_cons]
    exact Or.inr (Or.inr (Or.inr (Or.inr (List.mem_map_of_mem hb))))
/-- the whole component with a net -/
def FS (g : eg) (h : eh) (a : Nat → Nat) (ws : List Nat) (N : Nat → Int32) (m pe ep : Int32) (nm : Nat → Int32) (sn vn : Nat → Nat) (fbuf : Nat → Int32) (A2 hd : Nat) (P : List nbd) (sv : Nat → Option nbd) (A4 : Nat) (tx : List Int32) : Prop :=
  (∃ fb ft ρ, CV g h a ws N m pe ep fb ft ρ) ∧ NM g h (a 15) (nE N) nm sn vn ∧ RS g h a (nE N) fbuf A2 hd P sv A4 tx ∧ (fsL a ws (nE N) sn vn A2 A4 P sv).Pairwise (djn g) ∧ bdd h.2.1 (fsL a ws (nE N) sn vn A2 A4 P sv)
/-- what is told apart -/
theorem FS.ap (F : FS g h a ws N m pe ep nm sn vn fbuf A2 hd P sv A4 tx) : (∀ l, l ∈ rsL a A2 A4 P sv → djn g (cvA a ws) l) ∧ (∀ l, l ∈ rsL a A2 A4 P sv → djn g (nmL2 (nE N) sn vn) l) ∧ djn g (nmL2 (nE N) sn vn) (cvA a ws) := by
  have p := F.2.2.2.1
  rw [fsL, List.pairwise_cons, List.pairwise_cons] at p
  exact ⟨p.2.1, fun l hl => p.1 l (List.mem_cons_of_mem _ hl), p.1 _ List.mem_cons_self⟩
/-- cells of the component with its net change, and new ones are made -/
theorem FS.ke {A : List Nat} {N' : Nat → Int32} {m' pe' ep' : Int32} {fb' ft' : Nat → Int32} {ρ' : ru} {ws' : List Nat} {a' : Nat → Nat} (hg : gOC g) (ho : eh_ok g h) (ho' : eh_ok g h') (F : FS g h a ws N m pe ep nm sn vn fbuf A2 hd P sv A4 tx) (k : Ke A c s h h') (hA : ∀ b, b ∈ A → b < h.2.1 → b ∈ cvA a ws ∧ eb g ≤ b) (h15 : a 15 ∉ A) (C : CV g h' a' ws' N' m' pe' ep' fb' ft' ρ') (he : nE N' = nE N) (ha1 : ∀ i, i = 1 ∨ i = 2 ∨ i = 3 ∨ i = 4 ∨ i = 15 → a' i = a i) (hc : ∀ b, b ∈ cvA a' ws' → b ∈ cvA a ws ∨ h.2.1 ≤ b ∨ b < eb g) : FS g h' a' ws' N' m' pe' ep' nm sn vn fbuf A2 hd P sv A4 tx := by
  obtain ⟨d1, d2, d3⟩ := F.ap
  obtain ⟨-, M, R, p, bd⟩ := F
  have e1 := ha1 1 (Or.inl rfl)
  have e2 := ha1 2 (Or.inr (Or.inl rfl))
  have e3 := ha1 3 (Or.inr (Or.inr (Or.inl rfl)))
  have e4 := ha1 4 (Or.inr (Or.inr (Or.inr (Or.inl rfl))))
  have e15 := ha1 15 (Or.inr (Or.inr (Or.inr (Or.inr rfl))))
  have erl : rsL a' A2 A4 P sv = rsL a A2 A4 P sv := by rw [rsL, rsL, e1, e2, e3, e4]
  have hx : ∀ X, X ∈ fsL a ws (nE N) sn vn A2 A4 P sv → djn g X (cvA a ws) → ∀ b, b ∈ X → b ∉ A := fun X hX hd b hb h9 => by
    have h8 := hA b h9 (bd X hX b hb)
    have := hd b hb h8.1
    omega
  have hrs : ∀ l, l ∈ rsL a A2 A4 P sv → ∀ b, b ∈ l → b ∉ A := fun l hl => hx l (by rw [fsL]; exact List.mem_cons_of_mem _ (List.mem_cons_of_mem _ hl)) (d1 l hl).symm
  have hnm : ∀ b, b ∈ nmL2 (nE N) sn vn → b ∉ A := hx _ (by rw [fsL]; exact List.mem_cons_self) d3
  have R' := R.ke k hg ho hrs h15
  refine ⟨⟨fb', ft', ρ', C⟩, ?_, ?_, ?_, ?_⟩
  · rw [he, e15]
    exact M.ke k hg ho h15 (fun e hlt => ⟨hnm _ (nmL2_mem hlt).1, hnm _ (nmL2_mem hlt).2⟩)
  · unfold RS at R' ⊢
    rw [he, e1, e2, e3, e4, e15]
    exact R'
  · rw [he, fsL, erl]
    have p1 : ([nmL2 (nE N) sn vn] ++ cvA a ws :: rsL a A2 A4 P sv).Pairwise (djn g) := p
    exact pw_mid (n := h.2.1) p1 (bdd.del (A := [nmL2 (nE N) sn vn]) (X := cvA a ws) bd) hc
  · rw [he, fsL, erl]
    exact bdd.ins (A := [nmL2 (nE N) sn vn]) (bdd.del (A := [nmL2 (nE N) sn vn]) (X := cvA a ws) bd) k.2.1 (C.lt hg ho')
theorem rgA_cv {b : Nat} (hb : b ∈ rgA a) : b ∈ cvA a ws := by
  simp only [rgA, List.mem_cons, List.not_mem_nil, or_false] at hb
  simp only [cvA, List.mem_append, List.mem_cons, List.not_mem_nil, or_false]
  rcases hb with e | e | e | e | e | e <;> rw [e] <;> simp
theorem cv_rgb (C : CV g h a ws N m pe ep fb ft ρ) (ho : eh_ok g h) : ∀ b, b ∈ rgA a → eb g ≤ b := by
  intro b hb
  have cc := C.c
  simp only [rgA, List.mem_cons, List.not_mem_nil, or_false] at hb
  rcases hb with e | e | e | e | e | e <;> rw [e]
  · exact (ho.2 _ _ C.b.2.1).1
  · exact (ho.2 _ _ C.t.2.1).1
  · exact (ho.2 _ _ cc.2.2.2).1
  · exact (ho.2 _ _ cc.1).1
  · exact (ho.2 _ _ cc.2.1).1
  · exact (ho.2 _ _ cc.2.2.1).1
theorem cv_n15 (C : CV g h a ws N m pe ep fb ft ρ) : a 15 ∉ rgA a := by
  intro hb
  have cc := C.c
  obtain ⟨fn, hn⟩ := C.n.n
  simp only [rgA, List.mem_cons, List.not_mem_nil, or_false] at hb
  rcases hb with e | e | e | e | e | e
  · exact rd_ar hn C.b.2.1 e
  · exact rd_ar hn C.t.2.1 e
  · rw [e, rd_of cc.2.2.2] at hn; cases hn
  · exact rd_ar hn cc.1 e
  · exact rd_ar hn cc.2.1 e
  · exact rd_ar hn cc.2.2.1 e
/-- behind a question -/
theorem FS.q (hg : gOC g) (ho : eh_ok g h) (ho' : eh_ok g h') (F : FS g h a ws N m pe ep nm sn vn fbuf A2 hd P sv A4 tx) (q : CQ g a ws N m pe ep h h') : FS g h' a ws N m pe ep nm sn vn fbuf A2 hd P sv A4 tx := by
  obtain ⟨fb', ft', ρ', C', k⟩ := q
  have F1 := F
  obtain ⟨⟨fb, ft, ρ, C⟩, -⟩ := F1
  exact F.ke hg ho ho' k (fun b hb hlt => ⟨rgA_cv hb, cv_rgb C ho b hb⟩) (cv_n15 C) C' rfl (fun i _ => rfl) (fun b hb => Or.inl hb)
/-- what a text needs -/
theorem FS.ts (hg : gOC g) (ho : eh_ok g h) (F : FS g h a ws N m pe ep nm sn vn fbuf A2 hd P sv A4 tx) : TS g h a ws N A4 nm sn vn ∧ SB h (a 4) A4 tx := by
  obtain ⟨d1, d2, d3⟩ := F.ap
  obtain ⟨⟨fb, ft, ρ, C⟩, M, R, p, bd⟩ := F
  have S := R.2.2.2.1
  have S2 := S
  obtain ⟨ml, cap, f, s1, s2, -⟩ := S2
  have b4 := (ho.2 _ _ s1).1
  have bA := (ho.2 _ _ s2).1
  have m4 : [a 4, A4] ∈ rsL a A2 A4 P sv := by simp [rsL]
  have hr := cv_rgb C ho
  refine ⟨⟨M, fun b hb => ⟨fun e => ?_, fun e => ?_⟩, (cv_n15 C), fun e he => ⟨⟨fun h9 => ?_, fun h9 => ?_, fun h9 => ?_⟩, fun h9 => ?_, fun h9 => ?_, fun h9 => ?_⟩⟩, S⟩
  · have := d1 _ m4 b hb (by rw [e]; simp)
    omega
  · have := d1 _ m4 b hb (by rw [e]; simp)
    omega
  · have := d3 _ (nmL2_mem he).1 (rgA_cv h9)
    have := hr _ h9
    omega
  · have := d2 _ m4 _ (nmL2_mem (sn := sn) (vn := vn) he).1 (by rw [h9]; simp)
    omega
  · have := d2 _ m4 _ (nmL2_mem (sn := sn) (vn := vn) he).1 (by rw [h9]; simp)
    omega
  · have := d3 _ (nmL2_mem he).2 (rgA_cv h9)
    have := hr _ h9
    omega
  · have := d2 _ m4 _ (nmL2_mem (sn := sn) (vn := vn) he).2 (by rw [h9]; simp)
    omega
  · have := d2 _ m4 _ (nmL2_mem (sn := sn) (vn := vn) he).2 (by rw [h9]; simp)
    omega
end
