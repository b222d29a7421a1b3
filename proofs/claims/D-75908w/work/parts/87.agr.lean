/-! EW: squares that agree on their own cells -/
set_option maxRecDepth 100000
def agN (n : Nat) (f f' : Nat → Int32) : Prop := ∀ k, k < n * n → f k = f' k
theorem agN.at {n a b : Nat} {f f' : Nat → Int32} (h : agN n f f') (ha : a < n) (hb : b < n) : f (n * a + b) = f' (n * a + b) := h _ (sq_lt ha hb)
theorem stp_ag {n a b : Nat} {s : Int32} {f f' : Nat → Int32} (h : agN n f f') (ha : a < n) (hb : b < n) : agN n (stp n f a b s) (stp n f' a b s) := by
  intro k hk
  unfold stp
  rw [h.at ha hb]
  show (if k = n * a + b then _ else f k) = (if k = n * a + b then _ else f' k)
  rw [h k hk]
theorem wlF_ag {n a b : Nat} {lo hi ih il : Int32} {f f' : Nat → Int32} (h : agN n f f') (ha : a < n) (hb : b < n) : agN n (wlF n f a b lo hi ih il) (wlF n f' a b lo hi ih il) := by
  have h1 : agN n (wlH n f a b hi ih) (wlH n f' a b hi ih) := by
    unfold wlH
    split
    · exact stp_ag h ha hb
    · exact h
  unfold wlF
  split
  · exact stp_ag h1 hb ha
  · exact h1
theorem clB_ag {n k a : Nat} {f f' : Nat → Int32} (h : agN n f f') (hk : k < n) (ha : a < n) : ∀ b, b ≤ n → agN n (clB n f k a b) (clB n f' k a b)
  | 0, _ => h
  | b + 1, hb => by
    have ih := clB_ag h hk ha b (by omega)
    rw [clB, clB, ih.at hk (show b < n by omega), ih.at ha hk]
    split
    · exact ih
    · exact stp_ag ih ha (by omega)
theorem clA_ag {n k : Nat} {f f' : Nat → Int32} (h : agN n f f') (hk : k < n) : ∀ a, a ≤ n → agN n (clA n f k a) (clA n f' k a)
  | 0, _ => h
  | a + 1, ha => by
    have ih := clA_ag h hk a (by omega)
    rw [clA, clA, ih.at (show a < n by omega) hk]
    split
    · exact ih
    · exact clB_ag ih hk (by omega) n (Nat.le_refl _)
theorem clK_ag {n : Nat} {f f' : Nat → Int32} (h : agN n f f') : ∀ k, k ≤ n → agN n (clK n f k) (clK n f' k)
  | 0, _ => h
  | k + 1, hk => by
    rw [clK, clK]
    exact clA_ag (clK_ag h k (by omega)) (by omega) n (Nat.le_refl _)
theorem cl1_ag {n : Nat} {f f' : Nat → Int32} : ∀ m k, k < m → cl1 f m k = cl1 f' m k
  | 0, k, h => absurd h (Nat.not_lt_zero k)
  | m + 1, k, h => by
    show (if k = m then (100000000 : Int32) else cl1 f m k) = (if k = m then (100000000 : Int32) else cl1 f' m k)
    by_cases e : k = m
    · rw [if_pos e, if_pos e]
    · rw [if_neg e, if_neg e]
      exact cl1_ag (n := n) m k (by omega)
theorem upd_ag {n j : Nat} {v : Int32} {f f' : Nat → Int32} (h : agN n f f') : agN n (upd f j v) (upd f' j v) := by
  intro k hk
  show (if k = j then v else f k) = (if k = j then v else f' k)
  rw [h k hk]
theorem cl2_ag {n : Nat} {f f' : Nat → Int32} (h : agN n f f') : ∀ e, agN n (cl2 n f e) (cl2 n f' e)
  | 0 => h
  | e + 1 => upd_ag (upd_ag (cl2_ag h e))
theorem lyW_ag {N : Nat → Int32} (ok : okN N) {wout but : Int32} {f f' : Nat → Int32} (h : agN (nE N) f f') : ∀ w, w ≤ nW N → agN (nE N) (lyW N wout but f w) (lyW N wout but f' w)
  | 0, _ => h
  | w + 1, hw => by
    have ih := lyW_ag ok (wout := wout) (but := but) h w (by omega)
    rw [lyW, lyW]
    split
    · exact wlF_ag ih (ok.al w (by omega)) (ok.bl w (by omega))
    · exact ih
theorem lyE_ag {N : Nat → Int32} {f f' : Nat → Int32} (h : agN (nE N) f f') : ∀ m, m + 1 ≤ nE N → agN (nE N) (lyE N f m) (lyE N f' m)
  | 0, _ => h
  | m + 1, hm => by
    have ih := lyE_ag h m (by omega)
    rw [lyE, lyE]
    split
    · exact ih
    · exact stp_ag (stp_ag ih (by omega) (by omega)) (by omega) (by omega)
theorem lyF_ag {N : Nat → Int32} (ok : okN N) (wout but : Int32) (f f' : Nat → Int32) : agN (nE N) (lyF N wout but f) (lyF N wout but f') := by
  have h1 := ok.e1
  exact clK_ag (lyE_ag (lyW_ag ok (cl2_ag (fun k hk => cl1_ag (n := nE N) _ k hk) _) _ (Nat.le_refl _)) _ (by omega)) _ (Nat.le_refl _)
/-- the component's square of a net without some windows, but one step -/
def cSq (N : Nat → Int32) (wout but : Int32) : Nat → Int32 := lyF N wout but (fun _ => 0)
/-- whether it is sound -/
def cSo (N : Nat → Int32) (wout but : Int32) : Prop := sqSound (nE N) (cSq N wout but)
theorem sqS_ag {n : Nat} {f f' : Nat → Int32} (h : agN n f f') : sqSound n f ↔ sqSound n f' := by
  constructor
  · intro h1 e he
    rw [← h.at he he]
    exact h1 e he
  · intro h1 e he
    rw [h.at he he]
    exact h1 e he
theorem lyF_cSq {N : Nat → Int32} (ok : okN N) (wout but : Int32) (f : Nat → Int32) : agN (nE N) (lyF N wout but f) (cSq N wout but) := lyF_ag ok wout but f _
theorem lyF_so {N : Nat → Int32} (ok : okN N) (wout but : Int32) (f : Nat → Int32) : sqSound (nE N) (lyF N wout but f) ↔ cSo N wout but := sqS_ag (lyF_cSq ok wout but f)
