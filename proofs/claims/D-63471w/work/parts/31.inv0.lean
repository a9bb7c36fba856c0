/-! ===== the protocol's invariant: views of the messages ===== -/
section LST
variable {α : Type} {M : List α} {j : Nat} {z y : α} {p : α → Bool}
theorem er_split (h : M[j]? = some z) : M = M.take j ++ z :: M.drop (j + 1) ∧ M.eraseIdx j = M.take j ++ M.drop (j + 1) := by
  obtain ⟨hj, hz⟩ := List.getElem?_eq_some_iff.mp h
  refine ⟨?_, List.eraseIdx_eq_take_drop_succ M j⟩
  rw [← hz, ← List.drop_eq_getElem_cons hj, List.take_append_drop]
theorem fil_neg (h : M[j]? = some z) (hp : p z = false) : (M.eraseIdx j).filter p = M.filter p := by
  obtain ⟨e1, e2⟩ := er_split h
  rw [e2]
  conv => rhs; rw [e1]
  simp [hp]
theorem cnt_er (h : M[j]? = some z) : (M.eraseIdx j).countP p + (if p z = true then 1 else 0) = M.countP p := by
  obtain ⟨e1, e2⟩ := er_split h
  rw [e2]
  conv => rhs; rw [e1]
  simp only [List.countP_append, List.countP_cons]
  omega
theorem fil_one (h : M[j]? = some z) (hp : p z = true) (h1 : M.filter p = [y]) : (M.eraseIdx j).filter p = [] ∧ y = z := by
  have hm : z ∈ M.filter p := List.mem_filter.mpr ⟨List.mem_of_getElem? h, hp⟩
  rw [h1] at hm
  have hc := cnt_er (p := p) h
  rw [if_pos hp, List.countP_eq_length_filter, List.countP_eq_length_filter, h1] at hc
  refine ⟨List.length_eq_zero_iff.mp (by simpa using hc), (List.mem_singleton.mp hm).symm⟩
theorem fil_front (h : M[j]? = some z) (hp : p z = true) (hb : (M.take j).any p = false) : M.filter p = z :: (M.eraseIdx j).filter p := by
  obtain ⟨e1, e2⟩ := er_split h
  have hn : (M.take j).filter p = [] := by
    rw [List.filter_eq_nil_iff]
    intro a ha hpa
    have := List.any_eq_false.mp hb a ha
    exact this hpa
  rw [e2]
  conv => lhs; rw [e1]
  simp [hn, hp]
end LST
def cl (z : Msg) : Nat := if z.1 < 4 then z.2.1 else if z.1 < 7 then z.2.2.2.2.2.2 - 1 else z.2.2.1
def pm (c b : Nat) (z : Msg) : Bool := cl z == c && z.2.2.2.1 == b && (z.1 != 6 && z.1 != 9)
def pa (c b : Nat) (z : Msg) : Bool := cl z == c && z.2.2.2.1 == b && (z.1 == 6 || z.1 == 9)
def pq (c b : Nat) (z : Msg) : Bool := fw z.1 && (z.2.2.2.1 == b) && (z.2.2.1 == c)
def pS (b : Nat) (z : Msg) : Bool := z.1 == 4 && z.2.2.2.1 == b
def pH (b : Nat) (z : Msg) : Bool := z.1 == 8 && z.2.2.1 == 4 && z.2.2.2.1 == b
/-- what every message is like -/
def WZ (N : Nat) (z : Msg) : Prop := z.1 < 10 ∧ z.2.2.2.1 < 4 ∧ (z.1 < 4 → z.2.2.1 = 4 ∧ z.2.1 < N) ∧ (4 ≤ z.1 ∧ z.1 ≤ 6 → z.2.1 = 4 ∧ z.2.2.1 < N ∧ ∃ a, a < N ∧ z.2.2.2.2.2.2 = a + 1) ∧ (z.1 = 7 → z.2.1 = 4 ∧ z.2.2.1 < N) ∧ (z.1 = 8 → z.2.1 < 5 ∧ (z.2.2.1 < N ∨ (z.2.2.1 = 4 ∧ z.2.1 < N))) ∧ (z.1 = 9 → z.2.1 < N ∧ z.2.2.1 < N)
def MP (L k : Nat) : Prop := L = 2 ∨ L = 5 ∨ L = 7 ∨ ((L = 4 ∨ L = 6) ∧ k ≠ 2) ∨ L = 8
def TK (L k f : Nat) : Prop := L = 2 ∨ L = 5 ∨ L = 7 ∨ (L = 8 ∧ (k = 4 ∨ f ≠ 0)) ∨ ((L = 4 ∨ L = 6) ∧ k = 9)
/-- of one core: its line, its main message and what is to be counted -/
def LI1 (L k n A : Nat) (m : Int) : Prop :=
  L < 11 ∧ ((L = 0 ∨ L = 1 ∨ L = 2 ∨ L = 5 ∨ L = 7) → k = 0) ∧ (L = 3 → (k = 1 ∨ k = 5 ∨ k = 9) ∧ (k = 9 → n = 0)) ∧ ((L = 4 ∨ L = 6) → (k = 2 ∨ k = 6 ∨ k = 9)) ∧ (L = 8 → k = 4 ∨ k = 8) ∧ ((L = 9 ∨ L = 10) → k = 3 ∨ k = 4 ∨ k = 8)
  ∧ A ≤ 3 ∧ ((L = 4 ∨ L = 6) → (k ≠ 9 → A = 0 ∧ m = 0) ∧ (k = 9 → m + n = A ∧ n ≤ 3)) ∧ ((L = 5 ∨ L = 7) → m = A ∧ 0 < A) ∧ ((L < 4 ∨ 7 < L) → A = 0 ∧ m = 0)
/-- what is on the way to it -/
def LI2 (L k i f : Nat) : Prop := i ≤ 1 ∧ (f = 0 ∨ f = 4 ∨ f = 5) ∧ (f ≠ 0 → MP L k) ∧ (i = 1 → L = 1 ∨ L = 9 ∨ (L = 6 ∧ k ≠ 9) ∨ (L = 3 ∧ k ≠ 1))
/-- when it is the owner -/
def LI3 (L k f w c : Nat) : Prop := w = c + 1 → f = 0 ∧ k ≠ 8 ∧ MP L k
/-- when it is a sharer -/
def LI4 (L k i f s h : Nat) : Prop := s ≠ 0 → s = 1 ∧ k ≠ 8 ∧ ((i = 0 ∧ f = 0 ∧ (L = 1 ∨ L = 9 ∨ (L = 6 ∧ k = 2) ∨ (L = 3 ∧ k ≠ 1))) ∨ (f = 4 ∧ h = 3))
def LI (L k n A i f s : Nat) (m : Int) (h w c : Nat) : Prop := LI1 L k n A m ∧ LI2 L k i f ∧ LI3 L k f w c ∧ LI4 L k i f s h
/-- of a block, in numbers: lines, main messages (kind + 1), their numbers, acknowledgements, invalidations and forwards on the way, sharers, missing; standing, owner + 1, FWDS, DATA for the home -/
def BI (N : Nat) (L k n A i f s : Nat → Nat) (m : Nat → Int) (h w S H : Nat) : Prop :=
  (∀ c, c < N → LI (L c) (k c) (n c) (A c) (i c) (f c) (s c) (m c) h w c)
  ∧ h < 4 ∧ (h = 2 → 1 ≤ w ∧ w ≤ N) ∧ (h ≠ 2 → w = 0) ∧ (h = 0 ∨ h = 2 → ∀ c, c < N → s c = 0) ∧ (S + H = if h = 3 then 1 else 0)
  ∧ (∀ c, c < N → h = 0 ∨ h = 1 ∨ 0 < H → ¬ TK (L c) (k c) (f c)) ∧ (∀ c c', c < N → c' < N → TK (L c) (k c) (f c) → TK (L c') (k c') (f c') → c = c')
/-- the queue of forwards to a core -/
def qq (i f k : Nat) : List Nat := (if i = 1 then [6] else []) ++ ((if f = 0 then [] else [f]) ++ (if k = 8 then [7] else []))
/-- the numbers are those of the state g and of the messages M -/
def RB (N : Nat) (g : PS) (M : List Msg) (b : Nat) (L k n A i f s : Nat → Nat) (m : Nat → Int) (h w S H : Nat) : Prop :=
  (∀ c, c < N → g 8 (4 * c + b) = nI (L c) ∧ g 10 (4 * c + b) = Int32.ofInt (m c) ∧ (M.filter (pm c b)).map (fun z => (z.1 + 1, z.2.2.2.2.2.1)) = (if k c = 0 then [] else [(k c, n c)]) ∧ M.countP (pa c b) = A c ∧ (M.filter (pq c b)).map (fun z => z.1) = qq (i c) (f c) (k c))
  ∧ (∀ c, c < 4 → g 16 (4 * b + c) = nI (s c) ∧ (N ≤ c → s c = 0)) ∧ g 14 b = nI h ∧ g 15 b = (if w = 0 then -1 else nI (w - 1)) ∧ M.countP (pS b) = S ∧ M.countP (pH b) = H
