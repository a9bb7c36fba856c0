/-- two states agree on what the cell (s, i) holds -/
def agr (g g' : PS) (s i : Nat) : Prop := match s with
  | 0 => g' 1 0 = g 1 0 ∧ g' 19 0 = g 19 0 | 1 => g' 18 0 = g 18 0
  | 8 => g' 5 i = g 5 i ∧ g' 6 i = g 6 i ∧ g' 2 i = g 2 i ∧ g' 7 i = g 7 i
  | 9 => ∀ j, j < 16 → g' 3 (16 * i + j) = g 3 (16 * i + j) | 10 => ∀ j, j < 16 → g' 4 (16 * i + j) = g 4 (16 * i + j)
  | 11 => g' 8 i = g 8 i ∧ g' 9 i = g 9 i ∧ g' 10 i = g 10 i ∧ g' 11 i = g 11 i
  | 12 => g' 14 i = g 14 i ∧ g' 15 i = g 15 i ∧ s_set g' i 4 = s_set g i 4 ∧ g' 13 i = g 13 i
  | _ => True
theorem cg_0 {dA : Nat → ClassId} {eA ad : Nat → Nat → Nat} {N : Nat} {g g' : PS} {as sp : List Nat} {i : Nat} (h : g' 1 0 = g 1 0 ∧ g' 19 0 = g 19 0) : ct dA eA ad N g' as sp 0 i = ct dA eA ad N g as sp 0 i := by
  show (Sum.inr (0, [.int (nI N), .int (g' 1 0), .ref (ad 4 0), .ref (ad 1 0), .ref (ad 2 0), .ref (ad 5 0), .ref (ad 6 0), .ref (ad 7 0), .int (g' 19 0)]) : va_E) = Sum.inr (0, [.int (nI N), .int (g 1 0), .ref (ad 4 0), .ref (ad 1 0), .ref (ad 2 0), .ref (ad 5 0), .ref (ad 6 0), .ref (ad 7 0), .int (g 19 0)])
  rw [h.1, h.2]
theorem cg_1 {dA : Nat → ClassId} {eA ad : Nat → Nat → Nat} {N : Nat} {g g' : PS} {as sp : List Nat} {i : Nat} (h : g' 18 0 = g 18 0) : ct dA eA ad N g' as sp 1 i = ct dA eA ad N g as sp 1 i := by
  show (Sum.inr (1, [va_rf as.head?, va_rf as.getLast?, va_rf sp.head?, .int (nI as.length), .int (g' 18 0)]) : va_E) = Sum.inr (1, [va_rf as.head?, va_rf as.getLast?, va_rf sp.head?, .int (nI as.length), .int (g 18 0)])
  rw [h]
theorem cg_8 {dA : Nat → ClassId} {eA ad : Nat → Nat → Nat} {N : Nat} {g g' : PS} {as sp : List Nat} {i : Nat} (h : g' 5 i = g 5 i ∧ g' 6 i = g 6 i ∧ g' 2 i = g 2 i ∧ g' 7 i = g 7 i) : ct dA eA ad N g' as sp 8 i = ct dA eA ad N g as sp 8 i := by
  show (Sum.inr (8, [.ref (ad 9 i), .ref (ad 10 i), .int (g' 5 i), .int (g' 6 i), .int (g' 2 i), .int (32 * g' 7 i)]) : va_E) = Sum.inr (8, [.ref (ad 9 i), .ref (ad 10 i), .int (g 5 i), .int (g 6 i), .int (g 2 i), .int (32 * g 7 i)])
  rw [h.1, h.2.1, h.2.2.1, h.2.2.2]
theorem cg_9 {dA : Nat → ClassId} {eA ad : Nat → Nat → Nat} {N : Nat} {g g' : PS} {as sp : List Nat} {i : Nat} (h : ∀ j, j < 16 → g' 3 (16 * i + j) = g 3 (16 * i + j)) : ct dA eA ad N g' as sp 9 i = ct dA eA ad N g as sp 9 i := by
  show (Sum.inl (dA 2, 16, .inl (fun j => if j < 16 then g' 3 (16 * i + j) else 0)) : va_E) = Sum.inl (dA 2, 16, .inl (fun j => if j < 16 then g 3 (16 * i + j) else 0))
  have e : (fun j => if j < 16 then g' 3 (16 * i + j) else 0) = (fun j => if j < 16 then g 3 (16 * i + j) else 0) := by
    funext j
    by_cases hj : j < 16
    · rw [if_pos hj, if_pos hj]; exact h j hj
    · rw [if_neg hj, if_neg hj]
  rw [e]
theorem cg_10 {dA : Nat → ClassId} {eA ad : Nat → Nat → Nat} {N : Nat} {g g' : PS} {as sp : List Nat} {i : Nat} (h : ∀ j, j < 16 → g' 4 (16 * i + j) = g 4 (16 * i + j)) : ct dA eA ad N g' as sp 10 i = ct dA eA ad N g as sp 10 i := by
  show (Sum.inl (dA 0, 16, .inl (fun j => if j < 16 then g' 4 (16 * i + j) else 0)) : va_E) = Sum.inl (dA 0, 16, .inl (fun j => if j < 16 then g 4 (16 * i + j) else 0))
  have e : (fun j => if j < 16 then g' 4 (16 * i + j) else 0) = (fun j => if j < 16 then g 4 (16 * i + j) else 0) := by
    funext j
    by_cases hj : j < 16
    · rw [if_pos hj, if_pos hj]; exact h j hj
    · rw [if_neg hj, if_neg hj]
  rw [e]
theorem cg_11 {dA : Nat → ClassId} {eA ad : Nat → Nat → Nat} {N : Nat} {g g' : PS} {as sp : List Nat} {i : Nat} (h : g' 8 i = g 8 i ∧ g' 9 i = g 9 i ∧ g' 10 i = g 10 i ∧ g' 11 i = g 11 i) : ct dA eA ad N g' as sp 11 i = ct dA eA ad N g as sp 11 i := by
  show (Sum.inr (9, [.int (nI (i / 4)), .int (nI (i % 4)), .ref (ad 1 0), .ref (ad 2 0), .ref (ad 3 (g' 8 i).toNatClampNeg), .int (g' 9 i), .int (g' 10 i), .int (g' 11 i)]) : va_E) = Sum.inr (9, [.int (nI (i / 4)), .int (nI (i % 4)), .ref (ad 1 0), .ref (ad 2 0), .ref (ad 3 (g 8 i).toNatClampNeg), .int (g 9 i), .int (g 10 i), .int (g 11 i)])
  rw [h.1, h.2.1, h.2.2.1, h.2.2.2]
theorem cg_12 {dA : Nat → ClassId} {eA ad : Nat → Nat → Nat} {N : Nat} {g g' : PS} {as sp : List Nat} {i : Nat} (h : g' 14 i = g 14 i ∧ g' 15 i = g 15 i ∧ s_set g' i 4 = s_set g i 4 ∧ g' 13 i = g 13 i) : ct dA eA ad N g' as sp 12 i = ct dA eA ad N g as sp 12 i := by
  show (Sum.inr (10, [.int (nI i), .ref (ad 1 0), .ref (eA 1 (g' 14 i).toNatClampNeg), .int (g' 15 i), .int (nI (s_set g' i 4)), .int (g' 13 i)]) : va_E) = Sum.inr (10, [.int (nI i), .ref (ad 1 0), .ref (eA 1 (g 14 i).toNatClampNeg), .int (g 15 i), .int (nI (s_set g i 4)), .int (g 13 i)])
  rw [h.1, h.2.1, h.2.2.1, h.2.2.2]
theorem cg_2 {dA : Nat → ClassId} {eA ad : Nat → Nat → Nat} {N : Nat} {g g' : PS} {as sp : List Nat} {i : Nat} : ct dA eA ad N g' as sp 2 i = ct dA eA ad N g as sp 2 i := by simp only [ct]
theorem cg_3 {dA : Nat → ClassId} {eA ad : Nat → Nat → Nat} {N : Nat} {g g' : PS} {as sp : List Nat} {i : Nat} : ct dA eA ad N g' as sp 3 i = ct dA eA ad N g as sp 3 i := by simp only [ct]
theorem cg_4 {dA : Nat → ClassId} {eA ad : Nat → Nat → Nat} {N : Nat} {g g' : PS} {as sp : List Nat} {i : Nat} : ct dA eA ad N g' as sp 4 i = ct dA eA ad N g as sp 4 i := by simp only [ct]
theorem cg_5 {dA : Nat → ClassId} {eA ad : Nat → Nat → Nat} {N : Nat} {g g' : PS} {as sp : List Nat} {i : Nat} : ct dA eA ad N g' as sp 5 i = ct dA eA ad N g as sp 5 i := by simp only [ct]
theorem cg_6 {dA : Nat → ClassId} {eA ad : Nat → Nat → Nat} {N : Nat} {g g' : PS} {as sp : List Nat} {i : Nat} : ct dA eA ad N g' as sp 6 i = ct dA eA ad N g as sp 6 i := by simp only [ct]
theorem cg_7 {dA : Nat → ClassId} {eA ad : Nat → Nat → Nat} {N : Nat} {g g' : PS} {as sp : List Nat} {i : Nat} : ct dA eA ad N g' as sp 7 i = ct dA eA ad N g as sp 7 i := by simp only [ct]
theorem vl_lt {N s i : Nat} (h : vl N s i) : s < 13 := by
  rcases Nat.lt_or_ge s 13 with q | q
  · exact q
  · exfalso
    obtain ⟨t, rfl⟩ : ∃ t, s = t + 13 := ⟨s - 13, by omega⟩
    exact h
theorem ct_cg {dA : Nat → ClassId} {eA ad : Nat → Nat → Nat} {N : Nat} {g g' : PS} {as sp : List Nat} (s i : Nat) (hv : vl N s i) (h : agr g g' s i) : ct dA eA ad N g' as sp s i = ct dA eA ad N g as sp s i := by
  have h13 := vl_lt hv
  rcases (show s = 0 ∨ s = 1 ∨ s = 2 ∨ s = 3 ∨ s = 4 ∨ s = 5 ∨ s = 6 ∨ s = 7 ∨ s = 8 ∨ s = 9 ∨ s = 10 ∨ s = 11 ∨ s = 12 by omega) with rfl | rfl | rfl | rfl | rfl | rfl | rfl | rfl | rfl | rfl | rfl | rfl | rfl
  · exact cg_0 h
  · exact cg_1 h
  · exact cg_2
  · exact cg_3
  · exact cg_4
  · exact cg_5
  · exact cg_6
  · exact cg_7
  · exact cg_8 h
  · exact cg_9 h
  · exact cg_10 h
  · exact cg_11 h
  · exact cg_12 h
theorem ag_2 {N : Nat} {g : PS} {j : Nat} (v : Int32) : ∀ s i, vl N s i → (s, i) ≠ (8, j) → agr g (up2 g 2 j v) s i := by
  intro s i hv h
  match s with
  | 0 => exact ⟨rfl, rfl⟩
  | 1 => exact rfl
  | 2 => exact trivial
  | 3 => exact trivial
  | 4 => exact trivial
  | 5 => exact trivial
  | 6 => exact trivial
  | 7 => exact trivial
  | 8 => exact ⟨rfl, rfl, up2_j _ _ (fun e => h (by rw [e])), rfl⟩
  | 9 => exact fun _ _ => rfl
  | 10 => exact fun _ _ => rfl
  | 11 => exact ⟨rfl, rfl, rfl, rfl⟩
  | 12 => exact ⟨rfl, rfl, s_set_c rfl i 4, rfl⟩
  | s + 13 => exact trivial
theorem ag_3 {N : Nat} {g : PS} {c j : Nat} (hj : j < 16) (v : Int32) : ∀ s i, vl N s i → (s, i) ≠ (9, c) → agr g (up2 g 3 (16 * c + j) v) s i := by
  intro s i hv h
  match s with
  | 0 => exact ⟨rfl, rfl⟩
  | 1 => exact rfl
  | 2 => exact trivial
  | 3 => exact trivial
  | 4 => exact trivial
  | 5 => exact trivial
  | 6 => exact trivial
  | 7 => exact trivial
  | 8 => exact ⟨rfl, rfl, rfl, rfl⟩
  | 9 => exact fun q hq => up2_j _ _ (fun e => h (by rw [show i = c by omega]))
  | 10 => exact fun _ _ => rfl
  | 11 => exact ⟨rfl, rfl, rfl, rfl⟩
  | 12 => exact ⟨rfl, rfl, s_set_c rfl i 4, rfl⟩
  | s + 13 => exact trivial
theorem ag_4 {N : Nat} {g : PS} {c j : Nat} (hj : j < 16) (v : Int32) : ∀ s i, vl N s i → (s, i) ≠ (10, c) → agr g (up2 g 4 (16 * c + j) v) s i := by
  intro s i hv h
  match s with
  | 0 => exact ⟨rfl, rfl⟩
  | 1 => exact rfl
  | 2 => exact trivial
  | 3 => exact trivial
  | 4 => exact trivial
  | 5 => exact trivial
  | 6 => exact trivial
  | 7 => exact trivial
  | 8 => exact ⟨rfl, rfl, rfl, rfl⟩
  | 9 => exact fun _ _ => rfl
  | 10 => exact fun q hq => up2_j _ _ (fun e => h (by rw [show i = c by omega]))
  | 11 => exact ⟨rfl, rfl, rfl, rfl⟩
  | 12 => exact ⟨rfl, rfl, s_set_c rfl i 4, rfl⟩
  | s + 13 => exact trivial
theorem ag_5 {N : Nat} {g : PS} {j : Nat} (v : Int32) : ∀ s i, vl N s i → (s, i) ≠ (8, j) → agr g (up2 g 5 j v) s i := by
  intro s i hv h
  match s with
  | 0 => exact ⟨rfl, rfl⟩
  | 1 => exact rfl
  | 2 => exact trivial
  | 3 => exact trivial
  | 4 => exact trivial
  | 5 => exact trivial
  | 6 => exact trivial
  | 7 => exact trivial
  | 8 => exact ⟨up2_j _ _ (fun e => h (by rw [e])), rfl, rfl, rfl⟩
  | 9 => exact fun _ _ => rfl
  | 10 => exact fun _ _ => rfl
  | 11 => exact ⟨rfl, rfl, rfl, rfl⟩
  | 12 => exact ⟨rfl, rfl, s_set_c rfl i 4, rfl⟩
  | s + 13 => exact trivial
theorem ag_6 {N : Nat} {g : PS} {j : Nat} (v : Int32) : ∀ s i, vl N s i → (s, i) ≠ (8, j) → agr g (up2 g 6 j v) s i := by
  intro s i hv h
  match s with
  | 0 => exact ⟨rfl, rfl⟩
  | 1 => exact rfl
  | 2 => exact trivial
  | 3 => exact trivial
  | 4 => exact trivial
  | 5 => exact trivial
  | 6 => exact trivial
  | 7 => exact trivial
  | 8 => exact ⟨rfl, up2_j _ _ (fun e => h (by rw [e])), rfl, rfl⟩
  | 9 => exact fun _ _ => rfl
  | 10 => exact fun _ _ => rfl
  | 11 => exact ⟨rfl, rfl, rfl, rfl⟩
  | 12 => exact ⟨rfl, rfl, s_set_c rfl i 4, rfl⟩
  | s + 13 => exact trivial
theorem ag_7 {N : Nat} {g : PS} {j : Nat} (v : Int32) : ∀ s i, vl N s i → (s, i) ≠ (8, j) → agr g (up2 g 7 j v) s i := by
  intro s i hv h
  match s with
  | 0 => exact ⟨rfl, rfl⟩
  | 1 => exact rfl
  | 2 => exact trivial
  | 3 => exact trivial
  | 4 => exact trivial
  | 5 => exact trivial
  | 6 => exact trivial
  | 7 => exact trivial
  | 8 => exact ⟨rfl, rfl, rfl, up2_j _ _ (fun e => h (by rw [e]))⟩
  | 9 => exact fun _ _ => rfl
  | 10 => exact fun _ _ => rfl
  | 11 => exact ⟨rfl, rfl, rfl, rfl⟩
  | 12 => exact ⟨rfl, rfl, s_set_c rfl i 4, rfl⟩
  | s + 13 => exact trivial
theorem ag_8 {N : Nat} {g : PS} {j : Nat} (v : Int32) : ∀ s i, vl N s i → (s, i) ≠ (11, j) → agr g (up2 g 8 j v) s i := by
  intro s i hv h
  match s with
  | 0 => exact ⟨rfl, rfl⟩
  | 1 => exact rfl
  | 2 => exact trivial
  | 3 => exact trivial
  | 4 => exact trivial
  | 5 => exact trivial
  | 6 => exact trivial
  | 7 => exact trivial
  | 8 => exact ⟨rfl, rfl, rfl, rfl⟩
  | 9 => exact fun _ _ => rfl
  | 10 => exact fun _ _ => rfl
  | 11 => exact ⟨up2_j _ _ (fun e => h (by rw [e])), rfl, rfl, rfl⟩
  | 12 => exact ⟨rfl, rfl, s_set_c rfl i 4, rfl⟩
  | s + 13 => exact trivial
theorem ag_9 {N : Nat} {g : PS} {j : Nat} (v : Int32) : ∀ s i, vl N s i → (s, i) ≠ (11, j) → agr g (up2 g 9 j v) s i := by
  intro s i hv h
  match s with
  | 0 => exact ⟨rfl, rfl⟩
  | 1 => exact rfl
  | 2 => exact trivial
  | 3 => exact trivial
  | 4 => exact trivial
  | 5 => exact trivial
  | 6 => exact trivial
  | 7 => exact trivial
  | 8 => exact ⟨rfl, rfl, rfl, rfl⟩
  | 9 => exact fun _ _ => rfl
  | 10 => exact fun _ _ => rfl
  | 11 => exact ⟨rfl, up2_j _ _ (fun e => h (by rw [e])), rfl, rfl⟩
  | 12 => exact ⟨rfl, rfl, s_set_c rfl i 4, rfl⟩
  | s + 13 => exact trivial
theorem ag_10 {N : Nat} {g : PS} {j : Nat} (v : Int32) : ∀ s i, vl N s i → (s, i) ≠ (11, j) → agr g (up2 g 10 j v) s i := by
  intro s i hv h
  match s with
  | 0 => exact ⟨rfl, rfl⟩
  | 1 => exact rfl
  | 2 => exact trivial
  | 3 => exact trivial
  | 4 => exact trivial
  | 5 => exact trivial
  | 6 => exact trivial
  | 7 => exact trivial
  | 8 => exact ⟨rfl, rfl, rfl, rfl⟩
  | 9 => exact fun _ _ => rfl
  | 10 => exact fun _ _ => rfl
  | 11 => exact ⟨rfl, rfl, up2_j _ _ (fun e => h (by rw [e])), rfl⟩
  | 12 => exact ⟨rfl, rfl, s_set_c rfl i 4, rfl⟩
  | s + 13 => exact trivial
theorem ag_11 {N : Nat} {g : PS} {j : Nat} (v : Int32) : ∀ s i, vl N s i → (s, i) ≠ (11, j) → agr g (up2 g 11 j v) s i := by
  intro s i hv h
  match s with
  | 0 => exact ⟨rfl, rfl⟩
  | 1 => exact rfl
  | 2 => exact trivial
  | 3 => exact trivial
  | 4 => exact trivial
  | 5 => exact trivial
  | 6 => exact trivial
  | 7 => exact trivial
  | 8 => exact ⟨rfl, rfl, rfl, rfl⟩
  | 9 => exact fun _ _ => rfl
  | 10 => exact fun _ _ => rfl
  | 11 => exact ⟨rfl, rfl, rfl, up2_j _ _ (fun e => h (by rw [e]))⟩
  | 12 => exact ⟨rfl, rfl, s_set_c rfl i 4, rfl⟩
  | s + 13 => exact trivial
theorem ag_13 {N : Nat} {g : PS} {j : Nat} (v : Int32) : ∀ s i, vl N s i → (s, i) ≠ (12, j) → agr g (up2 g 13 j v) s i := by
  intro s i hv h
  match s with
  | 0 => exact ⟨rfl, rfl⟩
  | 1 => exact rfl
  | 2 => exact trivial
  | 3 => exact trivial
  | 4 => exact trivial
  | 5 => exact trivial
  | 6 => exact trivial
  | 7 => exact trivial
  | 8 => exact ⟨rfl, rfl, rfl, rfl⟩
  | 9 => exact fun _ _ => rfl
  | 10 => exact fun _ _ => rfl
  | 11 => exact ⟨rfl, rfl, rfl, rfl⟩
  | 12 => exact ⟨rfl, rfl, s_set_c rfl i 4, up2_j _ _ (fun e => h (by rw [e]))⟩
  | s + 13 => exact trivial
theorem ag_14 {N : Nat} {g : PS} {j : Nat} (v : Int32) : ∀ s i, vl N s i → (s, i) ≠ (12, j) → agr g (up2 g 14 j v) s i := by
  intro s i hv h
  match s with
  | 0 => exact ⟨rfl, rfl⟩
  | 1 => exact rfl
  | 2 => exact trivial
  | 3 => exact trivial
  | 4 => exact trivial
  | 5 => exact trivial
  | 6 => exact trivial
  | 7 => exact trivial
  | 8 => exact ⟨rfl, rfl, rfl, rfl⟩
  | 9 => exact fun _ _ => rfl
  | 10 => exact fun _ _ => rfl
  | 11 => exact ⟨rfl, rfl, rfl, rfl⟩
  | 12 => exact ⟨up2_j _ _ (fun e => h (by rw [e])), rfl, s_set_c rfl i 4, rfl⟩
  | s + 13 => exact trivial
theorem ag_15 {N : Nat} {g : PS} {j : Nat} (v : Int32) : ∀ s i, vl N s i → (s, i) ≠ (12, j) → agr g (up2 g 15 j v) s i := by
  intro s i hv h
  match s with
  | 0 => exact ⟨rfl, rfl⟩
  | 1 => exact rfl
  | 2 => exact trivial
  | 3 => exact trivial
  | 4 => exact trivial
  | 5 => exact trivial
  | 6 => exact trivial
  | 7 => exact trivial
  | 8 => exact ⟨rfl, rfl, rfl, rfl⟩
  | 9 => exact fun _ _ => rfl
  | 10 => exact fun _ _ => rfl
  | 11 => exact ⟨rfl, rfl, rfl, rfl⟩
  | 12 => exact ⟨rfl, up2_j _ _ (fun e => h (by rw [e])), s_set_c rfl i 4, rfl⟩
  | s + 13 => exact trivial
theorem ag_18 {N : Nat} {g : PS} (v : Int32) : ∀ s i, vl N s i → (s, i) ≠ (1, 0) → agr g (up2 g 18 0 v) s i := by
  intro s i hv h
  match s with
  | 0 => exact ⟨rfl, rfl⟩
  | 1 => exact absurd (show (1, i) = (1, 0) by rw [show i = 0 from hv]) h
  | 2 => exact trivial
  | 3 => exact trivial
  | 4 => exact trivial
  | 5 => exact trivial
  | 6 => exact trivial
  | 7 => exact trivial
  | 8 => exact ⟨rfl, rfl, rfl, rfl⟩
  | 9 => exact fun _ _ => rfl
  | 10 => exact fun _ _ => rfl
  | 11 => exact ⟨rfl, rfl, rfl, rfl⟩
  | 12 => exact ⟨rfl, rfl, s_set_c rfl i 4, rfl⟩
  | s + 13 => exact trivial
theorem ag_19 {N : Nat} {g : PS} (v : Int32) : ∀ s i, vl N s i → (s, i) ≠ (0, 0) → agr g (up2 g 19 0 v) s i := by
  intro s i hv h
  match s with
  | 0 => exact absurd (show (0, i) = (0, 0) by rw [show i = 0 from hv]) h
  | 1 => exact rfl
  | 2 => exact trivial
  | 3 => exact trivial
  | 4 => exact trivial
  | 5 => exact trivial
  | 6 => exact trivial
  | 7 => exact trivial
  | 8 => exact ⟨rfl, rfl, rfl, rfl⟩
  | 9 => exact fun _ _ => rfl
  | 10 => exact fun _ _ => rfl
  | 11 => exact ⟨rfl, rfl, rfl, rfl⟩
  | 12 => exact ⟨rfl, rfl, s_set_c rfl i 4, rfl⟩
  | s + 13 => exact trivial
theorem ag_12 {g : PS} (v : Int32) : ∀ s i, agr g (up2 g 12 0 v) s i := by
  intro s i
  match s with
  | 0 => exact ⟨rfl, rfl⟩
  | 1 => exact rfl
  | 2 => exact trivial
  | 3 => exact trivial
  | 4 => exact trivial
  | 5 => exact trivial
  | 6 => exact trivial
  | 7 => exact trivial
  | 8 => exact ⟨rfl, rfl, rfl, rfl⟩
  | 9 => exact fun _ _ => rfl
  | 10 => exact fun _ _ => rfl
  | 11 => exact ⟨rfl, rfl, rfl, rfl⟩
  | 12 => exact ⟨rfl, rfl, s_set_c rfl i 4, rfl⟩
  | s + 13 => exact trivial
/-- the sharers of block b change -/
theorem ag_16 {N : Nat} {g g' : PS} {b : Nat} (hk : ∀ k, k ≠ 16 → g' k = g k) (ho : ∀ i, i < 4 → i ≠ b → s_set g' i 4 = s_set g i 4) : ∀ s i, vl N s i → (s, i) ≠ (12, b) → agr g g' s i := by
  intro s i hv h
  match s with
  | 0 => exact ⟨by rw [hk 1 (by decide)], by rw [hk 19 (by decide)]⟩
  | 1 => exact (by rw [hk 18 (by decide)] : g' 18 0 = g 18 0)
  | 2 => exact trivial
  | 3 => exact trivial
  | 4 => exact trivial
  | 5 => exact trivial
  | 6 => exact trivial
  | 7 => exact trivial
  | 8 => exact ⟨by rw [hk 5 (by decide)], by rw [hk 6 (by decide)], by rw [hk 2 (by decide)], by rw [hk 7 (by decide)]⟩
  | 9 => exact fun j _ => by rw [hk 3 (by decide)]
  | 10 => exact fun j _ => by rw [hk 4 (by decide)]
  | 11 => exact ⟨by rw [hk 8 (by decide)], by rw [hk 9 (by decide)], by rw [hk 10 (by decide)], by rw [hk 11 (by decide)]⟩
  | 12 => exact ⟨by rw [hk 14 (by decide)], by rw [hk 15 (by decide)], ho i hv (fun e => h (by rw [e])), by rw [hk 13 (by decide)]⟩
  | s + 13 => exact trivial
theorem RX.ext {D : va_G} {dA : Nat → ClassId} {eA ad : Nat → Nat → Nat} {A : Nat → Prop} {N : Nat} {g g' : PS} {M : List Msg} {as sp : List Nat} {H : Heap} (h : ∀ s i, agr g g' s i) (hR : RX D dA eA ad A N g M as sp H) : RX D dA eA ad A N g' M as sp H := by
  obtain ⟨L, f, iv, hP, hD, hF, hM⟩ := hR
  refine ⟨L, f, iv, hP, hD, fun s i hv => ?_, hM⟩
  obtain ⟨h1, h2, h3⟩ := hF s i hv
  exact ⟨h1, h2, by rw [h3, ct_cg s i hv (h s i)]⟩
/-- modes are apart; so are lines -/
theorem RX.md_inj {D : va_G} {dA : Nat → ClassId} {eA ad : Nat → Nat → Nat} {A : Nat → Prop} {N : Nat} {g : PS} {M : List Msg} {as sp : List Nat} {H : Heap} (hR : RX D dA eA ad A N g M as sp H) {i j : Nat} (hi : i < 11) (hj : j < 11) (h : ad 3 i = ad 3 j) : i = j := by
  obtain ⟨L, f, iv, hP, hD, hF, hM⟩ := hR
  have h1 := (hF 3 i hi).2.1
  rw [h, (hF 3 j hj).2.1] at h1
  exact (Prod.mk.inj h1).2.symm
section XR
variable {p : Program} {l : Launch} {e : Env} {R : Room} {s : State} {m : MethodId} {args : Array Value} {below : List Frame} {meth : Method} {c : Code} {H : Heap} {locs : List Loc} {cells slots : Nat} {Q : State → Prop}
variable {cc : ByteArray} {pc nL : Nat} {own : String} {ret : Option FieldType} {ls : Array Slot} {rest : List Value} {D : va_G} {dA : Nat → ClassId} {eA ad : Nat → Nat → Nat} {A : Nat → Prop} {N : Nat} {g g' : PS} {M : List Msg} {as sp : List Nat} {H0 : Heap}
theorem x_get (E : Cx p s m args meth c cc own nL ret) (hC : CX D dA eA A s) (hR : RX D dA eA ad A N g M as sp H) {s0 i0 : Nat} (hv : vl N s0 i0) {ci : Nat} {fs : List Value} (hc : ct dA eA ad N g as sp s0 i0 = .inr (ci, fs)) {C : String} {T : u_T} {Nn : Nat} (hcl : cls[ci]? = some (C, T, Nn)) (hin : ∀ w ∈ u_ws C T Nn, w ∈ wz) (k : Nat) (hk : k < Nn) {ref : String} {index : Nat} (hlink : Cond.fieldLink own index ref (T k).2.1 (T k).2.2.1 ∈ wz) (hsame : ∀ x, s.fieldFound? (T k).1 (T k).2.1 (T k).2.2.1 = some x → s.fieldFound? ref (T k).2.1 (T k).2.2.1 = some x) {v : Value} (hv1 : fs[k]? = some v) (hdg : decode cc pc = .ok (.getfield index, 3))
    (kk : W p l e R s m args below meth c H locs cells slots Q (F0 m (pc + 3) ls (v :: rest))) : W p l e R s m args below meth c H locs cells slots Q (F0 m pc ls (.ref (ad s0 i0) :: rest)) := by
  obtain ⟨L, f, iv, hP, hD, hF, hM⟩ := hR
  obtain ⟨h1, h2, h3⟩ := hF s0 i0 hv
  exact r_get E hC.1 hP h1 (h3.trans hc) hcl hin k hk hlink hsame hv1 hdg kk
theorem x_getN (E : Cx p s m args meth c cc own nL ret) (hC : CX D dA eA A s) (hR : RX D dA eA ad A N g M as sp H) {s0 i0 : Nat} (hv : vl N s0 i0) {ci : Nat} {fs : List Value} (hc : ct dA eA ad N g as sp s0 i0 = .inr (ci, fs)) {C : String} {T : u_T} {Nn : Nat} (hcl : cls[ci]? = some (C, T, Nn)) (hin : ∀ w ∈ u_ws C T Nn, w ∈ wz) (k : Nat) (hk : k < Nn) {ref host : String} {index : Nat} (hlink : va_Nw (.fieldLinkNest own index ref (T k).2.1 (T k).2.2.1 host) s) (hsame : ∀ x, s.fieldFound? (T k).1 (T k).2.1 (T k).2.2.1 = some x → s.fieldFound? ref (T k).2.1 (T k).2.2.1 = some x) {v : Value} (hv1 : fs[k]? = some v) (hdg : decode cc pc = .ok (.getfield index, 3))
    (kk : W p l e R s m args below meth c H locs cells slots Q (F0 m (pc + 3) ls (v :: rest))) : W p l e R s m args below meth c H locs cells slots Q (F0 m pc ls (.ref (ad s0 i0) :: rest)) := by
  obtain ⟨L, f, iv, hP, hD, hF, hM⟩ := hR
  obtain ⟨h1, h2, h3⟩ := hF s0 i0 hv
  exact r_getN E hC.1 hP h1 (h3.trans hc) hcl hin k hk hlink hsame hv1 hdg kk
theorem x_put (E : Cx p s m args meth c cc own nL ret) (hC : CX D dA eA A s) (hR : RX D dA eA ad A N g M as sp H) (hS : va_S A H0 H locs) {s0 i0 : Nat} (hv : vl N s0 i0) {ci : Nat} {fs : List Value} (hc : ct dA eA ad N g as sp s0 i0 = .inr (ci, fs)) {C : String} {T : u_T} {Nn : Nat} (hcl : cls[ci]? = some (C, T, Nn)) (hin : ∀ w ∈ u_ws C T Nn, w ∈ wz) (ty0 : Nat → FieldType) (hty : ∀ k, k < Nn → parseFieldDescriptor (T k).2.2.1 = some (ty0 k)) (hnm : ∀ a, a < Nn → ∀ b, b < Nn → a ≠ b → (T a).2.1 ≠ (T b).2.1) (k : Nat) (hk : k < Nn) {ref : String} {index : Nat} (hlink : Cond.fieldLink own index ref (T k).2.1 (T k).2.2.1 ∈ wz) (hsame : ∀ x, s.fieldFound? (T k).1 (T k).2.1 (T k).2.2.1 = some x → s.fieldFound? ref (T k).2.1 (T k).2.2.1 = some x) (hfin : (T k).2.2.2 = false) {v : Value} (hn : narrow (ty0 k) v = v) (hfit : fits (ty0 k) v = true) (hl : k < fs.length)
    (hup : ∀ s i, vl N s i → (s, i) ≠ (s0, i0) → agr g g' s i) (h0 : ct dA eA ad N g' as sp s0 i0 = .inr (ci, fs.set k v)) (hdg : decode cc pc = .ok (.putfield index, 3))
    (kk : ∀ (H1 : Heap) (locs1 : List Loc), RX D dA eA ad A N g' M as sp H1 → va_S A H0 H1 locs1 → W p l e R s m args below meth c H1 locs1 cells slots Q (F0 m (pc + 3) ls rest)) : W p l e R s m args below meth c H locs cells slots Q (F0 m pc ls (v :: .ref (ad s0 i0) :: rest)) := by
  obtain ⟨L, f, iv, hP, hD, hF, hM⟩ := hR
  obtain ⟨h1, h2, h3⟩ := hF s0 i0 hv
  refine r_put E hC.1 hP hD hS h1 (h3.trans hc) hcl hin ty0 hty hnm k hk hlink hsame hfin hn hfit hl hdg (fun H1 locs1 hP1 hD1 hS1 => ?_)
  exact kk H1 locs1 ⟨L, _, iv, hP1, hD1, hF.up hv (fun s i a b => ct_cg s i a (hup s i a b)) h0, hM.o (by rw [h2]; exact vl_13 hv)⟩ hS1
theorem xg_HD (E : Cx p s m args meth c cc own nL ret) (hC : CX D dA eA A s) (hR : RX D dA eA ad A N g M as sp H) (k : Nat) (hk : k < 9) {index : Nat} (hlink : Cond.fieldLink own index (F_HD k).1 (F_HD k).2.1 (F_HD k).2.2.1 ∈ wz) {v : Value} (hv1 : ([.int (nI N), .int (g 1 0), .ref (ad 4 0), .ref (ad 1 0), .ref (ad 2 0), .ref (ad 5 0), .ref (ad 6 0), .ref (ad 7 0), .int (g 19 0)] : List Value)[k]? = some v) (hdg : decode cc pc = .ok (.getfield index, 3)) (kk : W p l e R s m args below meth c H locs cells slots Q (F0 m (pc + 3) ls (v :: rest))) : W p l e R s m args below meth c H locs cells slots Q (F0 m pc ls (.ref (ad 0 0) :: rest)) :=
  x_get (s0 := 0) (i0 := 0) (ci := 0) (C := R_HD) (T := F_HD) (Nn := 9) E hC hR (show vl N 0 0 from rfl) rfl rfl i_HD k hk hlink (fun _ h => h) hv1 hdg kk
theorem xn_HD (E : Cx p s m args meth c cc own nL ret) (hC : CX D dA eA A s) (hR : RX D dA eA ad A N g M as sp H) (k : Nat) (hk : k < 9) {host : String} {index : Nat} (hlink : va_Nw (.fieldLinkNest own index (F_HD k).1 (F_HD k).2.1 (F_HD k).2.2.1 host) s) {v : Value} (hv1 : ([.int (nI N), .int (g 1 0), .ref (ad 4 0), .ref (ad 1 0), .ref (ad 2 0), .ref (ad 5 0), .ref (ad 6 0), .ref (ad 7 0), .int (g 19 0)] : List Value)[k]? = some v) (hdg : decode cc pc = .ok (.getfield index, 3)) (kk : W p l e R s m args below meth c H locs cells slots Q (F0 m (pc + 3) ls (v :: rest))) : W p l e R s m args below meth c H locs cells slots Q (F0 m pc ls (.ref (ad 0 0) :: rest)) :=
  x_getN (s0 := 0) (i0 := 0) (ci := 0) (C := R_HD) (T := F_HD) (Nn := 9) E hC hR (show vl N 0 0 from rfl) rfl rfl i_HD k hk hlink (fun _ h => h) hv1 hdg kk
theorem xg_Net (E : Cx p s m args meth c cc own nL ret) (hC : CX D dA eA A s) (hR : RX D dA eA ad A N g M as sp H) (k : Nat) (hk : k < 5) {index : Nat} (hlink : Cond.fieldLink own index (F_Net k).1 (F_Net k).2.1 (F_Net k).2.2.1 ∈ wz) {v : Value} (hv1 : ([va_rf as.head?, va_rf as.getLast?, va_rf sp.head?, .int (nI as.length), .int (g 18 0)] : List Value)[k]? = some v) (hdg : decode cc pc = .ok (.getfield index, 3)) (kk : W p l e R s m args below meth c H locs cells slots Q (F0 m (pc + 3) ls (v :: rest))) : W p l e R s m args below meth c H locs cells slots Q (F0 m pc ls (.ref (ad 1 0) :: rest)) :=
  x_get (s0 := 1) (i0 := 0) (ci := 1) (C := R_Net) (T := F_Net) (Nn := 5) E hC hR (show vl N 1 0 from rfl) rfl rfl i_Net k hk hlink (fun _ h => h) hv1 hdg kk
theorem xn_Net (E : Cx p s m args meth c cc own nL ret) (hC : CX D dA eA A s) (hR : RX D dA eA ad A N g M as sp H) (k : Nat) (hk : k < 5) {host : String} {index : Nat} (hlink : va_Nw (.fieldLinkNest own index (F_Net k).1 (F_Net k).2.1 (F_Net k).2.2.1 host) s) {v : Value} (hv1 : ([va_rf as.head?, va_rf as.getLast?, va_rf sp.head?, .int (nI as.length), .int (g 18 0)] : List Value)[k]? = some v) (hdg : decode cc pc = .ok (.getfield index, 3)) (kk : W p l e R s m args below meth c H locs cells slots Q (F0 m (pc + 3) ls (v :: rest))) : W p l e R s m args below meth c H locs cells slots Q (F0 m pc ls (.ref (ad 1 0) :: rest)) :=
  x_getN (s0 := 1) (i0 := 0) (ci := 1) (C := R_Net) (T := F_Net) (Nn := 5) E hC hR (show vl N 1 0 from rfl) rfl rfl i_Net k hk hlink (fun _ h => h) hv1 hdg kk
theorem xg_Chart (E : Cx p s m args meth c cc own nL ret) (hC : CX D dA eA A s) (hR : RX D dA eA ad A N g M as sp H) (k : Nat) (hk : k < 11) {index : Nat} (hlink : Cond.fieldLink own index (F_Chart k).1 (F_Chart k).2.1 (F_Chart k).2.2.1 ∈ wz) {v : Value} (hv1 : ([.ref (ad 3 0), .ref (ad 3 1), .ref (ad 3 2), .ref (ad 3 3), .ref (ad 3 4), .ref (ad 3 5), .ref (ad 3 6), .ref (ad 3 7), .ref (ad 3 8), .ref (ad 3 9), .ref (ad 3 10)] : List Value)[k]? = some v) (hdg : decode cc pc = .ok (.getfield index, 3)) (kk : W p l e R s m args below meth c H locs cells slots Q (F0 m (pc + 3) ls (v :: rest))) : W p l e R s m args below meth c H locs cells slots Q (F0 m pc ls (.ref (ad 2 0) :: rest)) :=
  x_get (s0 := 2) (i0 := 0) (ci := 2) (C := R_Chart) (T := F_Chart) (Nn := 11) E hC hR (show vl N 2 0 from rfl) rfl rfl i_Chart k hk hlink (fun _ h => h) hv1 hdg kk
theorem xn_Chart (E : Cx p s m args meth c cc own nL ret) (hC : CX D dA eA A s) (hR : RX D dA eA ad A N g M as sp H) (k : Nat) (hk : k < 11) {host : String} {index : Nat} (hlink : va_Nw (.fieldLinkNest own index (F_Chart k).1 (F_Chart k).2.1 (F_Chart k).2.2.1 host) s) {v : Value} (hv1 : ([.ref (ad 3 0), .ref (ad 3 1), .ref (ad 3 2), .ref (ad 3 3), .ref (ad 3 4), .ref (ad 3 5), .ref (ad 3 6), .ref (ad 3 7), .ref (ad 3 8), .ref (ad 3 9), .ref (ad 3 10)] : List Value)[k]? = some v) (hdg : decode cc pc = .ok (.getfield index, 3)) (kk : W p l e R s m args below meth c H locs cells slots Q (F0 m (pc + 3) ls (v :: rest))) : W p l e R s m args below meth c H locs cells slots Q (F0 m pc ls (.ref (ad 2 0) :: rest)) :=
  x_getN (s0 := 2) (i0 := 0) (ci := 2) (C := R_Chart) (T := F_Chart) (Nn := 11) E hC hR (show vl N 2 0 from rfl) rfl rfl i_Chart k hk hlink (fun _ h => h) hv1 hdg kk
theorem xg_Core (E : Cx p s m args meth c cc own nL ret) (hC : CX D dA eA A s) (hR : RX D dA eA ad A N g M as sp H) {i : Nat} (hi : vl N 8 i) (k : Nat) (hk : k < 6) {index : Nat} (hlink : Cond.fieldLink own index (F_Core k).1 (F_Core k).2.1 (F_Core k).2.2.1 ∈ wz) {v : Value} (hv1 : ([.ref (ad 9 i), .ref (ad 10 i), .int (g 5 i), .int (g 6 i), .int (g 2 i), .int (32 * g 7 i)] : List Value)[k]? = some v) (hdg : decode cc pc = .ok (.getfield index, 3)) (kk : W p l e R s m args below meth c H locs cells slots Q (F0 m (pc + 3) ls (v :: rest))) : W p l e R s m args below meth c H locs cells slots Q (F0 m pc ls (.ref (ad 8 i) :: rest)) :=
  x_get (s0 := 8) (i0 := i) (ci := 8) (C := R_Core) (T := F_Core) (Nn := 6) E hC hR hi rfl rfl i_Core k hk hlink (fun _ h => h) hv1 hdg kk
theorem xn_Core (E : Cx p s m args meth c cc own nL ret) (hC : CX D dA eA A s) (hR : RX D dA eA ad A N g M as sp H) {i : Nat} (hi : vl N 8 i) (k : Nat) (hk : k < 6) {host : String} {index : Nat} (hlink : va_Nw (.fieldLinkNest own index (F_Core k).1 (F_Core k).2.1 (F_Core k).2.2.1 host) s) {v : Value} (hv1 : ([.ref (ad 9 i), .ref (ad 10 i), .int (g 5 i), .int (g 6 i), .int (g 2 i), .int (32 * g 7 i)] : List Value)[k]? = some v) (hdg : decode cc pc = .ok (.getfield index, 3)) (kk : W p l e R s m args below meth c H locs cells slots Q (F0 m (pc + 3) ls (v :: rest))) : W p l e R s m args below meth c H locs cells slots Q (F0 m pc ls (.ref (ad 8 i) :: rest)) :=
  x_getN (s0 := 8) (i0 := i) (ci := 8) (C := R_Core) (T := F_Core) (Nn := 6) E hC hR hi rfl rfl i_Core k hk hlink (fun _ h => h) hv1 hdg kk
theorem xg_Line (E : Cx p s m args meth c cc own nL ret) (hC : CX D dA eA A s) (hR : RX D dA eA ad A N g M as sp H) {i : Nat} (hi : vl N 11 i) (k : Nat) (hk : k < 8) {index : Nat} (hlink : Cond.fieldLink own index (F_Line k).1 (F_Line k).2.1 (F_Line k).2.2.1 ∈ wz) {v : Value} (hv1 : ([.int (nI (i / 4)), .int (nI (i % 4)), .ref (ad 1 0), .ref (ad 2 0), .ref (ad 3 (g 8 i).toNatClampNeg), .int (g 9 i), .int (g 10 i), .int (g 11 i)] : List Value)[k]? = some v) (hdg : decode cc pc = .ok (.getfield index, 3)) (kk : W p l e R s m args below meth c H locs cells slots Q (F0 m (pc + 3) ls (v :: rest))) : W p l e R s m args below meth c H locs cells slots Q (F0 m pc ls (.ref (ad 11 i) :: rest)) :=
  x_get (s0 := 11) (i0 := i) (ci := 9) (C := R_Line) (T := F_Line) (Nn := 8) E hC hR hi rfl rfl i_Line k hk hlink (fun _ h => h) hv1 hdg kk
theorem xn_Line (E : Cx p s m args meth c cc own nL ret) (hC : CX D dA eA A s) (hR : RX D dA eA ad A N g M as sp H) {i : Nat} (hi : vl N 11 i) (k : Nat) (hk : k < 8) {host : String} {index : Nat} (hlink : va_Nw (.fieldLinkNest own index (F_Line k).1 (F_Line k).2.1 (F_Line k).2.2.1 host) s) {v : Value} (hv1 : ([.int (nI (i / 4)), .int (nI (i % 4)), .ref (ad 1 0), .ref (ad 2 0), .ref (ad 3 (g 8 i).toNatClampNeg), .int (g 9 i), .int (g 10 i), .int (g 11 i)] : List Value)[k]? = some v) (hdg : decode cc pc = .ok (.getfield index, 3)) (kk : W p l e R s m args below meth c H locs cells slots Q (F0 m (pc + 3) ls (v :: rest))) : W p l e R s m args below meth c H locs cells slots Q (F0 m pc ls (.ref (ad 11 i) :: rest)) :=
  x_getN (s0 := 11) (i0 := i) (ci := 9) (C := R_Line) (T := F_Line) (Nn := 8) E hC hR hi rfl rfl i_Line k hk hlink (fun _ h => h) hv1 hdg kk
theorem xg_Home (E : Cx p s m args meth c cc own nL ret) (hC : CX D dA eA A s) (hR : RX D dA eA ad A N g M as sp H) {i : Nat} (hi : vl N 12 i) (k : Nat) (hk : k < 6) {index : Nat} (hlink : Cond.fieldLink own index (F_Home k).1 (F_Home k).2.1 (F_Home k).2.2.1 ∈ wz) {v : Value} (hv1 : ([.int (nI i), .ref (ad 1 0), .ref (eA 1 (g 14 i).toNatClampNeg), .int (g 15 i), .int (nI (s_set g i 4)), .int (g 13 i)] : List Value)[k]? = some v) (hdg : decode cc pc = .ok (.getfield index, 3)) (kk : W p l e R s m args below meth c H locs cells slots Q (F0 m (pc + 3) ls (v :: rest))) : W p l e R s m args below meth c H locs cells slots Q (F0 m pc ls (.ref (ad 12 i) :: rest)) :=
  x_get (s0 := 12) (i0 := i) (ci := 10) (C := R_Home) (T := F_Home) (Nn := 6) E hC hR hi rfl rfl i_Home k hk hlink (fun _ h => h) hv1 hdg kk
theorem xn_Home (E : Cx p s m args meth c cc own nL ret) (hC : CX D dA eA A s) (hR : RX D dA eA ad A N g M as sp H) {i : Nat} (hi : vl N 12 i) (k : Nat) (hk : k < 6) {host : String} {index : Nat} (hlink : va_Nw (.fieldLinkNest own index (F_Home k).1 (F_Home k).2.1 (F_Home k).2.2.1 host) s) {v : Value} (hv1 : ([.int (nI i), .ref (ad 1 0), .ref (eA 1 (g 14 i).toNatClampNeg), .int (g 15 i), .int (nI (s_set g i 4)), .int (g 13 i)] : List Value)[k]? = some v) (hdg : decode cc pc = .ok (.getfield index, 3)) (kk : W p l e R s m args below meth c H locs cells slots Q (F0 m (pc + 3) ls (v :: rest))) : W p l e R s m args below meth c H locs cells slots Q (F0 m pc ls (.ref (ad 12 i) :: rest)) :=
  x_getN (s0 := 12) (i0 := i) (ci := 10) (C := R_Home) (T := F_Home) (Nn := 6) E hC hR hi rfl rfl i_Home k hk hlink (fun _ h => h) hv1 hdg kk
theorem xp_Line_mode (E : Cx p s m args meth c cc own nL ret) (hC : CX D dA eA A s) (hR : RX D dA eA ad A N g M as sp H) (hS : va_S A H0 H locs) {i : Nat} (hi : vl N 11 i) {q : Nat} (hq : q < 11) {index : Nat} (hlink : Cond.fieldLink own index (F_Line 4).1 (F_Line 4).2.1 (F_Line 4).2.2.1 ∈ wz) (hdg : decode cc pc = .ok (.putfield index, 3)) (kk : ∀ (H1 : Heap) (locs1 : List Loc), RX D dA eA ad A N (up2 g 8 i (nI q)) M as sp H1 → va_S A H0 H1 locs1 → W p l e R s m args below meth c H1 locs1 cells slots Q (F0 m (pc + 3) ls rest)) : W p l e R s m args below meth c H locs cells slots Q (F0 m pc ls (.ref (ad 3 q) :: .ref (ad 11 i) :: rest)) :=
  x_put (s0 := 11) (i0 := i) (ci := 9) (C := R_Line) (T := F_Line) (Nn := 8) E hC hR hS hi rfl rfl i_Line t_Line t_Line_ok n_Line 4 (by decide) hlink (fun _ h => h) rfl rfl rfl (Nat.le_of_ble_eq_true rfl) (ag_8 _) (by simp [ct, up2, upd, nI_clamp (show q < 2 ^ 31 by omega)]) hdg kk
theorem xp_Line_word (E : Cx p s m args meth c cc own nL ret) (hC : CX D dA eA A s) (hR : RX D dA eA ad A N g M as sp H) (hS : va_S A H0 H locs) {i : Nat} (hi : vl N 11 i) {x : Int32} {index : Nat} (hlink : Cond.fieldLink own index (F_Line 5).1 (F_Line 5).2.1 (F_Line 5).2.2.1 ∈ wz) (hdg : decode cc pc = .ok (.putfield index, 3)) (kk : ∀ (H1 : Heap) (locs1 : List Loc), RX D dA eA ad A N (up2 g 9 i x) M as sp H1 → va_S A H0 H1 locs1 → W p l e R s m args below meth c H1 locs1 cells slots Q (F0 m (pc + 3) ls rest)) : W p l e R s m args below meth c H locs cells slots Q (F0 m pc ls (.int x :: .ref (ad 11 i) :: rest)) :=
  x_put (s0 := 11) (i0 := i) (ci := 9) (C := R_Line) (T := F_Line) (Nn := 8) E hC hR hS hi rfl rfl i_Line t_Line t_Line_ok n_Line 5 (by decide) hlink (fun _ h => h) rfl rfl rfl (Nat.le_of_ble_eq_true rfl) (ag_9 _) (by simp [ct, up2, upd]) hdg kk
theorem xp_Line_count (E : Cx p s m args meth c cc own nL ret) (hC : CX D dA eA A s) (hR : RX D dA eA ad A N g M as sp H) (hS : va_S A H0 H locs) {i : Nat} (hi : vl N 11 i) {x : Int32} {index : Nat} (hlink : Cond.fieldLink own index (F_Line 6).1 (F_Line 6).2.1 (F_Line 6).2.2.1 ∈ wz) (hdg : decode cc pc = .ok (.putfield index, 3)) (kk : ∀ (H1 : Heap) (locs1 : List Loc), RX D dA eA ad A N (up2 g 10 i x) M as sp H1 → va_S A H0 H1 locs1 → W p l e R s m args below meth c H1 locs1 cells slots Q (F0 m (pc + 3) ls rest)) : W p l e R s m args below meth c H locs cells slots Q (F0 m pc ls (.int x :: .ref (ad 11 i) :: rest)) :=
  x_put (s0 := 11) (i0 := i) (ci := 9) (C := R_Line) (T := F_Line) (Nn := 8) E hC hR hS hi rfl rfl i_Line t_Line t_Line_ok n_Line 6 (by decide) hlink (fun _ h => h) rfl rfl rfl (Nat.le_of_ble_eq_true rfl) (ag_10 _) (by simp [ct, up2, upd]) hdg kk
theorem xp_Line_used (E : Cx p s m args meth c cc own nL ret) (hC : CX D dA eA A s) (hR : RX D dA eA ad A N g M as sp H) (hS : va_S A H0 H locs) {i : Nat} (hi : vl N 11 i) {x : Int32} {index : Nat} (hlink : Cond.fieldLink own index (F_Line 7).1 (F_Line 7).2.1 (F_Line 7).2.2.1 ∈ wz) (hdg : decode cc pc = .ok (.putfield index, 3)) (kk : ∀ (H1 : Heap) (locs1 : List Loc), RX D dA eA ad A N (up2 g 11 i x) M as sp H1 → va_S A H0 H1 locs1 → W p l e R s m args below meth c H1 locs1 cells slots Q (F0 m (pc + 3) ls rest)) : W p l e R s m args below meth c H locs cells slots Q (F0 m pc ls (.int x :: .ref (ad 11 i) :: rest)) :=
  x_put (s0 := 11) (i0 := i) (ci := 9) (C := R_Line) (T := F_Line) (Nn := 8) E hC hR hS hi rfl rfl i_Line t_Line t_Line_ok n_Line 7 (by decide) hlink (fun _ h => h) rfl rfl rfl (Nat.le_of_ble_eq_true rfl) (ag_11 _) (by simp [ct, up2, upd]) hdg kk
theorem xp_Home_state (E : Cx p s m args meth c cc own nL ret) (hC : CX D dA eA A s) (hR : RX D dA eA ad A N g M as sp H) (hS : va_S A H0 H locs) {i : Nat} (hi : vl N 12 i) {q : Nat} (hq : q < 4) {index : Nat} (hlink : Cond.fieldLink own index (F_Home 2).1 (F_Home 2).2.1 (F_Home 2).2.2.1 ∈ wz) (hdg : decode cc pc = .ok (.putfield index, 3)) (kk : ∀ (H1 : Heap) (locs1 : List Loc), RX D dA eA ad A N (up2 g 14 i (nI q)) M as sp H1 → va_S A H0 H1 locs1 → W p l e R s m args below meth c H1 locs1 cells slots Q (F0 m (pc + 3) ls rest)) : W p l e R s m args below meth c H locs cells slots Q (F0 m pc ls (.ref (eA 1 q) :: .ref (ad 12 i) :: rest)) :=
  x_put (s0 := 12) (i0 := i) (ci := 10) (C := R_Home) (T := F_Home) (Nn := 6) E hC hR hS hi rfl rfl i_Home t_Home t_Home_ok n_Home 2 (by decide) hlink (fun _ h => h) rfl rfl rfl (Nat.le_of_ble_eq_true rfl) (ag_14 _) (by have e1 : s_set (up2 g 14 i (nI q)) i 4 = s_set g i 4 := s_set_c rfl i 4; simp [ct, e1, up2, upd, nI_clamp (show q < 2 ^ 31 by omega)]) hdg kk
theorem xp_Home_owner (E : Cx p s m args meth c cc own nL ret) (hC : CX D dA eA A s) (hR : RX D dA eA ad A N g M as sp H) (hS : va_S A H0 H locs) {i : Nat} (hi : vl N 12 i) {x : Int32} {index : Nat} (hlink : Cond.fieldLink own index (F_Home 3).1 (F_Home 3).2.1 (F_Home 3).2.2.1 ∈ wz) (hdg : decode cc pc = .ok (.putfield index, 3)) (kk : ∀ (H1 : Heap) (locs1 : List Loc), RX D dA eA ad A N (up2 g 15 i x) M as sp H1 → va_S A H0 H1 locs1 → W p l e R s m args below meth c H1 locs1 cells slots Q (F0 m (pc + 3) ls rest)) : W p l e R s m args below meth c H locs cells slots Q (F0 m pc ls (.int x :: .ref (ad 12 i) :: rest)) :=
  x_put (s0 := 12) (i0 := i) (ci := 10) (C := R_Home) (T := F_Home) (Nn := 6) E hC hR hS hi rfl rfl i_Home t_Home t_Home_ok n_Home 3 (by decide) hlink (fun _ h => h) rfl rfl rfl (Nat.le_of_ble_eq_true rfl) (ag_15 _) (by have e1 : s_set (up2 g 15 i x) i 4 = s_set g i 4 := s_set_c rfl i 4; simp [ct, e1, up2, upd]) hdg kk
theorem xp_Home_sharers (E : Cx p s m args meth c cc own nL ret) (hC : CX D dA eA A s) (hR : RX D dA eA ad A N g M as sp H) (hS : va_S A H0 H locs) {i : Nat} (hi : vl N 12 i) {x : Int32} (hk : ∀ k, k ≠ 16 → g' k = g k) (ho : ∀ j, j < 4 → j ≠ i → s_set g' j 4 = s_set g j 4) (hx : nI (s_set g' i 4) = x) {index : Nat} (hlink : Cond.fieldLink own index (F_Home 4).1 (F_Home 4).2.1 (F_Home 4).2.2.1 ∈ wz) (hdg : decode cc pc = .ok (.putfield index, 3)) (kk : ∀ (H1 : Heap) (locs1 : List Loc), RX D dA eA ad A N (g') M as sp H1 → va_S A H0 H1 locs1 → W p l e R s m args below meth c H1 locs1 cells slots Q (F0 m (pc + 3) ls rest)) : W p l e R s m args below meth c H locs cells slots Q (F0 m pc ls (.int x :: .ref (ad 12 i) :: rest)) :=
  x_put (s0 := 12) (i0 := i) (ci := 10) (C := R_Home) (T := F_Home) (Nn := 6) E hC hR hS hi rfl rfl i_Home t_Home t_Home_ok n_Home 4 (by decide) hlink (fun _ h => h) rfl rfl rfl (Nat.le_of_ble_eq_true rfl) (ag_16 hk ho) (by simp [ct, hk 14 (by decide), hk 15 (by decide), hk 13 (by decide), hx]) hdg kk
theorem xp_Home_memory (E : Cx p s m args meth c cc own nL ret) (hC : CX D dA eA A s) (hR : RX D dA eA ad A N g M as sp H) (hS : va_S A H0 H locs) {i : Nat} (hi : vl N 12 i) {x : Int32} {index : Nat} (hlink : Cond.fieldLink own index (F_Home 5).1 (F_Home 5).2.1 (F_Home 5).2.2.1 ∈ wz) (hdg : decode cc pc = .ok (.putfield index, 3)) (kk : ∀ (H1 : Heap) (locs1 : List Loc), RX D dA eA ad A N (up2 g 13 i x) M as sp H1 → va_S A H0 H1 locs1 → W p l e R s m args below meth c H1 locs1 cells slots Q (F0 m (pc + 3) ls rest)) : W p l e R s m args below meth c H locs cells slots Q (F0 m pc ls (.int x :: .ref (ad 12 i) :: rest)) :=
  x_put (s0 := 12) (i0 := i) (ci := 10) (C := R_Home) (T := F_Home) (Nn := 6) E hC hR hS hi rfl rfl i_Home t_Home t_Home_ok n_Home 5 (by decide) hlink (fun _ h => h) rfl rfl rfl (Nat.le_of_ble_eq_true rfl) (ag_13 _) (by have e1 : s_set (up2 g 13 i x) i 4 = s_set g i 4 := s_set_c rfl i 4; simp [ct, e1, up2, upd]) hdg kk
theorem xp_Core_size (E : Cx p s m args meth c cc own nL ret) (hC : CX D dA eA A s) (hR : RX D dA eA ad A N g M as sp H) (hS : va_S A H0 H locs) {i : Nat} (hi : vl N 8 i) {x : Int32} {index : Nat} (hlink : Cond.fieldLink own index (F_Core 2).1 (F_Core 2).2.1 (F_Core 2).2.2.1 ∈ wz) (hdg : decode cc pc = .ok (.putfield index, 3)) (kk : ∀ (H1 : Heap) (locs1 : List Loc), RX D dA eA ad A N (up2 g 5 i x) M as sp H1 → va_S A H0 H1 locs1 → W p l e R s m args below meth c H1 locs1 cells slots Q (F0 m (pc + 3) ls rest)) : W p l e R s m args below meth c H locs cells slots Q (F0 m pc ls (.int x :: .ref (ad 8 i) :: rest)) :=
  x_put (s0 := 8) (i0 := i) (ci := 8) (C := R_Core) (T := F_Core) (Nn := 6) E hC hR hS hi rfl rfl i_Core t_Core t_Core_ok n_Core 2 (by decide) hlink (fun _ h => h) rfl rfl rfl (Nat.le_of_ble_eq_true rfl) (ag_5 _) (by simp [ct, up2, upd]) hdg kk
theorem xp_Core_place (E : Cx p s m args meth c cc own nL ret) (hC : CX D dA eA A s) (hR : RX D dA eA ad A N g M as sp H) (hS : va_S A H0 H locs) {i : Nat} (hi : vl N 8 i) {x : Int32} {index : Nat} (hlink : Cond.fieldLink own index (F_Core 3).1 (F_Core 3).2.1 (F_Core 3).2.2.1 ∈ wz) (hdg : decode cc pc = .ok (.putfield index, 3)) (kk : ∀ (H1 : Heap) (locs1 : List Loc), RX D dA eA ad A N (up2 g 6 i x) M as sp H1 → va_S A H0 H1 locs1 → W p l e R s m args below meth c H1 locs1 cells slots Q (F0 m (pc + 3) ls rest)) : W p l e R s m args below meth c H locs cells slots Q (F0 m pc ls (.int x :: .ref (ad 8 i) :: rest)) :=
  x_put (s0 := 8) (i0 := i) (ci := 8) (C := R_Core) (T := F_Core) (Nn := 6) E hC hR hS hi rfl rfl i_Core t_Core t_Core_ok n_Core 3 (by decide) hlink (fun _ h => h) rfl rfl rfl (Nat.le_of_ble_eq_true rfl) (ag_6 _) (by simp [ct, up2, upd]) hdg kk
theorem xp_Core_a (E : Cx p s m args meth c cc own nL ret) (hC : CX D dA eA A s) (hR : RX D dA eA ad A N g M as sp H) (hS : va_S A H0 H locs) {i : Nat} (hi : vl N 8 i) {x : Int32} {index : Nat} (hlink : Cond.fieldLink own index (F_Core 4).1 (F_Core 4).2.1 (F_Core 4).2.2.1 ∈ wz) (hdg : decode cc pc = .ok (.putfield index, 3)) (kk : ∀ (H1 : Heap) (locs1 : List Loc), RX D dA eA ad A N (up2 g 2 i x) M as sp H1 → va_S A H0 H1 locs1 → W p l e R s m args below meth c H1 locs1 cells slots Q (F0 m (pc + 3) ls rest)) : W p l e R s m args below meth c H locs cells slots Q (F0 m pc ls (.int x :: .ref (ad 8 i) :: rest)) :=
  x_put (s0 := 8) (i0 := i) (ci := 8) (C := R_Core) (T := F_Core) (Nn := 6) E hC hR hS hi rfl rfl i_Core t_Core t_Core_ok n_Core 4 (by decide) hlink (fun _ h => h) rfl rfl rfl (Nat.le_of_ble_eq_true rfl) (ag_2 _) (by simp [ct, up2, upd]) hdg kk
theorem xp_Core_waits (E : Cx p s m args meth c cc own nL ret) (hC : CX D dA eA A s) (hR : RX D dA eA ad A N g M as sp H) (hS : va_S A H0 H locs) {i : Nat} (hi : vl N 8 i) {x : Int32} (w : Int32) (hw : 32 * w = x) {index : Nat} (hlink : Cond.fieldLink own index (F_Core 5).1 (F_Core 5).2.1 (F_Core 5).2.2.1 ∈ wz) (hdg : decode cc pc = .ok (.putfield index, 3)) (kk : ∀ (H1 : Heap) (locs1 : List Loc), RX D dA eA ad A N (up2 g 7 i w) M as sp H1 → va_S A H0 H1 locs1 → W p l e R s m args below meth c H1 locs1 cells slots Q (F0 m (pc + 3) ls rest)) : W p l e R s m args below meth c H locs cells slots Q (F0 m pc ls (.int x :: .ref (ad 8 i) :: rest)) :=
  x_put (s0 := 8) (i0 := i) (ci := 8) (C := R_Core) (T := F_Core) (Nn := 6) E hC hR hS hi rfl rfl i_Core t_Core t_Core_ok n_Core 5 (by decide) hlink (fun _ h => h) rfl rfl rfl (Nat.le_of_ble_eq_true rfl) (ag_7 _) (by simp [ct, up2, upd, hw]) hdg kk
theorem xp_HD_performed (E : Cx p s m args meth c cc own nL ret) (hC : CX D dA eA A s) (hR : RX D dA eA ad A N g M as sp H) (hS : va_S A H0 H locs) {x : Int32} {index : Nat} (hlink : Cond.fieldLink own index (F_HD 8).1 (F_HD 8).2.1 (F_HD 8).2.2.1 ∈ wz) (hdg : decode cc pc = .ok (.putfield index, 3)) (kk : ∀ (H1 : Heap) (locs1 : List Loc), RX D dA eA ad A N (up2 g 19 0 x) M as sp H1 → va_S A H0 H1 locs1 → W p l e R s m args below meth c H1 locs1 cells slots Q (F0 m (pc + 3) ls rest)) : W p l e R s m args below meth c H locs cells slots Q (F0 m pc ls (.int x :: .ref (ad 0 0) :: rest)) :=
  x_put (s0 := 0) (i0 := 0) (ci := 0) (C := R_HD) (T := F_HD) (Nn := 9) E hC hR hS (show vl N 0 0 from rfl) rfl rfl i_HD t_HD t_HD_ok n_HD 8 (by decide) hlink (fun _ h => h) rfl rfl rfl (Nat.le_of_ble_eq_true rfl) (ag_19 _) (by simp [ct, up2, upd]) hdg kk
/-- the core's arrays -/
theorem xl_ops (E : Cx p s m args meth c cc own nL ret) (hC : CX D dA eA A s) (hR : RX D dA eA ad A N g M as sp H) {i : Nat} (hi : i < N) {j : Nat} (hj : j < 16) (hdg : decode cc pc = .ok (.baload, 1)) (kk : W p l e R s m args below meth c H locs cells slots Q (F0 m (pc + 1) ls (.int (g 3 (16 * i + j)) :: rest))) : W p l e R s m args below meth c H locs cells slots Q (F0 m pc ls (.int (nI j) :: .ref (ad 9 i) :: rest)) := by
  obtain ⟨L, f, iv, hP, hD, hF, hM⟩ := hR
  obtain ⟨h1, h2, h3⟩ := hF 9 i hi
  refine r_bald E hC.1 hP h1 h3 hj (by decide) hdg ?_
  rw [if_pos hj]
  exact kk
theorem xl_args (E : Cx p s m args meth c cc own nL ret) (hC : CX D dA eA A s) (hR : RX D dA eA ad A N g M as sp H) {i : Nat} (hi : i < N) {j : Nat} (hj : j < 16) (hdg : decode cc pc = .ok (.iaload, 1)) (kk : W p l e R s m args below meth c H locs cells slots Q (F0 m (pc + 1) ls (.int (g 4 (16 * i + j)) :: rest))) : W p l e R s m args below meth c H locs cells slots Q (F0 m pc ls (.int (nI j) :: .ref (ad 10 i) :: rest)) := by
  obtain ⟨L, f, iv, hP, hD, hF, hM⟩ := hR
  obtain ⟨h1, h2, h3⟩ := hF 10 i hi
  refine r_iald E hC.1 hP h1 h3 hj (by decide) hdg ?_
  rw [if_pos hj]
  exact kk
theorem xs_ops (E : Cx p s m args meth c cc own nL ret) (hC : CX D dA eA A s) (hR : RX D dA eA ad A N g M as sp H) (hS : va_S A H0 H locs) {i : Nat} (hi : i < N) {j : Nat} (hj : j < 16) {x : Int32} (hx : vp_nar .byte x = x) (hdg : decode cc pc = .ok (.bastore, 1)) (kk : ∀ (H1 : Heap) (locs1 : List Loc), RX D dA eA ad A N (up2 g 3 (16 * i + j) x) M as sp H1 → va_S A H0 H1 locs1 → W p l e R s m args below meth c H1 locs1 cells slots Q (F0 m (pc + 1) ls rest)) : W p l e R s m args below meth c H locs cells slots Q (F0 m pc ls (.int x :: .int (nI j) :: .ref (ad 9 i) :: rest)) := by
  obtain ⟨L, f, iv, hP, hD, hF, hM⟩ := hR
  obtain ⟨h1, h2, h3⟩ := hF 9 i hi
  refine r_bast E hC.1 hP hD hS h1 h3 hj (by decide) hx hdg (fun H1 locs1 hP1 hD1 hS1 => ?_)
  refine kk H1 locs1 ⟨L, _, iv, hP1, hD1, hF.up (s0 := 9) (i0 := i) hi (fun s i a b => ct_cg s i a (ag_3 hj x s i a b)) ?_, hM.o (by rw [h2]; exact vl_13 (N := N) (i := i) hi)⟩ hS1
  simp only [ct]
  congr 4
  funext q
  by_cases hq : q < 16
  · by_cases hqj : q = j
    · subst hqj; simp [up2, upd, hq]
    · have : ¬ 16 * i + q = 16 * i + j := by omega
      simp [up2, upd, hqj, hq]
  · have : q ≠ j := by omega
    simp [upd, this, hq]
theorem xs_args (E : Cx p s m args meth c cc own nL ret) (hC : CX D dA eA A s) (hR : RX D dA eA ad A N g M as sp H) (hS : va_S A H0 H locs) {i : Nat} (hi : i < N) {j : Nat} (hj : j < 16) {x : Int32} (hdg : decode cc pc = .ok (.iastore, 1)) (kk : ∀ (H1 : Heap) (locs1 : List Loc), RX D dA eA ad A N (up2 g 4 (16 * i + j) x) M as sp H1 → va_S A H0 H1 locs1 → W p l e R s m args below meth c H1 locs1 cells slots Q (F0 m (pc + 1) ls rest)) : W p l e R s m args below meth c H locs cells slots Q (F0 m pc ls (.int x :: .int (nI j) :: .ref (ad 10 i) :: rest)) := by
  obtain ⟨L, f, iv, hP, hD, hF, hM⟩ := hR
  obtain ⟨h1, h2, h3⟩ := hF 10 i hi
  refine r_iast E hC.1 hP hD hS h1 h3 hj (by decide) hdg (fun H1 locs1 hP1 hD1 hS1 => ?_)
  refine kk H1 locs1 ⟨L, _, iv, hP1, hD1, hF.up (s0 := 10) (i0 := i) hi (fun s i a b => ct_cg s i a (ag_4 hj x s i a b)) ?_, hM.o (by rw [h2]; exact vl_13 (N := N) (i := i) hi)⟩ hS1
  simp only [ct]
  congr 4
  funext q
  by_cases hq : q < 16
  · by_cases hqj : q = j
    · subst hqj; simp [up2, upd, hq]
    · have : ¬ 16 * i + q = 16 * i + j := by omega
      simp [up2, upd, hqj, hq]
  · have : q ≠ j := by omega
    simp [upd, this, hq]
/-- the arrays of the directory -/
theorem xl_Ops (E : Cx p s m args meth c cc own nL ret) (hC : CX D dA eA A s) (hR : RX D dA eA ad A N g M as sp H) {j : Nat} (hj : j < 6) (hdg : decode cc pc = .ok (.aaload, 1)) (kk : W p l e R s m args below meth c H locs cells slots Q (F0 m (pc + 1) ls (.ref (eA 2 j) :: rest))) : W p l e R s m args below meth c H locs cells slots Q (F0 m pc ls (.int (nI j) :: .ref (ad 4 0) :: rest)) := by
  obtain ⟨L, f, iv, hP, hD, hF, hM⟩ := hR
  obtain ⟨h1, h2, h3⟩ := hF 4 0 rfl
  exact r_aald E hC.1 hP h1 h3 3 rfl hj (by decide) rfl hdg kk
theorem xl_Cores (E : Cx p s m args meth c cc own nL ret) (hC : CX D dA eA A s) (hR : RX D dA eA ad A N g M as sp H) {j : Nat} (hj : j < N) (hN : N ≤ 4) (hdg : decode cc pc = .ok (.aaload, 1)) (kk : W p l e R s m args below meth c H locs cells slots Q (F0 m (pc + 1) ls (.ref (ad 8 j) :: rest))) : W p l e R s m args below meth c H locs cells slots Q (F0 m pc ls (.int (nI j) :: .ref (ad 5 0) :: rest)) := by
  obtain ⟨L, f, iv, hP, hD, hF, hM⟩ := hR
  obtain ⟨h1, h2, h3⟩ := hF 5 0 rfl
  exact r_aald E hC.1 hP h1 h3 4 rfl (by omega) (by decide) (by rw [if_pos hj]; rfl) hdg kk
theorem xl_Lines (E : Cx p s m args meth c cc own nL ret) (hC : CX D dA eA A s) (hR : RX D dA eA ad A N g M as sp H) {j : Nat} (hj : j < 4 * N) (hN : N ≤ 4) (hdg : decode cc pc = .ok (.aaload, 1)) (kk : W p l e R s m args below meth c H locs cells slots Q (F0 m (pc + 1) ls (.ref (ad 11 j) :: rest))) : W p l e R s m args below meth c H locs cells slots Q (F0 m pc ls (.int (nI j) :: .ref (ad 6 0) :: rest)) := by
  obtain ⟨L, f, iv, hP, hD, hF, hM⟩ := hR
  obtain ⟨h1, h2, h3⟩ := hF 6 0 rfl
  exact r_aald E hC.1 hP h1 h3 5 rfl (by omega) (by decide) (by rw [if_pos hj]; rfl) hdg kk
theorem xl_Homes (E : Cx p s m args meth c cc own nL ret) (hC : CX D dA eA A s) (hR : RX D dA eA ad A N g M as sp H) {j : Nat} (hj : j < 4) (hdg : decode cc pc = .ok (.aaload, 1)) (kk : W p l e R s m args below meth c H locs cells slots Q (F0 m (pc + 1) ls (.ref (ad 12 j) :: rest))) : W p l e R s m args below meth c H locs cells slots Q (F0 m pc ls (.int (nI j) :: .ref (ad 7 0) :: rest)) := by
  obtain ⟨L, f, iv, hP, hD, hF, hM⟩ := hR
  obtain ⟨h1, h2, h3⟩ := hF 7 0 rfl
  exact r_aald E hC.1 hP h1 h3 6 rfl hj (by decide) (by rw [if_pos hj]; rfl) hdg kk
/-- a message's fields -/
theorem xg_Msg (E : Cx p s m args meth c cc own nL ret) (hC : CX D dA eA A s) (hR : RX D dA eA ad A N g M as sp H) {j q : Nat} {z : Msg} (hq : as[j]? = some q) (hz : M[j]? = some z) (k : Nat) (hk : k < 8) {index : Nat} (hlink : Cond.fieldLink own index (F_Msg k).1 (F_Msg k).2.1 (F_Msg k).2.2.1 ∈ wz) {v : Value} (hv1 : ([.ref (eA 0 z.1), .int (nI z.2.1), .int (nI z.2.2.1), .int (nI z.2.2.2.1), .int z.2.2.2.2.1, .int (nI z.2.2.2.2.2.1), .int (rq z.2.2.2.2.2.2), va_rf as[j + 1]?] : List Value)[k]? = some v) (hdg : decode cc pc = .ok (.getfield index, 3)) (kk : W p l e R s m args below meth c H locs cells slots Q (F0 m (pc + 3) ls (v :: rest))) : W p l e R s m args below meth c H locs cells slots Q (F0 m pc ls (.ref q :: rest)) := by
  obtain ⟨L, f, iv, hP, hD, hF, hM⟩ := hR
  have h1 := (hM.2.2.1 q (List.mem_append_left _ (List.mem_of_getElem? hq))).1
  exact r_get (ci := 11) (C := R_Msg) (T := F_Msg) (Nn := 8) E hC.1 hP h1 (hM.2.2.2.1 j q z hq hz) rfl i_Msg k hk hlink (fun _ h => h) hv1 hdg kk
theorem xp_Msg (E : Cx p s m args meth c cc own nL ret) (hC : CX D dA eA A s) (hR : RX D dA eA ad A N g M as sp H) (hS : va_S A H0 H locs) {j q : Nat} {z z' : Msg} (hq : as[j]? = some q) (hz : M[j]? = some z) (k : Nat) (hk : k < 7) {index : Nat} (hlink : Cond.fieldLink own index (F_Msg k).1 (F_Msg k).2.1 (F_Msg k).2.2.1 ∈ wz) {v : Value} (hn : narrow (t_Msg k) v = v) (hfit : fits (t_Msg k) v = true)
    (hz' : mcl eA z' as[j + 1]? = .inr (11, ([.ref (eA 0 z.1), .int (nI z.2.1), .int (nI z.2.2.1), .int (nI z.2.2.2.1), .int z.2.2.2.2.1, .int (nI z.2.2.2.2.2.1), .int (rq z.2.2.2.2.2.2), va_rf as[j + 1]?] : List Value).set k v)) (hdg : decode cc pc = .ok (.putfield index, 3))
    (kk : ∀ (H1 : Heap) (locs1 : List Loc), RX D dA eA ad A N g (M.set j z') as sp H1 → va_S A H0 H1 locs1 → W p l e R s m args below meth c H1 locs1 cells slots Q (F0 m (pc + 3) ls rest)) : W p l e R s m args below meth c H locs cells slots Q (F0 m pc ls (v :: .ref q :: rest)) := by
  obtain ⟨L, f, iv, hP, hD, hF, hM⟩ := hR
  have hqm : q ∈ as ++ sp := List.mem_append_left _ (List.mem_of_getElem? hq)
  have h1 := (hM.2.2.1 q hqm).1
  have h13 := (hM.2.2.1 q hqm).2
  have hfq := hM.2.2.2.1 j q z hq hz
  refine r_put (ci := 11) (C := R_Msg) (T := F_Msg) (Nn := 8) E hC.1 hP hD hS h1 hfq rfl i_Msg t_Msg t_Msg_ok n_Msg k (by omega) hlink (fun _ h => h) (by match k, hk with | 0, _ => rfl | 1, _ => rfl | 2, _ => rfl | 3, _ => rfl | 4, _ => rfl | 5, _ => rfl | 6, _ => rfl) hn hfit (by simp; omega) hdg (fun H1 locs1 hP1 hD1 hS1 => ?_)
  refine kk H1 locs1 ⟨L, _, iv, hP1, hD1, hF.o h13, ?_⟩ hS1
  obtain ⟨m1, m2, m3, m4, m5⟩ := hM
  refine ⟨by rw [List.length_set]; exact m1, m2, m3, fun j2 q2 z2 hq2 hz2 => ?_, fun j2 q2 hq2 => ?_⟩
  · by_cases hj : j2 = j
    · subst hj
      rw [hq] at hq2
      cases hq2
      rw [List.getElem?_set_self (List.getElem?_eq_some_iff.mp hz).1] at hz2
      cases hz2
      rw [va_up_self, hz']
    · rw [List.getElem?_set_ne (Ne.symm hj)] at hz2
      rw [va_up_ne _ _ (fun e9 => hj ?_)]
      · exact m4 j2 q2 z2 hq2 hz2
      · subst e9
        have d1 : (as ++ sp)[j2]? = some q2 := by rw [List.getElem?_append_left (List.getElem?_eq_some_iff.mp hq2).1]; exact hq2
        have d2 : (as ++ sp)[j]? = some q2 := by rw [List.getElem?_append_left (List.getElem?_eq_some_iff.mp hq).1]; exact hq
        exact (List.getElem?_inj (List.getElem?_eq_some_iff.mp d1).1 m2).mp (d1.trans d2.symm)
  · rw [va_up_ne _ _ (fun e9 => ?_)]
    · exact m5 j2 q2 hq2
    · subst e9
      have := (List.nodup_append.mp m2).2.2 q2 (List.mem_of_getElem? hq) q2 (List.mem_of_getElem? hq2)
      exact this rfl
/-- a mode's code, and whether it holds a word -/
theorem xg_code (E : Cx p s m args meth c cc own nL ret) (hC : CX D dA eA A s) (hR : RX D dA eA ad A N g M as sp H) {q : Nat} (hq : q < 11) {index : Nat} (hlink : Cond.fieldLink own index R_Mode "code" "I" ∈ wz) (hdg : decode cc pc = .ok (.getfield index, 3)) (kk : W p l e R s m args below meth c H locs cells slots Q (F0 m (pc + 3) ls (.int (nI q) :: rest))) : W p l e R s m args below meth c H locs cells slots Q (F0 m pc ls (.ref (ad 3 q) :: rest)) := by
  rcases (show q = 0 ∨ q = 1 ∨ q = 2 ∨ q = 3 ∨ q = 4 ∨ q = 5 ∨ q = 6 ∨ q = 7 ∨ q = 8 ∨ q = 9 ∨ q = 10 by omega) with rfl | rfl | rfl | rfl | rfl | rfl | rfl | rfl | rfl | rfl | rfl
  · exact x_get (s0 := 3) (i0 := 0) (ci := 3) (C := R_Emp) (T := F_Emp) (Nn := 2) E hC hR hq rfl rfl i_Emp 0 (by decide) hlink (fun _ h => h) rfl hdg kk
  · exact x_get (s0 := 3) (i0 := 1) (ci := 4) (C := R_Sha) (T := F_Sha) (Nn := 2) E hC hR hq rfl rfl i_Sha 0 (by decide) hlink (fun _ h => h) rfl hdg kk
  · exact x_get (s0 := 3) (i0 := 2) (ci := 5) (C := R_Own) (T := F_Own) (Nn := 2) E hC hR hq rfl rfl i_Own 0 (by decide) hlink (fun _ h => h) rfl hdg kk
  · exact x_get (s0 := 3) (i0 := 3) (ci := 6) (C := R_Fet) (T := F_Fet) (Nn := 2) E hC hR hq rfl rfl i_Fet 0 (by decide) hlink (fun _ h => h) rfl hdg kk
  · exact x_get (s0 := 3) (i0 := 4) (ci := 7) (C := R_Gai) (T := F_Gai) (Nn := 3) E hC hR hq rfl rfl i_Gai 0 (by decide) hlink (fun _ h => h) rfl hdg kk
  · exact x_get (s0 := 3) (i0 := 5) (ci := 7) (C := R_Gai) (T := F_Gai) (Nn := 3) E hC hR hq rfl rfl i_Gai 0 (by decide) hlink (fun _ h => h) rfl hdg kk
  · exact x_get (s0 := 3) (i0 := 6) (ci := 7) (C := R_Gai) (T := F_Gai) (Nn := 3) E hC hR hq rfl rfl i_Gai 0 (by decide) hlink (fun _ h => h) rfl hdg kk
  · exact x_get (s0 := 3) (i0 := 7) (ci := 7) (C := R_Gai) (T := F_Gai) (Nn := 3) E hC hR hq rfl rfl i_Gai 0 (by decide) hlink (fun _ h => h) rfl hdg kk
  · exact x_get (s0 := 3) (i0 := 8) (ci := 5) (C := R_Own) (T := F_Own) (Nn := 2) E hC hR hq rfl rfl i_Own 0 (by decide) hlink (fun _ h => h) rfl hdg kk
  · exact x_get (s0 := 3) (i0 := 9) (ci := 4) (C := R_Sha) (T := F_Sha) (Nn := 2) E hC hR hq rfl rfl i_Sha 0 (by decide) hlink (fun _ h => h) rfl hdg kk
  · exact x_get (s0 := 3) (i0 := 10) (ci := 3) (C := R_Emp) (T := F_Emp) (Nn := 2) E hC hR hq rfl rfl i_Emp 0 (by decide) hlink (fun _ h => h) rfl hdg kk
theorem xg_holds (E : Cx p s m args meth c cc own nL ret) (hC : CX D dA eA A s) (hR : RX D dA eA ad A N g M as sp H) {q : Nat} (hq : q < 11) {index : Nat} (hlink : Cond.fieldLink own index R_Mode "holds" "Z" ∈ wz) (hdg : decode cc pc = .ok (.getfield index, 3)) (kk : W p l e R s m args below meth c H locs cells slots Q (F0 m (pc + 3) ls (.int (if q = 1 ∨ q = 2 ∨ q = 6 ∨ q = 7 ∨ q = 8 ∨ q = 9 then 1 else 0) :: rest))) : W p l e R s m args below meth c H locs cells slots Q (F0 m pc ls (.ref (ad 3 q) :: rest)) := by
  rcases (show q = 0 ∨ q = 1 ∨ q = 2 ∨ q = 3 ∨ q = 4 ∨ q = 5 ∨ q = 6 ∨ q = 7 ∨ q = 8 ∨ q = 9 ∨ q = 10 by omega) with rfl | rfl | rfl | rfl | rfl | rfl | rfl | rfl | rfl | rfl | rfl
  · exact x_get (s0 := 3) (i0 := 0) (ci := 3) (C := R_Emp) (T := F_Emp) (Nn := 2) E hC hR hq rfl rfl i_Emp 1 (by decide) hlink (fun _ h => h) rfl hdg kk
  · exact x_get (s0 := 3) (i0 := 1) (ci := 4) (C := R_Sha) (T := F_Sha) (Nn := 2) E hC hR hq rfl rfl i_Sha 1 (by decide) hlink (fun _ h => h) rfl hdg kk
  · exact x_get (s0 := 3) (i0 := 2) (ci := 5) (C := R_Own) (T := F_Own) (Nn := 2) E hC hR hq rfl rfl i_Own 1 (by decide) hlink (fun _ h => h) rfl hdg kk
  · exact x_get (s0 := 3) (i0 := 3) (ci := 6) (C := R_Fet) (T := F_Fet) (Nn := 2) E hC hR hq rfl rfl i_Fet 1 (by decide) hlink (fun _ h => h) rfl hdg kk
  · exact x_get (s0 := 3) (i0 := 4) (ci := 7) (C := R_Gai) (T := F_Gai) (Nn := 3) E hC hR hq rfl rfl i_Gai 1 (by decide) hlink (fun _ h => h) rfl hdg kk
  · exact x_get (s0 := 3) (i0 := 5) (ci := 7) (C := R_Gai) (T := F_Gai) (Nn := 3) E hC hR hq rfl rfl i_Gai 1 (by decide) hlink (fun _ h => h) rfl hdg kk
  · exact x_get (s0 := 3) (i0 := 6) (ci := 7) (C := R_Gai) (T := F_Gai) (Nn := 3) E hC hR hq rfl rfl i_Gai 1 (by decide) hlink (fun _ h => h) rfl hdg kk
  · exact x_get (s0 := 3) (i0 := 7) (ci := 7) (C := R_Gai) (T := F_Gai) (Nn := 3) E hC hR hq rfl rfl i_Gai 1 (by decide) hlink (fun _ h => h) rfl hdg kk
  · exact x_get (s0 := 3) (i0 := 8) (ci := 5) (C := R_Own) (T := F_Own) (Nn := 2) E hC hR hq rfl rfl i_Own 1 (by decide) hlink (fun _ h => h) rfl hdg kk
  · exact x_get (s0 := 3) (i0 := 9) (ci := 4) (C := R_Sha) (T := F_Sha) (Nn := 2) E hC hR hq rfl rfl i_Sha 1 (by decide) hlink (fun _ h => h) rfl hdg kk
  · exact x_get (s0 := 3) (i0 := 10) (ci := 3) (C := R_Emp) (T := F_Emp) (Nn := 2) E hC hR hq rfl rfl i_Emp 1 (by decide) hlink (fun _ h => h) rfl hdg kk
end XR
