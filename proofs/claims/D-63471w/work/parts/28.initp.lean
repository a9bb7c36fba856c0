/-! ===== the component half made ===== -/
def vp (nc nl nh s i : Nat) : Bool := match s with
  | 0 => i == 0 | 1 => i == 0 | 2 => i == 0 | 3 => decide (i < 11) | 4 => i == 0 | 5 => i == 0 | 6 => i == 0 | 7 => i == 0
  | 8 => decide (i < nc) | 9 => decide (i < nc) | 10 => decide (i < nc) | 11 => decide (i < nl) | 12 => decide (i < nh) | _ => false
def ctp (dA : Nat → ClassId) (eA ad : Nat → Nat → Nat) (N nc nl nh : Nat) (g : PS) (s i : Nat) : va_E := match s with
  | 5 => .inl (dA 4, rfa 4 (fun j => if j < nc then some (ad 8 j) else none))
  | 6 => .inl (dA 5, rfa 16 (fun j => if j < nl then some (ad 11 j) else none))
  | 7 => .inl (dA 6, rfa 4 (fun j => if j < nh then some (ad 12 j) else none))
  | s => ct dA eA ad N g [] [] s i
def PH (dA : Nat → ClassId) (eA ad : Nat → Nat → Nat) (N nc nl nh : Nat) (g : PS) : PM := fun s i => if vp nc nl nh s i = true then some (ad s i, ctp dA eA ad N nc nl nh g s i) else none
def ad2 (ad : Nat → Nat → Nat) (s0 i0 q : Nat) : Nat → Nat → Nat := fun s i => if s = s0 ∧ i = i0 then q else ad s i
theorem vp_13 {nc nl nh s i : Nat} (h : vp nc nl nh s i = true) : s < 13 := by
  refine Nat.lt_of_not_le fun hs => ?_
  obtain ⟨k, rfl⟩ := Nat.exists_eq_add_of_le hs
  rw [Nat.add_comm] at h
  exact absurd h (by simp [vp])
theorem s_init_o {x y : Int32} {k : Nat} (j : Nat) (h : k ≠ 15) (h0 : k ≠ 0) (h1 : k ≠ 1) : s_init x y k j = 0 := by
  unfold s_init
  simp only [s_own]
  rw [up2_k _ _ h, up2_k _ _ h, up2_k _ _ h, up2_k _ _ h]
  simp [s_g0, h0, h1]
theorem s_init_15 {x y : Int32} {b : Nat} (h : b < 4) : s_init x y 15 b = -1 := by
  rcases (show b = 0 ∨ b = 1 ∨ b = 2 ∨ b = 3 by omega) with rfl | rfl | rfl | rfl <;> rfl
theorem s_init_0 {x y : Int32} : s_init x y 0 0 = s_clC x := rfl
theorem s_init_1 {x y : Int32} : s_init x y 1 0 = s_clM y := rfl
theorem s_init_set {x y : Int32} (b : Nat) : ∀ n, s_set (s_init x y) b n = 0
  | 0 => rfl
  | c + 1 => by rw [s_set, if_pos (s_init_o _ (by decide) (by decide) (by decide))]; exact s_init_set b c
theorem clC_of (x : Int32) : ∃ N, 2 ≤ N ∧ N ≤ 4 ∧ s_clC x = nI N := by
  unfold s_clC
  split
  · next h2 =>
    split
    · next h4 =>
      obtain ⟨j, hj, rfl⟩ := ix_of (x := x) (n := 5) (by omega) (by
        intro q
        rw [Int32.le_iff_toInt_le] at h2
        rw [Int32.lt_iff_toInt_lt] at q
        have e2 : (2 : Int32).toInt = 2 := by decide
        have e0 : (0 : Int32).toInt = 0 := by decide
        omega) (by
        intro q
        rw [Int32.le_iff_toInt_le] at h4 q
        have e2 : (4 : Int32).toInt = 4 := by decide
        have e0 : (nI 5).toInt = 5 := by decide
        omega)
      refine ⟨j, ?_, by omega, rfl⟩
      have := (nI_leI (a := 2) (b := j) (by omega) (by omega)).mp h2
      exact this
    · exact ⟨4, by decide, by decide, rfl⟩
  · exact ⟨2, by decide, by decide, rfl⟩
theorem clM_of (x : Int32) : ∃ N, 1 ≤ N ∧ N ≤ 3 ∧ s_clM x = nI N := by
  unfold s_clM
  split
  · next h2 =>
    split
    · next h4 =>
      obtain ⟨j, hj, rfl⟩ := ix_of (x := x) (n := 4) (by omega) (by
        intro q
        rw [Int32.le_iff_toInt_le] at h2
        rw [Int32.lt_iff_toInt_lt] at q
        have e2 : (1 : Int32).toInt = 1 := by decide
        have e0 : (0 : Int32).toInt = 0 := by decide
        omega) (by
        intro q
        rw [Int32.le_iff_toInt_le] at h4 q
        have e2 : (3 : Int32).toInt = 3 := by decide
        have e0 : (nI 4).toInt = 4 := by decide
        omega)
      refine ⟨j, ?_, by omega, rfl⟩
      have := (nI_leI (a := 1) (b := j) (by omega) (by omega)).mp h2
      exact this
    · exact ⟨3, by decide, by decide, rfl⟩
  · exact ⟨1, by decide, by decide, rfl⟩
theorem clC_mm (x : Int32) : (if (2 : Int32) < (if x < 4 then x else 4) then (if x < 4 then x else 4) else 2) = s_clC x := by
  unfold s_clC
  have e2 : (2 : Int32).toInt = 2 := by decide
  have e4 : (4 : Int32).toInt = 4 := by decide
  by_cases h4 : x < 4
  · rw [if_pos h4]
    have h4' := h4
    rw [Int32.lt_iff_toInt_lt, e4] at h4'
    by_cases h2 : 2 < x
    · have h2' := h2
      rw [Int32.lt_iff_toInt_lt, e2] at h2'
      rw [if_pos h2, if_pos (by rw [Int32.le_iff_toInt_le, e2]; omega), if_pos (by rw [Int32.le_iff_toInt_le, e4]; omega)]
    · have h2' := h2
      rw [Int32.lt_iff_toInt_lt, e2] at h2'
      rw [if_neg h2]
      by_cases h3 : 2 ≤ x
      · rw [if_pos h3, if_pos (by rw [Int32.le_iff_toInt_le, e4]; omega)]
        rw [Int32.le_iff_toInt_le, e2] at h3
        exact Int32.toInt_inj.mp (by rw [e2]; omega)
      · rw [if_neg h3]
  · rw [if_neg h4, if_pos (by decide)]
    have h4' := h4
    rw [Int32.lt_iff_toInt_lt, e4] at h4'
    rw [if_pos (by rw [Int32.le_iff_toInt_le, e2]; omega)]
    by_cases h5 : x ≤ 4
    · rw [if_pos h5]
      rw [Int32.le_iff_toInt_le, e4] at h5
      exact Int32.toInt_inj.mp (by rw [e4]; omega)
    · rw [if_neg h5]
theorem clM_mm (x : Int32) : (if (1 : Int32) < (if x < 3 then x else 3) then (if x < 3 then x else 3) else 1) = s_clM x := by
  unfold s_clM
  have e2 : (1 : Int32).toInt = 1 := by decide
  have e4 : (3 : Int32).toInt = 3 := by decide
  by_cases h4 : x < 3
  · rw [if_pos h4]
    have h4' := h4
    rw [Int32.lt_iff_toInt_lt, e4] at h4'
    by_cases h2 : 1 < x
    · have h2' := h2
      rw [Int32.lt_iff_toInt_lt, e2] at h2'
      rw [if_pos h2, if_pos (by rw [Int32.le_iff_toInt_le, e2]; omega), if_pos (by rw [Int32.le_iff_toInt_le, e4]; omega)]
    · have h2' := h2
      rw [Int32.lt_iff_toInt_lt, e2] at h2'
      rw [if_neg h2]
      by_cases h3 : 1 ≤ x
      · rw [if_pos h3, if_pos (by rw [Int32.le_iff_toInt_le, e4]; omega)]
        rw [Int32.le_iff_toInt_le, e2] at h3
        exact Int32.toInt_inj.mp (by rw [e2]; omega)
      · rw [if_neg h3]
  · rw [if_neg h4, if_pos (by decide)]
    have h4' := h4
    rw [Int32.lt_iff_toInt_lt, e4] at h4'
    rw [if_pos (by rw [Int32.le_iff_toInt_le, e2]; omega)]
    by_cases h5 : x ≤ 3
    · rw [if_pos h5]
      rw [Int32.le_iff_toInt_le, e4] at h5
      exact Int32.toInt_inj.mp (by rw [e4]; omega)
    · rw [if_neg h5]
theorem PH_some {dA : Nat → ClassId} {eA ad : Nat → Nat → Nat} {N nc nl nh : Nat} {g : PS} {s i : Nat} (h : vp nc nl nh s i = true) : PH dA eA ad N nc nl nh g s i = some (ad s i, ctp dA eA ad N nc nl nh g s i) := if_pos h
theorem ph_12 {dA : Nat → ClassId} {eA ad : Nat → Nat → Nat} {N nc nl nh q : Nat} {g : PS} (s i : Nat) (hs : s < 13) (h7 : s ≠ 7) (h12 : ¬ (s = 12 ∧ i = nh)) : vp nc nl (nh + 1) s i = true → vp nc nl nh s i = true ∧ ad2 ad 12 nh q s i = ad s i ∧ ctp dA eA (ad2 ad 12 nh q) N nc nl (nh + 1) g s i = ctp dA eA ad N nc nl nh g s i := by
  intro hv
  rcases (show s = 0 ∨ s = 1 ∨ s = 2 ∨ s = 3 ∨ s = 4 ∨ s = 5 ∨ s = 6 ∨ s = 8 ∨ s = 9 ∨ s = 10 ∨ s = 11 ∨ s = 12 by omega) with rfl | rfl | rfl | rfl | rfl | rfl | rfl | rfl | rfl | rfl | rfl | rfl
  case _ => refine ⟨hv, rfl, ?_⟩; simp [ctp, ct, ad2]
  case _ => refine ⟨hv, rfl, ?_⟩; simp [ctp, ct]
  case _ => refine ⟨hv, rfl, ?_⟩; simp [ctp, ct, ad2]
  case _ => refine ⟨hv, rfl, ?_⟩; simp [ctp, ct]
  case _ => refine ⟨hv, rfl, ?_⟩; simp [ctp, ct]
  case _ => refine ⟨hv, rfl, ?_⟩; simp [ctp, ad2]
  case _ => refine ⟨hv, rfl, ?_⟩; simp [ctp, ad2]
  case _ => refine ⟨hv, rfl, ?_⟩; simp [ctp, ct, ad2]
  case _ => refine ⟨hv, rfl, ?_⟩; simp [ctp, ct]
  case _ => refine ⟨hv, rfl, ?_⟩; simp [ctp, ct]
  case _ => refine ⟨hv, rfl, ?_⟩; simp [ctp, ct, ad2]
  case _ =>
    have hi : ¬ i = nh := fun e => h12 ⟨rfl, e⟩
    simp only [vp, decide_eq_true_eq] at hv ⊢
    refine ⟨by omega, if_neg h12, ?_⟩
    simp [ctp, ct, ad2]
theorem ph_11 {dA : Nat → ClassId} {eA ad : Nat → Nat → Nat} {N nc nl nh q : Nat} {g : PS} (s i : Nat) (hs : s < 13) (h7 : s ≠ 6) (h12 : ¬ (s = 11 ∧ i = nl)) : vp nc (nl + 1) nh s i = true → vp nc nl nh s i = true ∧ ad2 ad 11 nl q s i = ad s i ∧ ctp dA eA (ad2 ad 11 nl q) N nc (nl + 1) nh g s i = ctp dA eA ad N nc nl nh g s i := by
  intro hv
  rcases (show s = 0 ∨ s = 1 ∨ s = 2 ∨ s = 3 ∨ s = 4 ∨ s = 5 ∨ s = 7 ∨ s = 8 ∨ s = 9 ∨ s = 10 ∨ s = 11 ∨ s = 12 by omega) with rfl | rfl | rfl | rfl | rfl | rfl | rfl | rfl | rfl | rfl | rfl | rfl
  case _ => refine ⟨hv, rfl, ?_⟩; simp [ctp, ct, ad2]
  case _ => refine ⟨hv, rfl, ?_⟩; simp [ctp, ct]
  case _ => refine ⟨hv, rfl, ?_⟩; simp [ctp, ct, ad2]
  case _ => refine ⟨hv, rfl, ?_⟩; simp [ctp, ct]
  case _ => refine ⟨hv, rfl, ?_⟩; simp [ctp, ct]
  case _ => refine ⟨hv, rfl, ?_⟩; simp [ctp, ad2]
  case _ => refine ⟨hv, rfl, ?_⟩; simp [ctp, ad2]
  case _ => refine ⟨hv, rfl, ?_⟩; simp [ctp, ct, ad2]
  case _ => refine ⟨hv, rfl, ?_⟩; simp [ctp, ct]
  case _ => refine ⟨hv, rfl, ?_⟩; simp [ctp, ct]
  case _ =>
    have hi : ¬ i = nl := fun e => h12 ⟨rfl, e⟩
    simp only [vp, decide_eq_true_eq] at hv ⊢
    refine ⟨by omega, if_neg h12, ?_⟩
    simp [ctp, ct, ad2]
  case _ => refine ⟨hv, rfl, ?_⟩; simp [ctp, ct, ad2]
theorem ph_8 {dA : Nat → ClassId} {eA ad : Nat → Nat → Nat} {N nc nl nh q q9 q10 : Nat} {g : PS} (s i : Nat) (hs : s < 13) (h7 : s ≠ 5) (h8 : ¬ (s = 8 ∧ i = nc)) (h9 : ¬ (s = 9 ∧ i = nc)) (h10 : ¬ (s = 10 ∧ i = nc)) : vp (nc + 1) nl nh s i = true → vp nc nl nh s i = true ∧ ad2 (ad2 (ad2 ad 9 nc q9) 10 nc q10) 8 nc q s i = ad s i ∧ ctp dA eA (ad2 (ad2 (ad2 ad 9 nc q9) 10 nc q10) 8 nc q) N (nc + 1) nl nh g s i = ctp dA eA ad N nc nl nh g s i := by
  intro hv
  rcases (show s = 0 ∨ s = 1 ∨ s = 2 ∨ s = 3 ∨ s = 4 ∨ s = 6 ∨ s = 7 ∨ s = 8 ∨ s = 9 ∨ s = 10 ∨ s = 11 ∨ s = 12 by omega) with rfl | rfl | rfl | rfl | rfl | rfl | rfl | rfl | rfl | rfl | rfl | rfl
  case _ => refine ⟨hv, rfl, ?_⟩; simp [ctp, ct, ad2]
  case _ => refine ⟨hv, rfl, ?_⟩; simp [ctp, ct]
  case _ => refine ⟨hv, rfl, ?_⟩; simp [ctp, ct, ad2]
  case _ => refine ⟨hv, rfl, ?_⟩; simp [ctp, ct]
  case _ => refine ⟨hv, rfl, ?_⟩; simp [ctp, ct]
  case _ => refine ⟨hv, rfl, ?_⟩; simp [ctp, ad2]
  case _ => refine ⟨hv, rfl, ?_⟩; simp [ctp, ad2]
  case _ =>
    have hi : ¬ i = nc := fun e => h8 ⟨rfl, e⟩
    simp only [vp, decide_eq_true_eq] at hv ⊢
    refine ⟨by omega, by simp [ad2, hi], ?_⟩
    simp [ctp, ct, ad2, hi]
  case _ =>
    have hi : ¬ i = nc := fun e => h9 ⟨rfl, e⟩
    simp only [vp, decide_eq_true_eq] at hv ⊢
    refine ⟨by omega, by simp [ad2, hi], ?_⟩
    simp [ctp, ct]
  case _ =>
    have hi : ¬ i = nc := fun e => h10 ⟨rfl, e⟩
    simp only [vp, decide_eq_true_eq] at hv ⊢
    refine ⟨by omega, by simp [ad2, hi], ?_⟩
    simp [ctp, ct]
  case _ => refine ⟨hv, rfl, ?_⟩; simp [ctp, ct, ad2]
  case _ => refine ⟨hv, rfl, ?_⟩; simp [ctp, ct, ad2]
theorem arr_up {nh q : Nat} {f : Nat → Nat} : (fun j => if j < nh + 1 then some (if j = nh then q else f j) else none) = va_up (fun j => if j < nh then some (f j) else none) nh (some q) := by
  funext j
  by_cases h : j = nh
  · subst h
    rw [va_up_self, if_pos (Nat.lt_succ_self j), if_pos rfl]
  · rw [va_up_ne _ _ h]
    by_cases h2 : j < nh
    · rw [if_pos (Nat.lt_succ_of_lt h2), if_neg h, if_pos h2]
    · rw [if_neg (by omega), if_neg h2]
/-- one home more -/
theorem ph_home {D : va_G} {A : Nat → Prop} {H : Heap} {dA : Nat → ClassId} {eA ad : Nat → Nat → Nat} {N nc nl nh q : Nat} {x y : Int32} (hn : nh < 4)
    (h : LW D A (pset (pset (PH dA eA ad N nc nl nh (s_init x y)) 12 nh (q, .inr (10, [.int (nI nh), .ref (ad 1 0), .ref (eA 1 0), .int (-1), .int 0, .int 0]))) 7 0 (ad 7 0, .inl (dA 6, rfa 4 (va_up (fun j => if j < nh then some (ad 12 j) else none) nh (some q))))) H) :
    LW D A (PH dA eA (ad2 ad 12 nh q) N nc nl (nh + 1) (s_init x y)) H := by
  refine h.sub (fun s i z hz => ?_)
  unfold PH at hz
  split at hz
  · next hv =>
    have hs := vp_13 hv
    rw [← hz]
    by_cases h7 : s = 7 ∧ i = 0
    · obtain ⟨rfl, rfl⟩ := h7
      rw [pset_self]
      refine congrArg some (Prod.ext rfl ?_)
      show _ = ctp dA eA (ad2 ad 12 nh q) N nc nl (nh + 1) (s_init x y) 7 0
      rw [ctp, ← arr_up]
      simp [ad2]
    · rw [pset_ne _ _ h7]
      have h77 : s ≠ 7 := fun e => by subst e; simp only [vp, beq_iff_eq] at hv; exact h7 ⟨rfl, hv⟩
      by_cases h12 : s = 12 ∧ i = nh
      · obtain ⟨rfl, rfl⟩ := h12
        rw [pset_self]
        refine congrArg some (Prod.ext (by simp [ad2]) ?_)
        show _ = ct dA eA (ad2 ad 12 i q) N (s_init x y) [] [] 12 i
        simp only [ct]
        rw [s_init_set, s_init_o i (by decide) (by decide) (by decide), s_init_15 hn, s_init_o i (k := 13) (by decide) (by decide) (by decide)]
        rfl
      · rw [pset_ne _ _ h12]
        obtain ⟨a1, a2, a3⟩ := ph_12 (dA := dA) (eA := eA) (ad := ad) (N := N) (q := q) (g := s_init x y) s i hs h77 h12 hv
        rw [PH, if_pos a1, a2, a3]
  · cases hz
/-- one line more -/
theorem ph_line {D : va_G} {A : Nat → Prop} {H : Heap} {dA : Nat → ClassId} {eA ad : Nat → Nat → Nat} {N nc cc bb nh q : Nat} {x y : Int32} (hb : bb < 4)
    (h : LW D A (pset (pset (PH dA eA ad N nc (4 * cc + bb) nh (s_init x y)) 11 (4 * cc + bb) (q, .inr (9, [.int (nI cc), .int (nI bb), .ref (ad 1 0), .ref (ad 2 0), .ref (ad 3 0), .int 0, .int 0, .int 0]))) 6 0 (ad 6 0, .inl (dA 5, rfa 16 (va_up (fun j => if j < 4 * cc + bb then some (ad 11 j) else none) (4 * cc + bb) (some q))))) H) :
    LW D A (PH dA eA (ad2 ad 11 (4 * cc + bb) q) N nc (4 * cc + bb + 1) nh (s_init x y)) H := by
  have ed : (4 * cc + bb) / 4 = cc := by omega
  have em : (4 * cc + bb) % 4 = bb := by omega
  generalize 4 * cc + bb = nl at h ed em
  refine h.sub (fun s i z hz => ?_)
  unfold PH at hz
  split at hz
  · next hv =>
    have hs := vp_13 hv
    rw [← hz]
    by_cases h7 : s = 6 ∧ i = 0
    · obtain ⟨rfl, rfl⟩ := h7
      rw [pset_self]
      refine congrArg some (Prod.ext rfl ?_)
      show _ = ctp dA eA (ad2 ad 11 nl q) N nc (nl + 1) nh (s_init x y) 6 0
      rw [ctp, ← arr_up]
      simp [ad2]
    · rw [pset_ne _ _ h7]
      have h77 : s ≠ 6 := fun e => by subst e; simp only [vp, beq_iff_eq] at hv; exact h7 ⟨rfl, hv⟩
      by_cases h12 : s = 11 ∧ i = nl
      · obtain ⟨rfl, rfl⟩ := h12
        rw [pset_self]
        refine congrArg some (Prod.ext (by simp [ad2]) ?_)
        show _ = ct dA eA (ad2 ad 11 i q) N (s_init x y) [] [] 11 i
        simp only [ct]
        rw [ed, em, s_init_o i (k := 8) (by decide) (by decide) (by decide), s_init_o i (k := 9) (by decide) (by decide) (by decide), s_init_o i (k := 10) (by decide) (by decide) (by decide), s_init_o i (k := 11) (by decide) (by decide) (by decide)]
        rfl
      · rw [pset_ne _ _ h12]
        obtain ⟨a1, a2, a3⟩ := ph_11 (dA := dA) (eA := eA) (ad := ad) (N := N) (q := q) (g := s_init x y) s i hs h77 h12 hv
        rw [PH, if_pos a1, a2, a3]
  · cases hz
/-- one core more -/
theorem ph_core {D : va_G} {A : Nat → Prop} {H : Heap} {dA : Nat → ClassId} {eA ad : Nat → Nat → Nat} {N nc nl nh q q9 q10 : Nat} {x y : Int32}
    (h : LW D A (pset (pset (pset (pset (PH dA eA ad N nc nl nh (s_init x y)) 9 nc (q9, .inl (dA 2, 16, .inl (fun _ => 0)))) 10 nc (q10, .inl (dA 0, 16, .inl (fun _ => 0)))) 8 nc (q, .inr (8, [.ref q9, .ref q10, .int 0, .int 0, .int 0, .int 0]))) 5 0 (ad 5 0, .inl (dA 4, rfa 4 (va_up (fun j => if j < nc then some (ad 8 j) else none) nc (some q))))) H) :
    LW D A (PH dA eA (ad2 (ad2 (ad2 ad 9 nc q9) 10 nc q10) 8 nc q) N (nc + 1) nl nh (s_init x y)) H := by
  refine h.sub (fun s i z hz => ?_)
  unfold PH at hz
  split at hz
  · next hv =>
    have hs := vp_13 hv
    rw [← hz]
    by_cases h7 : s = 5 ∧ i = 0
    · obtain ⟨rfl, rfl⟩ := h7
      rw [pset_self]
      refine congrArg some (Prod.ext rfl ?_)
      show _ = ctp dA eA (ad2 (ad2 (ad2 ad 9 nc q9) 10 nc q10) 8 nc q) N (nc + 1) nl nh (s_init x y) 5 0
      rw [ctp, ← arr_up]
      simp [ad2]
    · rw [pset_ne _ _ h7]
      have h77 : s ≠ 5 := fun e => by subst e; simp only [vp, beq_iff_eq] at hv; exact h7 ⟨rfl, hv⟩
      by_cases h8 : s = 8 ∧ i = nc
      · obtain ⟨rfl, rfl⟩ := h8
        rw [pset_self]
        refine congrArg some (Prod.ext (by simp [ad2]) ?_)
        show _ = ct dA eA (ad2 (ad2 (ad2 ad 9 i q9) 10 i q10) 8 i q) N (s_init x y) [] [] 8 i
        simp only [ct]
        rw [s_init_o i (k := 5) (by decide) (by decide) (by decide), s_init_o i (k := 6) (by decide) (by decide) (by decide), s_init_o i (k := 2) (by decide) (by decide) (by decide), s_init_o i (k := 7) (by decide) (by decide) (by decide)]
        simp [ad2]
      · rw [pset_ne _ _ h8]
        by_cases h10 : s = 10 ∧ i = nc
        · obtain ⟨rfl, rfl⟩ := h10
          rw [pset_self]
          refine congrArg some (Prod.ext (by simp [ad2]) ?_)
          show _ = ct dA eA (ad2 (ad2 (ad2 ad 9 i q9) 10 i q10) 8 i q) N (s_init x y) [] [] 10 i
          simp only [ct]
          rw [show (fun j => if j < 16 then s_init x y 4 (16 * i + j) else 0) = fun _ => 0 from funext fun j => by rw [s_init_o _ (by decide) (by decide) (by decide)]; split <;> rfl]
        · rw [pset_ne _ _ h10]
          by_cases h9 : s = 9 ∧ i = nc
          · obtain ⟨rfl, rfl⟩ := h9
            rw [pset_self]
            refine congrArg some (Prod.ext (by simp [ad2]) ?_)
            show _ = ct dA eA (ad2 (ad2 (ad2 ad 9 i q9) 10 i q10) 8 i q) N (s_init x y) [] [] 9 i
            simp only [ct]
            rw [show (fun j => if j < 16 then s_init x y 3 (16 * i + j) else 0) = fun _ => 0 from funext fun j => by rw [s_init_o _ (by decide) (by decide) (by decide)]; split <;> rfl]
          · rw [pset_ne _ _ h9]
            obtain ⟨a1, a2, a3⟩ := ph_8 (dA := dA) (eA := eA) (ad := ad) (N := N) (q := q) (q9 := q9) (q10 := q10) (g := s_init x y) s i hs h77 h8 h9 h10 hv
            rw [PH, if_pos a1, a2, a3]
  · cases hz
/-- the whole -/
theorem ph_all {D : va_G} {A : Nat → Prop} {H : Heap} {dA : Nat → ClassId} {eA ad : Nat → Nat → Nat} {N : Nat} {x y : Int32} (h : LW D A (PH dA eA ad N N (4 * N) 4 (s_init x y)) H) : RX D dA eA ad A N (s_init x y) [] [] [] H := by
  obtain ⟨L, f, iv, h1, h2, h3⟩ := h
  refine ⟨L, f, iv, h1, h2, fun s i hv => ?_, rfl, List.nodup_nil, fun q hq => absurd hq (List.not_mem_nil), fun j q z hq _ => by simp at hq, fun j q hq => by simp at hq⟩
  have h13 := vl_lt hv
  have hvp : vp N (4 * N) 4 s i = true := by
    rcases (show s = 0 ∨ s = 1 ∨ s = 2 ∨ s = 3 ∨ s = 4 ∨ s = 5 ∨ s = 6 ∨ s = 7 ∨ s = 8 ∨ s = 9 ∨ s = 10 ∨ s = 11 ∨ s = 12 by omega) with rfl | rfl | rfl | rfl | rfl | rfl | rfl | rfl | rfl | rfl | rfl | rfl | rfl <;> simpa [vp, vl] using hv
  have := h3 s i _ _ (PH_some hvp)
  refine ⟨this.1, this.2.1, this.2.2.trans ?_⟩
  rcases (show s = 0 ∨ s = 1 ∨ s = 2 ∨ s = 3 ∨ s = 4 ∨ s = 5 ∨ s = 6 ∨ s = 7 ∨ s = 8 ∨ s = 9 ∨ s = 10 ∨ s = 11 ∨ s = 12 by omega) with rfl | rfl | rfl | rfl | rfl | rfl | rfl | rfl | rfl | rfl | rfl | rfl | rfl <;> rfl
