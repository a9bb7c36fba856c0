/-! ===== the whole invariant ===== -/
def ln (g : PS) (c b : Nat) : Nat := (g 8 (4 * c + b)).toNatClampNeg
/-- the program of a core, its place and what it waits for -/
def PRc (N : Nat) (g : PS) (c : Nat) : Prop := ∃ sz pl w, sz ≤ 16 ∧ g 5 c = nI sz ∧ pl ≤ 16 ∧ g 6 c = nI pl ∧ w ≤ 2 ∧ g 7 c = nI w ∧ (N ≤ c → w = 0) ∧ ∀ i, i < sz → ∃ o, o < 6 ∧ g 3 (16 * c + i) = nI o ∧ (¬ s_access (nI o) = 0 → ∃ b, b < 4 ∧ g 4 (16 * c + i) = nI b) ∧ (o = 3 → ∃ x, x < 16 ∧ g 4 (16 * c + i) = nI x)
/-- the lines of a core and what it waits for -/
def WTc (g : PS) (c : Nat) : Prop :=
  (g 7 c = 0 → ∀ b, b < 4 → ln g c b < 3)
  ∧ (g 7 c = 1 → ∃ b0 pl o sz, b0 < 4 ∧ pl < sz ∧ sz ≤ 16 ∧ g 6 c = nI pl ∧ g 5 c = nI sz ∧ g 3 (16 * c + pl) = nI o ∧ (o = 0 ∨ o = 1 ∨ o = 5) ∧ g 4 (16 * c + pl) = nI b0 ∧ 3 ≤ ln g c b0 ∧ ln g c b0 ≤ 7 ∧ (ln g c b0 = 3 → o = 0) ∧ ∀ b, b < 4 → b ≠ b0 → ln g c b < 3)
  ∧ (g 7 c = 2 → ∃ b0, b0 < 4 ∧ 8 ≤ ln g c b0 ∧ ∀ b, b < 4 → b ≠ b0 → ln g c b < 3)
def Inv (N : Nat) (g : PS) (M : List Msg) : Prop :=
  (g 0 0 = nI N ∧ 2 ≤ N ∧ N ≤ 4 ∧ (∃ R, g 1 0 = nI R ∧ 1 ≤ R ∧ R ≤ 3) ∧ g 12 0 = g 19 0) ∧ (∀ c, c < 4 → PRc N g c) ∧ (∀ z ∈ M, WZ N z) ∧ (∀ b, b < 4 → BX N g M b) ∧ (∀ c, c < N → WTc g c)
theorem bx_line {N : Nat} {g : PS} {M : List Msg} {b : Nat} (h : BX N g M b) {c : Nat} (hc : c < N) : ln g c b < 11 ∧ g 8 (4 * c + b) = nI (ln g c b) ∧ (ln g c b = 0 → g 10 (4 * c + b) = 0) := by
  obtain ⟨L, k, n, A, i, f, s, m, h, w, S, H, hR, hI⟩ := h
  have hG := rb_g hR
  obtain ⟨e8, e10⟩ := hG.1 c hc
  obtain ⟨l1, -⟩ := hI.1 c hc
  have h11 := l1.1
  have e : ln g c b = L c := by unfold ln; rw [e8]; exact nI_clamp (by omega)
  rw [e]
  refine ⟨h11, e8, fun q => ?_⟩
  have : m c = 0 := by unfold LI1 at l1; omega
  rw [e10, this]; rfl
theorem bx_kept {N : Nat} {g : PS} {M : List Msg} {b : Nat} (hN4 : N ≤ 4) (h : BX N g M b) : ∃ st, st < 4 ∧ g 14 b = nI st ∧ (st = 2 → ∃ o, o < 4 ∧ g 15 b = nI o) ∧ (¬ st = 2 → g 15 b = -1) := by
  obtain ⟨L, k, n, A, i, f, s, m, h, w, S, H, hR, hI⟩ := h
  obtain ⟨-, -, e14, e15⟩ := rb_g hR
  obtain ⟨-, b2, b3, b4, -⟩ := hI
  refine ⟨h, b2, e14, fun q => ?_, fun q => ?_⟩
  · obtain ⟨q1, q2⟩ := b3 q
    exact ⟨w - 1, by omega, by rw [e15, if_neg (by omega)]⟩
  · rw [e15, if_pos (b4 q)]
theorem wz_wf {N : Nat} {M : List Msg} (hN4 : N ≤ 4) (hW : ∀ z ∈ M, WZ N z) : WfM M := by
  intro i z hz
  obtain ⟨w1, w2, w3, w4, w5, w6, w7⟩ := hW z (List.mem_of_getElem? hz)
  refine ⟨w1, ?_, ?_, w2, ?_, ?_⟩
  · by_cases e : z.1 < 4
    · have := w3 e; omega
    · by_cases e6 : z.1 ≤ 6
      · have := w4 ⟨by omega, e6⟩; omega
      · rcases (show z.1 = 7 ∨ z.1 = 8 ∨ z.1 = 9 by omega) with q | q | q
        · have := w5 q; omega
        · exact (w6 q).1
        · have := w7 q; omega
  · by_cases e : z.1 < 4
    · have := w3 e; omega
    · by_cases e6 : z.1 ≤ 6
      · have := w4 ⟨by omega, e6⟩; omega
      · rcases (show z.1 = 7 ∨ z.1 = 8 ∨ z.1 = 9 by omega) with q | q | q
        · have := w5 q; omega
        · have := w6 q; omega
        · have := w7 q; omega
  · intro e4
    by_cases e : z.1 < 4
    · have := w3 e; omega
    · by_cases e6 : z.1 ≤ 6
      · have := w4 ⟨by omega, e6⟩; omega
      · rcases (show z.1 = 7 ∨ z.1 = 8 ∨ z.1 = 9 by omega) with q | q | q
        · have := w5 q; omega
        · have := w6 q; omega
        · have := w7 q; omega
  · intro q
    obtain ⟨-, -, a, ha, e⟩ := w4 (by omega)
    exact ⟨a, by omega, e⟩
theorem wz_home {N : Nat} {M : List Msg} (hN4 : N ≤ 4) (hW : ∀ z ∈ M, WZ N z) (j : Nat) (z : Msg) (hz : M[j]? = some z) (h4 : z.2.2.1 = 4) : z.1 = 0 ∨ z.1 = 1 ∨ z.1 = 2 ∨ z.1 = 3 ∨ z.1 = 8 := by
  obtain ⟨w1, w2, w3, w4, w5, w6, w7⟩ := hW z (List.mem_of_getElem? hz)
  by_cases e : z.1 < 4
  · omega
  · by_cases e6 : z.1 ≤ 6
    · have := w4 ⟨by omega, e6⟩; omega
    · rcases (show z.1 = 7 ∨ z.1 = 8 ∨ z.1 = 9 by omega) with q | q | q
      · have := w5 q; omega
      · omega
      · have := w7 q; omega
/-- how many messages there are -/
def key (z : Msg) : Nat := 4 * cl z + z.2.2.2.1
def ks (M : List Msg) : Nat → Nat
  | 0 => 0
  | n + 1 => ks M n + M.countP (fun z => key z == n)
theorem cnt_split (M : List Msg) (n : Nat) : M.countP (fun z => decide (key z < n + 1)) = M.countP (fun z => decide (key z < n)) + M.countP (fun z => key z == n) := by
  induction M with
  | nil => rfl
  | cons z M ih =>
    simp only [List.countP_cons, decide_eq_true_eq, beq_iff_eq]
    by_cases e : key z = n
    · rw [if_pos (by omega), if_neg (by omega), if_pos e]; omega
    · by_cases e2 : key z < n
      · rw [if_pos (by omega), if_pos e2, if_neg e]; omega
      · rw [if_neg (by omega), if_neg e2, if_neg e]; omega
theorem ks_lt (M : List Msg) : ∀ n, M.countP (fun z => decide (key z < n)) = ks M n
  | 0 => by rw [ks, List.countP_eq_zero]; intro z _; simp
  | n + 1 => by rw [cnt_split, ks_lt M n]; rfl
theorem len_keys {M : List Msg} {n : Nat} (h : ∀ z ∈ M, key z < n) : M.length = ks M n := by
  rw [← ks_lt, eq_comm, List.countP_eq_length]
  intro z hz
  exact decide_eq_true (h z hz)
theorem cnt_key {N : Nat} {M : List Msg} {b c : Nat} (hb : b < 4) (hW : ∀ z ∈ M, WZ N z) : M.countP (fun z => key z == 4 * c + b) = (M.filter (pm c b)).length + M.countP (pa c b) := by
  rw [← List.countP_eq_length_filter]
  induction M with
  | nil => rfl
  | cons z M ih =>
    have ih' := ih (fun y hy => hW y (List.mem_cons_of_mem _ hy))
    have hz := (hW z List.mem_cons_self).2.1
    simp only [List.countP_cons]
    rw [ih']
    have ek : (key z == 4 * c + b) = (cl z == c && z.2.2.2.1 == b) := by
      rw [Bool.eq_iff_iff]
      simp [key]
      omega
    have e2 : (if (key z == 4 * c + b) = true then 1 else 0) = (if pm c b z = true then 1 else 0) + (if pa c b z = true then 1 else 0) := by
      rw [ek]
      unfold pm pa
      cases (cl z == c && z.2.2.2.1 == b)
      · simp
      · by_cases q6 : z.1 = 6
        · simp [q6]
        · by_cases q9 : z.1 = 9
          · simp [q9]
          · simp [q6, q9]
    omega
theorem cl_lt {N : Nat} {z : Msg} (hN4 : N ≤ 4) (h : WZ N z) : cl z < N ∨ (cl z = 4 ∧ z.1 = 8 ∧ z.2.2.1 = 4) := by
  obtain ⟨w1, w2, w3, w4, w5, w6, w7⟩ := h
  unfold cl
  by_cases e : z.1 < 4
  · rw [if_pos e]; exact Or.inl (w3 e).2
  · rw [if_neg e]
    by_cases e7 : z.1 < 7
    · rw [if_pos e7]
      obtain ⟨-, -, a, ha, e9⟩ := w4 (by omega)
      rw [e9]; exact Or.inl ha
    · rw [if_neg e7]
      rcases (show z.1 = 7 ∨ z.1 = 8 ∨ z.1 = 9 by omega) with q | q | q
      · exact Or.inl (w5 q).2
      · rcases (w6 q).2 with q2 | q2
        · exact Or.inl q2
        · exact Or.inr ⟨q2.1, q, q2.1⟩
      · exact Or.inl (w7 q).2
/-- of one core's messages for one block -/
theorem bx_cnt {N : Nat} {g : PS} {M : List Msg} {b c : Nat} (hb : b < 4) (hW : ∀ z ∈ M, WZ N z) (h : BX N g M b) (hc : c < N) : M.countP (fun z => key z == 4 * c + b) ≤ 4 ∧ (ln g c b < 3 → M.countP (fun z => key z == 4 * c + b) = 0) := by
  have e := (bx_line h hc)
  obtain ⟨L, k, n, A, i, f, s, m, h, w, S, H, hR, hI⟩ := h
  have hM := rb_m hR
  have e8 := ((rb_g hR).1 c hc).1
  obtain ⟨l1, -⟩ := hI.1 c hc
  have eL : ln g c b = L c := by unfold ln; rw [e8]; exact nI_clamp (by have := l1.1; omega)
  rw [cnt_key hb hW]
  have v1 := (hM.1 c hc).1
  have v2 := (hM.1 c hc).2.1
  have hl : (M.filter (pm c b)).length = if k c = 0 then 0 else 1 := by
    have := congrArg List.length v1
    rw [List.length_map] at this
    rw [this]
    split <;> rfl
  rw [hl, v2, eL]
  unfold LI1 at l1
  constructor
  · split <;> omega
  · intro q
    rw [if_pos (by omega)]
    omega
theorem bx_cntH {N : Nat} {g : PS} {M : List Msg} {b : Nat} (hN4 : N ≤ 4) (hb : b < 4) (hW : ∀ z ∈ M, WZ N z) (h : BX N g M b) : M.countP (fun z => key z == 16 + b) ≤ 1 := by
  obtain ⟨L, k, n, A, i, f, s, m, h, w, S, H, hR, hI⟩ := h
  have hM := rb_m hR
  have b6 := hI.2.2.2.2.2.1
  have : M.countP (fun z => key z == 16 + b) ≤ M.countP (pH b) := by
    apply List.countP_mono_left
    intro z hz hk
    have hb4 := (hW z hz).2.1
    simp only [beq_iff_eq] at hk
    unfold key at hk
    rcases cl_lt hN4 (hW z hz) with q | ⟨q1, q2, q3⟩
    · omega
    · simp [pH, q2, q3]; omega
  rw [hM.2.2] at this
  split at b6 <;> omega
theorem inv_len {N : Nat} {g : PS} {M : List Msg} (h : Inv N g M) : M.length ≤ 20 := by
  obtain ⟨⟨h0, hN2, hN4, -⟩, hP, hW, hB, hT⟩ := h
  have hk : ∀ z ∈ M, key z < 20 := by
    intro z hz
    have hb4 := (hW z hz).2.1
    unfold key
    rcases cl_lt hN4 (hW z hz) with q | q <;> omega
  rw [len_keys hk]
  have hcore : ∀ c, c < 4 → M.countP (fun z => key z == 4 * c + 0) + M.countP (fun z => key z == 4 * c + 1) + M.countP (fun z => key z == 4 * c + 2) + M.countP (fun z => key z == 4 * c + 3) ≤ 4 := by
    intro c hc
    by_cases hcN : c < N
    · have x0 := bx_cnt (c := c) (by decide) hW (hB 0 (by decide)) hcN
      have x1 := bx_cnt (c := c) (by decide) hW (hB 1 (by decide)) hcN
      have x2 := bx_cnt (c := c) (by decide) hW (hB 2 (by decide)) hcN
      have x3 := bx_cnt (c := c) (by decide) hW (hB 3 (by decide)) hcN
      obtain ⟨t0, t1, t2⟩ := hT c hcN
      obtain ⟨sz, pl, w, -, -, -, -, hw, h7, -⟩ := hP c hc
      have one : ∃ b0, b0 < 4 ∧ ∀ b, b < 4 → b ≠ b0 → ln g c b < 3 := by
        rcases (show w = 0 ∨ w = 1 ∨ w = 2 by omega) with rfl | rfl | rfl
        · exact ⟨0, by decide, fun b hb _ => t0 h7 b hb⟩
        · obtain ⟨b0, pl, o, sz, q1, q2, q3, q4, q5, q6, q7, q8, q9, q10, q11, q12⟩ := t1 h7
          exact ⟨b0, q1, q12⟩
        · obtain ⟨b0, q1, q2, q3⟩ := t2 h7
          exact ⟨b0, q1, q3⟩
      obtain ⟨b0, hb0, hno⟩ := one
      rcases (show b0 = 0 ∨ b0 = 1 ∨ b0 = 2 ∨ b0 = 3 by omega) with rfl | rfl | rfl | rfl
      · have y1 := x1.2 (hno 1 (by decide) (by decide)); have y2 := x2.2 (hno 2 (by decide) (by decide)); have y3 := x3.2 (hno 3 (by decide) (by decide)); have := x0.1; omega
      · have y1 := x0.2 (hno 0 (by decide) (by decide)); have y2 := x2.2 (hno 2 (by decide) (by decide)); have y3 := x3.2 (hno 3 (by decide) (by decide)); have := x1.1; omega
      · have y1 := x1.2 (hno 1 (by decide) (by decide)); have y2 := x0.2 (hno 0 (by decide) (by decide)); have y3 := x3.2 (hno 3 (by decide) (by decide)); have := x2.1; omega
      · have y1 := x1.2 (hno 1 (by decide) (by decide)); have y2 := x2.2 (hno 2 (by decide) (by decide)); have y3 := x0.2 (hno 0 (by decide) (by decide)); have := x3.1; omega
    · have z0 : ∀ b, b < 4 → M.countP (fun z => key z == 4 * c + b) = 0 := by
        intro b hb
        rw [List.countP_eq_zero]
        intro z hz hk
        simp only [beq_iff_eq] at hk
        have hb4 := (hW z hz).2.1
        unfold key at hk
        rcases cl_lt hN4 (hW z hz) with q | q <;> omega
      rw [z0 0 (by decide), z0 1 (by decide), z0 2 (by decide), z0 3 (by decide)]
      decide
  have c0 := hcore 0 (by decide)
  have c1 := hcore 1 (by decide)
  have c2 := hcore 2 (by decide)
  have c3 := hcore 3 (by decide)
  have d0 := bx_cntH hN4 (by decide) hW (hB 0 (by decide))
  have d1 := bx_cntH hN4 (by decide) hW (hB 1 (by decide))
  have d2 := bx_cntH hN4 (by decide) hW (hB 2 (by decide))
  have d3 := bx_cntH hN4 (by decide) hW (hB 3 (by decide))
  simp only [ks]
  simp only [Nat.reduceMul, Nat.reduceAdd, Nat.mul_zero, Nat.zero_add, Nat.add_zero] at c0 c1 c2 c3 d0 d1 d2 d3 ⊢
  omega
