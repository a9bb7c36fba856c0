/-! ===== the public methods' pure functions ===== -/
def s_code3 (g : PS) (core op x : Int32) : Int32 × PS := if g 5 core.toNatClampNeg = 16 then (0, g)
  else (1, up2 (up2 (up2 g 3 (16 * core.toNatClampNeg + (g 5 core.toNatClampNeg).toNatClampNeg) op) 4 (16 * core.toNatClampNeg + (g 5 core.toNatClampNeg).toNatClampNeg) x) 5 core.toNatClampNeg (g 5 core.toNatClampNeg + 1))
def s_code2 (g : PS) (core op x : Int32) : Int32 × PS := if op = 3 then (if x < 0 then (0, g) else if 15 < x then (0, g) else s_code3 g core op x) else s_code3 g core op x
def s_code (g : PS) (core op x : Int32) : Int32 × PS :=
  if s_isCore g core = 0 then (0, g) else if op < 0 then (0, g) else if 5 < op then (0, g)
  else if s_access op = 0 then s_code2 g core op x else if s_isBlock x = 0 then (0, g) else s_code2 g core op x
def s_go (g : PS) (core pl : Int32) : Int32 × PS :=
  if s_isCore g core = 0 then (0, g) else if ¬ g 7 core.toNatClampNeg = 0 then (0, g) else if pl < 0 then (0, g) else if pl ≤ 16 then (1, up2 g 6 core.toNatClampNeg pl) else (0, g)
/-- an access of core c at its place pl to block b with the operation op -/
def s_acc (g : PS) (c pl b : Nat) (op : Int32) : Int32 × PS × List Msg :=
  if g 8 (4 * c + b) = 2 then (1, s_perform g c pl b, [])
  else if g 8 (4 * c + b) = 1 then (if op = 0 then (1, s_perform g c pl b, []) else (2, s_ask g c b 6, [(1, c, 4, b, 0, 0, 0)]))
  else if nI (s_used g c 4) < g 1 0 then (if op = 0 then (2, s_ask g c b 3, [(0, c, 4, b, 0, 0, 0)]) else (2, s_ask g c b 4, [(1, c, 4, b, 0, 0, 0)]))
  else (3, s_replG g c (s_vic g c 4 - 1), [s_replQ g c (s_vic g c 4 - 1)])
def s_step2 (g : PS) (c pl : Nat) : Int32 × PS × List Msg :=
  if s_access (g 3 (16 * c + pl)) = 0 then (1, s_plain g c (g 3 (16 * c + pl)) (g 4 (16 * c + pl)), []) else s_acc g c pl (g 4 (16 * c + pl)).toNatClampNeg (g 3 (16 * c + pl))
def s_step (g : PS) (core : Int32) : Int32 × PS × List Msg :=
  if s_isCore g core = 0 then (-1, g, []) else if g 7 core.toNatClampNeg = 0 then
    (if g 6 core.toNatClampNeg < g 5 core.toNatClampNeg then s_step2 g core.toNatClampNeg (g 6 core.toNatClampNeg).toNatClampNeg else (4, g, []))
  else (0, g, [])
theorem s_vic_pos (g : PS) (c : Nat) : ∀ n, 0 < s_used g c n → 0 < s_vic g c n
  | 0, h => absurd h (Nat.lt_irrefl 0)
  | b + 1, h => by
    have ih := s_vic_pos g c b
    unfold s_used at h
    unfold s_vic
    split at h
    · next h0 => rw [if_pos h0]; exact ih h
    · next h0 =>
      rw [if_neg h0]
      split
      · omega
      · split <;> omega
theorem vic_of {g : PS} {c R : Nat} (hR : g 1 0 = nI R) (hR1 : 1 ≤ R) (hR3 : R ≤ 3) (h : ¬ nI (s_used g c 4) < g 1 0) : ∃ v, v < 4 ∧ s_vic g c 4 = v + 1 := by
  have hu := s_used_le g c 4
  rw [hR, nI_ltI (by omega) (by omega)] at h
  have h1 := s_vic_pos g c 4 (by omega)
  have h2 := s_vic_le g c 4
  exact ⟨s_vic g c 4 - 1, by omega, by omega⟩
/-- what every message must be like -/
def WfM (M : List Msg) : Prop := ∀ (i : Nat) (z : Msg), M[i]? = some z → z.1 < 10 ∧ z.2.1 < 5 ∧ z.2.2.1 < 5 ∧ z.2.2.2.1 < 4 ∧ (z.2.2.1 = 4 → z.2.1 < 4) ∧ (z.1 = 4 ∨ z.1 = 5 ∨ z.1 = 6 → ∃ a, a < 4 ∧ z.2.2.2.2.2.2 = a + 1)
def s_handG (g : PS) (q : Msg) : PS := if q.2.2.1 = 4 then s_ahG g q.1 q.2.1 q.2.2.2.1 q.2.2.2.2.1 else s_fin (s_acG g q.1 q.2.2.1 q.2.2.2.1 q.2.2.2.2.1 q.2.2.2.2.2.1) q.2.2.1 q.2.2.2.1
def s_handQ (g : PS) (q : Msg) : List Msg := if q.2.2.1 = 4 then s_ahQ g q.1 q.2.1 q.2.2.2.1 else s_acQ g q.1 q.2.2.1 q.2.2.2.1 q.2.2.2.2.2.2
def s_deliver (g : PS) (M : List Msg) (k : Int32) : Int32 × PS × List Msg :=
  if k < 0 then (-1, g, M) else if k < nI M.length then
    (match M[k.toNatClampNeg]? with
     | none => (-1, g, M)
     | some q => if s_behind M k.toNatClampNeg q = 0 then (if s_stalls g q = 0 then (nI (M.eraseIdx k.toNatClampNeg ++ s_handQ g q).length, s_handG g q, M.eraseIdx k.toNatClampNeg ++ s_handQ g q) else (-3, g, M)) else (-2, g, M))
  else (-1, g, M)
def m_field (q : Msg) (w : Int32) : Int32 := if w = 0 then nI q.1 else if w = 1 then nI q.2.1 else if w = 2 then nI q.2.2.1 else if w = 3 then nI q.2.2.2.1 else if w = 4 then q.2.2.2.2.1 else if w = 5 then nI q.2.2.2.2.2.1 else rq q.2.2.2.2.2.2
def s_message (M : List Msg) (k w : Int32) : Int32 :=
  if k < 0 then -1 else if nI M.length ≤ k then -1 else if w < 0 then -1 else if w ≤ 6 then (match M[k.toNatClampNeg]? with | none => -1 | some q => m_field q w) else -1
def s_line (g : PS) (core block : Int32) : Int32 := if s_isCore g core = 0 then -1 else if s_isBlock block = 0 then -1 else g 8 (4 * core.toNatClampNeg + block.toNatClampNeg)
def s_means (s : Int32) : Prop := s = 1 ∨ s = 2 ∨ s = 6 ∨ s = 7 ∨ s = 8 ∨ s = 9
def s_word (g : PS) (core block : Int32) : Int32 := if s_isCore g core = 0 then 0 else if s_isBlock block = 0 then 0 else if g 8 (4 * core.toNatClampNeg + block.toNatClampNeg) = 1 ∨ g 8 (4 * core.toNatClampNeg + block.toNatClampNeg) = 2 ∨ g 8 (4 * core.toNatClampNeg + block.toNatClampNeg) = 6 ∨ g 8 (4 * core.toNatClampNeg + block.toNatClampNeg) = 7 ∨ g 8 (4 * core.toNatClampNeg + block.toNatClampNeg) = 8 ∨ g 8 (4 * core.toNatClampNeg + block.toNatClampNeg) = 9 then g 9 (4 * core.toNatClampNeg + block.toNatClampNeg) else 0
def s_home (g : PS) (block : Int32) : Int32 := if s_isBlock block = 0 then -1 else g 14 block.toNatClampNeg + (if g 14 block.toNatClampNeg = 2 then 4 * (g 15 block.toNatClampNeg + 1) else 0) + nI (32 * s_set g block.toNatClampNeg 4)
def s_memory (g : PS) (block : Int32) : Int32 := if s_isBlock block = 0 then 0 else g 13 block.toNatClampNeg
def s_accum (g : PS) (core : Int32) : Int32 := if s_isCore g core = 0 then 0 else g 2 core.toNatClampNeg
def s_place (g : PS) (core : Int32) : Int32 := if s_isCore g core = 0 then -1 else g 6 core.toNatClampNeg + 32 * g 7 core.toNatClampNeg
theorem ix_of {x : Int32} {n : Nat} (hn : n < 2 ^ 31) (h0 : ¬ x < 0) (h1 : ¬ nI n ≤ x) : ∃ j : Nat, j < n ∧ x = nI j := by
  rcases pk_ix x hn with h | h | h
  · exact absurd h h0
  · exact absurd h h1
  · exact h
theorem isCore_of {g : PS} {x : Int32} {N : Nat} (hN : g 0 0 = nI N) (hN4 : N ≤ 4) (h : ¬ s_isCore g x = 0) : ∃ c : Nat, c < N ∧ x = nI c := by
  unfold s_isCore at h
  by_cases h0 : x < 0
  · rw [if_pos h0] at h; exact absurd rfl h
  · rw [if_neg h0] at h
    by_cases h1 : g 0 0 ≤ x
    · rw [if_pos h1] at h; exact absurd rfl h
    · rw [hN] at h1; exact ix_of (by omega) h0 h1
theorem isBlock_of {x : Int32} (h : ¬ s_isBlock x = 0) : ∃ b : Nat, b < 4 ∧ x = nI b := by
  unfold s_isBlock at h
  by_cases h0 : x < 0
  · rw [if_pos h0] at h; exact absurd rfl h
  · rw [if_neg h0] at h
    by_cases h1 : 3 < x
    · rw [if_pos h1] at h; exact absurd rfl h
    · refine ix_of (by omega) h0 (fun q => h1 ?_)
      rw [show (nI 4 : Int32) = 4 from rfl] at q
      rw [Int32.lt_iff_toInt_lt]
      rw [Int32.le_iff_toInt_le] at q
      have e3 : (3 : Int32).toInt = 3 := by decide
      have e4 : (4 : Int32).toInt = 4 := by decide
      rw [e4] at q
      rw [e3]
      omega
theorem s_acG_o (g : PS) (kd c b : Nat) (v : Int32) (nb : Nat) {k : Nat} (h : k ≠ 7 ∧ k ≠ 8 ∧ k ≠ 9 ∧ k ≠ 10 ∧ k ≠ 18) : s_acG g kd c b v nb k = g k := by
  obtain ⟨h7, h8, h9, h10, h18⟩ := h
  unfold s_acG
  split
  · rw [up2_k _ _ h8, up2_k _ _ h10, up2_k _ _ h9]
  · split
    · rw [up2_k _ _ h8, up2_k _ _ h10]
    · split
      · rw [up2_k _ _ h8, snd, up2_k _ _ h18]
      · split
        · rw [up2_k _ _ h8, snd, up2_k _ _ h18, snd, up2_k _ _ h18]
        · split
          · rw [up2_k _ _ h8, snd, up2_k _ _ h18]
          · rw [up2_k _ _ h7, up2_k _ _ h8]
theorem s_acG_7 (g : PS) (kd c b : Nat) (v : Int32) (nb j : Nat) : s_acG g kd c b v nb 7 j = g 7 j ∨ (j = c ∧ s_acG g kd c b v nb 7 j = 0) := by
  unfold s_acG
  split
  · exact Or.inl rfl
  · split
    · exact Or.inl rfl
    · split
      · exact Or.inl rfl
      · split
        · exact Or.inl rfl
        · split
          · exact Or.inl rfl
          · by_cases hj : j = c
            · subst hj
              exact Or.inr ⟨rfl, up2_s _ _ _ _⟩
            · exact Or.inl (by rw [up2_j _ _ hj]; rfl)
