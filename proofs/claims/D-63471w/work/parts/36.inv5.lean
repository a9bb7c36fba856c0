/-! ===== a delivery to a core ===== -/
theorem ofi_nat (n : Nat) : nI n = Int32.ofInt (n : Int) := by
  show Int32.ofNat n = _
  exact (Int32.ofInt_eq_ofNat).symm
theorem ofi_add (m : Int) (n : Nat) : Int32.ofInt m + nI n = Int32.ofInt (m + n) := by
  rw [ofi_nat, Int32.ofInt_add]
theorem ofi_sub (m : Int) : Int32.ofInt m - 1 = Int32.ofInt (m - 1) := by
  rw [Int32.ofInt_sub]; rfl
theorem ofi_zero {q : Int} (h1 : -10 ≤ q) (h2 : q ≤ 10) : Int32.ofInt q = 0 ↔ q = 0 := by
  constructor
  · intro e
    have := congrArg Int32.toInt e
    rw [Int32.toInt_ofInt_of_le (by omega) (by omega)] at this
    exact this
  · intro e
    subst e
    rfl
theorem gb_8 {N : Nat} {g : PS} {b : Nat} {L s : Nat → Nat} {m : Nat → Int} {h w : Nat} (hG : GB N g b L s m h w) (c0 q : Nat) : GB N (up2 g 8 (4 * c0 + b) (nI q)) b (fu L c0 q) s m h w := by
  obtain ⟨h1, h2, h3, h4⟩ := hG
  refine ⟨fun c hc => ?_, h2, h3, h4⟩
  by_cases e : c = c0
  · subst e
    rw [fu_self, up2_at]
    exact ⟨rfl, (h1 c hc).2⟩
  · rw [fu_ne _ _ e, up2_j _ _ (by omega)]
    exact h1 c hc
theorem gb_10 {N : Nat} {g : PS} {b : Nat} {L s : Nat → Nat} {m : Nat → Int} {h w : Nat} (hG : GB N g b L s m h w) (c0 : Nat) (q : Int) : GB N (up2 g 10 (4 * c0 + b) (Int32.ofInt q)) b L s (fu m c0 q) h w := by
  obtain ⟨h1, h2, h3, h4⟩ := hG
  refine ⟨fun c hc => ?_, h2, h3, h4⟩
  by_cases e : c = c0
  · subst e
    rw [fu_self, up2_at]
    exact ⟨(h1 c hc).1, rfl⟩
  · rw [fu_ne _ _ e, up2_j _ _ (by omega)]
    exact h1 c hc
theorem gb_9 {N : Nat} {g : PS} {b : Nat} {L s : Nat → Nat} {m : Nat → Int} {h w : Nat} (hG : GB N g b L s m h w) (j : Nat) (v : Int32) : GB N (up2 g 9 j v) b L s m h w := hG
theorem gb_7 {N : Nat} {g : PS} {b : Nat} {L s : Nat → Nat} {m : Nat → Int} {h w : Nat} (hG : GB N g b L s m h w) (j : Nat) (v : Int32) : GB N (up2 g 7 j v) b L s m h w := hG
/-- how a line goes on -/
def TR (st kd st2 : Nat) : Prop := (kd = 8 ∧ st = 3 ∧ st2 = 1) ∨ (kd = 8 ∧ (st = 4 ∨ st = 6) ∧ (st2 = 2 ∨ st2 = 5 ∨ st2 = 7)) ∨ (kd = 9 ∧ (st = 4 ∨ st = 6) ∧ st2 = st) ∨ (kd = 9 ∧ (st = 5 ∨ st = 7) ∧ (st2 = st ∨ st2 = 2)) ∨ (kd = 6 ∧ ((st = 1 ∧ st2 = 0) ∨ (st = 6 ∧ st2 = 4) ∨ (st = 9 ∧ st2 = 10))) ∨ (kd = 4 ∧ ((st = 2 ∧ st2 = 1) ∨ (st = 8 ∧ st2 = 9))) ∨ (kd = 5 ∧ ((st = 2 ∧ st2 = 0) ∨ (st = 8 ∧ st2 = 10))) ∨ (kd = 7 ∧ (st = 8 ∨ st = 9 ∨ st = 10) ∧ st2 = 0)
theorem qq_front {i f k x : Nat} {l : List Nat} (h : qq i f k = x :: l) (hf : f = 0 ∨ f = 4 ∨ f = 5) (hi : i ≤ 1) : (x = 6 → i = 1) ∧ (x = 4 → i = 0 ∧ f = 4) ∧ (x = 5 → i = 0 ∧ f = 5) ∧ (x = 7 → i = 0 ∧ f = 0 ∧ k = 8) := by
  rcases (show i = 0 ∨ i = 1 by omega) with rfl | rfl
  · rcases hf with rfl | rfl | rfl
    · by_cases hk : k = 8
      · simp [qq, hk] at h; omega
      · simp [qq, hk] at h
    · simp [qq] at h; omega
    · simp [qq] at h; omega
  · simp [qq] at h; omega
/-- what is known of the line that a message comes to -/
theorem at_core {N : Nat} {g : PS} {M : List Msg} {b j kd fr t : Nat} {v : Int32} {nb aq : Nat} {L k n A i f s : Nat → Nat} {m : Nat → Int} {h w S H : Nat} (hN4 : N ≤ 4) (hR : RB N g M b L k n A i f s m h w S H) (hI : BI N L k n A i f s m h w S H) (hW : ∀ z ∈ M, WZ N z) (hz : M[j]? = some (kd, fr, t, b, v, nb, aq)) (ht : t ≠ 4) (hbh : s_behind M j (kd, fr, t, b, v, nb, aq) = 0) :
    t < N ∧ (fw kd = true → (M.take j).any (pq t b) = false) ∧ ((kd = 8 ∧ k t = 9 ∧ n t = nb) ∨ (kd = 9 ∧ 0 < A t) ∨ (kd = 6 ∧ fr = 4 ∧ i t = 1 ∧ ∃ a, a < N ∧ aq = a + 1) ∨ ((kd = 4 ∨ kd = 5) ∧ fr = 4 ∧ i t = 0 ∧ f t = kd ∧ ∃ a, a < N ∧ aq = a + 1 ∧ k a = kd + 1) ∨ (kd = 7 ∧ fr = 4 ∧ i t = 0 ∧ f t = 0 ∧ k t = 8)) := by
  have hM := rb_m hR
  obtain ⟨w1, w2, w3, w4, w5, w6, w7⟩ := hW _ (List.mem_of_getElem? hz)
  replace w1 : kd < 10 := w1
  replace w3 : kd < 4 → t = 4 ∧ fr < N := w3
  replace w4 : 4 ≤ kd ∧ kd ≤ 6 → fr = 4 ∧ t < N ∧ ∃ a, a < N ∧ aq = a + 1 := w4
  replace w5 : kd = 7 → fr = 4 ∧ t < N := w5
  replace w6 : kd = 8 → fr < 5 ∧ (t < N ∨ (t = 4 ∧ fr < N)) := w6
  replace w7 : kd = 9 → fr < N ∧ t < N := w7
  have h4 : 4 ≤ kd := Nat.le_of_not_lt fun q => ht (w3 q).1
  have htN : t < N := by
    by_cases e6 : kd ≤ 6
    · exact (w4 ⟨h4, e6⟩).2.1
    · rcases (show kd = 7 ∨ kd = 8 ∨ kd = 9 by omega) with e | e | e
      · exact (w5 e).2
      · rcases (w6 e).2 with q | q
        · exact q
        · exact absurd q.1 ht
      · exact (w7 e).2
  have hfront : fw kd = true → (M.take j).any (pq t b) = false := by
    intro hf
    unfold s_behind at hbh
    cases hq : (M.take j).any (pq t b) with
    | false => rfl
    | true =>
      have hq' : (M.take j).any (same (kd, fr, t, b, v, nb, aq)) = true := hq
      rw [if_pos hq', if_pos hf] at hbh
      exact absurd hbh (by decide)
  obtain ⟨-, l2, -⟩ := hI.1 t htN
  have hv := hM.1 t htN
  have hqf : fw kd = true → ∃ l, qq (i t) (f t) (k t) = kd :: l := by
    intro hf
    have hp : pq t b (kd, fr, t, b, v, nb, aq) = true := by simp [pq, hf]
    have e := hv.2.2
    rw [fil_front hz hp (hfront hf), List.map_cons] at e
    exact ⟨_, e.symm⟩
  refine ⟨htN, hfront, ?_⟩
  rcases (show kd = 4 ∨ kd = 5 ∨ kd = 6 ∨ kd = 7 ∨ kd = 8 ∨ kd = 9 by omega) with rfl | rfl | rfl | rfl | rfl | rfl
  · obtain ⟨l, hl⟩ := hqf (by decide)
    obtain ⟨e1, -, a, ha, e2⟩ := w4 (by decide)
    obtain ⟨q1, q2, q3, q4⟩ := qq_front hl l2.2.1 l2.1
    subst e2
    exact Or.inr (Or.inr (Or.inr (Or.inl ⟨Or.inl rfl, e1, (q2 rfl).1, (q2 rfl).2, a, ha, rfl, (vw_main (hM.1 a ha) hz (by simp [pm, cl])).1⟩)))
  · obtain ⟨l, hl⟩ := hqf (by decide)
    obtain ⟨e1, -, a, ha, e2⟩ := w4 (by decide)
    obtain ⟨q1, q2, q3, q4⟩ := qq_front hl l2.2.1 l2.1
    subst e2
    exact Or.inr (Or.inr (Or.inr (Or.inl ⟨Or.inr rfl, e1, (q3 rfl).1, (q3 rfl).2, a, ha, rfl, (vw_main (hM.1 a ha) hz (by simp [pm, cl])).1⟩)))
  · obtain ⟨l, hl⟩ := hqf (by decide)
    obtain ⟨e1, -, e2⟩ := w4 (by decide)
    obtain ⟨q1, q2, q3, q4⟩ := qq_front hl l2.2.1 l2.1
    exact Or.inr (Or.inr (Or.inl ⟨rfl, e1, q1 rfl, e2⟩))
  · obtain ⟨l, hl⟩ := hqf (by decide)
    obtain ⟨q1, q2, q3, q4⟩ := qq_front hl l2.2.1 l2.1
    exact Or.inr (Or.inr (Or.inr (Or.inr ⟨rfl, (w5 rfl).1, q4 rfl⟩)))
  · have := vw_main hv hz (by simp [pm, cl])
    exact Or.inl ⟨rfl, this.1, this.2.1⟩
  · refine Or.inr (Or.inl ⟨rfl, ?_⟩)
    rw [← hv.2.1, List.countP_pos_iff]
    exact ⟨_, List.mem_of_getElem? hz, by simp [pa, cl]⟩
