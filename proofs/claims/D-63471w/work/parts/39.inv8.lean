/-! ===== what the contracts ask ===== -/
theorem inv_okStep {N : Nat} {g : PS} {M : List Msg} (h : Inv N g M) : okStep g N := by
  obtain ⟨⟨h0, hN2, hN4, hR, hck⟩, hP, hW, hB, hT⟩ := h
  refine ⟨h0, hN4, hR, fun c hc => ?_, fun c hc => ?_, fun c hc => ?_, fun c hc i sz hsz h5 hi => ?_, fun c hc h7 b hb => ?_, hck, fun c b hc hb h8 => ?_⟩
  · obtain ⟨sz, pl, w, p1, p2, p3, p4, p5, p6, -⟩ := hP c hc
    exact ⟨w, p5, p6⟩
  · obtain ⟨sz, pl, w, p1, p2, p3, p4, -⟩ := hP c hc
    exact ⟨pl, p3, p4⟩
  · obtain ⟨sz, pl, w, p1, p2, -⟩ := hP c hc
    exact ⟨sz, p1, p2⟩
  · obtain ⟨sz', pl, w, p1, p2, p3, p4, p5, p6, p7, p8⟩ := hP c hc
    have e : sz = sz' := (nI_eq (by omega) (by omega)).mp (h5.symm.trans p2)
    subst e
    obtain ⟨o, q1, q2, q3, q4⟩ := p8 i hi
    exact ⟨o, q1, q2, q3⟩
  · have := (hT c hc).1 h7 b hb
    exact ⟨_, this, (bx_line (hB b hb) hc).2.1⟩
  · obtain ⟨l1, l2, l3⟩ := bx_line (hB b hb) hc
    rw [l2] at h8
    exact l3 ((nI_eq (b := 0) (by omega) (by omega)).mp h8)
theorem inv_wait {N : Nat} {g : PS} {M : List Msg} (h : Inv N g M) (c : Nat) (hc : c < 4) (h7 : g 7 c = 1) : c < N := by
  refine Classical.byContradiction fun q => ?_
  obtain ⟨sz, pl, w, p1, p2, p3, p4, p5, p6, p7, p8⟩ := h.2.1 c hc
  rw [p7 (by omega)] at p6
  rw [p6] at h7
  exact absurd h7 (by decide)
theorem inv_okDel {N : Nat} {g : PS} {M : List Msg} (h : Inv N g M) : okDel g M N := by
  have hlen := inv_len h
  obtain ⟨⟨h0, hN2, hN4, hR, hck⟩, hP, hW, hB, hT⟩ := h
  refine ⟨hN4, by omega, wz_wf hN4 hW, fun b hb => bx_kept hN4 (hB b hb), wz_home hN4 hW, fun j z hz h4 hbh => ?_, fun c hc => ?_, hck⟩
  · obtain ⟨kd, fr, t, b, v, nb, aq⟩ := z
    exact core_ok hN4 (hB b (hW _ (List.mem_of_getElem? hz)).2.1) hW hz h4 hbh
  · obtain ⟨sz, pl, w, p1, p2, p3, p4, p5, p6, -⟩ := hP c (by omega)
    refine ⟨w, p5, p6, fun hw => ?_⟩
    subst hw
    obtain ⟨b0, pl, o, sz, q1, q2, q3, q4, q5, q6, q7, -⟩ := (hT c hc).2.1 p6
    exact ⟨pl, o, by omega, q4, q6, q7⟩
theorem inv_tw {N : Nat} {g : PS} {M : List Msg} (h : Inv N g M) : (∀ c, c < 4 → ∃ pl, pl ≤ 16 ∧ g 6 c = nI pl) ∧ (∀ c, c < 4 → ∃ sz, sz ≤ 16 ∧ g 5 c = nI sz) ∧ (∀ c, c < 4 → ∀ i sz, sz ≤ 16 → g 5 c = nI sz → i < sz → ¬ s_access (g 3 (16 * c + i)) = 0 → ∃ b, b < 4 ∧ g 4 (16 * c + i) = nI b) ∧ (∀ b, b < 4 → g 14 b = 2 → ∃ o, o < 4 ∧ g 15 b = nI o) ∧ (∀ c, c < 4 → g 7 c = 1 → ∃ pl xb, pl < 16 ∧ xb < 4 ∧ g 6 c = nI pl ∧ g 4 (16 * c + pl) = nI xb) := by
  have hw := inv_wait h
  obtain ⟨⟨h0, hN2, hN4, hR, hck⟩, hP, hW, hB, hT⟩ := h
  refine ⟨fun c hc => ?_, fun c hc => ?_, fun c hc i sz hsz h5 hi ha => ?_, fun b hb h14 => ?_, fun c hc h7 => ?_⟩
  · obtain ⟨sz, pl, w, p1, p2, p3, p4, -⟩ := hP c hc
    exact ⟨pl, p3, p4⟩
  · obtain ⟨sz, pl, w, p1, p2, -⟩ := hP c hc
    exact ⟨sz, p1, p2⟩
  · obtain ⟨sz', pl, w, p1, p2, p3, p4, p5, p6, p7, p8⟩ := hP c hc
    have hi' : i < sz' := by
      have e : sz = sz' := (nI_eq (by omega) (by omega)).mp (h5.symm.trans p2)
      omega
    obtain ⟨o, q1, q2, q3, q4⟩ := p8 i hi'
    rw [q2] at ha
    exact q3 ha
  · obtain ⟨st, q1, q2, q3, q4⟩ := bx_kept hN4 (hB b hb)
    rw [q2] at h14
    exact q3 ((nI_eq (b := 2) (by omega) (by omega)).mp h14)
  · obtain ⟨b0, pl, o, sz, q1, q2, q3, q4, q5, q6, q7, q8, -⟩ := (hT c (hw c hc h7)).2.1 h7
    exact ⟨pl, b0, by omega, q1, q4, q8⟩
