/-! ===== a delivery keeps the invariant ===== -/
theorem gB_rf {N : Nat} {g : PS} {b : Nat} : gB N g b g := ⟨fun _ _ => ⟨rfl, rfl⟩, fun _ _ => rfl, rfl, rfl⟩
theorem gB_o {N : Nat} {g g1 : PS} {b k j : Nat} {v : Int32} (h : gB N g b g1) (hk : k ≠ 8 ∧ k ≠ 10 ∧ k ≠ 14 ∧ k ≠ 15 ∧ k ≠ 16) : gB N g b (up2 g1 k j v) := by
  obtain ⟨h8, h10, h14, h15, h16⟩ := hk
  obtain ⟨a1, a2, a3, a4⟩ := h
  refine ⟨fun c hc => ?_, fun c hc => ?_, ?_, ?_⟩
  · rw [up2_k _ _ (Ne.symm h8), up2_k _ _ (Ne.symm h10)]; exact a1 c hc
  · rw [up2_k _ _ (Ne.symm h16)]; exact a2 c hc
  · rw [up2_k _ _ (Ne.symm h14)]; exact a3
  · rw [up2_k _ _ (Ne.symm h15)]; exact a4
theorem gB_14 {N : Nat} {g g1 : PS} {b b0 : Nat} {v : Int32} (h : gB N g b g1) (hb : b ≠ b0) : gB N g b (up2 g1 14 b0 v) := ⟨h.1, h.2.1, by rw [up2_j _ _ hb]; exact h.2.2.1, h.2.2.2⟩
theorem gB_15 {N : Nat} {g g1 : PS} {b b0 : Nat} {v : Int32} (h : gB N g b g1) (hb : b ≠ b0) : gB N g b (up2 g1 15 b0 v) := ⟨h.1, h.2.1, h.2.2.1, by rw [up2_j _ _ hb]; exact h.2.2.2⟩
theorem gB_16 {N : Nat} {g g1 : PS} {b b0 x : Nat} {v : Int32} (h : gB N g b g1) (hb : b ≠ b0) (hx : x < 4) : gB N g b (up2 g1 16 (4 * b0 + x) v) := ⟨h.1, fun c hc => by rw [up2_j _ _ (by omega)]; exact h.2.1 c hc, h.2.2.1, h.2.2.2⟩
theorem gB_8 {N : Nat} {g g1 : PS} {b b0 c0 : Nat} {v : Int32} (h : gB N g b g1) (hb : b ≠ b0) (h4 : b < 4) (h40 : b0 < 4) : gB N g b (up2 g1 8 (4 * c0 + b0) v) := ⟨fun c hc => ⟨by rw [up2_j _ _ (by omega)]; exact (h.1 c hc).1, (h.1 c hc).2⟩, h.2.1, h.2.2.1, h.2.2.2⟩
theorem gB_10 {N : Nat} {g g1 : PS} {b b0 c0 : Nat} {v : Int32} (h : gB N g b g1) (hb : b ≠ b0) (h4 : b < 4) (h40 : b0 < 4) : gB N g b (up2 g1 10 (4 * c0 + b0) v) := ⟨fun c hc => ⟨(h.1 c hc).1, by rw [up2_j _ _ (by omega)]; exact (h.1 c hc).2⟩, h.2.1, h.2.2.1, h.2.2.2⟩
theorem gB_snd {N : Nat} {g g1 : PS} {b : Nat} (h : gB N g b g1) : gB N g b (snd g1) := gB_o h (by decide)
theorem gB_inv {N : Nat} {g g1 : PS} {b b0 r : Nat} (h : gB N g b g1) (hb : b ≠ b0) : ∀ n, n ≤ 4 → gB N g b (s_invG g1 b0 r n)
  | 0, _ => h
  | n + 1, hn => by
    have ih := gB_inv (r := r) h hb n (by omega)
    unfold s_invG
    split
    · exact gB_16 ih hb (by omega)
    · split
      · exact gB_16 ih hb (by omega)
      · exact gB_16 (gB_snd ih) hb (by omega)
theorem ah_gB {N : Nat} {g : PS} {b b0 kd r : Nat} {v : Int32} (hb : b ≠ b0) (hr : r < 4) (ho : g 14 b0 = 2 → (g 15 b0).toNatClampNeg < 4) : gB N g b (s_ahG g kd r b0 v) := by
  unfold s_ahG s_getsG s_getmG
  split
  · split
    · next h2 => exact gB_16 (gB_14 (gB_15 (gB_16 (gB_snd gB_rf) hb (ho h2)) hb) hb) hb hr
    · exact gB_16 (gB_14 (gB_snd gB_rf) hb) hb hr
  · split
    · split
      · exact gB_14 (gB_15 (gB_snd gB_rf) hb) hb
      · exact gB_14 (gB_15 (gB_inv (gB_snd gB_rf) hb 4 (Nat.le_refl 4)) hb) hb
    · split
      · exact gB_14 (gB_o gB_rf (by decide)) hb
      · split
        · exact gB_snd (gB_14 (gB_15 (gB_o gB_rf (by decide)) hb) hb)
        · exact gB_snd (gB_14 (gB_16 gB_rf hb hr) hb)
theorem ac_gB {N : Nat} {g : PS} {b b0 kd c nb : Nat} {v : Int32} (hb : b ≠ b0) (h4 : b < 4) (h40 : b0 < 4) : gB N g b (s_acG g kd c b0 v nb) := by
  unfold s_acG
  split
  · exact gB_8 (gB_10 (gB_o gB_rf (by decide)) hb h4 h40) hb h4 h40
  · split
    · exact gB_8 (gB_10 gB_rf hb h4 h40) hb h4 h40
    · split
      · exact gB_8 (gB_snd gB_rf) hb h4 h40
      · split
        · exact gB_8 (gB_snd (gB_snd gB_rf)) hb h4 h40
        · split
          · exact gB_8 (gB_snd gB_rf) hb h4 h40
          · exact gB_o (gB_8 gB_rf hb h4 h40) (by decide)
theorem ah_k {g : PS} {kd r b : Nat} {v : Int32} {k : Nat} (h : k ≠ 13 ∧ k ≠ 14 ∧ k ≠ 15 ∧ k ≠ 16 ∧ k ≠ 18) : s_ahG g kd r b v k = g k := by
  obtain ⟨h13, h14, h15, h16, h18⟩ := h
  unfold s_ahG s_getsG s_getmG
  have hs : ∀ g1 : PS, snd g1 k = g1 k := fun g1 => up2_k _ _ h18
  split
  · split
    · rw [up2_k _ _ h16, up2_k _ _ h14, up2_k _ _ h15, up2_k _ _ h16, hs]
    · rw [up2_k _ _ h16, up2_k _ _ h14, hs]
  · split
    · split
      · rw [up2_k _ _ h14, up2_k _ _ h15, hs]
      · rw [up2_k _ _ h14, up2_k _ _ h15, s_invG_o _ _ _ h16 h18, hs]
    · split
      · rw [up2_k _ _ h14, up2_k _ _ h13]
      · split
        · rw [hs, up2_k _ _ h14, up2_k _ _ h15, up2_k _ _ h13]
        · rw [hs, up2_k _ _ h14, up2_k _ _ h16]
theorem ac_k {g : PS} {kd c b nb : Nat} {v : Int32} {k : Nat} (h : k ≠ 8 ∧ k ≠ 9 ∧ k ≠ 10 ∧ k ≠ 18 ∧ k ≠ 7) : s_acG g kd c b v nb k = g k := by
  obtain ⟨h8, h9, h10, h18, h7⟩ := h
  have hs : ∀ g1 : PS, snd g1 k = g1 k := fun g1 => up2_k _ _ h18
  unfold s_acG
  split
  · rw [up2_k _ _ h8, up2_k _ _ h10, up2_k _ _ h9]
  · split
    · rw [up2_k _ _ h8, up2_k _ _ h10]
    · split
      · rw [up2_k _ _ h8, hs]
      · split
        · rw [up2_k _ _ h8, hs, hs]
        · split
          · rw [up2_k _ _ h8, hs]
          · rw [up2_k _ _ h7, up2_k _ _ h8]
theorem ac_8 {g : PS} {kd c b nb j : Nat} {v : Int32} (h : j ≠ 4 * c + b) : s_acG g kd c b v nb 8 j = g 8 j := by
  unfold s_acG
  split
  · rw [up2_j _ _ h]; rfl
  · split
    · rw [up2_j _ _ h]; rfl
    · split
      · rw [up2_j _ _ h]; rfl
      · split
        · rw [up2_j _ _ h]; rfl
        · split
          · rw [up2_j _ _ h]; rfl
          · rw [up2_k _ _ (by decide), up2_j _ _ h]
theorem ac_7 {g : PS} {kd c b nb j : Nat} {v : Int32} (h : j ≠ c ∨ kd = 4 ∨ kd = 5 ∨ kd = 6 ∨ kd = 8 ∨ kd = 9) : s_acG g kd c b v nb 7 j = g 7 j := by
  unfold s_acG
  split
  · rfl
  · split
    · rfl
    · split
      · rfl
      · split
        · rfl
        · split
          · rfl
          · rw [up2_j _ _ (by omega)]; rfl
theorem ac_77 {g : PS} {c b nb : Nat} {v : Int32} : s_acG g 7 c b v nb 7 c = 0 := by
  unfold s_acG
  rw [if_neg (by decide), if_neg (by decide), if_neg (by decide), if_neg (by decide), if_neg (by decide), up2_at]
theorem wz_mk {N kd fr t b nb aq : Nat} {v : Int32} (h10 : kd < 10) (hb : b < 4) (h3 : kd < 4 → t = 4 ∧ fr < N) (h4 : 4 ≤ kd ∧ kd ≤ 6 → fr = 4 ∧ t < N ∧ ∃ a, a < N ∧ aq = a + 1) (h7 : kd = 7 → fr = 4 ∧ t < N) (h8 : kd = 8 → fr < 5 ∧ (t < N ∨ (t = 4 ∧ fr < N))) (h9 : kd = 9 → fr < N ∧ t < N) : WZ N (kd, fr, t, b, v, nb, aq) := ⟨h10, hb, h3, h4, h7, h8, h9⟩
theorem wz_f {N kd t b nb a : Nat} {v : Int32} (h : 4 ≤ kd ∧ kd ≤ 6) (hb : b < 4) (ht : t < N) (ha : a < N) : WZ N (kd, 4, t, b, v, nb, a + 1) := wz_mk (by omega) hb (fun q => by omega) (fun _ => ⟨rfl, ht, a, ha, rfl⟩) (fun q => by omega) (fun q => by omega) (fun q => by omega)
theorem wz_7 {N t b nb aq : Nat} {v : Int32} (hb : b < 4) (ht : t < N) : WZ N (7, 4, t, b, v, nb, aq) := wz_mk (by decide) hb (fun q => by omega) (fun q => by omega) (fun _ => ⟨rfl, ht⟩) (fun q => by omega) (fun q => by omega)
theorem wz_8 {N fr t b nb aq : Nat} {v : Int32} (hb : b < 4) (hf : fr < 5) (ht : t < N ∨ (t = 4 ∧ fr < N)) : WZ N (8, fr, t, b, v, nb, aq) := wz_mk (by decide) hb (fun q => by omega) (fun q => by omega) (fun q => by omega) (fun _ => ⟨hf, ht⟩) (fun q => by omega)
theorem wz_9 {N fr t b nb aq : Nat} {v : Int32} (hb : b < 4) (hf : fr < N) (ht : t < N) : WZ N (9, fr, t, b, v, nb, aq) := wz_mk (by decide) hb (fun q => by omega) (fun q => by omega) (fun q => by omega) (fun q => by omega) (fun _ => ⟨hf, ht⟩)
/-- the new messages -/
theorem invs_wz {N : Nat} {g : PS} {b r : Nat} (hb : b < 4) (hr : r < N) (hs : ∀ c, c < 4 → g 16 (4 * b + c) ≠ 0 → c < N) : ∀ n, n ≤ 4 → ∀ z ∈ s_invs g b r n, WZ N z ∧ z.2.2.2.1 = b
  | 0, _, z, hz => by simp [s_invs] at hz
  | n + 1, hn, z, hz => by
    have ih := invs_wz hb hr hs n (by omega)
    unfold s_invs at hz
    split at hz
    · exact ih z hz
    · next h0 =>
      split at hz
      · exact ih z hz
      · rcases List.mem_append.mp hz with hz | hz
        · exact ih z hz
        · rw [List.mem_singleton] at hz
          subst hz
          have hn := hs n (by omega) h0
          exact ⟨wz_f (by decide) hb hn hr, rfl⟩
theorem ah_wz {N : Nat} {g : PS} {M : List Msg} {b kd r : Nat} (hN4 : N ≤ 4) (hb : b < 4) (hB : BX N g M b) (hr : r < N) (hkd : kd = 0 ∨ kd = 1 ∨ kd = 2 ∨ kd = 3 ∨ kd = 8) : ∀ z ∈ s_ahQ g kd r b, WZ N z ∧ z.2.2.2.1 = b := by
  obtain ⟨L, k, n, A, i, f, s, m, h, w, S, H, hR, hI⟩ := hB
  have hG := rb_g hR
  obtain ⟨b1, b2, b3, b4, -⟩ := hI
  have hs1 : ∀ c, c < N → s c ≠ 0 → s c = 1 := fun c hc e => ((b1 c hc).2.2.2 e).1
  have hs : ∀ c, c < 4 → g 16 (4 * b + c) ≠ 0 → c < N := by
    intro c hc e
    refine Nat.lt_of_not_le fun q => ?_
    exact (s_iff hG hs1 c hc).mp e ((hG.2.1 c hc).2 q)
  have ho : g 14 b = 2 → (g 15 b).toNatClampNeg < N := by
    intro e
    obtain ⟨q1, q2⟩ := b3 ((h_eq hG b2 2 (by decide)).mp e)
    rw [hG.2.2.2, if_neg (by omega), nI_clamp (by omega)]
    omega
  intro z hz
  unfold s_ahQ s_getsQ s_getmQ at hz
  split at hz
  · split at hz
    · next h2 =>
      rw [List.mem_singleton] at hz; subst hz
      exact ⟨wz_f (by decide) hb (ho h2) hr, rfl⟩
    · rw [List.mem_singleton] at hz; subst hz
      exact ⟨wz_8 hb (by decide) (Or.inl hr), rfl⟩
  · split at hz
    · split at hz
      · next h2 =>
        rw [List.mem_singleton] at hz; subst hz
        exact ⟨wz_f (by decide) hb (ho h2) hr, rfl⟩
      · rcases List.mem_cons.mp hz with hz | hz
        · subst hz
          exact ⟨wz_8 hb (by decide) (Or.inl hr), rfl⟩
        · exact invs_wz hb hr hs 4 (Nat.le_refl 4) z hz
    · split at hz
      · simp at hz
      · rw [List.mem_singleton] at hz; subst hz
        exact ⟨wz_7 hb hr, rfl⟩
theorem ac_wz {N : Nat} {g : PS} {b kd t aq : Nat} (hN4 : N ≤ 4) (hb : b < 4) (ht : t < N) (ha : 4 ≤ kd ∧ kd ≤ 6 → ∃ a, a < N ∧ aq = a + 1) : ∀ z ∈ s_acQ g kd t b aq, WZ N z ∧ z.2.2.2.1 = b := by
  intro z hz
  unfold s_acQ at hz
  split at hz
  · next h6 =>
    obtain ⟨a, haN, rfl⟩ := ha (by omega)
    rw [List.mem_singleton] at hz; subst hz
    exact ⟨wz_9 hb ht haN, rfl⟩
  · split at hz
    · next h4 =>
      obtain ⟨a, haN, rfl⟩ := ha (by omega)
      rcases List.mem_cons.mp hz with hz | hz
      · subst hz
        exact ⟨wz_8 hb (show t < 5 by omega) (Or.inl haN), rfl⟩
      · rw [List.mem_singleton] at hz; subst hz
        exact ⟨wz_8 hb (show t < 5 by omega) (Or.inr ⟨rfl, ht⟩), rfl⟩
    · split at hz
      · next h5 =>
        obtain ⟨a, haN, rfl⟩ := ha (by omega)
        rw [List.mem_singleton] at hz; subst hz
        exact ⟨wz_8 hb (show t < 5 by omega) (Or.inl haN), rfl⟩
      · simp at hz
theorem wz_new {N : Nat} {M new : List Msg} {j : Nat} (hW : ∀ z ∈ M, WZ N z) (hn : ∀ z ∈ new, WZ N z) : ∀ z ∈ M.eraseIdx j ++ new, WZ N z := by
  intro z hz
  rcases List.mem_append.mp hz with hz | hz
  · exact hW z (List.mem_of_mem_eraseIdx hz)
  · exact hn z hz
theorem inv_home {N : Nat} {g : PS} {M : List Msg} {b j kd r : Nat} {v : Int32} {nb aq : Nat} (h : Inv N g M) (hz : M[j]? = some (kd, r, 4, b, v, nb, aq)) (hst : s_stalls g (kd, r, 4, b, v, nb, aq) = 0) : Inv N (s_ahG g kd r b v) (M.eraseIdx j ++ s_ahQ g kd r b) := by
  obtain ⟨⟨h0, hN2, hN4, hR, hck⟩, hP, hW, hB, hT⟩ := h
  have hkd := wz_home hN4 hW j _ hz rfl
  replace hkd : kd = 0 ∨ kd = 1 ∨ kd = 2 ∨ kd = 3 ∨ kd = 8 := hkd
  have hwz := hW _ (List.mem_of_getElem? hz)
  have hb : b < 4 := hwz.2.1
  have hr : r < N := by
    rcases hkd with e | e | e | e | e
    · exact (hwz.2.2.1 (show kd < 4 by omega)).2
    · exact (hwz.2.2.1 (show kd < 4 by omega)).2
    · exact (hwz.2.2.1 (show kd < 4 by omega)).2
    · exact (hwz.2.2.1 (show kd < 4 by omega)).2
    · rcases (hwz.2.2.2.2.2.1 (show kd = 8 from e)).2 with q | q
      · have q' : (4 : Nat) < N := q; omega
      · exact q.2
  have hown : g 14 b = 2 → (g 15 b).toNatClampNeg < 4 := by
    intro e
    obtain ⟨st, q1, q2, q3, q4⟩ := bx_kept hN4 (hB b hb)
    rw [q2] at e
    obtain ⟨o, ho, eo⟩ := q3 ((nI_eq (b := 2) (by omega) (by omega)).mp e)
    rw [eo, nI_clamp (by omega)]; exact ho
  have hq := ah_wz hN4 hb (hB b hb) hr hkd
  refine ⟨⟨by rw [ah_k (by decide)]; exact h0, hN2, hN4, by rw [ah_k (by decide)]; exact hR, by rw [ah_k (by decide), ah_k (k := 19) (by decide)]; exact hck⟩, fun c hc => pr_congr (hP c hc) (by rw [ah_k (by decide)]) (by rw [ah_k (by decide)]) (by rw [ah_k (by decide)]) (fun _ _ => by rw [ah_k (by decide)]) (fun _ _ => by rw [ah_k (by decide)]), wz_new hW (fun z hz => (hq z hz).1), fun b' hb' => ?_, fun c hc => wt_congr (hT c hc) (by rw [ah_k (by decide)]) (by rw [ah_k (by decide)]) (by rw [ah_k (by decide)]) (fun _ _ => by rw [ah_k (by decide)]) (fun _ _ => by rw [ah_k (by decide)]) (fun _ _ => by rw [ah_k (by decide)])⟩
  by_cases e : b' = b
  · subst e
    exact bx_home hN4 hb (hB b' hb) hW hz hkd hst
  · exact bx_frame (hB b' hb') (ah_gB e (by omega) hown) hz (fun q => e q.symm) (fun y hy => by rw [(hq y hy).2]; exact fun q => e q.symm)
