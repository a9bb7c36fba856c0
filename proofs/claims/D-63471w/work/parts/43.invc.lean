/-! ===== a delivery to a core, and all ===== -/
theorem fin_gB {N : Nat} {g : PS} {b c b0 : Nat} : gB N g b (s_fin g c b0) := by
  have hp : ∀ pl, gB N g b (s_perform (up2 g 7 c 0) c pl b0) := by
    intro pl
    have e : ∀ k, k ≠ 9 ∧ k ≠ 2 ∧ k ≠ 12 ∧ k ≠ 11 ∧ k ≠ 19 ∧ k ≠ 6 → k ≠ 7 → s_perform (up2 g 7 c 0) c pl b0 k = g k := fun k hk h7 => by rw [perf_k hk, up2_k _ _ h7]
    exact ⟨fun _ _ => ⟨by rw [e 8 (by decide) (by decide)], by rw [e 10 (by decide) (by decide)]⟩, fun _ _ => by rw [e 16 (by decide) (by decide)], by rw [e 14 (by decide) (by decide)], by rw [e 15 (by decide) (by decide)]⟩
  unfold s_fin
  split
  · split
    · split
      · exact hp _
      · split
        · split
          · exact hp _
          · exact gB_rf
        · exact gB_rf
    · exact gB_rf
  · exact gB_rf
/-- the state behind a delivery to a core, but for what the core t waits for -/
theorem inv_mid {N : Nat} {g g1 : PS} {M M1 : List Msg} (h : Inv N g M) {t w1 : Nat} (htN : t < N) (hk : ∀ k, k ≠ 8 ∧ k ≠ 9 ∧ k ≠ 10 ∧ k ≠ 18 ∧ k ≠ 7 → g1 k = g k) (h7 : ∀ c, c ≠ t → g1 7 c = g 7 c) (h7t : g1 7 t = nI w1) (hw1 : w1 ≤ 2) (h8 : ∀ c b, c ≠ t → b < 4 → g1 8 (4 * c + b) = g 8 (4 * c + b)) (hW1 : ∀ z ∈ M1, WZ N z) (hB1 : ∀ b, b < 4 → BX N g1 M1 b) (hT1 : WTc g1 t) : Inv N g1 M1 := by
  obtain ⟨⟨h0, hN2, hN4, hR, hck⟩, hP, hW, hB, hT⟩ := h
  have e3 := hk 3 (by decide); have e4 := hk 4 (by decide); have e5 := hk 5 (by decide); have e6 := hk 6 (by decide)
  refine ⟨⟨by rw [hk 0 (by decide)]; exact h0, hN2, hN4, by rw [hk 1 (by decide)]; exact hR, by rw [hk 12 (by decide), hk 19 (by decide)]; exact hck⟩, fun c hc => ?_, hW1, hB1, fun c hc => ?_⟩
  · by_cases e : c = t
    · subst e
      obtain ⟨sz, pl, w, p1, p2, p3, p4, p5, p6, p7, p8⟩ := hP c hc
      exact ⟨sz, pl, w1, p1, by rw [e5]; exact p2, p3, by rw [e6]; exact p4, hw1, h7t, fun q => by omega, by rw [e3, e4]; exact p8⟩
    · exact pr_congr (hP c hc) (by rw [e5]) (by rw [e6]) (h7 c e) (fun _ _ => by rw [e3]) (fun _ _ => by rw [e4])
  · by_cases e : c = t
    · subst e; exact hT1
    · exact wt_congr (hT c hc) (by rw [e5]) (by rw [e6]) (h7 c e) (fun _ _ => by rw [e3]) (fun _ _ => by rw [e4]) (fun b hb => h8 c b e hb)
theorem inv_core {N : Nat} {g : PS} {M : List Msg} {b j kd fr t : Nat} {v : Int32} {nb aq : Nat} (h : Inv N g M) (hz : M[j]? = some (kd, fr, t, b, v, nb, aq)) (ht : t ≠ 4) (hbh : s_behind M j (kd, fr, t, b, v, nb, aq) = 0) (hst : s_stalls g (kd, fr, t, b, v, nb, aq) = 0) : Inv N (s_fin (s_acG g kd t b v nb) t b) (M.eraseIdx j ++ s_acQ g kd t b aq) := by
  have hI := h
  obtain ⟨⟨h0, hN2, hN4, hR, hck⟩, hP, hW, hB, hT⟩ := h
  have hwz := hW _ (List.mem_of_getElem? hz)
  have hb : b < 4 := hwz.2.1
  obtain ⟨htN, -⟩ := core_ok hN4 (hB b hb) hW hz ht hbh
  obtain ⟨hBb, st, st2, hst11, e8, e8', hTR⟩ := bx_core hN4 hb (hB b hb) hW hz ht hbh hst
  have hq := ac_wz (g := g) hN4 hb htN (fun q => (hwz.2.2.2.1 q).2.2) (aq := aq) (kd := kd)
  have hW1 : ∀ z ∈ M.eraseIdx j ++ s_acQ g kd t b aq, WZ N z := wz_new hW (fun z hz => (hq z hz).1)
  have hB1 : ∀ b', b' < 4 → BX N (s_acG g kd t b v nb) (M.eraseIdx j ++ s_acQ g kd t b aq) b' := by
    intro b' hb'
    by_cases e : b' = b
    · subst e; exact hBb
    · exact bx_frame (hB b' hb') (ac_gB e hb' hb) hz (fun q => e q.symm) (fun y hy => by rw [(hq y hy).2]; exact fun q => e q.symm)
  have hk9 : kd = 4 ∨ kd = 5 ∨ kd = 6 ∨ kd = 7 ∨ kd = 8 ∨ kd = 9 := by unfold TR at hTR; omega
  have hlb : ln g t b = st := clamp_ln e8 hst11
  have st211 : st2 < 11 := by unfold TR at hTR; omega
  generalize hg1 : s_acG g kd t b v nb = g1 at hB1 hBb e8'
  have hk1 : ∀ k, k ≠ 8 ∧ k ≠ 9 ∧ k ≠ 10 ∧ k ≠ 18 ∧ k ≠ 7 → g1 k = g k := fun k hk => by rw [← hg1]; exact ac_k hk
  have h71 : ∀ c, c ≠ t → g1 7 c = g 7 c := fun c hc => by rw [← hg1]; exact ac_7 (Or.inl hc)
  have h81 : ∀ c b', c ≠ t → b' < 4 → g1 8 (4 * c + b') = g 8 (4 * c + b') := fun c b' hc hb' => by rw [← hg1]; exact ac_8 (by omega)
  have h81' : ∀ b', b' < 4 → b' ≠ b → ln g1 t b' = ln g t b' := fun b' hb' hne => by unfold ln; rw [← hg1, ac_8 (by omega)]
  have hlb1 : ln g1 t b = st2 := clamp_ln e8' st211
  have e3 := hk1 3 (by decide)
  have e4 := hk1 4 (by decide)
  have e5 := hk1 5 (by decide)
  have e6 := hk1 6 (by decide)
  obtain ⟨sz, pl, w, p1, p2, p3, p4, p5, p6, p7, p8⟩ := hP t (by omega)
  obtain ⟨t0, t1, t2⟩ := hT t htN
  have done : ∀ w1, w1 ≤ 2 → g1 7 t = nI w1 → WTc g1 t → Inv N g1 (M.eraseIdx j ++ s_acQ g kd t b aq) := fun w1 a1 a2 a3 => inv_mid hI htN hk1 h71 a2 a1 h81 hW1 hB1 a3
  rcases (show w = 0 ∨ w = 1 ∨ w = 2 by omega) with rfl | rfl | rfl
  · -- waits for nothing
    have hl0 := t0 p6
    have hs3 : st < 3 := by rw [← hlb]; exact hl0 b hb
    have h7e : g1 7 t = 0 := by
      rw [← hg1, ac_7 (Or.inr (by unfold TR at hTR; omega))]; exact p6
    rw [fin_0 (by rw [h7e]; decide)]
    refine done 0 (by decide) h7e (wt_idle h7e (fun b' hb' => ?_))
    by_cases e : b' = b
    · subst e; rw [hlb1]; unfold TR at hTR; omega
    · rw [h81' b' hb' e]; exact hl0 b' hb'
  · -- waits for an access
    obtain ⟨b0, pl0, o, sz0, q1, q2, q3, q4, q5, q6, q7, q8, q9, q10, q11, q12⟩ := t1 p6
    by_cases eb : b = b0
    · subst eb
      rw [hlb] at q9 q10 q11
      have hkd7 : kd = 4 ∨ kd = 5 ∨ kd = 6 ∨ kd = 8 ∨ kd = 9 := by unfold TR at hTR; omega
      have h7e : g1 7 t = 1 := by rw [← hg1, ac_7 (Or.inr hkd7)]; exact p6
      have c6 : (g1 6 t).toNatClampNeg = pl0 := by rw [e6, q4]; exact nI_clamp (by omega)
      have c4 : g1 4 (16 * t + pl0) = nI b := by rw [e4]; exact q8
      have f2 : g1 8 (4 * t + b) = 2 ↔ st2 = 2 := by rw [e8']; exact nI_eq (b := 2) (by omega) (by omega)
      have f1 : g1 8 (4 * t + b) = 1 ↔ st2 = 1 := by rw [e8']; exact nI_eq (b := 1) (by omega) (by omega)
      have perf : (∀ b', b' < 4 → ln g1 t b' < 3) → Inv N (s_perform (up2 g1 7 t 0) t pl0 b) (M.eraseIdx j ++ s_acQ g kd t b aq) := by
        intro hall
        have h7z : up2 g1 7 t 0 7 t = 0 := up2_at _ _ _ _
        refine inv_perform (inv_mid hI (w1 := 0) htN (fun k hk => ?_) (fun c hc => ?_) h7z (by decide) (fun c b' hc hb' => ?_) hW1 (fun b' hb' => bx_same (hB1 b' hb') (gB_o gB_rf (by decide))) (wt_idle h7z (fun b' hb' => hall b' hb'))) htN h7z (by omega)
        · rw [up2_k _ _ hk.2.2.2.2]; exact hk1 k hk
        · rw [up2_j _ _ hc]; exact h71 c hc
        · rw [up2_k _ _ (by decide)]; exact h81 c b' hc hb'
      unfold s_fin
      rw [if_pos h7e, c6, if_pos c4]
      by_cases s2 : st2 = 2
      · rw [if_pos (f2.mpr s2)]
        refine perf (fun b' hb' => ?_)
        by_cases e : b' = b
        · subst e; rw [hlb1, s2]; decide
        · rw [h81' b' hb' e]; exact q12 b' hb' e
      · rw [if_neg (fun q => s2 (f2.mp q))]
        by_cases s1 : st2 = 1
        · have o0 : o = 0 := q11 (by unfold TR at hTR; omega)
          rw [if_pos (f1.mpr s1), if_pos (by rw [e3, q6, o0]; rfl)]
          refine perf (fun b' hb' => ?_)
          by_cases e : b' = b
          · subst e; rw [hlb1, s1]; decide
          · rw [h81' b' hb' e]; exact q12 b' hb' e
        · rw [if_neg (fun q => s1 (f1.mp q))]
          refine done 1 (by decide) h7e ⟨fun q => ?_, fun _ => ?_, fun q => ?_⟩
          · rw [h7e] at q; exact absurd q (by decide)
          · refine ⟨b, pl0, o, sz0, hb, q2, q3, by rw [e6]; exact q4, by rw [e5]; exact q5, by rw [e3]; exact q6, q7, c4, ?_, ?_, fun q => ?_, fun b' hb' hne => ?_⟩
            · rw [hlb1]; unfold TR at hTR; omega
            · rw [hlb1]; unfold TR at hTR; omega
            · rw [hlb1] at q; unfold TR at hTR; omega
            · rw [h81' b' hb' hne]; exact q12 b' hb' hne
          · rw [h7e] at q; exact absurd q (by decide)
    · have hs3 : st < 3 := by rw [← hlb]; exact q12 b hb eb
      have hkd7 : kd = 4 ∨ kd = 5 ∨ kd = 6 ∨ kd = 8 ∨ kd = 9 := by unfold TR at hTR; omega
      have h7e : g1 7 t = 1 := by rw [← hg1, ac_7 (Or.inr hkd7)]; exact p6
      have c6 : (g1 6 t).toNatClampNeg = pl0 := by rw [e6, q4]; exact nI_clamp (by omega)
      have c4 : ¬ g1 4 (16 * t + pl0) = nI b := by rw [e4, q8]; exact fun q => eb ((nI_eq (by omega) (by omega)).mp q).symm
      have ef : s_fin g1 t b = g1 := by unfold s_fin; rw [if_pos h7e, c6, if_neg c4]
      rw [ef]
      have hl0 : ln g1 t b0 = ln g t b0 := h81' b0 q1 (fun q => eb q.symm)
      refine done 1 (by decide) h7e ⟨fun q => ?_, fun _ => ?_, fun q => ?_⟩
      · rw [h7e] at q; exact absurd q (by decide)
      · refine ⟨b0, pl0, o, sz0, q1, q2, q3, by rw [e6]; exact q4, by rw [e5]; exact q5, by rw [e3]; exact q6, q7, by rw [e4]; exact q8, by rw [hl0]; exact q9, by rw [hl0]; exact q10, by rw [hl0]; exact q11, fun b' hb' hne => ?_⟩
        by_cases e : b' = b
        · subst e; rw [hlb1]; unfold TR at hTR; omega
        · rw [h81' b' hb' e]; exact q12 b' hb' hne
      · rw [h7e] at q; exact absurd q (by decide)
  · -- waits for a replacement
    obtain ⟨b0, q1, q2, q3⟩ := t2 p6
    by_cases k7 : kd = 7
    · subst k7
      have h7e : g1 7 t = 0 := by rw [← hg1]; exact ac_77
      rw [fin_0 (by rw [h7e]; decide)]
      have hs8 : 8 ≤ st := by unfold TR at hTR; omega
      have eb : b = b0 := Classical.byContradiction fun q => by have := q3 b hb q; omega
      subst eb
      refine done 0 (by decide) h7e (wt_idle h7e (fun b' hb' => ?_))
      by_cases e : b' = b
      · subst e; rw [hlb1]; unfold TR at hTR; omega
      · rw [h81' b' hb' e]; exact q3 b' hb' e
    · have h7e : g1 7 t = 2 := by rw [← hg1, ac_7 (Or.inr (by omega))]; exact p6
      rw [fin_0 (by rw [h7e]; decide)]
      refine done 2 (by decide) h7e ⟨fun q => ?_, fun q => ?_, fun _ => ⟨b0, q1, ?_, fun b' hb' hne => ?_⟩⟩
      · rw [h7e] at q; exact absurd q (by decide)
      · rw [h7e] at q; exact absurd q (by decide)
      · by_cases e : b0 = b
        · subst e; rw [hlb1]; rw [hlb] at q2; unfold TR at hTR; omega
        · rw [h81' b0 q1 e]; exact q2
      · by_cases e : b' = b
        · subst e
          have := q3 b' hb' hne
          rw [hlb1]; rw [hlb] at this; unfold TR at hTR; omega
        · rw [h81' b' hb' e]; exact q3 b' hb' hne
theorem inv_deliver {N : Nat} {g : PS} {M : List Msg} (h : Inv N g M) (x : Int32) : Inv N (s_deliver g M x).2.1 (s_deliver g M x).2.2 := by
  unfold s_deliver
  split
  · exact h
  · split
    · split
      · exact h
      · next z hz =>
        split
        · next hb =>
          split
          · next hs =>
            obtain ⟨kd, fr, t, b, v, nb, aq⟩ := z
            show Inv N (s_handG g (kd, fr, t, b, v, nb, aq)) (M.eraseIdx x.toNatClampNeg ++ s_handQ g (kd, fr, t, b, v, nb, aq))
            by_cases h4 : t = 4
            · subst h4
              exact inv_home h hz hs
            · have eG : s_handG g (kd, fr, t, b, v, nb, aq) = s_fin (s_acG g kd t b v nb) t b := if_neg h4
              have eQ : s_handQ g (kd, fr, t, b, v, nb, aq) = s_acQ g kd t b aq := if_neg h4
              rw [eG, eQ]
              exact inv_core h hz h4 hb hs
          · exact h
        · exact h
    · exact h
/-- at the start -/
theorem inv_init {N : Nat} {x y : Int32} (hN2 : 2 ≤ N) (hN4 : N ≤ 4) (hx : s_clC x = nI N) : Inv N (s_init x y) [] := by
  obtain ⟨R, hR1, hR3, hR⟩ := clM_of y
  have z : ∀ {k : Nat} (j : Nat), k ≠ 15 → k ≠ 0 → k ≠ 1 → s_init x y k j = nI 0 := fun j h h0 h1 => s_init_o j h h0 h1
  refine ⟨⟨by rw [s_init_0]; exact hx, hN2, hN4, ⟨R, by rw [s_init_1]; exact hR, hR1, hR3⟩, by rw [z 0 (by decide) (by decide) (by decide), z 0 (by decide) (by decide) (by decide)]⟩, fun c hc => ⟨0, 0, 0, by decide, z _ (by decide) (by decide) (by decide), by decide, z _ (by decide) (by decide) (by decide), by decide, z _ (by decide) (by decide) (by decide), fun _ => rfl, fun i hi => absurd hi (Nat.not_lt_zero i)⟩, fun z hz => absurd hz List.not_mem_nil, fun b hb => ?_, fun c hc => wt_idle (z _ (by decide) (by decide) (by decide)) (fun b hb => ?_)⟩
  · refine ⟨fun _ => 0, fun _ => 0, fun _ => 0, fun _ => 0, fun _ => 0, fun _ => 0, fun _ => 0, fun _ => 0, 0, 0, 0, 0, ⟨fun c hc => ⟨z _ (by decide) (by decide) (by decide), z _ (by decide) (by decide) (by decide), rfl, rfl, rfl⟩, fun c hc => ⟨z _ (by decide) (by decide) (by decide), fun _ => rfl⟩, z _ (by decide) (by decide) (by decide), s_init_15 hb, rfl, rfl⟩, fun c hc => ?_, by decide, fun q => absurd q (by decide), fun _ => rfl, fun _ _ _ => rfl, rfl, fun c hc _ t => ?_, fun c c' hc hc' t => ?_⟩
    · refine ⟨?_, ?_, fun q => ?_, fun q => absurd rfl q⟩
      · simp [LI1]
      · simp [LI2]
      · omega
    · simp [TK] at t
    · simp [TK] at t
  · unfold ln
    rw [z _ (by decide) (by decide) (by decide)]
    decide
