/-! ===== the invariant is kept ===== -/
theorem bx_same {N : Nat} {g g' : PS} {M : List Msg} {b : Nat} (h : BX N g M b) (hg : gB N g b g') : BX N g' M b := by
  obtain ⟨L, k, n, A, i, f, s, m, h, w, S, H, hR, hI⟩ := h
  exact ⟨L, k, n, A, i, f, s, m, h, w, S, H, rb_same hR hg, hI⟩
theorem bx_frame {N : Nat} {g g' : PS} {M : List Msg} {b j : Nat} {z : Msg} {new : List Msg} (h : BX N g M b) (hg : gB N g b g') (hz : M[j]? = some z) (hb : z.2.2.2.1 ≠ b) (hn : ∀ y ∈ new, y.2.2.2.1 ≠ b) : BX N g' (M.eraseIdx j ++ new) b := by
  obtain ⟨L, k, n, A, i, f, s, m, h, w, S, H, hR, hI⟩ := h
  exact ⟨L, k, n, A, i, f, s, m, h, w, S, H, rb_frame hR hg hz hb hn, hI⟩
theorem bx_frame2 {N : Nat} {g g' : PS} {M : List Msg} {b : Nat} {new : List Msg} (h : BX N g M b) (hg : gB N g b g') (hn : ∀ y ∈ new, y.2.2.2.1 ≠ b) : BX N g' (M ++ new) b := by
  obtain ⟨L, k, n, A, i, f, s, m, h, w, S, H, hR, hI⟩ := h
  exact ⟨L, k, n, A, i, f, s, m, h, w, S, H, rb_frame2 hR hg hn, hI⟩
theorem pr_congr {N : Nat} {g g' : PS} {c : Nat} (h : PRc N g c) (h5 : g' 5 c = g 5 c) (h6 : g' 6 c = g 6 c) (h7 : g' 7 c = g 7 c) (h3 : ∀ i, i < 16 → g' 3 (16 * c + i) = g 3 (16 * c + i)) (h4 : ∀ i, i < 16 → g' 4 (16 * c + i) = g 4 (16 * c + i)) : PRc N g' c := by
  obtain ⟨sz, pl, w, p1, p2, p3, p4, p5, p6, p7, p8⟩ := h
  refine ⟨sz, pl, w, p1, h5.trans p2, p3, h6.trans p4, p5, h7.trans p6, p7, fun i hi => ?_⟩
  rw [h3 i (by omega), h4 i (by omega)]
  exact p8 i hi
theorem wt_congr {g g' : PS} {c : Nat} (h : WTc g c) (h5 : g' 5 c = g 5 c) (h6 : g' 6 c = g 6 c) (h7 : g' 7 c = g 7 c) (h3 : ∀ i, i < 16 → g' 3 (16 * c + i) = g 3 (16 * c + i)) (h4 : ∀ i, i < 16 → g' 4 (16 * c + i) = g 4 (16 * c + i)) (h8 : ∀ b, b < 4 → g' 8 (4 * c + b) = g 8 (4 * c + b)) : WTc g' c := by
  have hl : ∀ b, b < 4 → ln g' c b = ln g c b := fun b hb => by unfold ln; rw [h8 b hb]
  obtain ⟨t0, t1, t2⟩ := h
  refine ⟨fun e b hb => ?_, fun e => ?_, fun e => ?_⟩
  · rw [hl b hb]; exact t0 (h7.symm.trans e) b hb
  · obtain ⟨b0, pl, o, sz, q1, q2, q3, q4, q5, q6, q7, q8, q9, q10, q11, q12⟩ := t1 (h7.symm.trans e)
    refine ⟨b0, pl, o, sz, q1, q2, q3, h6.trans q4, h5.trans q5, (h3 pl (by omega)).trans q6, q7, (h4 pl (by omega)).trans q8, ?_, ?_, ?_, fun b hb hne => ?_⟩
    · rw [hl b0 q1]; exact q9
    · rw [hl b0 q1]; exact q10
    · rw [hl b0 q1]; exact q11
    · rw [hl b hb]; exact q12 b hb hne
  · obtain ⟨b0, q1, q2, q3⟩ := t2 (h7.symm.trans e)
    refine ⟨b0, q1, by rw [hl b0 q1]; exact q2, fun b hb hne => by rw [hl b hb]; exact q3 b hb hne⟩
/-- a core that does not wait -/
theorem wt_idle {g : PS} {c : Nat} (h7 : g 7 c = 0) (h : ∀ b, b < 4 → ln g c b < 3) : WTc g c :=
  ⟨fun _ => h, fun e => by rw [h7] at e; exact absurd e (by decide), fun e => by rw [h7] at e; exact absurd e (by decide)⟩
theorem i17 {y : Int32} (h0 : ¬ y < 0) (h : y ≤ 16) : ∃ p, p ≤ 16 ∧ y = nI p := by
  obtain ⟨p, hp, e⟩ := ix_of (x := y) (n := 17) (by omega) h0 (by
    intro q
    rw [Int32.le_iff_toInt_le] at q h
    have e6 : (nI 17).toInt = 17 := by decide
    have e7 : (16 : Int32).toInt = 16 := by decide
    omega)
  exact ⟨p, by omega, e⟩
theorem i16 {y : Int32} (h0 : ¬ y < 0) (h : ¬ 15 < y) : ∃ p, p < 16 ∧ y = nI p := ix_of (x := y) (n := 16) (by omega) h0 (by
    intro q
    rw [Int32.lt_iff_toInt_lt] at h
    rw [Int32.le_iff_toInt_le] at q
    have e6 : (nI 16).toInt = 16 := by decide
    have e7 : (15 : Int32).toInt = 15 := by decide
    omega)
theorem inv_go {N : Nat} {g : PS} {M : List Msg} (h : Inv N g M) (x y : Int32) : Inv N (s_go g x y).2 M := by
  have hI := h
  obtain ⟨⟨h0, hN2, hN4, hR, hck⟩, hP, hW, hB, hT⟩ := h
  unfold s_go
  by_cases hc : s_isCore g x = 0
  · rw [if_pos hc]; exact hI
  rw [if_neg hc]
  obtain ⟨c, hcN, rfl⟩ := isCore_of h0 hN4 hc
  rw [nI_clamp (by omega)]
  by_cases h7 : ¬ g 7 c = 0
  · rw [if_pos h7]; exact hI
  rw [if_neg h7]
  replace h7 := Classical.not_not.mp h7
  by_cases hy : y < 0
  · rw [if_pos hy]; exact hI
  rw [if_neg hy]
  by_cases hy2 : y ≤ 16
  · rw [if_pos hy2]
    obtain ⟨p, hp, rfl⟩ := i17 hy hy2
    show Inv N (up2 g 6 c (nI p)) M
    refine ⟨⟨h0, hN2, hN4, hR, hck⟩, fun c' hc' => ?_, hW, fun b hb => bx_same (hB b hb) ⟨fun _ _ => ⟨rfl, rfl⟩, fun _ _ => rfl, rfl, rfl⟩, fun c' hc' => ?_⟩
    · by_cases e : c' = c
      · subst e
        obtain ⟨sz, pl, w, p1, p2, p3, p4, p5, p6, p7, p8⟩ := hP c' hc'
        exact ⟨sz, p, w, p1, p2, hp, up2_at _ _ _ _, p5, p6, p7, p8⟩
      · exact pr_congr (hP c' hc') rfl (up2_j _ _ e) rfl (fun _ _ => rfl) (fun _ _ => rfl)
    · by_cases e : c' = c
      · subst e
        exact wt_idle h7 (fun b hb => (hT c' hc').1 h7 b hb)
      · exact wt_congr (hT c' hc') rfl (up2_j _ _ e) rfl (fun _ _ => rfl) (fun _ _ => rfl) (fun _ _ => rfl)
  · rw [if_neg hy2]; exact hI
/-- one operation more -/
theorem inv_put {N : Nat} {g : PS} {M : List Msg} (h : Inv N g M) {c o sz : Nat} {x : Int32} (hcN : c < N) (ho : o < 6) (hsz : sz < 16) (h5 : g 5 c = nI sz) (hx : ¬ s_access (nI o) = 0 → ∃ b, b < 4 ∧ x = nI b) (hx3 : o = 3 → ∃ q, q < 16 ∧ x = nI q) : Inv N (up2 (up2 (up2 g 3 (16 * c + sz) (nI o)) 4 (16 * c + sz) x) 5 c (nI sz + 1)) M := by
  obtain ⟨⟨h0, hN2, hN4, hR, hck⟩, hP, hW, hB, hT⟩ := h
  refine ⟨⟨h0, hN2, hN4, hR, hck⟩, fun c' hc' => ?_, hW, fun b hb => bx_same (hB b hb) ⟨fun _ _ => ⟨rfl, rfl⟩, fun _ _ => rfl, rfl, rfl⟩, fun c' hc' => ?_⟩
  · by_cases e : c' = c
    · subst e
      obtain ⟨sz', pl, w, p1, p2, p3, p4, p5, p6, p7, p8⟩ := hP c' hc'
      have es : sz' = sz := (nI_eq (by omega) (by omega)).mp (p2.symm.trans h5)
      subst es
      refine ⟨sz' + 1, pl, w, by omega, ?_, p3, p4, p5, p6, p7, fun i hi => ?_⟩
      · rw [up2_at]; exact nI_1 _
      · rw [up2_k _ _ (by decide), up2_k _ _ (by decide), up2_k (k' := 4) _ _ (by decide)]
        by_cases ei : i = sz'
        · subst ei
          rw [up2_at, up2_at]
          exact ⟨o, ho, rfl, hx, hx3⟩
        · rw [up2_j _ _ (by omega), up2_j _ _ (by omega), up2_k _ _ (by decide)]
          exact p8 i (by omega)
    · refine pr_congr (hP c' hc') (up2_j _ _ e) rfl rfl (fun i hi => ?_) (fun i hi => ?_)
      · rw [up2_k _ _ (by decide), up2_k _ _ (by decide), up2_j _ _ (by omega)]
      · rw [up2_k _ _ (by decide), up2_j _ _ (by omega), up2_k _ _ (by decide)]
  · by_cases e : c' = c
    · subst e
      obtain ⟨t0, t1, t2⟩ := hT c' hc'
      refine ⟨t0, fun e7 => ?_, t2⟩
      obtain ⟨b0, pl, o', sz', q1, q2, q3, q4, q5, q6, q7, q8, q9⟩ := t1 e7
      have es : sz' = sz := (nI_eq (by omega) (by omega)).mp (q5.symm.trans h5)
      subst es
      refine ⟨b0, pl, o', sz' + 1, q1, by omega, by omega, q4, ?_, ?_, q7, ?_, q9⟩
      · rw [up2_at]; exact nI_1 _
      · rw [up2_k _ _ (by decide), up2_k _ _ (by decide), up2_j _ _ (by omega)]; exact q6
      · rw [up2_k _ _ (by decide), up2_j _ _ (by omega), up2_k _ _ (by decide)]; exact q8
    · refine wt_congr (hT c' hc') (up2_j _ _ e) rfl rfl (fun i hi => ?_) (fun i hi => ?_) (fun _ _ => rfl)
      · rw [up2_k _ _ (by decide), up2_k _ _ (by decide), up2_j _ _ (by omega)]
      · rw [up2_k _ _ (by decide), up2_j _ _ (by omega), up2_k _ _ (by decide)]
theorem inv_code3 {N : Nat} {g : PS} {M : List Msg} (h : Inv N g M) {c o : Nat} {x : Int32} (hcN : c < N) (ho : o < 6) (hx : ¬ s_access (nI o) = 0 → ∃ b, b < 4 ∧ x = nI b) (hx3 : o = 3 → ∃ q, q < 16 ∧ x = nI q) : Inv N (s_code3 g (nI c) (nI o) x).2 M := by
  have hN4 := h.1.2.2.1
  obtain ⟨sz, pl, w, p1, p2, -⟩ := h.2.1 c (by omega)
  unfold s_code3
  rw [nI_clamp (show c < 2 ^ 31 by omega)]
  by_cases e : g 5 c = 16
  · rw [if_pos e]; exact h
  · rw [if_neg e]
    show Inv N (up2 (up2 (up2 g 3 (16 * c + (g 5 c).toNatClampNeg) (nI o)) 4 (16 * c + (g 5 c).toNatClampNeg) x) 5 c (g 5 c + 1)) M
    rw [p2, nI_clamp (by omega)]
    have hs : sz < 16 := by
      refine Nat.lt_of_le_of_ne p1 fun q => e ?_
      rw [p2, q]; rfl
    exact inv_put h hcN ho hs p2 hx hx3
theorem inv_code {N : Nat} {g : PS} {M : List Msg} (h : Inv N g M) (x y z : Int32) : Inv N (s_code g x y z).2 M := by
  have h0 := h.1.1
  have hN4 := h.1.2.2.1
  unfold s_code
  by_cases hc : s_isCore g x = 0
  · rw [if_pos hc]; exact h
  rw [if_neg hc]
  obtain ⟨c, hcN, rfl⟩ := isCore_of h0 hN4 hc
  by_cases hy : y < 0
  · rw [if_pos hy]; exact h
  rw [if_neg hy]
  by_cases hy5 : 5 < y
  · rw [if_pos hy5]; exact h
  rw [if_neg hy5]
  obtain ⟨o, ho, rfl⟩ := ix_of (x := y) (n := 6) (by omega) hy (le5 hy5)
  by_cases ha : s_access (nI o) = 0
  · rw [if_pos ha]
    unfold s_code2
    by_cases h3 : nI o = 3
    · rw [if_pos h3]
      by_cases hz : z < 0
      · rw [if_pos hz]; exact h
      rw [if_neg hz]
      by_cases hz2 : 15 < z
      · rw [if_pos hz2]; exact h
      rw [if_neg hz2]
      exact inv_code3 h hcN ho (fun q => absurd ha q) (fun _ => i16 hz hz2)
    · rw [if_neg h3]
      exact inv_code3 h hcN ho (fun q => absurd ha q) (fun e => absurd (by rw [e]; rfl) h3)
  · rw [if_neg ha]
    by_cases hb : s_isBlock z = 0
    · rw [if_pos hb]; exact h
    rw [if_neg hb]
    obtain ⟨b, hb4, rfl⟩ := isBlock_of hb
    have h3 : ¬ nI o = 3 := fun e => by rw [e] at ha; exact ha rfl
    unfold s_code2
    rw [if_neg h3]
    exact inv_code3 h hcN ho (fun _ => ⟨b, hb4, rfl⟩) (fun e => absurd (by rw [e]; rfl) h3)
