/-! ===== the messages' part and the state's part ===== -/
def MB (N : Nat) (M : List Msg) (b : Nat) (k n A i f : Nat → Nat) (S H : Nat) : Prop := (∀ c, c < N → VW M c b (k c) (n c) (A c) (i c) (f c)) ∧ M.countP (pS b) = S ∧ M.countP (pH b) = H
def GB (N : Nat) (g : PS) (b : Nat) (L s : Nat → Nat) (m : Nat → Int) (h w : Nat) : Prop := (∀ c, c < N → g 8 (4 * c + b) = nI (L c) ∧ g 10 (4 * c + b) = Int32.ofInt (m c)) ∧ (∀ c, c < 4 → g 16 (4 * b + c) = nI (s c) ∧ (N ≤ c → s c = 0)) ∧ g 14 b = nI h ∧ g 15 b = (if w = 0 then -1 else nI (w - 1))
theorem rb_mk {N : Nat} {g : PS} {M : List Msg} {b : Nat} {L k n A i f s : Nat → Nat} {m : Nat → Int} {h w S H : Nat} (hG : GB N g b L s m h w) (hM : MB N M b k n A i f S H) : RB N g M b L k n A i f s m h w S H :=
  ⟨fun c hc => ⟨(hG.1 c hc).1, (hG.1 c hc).2, hM.1 c hc⟩, hG.2.1, hG.2.2.1, hG.2.2.2, hM.2.1, hM.2.2⟩
theorem rb_g {N : Nat} {g : PS} {M : List Msg} {b : Nat} {L k n A i f s : Nat → Nat} {m : Nat → Int} {h w S H : Nat} (hR : RB N g M b L k n A i f s m h w S H) : GB N g b L s m h w := by
  obtain ⟨r1, r2, r3, r4, r5, r6⟩ := hR
  exact ⟨fun c hc => ⟨(r1 c hc).1, (r1 c hc).2.1⟩, r2, r3, r4⟩
theorem rb_m {N : Nat} {g : PS} {M : List Msg} {b : Nat} {L k n A i f s : Nat → Nat} {m : Nat → Int} {h w S H : Nat} (hR : RB N g M b L k n A i f s m h w S H) : MB N M b k n A i f S H := by
  obtain ⟨r1, r2, r3, r4, r5, r6⟩ := hR
  exact ⟨fun c hc => (r1 c hc).2.2, r5, r6⟩
theorem mb_ask0 {N : Nat} {M : List Msg} {b : Nat} {k n A i f : Nat → Nat} {S H : Nat} (hM : MB N M b k n A i f S H) {c0 : Nat} {v : Int32} (hc4 : c0 ≠ 4 ∨ True) (hk : k c0 = 0) : MB N (M ++ [(0, c0, 4, b, v, 0, 0)]) b (fu k c0 1) (fu n c0 0) A i f S H := by
  obtain ⟨m1, m2, m3⟩ := hM
  refine ⟨fun c hc => ?_, ?_, ?_⟩
  · have x3 := m1 c hc
    by_cases e_c0 : c = c0
    · subst e_c0
      simp only [fu_self]
      exact vw_app x3 (Or.inr ⟨hk, by simp [pm, pa, pq, cl, fw]⟩) (by simp [pm, pa, pq, cl, fw]) (by simp [pm, pa, pq, cl, fw, qq, hk])
    · have e_c0' : ¬ c0 = c := fun q9 => e_c0 q9.symm
      simp only [fu, if_neg e_c0]
      exact vw_app x3 (Or.inl ⟨by simp [pm, pa, pq, cl, fw, e_c0, e_c0'], rfl, rfl⟩) (by simp [pm, pa, pq, cl, fw, e_c0, e_c0']) (by simp [pm, pa, pq, cl, fw, e_c0, e_c0'])
  · rw [List.countP_append, m2]; simp [pS]
  · rw [List.countP_append, m3]; simp [pH]
theorem mb_ask1 {N : Nat} {M : List Msg} {b : Nat} {k n A i f : Nat → Nat} {S H : Nat} (hM : MB N M b k n A i f S H) {c0 : Nat} {v : Int32} (hc4 : c0 ≠ 4 ∨ True) (hk : k c0 = 0) : MB N (M ++ [(1, c0, 4, b, v, 0, 0)]) b (fu k c0 2) (fu n c0 0) A i f S H := by
  obtain ⟨m1, m2, m3⟩ := hM
  refine ⟨fun c hc => ?_, ?_, ?_⟩
  · have x3 := m1 c hc
    by_cases e_c0 : c = c0
    · subst e_c0
      simp only [fu_self]
      exact vw_app x3 (Or.inr ⟨hk, by simp [pm, pa, pq, cl, fw]⟩) (by simp [pm, pa, pq, cl, fw]) (by simp [pm, pa, pq, cl, fw, qq, hk])
    · have e_c0' : ¬ c0 = c := fun q9 => e_c0 q9.symm
      simp only [fu, if_neg e_c0]
      exact vw_app x3 (Or.inl ⟨by simp [pm, pa, pq, cl, fw, e_c0, e_c0'], rfl, rfl⟩) (by simp [pm, pa, pq, cl, fw, e_c0, e_c0']) (by simp [pm, pa, pq, cl, fw, e_c0, e_c0'])
  · rw [List.countP_append, m2]; simp [pS]
  · rw [List.countP_append, m3]; simp [pH]
theorem mb_ask2 {N : Nat} {M : List Msg} {b : Nat} {k n A i f : Nat → Nat} {S H : Nat} (hM : MB N M b k n A i f S H) {c0 : Nat} {v : Int32} (hc4 : c0 ≠ 4 ∨ True) (hk : k c0 = 0) : MB N (M ++ [(2, c0, 4, b, v, 0, 0)]) b (fu k c0 3) (fu n c0 0) A i f S H := by
  obtain ⟨m1, m2, m3⟩ := hM
  refine ⟨fun c hc => ?_, ?_, ?_⟩
  · have x3 := m1 c hc
    by_cases e_c0 : c = c0
    · subst e_c0
      simp only [fu_self]
      exact vw_app x3 (Or.inr ⟨hk, by simp [pm, pa, pq, cl, fw]⟩) (by simp [pm, pa, pq, cl, fw]) (by simp [pm, pa, pq, cl, fw, qq, hk])
    · have e_c0' : ¬ c0 = c := fun q9 => e_c0 q9.symm
      simp only [fu, if_neg e_c0]
      exact vw_app x3 (Or.inl ⟨by simp [pm, pa, pq, cl, fw, e_c0, e_c0'], rfl, rfl⟩) (by simp [pm, pa, pq, cl, fw, e_c0, e_c0']) (by simp [pm, pa, pq, cl, fw, e_c0, e_c0'])
  · rw [List.countP_append, m2]; simp [pS]
  · rw [List.countP_append, m3]; simp [pH]
theorem mb_ask3 {N : Nat} {M : List Msg} {b : Nat} {k n A i f : Nat → Nat} {S H : Nat} (hM : MB N M b k n A i f S H) {c0 : Nat} {v : Int32} (hc4 : c0 ≠ 4 ∨ True) (hk : k c0 = 0) : MB N (M ++ [(3, c0, 4, b, v, 0, 0)]) b (fu k c0 4) (fu n c0 0) A i f S H := by
  obtain ⟨m1, m2, m3⟩ := hM
  refine ⟨fun c hc => ?_, ?_, ?_⟩
  · have x3 := m1 c hc
    by_cases e_c0 : c = c0
    · subst e_c0
      simp only [fu_self]
      exact vw_app x3 (Or.inr ⟨hk, by simp [pm, pa, pq, cl, fw]⟩) (by simp [pm, pa, pq, cl, fw]) (by simp [pm, pa, pq, cl, fw, qq, hk])
    · have e_c0' : ¬ c0 = c := fun q9 => e_c0 q9.symm
      simp only [fu, if_neg e_c0]
      exact vw_app x3 (Or.inl ⟨by simp [pm, pa, pq, cl, fw, e_c0, e_c0'], rfl, rfl⟩) (by simp [pm, pa, pq, cl, fw, e_c0, e_c0']) (by simp [pm, pa, pq, cl, fw, e_c0, e_c0'])
  · rw [List.countP_append, m2]; simp [pS]
  · rw [List.countP_append, m3]; simp [pH]
theorem mb_fwd0 {N : Nat} {M : List Msg} {b j : Nat} {k n A i f : Nat → Nat} {S H : Nat} (hM : MB N M b k n A i f S H) {r o : Nat} {v : Int32} {nb aq : Nat} (hz : M[j]? = some (0, r, 4, b, v, nb, aq)) (hne : o ≠ r) (hk : k r = 1) (hf : f o = 0) (hk8 : k o ≠ 8) : MB N (M.eraseIdx j ++ [(4, 4, o, b, 0, 0, r + 1)]) b (fu k r 5) (fu n r 0) A i (fu f o 4) (S + 1) H := by
  obtain ⟨m1, m2, m3⟩ := hM
  refine ⟨fun c hc => ?_, ?_, ?_⟩
  · have x3 := m1 c hc
    by_cases e_r : c = r
    · subst e_r
      simp only [fu_self, fu_ne _ _ (Ne.symm hne)]
      exact vw_gen hz x3 (Or.inr ⟨by simp [pm, pa, pq, cl, fw], by simp [pm, pa, pq, cl, fw]⟩) (by simp [pm, pa, pq, cl, fw]) (Or.inl ⟨by simp [pm, pa, pq, cl, fw], by simp [pm, pa, pq, cl, fw, qq, hk, hne]⟩)
    · have e_r' : ¬ r = c := fun q9 => e_r q9.symm
      by_cases e_o : c = o
      · subst e_o
        simp only [fu_self, fu_ne _ _ hne]
        exact vw_gen hz x3 (Or.inl ⟨by simp [pm, pa, pq, cl, fw, e_r, e_r'], by simp [pm, pa, pq, cl, fw, e_r, e_r'], rfl, rfl⟩) (by simp [pm, pa, pq, cl, fw, e_r, e_r']) (Or.inl ⟨by simp [pm, pa, pq, cl, fw], by simp [pm, pa, pq, cl, fw, qq, hf, hk8]⟩)
      · have e_o' : ¬ o = c := fun q9 => e_o q9.symm
        simp only [fu, if_neg e_r, if_neg e_o]
        exact vw_gen hz x3 (Or.inl ⟨by simp [pm, pa, pq, cl, fw, e_r, e_o, e_r', e_o'], by simp [pm, pa, pq, cl, fw, e_r, e_o, e_r', e_o'], rfl, rfl⟩) (by simp [pm, pa, pq, cl, fw, e_r, e_o, e_r', e_o']) (Or.inl ⟨by simp [pm, pa, pq, cl, fw, e_r, e_o, e_r', e_o'], by simp [pm, pa, pq, cl, fw, e_r, e_o, e_r', e_o']⟩)
  · have e9 := cnt_er (p := pS b) hz
    rw [List.countP_append]
    simp [pS] at e9 ⊢
    omega
  · have e9 := cnt_er (p := pH b) hz
    rw [List.countP_append]
    simp [pH] at e9 ⊢
    omega
theorem mb_fwd1 {N : Nat} {M : List Msg} {b j : Nat} {k n A i f : Nat → Nat} {S H : Nat} (hM : MB N M b k n A i f S H) {r o : Nat} {v : Int32} {nb aq : Nat} (hz : M[j]? = some (1, r, 4, b, v, nb, aq)) (hne : o ≠ r) (hk : k r = 2) (hf : f o = 0) (hk8 : k o ≠ 8) : MB N (M.eraseIdx j ++ [(5, 4, o, b, 0, 0, r + 1)]) b (fu k r 6) (fu n r 0) A i (fu f o 5) S H := by
  obtain ⟨m1, m2, m3⟩ := hM
  refine ⟨fun c hc => ?_, ?_, ?_⟩
  · have x3 := m1 c hc
    by_cases e_r : c = r
    · subst e_r
      simp only [fu_self, fu_ne _ _ (Ne.symm hne)]
      exact vw_gen hz x3 (Or.inr ⟨by simp [pm, pa, pq, cl, fw], by simp [pm, pa, pq, cl, fw]⟩) (by simp [pm, pa, pq, cl, fw]) (Or.inl ⟨by simp [pm, pa, pq, cl, fw], by simp [pm, pa, pq, cl, fw, qq, hk, hne]⟩)
    · have e_r' : ¬ r = c := fun q9 => e_r q9.symm
      by_cases e_o : c = o
      · subst e_o
        simp only [fu_self, fu_ne _ _ hne]
        exact vw_gen hz x3 (Or.inl ⟨by simp [pm, pa, pq, cl, fw, e_r, e_r'], by simp [pm, pa, pq, cl, fw, e_r, e_r'], rfl, rfl⟩) (by simp [pm, pa, pq, cl, fw, e_r, e_r']) (Or.inl ⟨by simp [pm, pa, pq, cl, fw], by simp [pm, pa, pq, cl, fw, qq, hf, hk8]⟩)
      · have e_o' : ¬ o = c := fun q9 => e_o q9.symm
        simp only [fu, if_neg e_r, if_neg e_o]
        exact vw_gen hz x3 (Or.inl ⟨by simp [pm, pa, pq, cl, fw, e_r, e_o, e_r', e_o'], by simp [pm, pa, pq, cl, fw, e_r, e_o, e_r', e_o'], rfl, rfl⟩) (by simp [pm, pa, pq, cl, fw, e_r, e_o, e_r', e_o']) (Or.inl ⟨by simp [pm, pa, pq, cl, fw, e_r, e_o, e_r', e_o'], by simp [pm, pa, pq, cl, fw, e_r, e_o, e_r', e_o']⟩)
  · have e9 := cnt_er (p := pS b) hz
    rw [List.countP_append]
    simp [pS] at e9 ⊢
    omega
  · have e9 := cnt_er (p := pH b) hz
    rw [List.countP_append]
    simp [pH] at e9 ⊢
    omega
theorem mb_give0 {N : Nat} {M : List Msg} {b j : Nat} {k n A i f : Nat → Nat} {S H : Nat} (hM : MB N M b k n A i f S H) {r : Nat} {v val : Int32} {nb aq : Nat} (hz : M[j]? = some (0, r, 4, b, v, nb, aq)) (hr4 : r ≠ 4) (hk : k r = 1) : MB N (M.eraseIdx j ++ [(8, 4, r, b, val, 0, 0)]) b (fu k r 9) (fu n r 0) A i f S H := by
  obtain ⟨m1, m2, m3⟩ := hM
  refine ⟨fun c hc => ?_, ?_, ?_⟩
  · have x3 := m1 c hc
    by_cases e_r : c = r
    · subst e_r
      simp only [fu_self]
      exact vw_gen hz x3 (Or.inr ⟨by simp [pm, pa, pq, cl, fw], by simp [pm, pa, pq, cl, fw]⟩) (by simp [pm, pa, pq, cl, fw]) (Or.inl ⟨by simp [pm, pa, pq, cl, fw], by simp [pm, pa, pq, cl, fw, qq, hk]⟩)
    · have e_r' : ¬ r = c := fun q9 => e_r q9.symm
      simp only [fu, if_neg e_r]
      exact vw_gen hz x3 (Or.inl ⟨by simp [pm, pa, pq, cl, fw, e_r, e_r'], by simp [pm, pa, pq, cl, fw, e_r, e_r'], rfl, rfl⟩) (by simp [pm, pa, pq, cl, fw, e_r, e_r']) (Or.inl ⟨by simp [pm, pa, pq, cl, fw, e_r, e_r'], by simp [pm, pa, pq, cl, fw, e_r, e_r']⟩)
  · have e9 := cnt_er (p := pS b) hz
    rw [List.countP_append]
    simp [pS, hr4] at e9 ⊢
    omega
  · have e9 := cnt_er (p := pH b) hz
    rw [List.countP_append]
    simp [pH, hr4] at e9 ⊢
    omega
theorem mb_put2 {N : Nat} {M : List Msg} {b j : Nat} {k n A i f : Nat → Nat} {S H : Nat} (hM : MB N M b k n A i f S H) {r : Nat} {v : Int32} {nb aq : Nat} (hz : M[j]? = some (2, r, 4, b, v, nb, aq)) (hk : k r = 3) : MB N (M.eraseIdx j ++ [(7, 4, r, b, 0, 0, 0)]) b (fu k r 8) (fu n r 0) A i f S H := by
  obtain ⟨m1, m2, m3⟩ := hM
  refine ⟨fun c hc => ?_, ?_, ?_⟩
  · have x3 := m1 c hc
    by_cases e_r : c = r
    · subst e_r
      simp only [fu_self]
      exact vw_gen hz x3 (Or.inr ⟨by simp [pm, pa, pq, cl, fw], by simp [pm, pa, pq, cl, fw]⟩) (by simp [pm, pa, pq, cl, fw]) (Or.inl ⟨by simp [pm, pa, pq, cl, fw], by simp [pm, pa, pq, cl, fw, qq, hk]⟩)
    · have e_r' : ¬ r = c := fun q9 => e_r q9.symm
      simp only [fu, if_neg e_r]
      exact vw_gen hz x3 (Or.inl ⟨by simp [pm, pa, pq, cl, fw, e_r, e_r'], by simp [pm, pa, pq, cl, fw, e_r, e_r'], rfl, rfl⟩) (by simp [pm, pa, pq, cl, fw, e_r, e_r']) (Or.inl ⟨by simp [pm, pa, pq, cl, fw, e_r, e_r'], by simp [pm, pa, pq, cl, fw, e_r, e_r']⟩)
  · have e9 := cnt_er (p := pS b) hz
    rw [List.countP_append]
    simp [pS] at e9 ⊢
    omega
  · have e9 := cnt_er (p := pH b) hz
    rw [List.countP_append]
    simp [pH] at e9 ⊢
    omega
theorem mb_put3 {N : Nat} {M : List Msg} {b j : Nat} {k n A i f : Nat → Nat} {S H : Nat} (hM : MB N M b k n A i f S H) {r : Nat} {v : Int32} {nb aq : Nat} (hz : M[j]? = some (3, r, 4, b, v, nb, aq)) (hk : k r = 4) : MB N (M.eraseIdx j ++ [(7, 4, r, b, 0, 0, 0)]) b (fu k r 8) (fu n r 0) A i f S H := by
  obtain ⟨m1, m2, m3⟩ := hM
  refine ⟨fun c hc => ?_, ?_, ?_⟩
  · have x3 := m1 c hc
    by_cases e_r : c = r
    · subst e_r
      simp only [fu_self]
      exact vw_gen hz x3 (Or.inr ⟨by simp [pm, pa, pq, cl, fw], by simp [pm, pa, pq, cl, fw]⟩) (by simp [pm, pa, pq, cl, fw]) (Or.inl ⟨by simp [pm, pa, pq, cl, fw], by simp [pm, pa, pq, cl, fw, qq, hk]⟩)
    · have e_r' : ¬ r = c := fun q9 => e_r q9.symm
      simp only [fu, if_neg e_r]
      exact vw_gen hz x3 (Or.inl ⟨by simp [pm, pa, pq, cl, fw, e_r, e_r'], by simp [pm, pa, pq, cl, fw, e_r, e_r'], rfl, rfl⟩) (by simp [pm, pa, pq, cl, fw, e_r, e_r']) (Or.inl ⟨by simp [pm, pa, pq, cl, fw, e_r, e_r'], by simp [pm, pa, pq, cl, fw, e_r, e_r']⟩)
  · have e9 := cnt_er (p := pS b) hz
    rw [List.countP_append]
    simp [pS] at e9 ⊢
    omega
  · have e9 := cnt_er (p := pH b) hz
    rw [List.countP_append]
    simp [pH] at e9 ⊢
    omega
theorem mb_dataH {N : Nat} {M : List Msg} {b j : Nat} {k n A i f : Nat → Nat} {S H : Nat} (hM : MB N M b k n A i f S H) {fr : Nat} {v : Int32} {nb aq : Nat} (hz : M[j]? = some (8, fr, 4, b, v, nb, aq)) (hN4 : N ≤ 4) (hH : 0 < H) : MB N (M.eraseIdx j ++ []) b k n A i f S (H - 1) := by
  obtain ⟨m1, m2, m3⟩ := hM
  refine ⟨fun c hc => ?_, ?_, ?_⟩
  · have x3 := m1 c hc
    exact vw_gen hz x3 (Or.inl ⟨by simp [pm, pa, pq, cl, fw, (show ¬ 4 = c by omega)], by simp [pm, pa, pq, cl, fw, (show ¬ 4 = c by omega)], rfl, rfl⟩) (by simp [pm, pa, pq, cl, fw, (show ¬ 4 = c by omega)]) (Or.inl ⟨by simp [pm, pa, pq, cl, fw, (show ¬ 4 = c by omega)], by simp [pm, pa, pq, cl, fw, (show ¬ 4 = c by omega)]⟩)
  · have e9 := cnt_er (p := pS b) hz
    rw [List.countP_append]
    simp [pS] at e9 ⊢
    omega
  · have e9 := cnt_er (p := pH b) hz
    rw [List.countP_append]
    simp [pH] at e9 ⊢
    omega
theorem mb_data {N : Nat} {M : List Msg} {b j : Nat} {k n A i f : Nat → Nat} {S H : Nat} (hM : MB N M b k n A i f S H) {c0 fr : Nat} {v : Int32} {nb aq : Nat} (hz : M[j]? = some (8, fr, c0, b, v, nb, aq)) (hc4 : c0 ≠ 4) (hk : k c0 = 9) : MB N (M.eraseIdx j ++ []) b (fu k c0 0) (fu n c0 0) A i f S H := by
  obtain ⟨m1, m2, m3⟩ := hM
  refine ⟨fun c hc => ?_, ?_, ?_⟩
  · have x3 := m1 c hc
    by_cases e_c0 : c = c0
    · subst e_c0
      simp only [fu_self]
      exact vw_gen hz x3 (Or.inr ⟨by simp [pm, pa, pq, cl, fw], by simp⟩) (by simp [pm, pa, pq, cl, fw]) (Or.inl ⟨by simp [pm, pa, pq, cl, fw], by simp [qq, hk]⟩)
    · have e_c0' : ¬ c0 = c := fun q9 => e_c0 q9.symm
      simp only [fu, if_neg e_c0]
      exact vw_gen hz x3 (Or.inl ⟨by simp [pm, pa, pq, cl, fw, e_c0, e_c0'], by simp [pm, pa, pq, cl, fw, e_c0, e_c0'], rfl, rfl⟩) (by simp [pm, pa, pq, cl, fw, e_c0, e_c0']) (Or.inl ⟨by simp [pm, pa, pq, cl, fw, e_c0, e_c0'], by simp [pm, pa, pq, cl, fw, e_c0, e_c0']⟩)
  · have e9 := cnt_er (p := pS b) hz
    rw [List.countP_append]
    simp [pS, hc4] at e9 ⊢
    omega
  · have e9 := cnt_er (p := pH b) hz
    rw [List.countP_append]
    simp [pH, hc4] at e9 ⊢
    omega
theorem mb_ack {N : Nat} {M : List Msg} {b j : Nat} {k n A i f : Nat → Nat} {S H : Nat} (hM : MB N M b k n A i f S H) {c0 fr : Nat} {v : Int32} {nb aq : Nat} (hz : M[j]? = some (9, fr, c0, b, v, nb, aq)) (hA : 0 < A c0) : MB N (M.eraseIdx j ++ []) b k n (fu A c0 (A c0 - 1)) i f S H := by
  obtain ⟨m1, m2, m3⟩ := hM
  refine ⟨fun c hc => ?_, ?_, ?_⟩
  · have x3 := m1 c hc
    by_cases e_c0 : c = c0
    · subst e_c0
      simp only [fu_self]
      exact vw_gen hz x3 (Or.inl ⟨by simp [pm, pa, pq, cl, fw], by simp [pm, pa, pq, cl, fw], rfl, rfl⟩) (by simp [pm, pa, pq, cl, fw]; omega) (Or.inl ⟨by simp [pm, pa, pq, cl, fw], by simp⟩)
    · have e_c0' : ¬ c0 = c := fun q9 => e_c0 q9.symm
      simp only [fu, if_neg e_c0]
      exact vw_gen hz x3 (Or.inl ⟨by simp [pm, pa, pq, cl, fw, e_c0, e_c0'], by simp [pm, pa, pq, cl, fw, e_c0, e_c0'], rfl, rfl⟩) (by simp [pm, pa, pq, cl, fw, e_c0, e_c0']) (Or.inl ⟨by simp [pm, pa, pq, cl, fw, e_c0, e_c0'], by simp [pm, pa, pq, cl, fw, e_c0, e_c0']⟩)
  · have e9 := cnt_er (p := pS b) hz
    rw [List.countP_append]
    simp [pS] at e9 ⊢
    omega
  · have e9 := cnt_er (p := pH b) hz
    rw [List.countP_append]
    simp [pH] at e9 ⊢
    omega
theorem mb_inv {N : Nat} {M : List Msg} {b j : Nat} {k n A i f : Nat → Nat} {S H : Nat} (hM : MB N M b k n A i f S H) {c0 a : Nat} {v : Int32} {nb : Nat} (hz : M[j]? = some (6, 4, c0, b, v, nb, a + 1)) (hb : (M.take j).any (pq c0 b) = false) (hi : i c0 = 1) : MB N (M.eraseIdx j ++ [(9, c0, a, b, 0, 0, 0)]) b k n A (fu i c0 0) f S H := by
  obtain ⟨m1, m2, m3⟩ := hM
  refine ⟨fun c hc => ?_, ?_, ?_⟩
  · have x3 := m1 c hc
    by_cases e_c0 : c = c0
    · subst e_c0
      simp only [fu_self]
      exact vw_gen hz x3 (Or.inl ⟨by simp [pm, pa, pq, cl, fw], by simp [pm, pa, pq, cl, fw], rfl, rfl⟩) (by simp [pm, pa, pq, cl, fw]) (Or.inr ⟨by simp [pm, pa, pq, cl, fw], hb, by simp [pm, pa, pq, cl, fw, qq, hi]⟩)
    · have e_c0' : ¬ c0 = c := fun q9 => e_c0 q9.symm
      simp only [fu, if_neg e_c0]
      exact vw_gen hz x3 (Or.inl ⟨by simp [pm, pa, pq, cl, fw, e_c0, e_c0'], by simp [pm, pa, pq, cl, fw, e_c0, e_c0'], rfl, rfl⟩) (by simp [pm, pa, pq, cl, fw, e_c0, e_c0']) (Or.inl ⟨by simp [pm, pa, pq, cl, fw, e_c0, e_c0'], by simp [pm, pa, pq, cl, fw, e_c0, e_c0']⟩)
  · have e9 := cnt_er (p := pS b) hz
    rw [List.countP_append]
    simp [pS] at e9 ⊢
    omega
  · have e9 := cnt_er (p := pH b) hz
    rw [List.countP_append]
    simp [pH] at e9 ⊢
    omega
theorem mb_own4 {N : Nat} {M : List Msg} {b j : Nat} {k n A i f : Nat → Nat} {S H : Nat} (hM : MB N M b k n A i f S H) {r o : Nat} {v val : Int32} {nb : Nat} (hz : M[j]? = some (4, 4, o, b, v, nb, r + 1)) (hN4 : N ≤ 4) (hr4 : r ≠ 4) (ho4 : o ≠ 4) (hne : o ≠ r) (hb : (M.take j).any (pq o b) = false) (hk : k r = 5) (hi : i o = 0) (hf : f o = 4) (hS : 0 < S) : MB N (M.eraseIdx j ++ [(8, o, r, b, val, 0, 0), (8, o, 4, b, val, 0, 0)]) b (fu k r 9) (fu n r 0) A i (fu f o 0) (S - 1) (H + 1) := by
  obtain ⟨m1, m2, m3⟩ := hM
  refine ⟨fun c hc => ?_, ?_, ?_⟩
  · have x3 := m1 c hc
    by_cases e_r : c = r
    · subst e_r
      simp only [fu_self, fu_ne _ _ (Ne.symm hne)]
      exact vw_gen hz x3 (Or.inr ⟨by simp [pm, pa, pq, cl, fw], by simp [pm, pa, pq, cl, fw, Ne.symm hr4]⟩) (by simp [pm, pa, pq, cl, fw]) (Or.inl ⟨by simp [pm, pa, pq, cl, fw, hne], by simp [pm, pa, pq, cl, fw, qq, hk]⟩)
    · have e_r' : ¬ r = c := fun q9 => e_r q9.symm
      by_cases e_o : c = o
      · subst e_o
        simp only [fu_self, fu_ne _ _ hne]
        exact vw_gen hz x3 (Or.inl ⟨by simp [pm, pa, pq, cl, fw, e_r, e_r'], by simp [pm, pa, pq, cl, fw, e_r, e_r', Ne.symm ho4], rfl, rfl⟩) (by simp [pm, pa, pq, cl, fw, e_r, e_r']) (Or.inr ⟨by simp [pm, pa, pq, cl, fw], hb, by simp [pm, pa, pq, cl, fw, qq, hi, hf]⟩)
      · have e_o' : ¬ o = c := fun q9 => e_o q9.symm
        simp only [fu, if_neg e_r, if_neg e_o]
        exact vw_gen hz x3 (Or.inl ⟨by simp [pm, pa, pq, cl, fw, e_r, e_o, e_r', e_o', (show ¬ 4 = c by omega)], by simp [pm, pa, pq, cl, fw, e_r, e_o, e_r', e_o', (show ¬ 4 = c by omega)], rfl, rfl⟩) (by simp [pm, pa, pq, cl, fw, e_r, e_o, e_r', e_o', (show ¬ 4 = c by omega)]) (Or.inl ⟨by simp [pm, pa, pq, cl, fw, e_r, e_o, e_r', e_o', (show ¬ 4 = c by omega)], by simp [pm, pa, pq, cl, fw, e_r, e_o, e_r', e_o', (show ¬ 4 = c by omega)]⟩)
  · have e9 := cnt_er (p := pS b) hz
    rw [List.countP_append]
    simp [pS, hr4] at e9 ⊢
    omega
  · have e9 := cnt_er (p := pH b) hz
    rw [List.countP_append]
    simp [pH, hr4] at e9 ⊢
    omega
theorem mb_own5 {N : Nat} {M : List Msg} {b j : Nat} {k n A i f : Nat → Nat} {S H : Nat} (hM : MB N M b k n A i f S H) {r o : Nat} {v val : Int32} {nb : Nat} (hz : M[j]? = some (5, 4, o, b, v, nb, r + 1)) (hN4 : N ≤ 4) (hr4 : r ≠ 4) (ho4 : o ≠ 4) (hne : o ≠ r) (hb : (M.take j).any (pq o b) = false) (hk : k r = 6) (hi : i o = 0) (hf : f o = 5) : MB N (M.eraseIdx j ++ [(8, o, r, b, val, 0, 0)]) b (fu k r 9) (fu n r 0) A i (fu f o 0) S H := by
  obtain ⟨m1, m2, m3⟩ := hM
  refine ⟨fun c hc => ?_, ?_, ?_⟩
  · have x3 := m1 c hc
    by_cases e_r : c = r
    · subst e_r
      simp only [fu_self, fu_ne _ _ (Ne.symm hne)]
      exact vw_gen hz x3 (Or.inr ⟨by simp [pm, pa, pq, cl, fw], by simp [pm, pa, pq, cl, fw, Ne.symm hr4]⟩) (by simp [pm, pa, pq, cl, fw]) (Or.inl ⟨by simp [pm, pa, pq, cl, fw, hne], by simp [pm, pa, pq, cl, fw, qq, hk]⟩)
    · have e_r' : ¬ r = c := fun q9 => e_r q9.symm
      by_cases e_o : c = o
      · subst e_o
        simp only [fu_self, fu_ne _ _ hne]
        exact vw_gen hz x3 (Or.inl ⟨by simp [pm, pa, pq, cl, fw, e_r, e_r'], by simp [pm, pa, pq, cl, fw, e_r, e_r', Ne.symm ho4], rfl, rfl⟩) (by simp [pm, pa, pq, cl, fw, e_r, e_r']) (Or.inr ⟨by simp [pm, pa, pq, cl, fw], hb, by simp [pm, pa, pq, cl, fw, qq, hi, hf]⟩)
      · have e_o' : ¬ o = c := fun q9 => e_o q9.symm
        simp only [fu, if_neg e_r, if_neg e_o]
        exact vw_gen hz x3 (Or.inl ⟨by simp [pm, pa, pq, cl, fw, e_r, e_o, e_r', e_o', (show ¬ 4 = c by omega)], by simp [pm, pa, pq, cl, fw, e_r, e_o, e_r', e_o', (show ¬ 4 = c by omega)], rfl, rfl⟩) (by simp [pm, pa, pq, cl, fw, e_r, e_o, e_r', e_o', (show ¬ 4 = c by omega)]) (Or.inl ⟨by simp [pm, pa, pq, cl, fw, e_r, e_o, e_r', e_o', (show ¬ 4 = c by omega)], by simp [pm, pa, pq, cl, fw, e_r, e_o, e_r', e_o', (show ¬ 4 = c by omega)]⟩)
  · have e9 := cnt_er (p := pS b) hz
    rw [List.countP_append]
    simp [pS, hr4] at e9 ⊢
    omega
  · have e9 := cnt_er (p := pH b) hz
    rw [List.countP_append]
    simp [pH, hr4] at e9 ⊢
    omega
theorem mb_putack {N : Nat} {M : List Msg} {b j : Nat} {k n A i f : Nat → Nat} {S H : Nat} (hM : MB N M b k n A i f S H) {c0 : Nat} {v : Int32} {nb aq : Nat} (hz : M[j]? = some (7, 4, c0, b, v, nb, aq)) (hb : (M.take j).any (pq c0 b) = false) (hk : k c0 = 8) (hi : i c0 = 0) (hf : f c0 = 0) : MB N (M.eraseIdx j ++ []) b (fu k c0 0) (fu n c0 0) A i f S H := by
  obtain ⟨m1, m2, m3⟩ := hM
  refine ⟨fun c hc => ?_, ?_, ?_⟩
  · have x3 := m1 c hc
    by_cases e_c0 : c = c0
    · subst e_c0
      simp only [fu_self]
      exact vw_gen hz x3 (Or.inr ⟨by simp [pm, pa, pq, cl, fw], by simp⟩) (by simp [pm, pa, pq, cl, fw]) (Or.inr ⟨by simp [pm, pa, pq, cl, fw], hb, by simp [qq, hk, hi, hf]⟩)
    · have e_c0' : ¬ c0 = c := fun q9 => e_c0 q9.symm
      simp only [fu, if_neg e_c0]
      exact vw_gen hz x3 (Or.inl ⟨by simp [pm, pa, pq, cl, fw, e_c0, e_c0'], by simp [pm, pa, pq, cl, fw, e_c0, e_c0'], rfl, rfl⟩) (by simp [pm, pa, pq, cl, fw, e_c0, e_c0']) (Or.inl ⟨by simp [pm, pa, pq, cl, fw, e_c0, e_c0'], by simp [pm, pa, pq, cl, fw, e_c0, e_c0']⟩)
  · have e9 := cnt_er (p := pS b) hz
    rw [List.countP_append]
    simp [pS] at e9 ⊢
    omega
  · have e9 := cnt_er (p := pH b) hz
    rw [List.countP_append]
    simp [pH] at e9 ⊢
    omega
/-- the invalidations -/
theorem invs_view (g : PS) (b r c : Nat) : ∀ n, (s_invs g b r n).filter (pm c b) = [] ∧ (s_invs g b r n).countP (pa c b) = (if r = c then s_shr g b (r + 1) n else 0) ∧ ((s_invs g b r n).filter (pq c b)).map (fun z => z.1) = (if c < n ∧ g 16 (4 * b + c) ≠ 0 ∧ c ≠ r then [6] else []) ∧ (s_invs g b r n).countP (pS b) = 0 ∧ (s_invs g b r n).countP (pH b) = 0
  | 0 => by simp [s_invs, s_shr]
  | n + 1 => by
    obtain ⟨h1, h2, h3, h4, h5⟩ := invs_view g b r c n
    unfold s_invs s_shr
    by_cases e0 : g 16 (4 * b + n) = 0
    · rw [if_pos e0, if_pos e0]
      refine ⟨h1, h2, ?_, h4, h5⟩
      rw [h3]
      by_cases ec : c = n
      · subst ec
        rw [if_neg (fun q => absurd q.1 (Nat.lt_irrefl c)), if_neg (fun q => q.2.1 e0)]
      · by_cases eq : c < n ∧ g 16 (4 * b + c) ≠ 0 ∧ c ≠ r
        · rw [if_pos eq, if_pos ⟨by omega, eq.2⟩]
        · rw [if_neg eq, if_neg (fun q => eq ⟨by omega, q.2⟩)]
    · rw [if_neg e0, if_neg e0]
      by_cases er : n = r
      · subst er
        rw [if_pos rfl, if_pos rfl]
        refine ⟨h1, h2, ?_, h4, h5⟩
        rw [h3]
        by_cases eq : c < n ∧ g 16 (4 * b + c) ≠ 0 ∧ c ≠ n
        · rw [if_pos eq, if_pos ⟨by omega, eq.2⟩]
        · rw [if_neg eq, if_neg (fun q => eq ⟨by omega, q.2⟩)]
      · rw [if_neg er, if_neg (show ¬ n + 1 = r + 1 by omega)]
        rw [List.filter_append, List.countP_append, List.filter_append, List.map_append, List.countP_append, List.countP_append, h1, h2, h3, h4, h5]
        refine ⟨by simp [pm], ?_, ?_, by simp [pS], by simp [pH]⟩
        · by_cases erc : r = c
          · rw [if_pos erc, if_pos erc]; simp [pa, cl, erc]
          · rw [if_neg erc, if_neg erc]; simp [pa, cl, erc]
        · by_cases ec : c = n
          · subst ec
            rw [if_neg (fun q => absurd q.1 (Nat.lt_irrefl c)), if_pos ⟨Nat.lt_succ_self c, e0, er⟩]
            simp [pq, fw]
          · have ec' : ¬ n = c := fun q => ec q.symm
            by_cases eq : c < n ∧ g 16 (4 * b + c) ≠ 0 ∧ c ≠ r
            · rw [if_pos eq, if_pos ⟨by omega, eq.2⟩]; simp [pq, fw, ec']
            · rw [if_neg eq, if_neg (fun q => eq ⟨by omega, q.2⟩)]; simp [pq, fw, ec']
theorem shr_lt (g : PS) (b w : Nat) : ∀ n, w + 1 ≤ n → s_shr g b (w + 1) n + 1 ≤ n
  | 0, h => by omega
  | n + 1, h => by
    have h1 := s_shr_le g b (w + 1) n
    by_cases e : n = w
    · subst e
      unfold s_shr
      rw [if_pos rfl]
      split <;> omega
    · have ih := shr_lt g b w n (by omega)
      unfold s_shr
      split
      · omega
      · split <;> omega
theorem shr_le3 {g : PS} {b r : Nat} (hr : r < 4) : s_shr g b (r + 1) 4 ≤ 3 := by
  have := shr_lt g b r 4 (by omega)
  omega
theorem mb_give1 {N : Nat} {M : List Msg} {b j : Nat} {k n A i f : Nat → Nat} {S H : Nat} (hM : MB N M b k n A i f S H) {r : Nat} {v val : Int32} {nb aq : Nat} (hz : M[j]? = some (1, r, 4, b, v, nb, aq)) {g : PS} {s : Nat → Nat} (hN4 : N ≤ 4) (hr4 : r ≠ 4) (hk : k r = 2) (hA : A r = 0) (hs : ∀ c, c < N → (g 16 (4 * b + c) ≠ 0 ↔ s c ≠ 0)) (hq : ∀ c, c < N → s c ≠ 0 → c ≠ r → i c = 0 ∧ f c = 0 ∧ k c ≠ 8) :
    MB N (M.eraseIdx j ++ (8, 4, r, b, val, s_shr g b (r + 1) 4, 0) :: s_invs g b r 4) b (fu k r 9) (fu n r (s_shr g b (r + 1) 4)) (fu A r (s_shr g b (r + 1) 4)) (fi i s r) f S H := by
  obtain ⟨m1, m2, m3⟩ := hM
  refine ⟨fun c hc => ?_, ?_, ?_⟩
  · have x3 := m1 c hc
    obtain ⟨v1, v2, v3, v4, v5⟩ := invs_view g b r c 4
    by_cases e_r : c = r
    · subst e_r
      rw [fu_self, fu_self, fu_self, fi_0 (fun q => q.2 rfl)]
      refine vw_gen hz x3 (Or.inr ⟨by simp [pm, cl], ?_⟩) ?_ (Or.inl ⟨by simp [pq, fw], ?_⟩)
      · rw [List.filter_cons, v1]; simp [pm, cl]
      · rw [List.countP_cons, v2, hA]; simp [pa, cl]
      · rw [List.filter_cons, if_neg (by simp [pq, fw]), v3, if_neg (fun q => q.2.2 rfl)]
        simp [qq, hk]
    · have e' : ¬ r = c := fun q9 => e_r q9.symm
      rw [fu_ne _ _ e_r, fu_ne _ _ e_r, fu_ne _ _ e_r]
      refine vw_gen hz x3 (Or.inl ⟨by simp [pm, cl, e'], ?_, rfl, rfl⟩) ?_ (Or.inl ⟨by simp [pq, fw], ?_⟩)
      · rw [List.filter_cons, v1]; simp [pm, cl, e']
      · rw [List.countP_cons, v2]; simp [pa, cl, e']
      · rw [List.filter_cons, if_neg (by simp [pq, fw]), v3]
        by_cases es : s c ≠ 0
        · rw [if_pos ⟨by omega, (hs c hc).mpr es, e_r⟩, fi_1 ⟨es, e_r⟩]
          obtain ⟨q1, q2, q3⟩ := hq c hc es e_r
          simp [qq, q1, q2, q3]
        · rw [if_neg (fun q => es ((hs c hc).mp q.2.1)), fi_0 (fun q => es q.1)]
          simp
  · have e9 := cnt_er (p := pS b) hz
    rw [List.countP_append, List.countP_cons, (invs_view g b r 0 4).2.2.2.1]
    simp [pS] at e9 ⊢
    omega
  · have e9 := cnt_er (p := pH b) hz
    rw [List.countP_append, List.countP_cons, (invs_view g b r 0 4).2.2.2.2]
    simp [pH, hr4] at e9 ⊢
    omega
