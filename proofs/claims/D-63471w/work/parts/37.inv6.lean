/-! ===== deliveries to cores keep the invariant ===== -/
theorem fu_id {α : Type} (f : Nat → α) (t : Nat) : fu f t (f t) = f := by
  funext x
  by_cases e : x = t
  · subst e; exact fu_self _ _ _
  · exact fu_ne _ _ e
theorem li2_f {L k i f : Nat} (h : LI2 L k i f) (hf : f ≠ 0) : L = 2 ∨ L = 8 ∨ (4 ≤ L ∧ L ≤ 7) := by
  have := h.2.2.1 hf
  unfold MP at this
  omega
theorem li2_i {L k i f : Nat} (h : LI2 L k i f) (hi : i = 1) : L = 1 ∨ L = 9 ∨ L = 6 ∨ L = 3 := by
  have := h.2.2.2 hi
  omega
/-- what comes to a line is what it may meet -/
theorem core_ok {N : Nat} {g : PS} {M : List Msg} {b j kd fr t : Nat} {v : Int32} {nb aq : Nat} (hN4 : N ≤ 4) (hB : BX N g M b) (hW : ∀ z ∈ M, WZ N z) (hz : M[j]? = some (kd, fr, t, b, v, nb, aq)) (ht : t ≠ 4) (hbh : s_behind M j (kd, fr, t, b, v, nb, aq) = 0) :
    t < N ∧ ∃ st, g 8 (4 * t + b) = nI st ∧ (st, kd) ∈ okL ∧ (st = 3 → kd = 8 → nb = 0) := by
  obtain ⟨L, k, n, A, i, f, s, m, h, w, S, H, hR, hI⟩ := hB
  obtain ⟨htN, -, hc⟩ := at_core hN4 hR hI hW hz ht hbh
  refine ⟨htN, L t, ((rb_g hR).1 t htN).1, ?_⟩
  obtain ⟨l1, l2, -, -⟩ := hI.1 t htN
  rcases hc with ⟨rfl, hk, hn⟩ | ⟨rfl, hA⟩ | ⟨rfl, -, hi, -⟩ | ⟨hkd, -, hi, hf, -⟩ | ⟨rfl, -, -, -, hk⟩
  · rcases li_k9 l1 hk with ⟨e, e0⟩ | ⟨e, -⟩
    · rw [e]; exact ⟨by decide, fun _ _ => by omega⟩
    · rcases e with e | e <;> rw [e] <;> exact ⟨by decide, fun q => absurd q (by decide)⟩
  · rcases (li_A l1 hA).2 with ⟨e, -⟩ | ⟨e, -⟩ <;> rcases e with e | e <;> rw [e] <;> exact ⟨by decide, fun q => absurd q (by decide)⟩
  · rcases li2_i l2 hi with e | e | e | e <;> rw [e] <;> exact ⟨by decide, fun _ q => absurd q (by decide)⟩
  · have hd := li2_f l2 (by omega)
    rcases (show L t = 2 ∨ L t = 8 ∨ L t = 4 ∨ L t = 5 ∨ L t = 6 ∨ L t = 7 by omega) with e | e | e | e | e | e <;> rw [e] <;> rcases hkd with rfl | rfl <;> exact ⟨by decide, fun _ q => absurd q (by decide)⟩
  · rcases li_k8 l1 hk with e | e | e <;> rw [e] <;> exact ⟨by decide, fun _ q => absurd q (by decide)⟩
theorem bx_core {N : Nat} {g : PS} {M : List Msg} {b j kd fr t : Nat} {v : Int32} {nb aq : Nat} (hN4 : N ≤ 4) (hb4 : b < 4) (hB : BX N g M b) (hW : ∀ z ∈ M, WZ N z) (hz : M[j]? = some (kd, fr, t, b, v, nb, aq)) (ht : t ≠ 4) (hbh : s_behind M j (kd, fr, t, b, v, nb, aq) = 0) (hst : s_stalls g (kd, fr, t, b, v, nb, aq) = 0) :
    BX N (s_acG g kd t b v nb) (M.eraseIdx j ++ s_acQ g kd t b aq) b ∧ ∃ st st2, st < 11 ∧ g 8 (4 * t + b) = nI st ∧ s_acG g kd t b v nb 8 (4 * t + b) = nI st2 ∧ TR st kd st2 := by
  obtain ⟨L, k, n, A, i, f, s, m, h, w, S, H, hR, hI⟩ := hB
  have hG := rb_g hR
  have hM := rb_m hR
  obtain ⟨htN, hfr, hc⟩ := at_core hN4 hR hI hW hz ht hbh
  have h8 := (hG.1 t htN).1
  have h10 := (hG.1 t htN).2
  obtain ⟨l1, l2, -, -⟩ := hI.1 t htN
  have hL11 : L t < 11 := l1.1
  have e8 : ∀ q, q < 11 → (g 8 (4 * t + b) = nI q ↔ L t = q) := fun q hq => by rw [h8]; exact nI_eq (by omega) (by omega)
  have e3 : g 8 (4 * t + b) = 3 ↔ L t = 3 := e8 3 (by decide)
  have e6 : g 8 (4 * t + b) = 6 ↔ L t = 6 := e8 6 (by decide)
  have e5 : g 8 (4 * t + b) = 5 ↔ L t = 5 := e8 5 (by decide)
  have e7 : g 8 (4 * t + b) = 7 ↔ L t = 7 := e8 7 (by decide)
  have e1 : g 8 (4 * t + b) = 1 ↔ L t = 1 := e8 1 (by decide)
  have e2 : g 8 (4 * t + b) = 2 ↔ L t = 2 := e8 2 (by decide)
  rcases hc with ⟨rfl, hk, hn⟩ | ⟨rfl, hA⟩ | ⟨rfl, rfl, hi, a, ha, rfl⟩ | ⟨hkd, rfl, hi, hf, a, ha, rfl, hka⟩ | ⟨rfl, rfl, hi, hf, hk⟩
  · -- DATA
    have eQ : s_acQ g 8 t b aq = [] := by simp [s_acQ]
    rw [eQ]
    rcases li_k9 l1 hk with ⟨hL, hn0⟩ | ⟨hL, hmn, hn3, hA3⟩
    · have eG : s_acG g 8 t b v nb = up2 (up2 (up2 g 9 (4 * t + b) v) 10 (4 * t + b) (Int32.ofInt (m t))) 8 (4 * t + b) (nI 1) := by
        unfold s_acG
        rw [if_pos rfl, if_pos (e3.mpr hL), h10, ofi_add]
        rw [show (m t + (nb : Int)) = m t by omega]
        rfl
      refine ⟨?_, L t, 1, hL11, h8, by rw [eG, up2_at], Or.inl ⟨rfl, hL, rfl⟩⟩
      rw [eG]
      have hGx := gb_8 (gb_10 (gb_9 hG (4 * t + b) v) t (m t)) t 1
      have em : fu m t (m t) = m := fu_id m t
      rw [em] at hGx
      exact ⟨_, _, _, _, _, _, _, _, _, _, _, _, rb_mk hGx (mb_data hM hz ht hk), a10_data hI htN hL hk⟩
    · have hz0 := ofi_zero (q := m t + (nb : Int)) (by omega) (by omega)
      have eG : s_acG g 8 t b v nb = up2 (up2 (up2 g 9 (4 * t + b) v) 10 (4 * t + b) (Int32.ofInt (m t + n t))) 8 (4 * t + b) (nI (if m t + (n t : Int) = 0 then 2 else if L t = 6 then 7 else 5)) := by
        unfold s_acG
        rw [if_pos rfl, if_neg (fun q => absurd (e3.mp q) (by omega)), h10, ofi_add, ← hn]
        rw [← hn] at hz0
        congr 1
        by_cases q0 : m t + (n t : Int) = 0
        · rw [if_pos (hz0.mpr q0), if_pos q0]; rfl
        · rw [if_neg (fun q => q0 (hz0.mp q)), if_neg q0]
          by_cases q6 : L t = 6
          · rw [if_pos (e6.mpr q6), if_pos q6]; rfl
          · rw [if_neg (fun q => q6 (e6.mp q)), if_neg q6]; rfl
      refine ⟨?_, L t, _, hL11, h8, by rw [eG, up2_at], Or.inr (Or.inl ⟨rfl, hL, ?_⟩)⟩
      · rw [eG]
        refine ⟨_, _, _, _, _, _, _, _, _, _, _, _, rb_mk (gb_8 (gb_10 (gb_9 hG (4 * t + b) v) t (m t + n t)) t _) (mb_data hM hz ht hk), a11_data hI htN hL hk ?_⟩
        by_cases q0 : m t + (n t : Int) = 0
        · exact Or.inl ⟨q0, if_pos q0⟩
        · refine Or.inr ⟨q0, ?_⟩
          rw [if_neg q0]
          split
          · exact Or.inr rfl
          · exact Or.inl rfl
      · split
        · exact Or.inl rfl
        · split
          · exact Or.inr (Or.inr rfl)
          · exact Or.inr (Or.inl rfl)
  · -- ACK
    have eQ : s_acQ g 9 t b aq = [] := by simp [s_acQ]
    rw [eQ]
    obtain ⟨hA3, hcs⟩ := li_A l1 hA
    rcases hcs with ⟨hL, hk9, hmn, hn3⟩ | ⟨hL, hmA⟩
    · have eG : s_acG g 9 t b v nb = up2 (up2 g 10 (4 * t + b) (Int32.ofInt (m t - 1))) 8 (4 * t + b) (nI (L t)) := by
        unfold s_acG
        rw [if_neg (by decide), if_pos rfl, h10, ofi_sub, if_neg (fun q => absurd (e5.mp q) (by omega)), if_neg (fun q => absurd (e7.mp q) (by omega)), h8]
      refine ⟨?_, L t, L t, hL11, h8, by rw [eG, up2_at], Or.inr (Or.inr (Or.inl ⟨rfl, hL, rfl⟩))⟩
      rw [eG]
      exact ⟨_, _, _, _, _, _, _, _, _, _, _, _, rb_mk (gb_8 (gb_10 hG t (m t - 1)) t (L t)) (mb_ack hM hz hA), a12_ack hI htN hA (Or.inr (Or.inr ⟨hL, rfl⟩))⟩
    · have hz0 := ofi_zero (q := m t - 1) (by omega) (by omega)
      have eG : s_acG g 9 t b v nb = up2 (up2 g 10 (4 * t + b) (Int32.ofInt (m t - 1))) 8 (4 * t + b) (nI (if m t - 1 = 0 then 2 else L t)) := by
        unfold s_acG
        rw [if_neg (by decide), if_pos rfl, h10, ofi_sub, h8]
        congr 1
        have z2 : (2 : Int32) = nI 2 := rfl
        have i5 : nI (L t) = 5 ↔ L t = 5 := by rw [← h8]; exact e5
        have i7 : nI (L t) = 7 ↔ L t = 7 := by rw [← h8]; exact e7
        by_cases q0 : m t - 1 = 0
        · rw [if_pos (hz0.mpr q0), if_pos q0]
          rcases hL with q | q
          · rw [if_pos (i5.mpr q)]; rfl
          · rw [if_neg (fun e => absurd (i5.mp e) (by omega)), if_pos (i7.mpr q)]; rfl
        · rw [if_neg (fun q => q0 (hz0.mp q)), if_neg q0]
          rcases hL with q | q
          · rw [if_pos (i5.mpr q)]
          · rw [if_neg (fun e => absurd (i5.mp e) (by omega)), if_pos (i7.mpr q)]
      refine ⟨?_, L t, _, hL11, h8, by rw [eG, up2_at], Or.inr (Or.inr (Or.inr (Or.inl ⟨rfl, hL, ?_⟩)))⟩
      · rw [eG]
        refine ⟨_, _, _, _, _, _, _, _, _, _, _, _, rb_mk (gb_8 (gb_10 hG t (m t - 1)) t _) (mb_ack hM hz hA), a12_ack hI htN hA ?_⟩
        by_cases q0 : m t - 1 = 0
        · exact Or.inl ⟨hL, q0, if_pos q0⟩
        · exact Or.inr (Or.inl ⟨hL, q0, if_neg q0⟩)
      · split
        · exact Or.inr rfl
        · exact Or.inl rfl
  · -- INV
    have hL3 : ¬ L t = 3 := by
      intro q
      simp only [s_stalls, if_neg ht, if_pos, e3, q] at hst
      exact absurd hst (by decide)
    have hL : L t = 1 ∨ L t = 6 ∨ L t = 9 := by have := li2_i l2 hi; omega
    have eQ : s_acQ g 6 t b (a + 1) = [(9, t, a, b, 0, 0, 0)] := by simp [s_acQ]
    have eG : s_acG g 6 t b v nb = up2 (snd g) 8 (4 * t + b) (nI (if L t = 1 then 0 else if L t = 6 then 4 else 10)) := by
      unfold s_acG
      rw [if_neg (by decide), if_neg (by decide), if_pos rfl]
      congr 1
      by_cases q1 : L t = 1
      · rw [if_pos (e1.mpr q1), if_pos q1]; rfl
      · rw [if_neg (fun q => q1 (e1.mp q)), if_neg q1]
        by_cases q6 : L t = 6
        · rw [if_pos (e6.mpr q6), if_pos q6]; rfl
        · rw [if_neg (fun q => q6 (e6.mp q)), if_neg q6]; rfl
    have h1 : (L t = 1 ∧ (if L t = 1 then 0 else if L t = 6 then 4 else 10) = 0) ∨ (L t = 6 ∧ (if L t = 1 then 0 else if L t = 6 then 4 else 10) = 4) ∨ (L t = 9 ∧ (if L t = 1 then 0 else if L t = 6 then 4 else 10) = 10) := by
      rcases hL with q | q | q <;> rw [q] <;> simp
    refine ⟨?_, L t, _, hL11, h8, by rw [eG, up2_at], Or.inr (Or.inr (Or.inr (Or.inr (Or.inl ⟨rfl, h1⟩))))⟩
    rw [eG, eQ]
    exact ⟨_, _, _, _, _, _, _, _, _, _, _, _, rb_mk (gb_8 (gb_snd hG) t _) (mb_inv hM hz (hfr (by decide)) hi), a13_inv hI htN hi h1⟩
  · -- FWDS, FWDM
    have hL : L t = 2 ∨ L t = 8 := by
      have hd := li2_f l2 (by omega)
      refine Classical.byContradiction fun q => ?_
      have h47 : 4 ≤ L t ∧ L t ≤ 7 := by omega
      have hn4 : ¬ g 8 (4 * t + b) < 4 := by rw [h8]; exact fun e => absurd ((nI_ltI (a := L t) (b := 4) (by omega) (by omega)).mp e) (by omega)
      have hn7 : ¬ 7 < g 8 (4 * t + b) := by rw [h8]; exact fun e => absurd ((nI_ltI (a := 7) (b := L t) (by omega) (by omega)).mp e) (by omega)
      simp only [s_stalls, if_neg ht, if_neg (show ¬ kd = 6 by omega), if_pos hkd, if_neg hn4, if_neg hn7] at hst
      exact absurd hst (by decide)
    have la := (hI.1 a ha).1
    rcases hkd with rfl | rfl
    · have hLa : L a = 3 := li_k5 la hka
      have eQ : s_acQ g 4 t b (a + 1) = [(8, t, a, b, g 9 (4 * t + b), 0, 0), (8, t, 4, b, g 9 (4 * t + b), 0, 0)] := by simp [s_acQ]
      have eG : s_acG g 4 t b v nb = up2 (snd (snd g)) 8 (4 * t + b) (nI (if L t = 2 then 1 else 9)) := by
        unfold s_acG
        rw [if_neg (by decide), if_neg (by decide), if_neg (by decide), if_pos rfl]
        congr 1
        by_cases q2 : L t = 2
        · rw [if_pos (e2.mpr q2), if_pos q2]; rfl
        · rw [if_neg (fun q => q2 (e2.mp q)), if_neg q2]; rfl
      have h1 : (L t = 2 ∧ (if L t = 2 then 1 else 9) = 1) ∨ (L t = 8 ∧ (if L t = 2 then 1 else 9) = 9) := by
        rcases hL with q | q <;> rw [q] <;> simp
      have hS : 0 < S := vw_fS hM t htN hf
      refine ⟨?_, L t, _, hL11, h8, by rw [eG, up2_at], Or.inr (Or.inr (Or.inr (Or.inr (Or.inr (Or.inl ⟨rfl, h1⟩)))))⟩
      rw [eG, eQ]
      exact ⟨_, _, _, _, _, _, _, _, _, _, _, _, rb_mk (gb_8 (gb_snd (gb_snd hG)) t _) (mb_own4 hM hz hN4 (by omega) ht (by intro e; subst e; omega) (hfr (by decide)) hka hi hf hS), a14_fwds hI ha htN hf hi hka hLa h1 hS⟩
    · have hLa : L a = 4 ∨ L a = 6 := li_k6 la hka
      have eQ : s_acQ g 5 t b (a + 1) = [(8, t, a, b, g 9 (4 * t + b), 0, 0)] := by simp [s_acQ]
      have eG : s_acG g 5 t b v nb = up2 (snd g) 8 (4 * t + b) (nI (if L t = 2 then 0 else 10)) := by
        unfold s_acG
        rw [if_neg (by decide), if_neg (by decide), if_neg (by decide), if_neg (by decide), if_pos rfl]
        congr 1
        by_cases q2 : L t = 2
        · rw [if_pos (e2.mpr q2), if_pos q2]; rfl
        · rw [if_neg (fun q => q2 (e2.mp q)), if_neg q2]; rfl
      have h1 : (L t = 2 ∧ (if L t = 2 then 0 else 10) = 0) ∨ (L t = 8 ∧ (if L t = 2 then 0 else 10) = 10) := by
        rcases hL with q | q <;> rw [q] <;> simp
      refine ⟨?_, L t, _, hL11, h8, by rw [eG, up2_at], Or.inr (Or.inr (Or.inr (Or.inr (Or.inr (Or.inr (Or.inl ⟨rfl, h1⟩))))))⟩
      rw [eG, eQ]
      exact ⟨_, _, _, _, _, _, _, _, _, _, _, _, rb_mk (gb_8 (gb_snd hG) t _) (mb_own5 hM hz hN4 (by omega) ht (by intro e; subst e; omega) (hfr (by decide)) hka hi hf), a15_fwdm hI ha htN hf hi hka hLa h1 (fun c hc e => vw_inv hM hW c hc e)⟩
  · -- PUTACK
    have eQ : s_acQ g 7 t b aq = [] := by simp [s_acQ]
    have eG : s_acG g 7 t b v nb = up2 (up2 g 8 (4 * t + b) (nI 0)) 7 t 0 := by
      unfold s_acG
      rw [if_neg (by decide), if_neg (by decide), if_neg (by decide), if_neg (by decide), if_neg (by decide)]
      rfl
    refine ⟨?_, L t, 0, hL11, h8, by rw [eG, up2_k _ _ (by decide), up2_at], Or.inr (Or.inr (Or.inr (Or.inr (Or.inr (Or.inr (Or.inr ⟨rfl, li_k8 l1 hk, rfl⟩))))))⟩
    rw [eG, eQ]
    exact ⟨_, _, _, _, _, _, _, _, _, _, _, _, rb_mk (gb_7 (gb_8 hG t 0) t 0) (mb_putack hM hz (hfr (by decide)) hk hi hf), a16_ack hI htN hk hi hf⟩
