/-! ===== the state's part at each delivery to a home ===== -/
def BX (N : Nat) (g : PS) (M : List Msg) (b : Nat) : Prop := ∃ (L k n A i f s : Nat → Nat) (m : Nat → Int) (h w S H : Nat), RB N g M b L k n A i f s m h w S H ∧ BI N L k n A i f s m h w S H
theorem gb_up16 {N : Nat} {g : PS} {b : Nat} {L s : Nat → Nat} {m : Nat → Int} {h w : Nat} (hG : GB N g b L s m h w) {r q : Nat} (hr : r < N) : GB N (up2 g 16 (4 * b + r) (nI q)) b L (fu s r q) m h w := by
  obtain ⟨h1, h2, h3, h4⟩ := hG
  refine ⟨h1, fun c hc => ?_, h3, h4⟩
  by_cases e : c = r
  · subst e
    rw [fu_self, up2_at]
    exact ⟨rfl, fun q => by omega⟩
  · rw [fu_ne _ _ e, up2_j _ _ (by omega)]
    exact h2 c hc
theorem gb_14 {N : Nat} {g : PS} {b : Nat} {L s : Nat → Nat} {m : Nat → Int} {h w : Nat} (hG : GB N g b L s m h w) (q : Nat) : GB N (up2 g 14 b (nI q)) b L s m q w := ⟨hG.1, hG.2.1, up2_at _ _ _ _, hG.2.2.2⟩
theorem gb_15 {N : Nat} {g : PS} {b : Nat} {L s : Nat → Nat} {m : Nat → Int} {h w : Nat} (hG : GB N g b L s m h w) (q : Nat) : GB N (up2 g 15 b (nI q)) b L s m h (q + 1) := ⟨hG.1, hG.2.1, hG.2.2.1, by rw [up2_at, if_neg (by omega)]; rfl⟩
theorem gb_15n {N : Nat} {g : PS} {b : Nat} {L s : Nat → Nat} {m : Nat → Int} {h w : Nat} (hG : GB N g b L s m h w) : GB N (up2 g 15 b (-1)) b L s m h 0 := ⟨hG.1, hG.2.1, hG.2.2.1, by rw [up2_at, if_pos rfl]⟩
theorem gb_13 {N : Nat} {g : PS} {b : Nat} {L s : Nat → Nat} {m : Nat → Int} {h w : Nat} (hG : GB N g b L s m h w) (v : Int32) : GB N (up2 g 13 b v) b L s m h w := hG
theorem gb_snd {N : Nat} {g : PS} {b : Nat} {L s : Nat → Nat} {m : Nat → Int} {h w : Nat} (hG : GB N g b L s m h w) : GB N (snd g) b L s m h w := hG
theorem invG_16 (g : PS) (b r : Nat) : ∀ n c, c < n → s_invG g b r n 16 (4 * b + c) = 0
  | 0, c, h => by omega
  | n + 1, c, h => by
    by_cases e : c = n
    · subst e
      unfold s_invG
      split
      · exact up2_at _ _ _ _
      · split <;> exact up2_at _ _ _ _
    · have ih := invG_16 g b r n c (by omega)
      have h1 : 4 * b + c ≠ 4 * b + n := by omega
      unfold s_invG
      split
      · rw [up2_j _ _ h1]; exact ih
      · split
        · rw [up2_j _ _ h1]; exact ih
        · rw [up2_j _ _ h1]; exact ih
theorem gb_inv {N : Nat} {g : PS} {b : Nat} {L s : Nat → Nat} {m : Nat → Int} {h w : Nat} (hG : GB N g b L s m h w) (r : Nat) : GB N (s_invG g b r 4) b L (fun _ => 0) m h w := by
  obtain ⟨h1, h2, h3, h4⟩ := hG
  refine ⟨fun c hc => ?_, fun c hc => ⟨invG_16 g b r 4 c hc, fun _ => rfl⟩, ?_, ?_⟩
  · rw [s_invG_o g b r (by decide) (by decide), s_invG_o g b r (k := 10) (by decide) (by decide)]; exact h1 c hc
  · rw [s_invG_o g b r (by decide) (by decide)]; exact h3
  · rw [s_invG_o g b r (by decide) (by decide)]; exact h4
/-- what the numbers say of the state -/
theorem h_eq {N : Nat} {g : PS} {b : Nat} {L s : Nat → Nat} {m : Nat → Int} {h w : Nat} (hG : GB N g b L s m h w) (hh : h < 4) (q : Nat) (hq : q < 4) : g 14 b = nI q ↔ h = q := by
  rw [hG.2.2.1]
  exact nI_eq (by omega) (by omega)
theorem s_iff {N : Nat} {g : PS} {b : Nat} {L s : Nat → Nat} {m : Nat → Int} {h w : Nat} (hG : GB N g b L s m h w) (hs : ∀ c, c < N → s c ≠ 0 → s c = 1) (c : Nat) (hc : c < 4) : g 16 (4 * b + c) ≠ 0 ↔ s c ≠ 0 := by
  obtain ⟨e1, e2⟩ := hG.2.1 c hc
  have hs' : s c ≤ 1 := by
    by_cases hN : c < N
    · by_cases h0 : s c = 0
      · omega
      · rw [hs c hN h0]; omega
    · rw [e2 (by omega)]; omega
  rw [e1]
  exact not_congr (nI_eq (b := 0) (by omega) (by omega))
theorem li_k1 {L k n A : Nat} {m : Int} (h : LI1 L k n A m) (hk : k = 1) : L = 3 := by unfold LI1 at h; omega
theorem li_k2 {L k n A : Nat} {m : Int} (h : LI1 L k n A m) (hk : k = 2) : (L = 4 ∨ L = 6) ∧ A = 0 := by unfold LI1 at h; omega
theorem li_k5 {L k n A : Nat} {m : Int} (h : LI1 L k n A m) (hk : k = 5) : L = 3 := by unfold LI1 at h; omega
theorem li_k6 {L k n A : Nat} {m : Int} (h : LI1 L k n A m) (hk : k = 6) : L = 4 ∨ L = 6 := by unfold LI1 at h; omega
theorem li_k8 {L k n A : Nat} {m : Int} (h : LI1 L k n A m) (hk : k = 8) : L = 8 ∨ L = 9 ∨ L = 10 := by unfold LI1 at h; omega
theorem li_k9 {L k n A : Nat} {m : Int} (h : LI1 L k n A m) (hk : k = 9) : (L = 3 ∧ n = 0) ∨ ((L = 4 ∨ L = 6) ∧ m + n = A ∧ n ≤ 3 ∧ A ≤ 3) := by unfold LI1 at h; omega
theorem li_A {L k n A : Nat} {m : Int} (h : LI1 L k n A m) (hA : 0 < A) : A ≤ 3 ∧ (((L = 4 ∨ L = 6) ∧ k = 9 ∧ m + n = A ∧ n ≤ 3) ∨ ((L = 5 ∨ L = 7) ∧ m = A)) := by unfold LI1 at h; omega
/-- no sharers are left -/
theorem shr_zero {g : PS} {b : Nat} : ∀ n, s_shr g b 0 n = 0 ↔ ∀ c, c < n → g 16 (4 * b + c) = 0
  | 0 => ⟨fun _ c hc => by omega, fun _ => rfl⟩
  | n + 1 => by
    have ih := shr_zero (g := g) (b := b) n
    unfold s_shr
    by_cases e : g 16 (4 * b + n) = 0
    · rw [if_pos e, ih]
      refine ⟨fun q c hc => ?_, fun q c hc => q c (by omega)⟩
      by_cases ec : c = n
      · subst ec; exact e
      · exact q c (by omega)
    · rw [if_neg e, if_neg (by omega)]
      exact ⟨fun q => by omega, fun q => absurd (q n (Nat.lt_succ_self n)) e⟩
theorem vw_inv {N : Nat} {M : List Msg} {b : Nat} {k n A i f : Nat → Nat} {S H : Nat} (hM : MB N M b k n A i f S H) (hW : ∀ z ∈ M, WZ N z) (c : Nat) (hc : c < N) (hi : i c = 1) : ∃ a, a < N ∧ 0 < A a := by
  have h3 := (hM.1 c hc).2.2
  have h6 : 6 ∈ (M.filter (pq c b)).map (fun z => z.1) := by rw [h3, hi]; simp [qq]
  obtain ⟨z, hz, e6⟩ := List.mem_map.mp h6
  obtain ⟨hzM, hp⟩ := List.mem_filter.mp hz
  obtain ⟨-, -, -, w4, -⟩ := hW z hzM
  obtain ⟨-, -, a, ha, haq⟩ := w4 (by omega)
  refine ⟨a, ha, ?_⟩
  rw [← (hM.1 a ha).2.1, List.countP_pos_iff]
  refine ⟨z, hzM, ?_⟩
  have hb : z.2.2.2.1 = b := by simp [pq] at hp; exact hp.1.2
  simp [pa, cl, e6, haq, hb]
theorem vw_fS {N : Nat} {M : List Msg} {b : Nat} {k n A i f : Nat → Nat} {S H : Nat} (hM : MB N M b k n A i f S H) (c : Nat) (hc : c < N) (hf : f c = 4) : 0 < S := by
  have h3 := (hM.1 c hc).2.2
  have h6 : 4 ∈ (M.filter (pq c b)).map (fun z => z.1) := by rw [h3, hf]; simp [qq]
  obtain ⟨z, hz, e6⟩ := List.mem_map.mp h6
  obtain ⟨hzM, hp⟩ := List.mem_filter.mp hz
  rw [← hM.2.1, List.countP_pos_iff]
  refine ⟨z, hzM, ?_⟩
  have hb : z.2.2.2.1 = b := by simp [pq] at hp; exact hp.1.2
  simp [pS, e6, hb]
theorem bx_put {N : Nat} {g : PS} {M : List Msg} {b j kd r : Nat} {v : Int32} {nb aq : Nat} {L k n A i f s : Nat → Nat} {m : Nat → Int} {h w S H : Nat} (hN4 : N ≤ 4) (hb4 : b < 4) (hR : RB N g M b L k n A i f s m h w S H) (hI : BI N L k n A i f s m h w S H) (hr : r < N) (hkd : kd = 2 ∨ kd = 3) (hz : M[j]? = some (kd, r, 4, b, v, nb, aq)) (hk : k r = kd + 1) : BX N (s_ahG g kd r b v) (M.eraseIdx j ++ s_ahQ g kd r b) b := by
  have hG := rb_g hR
  have hM := rb_m hR
  have hIc := hI
  obtain ⟨b1, b2, b3, b4, b5, b6, b7, b8⟩ := hIc
  have h2i : g 14 b = 2 ↔ h = 2 := h_eq hG b2 2 (by decide)
  have h1i : g 14 b = 1 ↔ h = 1 := h_eq hG b2 1 (by decide)
  have hs1 : ∀ c, c < N → s c ≠ 0 → s c = 1 := fun c hc e => ((b1 c hc).2.2.2 e).1
  have hM1 : MB N (M.eraseIdx j ++ [(7, 4, r, b, 0, 0, 0)]) b (fu k r 8) (fu n r 0) A i f S H := by
    rcases hkd with rfl | rfl
    · exact mb_put2 hM hz hk
    · exact mb_put3 hM hz hk
  have eQ : s_ahQ g kd r b = [(7, 4, r, b, 0, 0, 0)] := by
    rcases hkd with rfl | rfl <;> simp [s_ahQ]
  rw [eQ]
  have hwi : h = 2 → (g 15 b = nI r ↔ w = r + 1) := by
    intro e
    obtain ⟨q1, q2⟩ := b3 e
    rw [hG.2.2.2, if_neg (by omega), nI_eq (by omega) (by omega)]
    omega
  by_cases ho : kd = 3 ∧ h = 2 ∧ w = r + 1
  · obtain ⟨rfl, h2, hw⟩ := ho
    have eG : s_ahG g 3 r b v = snd (up2 (up2 (up2 g 13 b v) 15 b (-1)) 14 b (nI 0)) := by
      unfold s_ahG
      rw [if_neg (by decide), if_neg (by decide), if_neg (by decide), if_pos ⟨rfl, h2i.mpr h2, (hwi h2).mpr hw⟩]
      rfl
    rw [eG]
    exact ⟨_, _, _, _, _, _, _, _, _, _, _, _, rb_mk (gb_snd (gb_14 (gb_15n (gb_13 hG v)) 0)) hM1, a7_put hI hr hk h2 hw⟩
  · have hno : ¬ (kd = 3 ∧ g 14 b = 2 ∧ g 15 b = nI r) := fun q => ho ⟨q.1, h2i.mp q.2.1, (hwi (h2i.mp q.2.1)).mp q.2.2⟩
    have hnk : ¬ (k r = 4 ∧ h = 2 ∧ w = r + 1) := fun q => ho ⟨by omega, q.2⟩
    have eG : s_ahG g kd r b v = snd (up2 (up2 g 16 (4 * b + r) (nI 0)) 14 b (if g 14 b = 1 then (if s_shr (up2 g 16 (4 * b + r) (nI 0)) b 0 4 = 0 then 0 else g 14 b) else g 14 b)) := by
      unfold s_ahG
      rw [if_neg (by omega), if_neg (by omega), if_neg (by omega), if_neg hno]
      rfl
    rw [eG]
    have hG16 := gb_up16 (q := 0) hG hr
    by_cases e1 : h = 1
    · rw [if_pos (h1i.mpr e1)]
      by_cases e0 : s_shr (up2 g 16 (4 * b + r) (nI 0)) b 0 4 = 0
      · rw [if_pos e0]
        refine ⟨_, _, _, _, _, _, _, _, _, _, _, _, rb_mk (gb_snd (gb_14 hG16 0)) hM1, a8_put hI hr (by omega) hnk (Or.inr (Or.inr ⟨e1, rfl, fun c hc ec => ?_⟩))⟩
        have := (shr_zero 4).mp e0 c (by omega)
        rw [up2_j _ _ (by omega)] at this
        exact Classical.byContradiction fun q => (s_iff hG hs1 c (by omega)).mpr q this
      · rw [if_neg e0, h1i.mpr e1]
        exact ⟨_, _, _, _, _, _, _, _, _, _, _, _, rb_mk (gb_snd (gb_14 hG16 1)) hM1, a8_put hI hr (by omega) hnk (Or.inr (Or.inl ⟨e1, rfl⟩))⟩
    · rw [if_neg (fun q => e1 (h1i.mp q)), hG.2.2.1]
      exact ⟨_, _, _, _, _, _, _, _, _, _, _, _, rb_mk (gb_snd (gb_14 hG16 h)) hM1, a8_put hI hr (by omega) hnk (Or.inl ⟨rfl, e1⟩)⟩
/-- a delivery to a home -/
theorem bx_home {N : Nat} {g : PS} {M : List Msg} {b j kd r : Nat} {v : Int32} {nb aq : Nat} (hN4 : N ≤ 4) (hb4 : b < 4) (hB : BX N g M b) (hW : ∀ z ∈ M, WZ N z) (hz : M[j]? = some (kd, r, 4, b, v, nb, aq)) (hkd : kd = 0 ∨ kd = 1 ∨ kd = 2 ∨ kd = 3 ∨ kd = 8) (hst : s_stalls g (kd, r, 4, b, v, nb, aq) = 0) : BX N (s_ahG g kd r b v) (M.eraseIdx j ++ s_ahQ g kd r b) b := by
  obtain ⟨L, k, n, A, i, f, s, m, h, w, S, H, hR, hI⟩ := hB
  have hG := rb_g hR
  have hM := rb_m hR
  have hIc := hI
  obtain ⟨b1, b2, b3, b4, b5, b6, b7, b8⟩ := hIc
  have hwz := hW _ (List.mem_of_getElem? hz)
  have h2i : g 14 b = 2 ↔ h = 2 := h_eq hG b2 2 (by decide)
  have h3i : g 14 b = 3 ↔ h = 3 := h_eq hG b2 3 (by decide)
  have h1i : g 14 b = 1 ↔ h = 1 := h_eq hG b2 1 (by decide)
  have hr : r < N := by
    rcases hkd with rfl | rfl | rfl | rfl | rfl
    · exact (hwz.2.2.1 (show (0 : Nat) < 4 by decide)).2
    · exact (hwz.2.2.1 (show (1 : Nat) < 4 by decide)).2
    · exact (hwz.2.2.1 (show (2 : Nat) < 4 by decide)).2
    · exact (hwz.2.2.1 (show (3 : Nat) < 4 by decide)).2
    · rcases (hwz.2.2.2.2.2.1 rfl).2 with q | q
      · have q' : (4 : Nat) < N := q; omega
      · exact q.2
  have hmain : kd < 4 → k r = kd + 1 := fun q => (vw_main (hM.1 r hr) hz (by
    rcases (show kd = 0 ∨ kd = 1 ∨ kd = 2 ∨ kd = 3 by omega) with rfl | rfl | rfl | rfl <;> simp [pm, cl])).1
  have lr := (b1 r hr).1
  have hown : h = 2 → ∃ o, o < N ∧ w = o + 1 ∧ (g 15 b).toNatClampNeg = o := by
    intro e
    obtain ⟨q1, q2⟩ := b3 e
    refine ⟨w - 1, by omega, by omega, ?_⟩
    rw [hG.2.2.2, if_neg (by omega)]
    exact nI_clamp (by omega)
  rcases hkd with rfl | rfl | rfl | rfl | rfl
  · -- GETS
    have hk := hmain (by decide)
    have hL : L r = 3 := li_k1 lr hk
    have h3 : ¬ h = 3 := fun e => by
      simp only [s_stalls, if_pos, if_neg (show ¬ 1 < 0 by decide), if_pos (h3i.mpr e)] at hst
      exact absurd hst (by decide)
    show BX N (s_getsG g r b) (M.eraseIdx j ++ [s_getsQ g r b]) b
    by_cases h2 : h = 2
    · obtain ⟨o, ho, hw, hc⟩ := hown h2
      have lo := b1 o ho
      obtain ⟨o1, o2, o3⟩ := lo.2.2.1 hw
      have hne : o ≠ r := by
        intro e
        rw [e, hL, hk] at o3
        simp [MP] at o3
      have eG : s_getsG g r b = up2 (up2 (up2 (up2 (snd g) 16 (4 * b + o) (nI 1)) 15 b (-1)) 14 b (nI 3)) 16 (4 * b + r) (nI 1) := by
        unfold s_getsG
        rw [if_pos (h2i.mpr h2), hc]
        rfl
      have eQ : s_getsQ g r b = (4, 4, o, b, 0, 0, r + 1) := by
        unfold s_getsQ
        rw [if_pos (h2i.mpr h2), hc]
      rw [eG, eQ]
      exact ⟨_, _, _, _, _, _, _, _, _, _, _, _, rb_mk (gb_up16 (gb_14 (gb_15n (gb_up16 (gb_snd hG) ho)) 3) hr) (mb_fwd0 hM hz hne hk o1 o2), a3_gets hI hr ho hL hk h2 hw⟩
    · have eG : s_getsG g r b = up2 (up2 (snd g) 14 b (nI 1)) 16 (4 * b + r) (nI 1) := by
        unfold s_getsG
        rw [if_neg (fun q => h2 (h2i.mp q))]
        rfl
      have eQ : s_getsQ g r b = (8, 4, r, b, g 13 b, 0, 0) := by
        unfold s_getsQ
        rw [if_neg (fun q => h2 (h2i.mp q))]
      rw [eG, eQ]
      exact ⟨_, _, _, _, _, _, _, _, _, _, _, _, rb_mk (gb_up16 (gb_14 (gb_snd hG) 1) hr) (mb_give0 hM hz (by omega) hk), a4_gets hI hr hL hk (by omega)⟩
  · -- GETM
    have hk := hmain (by decide)
    have hL : L r = 4 ∨ L r = 6 := (li_k2 lr hk).1
    have h3 : ¬ h = 3 := fun e => by
      simp only [s_stalls, if_pos, if_neg (show ¬ 1 < 1 by decide), if_pos (h3i.mpr e)] at hst
      exact absurd hst (by decide)
    show BX N (s_getmG g r b) (M.eraseIdx j ++ s_getmQ g r b) b
    by_cases h2 : h = 2
    · obtain ⟨o, ho, hw, hc⟩ := hown h2
      have lo := b1 o ho
      obtain ⟨o1, o2, o3⟩ := lo.2.2.1 hw
      have hne : o ≠ r := by
        intro e
        rw [e, hk] at o3
        unfold MP at o3
        omega
      have eG : s_getmG g r b = up2 (up2 (snd g) 15 b (nI r)) 14 b (nI 2) := by
        unfold s_getmG
        rw [if_pos (h2i.mpr h2)]
        rfl
      have eQ : s_getmQ g r b = [(5, 4, o, b, 0, 0, r + 1)] := by
        unfold s_getmQ
        rw [if_pos (h2i.mpr h2), hc]
      rw [eG, eQ]
      exact ⟨_, _, _, _, _, _, _, _, _, _, _, _, rb_mk (gb_14 (gb_15 (gb_snd hG) r) 2) (mb_fwd1 hM hz hne hk o1 o2), a5_getm hI hr ho hL hk h2 hw⟩
    · have eG : s_getmG g r b = up2 (up2 (s_invG (snd g) b r 4) 15 b (nI r)) 14 b (nI 2) := by
        unfold s_getmG
        rw [if_neg (fun q => h2 (h2i.mp q))]
        rfl
      have eQ : s_getmQ g r b = (8, 4, r, b, g 13 b, s_shr g b (r + 1) 4, 0) :: s_invs g b r 4 := by
        unfold s_getmQ
        rw [if_neg (fun q => h2 (h2i.mp q))]
      have hA : A r = 0 := (li_k2 lr hk).2
      have hs1 : ∀ c, c < N → s c ≠ 0 → s c = 1 := fun c hc e => ((b1 c hc).2.2.2 e).1
      rw [eG, eQ]
      refine ⟨_, _, _, _, _, _, _, _, _, _, _, _, rb_mk (gb_14 (gb_15 (gb_inv (gb_snd hG) r) r) 2) (mb_give1 (s := s) hM hz hN4 (by omega) hk hA (fun c hc => s_iff hG hs1 c (by omega)) (fun c hc e ec => ?_)), a6_getm hI hr hL hk (by omega) (shr_le3 (by omega)) (fun c hc e => vw_inv hM hW c hc e)⟩
      obtain ⟨q1, q2, q3⟩ := (b1 c hc).2.2.2 e
      rcases q3 with q3 | q3
      · exact ⟨q3.1, q3.2.1, q2⟩
      · omega
  · -- PUTS
    have hk := hmain (by decide)
    exact bx_put hN4 hb4 hR hI hr (Or.inl rfl) hz hk
  · -- PUTM
    have hk := hmain (by decide)
    exact bx_put hN4 hb4 hR hI hr (Or.inr rfl) hz hk
  · -- DATA
    have hH : 0 < H := by
      rw [← hM.2.2, List.countP_pos_iff]
      exact ⟨_, List.mem_of_getElem? hz, by simp [pH]⟩
    have hs1 : ∀ c, c < N → s c ≠ 0 → s c = 1 := fun c hc e => ((b1 c hc).2.2.2 e).1
    show BX N (up2 (up2 g 13 b v) 14 b (if s_shr g b 0 4 = 0 then 0 else 1)) (M.eraseIdx j ++ []) b
    by_cases e0 : s_shr g b 0 4 = 0
    · rw [if_pos e0]
      refine ⟨_, _, _, _, _, _, _, _, _, _, _, _, rb_mk (gb_14 (gb_13 hG v) 0) (mb_dataH hM hz hN4 hH), a9_data hI hH (fun c hc => vw_fS hM c hc) (Or.inl ⟨rfl, fun c hc => ?_⟩)⟩
      exact Classical.byContradiction fun q => (s_iff hG hs1 c (by omega)).mpr q ((shr_zero 4).mp e0 c (by omega))
    · rw [if_neg e0]
      exact ⟨_, _, _, _, _, _, _, _, _, _, _, _, rb_mk (gb_14 (gb_13 hG v) 1) (mb_dataH hM hz hN4 hH), a9_data hI hH (fun c hc => vw_fS hM c hc) (Or.inr rfl)⟩
