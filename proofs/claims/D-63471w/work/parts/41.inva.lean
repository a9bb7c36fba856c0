/-! ===== a step keeps the invariant ===== -/
/-- the place of a core that does not wait, and what the protocol does not read -/
theorem inv_upd {N : Nat} {g g' : PS} {M : List Msg} (h : Inv N g M) {c p : Nat} (hcN : c < N) (h7 : g 7 c = 0) (hp : p ≤ 16) (h6 : g' 6 c = nI p) (h6' : ∀ x, x ≠ c → g' 6 x = g 6 x) (ho : ∀ k, k = 0 ∨ k = 1 ∨ k = 3 ∨ k = 4 ∨ k = 5 ∨ k = 7 ∨ k = 8 ∨ k = 10 ∨ k = 14 ∨ k = 15 ∨ k = 16 → g' k = g k) (hck' : g' 12 0 = g' 19 0) : Inv N g' M := by
  obtain ⟨⟨h0, hN2, hN4, hR, hck⟩, hP, hW, hB, hT⟩ := h
  have e0 := ho 0 (by omega); have e1 := ho 1 (by omega); have e3 := ho 3 (by omega); have e4 := ho 4 (by omega); have e5 := ho 5 (by omega); have e7 := ho 7 (by omega); have e8 := ho 8 (by omega); have e10 := ho 10 (by omega); have e14 := ho 14 (by omega); have e15 := ho 15 (by omega); have e16 := ho 16 (by omega)
  refine ⟨⟨by rw [e0]; exact h0, hN2, hN4, by rw [e1]; exact hR, hck'⟩, fun c' hc' => ?_, hW, fun b hb => bx_same (hB b hb) ⟨fun _ _ => ⟨by rw [e8], by rw [e10]⟩, fun _ _ => by rw [e16], by rw [e14], by rw [e15]⟩, fun c' hc' => ?_⟩
  · by_cases e : c' = c
    · subst e
      obtain ⟨sz, pl, w, p1, p2, p3, p4, p5, p6, p7, p8⟩ := hP c' hc'
      exact ⟨sz, p, w, p1, by rw [e5]; exact p2, hp, h6, p5, by rw [e7]; exact p6, p7, by rw [e3, e4]; exact p8⟩
    · exact pr_congr (hP c' hc') (by rw [e5]) (h6' c' e) (by rw [e7]) (fun _ _ => by rw [e3]) (fun _ _ => by rw [e4])
  · by_cases e : c' = c
    · subst e
      exact wt_idle (by rw [e7]; exact h7) (fun b hb => by unfold ln; rw [e8]; exact (hT c' hc').1 h7 b hb)
    · exact wt_congr (hT c' hc') (by rw [e5]) (h6' c' e) (by rw [e7]) (fun _ _ => by rw [e3]) (fun _ _ => by rw [e4]) (fun _ _ => by rw [e8])
theorem perf_k {g : PS} {c pl b : Nat} {k : Nat} (h : k ≠ 9 ∧ k ≠ 2 ∧ k ≠ 12 ∧ k ≠ 11 ∧ k ≠ 19 ∧ k ≠ 6) : s_perform g c pl b k = g k := by
  obtain ⟨h9, h2, h12, h11, h19, h6⟩ := h
  unfold s_perform
  rw [up2_k _ _ h6, up2_k _ _ h19, up2_k _ _ h11, up2_k _ _ h12, up2_k _ _ h2, up2_k _ _ h9]
theorem inv_perform {N : Nat} {g : PS} {M : List Msg} (h : Inv N g M) {c pl b : Nat} (hcN : c < N) (h7 : g 7 c = 0) (hp : pl < 16) : Inv N (s_perform g c pl b) M := by
  have hck := h.1.2.2.2.2
  refine inv_upd h (p := pl + 1) hcN h7 (by omega) ?_ (fun x hx => ?_) (fun k hk => perf_k (by omega)) ?_
  · unfold s_perform; rw [up2_at]
  · unfold s_perform
    rw [up2_j _ _ hx]
    rfl
  · show g 12 0 + 1 = g 19 0 + 1
    rw [hck]
theorem inv_plain {N : Nat} {g : PS} {M : List Msg} (h : Inv N g M) {c pl o : Nat} {x : Int32} (hcN : c < N) (h7 : g 7 c = 0) (hp : pl < 16) (h6 : g 6 c = nI pl) (ho : o < 6) (hx : o = 3 → ∃ q, q < 16 ∧ x = nI q) : Inv N (s_plain g c (nI o) x) M := by
  have hck := h.1.2.2.2.2
  have key : ∃ p, p ≤ 16 ∧ (if nI o = 3 then (if g 2 c = 0 then g 6 c + 1 else x) else g 6 c + 1) = nI p := by
    have e1 : g 6 c + 1 = nI (pl + 1) := by rw [h6]; exact nI_1 _
    by_cases e : nI o = 3
    · rw [if_pos e]
      by_cases e2 : g 2 c = 0
      · rw [if_pos e2]; exact ⟨pl + 1, by omega, e1⟩
      · rw [if_neg e2]
        obtain ⟨q, hq, eq⟩ := hx ((nI_eq (b := 3) (by omega) (by omega)).mp e)
        exact ⟨q, by omega, eq⟩
    · rw [if_neg e]; exact ⟨pl + 1, by omega, e1⟩
  obtain ⟨p, hp16, ep⟩ := key
  unfold s_plain
  rw [ep]
  refine inv_upd h (p := p) hcN h7 hp16 (up2_at _ _ _ _) (fun x hx => ?_) (fun k hk => ?_) hck
  · rw [up2_j _ _ hx]; rfl
  · rw [up2_k _ _ (by omega), up2_k _ _ (by omega)]
theorem clamp_ln {g : PS} {c b st : Nat} (h : g 8 (4 * c + b) = nI st) (hs : st < 11) : ln g c b = st := by unfold ln; rw [h]; exact nI_clamp (by omega)
/-- a core asks -/
theorem inv_ask {N : Nat} {g : PS} {M : List Msg} (h : Inv N g M) {c b pl o sz st kd : Nat} (hcN : c < N) (hb : b < 4) (h7 : g 7 c = 0) (hpl : pl < sz) (hsz : sz ≤ 16) (h6 : g 6 c = nI pl) (h5 : g 5 c = nI sz) (h3 : g 3 (16 * c + pl) = nI o) (ho : o = 0 ∨ o = 1 ∨ o = 5) (h4 : g 4 (16 * c + pl) = nI b) (hx : (ln g c b = 0 ∧ st = 3 ∧ kd = 0 ∧ o = 0) ∨ (ln g c b = 0 ∧ st = 4 ∧ kd = 1) ∨ (ln g c b = 1 ∧ st = 6 ∧ kd = 1)) : Inv N (s_ask g c b (nI st)) (M ++ [(kd, c, 4, b, 0, 0, 0)]) := by
  obtain ⟨⟨h0, hN2, hN4, hR, hck⟩, hP, hW, hB, hT⟩ := h
  have e8 : s_ask g c b (nI st) 8 (4 * c + b) = nI st := by
    unfold s_ask
    rw [up2_k _ _ (by decide), up2_k _ _ (by decide), up2_at]
  have e8' : ∀ c' b', b' < 4 → ¬ (c' = c ∧ b' = b) → s_ask g c b (nI st) 8 (4 * c' + b') = g 8 (4 * c' + b') := by
    intro c' b' hb' hne
    unfold s_ask
    rw [up2_k _ _ (by decide), up2_k _ _ (by decide), up2_j _ _ (by omega)]
    rfl
  have e10' : ∀ c' b', b' < 4 → ¬ (c' = c ∧ b' = b) → s_ask g c b (nI st) 10 (4 * c' + b') = g 10 (4 * c' + b') := by
    intro c' b' hb' hne
    unfold s_ask
    rw [up2_k _ _ (by decide), up2_j _ _ (by omega)]
    rfl
  have e7 : s_ask g c b (nI st) 7 c = nI 1 := by unfold s_ask; rw [up2_at]; rfl
  have e7' : ∀ c', c' ≠ c → s_ask g c b (nI st) 7 c' = g 7 c' := by
    intro c' hne
    unfold s_ask
    rw [up2_j _ _ hne]
    rfl
  have hst : st < 11 := by omega
  refine ⟨⟨h0, hN2, hN4, hR, hck⟩, fun c' hc' => ?_, fun z hz => ?_, fun b' hb' => ?_, fun c' hc' => ?_⟩
  · by_cases e : c' = c
    · subst e
      obtain ⟨sz, pl, w, p1, p2, p3, p4, p5, p6, p7, p8⟩ := hP c' hc'
      exact ⟨sz, pl, 1, p1, p2, p3, p4, by decide, e7, fun q => by omega, p8⟩
    · exact pr_congr (hP c' hc') rfl rfl (e7' c' e) (fun _ _ => rfl) (fun _ _ => rfl)
  · rcases List.mem_append.mp hz with hz | hz
    · exact hW z hz
    · rw [List.mem_singleton] at hz
      subst hz
      unfold WZ
      refine ⟨show kd < 10 by omega, hb, fun _ => ⟨rfl, hcN⟩, fun q => ?_, fun q => ?_, fun q => ?_, fun q => ?_⟩
      · exfalso; have : 4 ≤ kd := q.1; omega
      · exfalso; have : kd = 7 := q; omega
      · exfalso; have : kd = 8 := q; omega
      · exfalso; have : kd = 9 := q; omega
  · by_cases e : b' = b
    · subst e
      obtain ⟨L, k, n, A, i, f, s, m, h, w, S, H, hR, hI⟩ := hB b' hb
      have hG := rb_g hR
      have hM := rb_m hR
      obtain ⟨l1, -⟩ := hI.1 c hcN
      have eL := clamp_ln (hG.1 c hcN).1 l1.1
      rw [eL] at hx
      have hk : k c = 0 := by unfold LI1 at l1; omega
      have hm : m c = 0 := by unfold LI1 at l1; omega
      have em : fu m c 0 = m := by have := fu_id m c; rw [hm] at this; exact this
      have hG' := gb_7 (gb_10 (gb_8 (gb_snd hG) c st) c 0) c 1
      rw [em] at hG'
      rcases hx with ⟨x1, rfl, rfl, -⟩ | ⟨x1, rfl, rfl⟩ | ⟨x1, rfl, rfl⟩
      · exact ⟨_, _, _, _, _, _, _, _, _, _, _, _, rb_mk hG' (mb_ask0 hM (Or.inr trivial) hk), a1_ask hI hcN (Or.inl ⟨x1, rfl, rfl⟩)⟩
      · exact ⟨_, _, _, _, _, _, _, _, _, _, _, _, rb_mk hG' (mb_ask1 hM (Or.inr trivial) hk), a1_ask hI hcN (Or.inr (Or.inl ⟨x1, rfl, rfl⟩))⟩
      · exact ⟨_, _, _, _, _, _, _, _, _, _, _, _, rb_mk hG' (mb_ask1 hM (Or.inr trivial) hk), a1_ask hI hcN (Or.inr (Or.inr ⟨x1, rfl, rfl⟩))⟩
    · refine bx_frame2 (hB b' hb') ⟨fun c' hc' => ⟨e8' c' b' hb' (fun q => e q.2), e10' c' b' hb' (fun q => e q.2)⟩, fun _ _ => rfl, rfl, rfl⟩ (fun y hy => ?_)
      rw [List.mem_singleton] at hy
      subst hy
      exact fun q => e q.symm
  · by_cases e : c' = c
    · subst e
      have hl := clamp_ln e8 hst
      refine ⟨fun q => ?_, fun _ => ?_, fun q => ?_⟩
      · rw [e7] at q; exact absurd q (by decide)
      · refine ⟨b, pl, o, sz, hb, hpl, hsz, h6, h5, h3, ho, h4, by rw [hl]; omega, by rw [hl]; omega, fun q => by rw [hl] at q; omega, fun b' hb' hne => ?_⟩
        unfold ln
        rw [e8' c' b' hb' (fun q => hne q.2)]
        exact (hT c' hc').1 h7 b' hb'
      · rw [e7] at q; exact absurd q (by decide)
    · exact wt_congr (hT c' hc') rfl rfl (e7' c' e) (fun _ _ => rfl) (fun _ _ => rfl) (fun b' hb' => e8' c' b' hb' (fun q => e q.1))
/-- a core leaves a line -/
theorem inv_leave {N : Nat} {g : PS} {M : List Msg} (h : Inv N g M) {c v st kd : Nat} {wd : Int32} (hcN : c < N) (hb : v < 4) (h7 : g 7 c = 0) (hx : (ln g c v = 1 ∧ st = 9 ∧ kd = 2) ∨ (ln g c v = 2 ∧ st = 8 ∧ kd = 3)) : Inv N (up2 (up2 (snd g) 8 (4 * c + v) (nI st)) 7 c (nI 2)) (M ++ [(kd, c, 4, v, wd, 0, 0)]) := by
  obtain ⟨⟨h0, hN2, hN4, hR, hck⟩, hP, hW, hB, hT⟩ := h
  have e8 : up2 (up2 (snd g) 8 (4 * c + v) (nI st)) 7 c (nI 2) 8 (4 * c + v) = nI st := by
    rw [up2_k _ _ (by decide), up2_at]
  have e8' : ∀ c' b', b' < 4 → ¬ (c' = c ∧ b' = v) → up2 (up2 (snd g) 8 (4 * c + v) (nI st)) 7 c (nI 2) 8 (4 * c' + b') = g 8 (4 * c' + b') := by
    intro c' b' hb' hne
    rw [up2_k _ _ (by decide), up2_j _ _ (by omega)]
    rfl
  have e7 : up2 (up2 (snd g) 8 (4 * c + v) (nI st)) 7 c (nI 2) 7 c = nI 2 := by rw [up2_at]
  have e7' : ∀ c', c' ≠ c → up2 (up2 (snd g) 8 (4 * c + v) (nI st)) 7 c (nI 2) 7 c' = g 7 c' := by
    intro c' hne
    rw [up2_j _ _ hne]
    rfl
  have hst : st < 11 := by omega
  refine ⟨⟨h0, hN2, hN4, hR, hck⟩, fun c' hc' => ?_, fun z hz => ?_, fun b' hb' => ?_, fun c' hc' => ?_⟩
  · by_cases e : c' = c
    · subst e
      obtain ⟨sz, pl, w, p1, p2, p3, p4, p5, p6, p7, p8⟩ := hP c' hc'
      exact ⟨sz, pl, 2, p1, p2, p3, p4, by decide, e7, fun q => by omega, p8⟩
    · exact pr_congr (hP c' hc') rfl rfl (e7' c' e) (fun _ _ => rfl) (fun _ _ => rfl)
  · rcases List.mem_append.mp hz with hz | hz
    · exact hW z hz
    · rw [List.mem_singleton] at hz
      subst hz
      unfold WZ
      refine ⟨show kd < 10 by omega, hb, fun _ => ⟨rfl, hcN⟩, fun q => ?_, fun q => ?_, fun q => ?_, fun q => ?_⟩
      · exfalso; have : 4 ≤ kd := q.1; omega
      · exfalso; have : kd = 7 := q; omega
      · exfalso; have : kd = 8 := q; omega
      · exfalso; have : kd = 9 := q; omega
  · by_cases e : b' = v
    · subst e
      obtain ⟨L, k, n, A, i, f, s, m, h, w, S, H, hR, hI⟩ := hB b' hb
      have hG := rb_g hR
      have hM := rb_m hR
      obtain ⟨l1, -⟩ := hI.1 c hcN
      have eL := clamp_ln (hG.1 c hcN).1 l1.1
      rw [eL] at hx
      have hk : k c = 0 := by unfold LI1 at l1; omega
      have hG' := gb_7 (gb_8 (gb_snd hG) c st) c (nI 2)
      rcases hx with ⟨x1, rfl, rfl⟩ | ⟨x1, rfl, rfl⟩
      · exact ⟨_, _, _, _, _, _, _, _, _, _, _, _, rb_mk hG' (mb_ask2 hM (Or.inr trivial) hk), a2_leave hI hcN (Or.inl ⟨x1, rfl, rfl⟩)⟩
      · exact ⟨_, _, _, _, _, _, _, _, _, _, _, _, rb_mk hG' (mb_ask3 hM (Or.inr trivial) hk), a2_leave hI hcN (Or.inr ⟨x1, rfl, rfl⟩)⟩
    · refine bx_frame2 (hB b' hb') ⟨fun c' hc' => ⟨e8' c' b' hb' (fun q => e q.2), rfl⟩, fun _ _ => rfl, rfl, rfl⟩ (fun y hy => ?_)
      rw [List.mem_singleton] at hy
      subst hy
      exact fun q => e q.symm
  · by_cases e : c' = c
    · subst e
      have hl := clamp_ln e8 hst
      refine ⟨fun q => ?_, fun q => ?_, fun _ => ?_⟩
      · rw [e7] at q; exact absurd q (by decide)
      · rw [e7] at q; exact absurd q (by decide)
      · refine ⟨v, hb, by rw [hl]; omega, fun b' hb' hne => ?_⟩
        unfold ln
        rw [e8' c' b' hb' (fun q => hne q.2)]
        exact (hT c' hc').1 h7 b' hb'
    · exact wt_congr (hT c' hc') rfl rfl (e7' c' e) (fun _ _ => rfl) (fun _ _ => rfl) (fun b' hb' => e8' c' b' hb' (fun q => e q.1))
theorem vic_ne (g : PS) (c : Nat) : ∀ n v, s_vic g c n = v + 1 → v < n ∧ ¬ g 8 (4 * c + v) = 0
  | 0, v, h => by unfold s_vic at h; omega
  | b + 1, v, h => by
    have ih := vic_ne g c b
    unfold s_vic at h
    by_cases e : g 8 (4 * c + b) = 0
    · rw [if_pos e] at h
      have := ih v h
      exact ⟨by omega, this.2⟩
    · rw [if_neg e] at h
      by_cases e0 : s_vic g c b = 0
      · rw [if_pos e0] at h
        have : v = b := by omega
        subst this
        exact ⟨by omega, e⟩
      · rw [if_neg e0] at h
        split at h
        · have := ih v h
          exact ⟨by omega, this.2⟩
        · have : v = b := by omega
          subst this
          exact ⟨by omega, e⟩
theorem inv_step {N : Nat} {g : PS} {M : List Msg} (h : Inv N g M) (x : Int32) : Inv N (s_step g x).2.1 (M ++ (s_step g x).2.2) := by
  have h0 := h.1.1
  have hN4 := h.1.2.2.1
  have nil : ∀ r : Int32, Inv N (r, g, ([] : List Msg)).2.1 (M ++ (r, g, ([] : List Msg)).2.2) := fun _ => by rw [show M ++ ([] : List Msg) = M from List.append_nil M]; exact h
  have nil2 : ∀ (r : Int32) (g' : PS), Inv N g' M → Inv N (r, g', ([] : List Msg)).2.1 (M ++ (r, g', ([] : List Msg)).2.2) := fun _ g' q => by rw [show M ++ ([] : List Msg) = M from List.append_nil M]; exact q
  unfold s_step
  by_cases hc : s_isCore g x = 0
  · rw [if_pos hc]; exact nil _
  rw [if_neg hc]
  obtain ⟨c, hcN, rfl⟩ := isCore_of h0 hN4 hc
  rw [nI_clamp (show c < 2 ^ 31 by omega)]
  by_cases h7 : g 7 c = 0
  · rw [if_pos h7]
    obtain ⟨sz, pl, w, p1, p2, p3, p4, p5, p6, p7, p8⟩ := h.2.1 c (by omega)
    by_cases hlt : g 6 c < g 5 c
    · rw [if_pos hlt, p4, nI_clamp (by omega)]
      rw [p4, p2, nI_ltI (by omega) (by omega)] at hlt
      obtain ⟨o, ho, q2, q3, q4⟩ := p8 pl hlt
      unfold s_step2
      rw [q2]
      by_cases ha : s_access (nI o) = 0
      · rw [if_pos ha]
        exact nil2 _ _ (inv_plain h hcN h7 (by omega) p4 ho q4)
      · rw [if_neg ha]
        obtain ⟨b, hb, q5⟩ := q3 ha
        have hacc := acc_of ho ha
        rw [q5, nI_clamp (by omega)]
        obtain ⟨l1, l2, -⟩ := bx_line (h.2.2.2.1 b hb) hcN
        have l3 := (h.2.2.2.2 c hcN).1 h7 b hb
        have e2 : g 8 (4 * c + b) = 2 ↔ ln g c b = 2 := by rw [l2]; exact nI_eq (b := 2) (by omega) (by omega)
        have e1 : g 8 (4 * c + b) = 1 ↔ ln g c b = 1 := by rw [l2]; exact nI_eq (b := 1) (by omega) (by omega)
        have eo : nI o = 0 ↔ o = 0 := nI_eq (b := 0) (by omega) (by omega)
        unfold s_acc
        by_cases x2 : g 8 (4 * c + b) = 2
        · rw [if_pos x2]
          exact nil2 _ _ (inv_perform h hcN h7 (by omega))
        · rw [if_neg x2]
          by_cases x1 : g 8 (4 * c + b) = 1
          · rw [if_pos x1]
            by_cases xo : nI o = 0
            · rw [if_pos xo]
              exact nil2 _ _ (inv_perform h hcN h7 (by omega))
            · rw [if_neg xo]
              exact inv_ask (st := 6) h hcN hb h7 hlt p1 p4 p2 q2 hacc q5 (Or.inr (Or.inr ⟨e1.mp x1, rfl, rfl⟩))
          · rw [if_neg x1]
            have l0 : ln g c b = 0 := by have a1 : ¬ ln g c b = 2 := fun q => x2 (e2.mpr q); have a2 : ¬ ln g c b = 1 := fun q => x1 (e1.mpr q); omega
            by_cases xu : nI (s_used g c 4) < g 1 0
            · rw [if_pos xu]
              by_cases xo : nI o = 0
              · rw [if_pos xo]
                exact inv_ask (st := 3) h hcN hb h7 hlt p1 p4 p2 q2 hacc q5 (Or.inl ⟨l0, rfl, rfl, eo.mp xo⟩)
              · rw [if_neg xo]
                exact inv_ask (st := 4) h hcN hb h7 hlt p1 p4 p2 q2 hacc q5 (Or.inr (Or.inl ⟨l0, rfl, rfl⟩))
            · rw [if_neg xu]
              obtain ⟨R, r1, r2, r3⟩ := h.1.2.2.2.1
              obtain ⟨v, hv4, hv⟩ := vic_of r1 r2 r3 xu
              rw [hv, Nat.add_sub_cancel]
              have hv0 := (vic_ne g c 4 v hv).2
              obtain ⟨v1, v2, -⟩ := bx_line (h.2.2.2.1 v hv4) hcN
              have v3 := (h.2.2.2.2 c hcN).1 h7 v hv4
              have ev0 : g 8 (4 * c + v) = 0 ↔ ln g c v = 0 := by rw [v2]; exact nI_eq (b := 0) (by omega) (by omega)
              have ev1 : g 8 (4 * c + v) = 1 ↔ ln g c v = 1 := by rw [v2]; exact nI_eq (b := 1) (by omega) (by omega)
              have nv0 : ¬ ln g c v = 0 := fun q => hv0 (ev0.mpr q)
              show Inv N (s_replG g c v) (M ++ [s_replQ g c v])
              unfold s_replG s_replQ
              by_cases y1 : g 8 (4 * c + v) = 1
              · rw [if_pos y1, if_pos y1, if_pos y1]
                exact inv_leave (st := 9) h hcN hv4 h7 (Or.inl ⟨ev1.mp y1, rfl, rfl⟩)
              · rw [if_neg y1, if_neg y1, if_neg y1]
                exact inv_leave (st := 8) h hcN hv4 h7 (Or.inr ⟨by have a3 : ¬ ln g c v = 1 := fun q => y1 (ev1.mpr q); omega, rfl, rfl⟩)
    · rw [if_neg hlt]; exact nil _
  · rw [if_neg h7]; exact nil _
