/-! ===== views of the messages, and how they change ===== -/
abbrev mk2 (z : Msg) : Nat × Nat := (z.1 + 1, z.2.2.2.2.2.1)
def VW (M : List Msg) (c b k n A i f : Nat) : Prop :=
  (M.filter (pm c b)).map (fun z => (z.1 + 1, z.2.2.2.2.2.1)) = (if k = 0 then [] else [(k, n)]) ∧ M.countP (pa c b) = A ∧ (M.filter (pq c b)).map (fun z => z.1) = qq i f k
theorem vw_main {M : List Msg} {c b k n A i f j : Nat} {z : Msg} (h : VW M c b k n A i f) (hz : M[j]? = some z) (hp : pm c b z = true) : k = z.1 + 1 ∧ n = z.2.2.2.2.2.1 ∧ (M.eraseIdx j).filter (pm c b) = [] := by
  have hm : z ∈ M.filter (pm c b) := List.mem_filter.mpr ⟨List.mem_of_getElem? hz, hp⟩
  have h1 := h.1
  by_cases hk : k = 0
  · rw [if_pos hk, List.map_eq_nil_iff] at h1
    rw [h1] at hm
    exact absurd hm List.not_mem_nil
  · rw [if_neg hk] at h1
    obtain ⟨y, hy⟩ : ∃ y, M.filter (pm c b) = [y] := by
      match hf : M.filter (pm c b), h1 with
      | [y], _ => exact ⟨y, rfl⟩
    rw [hy] at h1
    obtain ⟨e1, e2⟩ := fil_one hz hp hy
    subst e2
    simp only [List.map_cons, List.map_nil, List.cons.injEq, and_true, Prod.mk.injEq] at h1
    exact ⟨h1.1.symm, h1.2.symm, e1⟩
theorem vw_gen {M : List Msg} {c b k n A i f k1 n1 A1 i1 f1 j : Nat} {z : Msg} {new : List Msg} (hz : M[j]? = some z) (h : VW M c b k n A i f)
    (hm : (pm c b z = false ∧ new.filter (pm c b) = [] ∧ k1 = k ∧ n1 = n) ∨ (pm c b z = true ∧ (new.filter (pm c b)).map (fun z => (z.1 + 1, z.2.2.2.2.2.1)) = (if k1 = 0 then [] else [(k1, n1)])))
    (ha : A1 + (if pa c b z = true then 1 else 0) = A + new.countP (pa c b))
    (hq : (pq c b z = false ∧ qq i1 f1 k1 = qq i f k ++ (new.filter (pq c b)).map (fun z => z.1)) ∨ (pq c b z = true ∧ (M.take j).any (pq c b) = false ∧ qq i f k ++ (new.filter (pq c b)).map (fun z => z.1) = z.1 :: qq i1 f1 k1)) :
    VW (M.eraseIdx j ++ new) c b k1 n1 A1 i1 f1 := by
  refine ⟨?_, ?_, ?_⟩
  · rw [List.filter_append, List.map_append]
    rcases hm with ⟨p1, p2, rfl, rfl⟩ | ⟨p1, p2⟩
    · rw [fil_neg hz p1, p2, h.1]
      simp
    · rw [(vw_main h hz p1).2.2, p2]
      rfl
  · rw [List.countP_append]
    have := cnt_er (p := pa c b) hz
    have h2 := h.2.1
    omega
  · rw [List.filter_append, List.map_append]
    rcases hq with ⟨p1, p2⟩ | ⟨p1, p2, p3⟩
    · rw [fil_neg hz p1, h.2.2, p2]
    · have e1 := h.2.2
      rw [fil_front hz p1 p2, List.map_cons] at e1
      rw [← e1] at p3
      exact List.cons.inj p3 |>.2
theorem vw_app {M : List Msg} {c b k n A i f k1 n1 A1 i1 f1 : Nat} {new : List Msg} (h : VW M c b k n A i f)
    (hm : (new.filter (pm c b) = [] ∧ k1 = k ∧ n1 = n) ∨ (k = 0 ∧ (new.filter (pm c b)).map (fun z => (z.1 + 1, z.2.2.2.2.2.1)) = (if k1 = 0 then [] else [(k1, n1)])))
    (ha : A1 = A + new.countP (pa c b)) (hq : qq i1 f1 k1 = qq i f k ++ (new.filter (pq c b)).map (fun z => z.1)) : VW (M ++ new) c b k1 n1 A1 i1 f1 := by
  refine ⟨?_, ?_, ?_⟩
  · rw [List.filter_append, List.map_append]
    rcases hm with ⟨p2, rfl, rfl⟩ | ⟨p1, p2⟩
    · rw [p2, h.1]
      simp
    · rw [h.1, if_pos p1, p2]
      rfl
  · rw [List.countP_append, h.2.1, ha]
  · rw [List.filter_append, List.map_append, h.2.2, hq]
/-- messages of other blocks -/
theorem vw_frame {M : List Msg} {c b k n A i f j : Nat} {z : Msg} {new : List Msg} (hz : M[j]? = some z) (h : VW M c b k n A i f) (hb : z.2.2.2.1 ≠ b) (hn : ∀ y ∈ new, y.2.2.2.1 ≠ b) : VW (M.eraseIdx j ++ new) c b k n A i f := by
  have e : ∀ y : Msg, y.2.2.2.1 ≠ b → pm c b y = false ∧ pa c b y = false ∧ pq c b y = false := by
    intro y hy
    simp [pm, pa, pq, hy]
  refine vw_gen hz h (Or.inl ⟨(e z hb).1, List.filter_eq_nil_iff.mpr fun y hy => by rw [(e y (hn y hy)).1]; decide, rfl, rfl⟩) ?_ (Or.inl ⟨(e z hb).2.2, ?_⟩)
  · rw [(e z hb).2.1, List.countP_eq_zero.mpr fun y hy => by rw [(e y (hn y hy)).2.1]; decide]
    rfl
  · rw [List.filter_eq_nil_iff.mpr fun y hy => by rw [(e y (hn y hy)).2.2]; decide]
    simp
theorem vw_frame2 {M : List Msg} {c b k n A i f : Nat} {new : List Msg} (h : VW M c b k n A i f) (hn : ∀ y ∈ new, y.2.2.2.1 ≠ b) : VW (M ++ new) c b k n A i f := by
  have e : ∀ y : Msg, y.2.2.2.1 ≠ b → pm c b y = false ∧ pa c b y = false ∧ pq c b y = false := by
    intro y hy
    simp [pm, pa, pq, hy]
  refine vw_app h (Or.inl ⟨List.filter_eq_nil_iff.mpr fun y hy => by rw [(e y (hn y hy)).1]; decide, rfl, rfl⟩) ?_ ?_
  · rw [List.countP_eq_zero.mpr fun y hy => by rw [(e y (hn y hy)).2.1]; decide]
    rfl
  · rw [List.filter_eq_nil_iff.mpr fun y hy => by rw [(e y (hn y hy)).2.2]; decide]
    simp
theorem cnt_frame {M : List Msg} {j : Nat} {z : Msg} {new : List Msg} {p : Msg → Bool} (hz : M[j]? = some z) (h1 : p z = false) (h2 : ∀ y ∈ new, p y = false) : (M.eraseIdx j ++ new).countP p = M.countP p := by
  rw [List.countP_append, show new.countP p = 0 from List.countP_eq_zero.mpr fun y hy => by rw [h2 y hy]; decide]
  have := cnt_er (p := p) hz
  rw [h1] at this
  simpa using this
theorem cnt_frame2 {M : List Msg} {new : List Msg} {p : Msg → Bool} (h2 : ∀ y ∈ new, p y = false) : (M ++ new).countP p = M.countP p := by
  rw [List.countP_append, show new.countP p = 0 from List.countP_eq_zero.mpr fun y hy => by rw [h2 y hy]; decide]
  rfl
/-- the state's part for a block -/
def gB (N : Nat) (g : PS) (b : Nat) (g' : PS) : Prop := (∀ c, c < N → g' 8 (4 * c + b) = g 8 (4 * c + b) ∧ g' 10 (4 * c + b) = g 10 (4 * c + b)) ∧ (∀ c, c < 4 → g' 16 (4 * b + c) = g 16 (4 * b + c)) ∧ g' 14 b = g 14 b ∧ g' 15 b = g 15 b
theorem rb_frame {N : Nat} {g g' : PS} {M : List Msg} {b j : Nat} {z : Msg} {new : List Msg} {L k n A i f s : Nat → Nat} {m : Nat → Int} {h w S H : Nat} (hR : RB N g M b L k n A i f s m h w S H) (hg : gB N g b g') (hz : M[j]? = some z) (hb : z.2.2.2.1 ≠ b) (hn : ∀ y ∈ new, y.2.2.2.1 ≠ b) : RB N g' (M.eraseIdx j ++ new) b L k n A i f s m h w S H := by
  obtain ⟨r1, r2, r3, r4, r5, r6⟩ := hR
  obtain ⟨g1, g2, g3, g4⟩ := hg
  refine ⟨fun c hc => ?_, fun c hc => ⟨(g2 c hc).trans (r2 c hc).1, (r2 c hc).2⟩, g3.trans r3, g4.trans r4, ?_, ?_⟩
  · obtain ⟨x1, x2, x3⟩ := r1 c hc
    exact ⟨(g1 c hc).1.trans x1, (g1 c hc).2.trans x2, vw_frame hz x3 hb hn⟩
  · rw [← r5]; exact cnt_frame hz (by simp [pS, hb]) (fun y hy => by simp [pS, hn y hy])
  · rw [← r6]; exact cnt_frame hz (by simp [pH, hb]) (fun y hy => by simp [pH, hn y hy])
theorem rb_frame2 {N : Nat} {g g' : PS} {M : List Msg} {b : Nat} {new : List Msg} {L k n A i f s : Nat → Nat} {m : Nat → Int} {h w S H : Nat} (hR : RB N g M b L k n A i f s m h w S H) (hg : gB N g b g') (hn : ∀ y ∈ new, y.2.2.2.1 ≠ b) : RB N g' (M ++ new) b L k n A i f s m h w S H := by
  obtain ⟨r1, r2, r3, r4, r5, r6⟩ := hR
  obtain ⟨g1, g2, g3, g4⟩ := hg
  refine ⟨fun c hc => ?_, fun c hc => ⟨(g2 c hc).trans (r2 c hc).1, (r2 c hc).2⟩, g3.trans r3, g4.trans r4, ?_, ?_⟩
  · obtain ⟨x1, x2, x3⟩ := r1 c hc
    exact ⟨(g1 c hc).1.trans x1, (g1 c hc).2.trans x2, vw_frame2 x3 hn⟩
  · rw [← r5]; exact cnt_frame2 (fun y hy => by simp [pS, hn y hy])
  · rw [← r6]; exact cnt_frame2 (fun y hy => by simp [pH, hn y hy])
/-- states that agree on what the protocol reads -/
theorem rb_same {N : Nat} {g g' : PS} {M : List Msg} {b : Nat} {L k n A i f s : Nat → Nat} {m : Nat → Int} {h w S H : Nat} (hR : RB N g M b L k n A i f s m h w S H) (hg : gB N g b g') : RB N g' M b L k n A i f s m h w S H := by
  obtain ⟨r1, r2, r3, r4, r5, r6⟩ := hR
  obtain ⟨g1, g2, g3, g4⟩ := hg
  refine ⟨fun c hc => ?_, fun c hc => ⟨(g2 c hc).trans (r2 c hc).1, (r2 c hc).2⟩, g3.trans r3, g4.trans r4, r5, r6⟩
  obtain ⟨x1, x2, x3⟩ := r1 c hc
  exact ⟨(g1 c hc).1.trans x1, (g1 c hc).2.trans x2, x3⟩
