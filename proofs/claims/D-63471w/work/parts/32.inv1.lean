/-! ===== the protocol's steps, in numbers ===== -/
def fu {α : Type} (f : Nat → α) (c : Nat) (v : α) : Nat → α := fun x => if x = c then v else f x
/-- who is told of an invalidation -/
def fi (i s : Nat → Nat) (r : Nat) : Nat → Nat := fun c => if s c ≠ 0 ∧ c ≠ r then 1 else i c
theorem fi_1 {i s : Nat → Nat} {r c : Nat} (h : s c ≠ 0 ∧ c ≠ r) : fi i s r c = 1 := if_pos h
theorem fi_0 {i s : Nat → Nat} {r c : Nat} (h : ¬ (s c ≠ 0 ∧ c ≠ r)) : fi i s r c = i c := if_neg h
theorem fu_self {α : Type} (f : Nat → α) (c : Nat) (v : α) : fu f c v c = v := if_pos rfl
theorem fu_ne {α : Type} (f : Nat → α) {c x : Nat} (v : α) (h : x ≠ c) : fu f c v x = f x := if_neg h
theorem a1_ask {N : Nat} {L k n A i f s : Nat → Nat} {m : Nat → Int} {h w S H : Nat} (hB : BI N L k n A i f s m h w S H) {c0 L1 k1 : Nat} (hc0 : c0 < N) (hx : (L c0 = 0 ∧ L1 = 3 ∧ k1 = 1) ∨ (L c0 = 0 ∧ L1 = 4 ∧ k1 = 2) ∨ (L c0 = 1 ∧ L1 = 6 ∧ k1 = 2)) : BI N (fu L c0 L1) (fu k c0 k1) (fu n c0 0) A i f s m h w S H := by
  obtain ⟨b1, b2, b3, b4, b5, b6, b7, b8⟩ := hB
  obtain ⟨c1, c2, c3, c4⟩ := b1 c0 hc0
  have key : ∀ x, x < N → TK (fu L c0 L1 x) (fu k c0 k1 x) (f x) → TK (L x) (k x) (f x) := by
    intro x hx9 t
    by_cases e1 : x = c0
    · subst e1
      rw [fu_self, fu_self] at t
      rcases hx with ⟨e, rfl, rfl⟩ | ⟨e, rfl, rfl⟩ | ⟨e, rfl, rfl⟩
      · rw [e] at c1 c2 ⊢; simp [TK, LI2, MP, LI1] at t c1 c2 ⊢ <;> omega
      · rw [e] at c1 c2 ⊢; simp [TK, LI2, MP, LI1] at t c1 c2 ⊢ <;> omega
      · rw [e] at c1 c2 ⊢; simp [TK, LI2, MP, LI1] at t c1 c2 ⊢ <;> omega
    · rw [fu_ne _ _ e1, fu_ne _ _ e1] at t; exact t
  refine ⟨fun c hc => ?_, b2, b3, b4, b5, b6, fun c hc hx9 t => b7 c hc hx9 (key c hc t), fun c c' hc hc' t t' => b8 c c' hc hc' (key c hc t) (key c' hc' t')⟩
  by_cases e1 : c = c0
  · subst e1
    rw [fu_self, fu_self, fu_self]
    rcases hx with ⟨e, rfl, rfl⟩ | ⟨e, rfl, rfl⟩ | ⟨e, rfl, rfl⟩
    · rw [e] at c1 c2 c3 c4
      refine ⟨?_, ?_, ?_, ?_⟩
      · simp [LI1] at c1 ⊢ <;> omega
      · simp [LI2, MP] at c2 ⊢ <;> omega
      · simp [LI1] at c1; simp [LI3, MP] at c3 ⊢ <;> omega
      · simp [LI2, MP] at c2; simp [LI4] at c4 ⊢ <;> omega
    · rw [e] at c1 c2 c3 c4
      refine ⟨?_, ?_, ?_, ?_⟩
      · simp [LI1] at c1 ⊢ <;> omega
      · simp [LI2, MP] at c2 ⊢ <;> omega
      · simp [LI1] at c1; simp [LI3, MP] at c3 ⊢ <;> omega
      · simp [LI2, MP] at c2; simp [LI4] at c4 ⊢ <;> omega
    · rw [e] at c1 c2 c3 c4
      refine ⟨?_, ?_, ?_, ?_⟩
      · simp [LI1] at c1 ⊢ <;> omega
      · simp [LI2, MP] at c2 ⊢ <;> omega
      · simp [LI1] at c1; simp [LI3, MP] at c3 ⊢ <;> omega
      · simp [LI2, MP] at c2; simp [LI4] at c4 ⊢ <;> omega
  · rw [fu_ne _ _ e1, fu_ne _ _ e1, fu_ne _ _ e1]; exact b1 c hc
theorem a2_leave {N : Nat} {L k n A i f s : Nat → Nat} {m : Nat → Int} {h w S H : Nat} (hB : BI N L k n A i f s m h w S H) {c0 L1 k1 : Nat} (hc0 : c0 < N) (hx : (L c0 = 1 ∧ L1 = 9 ∧ k1 = 3) ∨ (L c0 = 2 ∧ L1 = 8 ∧ k1 = 4)) : BI N (fu L c0 L1) (fu k c0 k1) (fu n c0 0) A i f s m h w S H := by
  obtain ⟨b1, b2, b3, b4, b5, b6, b7, b8⟩ := hB
  obtain ⟨c1, c2, c3, c4⟩ := b1 c0 hc0
  have key : ∀ x, x < N → TK (fu L c0 L1 x) (fu k c0 k1 x) (f x) → TK (L x) (k x) (f x) := by
    intro x hx9 t
    by_cases e1 : x = c0
    · subst e1
      rw [fu_self, fu_self] at t
      rcases hx with ⟨e, rfl, rfl⟩ | ⟨e, rfl, rfl⟩
      · rw [e] at c1 c2 ⊢; simp [TK, LI2, MP, LI1] at t c1 c2 ⊢ <;> omega
      · rw [e] at c1 c2 ⊢; simp [TK, LI2, MP, LI1] at t c1 c2 ⊢ <;> omega
    · rw [fu_ne _ _ e1, fu_ne _ _ e1] at t; exact t
  refine ⟨fun c hc => ?_, b2, b3, b4, b5, b6, fun c hc hx9 t => b7 c hc hx9 (key c hc t), fun c c' hc hc' t t' => b8 c c' hc hc' (key c hc t) (key c' hc' t')⟩
  by_cases e1 : c = c0
  · subst e1
    rw [fu_self, fu_self, fu_self]
    rcases hx with ⟨e, rfl, rfl⟩ | ⟨e, rfl, rfl⟩
    · rw [e] at c1 c2 c3 c4
      refine ⟨?_, ?_, ?_, ?_⟩
      · simp [LI1] at c1 ⊢ <;> omega
      · simp [LI2, MP] at c2 ⊢ <;> omega
      · simp [LI1] at c1; simp [LI3, MP] at c3 ⊢ <;> omega
      · simp [LI2, MP] at c2; simp [LI4] at c4 ⊢ <;> omega
    · rw [e] at c1 c2 c3 c4
      refine ⟨?_, ?_, ?_, ?_⟩
      · simp [LI1] at c1 ⊢ <;> omega
      · simp [LI2, MP] at c2 ⊢ <;> omega
      · simp [LI1] at c1; simp [LI3, MP] at c3 ⊢ <;> omega
      · simp [LI2, MP] at c2; simp [LI4] at c4 ⊢ <;> omega
  · rw [fu_ne _ _ e1, fu_ne _ _ e1, fu_ne _ _ e1]; exact b1 c hc
theorem a3_gets {N : Nat} {L k n A i f s : Nat → Nat} {m : Nat → Int} {h w S H : Nat} (hB : BI N L k n A i f s m h w S H) {r o : Nat} (hr : r < N) (ho : o < N) (hL : L r = 3) (hk : k r = 1) (hh : h = 2) (hw : w = o + 1) :
    BI N L (fu k r 5) (fu n r 0) A i (fu f o 4) (fu (fu s o 1) r 1) m 3 0 (S + 1) H := by
  obtain ⟨b1, b2, b3, b4, b5, b6, b7, b8⟩ := hB
  subst hh hw
  obtain ⟨p1, p2, p3, p4⟩ := b1 r hr
  obtain ⟨o1, o2, o3, o4⟩ := b1 o ho
  have hne : o ≠ r := by intro e; subst e; have := o3 rfl; rw [hL, hk] at this; simp [MP] at this
  refine ⟨fun c hc => ?_, by decide, by simp, fun _ => rfl, by simp, ?_, ?_, ?_⟩
  · obtain ⟨c1, c2, c3, c4⟩ := b1 c hc
    have s0 := b5 (Or.inr rfl) c hc
    by_cases e1 : c = r
    · subst e1
      rw [fu_self, fu_self, fu_ne _ _ (Ne.symm hne), fu_self, hL]
      rw [hL, hk] at c1 c2
      refine ⟨?_, ?_, fun e => by simp at e, fun _ => ?_⟩
      · simp [LI1] at c1 ⊢; omega
      · simp [LI2, MP] at c2 ⊢; omega
      · simp [LI2, MP] at c2 ⊢; omega
    · rw [fu_ne _ _ e1, fu_ne _ _ e1, fu_ne _ _ e1]
      by_cases e2 : c = o
      · subst e2
        obtain ⟨q1, q2, q3⟩ := c3 rfl
        rw [fu_self, fu_self]
        exact ⟨c1, ⟨c2.1, by simp, fun _ => q3, c2.2.2.2⟩, fun e => by simp at e, fun _ => ⟨rfl, q2, Or.inr ⟨rfl, rfl⟩⟩⟩
      · rw [fu_ne _ _ e2, fu_ne _ _ e2, s0]
        exact ⟨c1, c2, fun e => by simp at e, fun e => absurd rfl e⟩
  · simp at b6 ⊢; omega
  · intro c hc hx
    simp at b6; omega
  · intro c c' hc hc' t t'
    have key : ∀ x, x < N → TK (L x) (fu k r 5 x) (fu f o 4 x) → TK (L x) (k x) (f x) := by
      intro x hx t
      by_cases e1 : x = r
      · subst e1
        rw [hL] at t ⊢
        simp [TK] at t
      · rw [fu_ne _ _ e1] at t
        by_cases e2 : x = o
        · subst e2
          rw [fu_self] at t
          obtain ⟨q1, q2, q3⟩ := o3 rfl
          have := o1.2.2.2.2.1
          simp [TK] at t ⊢
          omega
        · rw [fu_ne _ _ e2] at t; exact t
    exact b8 c c' hc hc' (key c hc t) (key c' hc' t')
theorem a4_gets {N : Nat} {L k n A i f s : Nat → Nat} {m : Nat → Int} {h w S H : Nat} (hB : BI N L k n A i f s m h w S H) {r : Nat} (hr : r < N) (hL : L r = 3) (hk : k r = 1) (hh : h = 0 ∨ h = 1) :
    BI N L (fu k r 9) (fu n r 0) A i f (fu s r 1) m 1 w S H := by
  obtain ⟨b1, b2, b3, b4, b5, b6, b7, b8⟩ := hB
  have hw : w = 0 := b4 (by omega)
  subst hw
  have key : ∀ x, x < N → TK (L x) (fu k r 9 x) (f x) → TK (L x) (k x) (f x) := by
    intro x hx t
    by_cases e1 : x = r
    · subst e1
      rw [hL] at t ⊢
      simp [TK] at t
    · rw [fu_ne _ _ e1] at t; exact t
  refine ⟨fun c hc => ?_, by decide, by simp, fun _ => rfl, by simp, ?_, fun c hc _ t => b7 c hc (by omega) (key c hc t), fun c c' hc hc' t t' => b8 c c' hc hc' (key c hc t) (key c' hc' t')⟩
  · obtain ⟨c1, c2, c3, c4⟩ := b1 c hc
    by_cases e1 : c = r
    · subst e1
      rw [fu_self, fu_self, fu_self, hL]
      rw [hL, hk] at c1 c2
      refine ⟨?_, ?_, fun e => by simp at e, fun _ => ?_⟩
      · simp [LI1] at c1 ⊢; omega
      · simp [LI2, MP] at c2 ⊢; omega
      · simp [LI2, MP] at c2 ⊢; omega
    · rw [fu_ne _ _ e1, fu_ne _ _ e1, fu_ne _ _ e1]
      refine ⟨c1, c2, fun e => by simp at e, fun e => ?_⟩
      obtain ⟨q1, q2, q3⟩ := c4 e
      exact ⟨q1, q2, q3.imp id (fun e => by omega)⟩
  · rw [if_neg (by omega)] at b6
    simp; omega
theorem a5_getm {N : Nat} {L k n A i f s : Nat → Nat} {m : Nat → Int} {h w S H : Nat} (hB : BI N L k n A i f s m h w S H) {r o : Nat} (hr : r < N) (ho : o < N) (hL : L r = 4 ∨ L r = 6) (hk : k r = 2) (hh : h = 2) (hw : w = o + 1) :
    BI N L (fu k r 6) (fu n r 0) A i (fu f o 5) s m 2 (r + 1) S H := by
  obtain ⟨b1, b2, b3, b4, b5, b6, b7, b8⟩ := hB
  subst hh hw
  obtain ⟨p1, p2, p3, p4⟩ := b1 r hr
  obtain ⟨o1, o2, o3, o4⟩ := b1 o ho
  have hne : o ≠ r := by intro e; subst e; have := o3 rfl; rw [hk] at this; simp [MP] at this; omega
  have key : ∀ x, x < N → TK (L x) (fu k r 6 x) (fu f o 5 x) → TK (L x) (k x) (f x) := by
    intro x hx t
    by_cases e1 : x = r
    · subst e1
      rcases hL with e | e <;> rw [e] at t ⊢ <;> rw [fu_self] at t <;> simp [TK] at t
    · rw [fu_ne _ _ e1] at t
      by_cases e2 : x = o
      · subst e2
        rw [fu_self] at t
        obtain ⟨q1, q2, q3⟩ := o3 rfl
        have := o1.2.2.2.2.1
        simp [TK] at t ⊢
        omega
      · rw [fu_ne _ _ e2] at t; exact t
  refine ⟨fun c hc => ?_, by decide, fun _ => ⟨by omega, by omega⟩, by simp, fun _ => b5 (Or.inr rfl), b6, fun c hc hx t => b7 c hc hx (key c hc t), fun c c' hc hc' t t' => b8 c c' hc hc' (key c hc t) (key c' hc' t')⟩
  obtain ⟨c1, c2, c3, c4⟩ := b1 c hc
  have s0 := b5 (Or.inr rfl) c hc
  by_cases e1 : c = r
  · subst e1
    rw [fu_self, fu_self, fu_ne _ _ (Ne.symm hne), s0]
    rw [hk] at c1 c2
    rcases hL with e | e
    all_goals
      rw [e] at c1 c2 ⊢
      refine ⟨?_, ?_, fun _ => ?_, fun e => absurd rfl e⟩
      · simp [LI1] at c1 ⊢; omega
      · simp [LI2, MP] at c2 ⊢; omega
      · simp [LI2, MP] at c2 ⊢; omega
  · rw [fu_ne _ _ e1, fu_ne _ _ e1]
    by_cases e2 : c = o
    · subst e2
      obtain ⟨q1, q2, q3⟩ := c3 rfl
      rw [fu_self, s0]
      exact ⟨c1, ⟨c2.1, by simp, fun _ => q3, c2.2.2.2⟩, fun e => by omega, fun e => absurd rfl e⟩
    · rw [fu_ne _ _ e2, s0]
      exact ⟨c1, c2, fun e => by omega, fun e => absurd rfl e⟩
theorem a6_getm {N : Nat} {L k n A i f s : Nat → Nat} {m : Nat → Int} {h w S H : Nat} (hB : BI N L k n A i f s m h w S H) {r nn : Nat} (hr : r < N) (hL : L r = 4 ∨ L r = 6) (hk : k r = 2) (hh : h = 0 ∨ h = 1) (hn : nn ≤ 3) (hi : ∀ c, c < N → i c = 1 → ∃ a, a < N ∧ 0 < A a) :
    BI N L (fu k r 9) (fu n r nn) (fu A r nn) (fi i s r) f (fun _ => 0) m 2 (r + 1) S H := by
  obtain ⟨b1, b2, b3, b4, b5, b6, b7, b8⟩ := hB
  have tok : ∀ c, c < N → 0 < A c → TK (L c) (k c) (f c) := by
    intro c hc hA
    have c1 := (b1 c hc).1
    unfold LI1 at c1
    unfold TK
    obtain ⟨-, -, -, -, -, -, -, x1, x2, x3⟩ := c1
    by_cases e4 : L c = 4 ∨ L c = 6
    · have := x1 e4
      by_cases e9 : k c = 9
      · omega
      · have := this.1 e9; omega
    · by_cases e5 : L c = 5 ∨ L c = 7
      · omega
      · have := x3 (by have := (b1 c hc).1.1; omega); omega
  have ir : i r ≠ 1 := fun e => by
    obtain ⟨a, ha, hA⟩ := hi r hr e
    exact b7 a ha (by omega) (tok a ha hA)
  have key : ∀ x, x < N → TK (L x) (fu k r 9 x) (f x) → x = r := by
    intro x hx t
    by_cases e1 : x = r
    · exact e1
    · rw [fu_ne _ _ e1] at t
      exact absurd t (b7 x hx (by omega))
  refine ⟨fun c hc => ?_, by decide, fun _ => ⟨by omega, by omega⟩, by simp, fun _ _ _ => rfl, ?_, ?_, fun c c' hc hc' t t' => (key c hc t).trans (key c' hc' t').symm⟩
  · obtain ⟨c1, c2, c3, c4⟩ := b1 c hc
    by_cases e1 : c = r
    · subst e1
      rw [fu_self, fu_self, fu_self]
      rw [fi_0 (show ¬ (s c ≠ 0 ∧ c ≠ c) from fun e => e.2 rfl)]
      rw [hk] at c1 c2
      rcases hL with e | e
      all_goals
        rw [e] at c1 c2 ⊢
        refine ⟨?_, ?_, fun _ => ?_, fun e => absurd rfl e⟩
        · simp [LI1] at c1 ⊢; omega
        · simp [LI2, MP] at c2 ⊢; omega
        · simp [LI2, MP] at c2 ⊢; omega
    · rw [fu_ne _ _ e1, fu_ne _ _ e1, fu_ne _ _ e1]
      refine ⟨c1, ?_, fun e => by omega, fun e => absurd rfl e⟩
      by_cases es : s c ≠ 0 ∧ c ≠ r
      · rw [fi_1 es]
        obtain ⟨q1, q2, q3⟩ := c4 es.1
        refine ⟨by decide, c2.2.1, c2.2.2.1, fun _ => ?_⟩
        rcases q3 with q3 | q3
        · obtain ⟨-, -, q4⟩ := q3
          omega
        · omega
      · rw [fi_0 es]; exact c2
  · rw [if_neg (by omega)] at b6
    simp; omega
  · intro c hc hx t
    rw [if_neg (by omega)] at b6
    omega
theorem a7_put {N : Nat} {L k n A i f s : Nat → Nat} {m : Nat → Int} {h w S H : Nat} (hB : BI N L k n A i f s m h w S H) {r : Nat} (hr : r < N) (hk : k r = 4) (hh : h = 2) (hw : w = r + 1) :
    BI N L (fu k r 8) (fu n r 0) A i f s m 0 0 S H := by
  obtain ⟨b1, b2, b3, b4, b5, b6, b7, b8⟩ := hB
  subst hh hw
  obtain ⟨p1, p2, p3, p4⟩ := b1 r hr
  obtain ⟨q1, q2, q3⟩ := p3 rfl
  have hL : L r = 8 := by
    rw [hk] at p1
    unfold LI1 at p1
    unfold MP at q3
    omega
  have tr : TK (L r) (k r) (f r) := by rw [hL, hk]; simp [TK]
  have key : ∀ x, x < N → ¬ TK (L x) (fu k r 8 x) (f x) := by
    intro x hx t
    by_cases e1 : x = r
    · subst e1
      rw [hL, fu_self, q1] at t
      simp [TK] at t
    · rw [fu_ne _ _ e1] at t
      exact e1 (b8 x r hx hr t tr)
  refine ⟨fun c hc => ?_, by decide, by simp, fun _ => rfl, fun _ => b5 (Or.inr rfl), ?_, fun c hc _ => key c hc, fun c c' hc hc' t t' => absurd t (key c hc)⟩
  · obtain ⟨c1, c2, c3, c4⟩ := b1 c hc
    have s0 := b5 (Or.inr rfl) c hc
    rw [s0]
    by_cases e1 : c = r
    · subst e1
      rw [fu_self, fu_self, hL]
      rw [hL, hk] at c1 c2
      refine ⟨?_, ?_, fun e => by simp at e, fun e => absurd rfl e⟩
      · simp [LI1] at c1 ⊢; omega
      · simp [LI2, MP] at c2 ⊢; omega
    · rw [fu_ne _ _ e1, fu_ne _ _ e1]
      exact ⟨c1, c2, fun e => by simp at e, fun e => absurd rfl e⟩
  · simp at b6 ⊢; omega
theorem a8_put {N : Nat} {L k n A i f s : Nat → Nat} {m : Nat → Int} {h w S H : Nat} (hB : BI N L k n A i f s m h w S H) {r h1 : Nat} (hr : r < N) (hk : k r = 3 ∨ k r = 4) (hno : ¬ (k r = 4 ∧ h = 2 ∧ w = r + 1)) (hh : (h1 = h ∧ h ≠ 1) ∨ (h = 1 ∧ h1 = 1) ∨ (h = 1 ∧ h1 = 0 ∧ ∀ c, c < N → c ≠ r → s c = 0)) :
    BI N L (fu k r 8) (fu n r 0) A i f (fu s r 0) m h1 w S H := by
  obtain ⟨b1, b2, b3, b4, b5, b6, b7, b8⟩ := hB
  obtain ⟨p1, p2, p3, p4⟩ := b1 r hr
  have hL : L r = 8 ∨ L r = 9 ∨ L r = 10 := by
    unfold LI1 at p1
    omega
  have hw : w ≠ r + 1 := by
    intro e
    obtain ⟨q1, q2, q3⟩ := p3 e
    have h2 : h = 2 := by
      by_cases e2 : h = 2
      · exact e2
      · have := b4 e2; omega
    have : L r = 8 := by unfold MP at q3; omega
    have k4 : k r = 4 := by unfold LI1 at p1; omega
    exact hno ⟨k4, h2, e⟩
  have key : ∀ x, x < N → TK (L x) (fu k r 8 x) (f x) → TK (L x) (k x) (f x) := by
    intro x hx t
    by_cases e1 : x = r
    · subst e1
      rw [fu_self] at t
      unfold TK at t ⊢
      omega
    · rw [fu_ne _ _ e1] at t; exact t
  refine ⟨fun c hc => ?_, by omega, fun e => b3 (by omega), fun e => ?_, fun e c hc => ?_, ?_, fun c hc hx t => b7 c hc (by omega) (key c hc t), fun c c' hc hc' t t' => b8 c c' hc hc' (key c hc t) (key c' hc' t')⟩
  · obtain ⟨c1, c2, c3, c4⟩ := b1 c hc
    by_cases e1 : c = r
    · subst e1
      rw [fu_self, fu_self, fu_self]
      refine ⟨?_, ?_, fun e => absurd e hw, fun e => absurd rfl e⟩
      · unfold LI1 at c1 ⊢; rcases hL with e | e | e <;> rw [e] at c1 ⊢ <;> simp at c1 ⊢ <;> omega
      · unfold LI2 MP at c2 ⊢; rcases hL with e | e | e <;> rw [e] at c2 ⊢ <;> simp at c2 ⊢ <;> omega
    · rw [fu_ne _ _ e1, fu_ne _ _ e1, fu_ne _ _ e1]
      refine ⟨c1, c2, c3, fun e => ?_⟩
      obtain ⟨q1, q2, q3⟩ := c4 e
      refine ⟨q1, q2, q3.imp id (fun e9 => ⟨e9.1, by omega⟩)⟩
  · by_cases e2 : h = 2
    · exfalso; omega
    · exact b4 e2
  · by_cases e1 : c = r
    · subst e1; rw [fu_self]
    · rw [fu_ne _ _ e1]
      rcases hh with hh | hh | hh
      · exact b5 (by omega) c hc
      · omega
      · exact hh.2.2 c hc e1
  · rw [b6]
    by_cases e3 : h = 3
    · rw [if_pos e3, if_pos (by omega)]
    · rw [if_neg e3, if_neg (by omega)]
theorem a9_data {N : Nat} {L k n A i f s : Nat → Nat} {m : Nat → Int} {h w S H : Nat} (hB : BI N L k n A i f s m h w S H) {h1 : Nat} (hH : 0 < H) (h4 : ∀ c, c < N → f c = 4 → 0 < S) (hh : (h1 = 0 ∧ ∀ c, c < N → s c = 0) ∨ h1 = 1) :
    BI N L k n A i f s m h1 w S (H - 1) := by
  obtain ⟨b1, b2, b3, b4, b5, b6, b7, b8⟩ := hB
  have h3 : h = 3 := by
    by_cases e : h = 3
    · exact e
    · rw [if_neg e] at b6; omega
  subst h3
  rw [if_pos rfl] at b6
  have hw : w = 0 := b4 (by decide)
  subst hw
  refine ⟨fun c hc => ?_, by omega, fun e => by omega, fun _ => rfl, fun e c hc => ?_, ?_, fun c hc _ => b7 c hc (by omega), b8⟩
  · obtain ⟨c1, c2, c3, c4⟩ := b1 c hc
    refine ⟨c1, c2, fun e => by omega, fun e => ?_⟩
    obtain ⟨q1, q2, q3⟩ := c4 e
    refine ⟨q1, q2, q3.imp id (fun e9 => ?_)⟩
    have := h4 c hc e9.1
    omega
  · rcases hh with hh | hh
    · exact hh.2 c hc
    · omega
  · rw [if_neg (by omega)]; omega
theorem a10_data {N : Nat} {L k n A i f s : Nat → Nat} {m : Nat → Int} {h w S H : Nat} (hB : BI N L k n A i f s m h w S H) {c0 : Nat} (hc0 : c0 < N) (hL : L c0 = 3) (hk : k c0 = 9) :
    BI N (fu L c0 1) (fu k c0 0) (fu n c0 0) A i f s m h w S H := by
  obtain ⟨b1, b2, b3, b4, b5, b6, b7, b8⟩ := hB
  have key : ∀ x, x < N → TK (fu L c0 1 x) (fu k c0 0 x) (f x) → TK (L x) (k x) (f x) := by
    intro x hx t
    by_cases e1 : x = c0
    · subst e1
      rw [fu_self] at t
      simp [TK] at t
    · rw [fu_ne _ _ e1, fu_ne _ _ e1] at t; exact t
  refine ⟨fun c hc => ?_, b2, b3, b4, b5, b6, fun c hc hx t => b7 c hc hx (key c hc t), fun c c' hc hc' t t' => b8 c c' hc hc' (key c hc t) (key c' hc' t')⟩
  obtain ⟨c1, c2, c3, c4⟩ := b1 c hc
  by_cases e1 : c = c0
  · subst e1
    rw [fu_self, fu_self, fu_self]
    rw [hL, hk] at c1 c2 c3 c4
    refine ⟨?_, ?_, ?_, ?_⟩
    · simp [LI1] at c1 ⊢; omega
    · simp [LI2, MP] at c2 ⊢; omega
    · simp [LI3, MP] at c3 ⊢; omega
    · simp [LI2, MP] at c2; simp [LI4] at c4 ⊢; omega
  · rw [fu_ne _ _ e1, fu_ne _ _ e1, fu_ne _ _ e1]; exact ⟨c1, c2, c3, c4⟩
theorem a11_data {N : Nat} {L k n A i f s : Nat → Nat} {m : Nat → Int} {h w S H : Nat} (hB : BI N L k n A i f s m h w S H) {c0 L1 : Nat} (hc0 : c0 < N) (hL : L c0 = 4 ∨ L c0 = 6) (hk : k c0 = 9) (h1 : (m c0 + n c0 = 0 ∧ L1 = 2) ∨ (m c0 + n c0 ≠ 0 ∧ (L1 = 5 ∨ L1 = 7))) :
    BI N (fu L c0 L1) (fu k c0 0) (fu n c0 0) A i f s (fu m c0 (m c0 + n c0)) h w S H := by
  obtain ⟨b1, b2, b3, b4, b5, b6, b7, b8⟩ := hB
  have key : ∀ x, x < N → TK (fu L c0 L1 x) (fu k c0 0 x) (f x) → TK (L x) (k x) (f x) := by
    intro x hx t
    by_cases e1 : x = c0
    · subst e1
      unfold TK
      omega
    · rw [fu_ne _ _ e1, fu_ne _ _ e1] at t; exact t
  refine ⟨fun c hc => ?_, b2, b3, b4, b5, b6, fun c hc hx t => b7 c hc hx (key c hc t), fun c c' hc hc' t t' => b8 c c' hc hc' (key c hc t) (key c' hc' t')⟩
  obtain ⟨c1, c2, c3, c4⟩ := b1 c hc
  by_cases e1 : c = c0
  · subst e1
    rw [fu_self, fu_self, fu_self, fu_self]
    rw [hk] at c1 c2 c3 c4
    rcases hL with e | e
    all_goals
      rw [e] at c1 c2 c3 c4
      rcases h1 with ⟨h0, rfl⟩ | ⟨h0, rfl | rfl⟩
      all_goals
        refine ⟨?_, ?_, ?_, ?_⟩
        · simp [LI1] at c1 ⊢ <;> omega
        · simp [LI2, MP] at c2 ⊢ <;> omega
        · simp [LI3, MP] at c3 ⊢ <;> omega
        · simp [LI4] at c4 ⊢ <;> omega
  · rw [fu_ne _ _ e1, fu_ne _ _ e1, fu_ne _ _ e1, fu_ne _ _ e1]; exact ⟨c1, c2, c3, c4⟩
theorem a12_ack {N : Nat} {L k n A i f s : Nat → Nat} {m : Nat → Int} {h w S H : Nat} (hB : BI N L k n A i f s m h w S H) {c0 L1 : Nat} (hc0 : c0 < N) (hA : 0 < A c0) (h1 : ((L c0 = 5 ∨ L c0 = 7) ∧ m c0 - 1 = 0 ∧ L1 = 2) ∨ ((L c0 = 5 ∨ L c0 = 7) ∧ m c0 - 1 ≠ 0 ∧ L1 = L c0) ∨ ((L c0 = 4 ∨ L c0 = 6) ∧ L1 = L c0)) :
    BI N (fu L c0 L1) k n (fu A c0 (A c0 - 1)) i f s (fu m c0 (m c0 - 1)) h w S H := by
  obtain ⟨b1, b2, b3, b4, b5, b6, b7, b8⟩ := hB
  have key : ∀ x, x < N → TK (fu L c0 L1 x) (k x) (f x) → TK (L x) (k x) (f x) := by
    intro x hx t
    by_cases e1 : x = c0
    · subst e1
      rw [fu_self] at t
      unfold TK at t ⊢
      omega
    · rw [fu_ne _ _ e1] at t; exact t
  refine ⟨fun c hc => ?_, b2, b3, b4, b5, b6, fun c hc hx t => b7 c hc hx (key c hc t), fun c c' hc hc' t t' => b8 c c' hc hc' (key c hc t) (key c' hc' t')⟩
  obtain ⟨c1, c2, c3, c4⟩ := b1 c hc
  by_cases e1 : c = c0
  · subst e1
    rw [fu_self, fu_self, fu_self]
    rcases h1 with ⟨e | e, h0, rfl⟩ | ⟨e | e, h0, rfl⟩ | ⟨e | e, rfl⟩
    all_goals
      simp only [e] at c1 c2 c3 c4 ⊢
      refine ⟨?_, ?_, ?_, ?_⟩
      · simp [LI1] at c1 ⊢ <;> omega
      · simp [LI2, MP] at c2 ⊢ <;> omega
      · simp [LI3, MP] at c3 ⊢ <;> omega
      · simp [LI4] at c4 ⊢ <;> omega
  · rw [fu_ne _ _ e1, fu_ne _ _ e1, fu_ne _ _ e1]; exact ⟨c1, c2, c3, c4⟩
theorem a13_inv {N : Nat} {L k n A i f s : Nat → Nat} {m : Nat → Int} {h w S H : Nat} (hB : BI N L k n A i f s m h w S H) {c0 L1 : Nat} (hc0 : c0 < N) (hi : i c0 = 1) (h1 : (L c0 = 1 ∧ L1 = 0) ∨ (L c0 = 6 ∧ L1 = 4) ∨ (L c0 = 9 ∧ L1 = 10)) :
    BI N (fu L c0 L1) k n A (fu i c0 0) f s m h w S H := by
  obtain ⟨b1, b2, b3, b4, b5, b6, b7, b8⟩ := hB
  have key : ∀ x, x < N → TK (fu L c0 L1 x) (k x) (f x) → TK (L x) (k x) (f x) := by
    intro x hx t
    by_cases e1 : x = c0
    · subst e1
      rw [fu_self] at t
      unfold TK at t ⊢
      omega
    · rw [fu_ne _ _ e1] at t; exact t
  refine ⟨fun c hc => ?_, b2, b3, b4, b5, b6, fun c hc hx t => b7 c hc hx (key c hc t), fun c c' hc hc' t t' => b8 c c' hc hc' (key c hc t) (key c' hc' t')⟩
  obtain ⟨c1, c2, c3, c4⟩ := b1 c hc
  by_cases e1 : c = c0
  · subst e1
    rw [fu_self, fu_self]
    rw [hi] at c2 c4
    rcases h1 with ⟨e, rfl⟩ | ⟨e, rfl⟩ | ⟨e, rfl⟩
    all_goals
      rw [e] at c1 c2 c3 c4
      refine ⟨?_, ?_, ?_, ?_⟩
      · simp [LI1] at c1 ⊢ <;> omega
      · simp [LI2, MP] at c2 ⊢ <;> omega
      · simp [LI3, MP] at c3 ⊢ <;> omega
      · simp [LI2, MP] at c2; simp [LI4] at c4 ⊢ <;> omega
  · rw [fu_ne _ _ e1, fu_ne _ _ e1]; exact ⟨c1, c2, c3, c4⟩
theorem a14_fwds {N : Nat} {L k n A i f s : Nat → Nat} {m : Nat → Int} {h w S H : Nat} (hB : BI N L k n A i f s m h w S H) {r o L1 : Nat} (hr : r < N) (ho : o < N) (hf : f o = 4) (hi : i o = 0) (hk : k r = 5) (hL : L r = 3) (h1 : (L o = 2 ∧ L1 = 1) ∨ (L o = 8 ∧ L1 = 9)) (hS : 0 < S) :
    BI N (fu L o L1) (fu k r 9) (fu n r 0) A i (fu f o 0) s m h w (S - 1) (H + 1) := by
  obtain ⟨b1, b2, b3, b4, b5, b6, b7, b8⟩ := hB
  have to : TK (L o) (k o) (f o) := by unfold TK; omega
  have hne : r ≠ o := by intro e; subst e; omega
  obtain ⟨o1, o2, o3, o4⟩ := b1 o ho
  obtain ⟨r1, r2, r3, r4⟩ := b1 r hr
  have h3 : h = 3 := by
    by_cases e : h = 3
    · exact e
    · rw [if_neg e] at b6; omega
  subst h3
  rw [if_pos rfl] at b6
  have hw : w = 0 := b4 (by decide)
  subst hw
  have key : ∀ x, x < N → ¬ TK (fu L o L1 x) (fu k r 9 x) (fu f o 0 x) := by
    intro x hx t
    by_cases e2 : x = o
    · subst e2
      rw [fu_self, fu_self, fu_ne _ _ (Ne.symm hne)] at t
      unfold TK at t
      omega
    · rw [fu_ne _ _ e2, fu_ne _ _ e2] at t
      by_cases e1 : x = r
      · subst e1
        rw [hL] at t
        simp [TK] at t
      · rw [fu_ne _ _ e1] at t
        exact e2 (b8 x o hx ho t to)
  refine ⟨fun c hc => ?_, b2, b3, b4, b5, by simp; omega, fun c hc _ => key c hc, fun c c' hc hc' t t' => absurd t (key c hc)⟩
  obtain ⟨c1, c2, c3, c4⟩ := b1 c hc
  by_cases e2 : c = o
  · subst e2
    rw [fu_self, fu_self, fu_ne _ _ (Ne.symm hne), fu_ne _ _ (Ne.symm hne), hi]
    rw [hf, hi] at c2 c4
    rw [hf] at c3
    rcases h1 with ⟨e, rfl⟩ | ⟨e, rfl⟩
    all_goals
      rw [e] at c1 c2 c3 c4
      refine ⟨?_, ?_, ?_, ?_⟩
      · simp [LI1] at c1 ⊢ <;> omega
      · simp [LI2, MP] at c2 ⊢ <;> omega
      · simp [LI3, MP] at c3 ⊢ <;> omega
      · simp [LI4] at c4 ⊢ <;> omega
  · rw [fu_ne _ _ e2, fu_ne _ _ e2]
    by_cases e1 : c = r
    · subst e1
      rw [fu_self, fu_self]
      rw [hk] at c1 c2 c3 c4
      rw [hL] at c1 c2 c3 c4 ⊢
      refine ⟨?_, ?_, ?_, ?_⟩
      · simp [LI1] at c1 ⊢ <;> omega
      · simp [LI2, MP] at c2 ⊢ <;> omega
      · simp [LI3, MP] at c3 ⊢ <;> omega
      · simp [LI4] at c4 ⊢ <;> omega
    · rw [fu_ne _ _ e1, fu_ne _ _ e1]; exact ⟨c1, c2, c3, c4⟩
theorem a15_fwdm {N : Nat} {L k n A i f s : Nat → Nat} {m : Nat → Int} {h w S H : Nat} (hB : BI N L k n A i f s m h w S H) {r o L1 : Nat} (hr : r < N) (ho : o < N) (hf : f o = 5) (hi : i o = 0) (hk : k r = 6) (hL : L r = 4 ∨ L r = 6) (h1 : (L o = 2 ∧ L1 = 0) ∨ (L o = 8 ∧ L1 = 10)) (hI : ∀ c, c < N → i c = 1 → ∃ a, a < N ∧ 0 < A a) :
    BI N (fu L o L1) (fu k r 9) (fu n r 0) A i (fu f o 0) s m h w S H := by
  obtain ⟨b1, b2, b3, b4, b5, b6, b7, b8⟩ := hB
  have to : TK (L o) (k o) (f o) := by unfold TK; omega
  have hne : r ≠ o := by intro e; subst e; omega
  obtain ⟨o1, o2, o3, o4⟩ := b1 o ho
  obtain ⟨r1, r2, r3, r4⟩ := b1 r hr
  have ir : i r ≠ 1 := fun e => by
    obtain ⟨a, ha, hA⟩ := hI r hr e
    have ta : TK (L a) (k a) (f a) := by
      have c1 := (b1 a ha).1
      unfold LI1 at c1
      unfold TK
      obtain ⟨-, -, -, -, -, -, -, x1, x2, x3⟩ := c1
      by_cases e4 : L a = 4 ∨ L a = 6
      · have := x1 e4
        by_cases e9 : k a = 9
        · omega
        · have := this.1 e9; omega
      · by_cases e5 : L a = 5 ∨ L a = 7
        · omega
        · have := x3 (by have := (b1 a ha).1.1; omega); omega
    have e9 := b8 a o ha ho ta to
    subst e9
    unfold LI1 at o1
    omega
  have key : ∀ x, x < N → TK (fu L o L1 x) (fu k r 9 x) (fu f o 0 x) → x = r := by
    intro x hx t
    by_cases e2 : x = o
    · subst e2
      rw [fu_self, fu_self, fu_ne _ _ (Ne.symm hne)] at t
      unfold TK at t
      omega
    · rw [fu_ne _ _ e2, fu_ne _ _ e2] at t
      by_cases e1 : x = r
      · exact e1
      · rw [fu_ne _ _ e1] at t
        exact absurd (b8 x o hx ho t to) e2
  refine ⟨fun c hc => ?_, b2, b3, b4, b5, b6, fun c hc hx t => b7 o ho hx to, fun c c' hc hc' t t' => (key c hc t).trans (key c' hc' t').symm⟩
  obtain ⟨c1, c2, c3, c4⟩ := b1 c hc
  by_cases e2 : c = o
  · subst e2
    rw [fu_self, fu_self, fu_ne _ _ (Ne.symm hne), fu_ne _ _ (Ne.symm hne), hi]
    rw [hf, hi] at c2 c4
    rw [hf] at c3
    rcases h1 with ⟨e, rfl⟩ | ⟨e, rfl⟩
    all_goals
      rw [e] at c1 c2 c3 c4
      refine ⟨?_, ?_, ?_, ?_⟩
      · simp [LI1] at c1 ⊢ <;> omega
      · simp [LI2, MP] at c2 ⊢ <;> omega
      · simp [LI3, MP] at c3 ⊢ <;> omega
      · simp [LI4] at c4 ⊢ <;> omega
  · rw [fu_ne _ _ e2, fu_ne _ _ e2]
    by_cases e1 : c = r
    · subst e1
      rw [fu_self, fu_self]
      rw [hk] at c1 c2 c3 c4
      rcases hL with e | e
      all_goals
        rw [e] at c1 c2 c3 c4 ⊢
        refine ⟨?_, ?_, ?_, ?_⟩
        · simp [LI1] at c1 ⊢ <;> omega
        · simp [LI2, MP] at c2 ⊢ <;> omega
        · simp [LI3, MP] at c3 ⊢ <;> omega
        · simp [LI4] at c4 ⊢ <;> omega
    · rw [fu_ne _ _ e1, fu_ne _ _ e1]; exact ⟨c1, c2, c3, c4⟩
theorem a16_ack {N : Nat} {L k n A i f s : Nat → Nat} {m : Nat → Int} {h w S H : Nat} (hB : BI N L k n A i f s m h w S H) {c0 : Nat} (hc0 : c0 < N) (hk : k c0 = 8) (hi : i c0 = 0) (hf : f c0 = 0) :
    BI N (fu L c0 0) (fu k c0 0) (fu n c0 0) A i f s m h w S H := by
  obtain ⟨b1, b2, b3, b4, b5, b6, b7, b8⟩ := hB
  have key : ∀ x, x < N → TK (fu L c0 0 x) (fu k c0 0 x) (f x) → TK (L x) (k x) (f x) := by
    intro x hx t
    by_cases e1 : x = c0
    · subst e1
      rw [fu_self] at t
      simp [TK] at t
    · rw [fu_ne _ _ e1, fu_ne _ _ e1] at t; exact t
  refine ⟨fun c hc => ?_, b2, b3, b4, b5, b6, fun c hc hx t => b7 c hc hx (key c hc t), fun c c' hc hc' t t' => b8 c c' hc hc' (key c hc t) (key c' hc' t')⟩
  obtain ⟨c1, c2, c3, c4⟩ := b1 c hc
  by_cases e1 : c = c0
  · subst e1
    rw [fu_self, fu_self, fu_self, hi, hf]
    have hL : L c = 8 ∨ L c = 9 ∨ L c = 10 := by unfold LI1 at c1; omega
    refine ⟨?_, ?_, ?_, ?_⟩
    · unfold LI1 at c1 ⊢; rcases hL with e | e | e <;> rw [e] at c1 <;> simp at c1 ⊢ <;> omega
    · simp [LI2]
    · intro e; exact absurd hk (c3 e).2.1
    · intro e; exact absurd hk (c4 e).2.1
  · rw [fu_ne _ _ e1, fu_ne _ _ e1, fu_ne _ _ e1]; exact ⟨c1, c2, c3, c4⟩
