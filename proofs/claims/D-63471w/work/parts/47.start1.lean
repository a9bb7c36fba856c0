set_option maxHeartbeats 8000000 in
set_option maxRecDepth 100000 in
theorem st_enK {s : State} {b : Nat} (hgv : (Jvm.Cond.and given_1 narrow_1).before #[Value.ref b] s = true) (hts : ∀ w ∈ lw_tbl, w.before #[Value.ref b] s = true) : ∃ ea : Nat → Nat, va_En R_Kind dsK nmK fdK ea (A0 s) s s.heap := by
  have hs := flat_of_before _ hgv
  refine va_Enof (args := #[Value.ref b]) (fun i hi => ?_) (hts _ (List.mem_filter.mp zn_Kind).1) (fun i hi => ?_) (fun q hq i hi => ?_) (fun i j hi hj hne => ?_) (fun a ha => Nat.not_le.mpr ha)
  · match i, hi with
    | 0, _ => exact hts _ (by decide +kernel)
    | 1, _ => exact hts _ (by decide +kernel)
    | 2, _ => exact hts _ (by decide +kernel)
    | 3, _ => exact hts _ (by decide +kernel)
    | 4, _ => exact hts _ (by decide +kernel)
    | 5, _ => exact hts _ (by decide +kernel)
    | 6, _ => exact hts _ (by decide +kernel)
    | 7, _ => exact hts _ (by decide +kernel)
    | 8, _ => exact hts _ (by decide +kernel)
    | 9, _ => exact hts _ (by decide +kernel)
  · match i, hi with
    | 0, _ => exact hs _ (by decide +kernel)
    | 1, _ => exact hs _ (by decide +kernel)
    | 2, _ => exact hs _ (by decide +kernel)
    | 3, _ => exact hs _ (by decide +kernel)
    | 4, _ => exact hs _ (by decide +kernel)
    | 5, _ => exact hs _ (by decide +kernel)
    | 6, _ => exact hs _ (by decide +kernel)
    | 7, _ => exact hs _ (by decide +kernel)
    | 8, _ => exact hs _ (by decide +kernel)
    | 9, _ => exact hs _ (by decide +kernel)
  · simp only [List.mem_cons, List.not_mem_nil, or_false] at hq
    rcases hq with rfl | rfl
    · match i, hi with
      | 0, _ => exact hs _ (by decide +kernel)
      | 1, _ => exact hs _ (by decide +kernel)
      | 2, _ => exact hs _ (by decide +kernel)
      | 3, _ => exact hs _ (by decide +kernel)
      | 4, _ => exact hs _ (by decide +kernel)
      | 5, _ => exact hs _ (by decide +kernel)
      | 6, _ => exact hs _ (by decide +kernel)
      | 7, _ => exact hs _ (by decide +kernel)
      | 8, _ => exact hs _ (by decide +kernel)
      | 9, _ => exact hs _ (by decide +kernel)
    · match i, hi with
      | 0, _ => exact hs _ (by decide +kernel)
      | 1, _ => exact hs _ (by decide +kernel)
      | 2, _ => exact hs _ (by decide +kernel)
      | 3, _ => exact hs _ (by decide +kernel)
      | 4, _ => exact hs _ (by decide +kernel)
      | 5, _ => exact hs _ (by decide +kernel)
      | 6, _ => exact hs _ (by decide +kernel)
      | 7, _ => exact hs _ (by decide +kernel)
      | 8, _ => exact hs _ (by decide +kernel)
      | 9, _ => exact hs _ (by decide +kernel)
  · match i, j, hi, hj, hne with
    | 0, 0, _, _, h => exact absurd rfl h
    | 0, 1, _, _, _ => first | exact Or.inl (hs _ (by decide +kernel)) | exact Or.inr (hs _ (by decide +kernel))
    | 0, 2, _, _, _ => first | exact Or.inl (hs _ (by decide +kernel)) | exact Or.inr (hs _ (by decide +kernel))
    | 0, 3, _, _, _ => first | exact Or.inl (hs _ (by decide +kernel)) | exact Or.inr (hs _ (by decide +kernel))
    | 0, 4, _, _, _ => first | exact Or.inl (hs _ (by decide +kernel)) | exact Or.inr (hs _ (by decide +kernel))
    | 0, 5, _, _, _ => first | exact Or.inl (hs _ (by decide +kernel)) | exact Or.inr (hs _ (by decide +kernel))
    | 0, 6, _, _, _ => first | exact Or.inl (hs _ (by decide +kernel)) | exact Or.inr (hs _ (by decide +kernel))
    | 0, 7, _, _, _ => first | exact Or.inl (hs _ (by decide +kernel)) | exact Or.inr (hs _ (by decide +kernel))
    | 0, 8, _, _, _ => first | exact Or.inl (hs _ (by decide +kernel)) | exact Or.inr (hs _ (by decide +kernel))
    | 0, 9, _, _, _ => first | exact Or.inl (hs _ (by decide +kernel)) | exact Or.inr (hs _ (by decide +kernel))
    | 1, 0, _, _, _ => first | exact Or.inl (hs _ (by decide +kernel)) | exact Or.inr (hs _ (by decide +kernel))
    | 1, 1, _, _, h => exact absurd rfl h
    | 1, 2, _, _, _ => first | exact Or.inl (hs _ (by decide +kernel)) | exact Or.inr (hs _ (by decide +kernel))
    | 1, 3, _, _, _ => first | exact Or.inl (hs _ (by decide +kernel)) | exact Or.inr (hs _ (by decide +kernel))
    | 1, 4, _, _, _ => first | exact Or.inl (hs _ (by decide +kernel)) | exact Or.inr (hs _ (by decide +kernel))
    | 1, 5, _, _, _ => first | exact Or.inl (hs _ (by decide +kernel)) | exact Or.inr (hs _ (by decide +kernel))
    | 1, 6, _, _, _ => first | exact Or.inl (hs _ (by decide +kernel)) | exact Or.inr (hs _ (by decide +kernel))
    | 1, 7, _, _, _ => first | exact Or.inl (hs _ (by decide +kernel)) | exact Or.inr (hs _ (by decide +kernel))
    | 1, 8, _, _, _ => first | exact Or.inl (hs _ (by decide +kernel)) | exact Or.inr (hs _ (by decide +kernel))
    | 1, 9, _, _, _ => first | exact Or.inl (hs _ (by decide +kernel)) | exact Or.inr (hs _ (by decide +kernel))
    | 2, 0, _, _, _ => first | exact Or.inl (hs _ (by decide +kernel)) | exact Or.inr (hs _ (by decide +kernel))
    | 2, 1, _, _, _ => first | exact Or.inl (hs _ (by decide +kernel)) | exact Or.inr (hs _ (by decide +kernel))
    | 2, 2, _, _, h => exact absurd rfl h
    | 2, 3, _, _, _ => first | exact Or.inl (hs _ (by decide +kernel)) | exact Or.inr (hs _ (by decide +kernel))
    | 2, 4, _, _, _ => first | exact Or.inl (hs _ (by decide +kernel)) | exact Or.inr (hs _ (by decide +kernel))
    | 2, 5, _, _, _ => first | exact Or.inl (hs _ (by decide +kernel)) | exact Or.inr (hs _ (by decide +kernel))
    | 2, 6, _, _, _ => first | exact Or.inl (hs _ (by decide +kernel)) | exact Or.inr (hs _ (by decide +kernel))
    | 2, 7, _, _, _ => first | exact Or.inl (hs _ (by decide +kernel)) | exact Or.inr (hs _ (by decide +kernel))
    | 2, 8, _, _, _ => first | exact Or.inl (hs _ (by decide +kernel)) | exact Or.inr (hs _ (by decide +kernel))
    | 2, 9, _, _, _ => first | exact Or.inl (hs _ (by decide +kernel)) | exact Or.inr (hs _ (by decide +kernel))
    | 3, 0, _, _, _ => first | exact Or.inl (hs _ (by decide +kernel)) | exact Or.inr (hs _ (by decide +kernel))
    | 3, 1, _, _, _ => first | exact Or.inl (hs _ (by decide +kernel)) | exact Or.inr (hs _ (by decide +kernel))
    | 3, 2, _, _, _ => first | exact Or.inl (hs _ (by decide +kernel)) | exact Or.inr (hs _ (by decide +kernel))
    | 3, 3, _, _, h => exact absurd rfl h
    | 3, 4, _, _, _ => first | exact Or.inl (hs _ (by decide +kernel)) | exact Or.inr (hs _ (by decide +kernel))
    | 3, 5, _, _, _ => first | exact Or.inl (hs _ (by decide +kernel)) | exact Or.inr (hs _ (by decide +kernel))
    | 3, 6, _, _, _ => first | exact Or.inl (hs _ (by decide +kernel)) | exact Or.inr (hs _ (by decide +kernel))
    | 3, 7, _, _, _ => first | exact Or.inl (hs _ (by decide +kernel)) | exact Or.inr (hs _ (by decide +kernel))
    | 3, 8, _, _, _ => first | exact Or.inl (hs _ (by decide +kernel)) | exact Or.inr (hs _ (by decide +kernel))
    | 3, 9, _, _, _ => first | exact Or.inl (hs _ (by decide +kernel)) | exact Or.inr (hs _ (by decide +kernel))
    | 4, 0, _, _, _ => first | exact Or.inl (hs _ (by decide +kernel)) | exact Or.inr (hs _ (by decide +kernel))
    | 4, 1, _, _, _ => first | exact Or.inl (hs _ (by decide +kernel)) | exact Or.inr (hs _ (by decide +kernel))
    | 4, 2, _, _, _ => first | exact Or.inl (hs _ (by decide +kernel)) | exact Or.inr (hs _ (by decide +kernel))
    | 4, 3, _, _, _ => first | exact Or.inl (hs _ (by decide +kernel)) | exact Or.inr (hs _ (by decide +kernel))
    | 4, 4, _, _, h => exact absurd rfl h
    | 4, 5, _, _, _ => first | exact Or.inl (hs _ (by decide +kernel)) | exact Or.inr (hs _ (by decide +kernel))
    | 4, 6, _, _, _ => first | exact Or.inl (hs _ (by decide +kernel)) | exact Or.inr (hs _ (by decide +kernel))
    | 4, 7, _, _, _ => first | exact Or.inl (hs _ (by decide +kernel)) | exact Or.inr (hs _ (by decide +kernel))
    | 4, 8, _, _, _ => first | exact Or.inl (hs _ (by decide +kernel)) | exact Or.inr (hs _ (by decide +kernel))
    | 4, 9, _, _, _ => first | exact Or.inl (hs _ (by decide +kernel)) | exact Or.inr (hs _ (by decide +kernel))
    | 5, 0, _, _, _ => first | exact Or.inl (hs _ (by decide +kernel)) | exact Or.inr (hs _ (by decide +kernel))
    | 5, 1, _, _, _ => first | exact Or.inl (hs _ (by decide +kernel)) | exact Or.inr (hs _ (by decide +kernel))
    | 5, 2, _, _, _ => first | exact Or.inl (hs _ (by decide +kernel)) | exact Or.inr (hs _ (by decide +kernel))
    | 5, 3, _, _, _ => first | exact Or.inl (hs _ (by decide +kernel)) | exact Or.inr (hs _ (by decide +kernel))
    | 5, 4, _, _, _ => first | exact Or.inl (hs _ (by decide +kernel)) | exact Or.inr (hs _ (by decide +kernel))
    | 5, 5, _, _, h => exact absurd rfl h
    | 5, 6, _, _, _ => first | exact Or.inl (hs _ (by decide +kernel)) | exact Or.inr (hs _ (by decide +kernel))
    | 5, 7, _, _, _ => first | exact Or.inl (hs _ (by decide +kernel)) | exact Or.inr (hs _ (by decide +kernel))
    | 5, 8, _, _, _ => first | exact Or.inl (hs _ (by decide +kernel)) | exact Or.inr (hs _ (by decide +kernel))
    | 5, 9, _, _, _ => first | exact Or.inl (hs _ (by decide +kernel)) | exact Or.inr (hs _ (by decide +kernel))
    | 6, 0, _, _, _ => first | exact Or.inl (hs _ (by decide +kernel)) | exact Or.inr (hs _ (by decide +kernel))
    | 6, 1, _, _, _ => first | exact Or.inl (hs _ (by decide +kernel)) | exact Or.inr (hs _ (by decide +kernel))
    | 6, 2, _, _, _ => first | exact Or.inl (hs _ (by decide +kernel)) | exact Or.inr (hs _ (by decide +kernel))
    | 6, 3, _, _, _ => first | exact Or.inl (hs _ (by decide +kernel)) | exact Or.inr (hs _ (by decide +kernel))
    | 6, 4, _, _, _ => first | exact Or.inl (hs _ (by decide +kernel)) | exact Or.inr (hs _ (by decide +kernel))
    | 6, 5, _, _, _ => first | exact Or.inl (hs _ (by decide +kernel)) | exact Or.inr (hs _ (by decide +kernel))
    | 6, 6, _, _, h => exact absurd rfl h
    | 6, 7, _, _, _ => first | exact Or.inl (hs _ (by decide +kernel)) | exact Or.inr (hs _ (by decide +kernel))
    | 6, 8, _, _, _ => first | exact Or.inl (hs _ (by decide +kernel)) | exact Or.inr (hs _ (by decide +kernel))
    | 6, 9, _, _, _ => first | exact Or.inl (hs _ (by decide +kernel)) | exact Or.inr (hs _ (by decide +kernel))
    | 7, 0, _, _, _ => first | exact Or.inl (hs _ (by decide +kernel)) | exact Or.inr (hs _ (by decide +kernel))
    | 7, 1, _, _, _ => first | exact Or.inl (hs _ (by decide +kernel)) | exact Or.inr (hs _ (by decide +kernel))
    | 7, 2, _, _, _ => first | exact Or.inl (hs _ (by decide +kernel)) | exact Or.inr (hs _ (by decide +kernel))
    | 7, 3, _, _, _ => first | exact Or.inl (hs _ (by decide +kernel)) | exact Or.inr (hs _ (by decide +kernel))
    | 7, 4, _, _, _ => first | exact Or.inl (hs _ (by decide +kernel)) | exact Or.inr (hs _ (by decide +kernel))
    | 7, 5, _, _, _ => first | exact Or.inl (hs _ (by decide +kernel)) | exact Or.inr (hs _ (by decide +kernel))
    | 7, 6, _, _, _ => first | exact Or.inl (hs _ (by decide +kernel)) | exact Or.inr (hs _ (by decide +kernel))
    | 7, 7, _, _, h => exact absurd rfl h
    | 7, 8, _, _, _ => first | exact Or.inl (hs _ (by decide +kernel)) | exact Or.inr (hs _ (by decide +kernel))
    | 7, 9, _, _, _ => first | exact Or.inl (hs _ (by decide +kernel)) | exact Or.inr (hs _ (by decide +kernel))
    | 8, 0, _, _, _ => first | exact Or.inl (hs _ (by decide +kernel)) | exact Or.inr (hs _ (by decide +kernel))
    | 8, 1, _, _, _ => first | exact Or.inl (hs _ (by decide +kernel)) | exact Or.inr (hs _ (by decide +kernel))
    | 8, 2, _, _, _ => first | exact Or.inl (hs _ (by decide +kernel)) | exact Or.inr (hs _ (by decide +kernel))
    | 8, 3, _, _, _ => first | exact Or.inl (hs _ (by decide +kernel)) | exact Or.inr (hs _ (by decide +kernel))
    | 8, 4, _, _, _ => first | exact Or.inl (hs _ (by decide +kernel)) | exact Or.inr (hs _ (by decide +kernel))
    | 8, 5, _, _, _ => first | exact Or.inl (hs _ (by decide +kernel)) | exact Or.inr (hs _ (by decide +kernel))
    | 8, 6, _, _, _ => first | exact Or.inl (hs _ (by decide +kernel)) | exact Or.inr (hs _ (by decide +kernel))
    | 8, 7, _, _, _ => first | exact Or.inl (hs _ (by decide +kernel)) | exact Or.inr (hs _ (by decide +kernel))
    | 8, 8, _, _, h => exact absurd rfl h
    | 8, 9, _, _, _ => first | exact Or.inl (hs _ (by decide +kernel)) | exact Or.inr (hs _ (by decide +kernel))
    | 9, 0, _, _, _ => first | exact Or.inl (hs _ (by decide +kernel)) | exact Or.inr (hs _ (by decide +kernel))
    | 9, 1, _, _, _ => first | exact Or.inl (hs _ (by decide +kernel)) | exact Or.inr (hs _ (by decide +kernel))
    | 9, 2, _, _, _ => first | exact Or.inl (hs _ (by decide +kernel)) | exact Or.inr (hs _ (by decide +kernel))
    | 9, 3, _, _, _ => first | exact Or.inl (hs _ (by decide +kernel)) | exact Or.inr (hs _ (by decide +kernel))
    | 9, 4, _, _, _ => first | exact Or.inl (hs _ (by decide +kernel)) | exact Or.inr (hs _ (by decide +kernel))
    | 9, 5, _, _, _ => first | exact Or.inl (hs _ (by decide +kernel)) | exact Or.inr (hs _ (by decide +kernel))
    | 9, 6, _, _, _ => first | exact Or.inl (hs _ (by decide +kernel)) | exact Or.inr (hs _ (by decide +kernel))
    | 9, 7, _, _, _ => first | exact Or.inl (hs _ (by decide +kernel)) | exact Or.inr (hs _ (by decide +kernel))
    | 9, 8, _, _, _ => first | exact Or.inl (hs _ (by decide +kernel)) | exact Or.inr (hs _ (by decide +kernel))
    | 9, 9, _, _, h => exact absurd rfl h
set_option maxHeartbeats 8000000 in
set_option maxRecDepth 100000 in
theorem st_enS {s : State} {b : Nat} (hgv : (Jvm.Cond.and given_1 narrow_1).before #[Value.ref b] s = true) (hts : ∀ w ∈ lw_tbl, w.before #[Value.ref b] s = true) : ∃ ea : Nat → Nat, va_En R_Std dsS nmS fdS ea (A0 s) s s.heap := by
  have hs := flat_of_before _ hgv
  refine va_Enof (args := #[Value.ref b]) (fun i hi => ?_) (hts _ (List.mem_filter.mp zn_Std).1) (fun i hi => ?_) (fun q hq i hi => ?_) (fun i j hi hj hne => ?_) (fun a ha => Nat.not_le.mpr ha)
  · match i, hi with
    | 0, _ => exact hts _ (by decide +kernel)
    | 1, _ => exact hts _ (by decide +kernel)
    | 2, _ => exact hts _ (by decide +kernel)
    | 3, _ => exact hts _ (by decide +kernel)
  · match i, hi with
    | 0, _ => exact hs _ (by decide +kernel)
    | 1, _ => exact hs _ (by decide +kernel)
    | 2, _ => exact hs _ (by decide +kernel)
    | 3, _ => exact hs _ (by decide +kernel)
  · simp only [List.mem_cons, List.not_mem_nil, or_false] at hq
    subst hq
    match i, hi with
    | 0, _ => exact hs _ (by decide +kernel)
    | 1, _ => exact hs _ (by decide +kernel)
    | 2, _ => exact hs _ (by decide +kernel)
    | 3, _ => exact hs _ (by decide +kernel)
  · match i, j, hi, hj, hne with
    | 0, 0, _, _, h => exact absurd rfl h
    | 0, 1, _, _, _ => first | exact Or.inl (hs _ (by decide +kernel)) | exact Or.inr (hs _ (by decide +kernel))
    | 0, 2, _, _, _ => first | exact Or.inl (hs _ (by decide +kernel)) | exact Or.inr (hs _ (by decide +kernel))
    | 0, 3, _, _, _ => first | exact Or.inl (hs _ (by decide +kernel)) | exact Or.inr (hs _ (by decide +kernel))
    | 1, 0, _, _, _ => first | exact Or.inl (hs _ (by decide +kernel)) | exact Or.inr (hs _ (by decide +kernel))
    | 1, 1, _, _, h => exact absurd rfl h
    | 1, 2, _, _, _ => first | exact Or.inl (hs _ (by decide +kernel)) | exact Or.inr (hs _ (by decide +kernel))
    | 1, 3, _, _, _ => first | exact Or.inl (hs _ (by decide +kernel)) | exact Or.inr (hs _ (by decide +kernel))
    | 2, 0, _, _, _ => first | exact Or.inl (hs _ (by decide +kernel)) | exact Or.inr (hs _ (by decide +kernel))
    | 2, 1, _, _, _ => first | exact Or.inl (hs _ (by decide +kernel)) | exact Or.inr (hs _ (by decide +kernel))
    | 2, 2, _, _, h => exact absurd rfl h
    | 2, 3, _, _, _ => first | exact Or.inl (hs _ (by decide +kernel)) | exact Or.inr (hs _ (by decide +kernel))
    | 3, 0, _, _, _ => first | exact Or.inl (hs _ (by decide +kernel)) | exact Or.inr (hs _ (by decide +kernel))
    | 3, 1, _, _, _ => first | exact Or.inl (hs _ (by decide +kernel)) | exact Or.inr (hs _ (by decide +kernel))
    | 3, 2, _, _, _ => first | exact Or.inl (hs _ (by decide +kernel)) | exact Or.inr (hs _ (by decide +kernel))
    | 3, 3, _, _, h => exact absurd rfl h
set_option maxHeartbeats 8000000 in
set_option maxRecDepth 100000 in
theorem st_enO {s : State} {b : Nat} (hgv : (Jvm.Cond.and given_1 narrow_1).before #[Value.ref b] s = true) (hts : ∀ w ∈ lw_tbl, w.before #[Value.ref b] s = true) : ∃ ea : Nat → Nat, va_En R_Op dsO nmO fdO ea (A0 s) s s.heap := by
  have hs := flat_of_before _ hgv
  refine va_Enof (args := #[Value.ref b]) (fun i hi => ?_) (hts _ (List.mem_filter.mp zn_Op).1) (fun i hi => ?_) (fun q hq i hi => ?_) (fun i j hi hj hne => ?_) (fun a ha => Nat.not_le.mpr ha)
  · match i, hi with
    | 0, _ => exact hts _ (by decide +kernel)
    | 1, _ => exact hts _ (by decide +kernel)
    | 2, _ => exact hts _ (by decide +kernel)
    | 3, _ => exact hts _ (by decide +kernel)
    | 4, _ => exact hts _ (by decide +kernel)
    | 5, _ => exact hts _ (by decide +kernel)
  · match i, hi with
    | 0, _ => exact hs _ (by decide +kernel)
    | 1, _ => exact hs _ (by decide +kernel)
    | 2, _ => exact hs _ (by decide +kernel)
    | 3, _ => exact hs _ (by decide +kernel)
    | 4, _ => exact hs _ (by decide +kernel)
    | 5, _ => exact hs _ (by decide +kernel)
  · simp only [List.mem_cons, List.not_mem_nil, or_false] at hq
    subst hq
    match i, hi with
    | 0, _ => exact hs _ (by decide +kernel)
    | 1, _ => exact hs _ (by decide +kernel)
    | 2, _ => exact hs _ (by decide +kernel)
    | 3, _ => exact hs _ (by decide +kernel)
    | 4, _ => exact hs _ (by decide +kernel)
    | 5, _ => exact hs _ (by decide +kernel)
  · match i, j, hi, hj, hne with
    | 0, 0, _, _, h => exact absurd rfl h
    | 0, 1, _, _, _ => first | exact Or.inl (hs _ (by decide +kernel)) | exact Or.inr (hs _ (by decide +kernel))
    | 0, 2, _, _, _ => first | exact Or.inl (hs _ (by decide +kernel)) | exact Or.inr (hs _ (by decide +kernel))
    | 0, 3, _, _, _ => first | exact Or.inl (hs _ (by decide +kernel)) | exact Or.inr (hs _ (by decide +kernel))
    | 0, 4, _, _, _ => first | exact Or.inl (hs _ (by decide +kernel)) | exact Or.inr (hs _ (by decide +kernel))
    | 0, 5, _, _, _ => first | exact Or.inl (hs _ (by decide +kernel)) | exact Or.inr (hs _ (by decide +kernel))
    | 1, 0, _, _, _ => first | exact Or.inl (hs _ (by decide +kernel)) | exact Or.inr (hs _ (by decide +kernel))
    | 1, 1, _, _, h => exact absurd rfl h
    | 1, 2, _, _, _ => first | exact Or.inl (hs _ (by decide +kernel)) | exact Or.inr (hs _ (by decide +kernel))
    | 1, 3, _, _, _ => first | exact Or.inl (hs _ (by decide +kernel)) | exact Or.inr (hs _ (by decide +kernel))
    | 1, 4, _, _, _ => first | exact Or.inl (hs _ (by decide +kernel)) | exact Or.inr (hs _ (by decide +kernel))
    | 1, 5, _, _, _ => first | exact Or.inl (hs _ (by decide +kernel)) | exact Or.inr (hs _ (by decide +kernel))
    | 2, 0, _, _, _ => first | exact Or.inl (hs _ (by decide +kernel)) | exact Or.inr (hs _ (by decide +kernel))
    | 2, 1, _, _, _ => first | exact Or.inl (hs _ (by decide +kernel)) | exact Or.inr (hs _ (by decide +kernel))
    | 2, 2, _, _, h => exact absurd rfl h
    | 2, 3, _, _, _ => first | exact Or.inl (hs _ (by decide +kernel)) | exact Or.inr (hs _ (by decide +kernel))
    | 2, 4, _, _, _ => first | exact Or.inl (hs _ (by decide +kernel)) | exact Or.inr (hs _ (by decide +kernel))
    | 2, 5, _, _, _ => first | exact Or.inl (hs _ (by decide +kernel)) | exact Or.inr (hs _ (by decide +kernel))
    | 3, 0, _, _, _ => first | exact Or.inl (hs _ (by decide +kernel)) | exact Or.inr (hs _ (by decide +kernel))
    | 3, 1, _, _, _ => first | exact Or.inl (hs _ (by decide +kernel)) | exact Or.inr (hs _ (by decide +kernel))
    | 3, 2, _, _, _ => first | exact Or.inl (hs _ (by decide +kernel)) | exact Or.inr (hs _ (by decide +kernel))
    | 3, 3, _, _, h => exact absurd rfl h
    | 3, 4, _, _, _ => first | exact Or.inl (hs _ (by decide +kernel)) | exact Or.inr (hs _ (by decide +kernel))
    | 3, 5, _, _, _ => first | exact Or.inl (hs _ (by decide +kernel)) | exact Or.inr (hs _ (by decide +kernel))
    | 4, 0, _, _, _ => first | exact Or.inl (hs _ (by decide +kernel)) | exact Or.inr (hs _ (by decide +kernel))
    | 4, 1, _, _, _ => first | exact Or.inl (hs _ (by decide +kernel)) | exact Or.inr (hs _ (by decide +kernel))
    | 4, 2, _, _, _ => first | exact Or.inl (hs _ (by decide +kernel)) | exact Or.inr (hs _ (by decide +kernel))
    | 4, 3, _, _, _ => first | exact Or.inl (hs _ (by decide +kernel)) | exact Or.inr (hs _ (by decide +kernel))
    | 4, 4, _, _, h => exact absurd rfl h
    | 4, 5, _, _, _ => first | exact Or.inl (hs _ (by decide +kernel)) | exact Or.inr (hs _ (by decide +kernel))
    | 5, 0, _, _, _ => first | exact Or.inl (hs _ (by decide +kernel)) | exact Or.inr (hs _ (by decide +kernel))
    | 5, 1, _, _, _ => first | exact Or.inl (hs _ (by decide +kernel)) | exact Or.inr (hs _ (by decide +kernel))
    | 5, 2, _, _, _ => first | exact Or.inl (hs _ (by decide +kernel)) | exact Or.inr (hs _ (by decide +kernel))
    | 5, 3, _, _, _ => first | exact Or.inl (hs _ (by decide +kernel)) | exact Or.inr (hs _ (by decide +kernel))
    | 5, 4, _, _, _ => first | exact Or.inl (hs _ (by decide +kernel)) | exact Or.inr (hs _ (by decide +kernel))
    | 5, 5, _, _, h => exact absurd rfl h
