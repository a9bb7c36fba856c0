/-! ===== the making of the component: cells by label ===== -/
abbrev PM := Nat → Nat → Option (Nat × va_E)
def pset (P : PM) (s i : Nat) (x : Nat × va_E) : PM := fun s' i' => if s' = s ∧ i' = i then some x else P s' i'
theorem pset_self (P : PM) (s i : Nat) (x : Nat × va_E) : pset P s i x s i = some x := if_pos ⟨rfl, rfl⟩
theorem pset_ne (P : PM) {s i s' i' : Nat} (x : Nat × va_E) (h : ¬ (s' = s ∧ i' = i)) : pset P s i x s' i' = P s' i' := if_neg h
theorem pset_pset (P : PM) (s i : Nat) (x y : Nat × va_E) : pset (pset P s i x) s i y = pset P s i y := by
  funext s' i'
  by_cases h : s' = s ∧ i' = i
  · rw [pset, if_pos h, pset, if_pos h]
  · rw [pset_ne _ _ h, pset_ne _ _ h, pset_ne _ _ h]
def LW (D : va_G) (A : Nat → Prop) (P : PM) (H : Heap) : Prop :=
  ∃ (L : List Nat) (f : Nat → va_E) (iv : Nat → Nat × Nat), va_P D cls (va_pl L f) H ∧ va_D A (va_pl L f) ∧ ∀ (s i q : Nat) (e : va_E), P s i = some (q, e) → q ∈ L ∧ iv q = (s, i) ∧ f q = e
theorem LW.sub {D : va_G} {A : Nat → Prop} {P P' : PM} {H : Heap} (h : LW D A P H) (hs : ∀ s i x, P' s i = some x → P s i = some x) : LW D A P' H := by
  obtain ⟨L, f, iv, h1, h2, h3⟩ := h
  exact ⟨L, f, iv, h1, h2, fun s i q e hq => h3 s i q e (hs s i _ hq)⟩
/-- a cell changed -/
theorem lw_up {A : Nat → Prop} {D : va_G} {P : PM} {L : List Nat} {f : Nat → va_E} {iv : Nat → Nat × Nat} {s0 i0 a : Nat} {e0 e1 : va_E} {H1 : Heap} (h3 : ∀ (s i q : Nat) (e : va_E), P s i = some (q, e) → q ∈ L ∧ iv q = (s, i) ∧ f q = e) (h0 : P s0 i0 = some (a, e0)) (hP : va_P D cls (va_pl L (va_up f a e1)) H1) (hD : va_D A (va_pl L (va_up f a e1))) : LW D A (pset P s0 i0 (a, e1)) H1 := by
  refine ⟨L, va_up f a e1, iv, hP, hD, fun s i q e hq => ?_⟩
  obtain ⟨g1, g2, g3⟩ := h3 s0 i0 a e0 h0
  by_cases h : s = s0 ∧ i = i0
  · obtain ⟨rfl, rfl⟩ := h
    rw [pset_self] at hq
    cases hq
    exact ⟨g1, g2, va_up_self _ _ _⟩
  · rw [pset_ne _ _ h] at hq
    obtain ⟨k1, k2, k3⟩ := h3 s i q e hq
    refine ⟨k1, k2, ?_⟩
    rw [va_up_ne _ _ (fun e9 => h (by rw [e9, g2] at k2; cases k2; exact ⟨rfl, rfl⟩))]
    exact k3
/-- a cell made -/
theorem lw_push {A : Nat → Prop} {D : va_G} {P : PM} {L : List Nat} {f : Nat → va_E} {iv : Nat → Nat × Nat} {s0 i0 q : Nat} {e1 : va_E} {H1 : Heap} (h3 : ∀ (s i q : Nat) (e : va_E), P s i = some (q, e) → q ∈ L ∧ iv q = (s, i) ∧ f q = e) (hP : va_P D cls (va_pl L f ++ [(q, e1)]) H1) (hD : va_D A (va_pl L f ++ [(q, e1)])) : LW D A (pset P s0 i0 (q, e1)) H1 := by
  have hq : q ∉ L := va_pl_fresh2 (X := []) hD
  rw [va_pl_push hq] at hP hD
  refine ⟨L ++ [q], va_up f q e1, va_up iv q (s0, i0), hP, hD, fun s i q' e hq' => ?_⟩
  by_cases h : s = s0 ∧ i = i0
  · obtain ⟨rfl, rfl⟩ := h
    rw [pset_self] at hq'
    cases hq'
    exact ⟨List.mem_append_right _ (List.mem_singleton.mpr rfl), va_up_self _ _ _, va_up_self _ _ _⟩
  · rw [pset_ne _ _ h] at hq'
    obtain ⟨k1, k2, k3⟩ := h3 s i q' e hq'
    have hne : q' ≠ q := fun e9 => hq (e9 ▸ k1)
    exact ⟨List.mem_append_left _ k1, by rw [va_up_ne _ _ hne]; exact k2, by rw [va_up_ne _ _ hne]; exact k3⟩
/-- what a constructor meets -/
def PL (D : va_G) (dA : Nat → ClassId) (eA : Nat → Nat → Nat) (A : Nat → Prop) (P : PM) (U : State) : Prop := (∀ q, U.heap.size ≤ q → A q) ∧ CX D dA eA A U ∧ LW D A P U.heap
abbrev LQv (D : va_G) (A : Nat → Prop) (P : PM) : Array Value → State → Outcome → State → Prop := va_Qv (fun (_ : Unit) => True) (fun _ t => LW D A P t.heap) A
theorem pl_blind {D : va_G} {dA : Nat → ClassId} {eA : Nat → Nat → Nat} {A : Nat → Prop} {P : PM} {av : List Value} : FrameBlind (va_Pc av (PL D dA eA A P)) := fun _ _ _ _ q => ⟨q.1, q.2.1, q.2.2.1.blind, q.2.2.2⟩
section LR
variable {p : Program} {l : Launch} {e : Env} {R : Room} {s : State} {m : MethodId} {args : Array Value} {below : List Frame} {meth : Method} {c : Code} {H : Heap} {locs : List Loc} {cells slots : Nat} {Q : State → Prop}
variable {cc bytes : ByteArray} {pc nL maxL n mc ms : Nat} {own : String} {ret ret0 : Option FieldType} {ls : Array Slot} {rest As av st : List Value} {D : va_G} {dA : Nat → ClassId} {eA : Nat → Nat → Nat} {A : Nat → Prop} {P P' : PM} {H0 : Heap} {a s0 i0 : Nat} {y : MethodName} {rm : Room} {b : Nat} {Qc : Array Value → State → Outcome → State → Prop} {free : Addr → Prop}
theorem l_entry (hy : plainName y.cls = true) (hlen : (lg_sl av).length ≤ maxL)
    (body : ∀ p e s m below meth c, Cx p s m av.toArray meth c bytes y.cls maxL ret → meth.name = y.name → (∀ q, s.heap.size ≤ q → A q) → CX D dA eA A s → LW D A P s.heap → ∀ ls, lv_has ls maxL (lv_args 0 av) → W p l e rm s m av.toArray below meth c s.heap [] 0 0 (MQ below Qc av.toArray s mc ms free) (F0 m 0 ls [])) :
    Met l y (.code y bytes maxL ret :: wz) rm (va_Pc av (PL D dA eA A P)) Qc mc ms free := by
  refine Met.ofW (cc := bytes) (maxL := maxL) (ret := ret) hy rfl ?_
  intro p e s m args below meth c s₁ B hml hv
  obtain ⟨rfl, hA, hC, hR⟩ := hv
  rw [lg_entry_eq]
  exact body p e s m below meth c (Cx.of B hml) (name_of_methodNamed B.named B.method).1 hA hC hR _ (lv_entry av hlen)
theorem l_vret (E : Cx p s m args meth c cc own nL none) (hR : LW D A P H) (hS : va_S A s.heap H locs) (hdg : decode cc pc = .ok (.return_, 1)) : W p l e R s m args below meth c H locs cells slots (MQ below (LQv D A P) args s cells slots A) (F0 m pc ls []) :=
  W.vret E.1 E.2.1 E.2.2.2.2.2.1 (fun t ht _ => ⟨⟨(), rfl, trivial, show LW D A P t.heap by rw [ht]; exact hR⟩, hS.F ht⟩) hS.2.2 hdg E.2.2.2.2.2.2
theorem l_get (E : Cx p s m args meth c cc own nL ret) (hK : va_K D cls (tys dA) s) (hR : LW D A P H) {ci : Nat} {fs : List Value} (h0 : P s0 i0 = some (a, .inr (ci, fs))) {C : String} {T : u_T} {Nn : Nat} (hcl : cls[ci]? = some (C, T, Nn)) (hin : ∀ w ∈ u_ws C T Nn, w ∈ wz) (k : Nat) (hk : k < Nn) {ref : String} {index : Nat} (hlink : Cond.fieldLink own index ref (T k).2.1 (T k).2.2.1 ∈ wz) (hsame : ∀ x, s.fieldFound? (T k).1 (T k).2.1 (T k).2.2.1 = some x → s.fieldFound? ref (T k).2.1 (T k).2.2.1 = some x) {v : Value} (hv : fs[k]? = some v) (hdg : decode cc pc = .ok (.getfield index, 3))
    (kk : W p l e R s m args below meth c H locs cells slots Q (F0 m (pc + 3) ls (v :: rest))) : W p l e R s m args below meth c H locs cells slots Q (F0 m pc ls (.ref a :: rest)) := by
  obtain ⟨L, f, iv, h1, h2, h3⟩ := hR
  obtain ⟨k1, k2, k3⟩ := h3 s0 i0 a _ h0
  exact r_get E hK h1 k1 k3 hcl hin k hk hlink hsame hv hdg kk
theorem l_put (E : Cx p s m args meth c cc own nL ret) (hK : va_K D cls (tys dA) s) (hR : LW D A P H) (hS : va_S A H0 H locs) {ci : Nat} {fs fs' : List Value} (h0 : P s0 i0 = some (a, .inr (ci, fs))) {C : String} {T : u_T} {Nn : Nat} (hcl : cls[ci]? = some (C, T, Nn)) (hin : ∀ w ∈ u_ws C T Nn, w ∈ wz) (ty0 : Nat → FieldType) (hty : ∀ k, k < Nn → parseFieldDescriptor (T k).2.2.1 = some (ty0 k)) (hnm : ∀ a, a < Nn → ∀ b, b < Nn → a ≠ b → (T a).2.1 ≠ (T b).2.1) (k : Nat) (hk : k < Nn) {index : Nat} (hlink : Cond.fieldLink own index (T k).1 (T k).2.1 (T k).2.2.1 ∈ wz) (hfin : (T k).2.2.2 = false) {v : Value} (hn : narrow (ty0 k) v = v) (hfit : fits (ty0 k) v = true) (hl : k < fs.length) (hfs : fs.set k v = fs') (hdg : decode cc pc = .ok (.putfield index, 3))
    (kk : ∀ (H1 : Heap) (locs1 : List Loc), LW D A (pset P s0 i0 (a, .inr (ci, fs'))) H1 → va_S A H0 H1 locs1 → W p l e R s m args below meth c H1 locs1 cells slots Q (F0 m (pc + 3) ls rest)) : W p l e R s m args below meth c H locs cells slots Q (F0 m pc ls (v :: .ref a :: rest)) := by
  obtain ⟨L, f, iv, h1, h2, h3⟩ := hR
  obtain ⟨k1, k2, k3⟩ := h3 s0 i0 a _ h0
  subst hfs
  exact r_put E hK h1 h2 hS k1 k3 hcl hin ty0 hty hnm k hk hlink (fun _ h => h) hfin hn hfit hl hdg (fun H1 locs1 hP1 hD1 hS1 => kk H1 locs1 (lw_up h3 h0 hP1 hD1) hS1)
theorem l_putF (E : Cx p s m args meth c cc own nL ret) (hK : va_K D cls (tys dA) s) (hR : LW D A P H) (hS : va_S A H0 H locs) {ci : Nat} {fs fs' : List Value} (h0 : P s0 i0 = some (a, .inr (ci, fs))) {C : String} {T : u_T} {Nn : Nat} (hcl : cls[ci]? = some (C, T, Nn)) (hin : ∀ w ∈ u_ws C T Nn, w ∈ wz) (ty0 : Nat → FieldType) (hty : ∀ k, k < Nn → parseFieldDescriptor (T k).2.2.1 = some (ty0 k)) (hnm : ∀ a, a < Nn → ∀ b, b < Nn → a ≠ b → (T a).2.1 ≠ (T b).2.1) (k : Nat) (hk : k < Nn) {index : Nat} (hlink : Cond.fieldLink own index (T k).1 (T k).2.1 (T k).2.2.1 ∈ wz) (hfin : (T k).2.2.2 = true) (hin2 : meth.name = "<init>") (hdecl : (T k).1 = own) {v : Value} (hn : narrow (ty0 k) v = v) (hfit : fits (ty0 k) v = true) (hl : k < fs.length) (hfs : fs.set k v = fs') (hdg : decode cc pc = .ok (.putfield index, 3))
    (kk : ∀ (H1 : Heap) (locs1 : List Loc), LW D A (pset P s0 i0 (a, .inr (ci, fs'))) H1 → va_S A H0 H1 locs1 → W p l e R s m args below meth c H1 locs1 cells slots Q (F0 m (pc + 3) ls rest)) : W p l e R s m args below meth c H locs cells slots Q (F0 m pc ls (v :: .ref a :: rest)) := by
  obtain ⟨L, f, iv, h1, h2, h3⟩ := hR
  obtain ⟨k1, k2, k3⟩ := h3 s0 i0 a _ h0
  subst hfs
  exact r_putF E hK h1 h2 hS k1 k3 hcl hin ty0 hty hnm k hk hlink (fun _ h => h) hfin hin2 hdecl hn hfit hl hdg (fun H1 locs1 hP1 hD1 hS1 => kk H1 locs1 (lw_up h3 h0 hP1 hD1) hS1)
theorem l_new (s0 i0 : Nat) (E : Cx p s m args meth c cc own nL ret) (hK : va_K D cls (tys dA) s) (hR : LW D A P H) (hS : va_S A H0 H locs) (hA : ∀ q, H0.size ≤ q → A q) {ci : Nat} {C : String} {T : u_T} {Nn index : Nat} (hcl : cls[ci]? = some (C, T, Nn)) (hin : ∀ w ∈ u_ws C T Nn, w ∈ wz) (ty : Nat → FieldType) (hty : ∀ k, k < Nn → parseFieldDescriptor (T k).2.2.1 = some (ty k)) (hc1 : Cond.classLink own index C ∈ wz) (hc2 : Cond.instantiable C Nn ∈ wz) (hc3 : Cond.initialized C ∈ wz) {fs : List Value} (hfs : ∀ j, j < Nn → defaultValue (ty j) = vp_V fs j) (hcells : cells + 1 ≤ R.cells) (hslots : slots + Nn ≤ R.slots) (hdg : decode cc pc = .ok (.new index, 3))
    (kk : ∀ (q : Nat) (H1 : Heap), LW D A (pset P s0 i0 (q, .inr (ci, fs))) H1 → va_S A H0 H1 locs → W p l e R s m args below meth c H1 locs (cells + 1) (slots + Nn) Q (F0 m (pc + 3) ls (.ref q :: rest))) : W p l e R s m args below meth c H locs cells slots Q (F0 m pc ls rest) := by
  obtain ⟨L, f, iv, h1, h2, h3⟩ := hR
  exact va_new (ci := ci) (fs := fs) (C := C) (T := T) (N := Nn) E.1 E.2.1 E.2.2.2.2.1 hin ty hty E.2.2.2.1 (E.2.2.2.2.1 _ hc1) (E.2.2.2.2.1 _ hc2) (E.2.2.2.2.1 _ hc3) hK h1 h2 hS hA hcl hfs hcells hslots hdg (fun q H1 hP1 hD1 hS1 => kk q H1 (lw_push h3 hP1 hD1) hS1)
theorem l_newint (s0 i0 : Nat) (E : Cx p s m args meth c cc own nL ret) (hK : va_K D cls (tys dA) s) (hR : LW D A P H) (hS : va_S A H0 H locs) (hA : ∀ q, H0.size ≤ q → A q) {N : Nat} (hN : N ≤ 64) (hcells : cells + 1 ≤ R.cells) (hslots : slots + N ≤ R.slots) (hdg : decode cc pc = .ok (.newarray .int, 2))
    (kk : ∀ (q : Nat) (H1 : Heap), LW D A (pset P s0 i0 (q, .inl (dA 0, N, .inl (fun _ => 0)))) H1 → va_S A H0 H1 locs → W p l e R s m args below meth c H1 locs (cells + 1) (slots + N) Q (F0 m (pc + 2) ls (.ref q :: rest))) : W p l e R s m args below meth c H locs cells slots Q (F0 m pc ls (.int (nI N) :: rest)) := by
  obtain ⟨L, f, iv, h1, h2, h3⟩ := hR
  exact w_newint E hK h1 h2 hS hA hN hcells hslots hdg (fun q H1 hP1 hD1 hS1 => kk q H1 (lw_push h3 hP1 hD1) hS1)
theorem l_newbyte (s0 i0 : Nat) (E : Cx p s m args meth c cc own nL ret) (hK : va_K D cls (tys dA) s) (hR : LW D A P H) (hS : va_S A H0 H locs) (hA : ∀ q, H0.size ≤ q → A q) {N : Nat} (hN : N ≤ 64) (hcells : cells + 1 ≤ R.cells) (hslots : slots + N ≤ R.slots) (hdg : decode cc pc = .ok (.newarray .byte, 2))
    (kk : ∀ (q : Nat) (H1 : Heap), LW D A (pset P s0 i0 (q, .inl (dA 2, N, .inl (fun _ => 0)))) H1 → va_S A H0 H1 locs → W p l e R s m args below meth c H1 locs (cells + 1) (slots + N) Q (F0 m (pc + 2) ls (.ref q :: rest))) : W p l e R s m args below meth c H locs cells slots Q (F0 m pc ls (.int (nI N) :: rest)) := by
  obtain ⟨L, f, iv, h1, h2, h3⟩ := hR
  exact w_newbyte E hK h1 h2 hS hA hN hcells hslots hdg (fun q H1 hP1 hD1 hS1 => kk q H1 (lw_push h3 hP1 hD1) hS1)
/-- arrays of references: made and stored into; t0 their place among the array classes -/
theorem l_anew (s0 i0 t0 : Nat) (E : Cx p s m args meth c cc own nL ret) (hK : va_K D cls (tys dA) s) (hR : LW D A P H) (hS : va_S A H0 H locs) (hA : ∀ q, H0.size ≤ q → A q) {C : String} {cA : ClassId} (ht : (tys dA)[t0]? = some (cA, .object C)) (hover : va_AO C s) {index : Nat} (hlink : Cond.classLink own index C ∈ wz) {N : Nat} (hN : N ≤ 64) (hcells : cells + 1 ≤ R.cells) (hslots : slots + N ≤ R.slots) (hdg : decode cc pc = .ok (.anewarray index, 3))
    (kk : ∀ (q : Nat) (H1 : Heap), LW D A (pset P s0 i0 (q, .inl (cA, rfa N (fun _ => none)))) H1 → va_S A H0 H1 locs → W p l e R s m args below meth c H1 locs (cells + 1) (slots + N) Q (F0 m (pc + 3) ls (.ref q :: rest))) : W p l e R s m args below meth c H locs cells slots Q (F0 m pc ls (.int (nI N) :: rest)) := by
  obtain ⟨L, f, iv, h1, h2, h3⟩ := hR
  refine va_newq E.1 E.2.1 E.2.2.2.1 (E.2.2.2.2.1 _ hlink) hover hK h1 h2 hS hA (nI_pos (by omega)) (nI_clamp (by omega)) (by omega) hcells hslots hdg (fun q cB H1 hK1 hP1 hD1 hS1 => ?_)
  obtain ⟨kA, comp, a1, a2, a3, a4⟩ := (hK1.2 7 _ rfl).2
  obtain ⟨kB, comp2, b1, b2, b3, b4⟩ := (hK.2 t0 _ ht).2
  cases a4.symm.trans b4
  exact kk q H1 (lw_push h3 hP1 hD1) hS1
theorem l_ast (E : Cx p s m args meth c cc own nL ret) (hK : va_K D cls (tys dA) s) (hR : LW D A P H) (hS : va_S A H0 H locs) (t0 : Nat) {ci : Nat} {r : vw_C} {cA : ClassId} {n v s1 i1 : Nat} {vs : List Value} {h : Nat → Option Nat} (h0 : P s0 i0 = some (a, .inl (cA, rfa n h))) (ht : (tys dA)[t0]? = some (cA, .object r.1)) (hv : P s1 i1 = some (v, .inr (ci, vs))) (hc : cls[ci]? = some r) {j : Nat} (hj : j < n) (hn : n < 100) (hdg : decode cc pc = .ok (.aastore, 1))
    (kk : ∀ (H1 : Heap) (locs1 : List Loc), LW D A (pset P s0 i0 (a, .inl (cA, rfa n (va_up h j (some v))))) H1 → va_S A H0 H1 locs1 → W p l e R s m args below meth c H1 locs1 cells slots Q (F0 m (pc + 1) ls rest)) : W p l e R s m args below meth c H locs cells slots Q (F0 m pc ls (.ref v :: .int (nI j) :: .ref a :: rest)) := by
  obtain ⟨L, f, iv, h1, h2, h3⟩ := hR
  obtain ⟨k1, k2, k3⟩ := h3 s0 i0 a _ h0
  obtain ⟨l1, l2, l3⟩ := h3 s1 i1 v _ hv
  obtain ⟨q0, hq⟩ := va_pl_get (X := []) (f := f) k1
  obtain ⟨q1, hq1⟩ := va_pl_get (X := []) (f := f) l1
  have hset := fun e9 => va_pl_set (X := []) (e := e9) h2 k1 hq
  rw [k3] at hq
  rw [l3] at hq1
  refine va_astq (D := D) E.1 E.2.1 hK h1 h2 hS q0 t0 q1 ci hq ht hq1 hc (vp_in_nI hj (by omega)) hdg (fun H1 locs1 hP1 hD1 hS1 => ?_)
  rw [nI_clamp (by omega)] at hP1 hD1
  have e9 := hset (.inl (cA, rfa n (va_up h j (some v))))
  rw [show ([] ++ va_pl L f : va_W) = va_pl L f from rfl] at e9
  rw [e9] at hP1 hD1
  exact kk H1 locs1 (lw_up h3 h0 hP1 hD1) hS1
/-- calls of constructors -/
theorem pl_at (hA : ∀ q, s.heap.size ≤ q → A q) (hC : CX D dA eA A s) (hR : LW D A P H) (hS : va_S A s.heap H locs) {U : State} (hU : U.heap = H) (hW : s.WarmedH U.vm) : PL D dA eA A P U := ⟨fun q h => hA q (Nat.le_trans hS.1 (by rw [← hU]; exact h)), hC.call hS hU hW, by rw [hU]; exact hR⟩
theorem l_runI {idx : Nat} (E : Cx p s m args meth c cc own nL ret0) (hA : ∀ q, s.heap.size ≤ q → A q) (hC : CX D dA eA A s) (hR : LW D A P H) (hS : va_S A s.heap H locs) (hM : Met l y (.code y bytes maxL none :: wz) rm (va_Pc (.ref b :: As) (PL D dA eA A P)) Qc mc ms free) (hk : Cond.code y bytes maxL none ∈ wz) (hini : Cond.initialized y.cls ∈ wz) (hl : Cond.methodLink own idx y ∈ wz) (hi : Cond.instanceMethod y ∈ wz) (hy1 : y.name = "<init>") (hd : y.cls ≠ "java/lang/invoke/MethodHandle" ∧ y.cls ≠ "java/lang/invoke/VarHandle" ∧ (parseMethodDescriptor y.desc).map (fun d => d.parameters.length) = some n) (hrc : rm.cells = mc ∧ rm.slots = ms) (hRm : rm.frames + 1 ≤ R.frames ∧ 8 + (maxL + 11) + rm.locals ≤ R.locals) (hn : As.length = n) (hsz : lv_has ls nL []) (hst : st = As.reverse ++ .ref b :: rest) (hrest : (rest.map fun v => v.category).sum ≤ 8) (hf : cells + mc ≤ R.cells ∧ slots + ms ≤ R.slots) (hdg : decode cc pc = .ok (.invokespecial idx, 3)) :
    va_Run p l e R s m args below meth c H locs cells slots mc ms (F0 m pc ls st) rest (Qc (Value.ref b :: As).toArray) free :=
  va_runI (As := As) (rest := rest) ⟨E.1, E.2.1, E.2.2.1, E.2.2.2.1, E.2.2.2.2.1⟩ hM (cwI n E.2.2.2.2.1 (gdI hk) rfl hrc.1 hrc.2 (E.2.2.2.2.1 _ hini) (E.2.2.2.2.1 _ hl) (E.2.2.2.2.1 _ hi) hy1 hd hRm) ⟨pl_blind, fun U hU hW => ⟨rfl, pl_at hA hC hR hS hU hW⟩⟩ rfl hn hsz.1 hst (lv_room hrest) hdg hf
theorem l_runN {idx : Nat} {host : String} (E : Cx p s m args meth c cc own nL ret0) (hA : ∀ q, s.heap.size ≤ q → A q) (hC : CX D dA eA A s) (hR : LW D A P H) (hS : va_S A s.heap H locs) (hM : Met l y (.code y bytes maxL none :: wz) rm (va_Pc (.ref b :: As) (PL D dA eA A P)) Qc mc ms free) (hk : Cond.code y bytes maxL none ∈ wz) (hini : Cond.initialized y.cls ∈ wz) (hl : va_Nw (.methodLinkNest own idx y host) s) (hi : Cond.instanceMethod y ∈ wz) (hy1 : y.name = "<init>") (hd : y.cls ≠ "java/lang/invoke/MethodHandle" ∧ y.cls ≠ "java/lang/invoke/VarHandle" ∧ (parseMethodDescriptor y.desc).map (fun d => d.parameters.length) = some n) (hrc : rm.cells = mc ∧ rm.slots = ms) (hRm : rm.frames + 1 ≤ R.frames ∧ 8 + (maxL + 11) + rm.locals ≤ R.locals) (hn : As.length = n) (hsz : lv_has ls nL []) (hst : st = As.reverse ++ .ref b :: rest) (hrest : (rest.map fun v => v.category).sum ≤ 8) (hf : cells + mc ≤ R.cells ∧ slots + ms ≤ R.slots) (hdg : decode cc pc = .ok (.invokespecial idx, 3)) :
    va_Run p l e R s m args below meth c H locs cells slots mc ms (F0 m pc ls st) rest (Qc (Value.ref b :: As).toArray) free :=
  va_runIN (As := As) (rest := rest) ⟨E.1, E.2.1, E.2.2.1, E.2.2.2.1, E.2.2.2.2.1⟩ hM ⟨va_cnB n E.2.2.2.2.1 (gdI hk) rfl hrc.1 hrc.2 hl (E.2.2.2.2.1 _ hini) hd hRm, hy1, E.2.2.2.2.1 _ hi⟩ ⟨pl_blind, fun U hU hW => ⟨rfl, pl_at hA hC hR hS hU hW⟩⟩ rfl hn hsz.1 hst (lv_room hrest) hdg hf
theorem lc_v (hr : va_Run p l e R s m args below meth c H locs cells slots mc ms (F0 m pc ls st) rest (LQv D A P' av.toArray) A) (hS : va_S A H0 H locs)
    (kk : ∀ (H1 : Heap) (locs1 : List Loc), LW D A P' H1 → va_S A H0 H1 locs1 → W p l e R s m args below meth c H1 locs1 (cells + mc) (slots + ms) Q (F0 m (pc + 3) ls rest)) : W p l e R s m args below meth c H locs cells slots Q (F0 m pc ls st) :=
  va_callv hr hS (fun _ _ h => h) (fun _ h => h) (fun _ t H1 locs1 ht _ _ hB _ _ hS1 => kk H1 locs1 (by rw [← ht]; exact hB) hS1)
theorem lc_x {S : Type} {PP : S → PM} (hr : va_Run p l e R s m args below meth c H locs cells slots mc ms (F0 m pc ls st) rest (va_Qv (fun (_ : S) => True) (fun u t => LW D A (PP u) t.heap) A av.toArray) A) (hS : va_S A H0 H locs)
    (kk : ∀ (u : S) (H1 : Heap) (locs1 : List Loc), LW D A (PP u) H1 → va_S A H0 H1 locs1 → W p l e R s m args below meth c H1 locs1 (cells + mc) (slots + ms) Q (F0 m (pc + 3) ls rest)) : W p l e R s m args below meth c H locs cells slots Q (F0 m pc ls st) :=
  va_callv hr hS (fun _ _ h => h) (fun _ h => h) (fun u t H1 locs1 ht _ _ hB _ _ hS1 => kk u H1 locs1 (by rw [← ht]; exact hB) hS1)
end LR
