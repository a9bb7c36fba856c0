/-! ===== the component's world ===== -/
abbrev nmK : List String := ["GETS", "GETM", "PUTS", "PUTM", "FWDS", "FWDM", "INV", "PUTACK", "DATA", "ACK"]
abbrev nmS : List String := ["I", "S", "M", "SD"]
abbrev nmO : List String := ["LOAD", "STORE", "ADD", "JUMP", "SET", "SWAP"]
abbrev dsK : String := "LHomeDirectory$Kind;"
abbrev dsS : String := "LHomeDirectory$Standing;"
abbrev dsO : String := "LHomeDirectory$Op;"
abbrev fdK : List (String × String × String × List Int32) := [("java/lang/Enum", "ordinal", "I", [0, 1, 2, 3, 4, 5, 6, 7, 8, 9]), ("HomeDirectory$Kind", "forward", "Z", [0, 0, 0, 0, 1, 1, 1, 1, 0, 0])]
abbrev fdS : List (String × String × String × List Int32) := [("java/lang/Enum", "ordinal", "I", [0, 1, 2, 3])]
abbrev fdO : List (String × String × String × List Int32) := [("java/lang/Enum", "ordinal", "I", [0, 1, 2, 3, 4, 5])]
abbrev y_Rcv_take : MethodName := ⟨"HomeDirectory$Receiver", "take", "(LHomeDirectory$Message;)Z"⟩
abbrev y_Mode_take : MethodName := ⟨"HomeDirectory$Mode", "take", "(LHomeDirectory$Line;LHomeDirectory$Message;)Z"⟩
/-- words that the tables give and that no reader of steady words carries -/
def NW (U : State) : Prop :=
  (va_Nw (.fieldLinkNest R_HD 191 R_Net "size" "I" R_HD) U ∧ va_Nw (.fieldLinkNest R_HD 246 R_Net "sent" "I" R_HD) U ∧ va_Nw (.fieldLinkNest R_HD 227 R_Home "state" dsS R_HD) U ∧ va_Nw (.fieldLinkNest R_HD 234 R_Home "owner" "I" R_HD) U ∧ va_Nw (.fieldLinkNest R_HD 237 R_Home "sharers" "I" R_HD) U ∧ va_Nw (.fieldLinkNest R_HD 240 R_Home "memory" "I" R_HD) U ∧ va_Nw (.fieldLinkNest R_HD 162 R_Kind "forward" "Z" R_HD) U ∧ va_Nw (.fieldLinkNest R_Msg 13 R_Kind "forward" "Z" R_HD) U)
  ∧ (va_Nw (.methodLinkNest R_HD 21 y_Net_init R_HD) U ∧ va_Nw (.methodLinkNest R_HD 28 y_Chart_init R_HD) U ∧ va_Nw (.methodLinkNest R_HD 70 y_Core_init R_HD) U ∧ va_Nw (.methodLinkNest R_Net 17 y_Msg_init R_HD) U)
  ∧ (va_Fw R_Home y_Rcv_take y_Home_take U ∧ va_Fw R_Line y_Rcv_take y_Line_take U)
  ∧ (va_Nw (.declares y_Mode_take) U ∧ va_Nw (.declares y_Enum_ordinal) U)
  ∧ (va_Nw (.castable R_Line R_Line) U ∧ va_Nw (.castable "[LHomeDirectory$Op;" "java/lang/Cloneable") U ∧ va_Nc R_Home R_Line U)
theorem NW.warm {s U : State} (hW : s.WarmedH U.vm) (h : NW s) : NW U := by
  obtain ⟨⟨a1, a2, a3, a4, a5, a6, a7, a8⟩, ⟨b1, b2, b3, b4⟩, ⟨c1, c2⟩, ⟨d1, d2⟩, ⟨e1, e2, e3⟩⟩ := h
  exact ⟨⟨a1.warmF hW, a2.warmF hW, a3.warmF hW, a4.warmF hW, a5.warmF hW, a6.warmF hW, a7.warmF hW, a8.warmF hW⟩, ⟨b1.warmM hW, b2.warmM hW, b3.warmM hW, b4.warmM hW⟩, ⟨c1.moved (by decide) hW.alike, c2.moved (by decide) hW.alike⟩, ⟨d1.warmD hW, d2.warmD hW⟩, ⟨e1.warmC hW, e2.warmC hW, e3.moved hW.alike⟩⟩
theorem NW.same {s U : State} (hv : s.vm = U.vm) (h : NW s) : NW U := by
  have ha : s.vm.Alike U.vm := hv ▸ Vm.Alike.refl s.vm
  obtain ⟨⟨a1, a2, a3, a4, a5, a6, a7, a8⟩, ⟨b1, b2, b3, b4⟩, ⟨c1, c2⟩, ⟨d1, d2⟩, ⟨e1, e2, e3⟩⟩ := h
  exact ⟨⟨a1.same rfl hv, a2.same rfl hv, a3.same rfl hv, a4.same rfl hv, a5.same rfl hv, a6.same rfl hv, a7.same rfl hv, a8.same rfl hv⟩, ⟨b1.same rfl hv, b2.same rfl hv, b3.same rfl hv, b4.same rfl hv⟩, ⟨c1.moved (by decide) ha, c2.moved (by decide) ha⟩, ⟨d1.same rfl hv, d2.same rfl hv⟩, ⟨e1.same rfl hv, e2.same rfl hv, e3.moved ha⟩⟩
/-- what the component's methods know of the tables and of the constants -/
def CX (D : va_G) (dA : Nat → ClassId) (eA : Nat → Nat → Nat) (A : Nat → Prop) (U : State) : Prop :=
  va_K D cls (tys dA) U ∧ va_En R_Kind dsK nmK fdK (eA 0) A U U.heap ∧ va_En R_Std dsS nmS fdS (eA 1) A U U.heap ∧ va_En R_Op dsO nmO fdO (eA 2) A U U.heap ∧ NW U
theorem CX.call {D : va_G} {dA : Nat → ClassId} {eA : Nat → Nat → Nat} {A : Nat → Prop} {s U : State} {H : Heap} {locs : List Loc} (h : CX D dA eA A s) (hS : va_S A s.heap H locs) (hU : U.heap = H) (hW : s.WarmedH U.vm) : CX D dA eA A U := by
  obtain ⟨h1, h2, h3, h4, h5⟩ := h
  subst hU
  exact ⟨h1.moved hW.alike, (h2.kept hS.2.1).moved hW.alike, (h3.kept hS.2.1).moved hW.alike, (h4.kept hS.2.1).moved hW.alike, h5.warm hW⟩
theorem CX.blind {D : va_G} {dA : Nat → ClassId} {eA : Nat → Nat → Nat} {A : Nat → Prop} {U : State} {g : JFrame} {mk : MethodId} {a : Array Value} (h : CX D dA eA A U) : CX D dA eA A (U.calling g mk a) := by
  obtain ⟨h1, h2, h3, h4, h5⟩ := h
  exact ⟨h1.moved (U := U.calling g mk a) (Vm.Alike.refl U.vm), h2.moved (U := U.calling g mk a) (Vm.Alike.refl U.vm), h3.moved (U := U.calling g mk a) (Vm.Alike.refl U.vm), h4.moved (U := U.calling g mk a) (Vm.Alike.refl U.vm), h5.same (U := U.calling g mk a) rfl⟩
theorem CX.narrow {D : va_G} {dA : Nat → ClassId} {eA : Nat → Nat → Nat} {A B : Nat → Prop} {U : State} (h : CX D dA eA A U) (hAB : ∀ q, B q → A q) : CX D dA eA B U := ⟨h.1, h.2.1.narrow hAB, h.2.2.1.narrow hAB, h.2.2.2.1.narrow hAB, h.2.2.2.2⟩
/-- labels of the fixed cells -/
def vl (N s i : Nat) : Prop := match s with
  | 0 => i = 0 | 1 => i = 0 | 2 => i = 0 | 3 => i < 11 | 4 => i = 0 | 5 => i = 0 | 6 => i = 0 | 7 => i = 0
  | 8 => i < N | 9 => i < N | 10 => i < N | 11 => i < 4 * N | 12 => i < 4 | _ => False
/-- the modes, by their codes -/
def mdc (i : Nat) : va_E := match i with
  | 0 => .inr (3, [.int 0, .int 0]) | 1 => .inr (4, [.int 1, .int 1]) | 2 => .inr (5, [.int 2, .int 1]) | 3 => .inr (6, [.int 3, .int 0])
  | 4 => .inr (7, [.int 4, .int 0, .int 0]) | 5 => .inr (7, [.int 5, .int 0, .int 1]) | 6 => .inr (7, [.int 6, .int 1, .int 0]) | 7 => .inr (7, [.int 7, .int 1, .int 1])
  | 8 => .inr (5, [.int 8, .int 1]) | 9 => .inr (4, [.int 9, .int 1]) | _ => .inr (3, [.int 10, .int 0])
abbrev rfa (n : Nat) (f : Nat → Option Nat) : vp_A := (n, .inr (.inr (.inr (.inr f))))
/-- what the fixed cells hold -/
def ct (dA : Nat → ClassId) (eA ad : Nat → Nat → Nat) (N : Nat) (g : PS) (as sp : List Nat) (s i : Nat) : va_E := match s with
  | 0 => .inr (0, [.int (nI N), .int (g 1 0), .ref (ad 4 0), .ref (ad 1 0), .ref (ad 2 0), .ref (ad 5 0), .ref (ad 6 0), .ref (ad 7 0), .int (g 19 0)])
  | 1 => .inr (1, [va_rf as.head?, va_rf as.getLast?, va_rf sp.head?, .int (nI as.length), .int (g 18 0)])
  | 2 => .inr (2, [.ref (ad 3 0), .ref (ad 3 1), .ref (ad 3 2), .ref (ad 3 3), .ref (ad 3 4), .ref (ad 3 5), .ref (ad 3 6), .ref (ad 3 7), .ref (ad 3 8), .ref (ad 3 9), .ref (ad 3 10)])
  | 3 => mdc i
  | 4 => .inl (dA 3, rfa 6 (fun j => some (eA 2 j)))
  | 5 => .inl (dA 4, rfa 4 (fun j => if j < N then some (ad 8 j) else none))
  | 6 => .inl (dA 5, rfa 16 (fun j => if j < 4 * N then some (ad 11 j) else none))
  | 7 => .inl (dA 6, rfa 4 (fun j => if j < 4 then some (ad 12 j) else none))
  | 8 => .inr (8, [.ref (ad 9 i), .ref (ad 10 i), .int (g 5 i), .int (g 6 i), .int (g 2 i), .int (32 * g 7 i)])
  | 9 => .inl (dA 2, 16, .inl (fun j => if j < 16 then g 3 (16 * i + j) else 0))
  | 10 => .inl (dA 0, 16, .inl (fun j => if j < 16 then g 4 (16 * i + j) else 0))
  | 11 => .inr (9, [.int (nI (i / 4)), .int (nI (i % 4)), .ref (ad 1 0), .ref (ad 2 0), .ref (ad 3 (g 8 i).toNatClampNeg), .int (g 9 i), .int (g 10 i), .int (g 11 i)])
  | 12 => .inr (10, [.int (nI i), .ref (ad 1 0), .ref (eA 1 (g 14 i).toNatClampNeg), .int (g 15 i), .int (nI (s_set g i 4)), .int (g 13 i)])
  | _ => .inr (10, [])
def FX (dA : Nat → ClassId) (eA ad : Nat → Nat → Nat) (N : Nat) (g : PS) (as sp L : List Nat) (f : Nat → va_E) (iv : Nat → Nat × Nat) : Prop := ∀ s i, vl N s i → ad s i ∈ L ∧ iv (ad s i) = (s, i) ∧ f (ad s i) = ct dA eA ad N g as sp s i
def mcl (eA : Nat → Nat → Nat) (z : Msg) (nx : Option Nat) : va_E := .inr (11, [.ref (eA 0 z.1), .int (nI z.2.1), .int (nI z.2.2.1), .int (nI z.2.2.2.1), .int z.2.2.2.2.1, .int (nI z.2.2.2.2.2.1), .int (rq z.2.2.2.2.2.2), va_rf nx])
def MX (eA : Nat → Nat → Nat) (M : List Msg) (as sp L : List Nat) (f : Nat → va_E) (iv : Nat → Nat × Nat) : Prop :=
  as.length = M.length ∧ (as ++ sp).Nodup ∧ (∀ q ∈ as ++ sp, q ∈ L ∧ (iv q).1 = 13) ∧ (∀ (j q : Nat) (z : Msg), as[j]? = some q → M[j]? = some z → f q = mcl eA z as[j + 1]?) ∧ (∀ (j q : Nat), sp[j]? = some q → ∃ vs : List Value, vs.length = 7 ∧ f q = .inr (11, vs ++ [va_rf sp[j + 1]?]))
/-- the component stands, with the state g, the messages M at the addresses as, the spare ones at sp -/
def RX (D : va_G) (dA : Nat → ClassId) (eA ad : Nat → Nat → Nat) (A : Nat → Prop) (N : Nat) (g : PS) (M : List Msg) (as sp : List Nat) (H : Heap) : Prop :=
  ∃ (L : List Nat) (f : Nat → va_E) (iv : Nat → Nat × Nat), va_P D cls (va_pl L f) H ∧ va_D A (va_pl L f) ∧ FX dA eA ad N g as sp L f iv ∧ MX eA M as sp L f iv
theorem FX.up {dA : Nat → ClassId} {eA ad : Nat → Nat → Nat} {N : Nat} {g g' : PS} {as sp as' sp' L : List Nat} {f : Nat → va_E} {iv : Nat → Nat × Nat} {s0 i0 : Nat} {e : va_E} (hF : FX dA eA ad N g as sp L f iv) (hv : vl N s0 i0)
    (hup : ∀ s i, vl N s i → (s, i) ≠ (s0, i0) → ct dA eA ad N g' as' sp' s i = ct dA eA ad N g as sp s i) (h0 : ct dA eA ad N g' as' sp' s0 i0 = e) : FX dA eA ad N g' as' sp' L (va_up f (ad s0 i0) e) iv := by
  intro s i h
  obtain ⟨h1, h2, h3⟩ := hF s i h
  refine ⟨h1, h2, ?_⟩
  by_cases hq : (s, i) = (s0, i0)
  · cases hq
    rw [va_up_self]
    exact h0.symm
  · rw [va_up_ne _ _ (fun e9 => hq (by rw [← h2, e9]; exact (hF s0 i0 hv).2.1)), h3, hup s i h hq]
theorem FX.o {dA : Nat → ClassId} {eA ad : Nat → Nat → Nat} {N : Nat} {g : PS} {as sp L : List Nat} {f : Nat → va_E} {iv : Nat → Nat × Nat} {a : Nat} {e : va_E} (hF : FX dA eA ad N g as sp L f iv) (ha : (iv a).1 = 13) : FX dA eA ad N g as sp L (va_up f a e) iv := by
  intro s i h
  obtain ⟨h1, h2, h3⟩ := hF s i h
  refine ⟨h1, h2, ?_⟩
  rw [va_up_ne _ _ (fun e9 => ?_), h3]
  rw [e9] at h2
  rw [h2] at ha
  have ha : s = 13 := ha
  subst ha
  exact h
theorem MX.o {eA : Nat → Nat → Nat} {M : List Msg} {as sp L : List Nat} {f : Nat → va_E} {iv : Nat → Nat × Nat} {a : Nat} {e : va_E} (hM : MX eA M as sp L f iv) (ha : (iv a).1 ≠ 13) : MX eA M as sp L (va_up f a e) iv := by
  obtain ⟨h1, h2, h3, h4, h5⟩ := hM
  refine ⟨h1, h2, h3, fun j q z hq hz => ?_, fun j q hq => ?_⟩
  · rw [va_up_ne _ _ (fun e9 => ha (by rw [← e9]; exact (h3 q (List.mem_append_left _ (List.mem_of_getElem? hq))).2))]
    exact h4 j q z hq hz
  · rw [va_up_ne _ _ (fun e9 => ha (by rw [← e9]; exact (h3 q (List.mem_append_right _ (List.mem_of_getElem? hq))).2))]
    exact h5 j q hq
theorem vl_13 {N s i : Nat} (h : vl N s i) : s ≠ 13 := by
  intro e
  subst e
  exact h
/-! raw rows: a pool of cells by address -/
section RAW
variable {p : Program} {l : Launch} {e : Env} {R : Room} {s : State} {m : MethodId} {args : Array Value} {below : List Frame} {meth : Method} {c : Code} {H : Heap} {locs : List Loc} {cells slots : Nat} {Q : State → Prop}
variable {cc : ByteArray} {pc nL : Nat} {own : String} {ret : Option FieldType} {ls : Array Slot} {rest : List Value} {D : va_G} {dA : Nat → ClassId} {A : Nat → Prop} {L : List Nat} {f : Nat → va_E} {H0 : Heap} {a : Nat}
theorem r_get (E : Cx p s m args meth c cc own nL ret) (hK : va_K D cls (tys dA) s) (hP : va_P D cls (va_pl L f) H) (ha : a ∈ L) {ci : Nat} {fs : List Value} (hf : f a = .inr (ci, fs)) {C : String} {T : u_T} {Nn : Nat} (hcl : cls[ci]? = some (C, T, Nn)) (hin : ∀ w ∈ u_ws C T Nn, w ∈ wz) (k : Nat) (hk : k < Nn) {ref : String} {index : Nat} (hlink : Cond.fieldLink own index ref (T k).2.1 (T k).2.2.1 ∈ wz) (hsame : ∀ x, s.fieldFound? (T k).1 (T k).2.1 (T k).2.2.1 = some x → s.fieldFound? ref (T k).2.1 (T k).2.2.1 = some x) {v : Value} (hv : fs[k]? = some v) (hdg : decode cc pc = .ok (.getfield index, 3))
    (kk : W p l e R s m args below meth c H locs cells slots Q (F0 m (pc + 3) ls (v :: rest))) : W p l e R s m args below meth c H locs cells slots Q (F0 m pc ls (.ref a :: rest)) := by
  obtain ⟨q0, hq⟩ := va_pl_get (X := []) (f := f) ha
  rw [hf] at hq
  exact va_get (D := D) (ci := ci) (C := C) (T := T) (N := Nn) E.1 E.2.1 E.2.2.2.2.1 hin E.2.2.2.1 hK hP q0 hq hcl k hk (E.2.2.2.2.1 _ hlink) hsame hv hdg kk
theorem r_getN (E : Cx p s m args meth c cc own nL ret) (hK : va_K D cls (tys dA) s) (hP : va_P D cls (va_pl L f) H) (ha : a ∈ L) {ci : Nat} {fs : List Value} (hf : f a = .inr (ci, fs)) {C : String} {T : u_T} {Nn : Nat} (hcl : cls[ci]? = some (C, T, Nn)) (hin : ∀ w ∈ u_ws C T Nn, w ∈ wz) (k : Nat) (hk : k < Nn) {ref host : String} {index : Nat} (hlink : va_Nw (.fieldLinkNest own index ref (T k).2.1 (T k).2.2.1 host) s) (hsame : ∀ x, s.fieldFound? (T k).1 (T k).2.1 (T k).2.2.1 = some x → s.fieldFound? ref (T k).2.1 (T k).2.2.1 = some x) {v : Value} (hv : fs[k]? = some v) (hdg : decode cc pc = .ok (.getfield index, 3))
    (kk : W p l e R s m args below meth c H locs cells slots Q (F0 m (pc + 3) ls (v :: rest))) : W p l e R s m args below meth c H locs cells slots Q (F0 m pc ls (.ref a :: rest)) := by
  obtain ⟨q0, hq⟩ := va_pl_get (X := []) (f := f) ha
  rw [hf] at hq
  exact va_getN (D := D) (ci := ci) (C := C) (T := T) (N := Nn) E.1 E.2.1 E.2.2.2.2.1 hin E.2.2.2.1 hK hP q0 hq hcl k hk (hlink.use rfl) hsame hv hdg kk
theorem r_put (E : Cx p s m args meth c cc own nL ret) (hK : va_K D cls (tys dA) s) (hP : va_P D cls (va_pl L f) H) (hD : va_D A (va_pl L f)) (hS : va_S A H0 H locs) (ha : a ∈ L) {ci : Nat} {fs : List Value} (hf : f a = .inr (ci, fs)) {C : String} {T : u_T} {Nn : Nat} (hcl : cls[ci]? = some (C, T, Nn)) (hin : ∀ w ∈ u_ws C T Nn, w ∈ wz) (ty0 : Nat → FieldType) (hty : ∀ k, k < Nn → parseFieldDescriptor (T k).2.2.1 = some (ty0 k)) (hnm : ∀ a, a < Nn → ∀ b, b < Nn → a ≠ b → (T a).2.1 ≠ (T b).2.1) (k : Nat) (hk : k < Nn) {ref : String} {index : Nat} (hlink : Cond.fieldLink own index ref (T k).2.1 (T k).2.2.1 ∈ wz) (hsame : ∀ x, s.fieldFound? (T k).1 (T k).2.1 (T k).2.2.1 = some x → s.fieldFound? ref (T k).2.1 (T k).2.2.1 = some x) (hfin : (T k).2.2.2 = false) {v : Value} (hn : narrow (ty0 k) v = v) (hfit : fits (ty0 k) v = true) (hl : k < fs.length) (hdg : decode cc pc = .ok (.putfield index, 3))
    (kk : ∀ (H1 : Heap) (locs1 : List Loc), va_P D cls (va_pl L (va_up f a (.inr (ci, fs.set k v)))) H1 → va_D A (va_pl L (va_up f a (.inr (ci, fs.set k v)))) → va_S A H0 H1 locs1 → W p l e R s m args below meth c H1 locs1 cells slots Q (F0 m (pc + 3) ls rest)) : W p l e R s m args below meth c H locs cells slots Q (F0 m pc ls (v :: .ref a :: rest)) := by
  obtain ⟨q0, hq⟩ := va_pl_get (X := []) (f := f) ha
  have hset := fun e9 => va_pl_set (X := []) (e := e9) hD ha hq
  rw [hf] at hq
  refine va_put (D := D) (ci := ci) (C := C) (T := T) (N := Nn) E.1 E.2.1 E.2.2.2.2.1 hin ty0 hty hnm E.2.2.2.1 hK hP hD hS q0 hq hcl k hk (E.2.2.2.2.1 _ hlink) hsame hfin (hty k hk) hn hfit hl hdg (fun H1 locs1 hP1 hD1 hS1 => ?_)
  have e9 := hset (.inr (ci, fs.set k v))
  rw [show ([] ++ va_pl L f : va_W) = va_pl L f from rfl] at e9
  rw [e9] at hP1 hD1
  exact kk H1 locs1 hP1 hD1 hS1
theorem r_putF (E : Cx p s m args meth c cc own nL ret) (hK : va_K D cls (tys dA) s) (hP : va_P D cls (va_pl L f) H) (hD : va_D A (va_pl L f)) (hS : va_S A H0 H locs) (ha : a ∈ L) {ci : Nat} {fs : List Value} (hf : f a = .inr (ci, fs)) {C : String} {T : u_T} {Nn : Nat} (hcl : cls[ci]? = some (C, T, Nn)) (hin : ∀ w ∈ u_ws C T Nn, w ∈ wz) (ty0 : Nat → FieldType) (hty : ∀ k, k < Nn → parseFieldDescriptor (T k).2.2.1 = some (ty0 k)) (hnm : ∀ a, a < Nn → ∀ b, b < Nn → a ≠ b → (T a).2.1 ≠ (T b).2.1) (k : Nat) (hk : k < Nn) {ref : String} {index : Nat} (hlink : Cond.fieldLink own index ref (T k).2.1 (T k).2.2.1 ∈ wz) (hsame : ∀ x, s.fieldFound? (T k).1 (T k).2.1 (T k).2.2.1 = some x → s.fieldFound? ref (T k).2.1 (T k).2.2.1 = some x) (hfin : (T k).2.2.2 = true) (hin2 : meth.name = "<init>") (hdecl : (T k).1 = own) {v : Value} (hn : narrow (ty0 k) v = v) (hfit : fits (ty0 k) v = true) (hl : k < fs.length) (hdg : decode cc pc = .ok (.putfield index, 3))
    (kk : ∀ (H1 : Heap) (locs1 : List Loc), va_P D cls (va_pl L (va_up f a (.inr (ci, fs.set k v)))) H1 → va_D A (va_pl L (va_up f a (.inr (ci, fs.set k v)))) → va_S A H0 H1 locs1 → W p l e R s m args below meth c H1 locs1 cells slots Q (F0 m (pc + 3) ls rest)) : W p l e R s m args below meth c H locs cells slots Q (F0 m pc ls (v :: .ref a :: rest)) := by
  obtain ⟨q0, hq⟩ := va_pl_get (X := []) (f := f) ha
  have hset := fun e9 => va_pl_set (X := []) (e := e9) hD ha hq
  rw [hf] at hq
  refine va_putF (D := D) (ci := ci) (C := C) (T := T) (N := Nn) E.1 E.2.1 E.2.2.2.2.1 hin ty0 hty hnm E.2.2.2.1 hK hP hD hS q0 hq hcl k hk (E.2.2.2.2.1 _ hlink) hsame hfin hin2 hdecl (hty k hk) hn hfit hl hdg (fun H1 locs1 hP1 hD1 hS1 => ?_)
  have e9 := hset (.inr (ci, fs.set k v))
  rw [show ([] ++ va_pl L f : va_W) = va_pl L f from rfl] at e9
  rw [e9] at hP1 hD1
  exact kk H1 locs1 hP1 hD1 hS1
theorem r_new (E : Cx p s m args meth c cc own nL ret) (hK : va_K D cls (tys dA) s) (hP : va_P D cls (va_pl L f) H) (hD : va_D A (va_pl L f)) (hS : va_S A H0 H locs) (hA : ∀ q, H0.size ≤ q → A q) {ci : Nat} {C : String} {T : u_T} {Nn index : Nat} (hcl : cls[ci]? = some (C, T, Nn)) (hin : ∀ w ∈ u_ws C T Nn, w ∈ wz) (ty : Nat → FieldType) (hty : ∀ k, k < Nn → parseFieldDescriptor (T k).2.2.1 = some (ty k)) (hc1 : Cond.classLink own index C ∈ wz) (hc2 : Cond.instantiable C Nn ∈ wz) (hc3 : Cond.initialized C ∈ wz) {fs : List Value} (hfs : ∀ j, j < Nn → defaultValue (ty j) = vp_V fs j) (hcells : cells + 1 ≤ R.cells) (hslots : slots + Nn ≤ R.slots) (hdg : decode cc pc = .ok (.new index, 3))
    (kk : ∀ (q : Nat) (H1 : Heap), q ∉ L → va_P D cls (va_pl (L ++ [q]) (va_up f q (.inr (ci, fs)))) H1 → va_D A (va_pl (L ++ [q]) (va_up f q (.inr (ci, fs)))) → va_S A H0 H1 locs → W p l e R s m args below meth c H1 locs (cells + 1) (slots + Nn) Q (F0 m (pc + 3) ls (.ref q :: rest))) : W p l e R s m args below meth c H locs cells slots Q (F0 m pc ls rest) := by
  refine va_new (ci := ci) (fs := fs) (C := C) (T := T) (N := Nn) E.1 E.2.1 E.2.2.2.2.1 hin ty hty E.2.2.2.1 (E.2.2.2.2.1 _ hc1) (E.2.2.2.2.1 _ hc2) (E.2.2.2.2.1 _ hc3) hK hP hD hS hA hcl hfs hcells hslots hdg (fun q H1 hP1 hD1 hS1 => ?_)
  have hq : q ∉ L := va_pl_fresh2 (X := []) hD1
  rw [va_pl_push hq] at hP1 hD1
  exact kk q H1 hq hP1 hD1 hS1
/-- loads and stores of arrays -/
theorem r_aald (E : Cx p s m args meth c cc own nL ret) (hK : va_K D cls (tys dA) s) (hP : va_P D cls (va_pl L f) H) (ha : a ∈ L) {cA : ClassId} {n : Nat} {h : Nat → Option Nat} (hf : f a = .inl (cA, rfa n h)) (t0 : Nat) {C : String} (ht : (tys dA)[t0]? = some (cA, .object C)) {j : Nat} (hj : j < n) (hn : n < 100) {v : Value} (hv : va_rf (h j) = v) (hdg : decode cc pc = .ok (.aaload, 1))
    (kk : W p l e R s m args below meth c H locs cells slots Q (F0 m (pc + 1) ls (v :: rest))) : W p l e R s m args below meth c H locs cells slots Q (F0 m pc ls (.int (nI j) :: .ref a :: rest)) := by
  obtain ⟨q0, hq⟩ := va_pl_get (X := []) (f := f) ha
  rw [hf] at hq
  subst hv
  refine va_aldq (D := D) E.1 E.2.1 hK hP q0 t0 hq ht (vp_in_nI hj (by omega)) hdg ?_
  rw [nI_clamp (by omega)]
  exact kk
theorem r_iald (E : Cx p s m args meth c cc own nL ret) (hK : va_K D cls (tys dA) s) (hP : va_P D cls (va_pl L f) H) (ha : a ∈ L) {n : Nat} {h : Nat → Int32} (hf : f a = .inl (dA 0, n, .inl h)) {j : Nat} (hj : j < n) (hn : n < 100) (hdg : decode cc pc = .ok (.iaload, 1))
    (kk : W p l e R s m args below meth c H locs cells slots Q (F0 m (pc + 1) ls (.int (h j) :: rest))) : W p l e R s m args below meth c H locs cells slots Q (F0 m pc ls (.int (nI j) :: .ref a :: rest)) := by
  obtain ⟨q0, hq⟩ := va_pl_get (X := []) (f := f) ha
  rw [hf] at hq
  refine va_iald (D := D) E.1 E.2.1 hK hP q0 0 hq rfl (vp_in_nI hj (by omega)) hdg ?_
  rw [nI_clamp (by omega)]
  exact kk
theorem r_bald (E : Cx p s m args meth c cc own nL ret) (hK : va_K D cls (tys dA) s) (hP : va_P D cls (va_pl L f) H) (ha : a ∈ L) {n : Nat} {h : Nat → Int32} (hf : f a = .inl (dA 2, n, .inl h)) {j : Nat} (hj : j < n) (hn : n < 100) (hdg : decode cc pc = .ok (.baload, 1))
    (kk : W p l e R s m args below meth c H locs cells slots Q (F0 m (pc + 1) ls (.int (h j) :: rest))) : W p l e R s m args below meth c H locs cells slots Q (F0 m pc ls (.int (nI j) :: .ref a :: rest)) := by
  obtain ⟨q0, hq⟩ := va_pl_get (X := []) (f := f) ha
  rw [hf] at hq
  refine va_bald (D := D) E.1 E.2.1 hK hP q0 2 hq rfl (vp_in_nI hj (by omega)) hdg ?_
  rw [nI_clamp (by omega)]
  exact kk
theorem r_iast (E : Cx p s m args meth c cc own nL ret) (hK : va_K D cls (tys dA) s) (hP : va_P D cls (va_pl L f) H) (hD : va_D A (va_pl L f)) (hS : va_S A H0 H locs) (ha : a ∈ L) {n : Nat} {h : Nat → Int32} (hf : f a = .inl (dA 0, n, .inl h)) {j : Nat} (hj : j < n) (hn : n < 100) {x : Int32} (hdg : decode cc pc = .ok (.iastore, 1))
    (kk : ∀ (H1 : Heap) (locs1 : List Loc), va_P D cls (va_pl L (va_up f a (.inl (dA 0, n, .inl (upd h j x))))) H1 → va_D A (va_pl L (va_up f a (.inl (dA 0, n, .inl (upd h j x))))) → va_S A H0 H1 locs1 → W p l e R s m args below meth c H1 locs1 cells slots Q (F0 m (pc + 1) ls rest)) : W p l e R s m args below meth c H locs cells slots Q (F0 m pc ls (.int x :: .int (nI j) :: .ref a :: rest)) := by
  obtain ⟨q0, hq⟩ := va_pl_get (X := []) (f := f) ha
  have hset := fun e9 => va_pl_set (X := []) (e := e9) hD ha hq
  rw [hf] at hq
  refine va_iast (D := D) E.1 E.2.1 hK hP hD hS q0 0 hq rfl (vp_in_nI hj (by omega)) hdg (fun H1 locs1 hP1 hD1 hS1 => ?_)
  rw [nI_clamp (by omega)] at hP1 hD1
  have e9 := hset (.inl (dA 0, n, .inl (upd h j x)))
  rw [show ([] ++ va_pl L f : va_W) = va_pl L f from rfl] at e9
  rw [e9] at hP1 hD1
  exact kk H1 locs1 hP1 hD1 hS1
theorem r_bast (E : Cx p s m args meth c cc own nL ret) (hK : va_K D cls (tys dA) s) (hP : va_P D cls (va_pl L f) H) (hD : va_D A (va_pl L f)) (hS : va_S A H0 H locs) (ha : a ∈ L) {n : Nat} {h : Nat → Int32} (hf : f a = .inl (dA 2, n, .inl h)) {j : Nat} (hj : j < n) (hn : n < 100) {x : Int32} (hx : vp_nar .byte x = x) (hdg : decode cc pc = .ok (.bastore, 1))
    (kk : ∀ (H1 : Heap) (locs1 : List Loc), va_P D cls (va_pl L (va_up f a (.inl (dA 2, n, .inl (upd h j x))))) H1 → va_D A (va_pl L (va_up f a (.inl (dA 2, n, .inl (upd h j x))))) → va_S A H0 H1 locs1 → W p l e R s m args below meth c H1 locs1 cells slots Q (F0 m (pc + 1) ls rest)) : W p l e R s m args below meth c H locs cells slots Q (F0 m pc ls (.int x :: .int (nI j) :: .ref a :: rest)) := by
  obtain ⟨q0, hq⟩ := va_pl_get (X := []) (f := f) ha
  have hset := fun e9 => va_pl_set (X := []) (e := e9) hD ha hq
  rw [hf] at hq
  refine va_bast (D := D) E.1 E.2.1 hK hP hD hS q0 2 hq rfl (vp_in_nI hj (by omega)) hdg (fun H1 locs1 hP1 hD1 hS1 => ?_)
  rw [nI_clamp (by omega), hx] at hP1 hD1
  have e9 := hset (.inl (dA 2, n, .inl (upd h j x)))
  rw [show ([] ++ va_pl L f : va_W) = va_pl L f from rfl] at e9
  rw [e9] at hP1 hD1
  exact kk H1 locs1 hP1 hD1 hS1
/-- constants of the enums, and comparisons of references -/
theorem x_gets {eA : Nat → Nat → Nat} {E0 d0 : String} {nm : List String} {F : List (String × String × String × List Int32)} {ea : Nat → Nat} (hE : va_En E0 d0 nm F ea A s s.heap) (E : Cx p s m args meth c cc own nL ret) (hS : va_S A s.heap H locs) (i : Nat) (hi : i < nm.length) {index : Nat} (hlink : Cond.fieldLink own index E0 (nm.getD i "") d0 ∈ wz) (hdg : decode cc pc = .ok (.getstatic index, 3))
    (kk : W p l e R s m args below meth c H locs cells slots Q (F0 m (pc + 3) ls (.ref (ea i) :: rest))) : W p l e R s m args below meth c H locs cells slots Q (F0 m pc ls rest) :=
  va_gets E.1 E.2.1 (hE.1 i hi).1 hS E.2.2.2.1 (E.2.2.2.2.1 _ hlink) (fun _ h => h) hdg kk
theorem lv_acmpR_eq (hexec : p.tables.exec = Jvm.exec) (hb : c.code = cc) {x y : Nat} {off : Int} {tgt : Nat} (hdg : decode cc pc = .ok (.if_acmp .eq off, 3)) (ht : (pc : Int) + off = (tgt : Int))
    (kt : x = y → W p l e R s m args below meth c H locs cells slots Q (F0 m tgt ls rest)) (kf : ¬ x = y → W p l e R s m args below meth c H locs cells slots Q (F0 m (pc + 3) ls rest)) : W p l e R s m args below meth c H locs cells slots Q (F0 m pc ls (.ref y :: .ref x :: rest)) :=
  lv_acmp_eq (rx := some x) (ry := some y) hexec hb hdg ht (fun h => kt (Option.some.inj h)) (fun h => kf (fun e => h (by rw [e])))
theorem lv_acmpR_ne (hexec : p.tables.exec = Jvm.exec) (hb : c.code = cc) {x y : Nat} {off : Int} {tgt : Nat} (hdg : decode cc pc = .ok (.if_acmp .ne off, 3)) (ht : (pc : Int) + off = (tgt : Int))
    (kt : ¬ x = y → W p l e R s m args below meth c H locs cells slots Q (F0 m tgt ls rest)) (kf : x = y → W p l e R s m args below meth c H locs cells slots Q (F0 m (pc + 3) ls rest)) : W p l e R s m args below meth c H locs cells slots Q (F0 m pc ls (.ref y :: .ref x :: rest)) :=
  lv_acmp_ne (rx := some x) (ry := some y) hexec hb hdg ht (fun h => kt (fun e => h (by rw [e]))) (fun h => kf (Option.some.inj h))
end RAW
