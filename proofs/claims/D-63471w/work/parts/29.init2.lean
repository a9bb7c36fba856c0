/-- what the constructor of the directory needs besides -/
abbrev aOp : String := "[LHomeDirectory$Op;"
def VX (dA : Nat → ClassId) (eA : Nat → Nat → Nat) (A : Nat → Prop) (tv : Nat) (U : State) : Prop :=
  va_Z R_Op "$VALUES" aOp (.ref tv) A U U.heap ∧ (∃ cell : Cell, U.heap[tv]? = some cell ∧ cell.cls = dA 3 ∧ (∀ k, cell.vm ≠ .statics k) ∧ cell.vm ≠ .unknown ∧ cell.slots = (arrV (dA 3) 6 (fun j => va_rf (some (eA 2 j)))).slots ∧ ¬ A tv) ∧ va_AO R_Core U ∧ va_AO R_Line U ∧ va_AO R_Home U
theorem VX.call {dA : Nat → ClassId} {eA : Nat → Nat → Nat} {A : Nat → Prop} {tv : Nat} {s U : State} {H : Heap} {locs : List Loc} (h : VX dA eA A tv s) (hS : va_S A s.heap H locs) (hU : U.heap = H) (hW : s.WarmedH U.vm) : VX dA eA A tv U := by
  obtain ⟨h1, ⟨cell, c1, c2, c3, c4, c5, c6⟩, h3, h4, h5⟩ := h
  subst hU
  exact ⟨(h1.kept hS.2.1).moved hW.alike, ⟨cell, (hS.2.1 tv (Array.getElem?_eq_some_iff.mp c1).1 c6).trans c1, c2, c3, c4, c5, c6⟩, h3.moved hW.alike, h4.moved hW.alike, h5.moved hW.alike⟩
theorem VX.blind {dA : Nat → ClassId} {eA : Nat → Nat → Nat} {A : Nat → Prop} {tv : Nat} {U : State} {g : JFrame} {mk : MethodId} {a : Array Value} (h : VX dA eA A tv U) : VX dA eA A tv (U.calling g mk a) := by
  obtain ⟨h1, ⟨cell, c1, c2⟩, h3, h4, h5⟩ := h
  exact ⟨h1.moved (U := U.calling g mk a) (Vm.Alike.refl U.vm), ⟨cell, c1, c2⟩, h3.moved (U := U.calling g mk a) (Vm.Alike.refl U.vm), h4.moved (U := U.calling g mk a) (Vm.Alike.refl U.vm), h5.moved (U := U.calling g mk a) (Vm.Alike.refl U.vm)⟩
def PV (D : va_G) (dA : Nat → ClassId) (eA : Nat → Nat → Nat) (A : Nat → Prop) (P : PM) (tv : Nat) (U : State) : Prop := PL D dA eA A P U ∧ VX dA eA A tv U
theorem pv_blind {D : va_G} {dA : Nat → ClassId} {eA : Nat → Nat → Nat} {A : Nat → Prop} {P : PM} {tv : Nat} {av : List Value} : FrameBlind (va_Pc av (PV D dA eA A P tv)) := fun _ _ _ _ q => ⟨q.1, ⟨q.2.1.1, q.2.1.2.1.blind, q.2.1.2.2⟩, q.2.2.blind⟩
theorem nm_Op {D : va_G} {dA : Nat → ClassId} {s : State} (hK : va_K D cls (tys dA) s) : s.vm.findClass aOp = some (dA 3) := by
  obtain ⟨kA, comp, a1, a2, a3, a4⟩ := (hK.2 3 _ rfl).2
  have e : "[" ++ (FieldType.object "HomeDirectory$Op").toString = aOp := by decide +kernel
  rw [← e]
  exact a4
section CLN
variable {p : Program} {l : Launch} {e : Env} {R : Room} {s : State} {m : MethodId} {args : Array Value} {below : List Frame} {meth : Method} {c : Code} {H : Heap} {locs : List Loc} {cells slots : Nat} {Q : State → Prop}
variable {cc : ByteArray} {pc nL : Nat} {ret : Option FieldType} {ls : Array Slot} {rest : List Value} {D : va_G} {dA : Nat → ClassId} {eA : Nat → Nat → Nat} {A : Nat → Prop} {P : PM} {tv : Nat}
theorem l_clone (E : Cx p s m args meth c cc R_Op nL ret) (hml : c.maxLocals = ls.size) (hA : ∀ q, s.heap.size ≤ q → A q) (hC : CX D dA eA A s) (hV : VX dA eA A tv s) (hR : LW D A P H) (hS : va_S A s.heap H locs) (hframes : 1 ≤ R.frames) (hlocals : (rest.map fun v => v.category).sum + 14 ≤ R.locals) (hcells : cells + 1 ≤ R.cells) (hslots : slots + 6 ≤ R.slots) (hdg : decode cc pc = .ok (.invokevirtual 26, 3))
    (kk : ∀ (q : Nat) (H1 : Heap), LW D A (pset P 4 0 (q, .inl (dA 3, rfa 6 (fun j => some (eA 2 j))))) H1 → va_S A s.heap H1 locs →
      W p l e R s m args below meth c H1 locs (cells + 1) (slots + 6) Q (F0 m (pc + 3) ls (.ref q :: rest))) : W p l e R s m args below meth c H locs cells slots Q (F0 m pc ls (.ref tv :: rest)) := by
  obtain ⟨-, ⟨cell, c1, c2, c3, c4, c5, c6⟩, -⟩ := hV
  have hK := hC.1
  have hnm := nm_Op hK
  have hcH : H[tv]? = some cell := (hS.2.1 tv (Array.getElem?_eq_some_iff.mp c1).1 c6).trans c1
  have hsz : cell.slots.size = 6 := by rw [c5]; exact arrV_size _ _ _
  have hcE : ({ cls := cell.cls, slots := cell.slots } : Cell) = vp_cell (dA 3) (rfa 6 (fun j => some (eA 2 j))) := by rw [c2, c5]; rfl
  obtain ⟨c0, t0', f1, f2, f3⟩ := Cond.castable_spec (va_Nw.use (A := args) rfl hC.2.2.2.2.2.2.2.2.2.1)
  cases hnm.symm.trans f1
  intro T hT X
  have hcellT : T.heap[tv]? = some cell := by rw [hT]; exact hcH
  obtain ⟨-, kA, hkA, comp, hkind⟩ := State.isArrayOf_alike X.warmed.alike ((hK.2 3 _ rfl).1 0 (fun _ => .null))
  obtain ⟨-, kS, hkS, compS, hkindS⟩ := (hK.2 3 _ rfl).1 0 (fun _ => .null)
  obtain ⟨vm', X', st⟩ := X.cloneArray E.1 E.2.2.2.1 (E.2.2.2.2.1 _ zm_Op_26) (E.2.2.2.2.1 _ zM_arr_clone) (E.2.2.2.2.1 _ zN_xjavalangObject_clone) (E.2.2.2.2.1 _ zi_xjavalangObject_clone) (E.2.2.2.2.1 _ zs_arr_xjavalangObject_clone_v) (a := tv) (cell := cell) hcellT c3 c4 (by rw [c2]; exact hnm) f2 (by rw [c2]; exact f3)
    (fun i v hv => by
      rw [c2]
      have hk' : T.vm.classes[dA 3]? = some kA := hkA
      rw [c5] at hv
      have hf := va_fit (ty := .object "HomeDirectory$Op") (fun i _ => (rfl : fits (.object "HomeDirectory$Op") (va_rf (some (eA 2 i))) = true)) i v hv
      simpa [State.fitsSlot, State.slotType?, hk', hkind] using hf)
    (g := F0 m pc ls (.ref tv :: rest)) rfl (by rw [hml]) rfl (by rw [E.2.1]; exact hdg) hframes (by show 2 * 0 + _ + 14 ≤ _; omega) hcells (by rw [hsz]; exact hslots) (hloader := by rw [c2]; exact Vm.clonesLoader_of_array hkS hkindS)
  rw [hcE, hsz] at X'
  generalize hH1 : H.push (vp_cell (dA 3) (rfa 6 (fun j => some (eA 2 j)))) = H1
  have z1 : H1.size = H.size + 1 := by rw [← hH1, Array.size_push]
  have e1 : H1[H.size]? = some (vp_cell (dA 3) (rfa 6 (fun j => some (eA 2 j)))) := by rw [← hH1, Array.getElem?_push_size]
  have o1 : ∀ q : Nat, q < H.size → H1[q]? = H[q]? := fun q hq => by rw [← hH1, Array.getElem?_push, if_neg (Nat.ne_of_lt hq)]
  obtain ⟨L, f, iv, h1, h2, h3⟩ := hR
  have hk : ∀ (k : Nat) (y : Nat × va_E), (va_pl L f)[k]? = some y → H1[y.1]? = H[y.1]? := fun k y hy => o1 y.1 ((h1 k y hy).lt)
  obtain ⟨t, b1, b2⟩ := kk H.size H1 (lw_push h3 ((h1.kept hk).app (fun k y hy => by
      have hz : k < 1 := (List.getElem?_eq_some_iff.mp hy).1
      rw [show k = 0 by omega] at hy
      cases hy
      exact e1)) (h2.push h1 rfl (hA _ hS.1))) ⟨Nat.le_trans hS.1 (by omega), fun y h1 h2 => (o1 y (Nat.lt_of_lt_of_le h1 hS.1)).trans (hS.2.1 y h1 h2), hS.2.2⟩
    ((T.setVm vm').pushCell (vp_cell (dA 3) (rfa 6 (fun j => some (eA 2 j))))) (by rw [← hH1, ← hT]; rfl) X'
  refine ⟨t, st t ?_, b2⟩
  rw [hcE, hT]
  exact b1
theorem l_castA (E : Cx p s m args meth c cc R_Op nL ret) (hC : CX D dA eA A s) (hR : LW D A P H) {s0 i0 a : Nat} {x : vp_A} (h0 : P s0 i0 = some (a, .inl (dA 3, x))) (hdg : decode cc pc = .ok (.checkcast 27, 3))
    (kk : W p l e R s m args below meth c H locs cells slots Q (F0 m (pc + 3) ls (.ref a :: rest))) : W p l e R s m args below meth c H locs cells slots Q (F0 m pc ls (.ref a :: rest)) := by
  obtain ⟨L, f, iv, h1, h2, h3⟩ := hR
  obtain ⟨k1, k2, k3⟩ := h3 s0 i0 a _ h0
  obtain ⟨q0, hq⟩ := va_pl_get (X := []) (f := f) k1
  rw [k3] at hq
  exact va_castA E.1 E.2.1 E.2.2.2.1 (E.2.2.2.2.1 _ zc_Op_27) h1 q0 hq (nm_Op hC.1) hdg kk
end CLN
theorem c_Op_values (l : Launch) (D : va_G) (dA : Nat → ClassId) (eA : Nat → Nat → Nat) (A : Nat → Prop) (P : PM) (tv : Nat) : Met l y_Op_values (k_Op_values :: wz) (rml 1 1 6) (va_Pc [] (PV D dA eA A P tv)) (va_Qr (fun (_ : Unit) => True) (fun _ q t => LW D A (pset P 4 0 (q, .inl (dA 3, rfa 6 (fun j => some (eA 2 j))))) t.heap) A) 1 6 A := by
  refine Met.ofW (cc := b_Op_values) (maxL := 0) (ret := some (.array (.object "HomeDirectory$Op"))) (by decide) rfl ?_
  intro p e s m args below meth c s₁ B hml hv
  obtain ⟨rfl, ⟨hA, hC, hR⟩, hV⟩ := hv
  have E := Cx.of B hml
  rw [lg_entry_eq]
  have hl := lv_entry ([] : List Value) (n := 0) (Nat.le_of_ble_eq_true rfl)
  generalize (lg_sl [] ++ List.replicate (0 - (lg_sl []).length) Slot.unset).toArray = ls at hl ⊢
  have hx := E.1
  have hb := E.2.1
  have hS : va_S A s.heap s.heap [] := va_S.rf
  refine va_gets hx hb hV.1 hS E.2.2.2.1 (E.2.2.2.2.1 _ zf_Op_22) (fun _ h => h) d_Op_values_0 ?_
  refine l_clone E (by rw [E.2.2.1]; exact hl.1.symm) hA hC hV hR hS (Nat.le_of_ble_eq_true rfl) (Nat.le_of_ble_eq_true rfl) (Nat.le_of_ble_eq_true rfl) (Nat.le_of_ble_eq_true rfl) d_Op_values_3 (fun q H hR hS => ?_)
  refine W.widen (k := 1) (n := 6) (by decide) (by decide) ?_
  refine l_castA E hC hR (pset_self _ _ _ _) d_Op_values_6 ?_
  exact W.aret hx hb E.2.2.2.2.2.1 (Or.inr ⟨_, rfl⟩) (Or.inr ⟨q, rfl⟩) (fun t ht _ => ⟨⟨(), q, rfl, trivial, show LW D A (pset P 4 0 (q, .inl (dA 3, rfa 6 (fun j => some (eA 2 j))))) t.heap by rw [ht]; exact hR⟩, hS.F ht⟩) hS.2.2 d_Op_values_9 E.2.2.2.2.2.2
