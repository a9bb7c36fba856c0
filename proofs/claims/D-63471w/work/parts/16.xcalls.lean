/-! ===== contracts and calls of the component ===== -/
def PX (D : va_G) (dA : Nat → ClassId) (eA ad : Nat → Nat → Nat) (A : Nat → Prop) (N : Nat) (g : PS) (M : List Msg) (as sp : List Nat) (U : State) : Prop := (∀ q, U.heap.size ≤ q → A q) ∧ CX D dA eA A U ∧ RX D dA eA ad A N g M as sp U.heap
/-- the ends: an int, nothing; as grows, sp is any -/
abbrev XQi (D : va_G) (dA : Nat → ClassId) (eA ad : Nat → Nat → Nat) (A : Nat → Prop) (N : Nat) (r : Int32) (g : PS) (M : List Msg) (as : List Nat) : Array Value → State → Outcome → State → Prop := va_Qi (fun (x : Int32) (_ : List Nat × List Nat) => x = r) (fun u t => RX D dA eA ad A N g M (as ++ u.1) u.2 t.heap) A
abbrev XQv (D : va_G) (dA : Nat → ClassId) (eA ad : Nat → Nat → Nat) (A : Nat → Prop) (N : Nat) (g : PS) (M : List Msg) (as : List Nat) : Array Value → State → Outcome → State → Prop := va_Qv (fun (_ : List Nat × List Nat) => True) (fun u t => RX D dA eA ad A N g M (as ++ u.1) u.2 t.heap) A
abbrev XQe (D : va_G) (dA : Nat → ClassId) (eA ad : Nat → Nat → Nat) (A : Nat → Prop) (N : Nat) (g : PS) (M : List Msg) (as sp : List Nat) : Array Value → State → Outcome → State → Prop := va_Qv (fun (_ : Unit) => True) (fun _ t => RX D dA eA ad A N g M as sp t.heap) A
abbrev XQr (D : va_G) (dA : Nat → ClassId) (eA ad : Nat → Nat → Nat) (A : Nat → Prop) (N : Nat) (g : PS) (M : List Msg) (as : List Nat) : Array Value → State → Outcome → State → Prop := va_Qr (fun (_ : List Nat) => True) (fun u a t => RX D dA eA ad A N g M (as ++ [a]) u t.heap) A
/-- a reader that hands back a reference or null -/
abbrev QcRef (r : Option Nat) : Array Value → State → Outcome → State → Prop := va_Sq (fun x => x = r)
theorem px_blind {D : va_G} {dA : Nat → ClassId} {eA ad : Nat → Nat → Nat} {A : Nat → Prop} {N : Nat} {g : PS} {M : List Msg} {as sp : List Nat} {av : List Value} : FrameBlind (va_Pc av (PX D dA eA ad A N g M as sp)) := fun _ _ _ _ q => ⟨q.1, q.2.1, q.2.2.1.blind, q.2.2.2⟩
theorem gdI {maxL : Nat} {y : MethodName} {b : ByteArray} {ret : Option FieldType} (h5 : Cond.code y b maxL ret ∈ wz) : GoodIn wz (.code y b maxL ret :: wz) := gd (by
  intro w hw
  rcases List.mem_cons.mp hw with rfl | hw
  · exact h5
  · exact hw)
theorem gdU {own C owner : String} {idx maxL : Nat} {x y : MethodName} {b : ByteArray} {ret : Option FieldType} (h1 : Cond.methodLink own idx x ∈ wz) (h2 : Cond.sameMethod x.cls owner x.name x.desc ∈ wz) (h3 : Cond.selects C x y ∈ wz) (h4 : Cond.instanceMethod y ∈ wz) (h5 : Cond.initialized y.cls ∈ wz) (h6 : Cond.code y b maxL ret ∈ wz) : GoodIn wz (va_wsU own idx C owner x y (.code y b maxL ret :: wz)) := gd (by
  intro w hw
  simp only [va_wsU, List.mem_append, List.mem_cons, List.not_mem_nil, or_false] at hw
  rcases hw with (rfl | rfl | rfl | rfl | rfl) | rfl | hw
  · exact h1
  · exact h2
  · exact h3
  · exact h4
  · exact h5
  · exact h6
  · exact hw)
theorem gdF {own C : String} {idx maxL : Nat} {x y : MethodName} {b : ByteArray} {ret : Option FieldType} (h1 : Cond.methodLink own idx x ∈ wz) (h3 : Cond.selects C x y ∈ wz) (h4 : Cond.instanceMethod y ∈ wz) (h5 : Cond.initialized y.cls ∈ wz) (h6 : Cond.code y b maxL ret ∈ wz) : GoodIn wz (va_wsF own idx C x y (.code y b maxL ret :: wz)) := gd (by
  intro w hw
  simp only [va_wsF, List.mem_append, List.mem_cons, List.not_mem_nil, or_false] at hw
  rcases hw with (rfl | rfl | rfl | rfl) | rfl | hw
  · exact h1
  · exact h3
  · exact h4
  · exact h5
  · exact h6
  · exact hw)
section XC
variable {p : Program} {l : Launch} {e : Env} {R : Room} {s : State} {m : MethodId} {args : Array Value} {below : List Frame} {meth : Method} {c : Code} {H : Heap} {locs : List Loc} {cells slots : Nat} {Q : State → Prop}
variable {cc bytes : ByteArray} {pc nL maxL idx n mc ms : Nat} {ret ret0 : Option FieldType} {ls : Array Slot} {rest As av st : List Value} {D : va_G} {dA : Nat → ClassId} {eA ad : Nat → Nat → Nat} {A : Nat → Prop} {N : Nat} {g g' : PS} {M M' : List Msg} {as sp as' sp' : List Nat} {H0 : Heap} {y : MethodName} {own C : String} {rm : Room} {r v : Int32} {b : Nat} {Qc : Array Value → State → Outcome → State → Prop}
theorem x_entry {free : Addr → Prop} (hy : plainName y.cls = true) (hlen : (lg_sl av).length ≤ maxL)
    (body : ∀ p e s m below meth c, Cx p s m av.toArray meth c bytes y.cls maxL ret → (∀ q, s.heap.size ≤ q → A q) → CX D dA eA A s → RX D dA eA ad A N g M as sp s.heap → ∀ ls, lv_has ls maxL (lv_args 0 av) → W p l e rm s m av.toArray below meth c s.heap [] 0 0 (MQ below Qc av.toArray s mc ms free) (F0 m 0 ls [])) :
    Met l y (.code y bytes maxL ret :: wz) rm (va_Pc av (PX D dA eA ad A N g M as sp)) Qc mc ms free := by
  refine Met.ofW (cc := bytes) (maxL := maxL) (ret := ret) hy rfl ?_
  intro p e s m args below meth c s₁ B hml hv
  obtain ⟨rfl, hA, hC, hR⟩ := hv
  rw [lg_entry_eq]
  exact body p e s m below meth c (Cx.of B hml) hA hC hR _ (lv_entry av hlen)
theorem x_iret {ty : FieldType} {nw : List Nat} (E : Cx p s m args meth c cc own nL (some ty)) (hR : RX D dA eA ad A N g' M' (as ++ nw) sp' H) (hS : va_S A s.heap H locs) (hn : narrow ty (.int v) = .int v) (hv : v = r) (hdg : decode cc pc = .ok (.ireturn, 1)) : W p l e R s m args below meth c H locs cells slots (MQ below (XQi D dA eA ad A N r g' M' as) args s cells slots A) (F0 m pc ls [.int v]) := by
  subst hv
  exact W.zret E.1 E.2.1 E.2.2.2.2.2.1 hn (fun t ht _ => ⟨⟨v, (nw, sp'), rfl, rfl, show RX D dA eA ad A N g' M' (as ++ nw) sp' t.heap by rw [ht]; exact hR⟩, hS.F ht⟩) hS.2.2 hdg E.2.2.2.2.2.2
theorem x_vret {nw : List Nat} (E : Cx p s m args meth c cc own nL none) (hR : RX D dA eA ad A N g' M' (as ++ nw) sp' H) (hS : va_S A s.heap H locs) (hdg : decode cc pc = .ok (.return_, 1)) : W p l e R s m args below meth c H locs cells slots (MQ below (XQv D dA eA ad A N g' M' as) args s cells slots A) (F0 m pc ls []) :=
  W.vret E.1 E.2.1 E.2.2.2.2.2.1 (fun t ht _ => ⟨⟨(nw, sp'), rfl, trivial, show RX D dA eA ad A N g' M' (as ++ nw) sp' t.heap by rw [ht]; exact hR⟩, hS.F ht⟩) hS.2.2 hdg E.2.2.2.2.2.2
theorem x_eret (E : Cx p s m args meth c cc own nL none) (hR : RX D dA eA ad A N g' M' as' sp' H) (hS : va_S A s.heap H locs) (hdg : decode cc pc = .ok (.return_, 1)) : W p l e R s m args below meth c H locs cells slots (MQ below (XQe D dA eA ad A N g' M' as' sp') args s cells slots A) (F0 m pc ls []) :=
  W.vret E.1 E.2.1 E.2.2.2.2.2.1 (fun t ht _ => ⟨⟨(), rfl, trivial, show RX D dA eA ad A N g' M' as' sp' t.heap by rw [ht]; exact hR⟩, hS.F ht⟩) hS.2.2 hdg E.2.2.2.2.2.2
theorem x_rret {q : Nat} {C0 : String} (E : Cx p s m args meth c cc own nL (some (.object C0))) (hR : RX D dA eA ad A N g' M' (as ++ [q]) sp' H) (hS : va_S A s.heap H locs) (hdg : decode cc pc = .ok (.areturn, 1)) : W p l e R s m args below meth c H locs cells slots (MQ below (XQr D dA eA ad A N g' M' as) args s cells slots A) (F0 m pc ls [.ref q]) :=
  W.aret E.1 E.2.1 E.2.2.2.2.2.1 (Or.inl ⟨_, rfl⟩) (Or.inr ⟨q, rfl⟩) (fun t ht _ => ⟨⟨sp', q, rfl, trivial, show RX D dA eA ad A N g' M' (as ++ [q]) sp' t.heap by rw [ht]; exact hR⟩, hS.F ht⟩) hS.2.2 hdg E.2.2.2.2.2.2
theorem x_qret {q : Option Nat} {w : Value} {C0 : String} (E : Cx p s m args meth c cc own nL (some (.object C0))) (hw : w = va_rf q) (hdg : decode cc pc = .ok (.areturn, 1)) : W p l e R s m args below meth c s.heap [] 0 0 (MQ below (QcRef q) args s 0 0 (fun _ => False)) (F0 m pc ls [w]) := by
  subst hw
  exact W.aret E.1 E.2.1 E.2.2.2.2.2.1 (Or.inl ⟨_, rfl⟩) (va_rf_or q) (fun t ht _ => ⟨q, rfl, rfl, ht⟩) (fun q h => by cases h) hdg E.2.2.2.2.2.2
theorem x_recv (hC : CX D dA eA A s) (hR : RX D dA eA ad A N g M as sp H) {s0 i0 : Nat} (hv : vl N s0 i0) {ci : Nat} {fs : List Value} (hc : ct dA eA ad N g as sp s0 i0 = .inr (ci, fs)) {q : vw_C} (hcl : cls[ci]? = some q) : ∃ cell : Cell, H[ad s0 i0]? = some cell ∧ cell.vm.isStatics = false ∧ s.vm.findClass q.1 = some cell.cls := by
  obtain ⟨L, f, iv, hP, hD, hF, hM⟩ := hR
  obtain ⟨h1, h2, h3⟩ := hF s0 i0 hv
  obtain ⟨q0, hq⟩ := va_pl_get (X := []) (f := f) h1
  rw [h3, hc] at hq
  exact va_recv hC.1 hP hcl hq
theorem x_recvM (hC : CX D dA eA A s) (hR : RX D dA eA ad A N g M as sp H) {j q : Nat} {z : Msg} (hq : as[j]? = some q) (hz : M[j]? = some z) : ∃ cell : Cell, H[q]? = some cell ∧ cell.vm.isStatics = false ∧ s.vm.findClass R_Msg = some cell.cls := by
  obtain ⟨L, f, iv, hP, hD, hF, hM⟩ := hR
  have h1 := (hM.2.2.1 q (List.mem_append_left _ (List.mem_of_getElem? hq))).1
  obtain ⟨q0, hq0⟩ := va_pl_get (X := []) (f := f) h1
  rw [hM.2.2.2.1 j q z hq hz] at hq0
  exact va_recv (q := (R_Msg, F_Msg, 8)) hC.1 hP (ci := 11) rfl hq0
theorem px_at (hA : ∀ q, s.heap.size ≤ q → A q) (hC : CX D dA eA A s) (hR : RX D dA eA ad A N g M as sp H) (hS : va_S A s.heap H locs) {U : State} (hU : U.heap = H) (hW : s.WarmedH U.vm) : PX D dA eA ad A N g M as sp U := ⟨fun q h => hA q (Nat.le_trans hS.1 (by rw [← hU]; exact h)), hC.call hS hU hW, by rw [hU]; exact hR⟩
/-- calls: virtual, of a method that stands in the receiver's class -/
theorem xrunV {free : Addr → Prop} (E : Cx p s m args meth c cc own nL ret0) (hA : ∀ q, s.heap.size ≤ q → A q) (hC : CX D dA eA A s) (hR : RX D dA eA ad A N g M as sp H) (hS : va_S A s.heap H locs) (hM : Met l y (.code y bytes maxL ret :: wz) rm (va_Pc (.ref b :: As) (PX D dA eA ad A N g M as sp)) Qc mc ms free) (hrecv : ∃ cell : Cell, H[b]? = some cell ∧ cell.vm.isStatics = false ∧ s.vm.findClass C = some cell.cls) (hw : CallK own idx C y bytes maxL ret n) (hrc : rm.cells = mc ∧ rm.slots = ms) (hRm : rm.frames + 1 ≤ R.frames ∧ 8 + (maxL + 11) + rm.locals ≤ R.locals) (hn : As.length = n) (hsz : lv_has ls nL []) (hst : st = As.reverse ++ .ref b :: rest) (hrest : (rest.map fun v => v.category).sum ≤ 8) (hf : cells + mc ≤ R.cells ∧ slots + ms ≤ R.slots) (hdg : decode cc pc = .ok (.invokevirtual idx, 3)) :
    va_Run p l e R s m args below meth c H locs cells slots mc ms (F0 m pc ls st) rest (Qc (Value.ref b :: As).toArray) free :=
  va_runV (As := As) (rest := rest) ⟨E.1, E.2.1, E.2.2.1, E.2.2.2.1, E.2.2.2.2.1⟩ hM (cwV n E.2.2.2.2.1 hw.1 rfl hrc.1 hrc.2 hw.2 hRm) ⟨px_blind, hrecv, fun U hU hW => ⟨rfl, px_at hA hC hR hS hU hW⟩⟩ rfl hn hsz.1 hst (lv_room hrest) hdg hf
/-- of a method that overrides an abstract one -/
theorem xrunU {free : Addr → Prop} {x : MethodName} {owner : String} (E : Cx p s m args meth c cc own nL ret0) (hA : ∀ q, s.heap.size ≤ q → A q) (hC : CX D dA eA A s) (hR : RX D dA eA ad A N g M as sp H) (hS : va_S A s.heap H locs) (hM : Met l y (.code y bytes maxL ret :: wz) rm (va_Pc (.ref b :: As) (PX D dA eA ad A N g M as sp)) Qc mc ms free) (hrecv : ∃ cell : Cell, H[b]? = some cell ∧ cell.vm.isStatics = false ∧ s.vm.findClass C = some cell.cls) (hw : GoodIn wz (va_wsU own idx C owner x y (.code y bytes maxL ret :: wz))) (hz : va_Nw (.declares ⟨owner, x.name, x.desc⟩) s) (hd : owner ≠ "java/lang/invoke/MethodHandle" ∧ owner ≠ "java/lang/invoke/VarHandle" ∧ (parseMethodDescriptor x.desc).map (fun d => d.parameters.length) = some n) (hrc : rm.cells = mc ∧ rm.slots = ms) (hRm : rm.frames + 1 ≤ R.frames ∧ 8 + (maxL + 11) + rm.locals ≤ R.locals) (hn : As.length = n) (hsz : lv_has ls nL []) (hst : st = As.reverse ++ .ref b :: rest) (hrest : (rest.map fun v => v.category).sum ≤ 8) (hf : cells + mc ≤ R.cells ∧ slots + ms ≤ R.slots) (hdg : decode cc pc = .ok (.invokevirtual idx, 3)) :
    va_Run p l e R s m args below meth c H locs cells slots mc ms (F0 m pc ls st) rest (Qc (Value.ref b :: As).toArray) free :=
  va_runU (As := As) (rest := rest) ⟨E.1, E.2.1, E.2.2.1, E.2.2.2.1, E.2.2.2.2.1⟩ hM (va_cwA n E.2.2.2.2.1 hw rfl hrc.1 hrc.2 hz hd hRm) ⟨px_blind, hrecv, fun U hU hW => ⟨rfl, px_at hA hC hR hS hU hW⟩⟩ rfl hn hsz.1 hst (lv_room hrest) hdg hf
theorem xc_i (hr : va_Run p l e R s m args below meth c H locs cells slots mc ms (F0 m pc ls st) rest (XQi D dA eA ad A N r g' M' as av.toArray) A) (hS : va_S A H0 H locs)
    (kk : ∀ (H1 : Heap) (locs1 : List Loc) (nw sp1 : List Nat), RX D dA eA ad A N g' M' (as ++ nw) sp1 H1 → va_S A H0 H1 locs1 → W p l e R s m args below meth c H1 locs1 (cells + mc) (slots + ms) Q (F0 m (pc + 3) ls (.int r :: rest))) : W p l e R s m args below meth c H locs cells slots Q (F0 m pc ls st) :=
  va_calli hr hS (fun _ _ h => h) (fun _ h => h) (fun r1 u t H1 locs1 ht _ hw hB _ _ hS1 => by
    subst hw
    exact kk H1 locs1 u.1 u.2 (by rw [← ht]; exact hB) hS1)
theorem xc_v (hr : va_Run p l e R s m args below meth c H locs cells slots mc ms (F0 m pc ls st) rest (XQv D dA eA ad A N g' M' as av.toArray) A) (hS : va_S A H0 H locs)
    (kk : ∀ (H1 : Heap) (locs1 : List Loc) (nw sp1 : List Nat), RX D dA eA ad A N g' M' (as ++ nw) sp1 H1 → va_S A H0 H1 locs1 → W p l e R s m args below meth c H1 locs1 (cells + mc) (slots + ms) Q (F0 m (pc + 3) ls rest)) : W p l e R s m args below meth c H locs cells slots Q (F0 m pc ls st) :=
  va_callv hr hS (fun _ _ h => h) (fun _ h => h) (fun u t H1 locs1 ht _ _ hB _ _ hS1 => kk H1 locs1 u.1 u.2 (by rw [← ht]; exact hB) hS1)
theorem xc_e (hr : va_Run p l e R s m args below meth c H locs cells slots mc ms (F0 m pc ls st) rest (XQe D dA eA ad A N g' M' as' sp' av.toArray) A) (hS : va_S A H0 H locs)
    (kk : ∀ (H1 : Heap) (locs1 : List Loc), RX D dA eA ad A N g' M' as' sp' H1 → va_S A H0 H1 locs1 → W p l e R s m args below meth c H1 locs1 (cells + mc) (slots + ms) Q (F0 m (pc + 3) ls rest)) : W p l e R s m args below meth c H locs cells slots Q (F0 m pc ls st) :=
  va_callv hr hS (fun _ _ h => h) (fun _ h => h) (fun u t H1 locs1 ht _ _ hB _ _ hS1 => kk H1 locs1 (by rw [← ht]; exact hB) hS1)
theorem xc_r (hr : va_Run p l e R s m args below meth c H locs cells slots mc ms (F0 m pc ls st) rest (XQr D dA eA ad A N g' M' as av.toArray) A) (hS : va_S A H0 H locs)
    (kk : ∀ (H1 : Heap) (locs1 : List Loc) (q : Nat) (sp1 : List Nat), RX D dA eA ad A N g' M' (as ++ [q]) sp1 H1 → va_S A H0 H1 locs1 → W p l e R s m args below meth c H1 locs1 (cells + mc) (slots + ms) Q (F0 m (pc + 3) ls (.ref q :: rest))) : W p l e R s m args below meth c H locs cells slots Q (F0 m pc ls st) :=
  va_callr hr hS (fun _ _ h => h) (fun _ h => h) (fun u a t H1 locs1 ht _ _ hB _ _ hS1 => kk H1 locs1 a u (by rw [← ht]; exact hB) hS1)
theorem xc_R (hr : va_Run p l e R s m args below meth c H locs cells slots 0 0 (F0 m pc ls st) rest (QcRead r av.toArray) (fun _ => False)) (kk : W p l e R s m args below meth c H locs cells slots Q (F0 m (pc + 3) ls (.int r :: rest))) : W p l e R s m args below meth c H locs cells slots Q (F0 m pc ls st) :=
  W.callR (rest := rest) (a := av.toArray) hr.run kk
theorem xc_q {q : Option Nat} (hr : va_Run p l e R s m args below meth c H locs cells slots 0 0 (F0 m pc ls st) rest (QcRef q av.toArray) (fun _ => False)) (kk : W p l e R s m args below meth c H locs cells slots Q (F0 m (pc + 3) ls (va_rf q :: rest))) : W p l e R s m args below meth c H locs cells slots Q (F0 m pc ls st) :=
  va_csq (a := av.toArray) hr.run (fun r h => by rw [h]; exact kk)
end XC
/-! raw rows that name the new function only by what it holds -/
section RAW2
variable {p : Program} {l : Launch} {e : Env} {R : Room} {s : State} {m : MethodId} {args : Array Value} {below : List Frame} {meth : Method} {c : Code} {H : Heap} {locs : List Loc} {cells slots : Nat} {Q : State → Prop}
variable {cc : ByteArray} {pc nL : Nat} {own : String} {ret : Option FieldType} {ls : Array Slot} {rest : List Value} {D : va_G} {dA : Nat → ClassId} {A : Nat → Prop} {L : List Nat} {f : Nat → va_E} {H0 : Heap} {a : Nat}
theorem q_put (E : Cx p s m args meth c cc own nL ret) (hK : va_K D cls (tys dA) s) (hP : va_P D cls (va_pl L f) H) (hD : va_D A (va_pl L f)) (hS : va_S A H0 H locs) (ha : a ∈ L) {ci : Nat} {fs fs' : List Value} (hf : f a = .inr (ci, fs)) {C : String} {T : u_T} {Nn : Nat} (hcl : cls[ci]? = some (C, T, Nn)) (hin : ∀ w ∈ u_ws C T Nn, w ∈ wz) (ty0 : Nat → FieldType) (hty : ∀ k, k < Nn → parseFieldDescriptor (T k).2.2.1 = some (ty0 k)) (hnm : ∀ a, a < Nn → ∀ b, b < Nn → a ≠ b → (T a).2.1 ≠ (T b).2.1) (k : Nat) (hk : k < Nn) {index : Nat} (hlink : Cond.fieldLink own index (T k).1 (T k).2.1 (T k).2.2.1 ∈ wz) (hfin : (T k).2.2.2 = false) {v : Value} (hn : narrow (ty0 k) v = v) (hfit : fits (ty0 k) v = true) (hl : k < fs.length) (hfs : fs.set k v = fs') (hdg : decode cc pc = .ok (.putfield index, 3))
    (kk : ∀ (H1 : Heap) (locs1 : List Loc) (f1 : Nat → va_E), f1 a = .inr (ci, fs') → (∀ b, b ≠ a → f1 b = f b) → va_P D cls (va_pl L f1) H1 → va_D A (va_pl L f1) → va_S A H0 H1 locs1 → W p l e R s m args below meth c H1 locs1 cells slots Q (F0 m (pc + 3) ls rest)) : W p l e R s m args below meth c H locs cells slots Q (F0 m pc ls (v :: .ref a :: rest)) :=
  r_put E hK hP hD hS ha hf hcl hin ty0 hty hnm k hk hlink (fun _ h => h) hfin hn hfit hl hdg (fun H1 locs1 hP1 hD1 hS1 => kk H1 locs1 _ (by rw [va_up_self, hfs]) (fun b hb => va_up_ne _ _ hb) hP1 hD1 hS1)
theorem q_putF (E : Cx p s m args meth c cc own nL ret) (hK : va_K D cls (tys dA) s) (hP : va_P D cls (va_pl L f) H) (hD : va_D A (va_pl L f)) (hS : va_S A H0 H locs) (ha : a ∈ L) {ci : Nat} {fs fs' : List Value} (hf : f a = .inr (ci, fs)) {C : String} {T : u_T} {Nn : Nat} (hcl : cls[ci]? = some (C, T, Nn)) (hin : ∀ w ∈ u_ws C T Nn, w ∈ wz) (ty0 : Nat → FieldType) (hty : ∀ k, k < Nn → parseFieldDescriptor (T k).2.2.1 = some (ty0 k)) (hnm : ∀ a, a < Nn → ∀ b, b < Nn → a ≠ b → (T a).2.1 ≠ (T b).2.1) (k : Nat) (hk : k < Nn) {index : Nat} (hlink : Cond.fieldLink own index (T k).1 (T k).2.1 (T k).2.2.1 ∈ wz) (hfin : (T k).2.2.2 = true) (hin2 : meth.name = "<init>") (hdecl : (T k).1 = own) {v : Value} (hn : narrow (ty0 k) v = v) (hfit : fits (ty0 k) v = true) (hl : k < fs.length) (hfs : fs.set k v = fs') (hdg : decode cc pc = .ok (.putfield index, 3))
    (kk : ∀ (H1 : Heap) (locs1 : List Loc) (f1 : Nat → va_E), f1 a = .inr (ci, fs') → (∀ b, b ≠ a → f1 b = f b) → va_P D cls (va_pl L f1) H1 → va_D A (va_pl L f1) → va_S A H0 H1 locs1 → W p l e R s m args below meth c H1 locs1 cells slots Q (F0 m (pc + 3) ls rest)) : W p l e R s m args below meth c H locs cells slots Q (F0 m pc ls (v :: .ref a :: rest)) :=
  r_putF E hK hP hD hS ha hf hcl hin ty0 hty hnm k hk hlink (fun _ h => h) hfin hin2 hdecl hn hfit hl hdg (fun H1 locs1 hP1 hD1 hS1 => kk H1 locs1 _ (by rw [va_up_self, hfs]) (fun b hb => va_up_ne _ _ hb) hP1 hD1 hS1)
theorem q_new (E : Cx p s m args meth c cc own nL ret) (hK : va_K D cls (tys dA) s) (hP : va_P D cls (va_pl L f) H) (hD : va_D A (va_pl L f)) (hS : va_S A H0 H locs) (hA : ∀ q, H0.size ≤ q → A q) {ci : Nat} {C : String} {T : u_T} {Nn index : Nat} (hcl : cls[ci]? = some (C, T, Nn)) (hin : ∀ w ∈ u_ws C T Nn, w ∈ wz) (ty : Nat → FieldType) (hty : ∀ k, k < Nn → parseFieldDescriptor (T k).2.2.1 = some (ty k)) (hc1 : Cond.classLink own index C ∈ wz) (hc2 : Cond.instantiable C Nn ∈ wz) (hc3 : Cond.initialized C ∈ wz) {fs : List Value} (hfs : ∀ j, j < Nn → defaultValue (ty j) = vp_V fs j) (hcells : cells + 1 ≤ R.cells) (hslots : slots + Nn ≤ R.slots) (hdg : decode cc pc = .ok (.new index, 3))
    (kk : ∀ (q : Nat) (H1 : Heap) (f1 : Nat → va_E), q ∉ L → f1 q = .inr (ci, fs) → (∀ b, b ≠ q → f1 b = f b) → va_P D cls (va_pl (L ++ [q]) f1) H1 → va_D A (va_pl (L ++ [q]) f1) → va_S A H0 H1 locs → W p l e R s m args below meth c H1 locs (cells + 1) (slots + Nn) Q (F0 m (pc + 3) ls (.ref q :: rest))) : W p l e R s m args below meth c H locs cells slots Q (F0 m pc ls rest) :=
  r_new E hK hP hD hS hA hcl hin ty hty hc1 hc2 hc3 hfs hcells hslots hdg (fun q H1 hq hP1 hD1 hS1 => kk q H1 _ hq (va_up_self _ _ _) (fun b hb => va_up_ne _ _ hb) hP1 hD1 hS1)
end RAW2
