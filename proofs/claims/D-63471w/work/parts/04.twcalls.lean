/-- the message arrays hold the messages -/
def MK (K : PS) (M : List Msg) : Prop := M.length ≤ 64 ∧ ∀ (i : Nat) (q : Msg), M[i]? = some q → K 0 i = nI q.1 ∧ K 1 i = nI q.2.1 ∧ K 2 i = nI q.2.2.1 ∧ K 3 i = nI q.2.2.2.1 ∧ K 4 i = q.2.2.2.2.1 ∧ K 5 i = nI q.2.2.2.2.2.1 ∧ K 6 i = rq q.2.2.2.2.2.2
/-- the twin stands, with the state g and the messages M -/
def RT (D : va_G) (dA : Nat → ClassId) (ad : Nat → Nat) (A : Nat → Prop) (g : PS) (M : List Msg) (H : Heap) : Prop := ∃ K : PS, RK D dA ad A g K M.length H ∧ MK K M
def PT (D : va_G) (dA : Nat → ClassId) (ad : Nat → Nat) (A : Nat → Prop) (g : PS) (M : List Msg) (U : State) : Prop := va_K D cls (tys dA) U ∧ RT D dA ad A g M U.heap
/-- rooms by level: k frames, 34 words of locals each -/
abbrev rml (k mc ms : Nat) : Room := { frames := k, cells := mc, slots := ms, locals := 34 * k }
abbrev TQi (D : va_G) (dA : Nat → ClassId) (ad : Nat → Nat) (A : Nat → Prop) (r : Int32) (g : PS) (M : List Msg) : Array Value → State → Outcome → State → Prop := va_Qi (fun (x : Int32) (_ : Unit) => x = r) (fun _ t => RT D dA ad A g M t.heap) A
abbrev TQv (D : va_G) (dA : Nat → ClassId) (ad : Nat → Nat) (A : Nat → Prop) (g : PS) (M : List Msg) : Array Value → State → Outcome → State → Prop := va_Qv (fun (_ : Unit) => True) (fun _ t => RT D dA ad A g M t.heap) A
theorem pt_blind {D : va_G} {dA : Nat → ClassId} {ad : Nat → Nat} {A : Nat → Prop} {g : PS} {M : List Msg} {av : List Value} : FrameBlind (va_Pc av (PT D dA ad A g M)) := fun a U g mk q => ⟨q.1, va_K.moved (u := U) (U := U.calling g mk a) (Vm.Alike.refl U.vm) q.2.1, q.2.2⟩
theorem gdV {own C : String} {idx maxL : Nat} {y : MethodName} {b : ByteArray} {ret : Option FieldType} (h1 : Cond.methodLink own idx y ∈ wz) (h2 : Cond.instanceMethod y ∈ wz) (h3 : Cond.selects C y y ∈ wz) (h4 : Cond.initialized C ∈ wz) (h5 : Cond.code y b maxL ret ∈ wz) : GoodIn wz (wsV own idx C y (.code y b maxL ret :: wz)) := gd (by
  intro w hw
  simp only [wsV, List.mem_append, List.mem_cons, List.not_mem_nil, or_false] at hw
  rcases hw with (rfl | rfl | rfl | rfl) | rfl | hw
  · exact h1
  · exact h2
  · exact h3
  · exact h4
  · exact h5
  · exact hw)
theorem gdS {own : String} {idx maxL : Nat} {y : MethodName} {b : ByteArray} {ret : Option FieldType} (h1 : Cond.methodLink own idx y ∈ wz) (h2 : Cond.static y ∈ wz) (h4 : Cond.initialized y.cls ∈ wz) (h5 : Cond.code y b maxL ret ∈ wz) : GoodIn wz (va_wsS own idx y (.code y b maxL ret :: wz)) := gd (by
  intro w hw
  simp only [va_wsS, List.mem_append, List.mem_cons, List.not_mem_nil, or_false] at hw
  rcases hw with (rfl | rfl | rfl) | rfl | hw
  · exact h1
  · exact h2
  · exact h4
  · exact h5
  · exact hw)
/-- what a call names, once for each callee: link, instance, selection, code, number of parameters -/
def CallK (own : String) (idx : Nat) (C : String) (y : MethodName) (b : ByteArray) (maxL : Nat) (ret : Option FieldType) (n : Nat) : Prop := GoodIn wz (wsV own idx C y (.code y b maxL ret :: wz)) ∧ (y.cls = C ∧ y.cls ≠ "java/lang/invoke/MethodHandle" ∧ y.cls ≠ "java/lang/invoke/VarHandle" ∧ (parseMethodDescriptor y.desc).map (fun d => d.parameters.length) = some n)
def CallKS (own : String) (idx : Nat) (y : MethodName) (b : ByteArray) (maxL : Nat) (ret : Option FieldType) (n : Nat) : Prop := GoodIn wz (va_wsS own idx y (.code y b maxL ret :: wz)) ∧ (y.cls ≠ "java/lang/invoke/MethodHandle" ∧ y.cls ≠ "java/lang/invoke/VarHandle" ∧ (parseMethodDescriptor y.desc).map (fun d => d.parameters.length) = some n)
section TWC
variable {p : Program} {l : Launch} {e : Env} {R : Room} {s : State} {m : MethodId} {args : Array Value} {below : List Frame} {meth : Method} {c : Code} {H : Heap} {locs : List Loc} {cells slots : Nat} {Q : State → Prop}
variable {cc bytes : ByteArray} {pc nL maxL idx n mc ms : Nat} {ret ret0 : Option FieldType} {ls : Array Slot} {rest As av st : List Value} {D : va_G} {dA : Nat → ClassId} {ad : Nat → Nat} {A : Nat → Prop} {g g' : PS} {M M' : List Msg} {H0 : Heap} {y : MethodName} {own : String} {rm : Room} {r v : Int32}
theorem tw_entry {Qc : Array Value → State → Outcome → State → Prop} {free : Addr → Prop} (hy : plainName y.cls = true) (hlen : (lg_sl av).length ≤ maxL)
    (body : ∀ p e s m below meth c, Cx p s m av.toArray meth c bytes y.cls maxL ret → va_K D cls (tys dA) s → RT D dA ad A g M s.heap → ∀ ls, lv_has ls maxL (lv_args 0 av) → W p l e rm s m av.toArray below meth c s.heap [] 0 0 (MQ below Qc av.toArray s mc ms free) (F0 m 0 ls [])) :
    Met l y (.code y bytes maxL ret :: wz) rm (va_Pc av (PT D dA ad A g M)) Qc mc ms free := by
  refine Met.ofW (cc := bytes) (maxL := maxL) (ret := ret) hy rfl ?_
  intro p e s m args below meth c s₁ B hml hv
  obtain ⟨rfl, hK, hT⟩ := hv
  rw [lg_entry_eq]
  exact body p e s m below meth c (Cx.of B hml) hK hT _ (lv_entry av hlen)
theorem st_entry {Qc : Array Value → State → Outcome → State → Prop} {free : Addr → Prop} (hy : plainName y.cls = true) (hlen : (lg_sl av).length ≤ maxL)
    (body : ∀ p e s m below meth c, Cx p s m av.toArray meth c bytes y.cls maxL ret → ∀ ls, lv_has ls maxL (lv_args 0 av) → W p l e rm s m av.toArray below meth c s.heap [] 0 0 (MQ below Qc av.toArray s mc ms free) (F0 m 0 ls [])) :
    Met l y (.code y bytes maxL ret :: wz) rm (fun v _ => v = av.toArray) Qc mc ms free := by
  refine Met.ofW (cc := bytes) (maxL := maxL) (ret := ret) hy rfl ?_
  intro p e s m args below meth c s₁ B hml hv
  subst hv
  rw [lg_entry_eq]
  exact body p e s m below meth c (Cx.of B hml) _ (lv_entry av hlen)
/-- a reader's end -/
theorem t_read {ty : FieldType} (E : Cx p s m args meth c cc own nL (some ty)) (hn : narrow ty (.int v) = .int v) (hv : v = r) (hdg : decode cc pc = .ok (.ireturn, 1)) : W p l e R s m args below meth c s.heap [] 0 0 (MQ below (QcRead r) args s 0 0 (fun _ => False)) (F0 m pc ls [.int v]) := by
  subst hv
  exact W.zret E.1 E.2.1 E.2.2.2.2.2.1 hn (fun t ht _ => ⟨rfl, ht⟩) (fun q h => by cases h) hdg E.2.2.2.2.2.2
theorem t_iret {ty : FieldType} (E : Cx p s m args meth c cc own nL (some ty)) (hT : RT D dA ad A g' M' H) (hS : va_S A s.heap H locs) (hn : narrow ty (.int v) = .int v) (hv : v = r) (hdg : decode cc pc = .ok (.ireturn, 1)) : W p l e R s m args below meth c H locs cells slots (MQ below (TQi D dA ad A r g' M') args s cells slots A) (F0 m pc ls [.int v]) := by
  subst hv
  exact W.zret E.1 E.2.1 E.2.2.2.2.2.1 hn (fun t ht _ => ⟨⟨v, (), rfl, rfl, show RT D dA ad A g' M' t.heap by rw [ht]; exact hT⟩, hS.F ht⟩) hS.2.2 hdg E.2.2.2.2.2.2
theorem t_vret (E : Cx p s m args meth c cc own nL none) (hT : RT D dA ad A g' M' H) (hS : va_S A s.heap H locs) (hdg : decode cc pc = .ok (.return_, 1)) : W p l e R s m args below meth c H locs cells slots (MQ below (TQv D dA ad A g' M') args s cells slots A) (F0 m pc ls []) :=
  W.vret E.1 E.2.1 E.2.2.2.2.2.1 (fun t ht _ => ⟨⟨(), rfl, trivial, show RT D dA ad A g' M' t.heap by rw [ht]; exact hT⟩, hS.F ht⟩) hS.2.2 hdg E.2.2.2.2.2.2
theorem tw_recv (hK : va_K D cls (tys dA) s) (hT : RT D dA ad A g M H) : ∃ cell : Cell, H[ad 0]? = some cell ∧ cell.vm.isStatics = false ∧ s.vm.findClass R_Tw = some cell.cls := by
  obtain ⟨K, h, -⟩ := hT
  exact va_recv (q := (R_Tw, F_Tw, 27)) hK h.1 (ci := 12) (q0 := 0) rfl rfl
theorem tw_pre (hK : va_K D cls (tys dA) s) (hT : RT D dA ad A g M H) : PreV s H R_Tw (ad 0) (va_Pc (.ref (ad 0) :: As) (PT D dA ad A g M)) As :=
  ⟨pt_blind, tw_recv hK hT, fun U hU hW => ⟨rfl, va_K.moved hW.alike hK, by rw [hU]; exact hT⟩⟩
/-- calls on the twin itself: one that only reads; one that answers an int; one that answers nothing -/
theorem t_callR (E : Cx p s m args meth c cc own nL ret0) (hK : va_K D cls (tys dA) s) (hT : RT D dA ad A g M H) (hM : Met l y (.code y bytes maxL ret :: wz) rm (va_Pc (.ref (ad 0) :: As) (PT D dA ad A g M)) (QcRead r) 0 0 (fun _ => False)) (hw : CallK own idx R_Tw y bytes maxL ret n) (hrc : rm.cells = 0 ∧ rm.slots = 0) (hR : rm.frames + 1 ≤ R.frames ∧ 8 + (maxL + 11) + rm.locals ≤ R.locals) (hn : As.length = n) (hsz : lv_has ls nL []) (hst : st = As.reverse ++ .ref (ad 0) :: rest) (hrest : (rest.map fun v => v.category).sum ≤ 8) (hf : cells ≤ R.cells ∧ slots ≤ R.slots) (hdg : decode cc pc = .ok (.invokevirtual idx, 3))
    (kk : W p l e R s m args below meth c H locs cells slots Q (F0 m (pc + 3) ls (.int r :: rest))) : W p l e R s m args below meth c H locs cells slots Q (F0 m pc ls st) :=
  W.callR (rest := rest) (a := (Value.ref (ad 0) :: As).toArray) (va_Run.run (va_runV (As := As) (rest := rest) ⟨E.1, E.2.1, E.2.2.1, E.2.2.2.1, E.2.2.2.2.1⟩ hM (cwV n E.2.2.2.2.1 hw.1 rfl hrc.1 hrc.2 hw.2 hR) (tw_pre hK hT) rfl hn hsz.1 hst (lv_room hrest) hdg hf)) kk
theorem t_calli (E : Cx p s m args meth c cc own nL ret0) (hK : va_K D cls (tys dA) s) (hT : RT D dA ad A g M H) (hS : va_S A H0 H locs) (hM : Met l y (.code y bytes maxL ret :: wz) rm (va_Pc (.ref (ad 0) :: As) (PT D dA ad A g M)) (TQi D dA ad A r g' M') 0 0 A) (hw : CallK own idx R_Tw y bytes maxL ret n) (hrc : rm.cells = 0 ∧ rm.slots = 0) (hR : rm.frames + 1 ≤ R.frames ∧ 8 + (maxL + 11) + rm.locals ≤ R.locals) (hn : As.length = n) (hsz : lv_has ls nL []) (hst : st = As.reverse ++ .ref (ad 0) :: rest) (hrest : (rest.map fun v => v.category).sum ≤ 8) (hf : cells ≤ R.cells ∧ slots ≤ R.slots) (hdg : decode cc pc = .ok (.invokevirtual idx, 3))
    (kk : ∀ (H1 : Heap) (locs1 : List Loc), RT D dA ad A g' M' H1 → va_S A H0 H1 locs1 → W p l e R s m args below meth c H1 locs1 cells slots Q (F0 m (pc + 3) ls (.int r :: rest))) : W p l e R s m args below meth c H locs cells slots Q (F0 m pc ls st) :=
  va_calli (rest := rest) (a := (Value.ref (ad 0) :: As).toArray) (va_runV (As := As) (rest := rest) ⟨E.1, E.2.1, E.2.2.1, E.2.2.2.1, E.2.2.2.2.1⟩ hM (cwV n E.2.2.2.2.1 hw.1 rfl hrc.1 hrc.2 hw.2 hR) (tw_pre hK hT) rfl hn hsz.1 hst (lv_room hrest) hdg hf) hS (fun _ _ h => h) (fun _ h => h) (fun r1 u t H1 locs1 ht _ hw hB _ _ hS1 => by
    subst hw
    exact kk H1 locs1 (by rw [← ht]; exact hB) hS1)
theorem t_callv (E : Cx p s m args meth c cc own nL ret0) (hK : va_K D cls (tys dA) s) (hT : RT D dA ad A g M H) (hS : va_S A H0 H locs) (hM : Met l y (.code y bytes maxL ret :: wz) rm (va_Pc (.ref (ad 0) :: As) (PT D dA ad A g M)) (TQv D dA ad A g' M') 0 0 A) (hw : CallK own idx R_Tw y bytes maxL ret n) (hrc : rm.cells = 0 ∧ rm.slots = 0) (hR : rm.frames + 1 ≤ R.frames ∧ 8 + (maxL + 11) + rm.locals ≤ R.locals) (hn : As.length = n) (hsz : lv_has ls nL []) (hst : st = As.reverse ++ .ref (ad 0) :: rest) (hrest : (rest.map fun v => v.category).sum ≤ 8) (hf : cells ≤ R.cells ∧ slots ≤ R.slots) (hdg : decode cc pc = .ok (.invokevirtual idx, 3))
    (kk : ∀ (H1 : Heap) (locs1 : List Loc), RT D dA ad A g' M' H1 → va_S A H0 H1 locs1 → W p l e R s m args below meth c H1 locs1 cells slots Q (F0 m (pc + 3) ls rest)) : W p l e R s m args below meth c H locs cells slots Q (F0 m pc ls st) :=
  va_callv (rest := rest) (a := (Value.ref (ad 0) :: As).toArray) (va_runV (As := As) (rest := rest) ⟨E.1, E.2.1, E.2.2.1, E.2.2.2.1, E.2.2.2.2.1⟩ hM (cwV n E.2.2.2.2.1 hw.1 rfl hrc.1 hrc.2 hw.2 hR) (tw_pre hK hT) rfl hn hsz.1 hst (lv_room hrest) hdg hf) hS (fun _ _ h => h) (fun _ h => h) (fun u t H1 locs1 ht _ hw hB _ _ hS1 => kk H1 locs1 (by rw [← ht]; exact hB) hS1)
/-- a static method that only computes -/
theorem s_callR (E : Cx p s m args meth c cc own nL ret0) (hM : Met l y (.code y bytes maxL ret :: wz) rm (fun v _ => v = As.toArray) (QcRead r) 0 0 (fun _ => False)) (hw : CallKS own idx y bytes maxL ret n) (hrc : rm.cells = 0 ∧ rm.slots = 0) (hR : rm.frames + 1 ≤ R.frames ∧ 8 + (maxL + 11) + rm.locals ≤ R.locals) (hn : As.length = n) (hsz : lv_has ls nL []) (hst : st = As.reverse ++ rest) (hrest : (rest.map fun v => v.category).sum ≤ 8) (hf : cells ≤ R.cells ∧ slots ≤ R.slots) (hdg : decode cc pc = .ok (.invokestatic idx, 3))
    (kk : W p l e R s m args below meth c H locs cells slots Q (F0 m (pc + 3) ls (.int r :: rest))) : W p l e R s m args below meth c H locs cells slots Q (F0 m pc ls st) :=
  W.callR (rest := rest) (a := As.toArray) (va_Run.run (va_runS (As := As) (rest := rest) ⟨E.1, E.2.1, E.2.2.1, E.2.2.2.1, E.2.2.2.2.1⟩ hM (va_cwS n E.2.2.2.2.1 hw.1 rfl hrc.1 hrc.2 hw.2 hR) preEq rfl hn hsz.1 hst (lv_room hrest) hdg hf)) kk
end TWC
