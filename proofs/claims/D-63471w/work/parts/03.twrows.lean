/-- the shared abstract state: sections by the twin's field slots -/
abbrev PS : Type := Nat → Nat → Int32
/-- a message: kind, from, to, block, word, number, asker + 1 (0: none) -/
abbrev Msg : Type := Nat × Nat × Nat × Nat × Int32 × Nat × Nat
def up2 (g : PS) (k j : Nat) (v : Int32) : PS := fun k' => if k' = k then upd (g k) j v else g k'
theorem up2_s (g : PS) (k j : Nat) (v : Int32) : up2 g k j v k j = v := by simp [up2, upd]
theorem up2_j (g : PS) {k j j' : Nat} (v : Int32) (h : j' ≠ j) : up2 g k j v k j' = g k j' := by simp [up2, upd, h]
theorem up2_k (g : PS) {k k' j : Nat} (v : Int32) (h : k' ≠ k) : up2 g k j v k' = g k' := by simp [up2, h]
theorem up2_kk (g : PS) (k j : Nat) (v : Int32) : up2 g k j v k = upd (g k) j v := by simp [up2]
def rq (q : Nat) : Int32 := nI q - 1
theorem rq_0 : rq 0 = -1 := by decide +kernel
theorem rq_s (c : Nat) : rq (c + 1) = nI c := nI_pred c
abbrev tys (dA : Nat → ClassId) : List (ClassId × FieldType) := [(dA 0, .int), (dA 1, .boolean), (dA 2, .byte), (dA 3, .object "HomeDirectory$Op"), (dA 4, .object "HomeDirectory$Core"), (dA 5, .object "HomeDirectory$Line"), (dA 6, .object "HomeDirectory$Home")]
/-- what a body knows of its machine, whatever the world -/
def Cx (p : Program) (s : State) (m : MethodId) (args : Array Value) (meth : Method) (c : Code) (cc : ByteArray) (own : String) (nL : Nat) (ret : Option FieldType) : Prop :=
  p.tables.exec = Jvm.exec ∧ c.code = cc ∧ c.maxLocals = nL ∧ s.vm.findClass own = some m.cls ∧ (∀ w ∈ wz, w.before args s = true) ∧ meth.sig.returnType = ret ∧ meth.locks = false
theorem Cx.of {p : Program} {l : Launch} {y : MethodName} {rm : Room} {cc : ByteArray} {nL : Nat} {ret : Option FieldType} {e : Env} {s : State} {m : MethodId} {args : Array Value} {below : List Frame} {meth : Method} {c : Code} {s₁ : State}
    (B : BodyLoose p l y (headSpec (.code y cc nL ret :: wz) rm) cc nL ret e s m args below meth c s₁) (hml : c.maxLocals = nL) : Cx p s m args meth c cc y.cls nL ret :=
  ⟨B.exec, B.bytes, hml, findClass_of_methodNamed B.named, fun w h => atoms_spec (ws := .code y cc nL ret :: wz) B.pre w (List.mem_cons_of_mem _ h), B.returns, B.notSynchronized⟩
/-- the twin: its object and its arrays; K: the message arrays, n of them in use -/
def tw (dA : Nat → ClassId) (ad : Nat → Nat) (g K : PS) (n : Nat) : va_W := [
  (ad 0, .inr (12, [.int (g 0 0), .int (g 1 0), .ref (ad 2), .ref (ad 3), .ref (ad 4), .ref (ad 5), .ref (ad 6), .ref (ad 7), .ref (ad 8), .ref (ad 9), .ref (ad 10), .ref (ad 11), .int (g 12 0), .ref (ad 13), .ref (ad 14), .ref (ad 15), .ref (ad 16), .int (nI n), .int (g 18 0), .int (g 19 0), .ref (ad 20), .ref (ad 21), .ref (ad 22), .ref (ad 23), .ref (ad 24), .ref (ad 25), .ref (ad 26)])),
  (ad 2, .inl (dA 0, 4, .inl (g 2))), (ad 3, .inl (dA 0, 64, .inl (g 3))), (ad 4, .inl (dA 0, 64, .inl (g 4))), (ad 5, .inl (dA 0, 4, .inl (g 5))), (ad 6, .inl (dA 0, 4, .inl (g 6))), (ad 7, .inl (dA 0, 4, .inl (g 7))), (ad 8, .inl (dA 0, 16, .inl (g 8))), (ad 9, .inl (dA 0, 16, .inl (g 9))), (ad 10, .inl (dA 0, 16, .inl (g 10))), (ad 11, .inl (dA 0, 16, .inl (g 11))), (ad 13, .inl (dA 0, 4, .inl (g 13))), (ad 14, .inl (dA 0, 4, .inl (g 14))), (ad 15, .inl (dA 0, 4, .inl (g 15))), (ad 16, .inl (dA 1, 16, .inl (g 16))), (ad 20, .inl (dA 0, 64, .inl (K 0))), (ad 21, .inl (dA 0, 64, .inl (K 1))), (ad 22, .inl (dA 0, 64, .inl (K 2))), (ad 23, .inl (dA 0, 64, .inl (K 3))), (ad 24, .inl (dA 0, 64, .inl (K 4))), (ad 25, .inl (dA 0, 64, .inl (K 5))), (ad 26, .inl (dA 0, 64, .inl (K 6)))]
def RK (D : va_G) (dA : Nat → ClassId) (ad : Nat → Nat) (A : Nat → Prop) (g K : PS) (n : Nat) (H : Heap) : Prop := va_P D cls (tw dA ad g K n) H ∧ va_D A (tw dA ad g K n)
section TWR
variable {p : Program} {l : Launch} {e : Env} {R : Room} {s : State} {m : MethodId} {args : Array Value} {below : List Frame} {meth : Method} {c : Code} {H : Heap} {locs : List Loc} {cells slots : Nat} {Q : State → Prop}
variable {cc : ByteArray} {pc nL : Nat} {ret : Option FieldType} {ls : Array Slot} {rest : List Value} {D : va_G} {dA : Nat → ClassId} {ad : Nat → Nat} {A : Nat → Prop} {g K : PS} {n : Nat} {H0 : Heap}
theorem wn_add (hexec : p.tables.exec = Jvm.exec) (hb : c.code = cc) {a b : Nat} (hdg : decode cc pc = .ok (.iadd, 1)) (k : W p l e R s m args below meth c H locs cells slots Q (F0 m (pc + 1) ls (.int (nI (a + b)) :: rest))) : W p l e R s m args below meth c H locs cells slots Q (F0 m pc ls (.int (nI b) :: .int (nI a) :: rest)) := lv_iadd hexec hb hdg (by rw [nI_add]; exact k)
theorem wn_mul (hexec : p.tables.exec = Jvm.exec) (hb : c.code = cc) {a b : Nat} (hdg : decode cc pc = .ok (.imul, 1)) (k : W p l e R s m args below meth c H locs cells slots Q (F0 m (pc + 1) ls (.int (nI (a * b)) :: rest))) : W p l e R s m args below meth c H locs cells slots Q (F0 m pc ls (.int (nI b) :: .int (nI a) :: rest)) := lv_imul hexec hb hdg (by rw [pk_mul]; exact k)
theorem wn_eq {x y : Int32} (h : x = y) (k : W p l e R s m args below meth c H locs cells slots Q (F0 m pc ls (.int y :: rest))) : W p l e R s m args below meth c H locs cells slots Q (F0 m pc ls (.int x :: rest)) := by rw [h]; exact k
theorem tg_0 (E : Cx p s m args meth c cc R_Tw nL ret) (hK : va_K D cls (tys dA) s) (hT : RK D dA ad A g K n H) (hdg : decode cc pc = .ok (.getfield 74, 3)) (kk : W p l e R s m args below meth c H locs cells slots Q (F0 m (pc + 3) ls (.int (g 0 0) :: rest))) : W p l e R s m args below meth c H locs cells slots Q (F0 m pc ls (.ref (ad 0) :: rest)) :=
  va_get (D := D) (ci := 12) (C := R_Tw) (T := F_Tw) (N := 27) E.1 E.2.1 E.2.2.2.2.1 i_Tw E.2.2.2.1 hK hT.1 0 rfl rfl 0 (by decide) (E.2.2.2.2.1 _ zf_Tw_74) (fun _ h => h) rfl hdg kk
theorem tg_1 (E : Cx p s m args meth c cc R_Tw nL ret) (hK : va_K D cls (tys dA) s) (hT : RK D dA ad A g K n H) (hdg : decode cc pc = .ok (.getfield 78, 3)) (kk : W p l e R s m args below meth c H locs cells slots Q (F0 m (pc + 3) ls (.int (g 1 0) :: rest))) : W p l e R s m args below meth c H locs cells slots Q (F0 m pc ls (.ref (ad 0) :: rest)) :=
  va_get (D := D) (ci := 12) (C := R_Tw) (T := F_Tw) (N := 27) E.1 E.2.1 E.2.2.2.2.1 i_Tw E.2.2.2.1 hK hT.1 0 rfl rfl 1 (by decide) (E.2.2.2.2.1 _ zf_Tw_78) (fun _ h => h) rfl hdg kk
theorem tg_2 (E : Cx p s m args meth c cc R_Tw nL ret) (hK : va_K D cls (tys dA) s) (hT : RK D dA ad A g K n H) (hdg : decode cc pc = .ok (.getfield 7, 3)) (kk : W p l e R s m args below meth c H locs cells slots Q (F0 m (pc + 3) ls (.ref (ad 2) :: rest))) : W p l e R s m args below meth c H locs cells slots Q (F0 m pc ls (.ref (ad 0) :: rest)) :=
  va_get (D := D) (ci := 12) (C := R_Tw) (T := F_Tw) (N := 27) E.1 E.2.1 E.2.2.2.2.1 i_Tw E.2.2.2.1 hK hT.1 0 rfl rfl 2 (by decide) (E.2.2.2.2.1 _ zf_Tw_7) (fun _ h => h) rfl hdg kk
theorem tg_3 (E : Cx p s m args meth c cc R_Tw nL ret) (hK : va_K D cls (tys dA) s) (hT : RK D dA ad A g K n H) (hdg : decode cc pc = .ok (.getfield 13, 3)) (kk : W p l e R s m args below meth c H locs cells slots Q (F0 m (pc + 3) ls (.ref (ad 3) :: rest))) : W p l e R s m args below meth c H locs cells slots Q (F0 m pc ls (.ref (ad 0) :: rest)) :=
  va_get (D := D) (ci := 12) (C := R_Tw) (T := F_Tw) (N := 27) E.1 E.2.1 E.2.2.2.2.1 i_Tw E.2.2.2.1 hK hT.1 0 rfl rfl 3 (by decide) (E.2.2.2.2.1 _ zf_Tw_13) (fun _ h => h) rfl hdg kk
theorem tg_4 (E : Cx p s m args meth c cc R_Tw nL ret) (hK : va_K D cls (tys dA) s) (hT : RK D dA ad A g K n H) (hdg : decode cc pc = .ok (.getfield 16, 3)) (kk : W p l e R s m args below meth c H locs cells slots Q (F0 m (pc + 3) ls (.ref (ad 4) :: rest))) : W p l e R s m args below meth c H locs cells slots Q (F0 m pc ls (.ref (ad 0) :: rest)) :=
  va_get (D := D) (ci := 12) (C := R_Tw) (T := F_Tw) (N := 27) E.1 E.2.1 E.2.2.2.2.1 i_Tw E.2.2.2.1 hK hT.1 0 rfl rfl 4 (by decide) (E.2.2.2.2.1 _ zf_Tw_16) (fun _ h => h) rfl hdg kk
theorem tg_5 (E : Cx p s m args meth c cc R_Tw nL ret) (hK : va_K D cls (tys dA) s) (hT : RK D dA ad A g K n H) (hdg : decode cc pc = .ok (.getfield 19, 3)) (kk : W p l e R s m args below meth c H locs cells slots Q (F0 m (pc + 3) ls (.ref (ad 5) :: rest))) : W p l e R s m args below meth c H locs cells slots Q (F0 m pc ls (.ref (ad 0) :: rest)) :=
  va_get (D := D) (ci := 12) (C := R_Tw) (T := F_Tw) (N := 27) E.1 E.2.1 E.2.2.2.2.1 i_Tw E.2.2.2.1 hK hT.1 0 rfl rfl 5 (by decide) (E.2.2.2.2.1 _ zf_Tw_19) (fun _ h => h) rfl hdg kk
theorem tg_6 (E : Cx p s m args meth c cc R_Tw nL ret) (hK : va_K D cls (tys dA) s) (hT : RK D dA ad A g K n H) (hdg : decode cc pc = .ok (.getfield 22, 3)) (kk : W p l e R s m args below meth c H locs cells slots Q (F0 m (pc + 3) ls (.ref (ad 6) :: rest))) : W p l e R s m args below meth c H locs cells slots Q (F0 m pc ls (.ref (ad 0) :: rest)) :=
  va_get (D := D) (ci := 12) (C := R_Tw) (T := F_Tw) (N := 27) E.1 E.2.1 E.2.2.2.2.1 i_Tw E.2.2.2.1 hK hT.1 0 rfl rfl 6 (by decide) (E.2.2.2.2.1 _ zf_Tw_22) (fun _ h => h) rfl hdg kk
theorem tg_7 (E : Cx p s m args meth c cc R_Tw nL ret) (hK : va_K D cls (tys dA) s) (hT : RK D dA ad A g K n H) (hdg : decode cc pc = .ok (.getfield 25, 3)) (kk : W p l e R s m args below meth c H locs cells slots Q (F0 m (pc + 3) ls (.ref (ad 7) :: rest))) : W p l e R s m args below meth c H locs cells slots Q (F0 m pc ls (.ref (ad 0) :: rest)) :=
  va_get (D := D) (ci := 12) (C := R_Tw) (T := F_Tw) (N := 27) E.1 E.2.1 E.2.2.2.2.1 i_Tw E.2.2.2.1 hK hT.1 0 rfl rfl 7 (by decide) (E.2.2.2.2.1 _ zf_Tw_25) (fun _ h => h) rfl hdg kk
theorem tg_8 (E : Cx p s m args meth c cc R_Tw nL ret) (hK : va_K D cls (tys dA) s) (hT : RK D dA ad A g K n H) (hdg : decode cc pc = .ok (.getfield 28, 3)) (kk : W p l e R s m args below meth c H locs cells slots Q (F0 m (pc + 3) ls (.ref (ad 8) :: rest))) : W p l e R s m args below meth c H locs cells slots Q (F0 m pc ls (.ref (ad 0) :: rest)) :=
  va_get (D := D) (ci := 12) (C := R_Tw) (T := F_Tw) (N := 27) E.1 E.2.1 E.2.2.2.2.1 i_Tw E.2.2.2.1 hK hT.1 0 rfl rfl 8 (by decide) (E.2.2.2.2.1 _ zf_Tw_28) (fun _ h => h) rfl hdg kk
theorem tg_9 (E : Cx p s m args meth c cc R_Tw nL ret) (hK : va_K D cls (tys dA) s) (hT : RK D dA ad A g K n H) (hdg : decode cc pc = .ok (.getfield 31, 3)) (kk : W p l e R s m args below meth c H locs cells slots Q (F0 m (pc + 3) ls (.ref (ad 9) :: rest))) : W p l e R s m args below meth c H locs cells slots Q (F0 m pc ls (.ref (ad 0) :: rest)) :=
  va_get (D := D) (ci := 12) (C := R_Tw) (T := F_Tw) (N := 27) E.1 E.2.1 E.2.2.2.2.1 i_Tw E.2.2.2.1 hK hT.1 0 rfl rfl 9 (by decide) (E.2.2.2.2.1 _ zf_Tw_31) (fun _ h => h) rfl hdg kk
theorem tg_10 (E : Cx p s m args meth c cc R_Tw nL ret) (hK : va_K D cls (tys dA) s) (hT : RK D dA ad A g K n H) (hdg : decode cc pc = .ok (.getfield 34, 3)) (kk : W p l e R s m args below meth c H locs cells slots Q (F0 m (pc + 3) ls (.ref (ad 10) :: rest))) : W p l e R s m args below meth c H locs cells slots Q (F0 m pc ls (.ref (ad 0) :: rest)) :=
  va_get (D := D) (ci := 12) (C := R_Tw) (T := F_Tw) (N := 27) E.1 E.2.1 E.2.2.2.2.1 i_Tw E.2.2.2.1 hK hT.1 0 rfl rfl 10 (by decide) (E.2.2.2.2.1 _ zf_Tw_34) (fun _ h => h) rfl hdg kk
theorem tg_11 (E : Cx p s m args meth c cc R_Tw nL ret) (hK : va_K D cls (tys dA) s) (hT : RK D dA ad A g K n H) (hdg : decode cc pc = .ok (.getfield 37, 3)) (kk : W p l e R s m args below meth c H locs cells slots Q (F0 m (pc + 3) ls (.ref (ad 11) :: rest))) : W p l e R s m args below meth c H locs cells slots Q (F0 m pc ls (.ref (ad 0) :: rest)) :=
  va_get (D := D) (ci := 12) (C := R_Tw) (T := F_Tw) (N := 27) E.1 E.2.1 E.2.2.2.2.1 i_Tw E.2.2.2.1 hK hT.1 0 rfl rfl 11 (by decide) (E.2.2.2.2.1 _ zf_Tw_37) (fun _ h => h) rfl hdg kk
theorem tg_12 (E : Cx p s m args meth c cc R_Tw nL ret) (hK : va_K D cls (tys dA) s) (hT : RK D dA ad A g K n H) (hdg : decode cc pc = .ok (.getfield 101, 3)) (kk : W p l e R s m args below meth c H locs cells slots Q (F0 m (pc + 3) ls (.int (g 12 0) :: rest))) : W p l e R s m args below meth c H locs cells slots Q (F0 m pc ls (.ref (ad 0) :: rest)) :=
  va_get (D := D) (ci := 12) (C := R_Tw) (T := F_Tw) (N := 27) E.1 E.2.1 E.2.2.2.2.1 i_Tw E.2.2.2.1 hK hT.1 0 rfl rfl 12 (by decide) (E.2.2.2.2.1 _ zf_Tw_101) (fun _ h => h) rfl hdg kk
theorem tg_13 (E : Cx p s m args meth c cc R_Tw nL ret) (hK : va_K D cls (tys dA) s) (hT : RK D dA ad A g K n H) (hdg : decode cc pc = .ok (.getfield 40, 3)) (kk : W p l e R s m args below meth c H locs cells slots Q (F0 m (pc + 3) ls (.ref (ad 13) :: rest))) : W p l e R s m args below meth c H locs cells slots Q (F0 m pc ls (.ref (ad 0) :: rest)) :=
  va_get (D := D) (ci := 12) (C := R_Tw) (T := F_Tw) (N := 27) E.1 E.2.1 E.2.2.2.2.1 i_Tw E.2.2.2.1 hK hT.1 0 rfl rfl 13 (by decide) (E.2.2.2.2.1 _ zf_Tw_40) (fun _ h => h) rfl hdg kk
theorem tg_14 (E : Cx p s m args meth c cc R_Tw nL ret) (hK : va_K D cls (tys dA) s) (hT : RK D dA ad A g K n H) (hdg : decode cc pc = .ok (.getfield 43, 3)) (kk : W p l e R s m args below meth c H locs cells slots Q (F0 m (pc + 3) ls (.ref (ad 14) :: rest))) : W p l e R s m args below meth c H locs cells slots Q (F0 m pc ls (.ref (ad 0) :: rest)) :=
  va_get (D := D) (ci := 12) (C := R_Tw) (T := F_Tw) (N := 27) E.1 E.2.1 E.2.2.2.2.1 i_Tw E.2.2.2.1 hK hT.1 0 rfl rfl 14 (by decide) (E.2.2.2.2.1 _ zf_Tw_43) (fun _ h => h) rfl hdg kk
theorem tg_15 (E : Cx p s m args meth c cc R_Tw nL ret) (hK : va_K D cls (tys dA) s) (hT : RK D dA ad A g K n H) (hdg : decode cc pc = .ok (.getfield 46, 3)) (kk : W p l e R s m args below meth c H locs cells slots Q (F0 m (pc + 3) ls (.ref (ad 15) :: rest))) : W p l e R s m args below meth c H locs cells slots Q (F0 m pc ls (.ref (ad 0) :: rest)) :=
  va_get (D := D) (ci := 12) (C := R_Tw) (T := F_Tw) (N := 27) E.1 E.2.1 E.2.2.2.2.1 i_Tw E.2.2.2.1 hK hT.1 0 rfl rfl 15 (by decide) (E.2.2.2.2.1 _ zf_Tw_46) (fun _ h => h) rfl hdg kk
theorem tg_16 (E : Cx p s m args meth c cc R_Tw nL ret) (hK : va_K D cls (tys dA) s) (hT : RK D dA ad A g K n H) (hdg : decode cc pc = .ok (.getfield 49, 3)) (kk : W p l e R s m args below meth c H locs cells slots Q (F0 m (pc + 3) ls (.ref (ad 16) :: rest))) : W p l e R s m args below meth c H locs cells slots Q (F0 m pc ls (.ref (ad 0) :: rest)) :=
  va_get (D := D) (ci := 12) (C := R_Tw) (T := F_Tw) (N := 27) E.1 E.2.1 E.2.2.2.2.1 i_Tw E.2.2.2.1 hK hT.1 0 rfl rfl 16 (by decide) (E.2.2.2.2.1 _ zf_Tw_49) (fun _ h => h) rfl hdg kk
theorem tg_17 (E : Cx p s m args meth c cc R_Tw nL ret) (hK : va_K D cls (tys dA) s) (hT : RK D dA ad A g K n H) (hdg : decode cc pc = .ok (.getfield 91, 3)) (kk : W p l e R s m args below meth c H locs cells slots Q (F0 m (pc + 3) ls (.int (nI n) :: rest))) : W p l e R s m args below meth c H locs cells slots Q (F0 m pc ls (.ref (ad 0) :: rest)) :=
  va_get (D := D) (ci := 12) (C := R_Tw) (T := F_Tw) (N := 27) E.1 E.2.1 E.2.2.2.2.1 i_Tw E.2.2.2.1 hK hT.1 0 rfl rfl 17 (by decide) (E.2.2.2.2.1 _ zf_Tw_91) (fun _ h => h) rfl hdg kk
theorem tg_18 (E : Cx p s m args meth c cc R_Tw nL ret) (hK : va_K D cls (tys dA) s) (hT : RK D dA ad A g K n H) (hdg : decode cc pc = .ok (.getfield 94, 3)) (kk : W p l e R s m args below meth c H locs cells slots Q (F0 m (pc + 3) ls (.int (g 18 0) :: rest))) : W p l e R s m args below meth c H locs cells slots Q (F0 m pc ls (.ref (ad 0) :: rest)) :=
  va_get (D := D) (ci := 12) (C := R_Tw) (T := F_Tw) (N := 27) E.1 E.2.1 E.2.2.2.2.1 i_Tw E.2.2.2.1 hK hT.1 0 rfl rfl 18 (by decide) (E.2.2.2.2.1 _ zf_Tw_94) (fun _ h => h) rfl hdg kk
theorem tg_19 (E : Cx p s m args meth c cc R_Tw nL ret) (hK : va_K D cls (tys dA) s) (hT : RK D dA ad A g K n H) (hdg : decode cc pc = .ok (.getfield 104, 3)) (kk : W p l e R s m args below meth c H locs cells slots Q (F0 m (pc + 3) ls (.int (g 19 0) :: rest))) : W p l e R s m args below meth c H locs cells slots Q (F0 m pc ls (.ref (ad 0) :: rest)) :=
  va_get (D := D) (ci := 12) (C := R_Tw) (T := F_Tw) (N := 27) E.1 E.2.1 E.2.2.2.2.1 i_Tw E.2.2.2.1 hK hT.1 0 rfl rfl 19 (by decide) (E.2.2.2.2.1 _ zf_Tw_104) (fun _ h => h) rfl hdg kk
theorem tg_20 (E : Cx p s m args meth c cc R_Tw nL ret) (hK : va_K D cls (tys dA) s) (hT : RK D dA ad A g K n H) (hdg : decode cc pc = .ok (.getfield 53, 3)) (kk : W p l e R s m args below meth c H locs cells slots Q (F0 m (pc + 3) ls (.ref (ad 20) :: rest))) : W p l e R s m args below meth c H locs cells slots Q (F0 m pc ls (.ref (ad 0) :: rest)) :=
  va_get (D := D) (ci := 12) (C := R_Tw) (T := F_Tw) (N := 27) E.1 E.2.1 E.2.2.2.2.1 i_Tw E.2.2.2.1 hK hT.1 0 rfl rfl 20 (by decide) (E.2.2.2.2.1 _ zf_Tw_53) (fun _ h => h) rfl hdg kk
theorem tg_21 (E : Cx p s m args meth c cc R_Tw nL ret) (hK : va_K D cls (tys dA) s) (hT : RK D dA ad A g K n H) (hdg : decode cc pc = .ok (.getfield 56, 3)) (kk : W p l e R s m args below meth c H locs cells slots Q (F0 m (pc + 3) ls (.ref (ad 21) :: rest))) : W p l e R s m args below meth c H locs cells slots Q (F0 m pc ls (.ref (ad 0) :: rest)) :=
  va_get (D := D) (ci := 12) (C := R_Tw) (T := F_Tw) (N := 27) E.1 E.2.1 E.2.2.2.2.1 i_Tw E.2.2.2.1 hK hT.1 0 rfl rfl 21 (by decide) (E.2.2.2.2.1 _ zf_Tw_56) (fun _ h => h) rfl hdg kk
theorem tg_22 (E : Cx p s m args meth c cc R_Tw nL ret) (hK : va_K D cls (tys dA) s) (hT : RK D dA ad A g K n H) (hdg : decode cc pc = .ok (.getfield 59, 3)) (kk : W p l e R s m args below meth c H locs cells slots Q (F0 m (pc + 3) ls (.ref (ad 22) :: rest))) : W p l e R s m args below meth c H locs cells slots Q (F0 m pc ls (.ref (ad 0) :: rest)) :=
  va_get (D := D) (ci := 12) (C := R_Tw) (T := F_Tw) (N := 27) E.1 E.2.1 E.2.2.2.2.1 i_Tw E.2.2.2.1 hK hT.1 0 rfl rfl 22 (by decide) (E.2.2.2.2.1 _ zf_Tw_59) (fun _ h => h) rfl hdg kk
theorem tg_23 (E : Cx p s m args meth c cc R_Tw nL ret) (hK : va_K D cls (tys dA) s) (hT : RK D dA ad A g K n H) (hdg : decode cc pc = .ok (.getfield 62, 3)) (kk : W p l e R s m args below meth c H locs cells slots Q (F0 m (pc + 3) ls (.ref (ad 23) :: rest))) : W p l e R s m args below meth c H locs cells slots Q (F0 m pc ls (.ref (ad 0) :: rest)) :=
  va_get (D := D) (ci := 12) (C := R_Tw) (T := F_Tw) (N := 27) E.1 E.2.1 E.2.2.2.2.1 i_Tw E.2.2.2.1 hK hT.1 0 rfl rfl 23 (by decide) (E.2.2.2.2.1 _ zf_Tw_62) (fun _ h => h) rfl hdg kk
theorem tg_24 (E : Cx p s m args meth c cc R_Tw nL ret) (hK : va_K D cls (tys dA) s) (hT : RK D dA ad A g K n H) (hdg : decode cc pc = .ok (.getfield 65, 3)) (kk : W p l e R s m args below meth c H locs cells slots Q (F0 m (pc + 3) ls (.ref (ad 24) :: rest))) : W p l e R s m args below meth c H locs cells slots Q (F0 m pc ls (.ref (ad 0) :: rest)) :=
  va_get (D := D) (ci := 12) (C := R_Tw) (T := F_Tw) (N := 27) E.1 E.2.1 E.2.2.2.2.1 i_Tw E.2.2.2.1 hK hT.1 0 rfl rfl 24 (by decide) (E.2.2.2.2.1 _ zf_Tw_65) (fun _ h => h) rfl hdg kk
theorem tg_25 (E : Cx p s m args meth c cc R_Tw nL ret) (hK : va_K D cls (tys dA) s) (hT : RK D dA ad A g K n H) (hdg : decode cc pc = .ok (.getfield 68, 3)) (kk : W p l e R s m args below meth c H locs cells slots Q (F0 m (pc + 3) ls (.ref (ad 25) :: rest))) : W p l e R s m args below meth c H locs cells slots Q (F0 m pc ls (.ref (ad 0) :: rest)) :=
  va_get (D := D) (ci := 12) (C := R_Tw) (T := F_Tw) (N := 27) E.1 E.2.1 E.2.2.2.2.1 i_Tw E.2.2.2.1 hK hT.1 0 rfl rfl 25 (by decide) (E.2.2.2.2.1 _ zf_Tw_68) (fun _ h => h) rfl hdg kk
theorem tg_26 (E : Cx p s m args meth c cc R_Tw nL ret) (hK : va_K D cls (tys dA) s) (hT : RK D dA ad A g K n H) (hdg : decode cc pc = .ok (.getfield 71, 3)) (kk : W p l e R s m args below meth c H locs cells slots Q (F0 m (pc + 3) ls (.ref (ad 26) :: rest))) : W p l e R s m args below meth c H locs cells slots Q (F0 m pc ls (.ref (ad 0) :: rest)) :=
  va_get (D := D) (ci := 12) (C := R_Tw) (T := F_Tw) (N := 27) E.1 E.2.1 E.2.2.2.2.1 i_Tw E.2.2.2.1 hK hT.1 0 rfl rfl 26 (by decide) (E.2.2.2.2.1 _ zf_Tw_71) (fun _ h => h) rfl hdg kk
theorem tl_2 (E : Cx p s m args meth c cc R_Tw nL ret) (hK : va_K D cls (tys dA) s) (hT : RK D dA ad A g K n H) {j : Nat} (hj : j < 4) (hdg : decode cc pc = .ok (.iaload, 1)) (kk : W p l e R s m args below meth c H locs cells slots Q (F0 m (pc + 1) ls (.int (g 2 j) :: rest))) : W p l e R s m args below meth c H locs cells slots Q (F0 m pc ls (.int (nI j) :: .ref (ad 2) :: rest)) := by
  refine va_iald (D := D) E.1 E.2.1 hK hT.1 1 0 rfl rfl (vp_in_nI hj (by decide)) hdg ?_
  rw [nI_clamp (by omega)]
  exact kk
theorem ts_2 (E : Cx p s m args meth c cc R_Tw nL ret) (hK : va_K D cls (tys dA) s) (hT : RK D dA ad A g K n H) (hS : va_S A H0 H locs) {j : Nat} {x : Int32} (hj : j < 4) (hdg : decode cc pc = .ok (.iastore, 1)) (kk : ∀ (H1 : Heap) (locs1 : List Loc), RK D dA ad A (up2 g 2 j x) K n H1 → va_S A H0 H1 locs1 → W p l e R s m args below meth c H1 locs1 cells slots Q (F0 m (pc + 1) ls rest)) : W p l e R s m args below meth c H locs cells slots Q (F0 m pc ls (.int x :: .int (nI j) :: .ref (ad 2) :: rest)) := by
  refine va_iast (D := D) E.1 E.2.1 hK hT.1 hT.2 hS 1 0 rfl rfl (vp_in_nI hj (by decide)) hdg (fun H1 locs1 hP hD hS1 => ?_)
  rw [nI_clamp (by omega)] at hP hD
  exact kk H1 locs1 ⟨hP, hD⟩ hS1
theorem tl_3 (E : Cx p s m args meth c cc R_Tw nL ret) (hK : va_K D cls (tys dA) s) (hT : RK D dA ad A g K n H) {j : Nat} (hj : j < 64) (hdg : decode cc pc = .ok (.iaload, 1)) (kk : W p l e R s m args below meth c H locs cells slots Q (F0 m (pc + 1) ls (.int (g 3 j) :: rest))) : W p l e R s m args below meth c H locs cells slots Q (F0 m pc ls (.int (nI j) :: .ref (ad 3) :: rest)) := by
  refine va_iald (D := D) E.1 E.2.1 hK hT.1 2 0 rfl rfl (vp_in_nI hj (by decide)) hdg ?_
  rw [nI_clamp (by omega)]
  exact kk
theorem ts_3 (E : Cx p s m args meth c cc R_Tw nL ret) (hK : va_K D cls (tys dA) s) (hT : RK D dA ad A g K n H) (hS : va_S A H0 H locs) {j : Nat} {x : Int32} (hj : j < 64) (hdg : decode cc pc = .ok (.iastore, 1)) (kk : ∀ (H1 : Heap) (locs1 : List Loc), RK D dA ad A (up2 g 3 j x) K n H1 → va_S A H0 H1 locs1 → W p l e R s m args below meth c H1 locs1 cells slots Q (F0 m (pc + 1) ls rest)) : W p l e R s m args below meth c H locs cells slots Q (F0 m pc ls (.int x :: .int (nI j) :: .ref (ad 3) :: rest)) := by
  refine va_iast (D := D) E.1 E.2.1 hK hT.1 hT.2 hS 2 0 rfl rfl (vp_in_nI hj (by decide)) hdg (fun H1 locs1 hP hD hS1 => ?_)
  rw [nI_clamp (by omega)] at hP hD
  exact kk H1 locs1 ⟨hP, hD⟩ hS1
theorem tl_4 (E : Cx p s m args meth c cc R_Tw nL ret) (hK : va_K D cls (tys dA) s) (hT : RK D dA ad A g K n H) {j : Nat} (hj : j < 64) (hdg : decode cc pc = .ok (.iaload, 1)) (kk : W p l e R s m args below meth c H locs cells slots Q (F0 m (pc + 1) ls (.int (g 4 j) :: rest))) : W p l e R s m args below meth c H locs cells slots Q (F0 m pc ls (.int (nI j) :: .ref (ad 4) :: rest)) := by
  refine va_iald (D := D) E.1 E.2.1 hK hT.1 3 0 rfl rfl (vp_in_nI hj (by decide)) hdg ?_
  rw [nI_clamp (by omega)]
  exact kk
theorem ts_4 (E : Cx p s m args meth c cc R_Tw nL ret) (hK : va_K D cls (tys dA) s) (hT : RK D dA ad A g K n H) (hS : va_S A H0 H locs) {j : Nat} {x : Int32} (hj : j < 64) (hdg : decode cc pc = .ok (.iastore, 1)) (kk : ∀ (H1 : Heap) (locs1 : List Loc), RK D dA ad A (up2 g 4 j x) K n H1 → va_S A H0 H1 locs1 → W p l e R s m args below meth c H1 locs1 cells slots Q (F0 m (pc + 1) ls rest)) : W p l e R s m args below meth c H locs cells slots Q (F0 m pc ls (.int x :: .int (nI j) :: .ref (ad 4) :: rest)) := by
  refine va_iast (D := D) E.1 E.2.1 hK hT.1 hT.2 hS 3 0 rfl rfl (vp_in_nI hj (by decide)) hdg (fun H1 locs1 hP hD hS1 => ?_)
  rw [nI_clamp (by omega)] at hP hD
  exact kk H1 locs1 ⟨hP, hD⟩ hS1
theorem tl_5 (E : Cx p s m args meth c cc R_Tw nL ret) (hK : va_K D cls (tys dA) s) (hT : RK D dA ad A g K n H) {j : Nat} (hj : j < 4) (hdg : decode cc pc = .ok (.iaload, 1)) (kk : W p l e R s m args below meth c H locs cells slots Q (F0 m (pc + 1) ls (.int (g 5 j) :: rest))) : W p l e R s m args below meth c H locs cells slots Q (F0 m pc ls (.int (nI j) :: .ref (ad 5) :: rest)) := by
  refine va_iald (D := D) E.1 E.2.1 hK hT.1 4 0 rfl rfl (vp_in_nI hj (by decide)) hdg ?_
  rw [nI_clamp (by omega)]
  exact kk
theorem ts_5 (E : Cx p s m args meth c cc R_Tw nL ret) (hK : va_K D cls (tys dA) s) (hT : RK D dA ad A g K n H) (hS : va_S A H0 H locs) {j : Nat} {x : Int32} (hj : j < 4) (hdg : decode cc pc = .ok (.iastore, 1)) (kk : ∀ (H1 : Heap) (locs1 : List Loc), RK D dA ad A (up2 g 5 j x) K n H1 → va_S A H0 H1 locs1 → W p l e R s m args below meth c H1 locs1 cells slots Q (F0 m (pc + 1) ls rest)) : W p l e R s m args below meth c H locs cells slots Q (F0 m pc ls (.int x :: .int (nI j) :: .ref (ad 5) :: rest)) := by
  refine va_iast (D := D) E.1 E.2.1 hK hT.1 hT.2 hS 4 0 rfl rfl (vp_in_nI hj (by decide)) hdg (fun H1 locs1 hP hD hS1 => ?_)
  rw [nI_clamp (by omega)] at hP hD
  exact kk H1 locs1 ⟨hP, hD⟩ hS1
theorem tl_6 (E : Cx p s m args meth c cc R_Tw nL ret) (hK : va_K D cls (tys dA) s) (hT : RK D dA ad A g K n H) {j : Nat} (hj : j < 4) (hdg : decode cc pc = .ok (.iaload, 1)) (kk : W p l e R s m args below meth c H locs cells slots Q (F0 m (pc + 1) ls (.int (g 6 j) :: rest))) : W p l e R s m args below meth c H locs cells slots Q (F0 m pc ls (.int (nI j) :: .ref (ad 6) :: rest)) := by
  refine va_iald (D := D) E.1 E.2.1 hK hT.1 5 0 rfl rfl (vp_in_nI hj (by decide)) hdg ?_
  rw [nI_clamp (by omega)]
  exact kk
theorem ts_6 (E : Cx p s m args meth c cc R_Tw nL ret) (hK : va_K D cls (tys dA) s) (hT : RK D dA ad A g K n H) (hS : va_S A H0 H locs) {j : Nat} {x : Int32} (hj : j < 4) (hdg : decode cc pc = .ok (.iastore, 1)) (kk : ∀ (H1 : Heap) (locs1 : List Loc), RK D dA ad A (up2 g 6 j x) K n H1 → va_S A H0 H1 locs1 → W p l e R s m args below meth c H1 locs1 cells slots Q (F0 m (pc + 1) ls rest)) : W p l e R s m args below meth c H locs cells slots Q (F0 m pc ls (.int x :: .int (nI j) :: .ref (ad 6) :: rest)) := by
  refine va_iast (D := D) E.1 E.2.1 hK hT.1 hT.2 hS 5 0 rfl rfl (vp_in_nI hj (by decide)) hdg (fun H1 locs1 hP hD hS1 => ?_)
  rw [nI_clamp (by omega)] at hP hD
  exact kk H1 locs1 ⟨hP, hD⟩ hS1
theorem tl_7 (E : Cx p s m args meth c cc R_Tw nL ret) (hK : va_K D cls (tys dA) s) (hT : RK D dA ad A g K n H) {j : Nat} (hj : j < 4) (hdg : decode cc pc = .ok (.iaload, 1)) (kk : W p l e R s m args below meth c H locs cells slots Q (F0 m (pc + 1) ls (.int (g 7 j) :: rest))) : W p l e R s m args below meth c H locs cells slots Q (F0 m pc ls (.int (nI j) :: .ref (ad 7) :: rest)) := by
  refine va_iald (D := D) E.1 E.2.1 hK hT.1 6 0 rfl rfl (vp_in_nI hj (by decide)) hdg ?_
  rw [nI_clamp (by omega)]
  exact kk
theorem ts_7 (E : Cx p s m args meth c cc R_Tw nL ret) (hK : va_K D cls (tys dA) s) (hT : RK D dA ad A g K n H) (hS : va_S A H0 H locs) {j : Nat} {x : Int32} (hj : j < 4) (hdg : decode cc pc = .ok (.iastore, 1)) (kk : ∀ (H1 : Heap) (locs1 : List Loc), RK D dA ad A (up2 g 7 j x) K n H1 → va_S A H0 H1 locs1 → W p l e R s m args below meth c H1 locs1 cells slots Q (F0 m (pc + 1) ls rest)) : W p l e R s m args below meth c H locs cells slots Q (F0 m pc ls (.int x :: .int (nI j) :: .ref (ad 7) :: rest)) := by
  refine va_iast (D := D) E.1 E.2.1 hK hT.1 hT.2 hS 6 0 rfl rfl (vp_in_nI hj (by decide)) hdg (fun H1 locs1 hP hD hS1 => ?_)
  rw [nI_clamp (by omega)] at hP hD
  exact kk H1 locs1 ⟨hP, hD⟩ hS1
theorem tl_8 (E : Cx p s m args meth c cc R_Tw nL ret) (hK : va_K D cls (tys dA) s) (hT : RK D dA ad A g K n H) {j : Nat} (hj : j < 16) (hdg : decode cc pc = .ok (.iaload, 1)) (kk : W p l e R s m args below meth c H locs cells slots Q (F0 m (pc + 1) ls (.int (g 8 j) :: rest))) : W p l e R s m args below meth c H locs cells slots Q (F0 m pc ls (.int (nI j) :: .ref (ad 8) :: rest)) := by
  refine va_iald (D := D) E.1 E.2.1 hK hT.1 7 0 rfl rfl (vp_in_nI hj (by decide)) hdg ?_
  rw [nI_clamp (by omega)]
  exact kk
theorem ts_8 (E : Cx p s m args meth c cc R_Tw nL ret) (hK : va_K D cls (tys dA) s) (hT : RK D dA ad A g K n H) (hS : va_S A H0 H locs) {j : Nat} {x : Int32} (hj : j < 16) (hdg : decode cc pc = .ok (.iastore, 1)) (kk : ∀ (H1 : Heap) (locs1 : List Loc), RK D dA ad A (up2 g 8 j x) K n H1 → va_S A H0 H1 locs1 → W p l e R s m args below meth c H1 locs1 cells slots Q (F0 m (pc + 1) ls rest)) : W p l e R s m args below meth c H locs cells slots Q (F0 m pc ls (.int x :: .int (nI j) :: .ref (ad 8) :: rest)) := by
  refine va_iast (D := D) E.1 E.2.1 hK hT.1 hT.2 hS 7 0 rfl rfl (vp_in_nI hj (by decide)) hdg (fun H1 locs1 hP hD hS1 => ?_)
  rw [nI_clamp (by omega)] at hP hD
  exact kk H1 locs1 ⟨hP, hD⟩ hS1
theorem tl_9 (E : Cx p s m args meth c cc R_Tw nL ret) (hK : va_K D cls (tys dA) s) (hT : RK D dA ad A g K n H) {j : Nat} (hj : j < 16) (hdg : decode cc pc = .ok (.iaload, 1)) (kk : W p l e R s m args below meth c H locs cells slots Q (F0 m (pc + 1) ls (.int (g 9 j) :: rest))) : W p l e R s m args below meth c H locs cells slots Q (F0 m pc ls (.int (nI j) :: .ref (ad 9) :: rest)) := by
  refine va_iald (D := D) E.1 E.2.1 hK hT.1 8 0 rfl rfl (vp_in_nI hj (by decide)) hdg ?_
  rw [nI_clamp (by omega)]
  exact kk
theorem ts_9 (E : Cx p s m args meth c cc R_Tw nL ret) (hK : va_K D cls (tys dA) s) (hT : RK D dA ad A g K n H) (hS : va_S A H0 H locs) {j : Nat} {x : Int32} (hj : j < 16) (hdg : decode cc pc = .ok (.iastore, 1)) (kk : ∀ (H1 : Heap) (locs1 : List Loc), RK D dA ad A (up2 g 9 j x) K n H1 → va_S A H0 H1 locs1 → W p l e R s m args below meth c H1 locs1 cells slots Q (F0 m (pc + 1) ls rest)) : W p l e R s m args below meth c H locs cells slots Q (F0 m pc ls (.int x :: .int (nI j) :: .ref (ad 9) :: rest)) := by
  refine va_iast (D := D) E.1 E.2.1 hK hT.1 hT.2 hS 8 0 rfl rfl (vp_in_nI hj (by decide)) hdg (fun H1 locs1 hP hD hS1 => ?_)
  rw [nI_clamp (by omega)] at hP hD
  exact kk H1 locs1 ⟨hP, hD⟩ hS1
theorem tl_10 (E : Cx p s m args meth c cc R_Tw nL ret) (hK : va_K D cls (tys dA) s) (hT : RK D dA ad A g K n H) {j : Nat} (hj : j < 16) (hdg : decode cc pc = .ok (.iaload, 1)) (kk : W p l e R s m args below meth c H locs cells slots Q (F0 m (pc + 1) ls (.int (g 10 j) :: rest))) : W p l e R s m args below meth c H locs cells slots Q (F0 m pc ls (.int (nI j) :: .ref (ad 10) :: rest)) := by
  refine va_iald (D := D) E.1 E.2.1 hK hT.1 9 0 rfl rfl (vp_in_nI hj (by decide)) hdg ?_
  rw [nI_clamp (by omega)]
  exact kk
theorem ts_10 (E : Cx p s m args meth c cc R_Tw nL ret) (hK : va_K D cls (tys dA) s) (hT : RK D dA ad A g K n H) (hS : va_S A H0 H locs) {j : Nat} {x : Int32} (hj : j < 16) (hdg : decode cc pc = .ok (.iastore, 1)) (kk : ∀ (H1 : Heap) (locs1 : List Loc), RK D dA ad A (up2 g 10 j x) K n H1 → va_S A H0 H1 locs1 → W p l e R s m args below meth c H1 locs1 cells slots Q (F0 m (pc + 1) ls rest)) : W p l e R s m args below meth c H locs cells slots Q (F0 m pc ls (.int x :: .int (nI j) :: .ref (ad 10) :: rest)) := by
  refine va_iast (D := D) E.1 E.2.1 hK hT.1 hT.2 hS 9 0 rfl rfl (vp_in_nI hj (by decide)) hdg (fun H1 locs1 hP hD hS1 => ?_)
  rw [nI_clamp (by omega)] at hP hD
  exact kk H1 locs1 ⟨hP, hD⟩ hS1
theorem tl_11 (E : Cx p s m args meth c cc R_Tw nL ret) (hK : va_K D cls (tys dA) s) (hT : RK D dA ad A g K n H) {j : Nat} (hj : j < 16) (hdg : decode cc pc = .ok (.iaload, 1)) (kk : W p l e R s m args below meth c H locs cells slots Q (F0 m (pc + 1) ls (.int (g 11 j) :: rest))) : W p l e R s m args below meth c H locs cells slots Q (F0 m pc ls (.int (nI j) :: .ref (ad 11) :: rest)) := by
  refine va_iald (D := D) E.1 E.2.1 hK hT.1 10 0 rfl rfl (vp_in_nI hj (by decide)) hdg ?_
  rw [nI_clamp (by omega)]
  exact kk
theorem ts_11 (E : Cx p s m args meth c cc R_Tw nL ret) (hK : va_K D cls (tys dA) s) (hT : RK D dA ad A g K n H) (hS : va_S A H0 H locs) {j : Nat} {x : Int32} (hj : j < 16) (hdg : decode cc pc = .ok (.iastore, 1)) (kk : ∀ (H1 : Heap) (locs1 : List Loc), RK D dA ad A (up2 g 11 j x) K n H1 → va_S A H0 H1 locs1 → W p l e R s m args below meth c H1 locs1 cells slots Q (F0 m (pc + 1) ls rest)) : W p l e R s m args below meth c H locs cells slots Q (F0 m pc ls (.int x :: .int (nI j) :: .ref (ad 11) :: rest)) := by
  refine va_iast (D := D) E.1 E.2.1 hK hT.1 hT.2 hS 10 0 rfl rfl (vp_in_nI hj (by decide)) hdg (fun H1 locs1 hP hD hS1 => ?_)
  rw [nI_clamp (by omega)] at hP hD
  exact kk H1 locs1 ⟨hP, hD⟩ hS1
theorem tl_13 (E : Cx p s m args meth c cc R_Tw nL ret) (hK : va_K D cls (tys dA) s) (hT : RK D dA ad A g K n H) {j : Nat} (hj : j < 4) (hdg : decode cc pc = .ok (.iaload, 1)) (kk : W p l e R s m args below meth c H locs cells slots Q (F0 m (pc + 1) ls (.int (g 13 j) :: rest))) : W p l e R s m args below meth c H locs cells slots Q (F0 m pc ls (.int (nI j) :: .ref (ad 13) :: rest)) := by
  refine va_iald (D := D) E.1 E.2.1 hK hT.1 11 0 rfl rfl (vp_in_nI hj (by decide)) hdg ?_
  rw [nI_clamp (by omega)]
  exact kk
theorem ts_13 (E : Cx p s m args meth c cc R_Tw nL ret) (hK : va_K D cls (tys dA) s) (hT : RK D dA ad A g K n H) (hS : va_S A H0 H locs) {j : Nat} {x : Int32} (hj : j < 4) (hdg : decode cc pc = .ok (.iastore, 1)) (kk : ∀ (H1 : Heap) (locs1 : List Loc), RK D dA ad A (up2 g 13 j x) K n H1 → va_S A H0 H1 locs1 → W p l e R s m args below meth c H1 locs1 cells slots Q (F0 m (pc + 1) ls rest)) : W p l e R s m args below meth c H locs cells slots Q (F0 m pc ls (.int x :: .int (nI j) :: .ref (ad 13) :: rest)) := by
  refine va_iast (D := D) E.1 E.2.1 hK hT.1 hT.2 hS 11 0 rfl rfl (vp_in_nI hj (by decide)) hdg (fun H1 locs1 hP hD hS1 => ?_)
  rw [nI_clamp (by omega)] at hP hD
  exact kk H1 locs1 ⟨hP, hD⟩ hS1
theorem tl_14 (E : Cx p s m args meth c cc R_Tw nL ret) (hK : va_K D cls (tys dA) s) (hT : RK D dA ad A g K n H) {j : Nat} (hj : j < 4) (hdg : decode cc pc = .ok (.iaload, 1)) (kk : W p l e R s m args below meth c H locs cells slots Q (F0 m (pc + 1) ls (.int (g 14 j) :: rest))) : W p l e R s m args below meth c H locs cells slots Q (F0 m pc ls (.int (nI j) :: .ref (ad 14) :: rest)) := by
  refine va_iald (D := D) E.1 E.2.1 hK hT.1 12 0 rfl rfl (vp_in_nI hj (by decide)) hdg ?_
  rw [nI_clamp (by omega)]
  exact kk
theorem ts_14 (E : Cx p s m args meth c cc R_Tw nL ret) (hK : va_K D cls (tys dA) s) (hT : RK D dA ad A g K n H) (hS : va_S A H0 H locs) {j : Nat} {x : Int32} (hj : j < 4) (hdg : decode cc pc = .ok (.iastore, 1)) (kk : ∀ (H1 : Heap) (locs1 : List Loc), RK D dA ad A (up2 g 14 j x) K n H1 → va_S A H0 H1 locs1 → W p l e R s m args below meth c H1 locs1 cells slots Q (F0 m (pc + 1) ls rest)) : W p l e R s m args below meth c H locs cells slots Q (F0 m pc ls (.int x :: .int (nI j) :: .ref (ad 14) :: rest)) := by
  refine va_iast (D := D) E.1 E.2.1 hK hT.1 hT.2 hS 12 0 rfl rfl (vp_in_nI hj (by decide)) hdg (fun H1 locs1 hP hD hS1 => ?_)
  rw [nI_clamp (by omega)] at hP hD
  exact kk H1 locs1 ⟨hP, hD⟩ hS1
theorem tl_15 (E : Cx p s m args meth c cc R_Tw nL ret) (hK : va_K D cls (tys dA) s) (hT : RK D dA ad A g K n H) {j : Nat} (hj : j < 4) (hdg : decode cc pc = .ok (.iaload, 1)) (kk : W p l e R s m args below meth c H locs cells slots Q (F0 m (pc + 1) ls (.int (g 15 j) :: rest))) : W p l e R s m args below meth c H locs cells slots Q (F0 m pc ls (.int (nI j) :: .ref (ad 15) :: rest)) := by
  refine va_iald (D := D) E.1 E.2.1 hK hT.1 13 0 rfl rfl (vp_in_nI hj (by decide)) hdg ?_
  rw [nI_clamp (by omega)]
  exact kk
theorem ts_15 (E : Cx p s m args meth c cc R_Tw nL ret) (hK : va_K D cls (tys dA) s) (hT : RK D dA ad A g K n H) (hS : va_S A H0 H locs) {j : Nat} {x : Int32} (hj : j < 4) (hdg : decode cc pc = .ok (.iastore, 1)) (kk : ∀ (H1 : Heap) (locs1 : List Loc), RK D dA ad A (up2 g 15 j x) K n H1 → va_S A H0 H1 locs1 → W p l e R s m args below meth c H1 locs1 cells slots Q (F0 m (pc + 1) ls rest)) : W p l e R s m args below meth c H locs cells slots Q (F0 m pc ls (.int x :: .int (nI j) :: .ref (ad 15) :: rest)) := by
  refine va_iast (D := D) E.1 E.2.1 hK hT.1 hT.2 hS 13 0 rfl rfl (vp_in_nI hj (by decide)) hdg (fun H1 locs1 hP hD hS1 => ?_)
  rw [nI_clamp (by omega)] at hP hD
  exact kk H1 locs1 ⟨hP, hD⟩ hS1
theorem tl_16 (E : Cx p s m args meth c cc R_Tw nL ret) (hK : va_K D cls (tys dA) s) (hT : RK D dA ad A g K n H) {j : Nat} (hj : j < 16) (hdg : decode cc pc = .ok (.baload, 1)) (kk : W p l e R s m args below meth c H locs cells slots Q (F0 m (pc + 1) ls (.int (g 16 j) :: rest))) : W p l e R s m args below meth c H locs cells slots Q (F0 m pc ls (.int (nI j) :: .ref (ad 16) :: rest)) := by
  refine va_zald (D := D) E.1 E.2.1 hK hT.1 14 1 rfl rfl (vp_in_nI hj (by decide)) hdg ?_
  rw [nI_clamp (by omega)]
  exact kk
theorem ts_16 (E : Cx p s m args meth c cc R_Tw nL ret) (hK : va_K D cls (tys dA) s) (hT : RK D dA ad A g K n H) (hS : va_S A H0 H locs) {j : Nat} {x : Int32} (hx : vp_nar .boolean x = x) (hj : j < 16) (hdg : decode cc pc = .ok (.bastore, 1)) (kk : ∀ (H1 : Heap) (locs1 : List Loc), RK D dA ad A (up2 g 16 j x) K n H1 → va_S A H0 H1 locs1 → W p l e R s m args below meth c H1 locs1 cells slots Q (F0 m (pc + 1) ls rest)) : W p l e R s m args below meth c H locs cells slots Q (F0 m pc ls (.int x :: .int (nI j) :: .ref (ad 16) :: rest)) := by
  refine va_zast (D := D) E.1 E.2.1 hK hT.1 hT.2 hS 14 1 rfl rfl (vp_in_nI hj (by decide)) hdg (fun H1 locs1 hP hD hS1 => ?_)
  rw [nI_clamp (by omega), hx] at hP hD
  exact kk H1 locs1 ⟨hP, hD⟩ hS1
theorem tl_20 (E : Cx p s m args meth c cc R_Tw nL ret) (hK : va_K D cls (tys dA) s) (hT : RK D dA ad A g K n H) {j : Nat} (hj : j < 64) (hdg : decode cc pc = .ok (.iaload, 1)) (kk : W p l e R s m args below meth c H locs cells slots Q (F0 m (pc + 1) ls (.int (K 0 j) :: rest))) : W p l e R s m args below meth c H locs cells slots Q (F0 m pc ls (.int (nI j) :: .ref (ad 20) :: rest)) := by
  refine va_iald (D := D) E.1 E.2.1 hK hT.1 15 0 rfl rfl (vp_in_nI hj (by decide)) hdg ?_
  rw [nI_clamp (by omega)]
  exact kk
theorem ts_20 (E : Cx p s m args meth c cc R_Tw nL ret) (hK : va_K D cls (tys dA) s) (hT : RK D dA ad A g K n H) (hS : va_S A H0 H locs) {j : Nat} {x : Int32} (hj : j < 64) (hdg : decode cc pc = .ok (.iastore, 1)) (kk : ∀ (H1 : Heap) (locs1 : List Loc), RK D dA ad A g (up2 K 0 j x) n H1 → va_S A H0 H1 locs1 → W p l e R s m args below meth c H1 locs1 cells slots Q (F0 m (pc + 1) ls rest)) : W p l e R s m args below meth c H locs cells slots Q (F0 m pc ls (.int x :: .int (nI j) :: .ref (ad 20) :: rest)) := by
  refine va_iast (D := D) E.1 E.2.1 hK hT.1 hT.2 hS 15 0 rfl rfl (vp_in_nI hj (by decide)) hdg (fun H1 locs1 hP hD hS1 => ?_)
  rw [nI_clamp (by omega)] at hP hD
  exact kk H1 locs1 ⟨hP, hD⟩ hS1
theorem tl_21 (E : Cx p s m args meth c cc R_Tw nL ret) (hK : va_K D cls (tys dA) s) (hT : RK D dA ad A g K n H) {j : Nat} (hj : j < 64) (hdg : decode cc pc = .ok (.iaload, 1)) (kk : W p l e R s m args below meth c H locs cells slots Q (F0 m (pc + 1) ls (.int (K 1 j) :: rest))) : W p l e R s m args below meth c H locs cells slots Q (F0 m pc ls (.int (nI j) :: .ref (ad 21) :: rest)) := by
  refine va_iald (D := D) E.1 E.2.1 hK hT.1 16 0 rfl rfl (vp_in_nI hj (by decide)) hdg ?_
  rw [nI_clamp (by omega)]
  exact kk
theorem ts_21 (E : Cx p s m args meth c cc R_Tw nL ret) (hK : va_K D cls (tys dA) s) (hT : RK D dA ad A g K n H) (hS : va_S A H0 H locs) {j : Nat} {x : Int32} (hj : j < 64) (hdg : decode cc pc = .ok (.iastore, 1)) (kk : ∀ (H1 : Heap) (locs1 : List Loc), RK D dA ad A g (up2 K 1 j x) n H1 → va_S A H0 H1 locs1 → W p l e R s m args below meth c H1 locs1 cells slots Q (F0 m (pc + 1) ls rest)) : W p l e R s m args below meth c H locs cells slots Q (F0 m pc ls (.int x :: .int (nI j) :: .ref (ad 21) :: rest)) := by
  refine va_iast (D := D) E.1 E.2.1 hK hT.1 hT.2 hS 16 0 rfl rfl (vp_in_nI hj (by decide)) hdg (fun H1 locs1 hP hD hS1 => ?_)
  rw [nI_clamp (by omega)] at hP hD
  exact kk H1 locs1 ⟨hP, hD⟩ hS1
theorem tl_22 (E : Cx p s m args meth c cc R_Tw nL ret) (hK : va_K D cls (tys dA) s) (hT : RK D dA ad A g K n H) {j : Nat} (hj : j < 64) (hdg : decode cc pc = .ok (.iaload, 1)) (kk : W p l e R s m args below meth c H locs cells slots Q (F0 m (pc + 1) ls (.int (K 2 j) :: rest))) : W p l e R s m args below meth c H locs cells slots Q (F0 m pc ls (.int (nI j) :: .ref (ad 22) :: rest)) := by
  refine va_iald (D := D) E.1 E.2.1 hK hT.1 17 0 rfl rfl (vp_in_nI hj (by decide)) hdg ?_
  rw [nI_clamp (by omega)]
  exact kk
theorem ts_22 (E : Cx p s m args meth c cc R_Tw nL ret) (hK : va_K D cls (tys dA) s) (hT : RK D dA ad A g K n H) (hS : va_S A H0 H locs) {j : Nat} {x : Int32} (hj : j < 64) (hdg : decode cc pc = .ok (.iastore, 1)) (kk : ∀ (H1 : Heap) (locs1 : List Loc), RK D dA ad A g (up2 K 2 j x) n H1 → va_S A H0 H1 locs1 → W p l e R s m args below meth c H1 locs1 cells slots Q (F0 m (pc + 1) ls rest)) : W p l e R s m args below meth c H locs cells slots Q (F0 m pc ls (.int x :: .int (nI j) :: .ref (ad 22) :: rest)) := by
  refine va_iast (D := D) E.1 E.2.1 hK hT.1 hT.2 hS 17 0 rfl rfl (vp_in_nI hj (by decide)) hdg (fun H1 locs1 hP hD hS1 => ?_)
  rw [nI_clamp (by omega)] at hP hD
  exact kk H1 locs1 ⟨hP, hD⟩ hS1
theorem tl_23 (E : Cx p s m args meth c cc R_Tw nL ret) (hK : va_K D cls (tys dA) s) (hT : RK D dA ad A g K n H) {j : Nat} (hj : j < 64) (hdg : decode cc pc = .ok (.iaload, 1)) (kk : W p l e R s m args below meth c H locs cells slots Q (F0 m (pc + 1) ls (.int (K 3 j) :: rest))) : W p l e R s m args below meth c H locs cells slots Q (F0 m pc ls (.int (nI j) :: .ref (ad 23) :: rest)) := by
  refine va_iald (D := D) E.1 E.2.1 hK hT.1 18 0 rfl rfl (vp_in_nI hj (by decide)) hdg ?_
  rw [nI_clamp (by omega)]
  exact kk
theorem ts_23 (E : Cx p s m args meth c cc R_Tw nL ret) (hK : va_K D cls (tys dA) s) (hT : RK D dA ad A g K n H) (hS : va_S A H0 H locs) {j : Nat} {x : Int32} (hj : j < 64) (hdg : decode cc pc = .ok (.iastore, 1)) (kk : ∀ (H1 : Heap) (locs1 : List Loc), RK D dA ad A g (up2 K 3 j x) n H1 → va_S A H0 H1 locs1 → W p l e R s m args below meth c H1 locs1 cells slots Q (F0 m (pc + 1) ls rest)) : W p l e R s m args below meth c H locs cells slots Q (F0 m pc ls (.int x :: .int (nI j) :: .ref (ad 23) :: rest)) := by
  refine va_iast (D := D) E.1 E.2.1 hK hT.1 hT.2 hS 18 0 rfl rfl (vp_in_nI hj (by decide)) hdg (fun H1 locs1 hP hD hS1 => ?_)
  rw [nI_clamp (by omega)] at hP hD
  exact kk H1 locs1 ⟨hP, hD⟩ hS1
theorem tl_24 (E : Cx p s m args meth c cc R_Tw nL ret) (hK : va_K D cls (tys dA) s) (hT : RK D dA ad A g K n H) {j : Nat} (hj : j < 64) (hdg : decode cc pc = .ok (.iaload, 1)) (kk : W p l e R s m args below meth c H locs cells slots Q (F0 m (pc + 1) ls (.int (K 4 j) :: rest))) : W p l e R s m args below meth c H locs cells slots Q (F0 m pc ls (.int (nI j) :: .ref (ad 24) :: rest)) := by
  refine va_iald (D := D) E.1 E.2.1 hK hT.1 19 0 rfl rfl (vp_in_nI hj (by decide)) hdg ?_
  rw [nI_clamp (by omega)]
  exact kk
theorem ts_24 (E : Cx p s m args meth c cc R_Tw nL ret) (hK : va_K D cls (tys dA) s) (hT : RK D dA ad A g K n H) (hS : va_S A H0 H locs) {j : Nat} {x : Int32} (hj : j < 64) (hdg : decode cc pc = .ok (.iastore, 1)) (kk : ∀ (H1 : Heap) (locs1 : List Loc), RK D dA ad A g (up2 K 4 j x) n H1 → va_S A H0 H1 locs1 → W p l e R s m args below meth c H1 locs1 cells slots Q (F0 m (pc + 1) ls rest)) : W p l e R s m args below meth c H locs cells slots Q (F0 m pc ls (.int x :: .int (nI j) :: .ref (ad 24) :: rest)) := by
  refine va_iast (D := D) E.1 E.2.1 hK hT.1 hT.2 hS 19 0 rfl rfl (vp_in_nI hj (by decide)) hdg (fun H1 locs1 hP hD hS1 => ?_)
  rw [nI_clamp (by omega)] at hP hD
  exact kk H1 locs1 ⟨hP, hD⟩ hS1
theorem tl_25 (E : Cx p s m args meth c cc R_Tw nL ret) (hK : va_K D cls (tys dA) s) (hT : RK D dA ad A g K n H) {j : Nat} (hj : j < 64) (hdg : decode cc pc = .ok (.iaload, 1)) (kk : W p l e R s m args below meth c H locs cells slots Q (F0 m (pc + 1) ls (.int (K 5 j) :: rest))) : W p l e R s m args below meth c H locs cells slots Q (F0 m pc ls (.int (nI j) :: .ref (ad 25) :: rest)) := by
  refine va_iald (D := D) E.1 E.2.1 hK hT.1 20 0 rfl rfl (vp_in_nI hj (by decide)) hdg ?_
  rw [nI_clamp (by omega)]
  exact kk
theorem ts_25 (E : Cx p s m args meth c cc R_Tw nL ret) (hK : va_K D cls (tys dA) s) (hT : RK D dA ad A g K n H) (hS : va_S A H0 H locs) {j : Nat} {x : Int32} (hj : j < 64) (hdg : decode cc pc = .ok (.iastore, 1)) (kk : ∀ (H1 : Heap) (locs1 : List Loc), RK D dA ad A g (up2 K 5 j x) n H1 → va_S A H0 H1 locs1 → W p l e R s m args below meth c H1 locs1 cells slots Q (F0 m (pc + 1) ls rest)) : W p l e R s m args below meth c H locs cells slots Q (F0 m pc ls (.int x :: .int (nI j) :: .ref (ad 25) :: rest)) := by
  refine va_iast (D := D) E.1 E.2.1 hK hT.1 hT.2 hS 20 0 rfl rfl (vp_in_nI hj (by decide)) hdg (fun H1 locs1 hP hD hS1 => ?_)
  rw [nI_clamp (by omega)] at hP hD
  exact kk H1 locs1 ⟨hP, hD⟩ hS1
theorem tl_26 (E : Cx p s m args meth c cc R_Tw nL ret) (hK : va_K D cls (tys dA) s) (hT : RK D dA ad A g K n H) {j : Nat} (hj : j < 64) (hdg : decode cc pc = .ok (.iaload, 1)) (kk : W p l e R s m args below meth c H locs cells slots Q (F0 m (pc + 1) ls (.int (K 6 j) :: rest))) : W p l e R s m args below meth c H locs cells slots Q (F0 m pc ls (.int (nI j) :: .ref (ad 26) :: rest)) := by
  refine va_iald (D := D) E.1 E.2.1 hK hT.1 21 0 rfl rfl (vp_in_nI hj (by decide)) hdg ?_
  rw [nI_clamp (by omega)]
  exact kk
theorem ts_26 (E : Cx p s m args meth c cc R_Tw nL ret) (hK : va_K D cls (tys dA) s) (hT : RK D dA ad A g K n H) (hS : va_S A H0 H locs) {j : Nat} {x : Int32} (hj : j < 64) (hdg : decode cc pc = .ok (.iastore, 1)) (kk : ∀ (H1 : Heap) (locs1 : List Loc), RK D dA ad A g (up2 K 6 j x) n H1 → va_S A H0 H1 locs1 → W p l e R s m args below meth c H1 locs1 cells slots Q (F0 m (pc + 1) ls rest)) : W p l e R s m args below meth c H locs cells slots Q (F0 m pc ls (.int x :: .int (nI j) :: .ref (ad 26) :: rest)) := by
  refine va_iast (D := D) E.1 E.2.1 hK hT.1 hT.2 hS 21 0 rfl rfl (vp_in_nI hj (by decide)) hdg (fun H1 locs1 hP hD hS1 => ?_)
  rw [nI_clamp (by omega)] at hP hD
  exact kk H1 locs1 ⟨hP, hD⟩ hS1
theorem tp_12 (E : Cx p s m args meth c cc R_Tw nL ret) (hK : va_K D cls (tys dA) s) (hT : RK D dA ad A g K n H) (hS : va_S A H0 H locs) {x : Int32} (hdg : decode cc pc = .ok (.putfield 101, 3)) (kk : ∀ (H1 : Heap) (locs1 : List Loc), RK D dA ad A (up2 g 12 0 x) K n H1 → va_S A H0 H1 locs1 → W p l e R s m args below meth c H1 locs1 cells slots Q (F0 m (pc + 3) ls rest)) : W p l e R s m args below meth c H locs cells slots Q (F0 m pc ls (.int x :: .ref (ad 0) :: rest)) :=
  va_put (D := D) (ci := 12) (v := .int x) (ty := .int) (C := R_Tw) (T := F_Tw) (N := 27) E.1 E.2.1 E.2.2.2.2.1 i_Tw t_Tw t_Tw_ok n_Tw E.2.2.2.1 hK hT.1 hT.2 hS 0 rfl rfl 12 (by decide) (E.2.2.2.2.1 _ zf_Tw_101) (fun _ h => h) rfl (by decide +kernel) rfl rfl (Nat.le_of_ble_eq_true rfl) hdg (fun H1 locs1 hP hD hS1 => kk H1 locs1 ⟨hP, hD⟩ hS1)
theorem tp_17 (E : Cx p s m args meth c cc R_Tw nL ret) (hK : va_K D cls (tys dA) s) (hT : RK D dA ad A g K n H) (hS : va_S A H0 H locs) {q : Nat} (hdg : decode cc pc = .ok (.putfield 91, 3)) (kk : ∀ (H1 : Heap) (locs1 : List Loc), RK D dA ad A g K q H1 → va_S A H0 H1 locs1 → W p l e R s m args below meth c H1 locs1 cells slots Q (F0 m (pc + 3) ls rest)) : W p l e R s m args below meth c H locs cells slots Q (F0 m pc ls (.int (nI q) :: .ref (ad 0) :: rest)) :=
  va_put (D := D) (ci := 12) (v := .int (nI q)) (ty := .int) (C := R_Tw) (T := F_Tw) (N := 27) E.1 E.2.1 E.2.2.2.2.1 i_Tw t_Tw t_Tw_ok n_Tw E.2.2.2.1 hK hT.1 hT.2 hS 0 rfl rfl 17 (by decide) (E.2.2.2.2.1 _ zf_Tw_91) (fun _ h => h) rfl (by decide +kernel) rfl rfl (Nat.le_of_ble_eq_true rfl) hdg (fun H1 locs1 hP hD hS1 => kk H1 locs1 ⟨hP, hD⟩ hS1)
theorem tp_18 (E : Cx p s m args meth c cc R_Tw nL ret) (hK : va_K D cls (tys dA) s) (hT : RK D dA ad A g K n H) (hS : va_S A H0 H locs) {x : Int32} (hdg : decode cc pc = .ok (.putfield 94, 3)) (kk : ∀ (H1 : Heap) (locs1 : List Loc), RK D dA ad A (up2 g 18 0 x) K n H1 → va_S A H0 H1 locs1 → W p l e R s m args below meth c H1 locs1 cells slots Q (F0 m (pc + 3) ls rest)) : W p l e R s m args below meth c H locs cells slots Q (F0 m pc ls (.int x :: .ref (ad 0) :: rest)) :=
  va_put (D := D) (ci := 12) (v := .int x) (ty := .int) (C := R_Tw) (T := F_Tw) (N := 27) E.1 E.2.1 E.2.2.2.2.1 i_Tw t_Tw t_Tw_ok n_Tw E.2.2.2.1 hK hT.1 hT.2 hS 0 rfl rfl 18 (by decide) (E.2.2.2.2.1 _ zf_Tw_94) (fun _ h => h) rfl (by decide +kernel) rfl rfl (Nat.le_of_ble_eq_true rfl) hdg (fun H1 locs1 hP hD hS1 => kk H1 locs1 ⟨hP, hD⟩ hS1)
theorem tp_19 (E : Cx p s m args meth c cc R_Tw nL ret) (hK : va_K D cls (tys dA) s) (hT : RK D dA ad A g K n H) (hS : va_S A H0 H locs) {x : Int32} (hdg : decode cc pc = .ok (.putfield 104, 3)) (kk : ∀ (H1 : Heap) (locs1 : List Loc), RK D dA ad A (up2 g 19 0 x) K n H1 → va_S A H0 H1 locs1 → W p l e R s m args below meth c H1 locs1 cells slots Q (F0 m (pc + 3) ls rest)) : W p l e R s m args below meth c H locs cells slots Q (F0 m pc ls (.int x :: .ref (ad 0) :: rest)) :=
  va_put (D := D) (ci := 12) (v := .int x) (ty := .int) (C := R_Tw) (T := F_Tw) (N := 27) E.1 E.2.1 E.2.2.2.2.1 i_Tw t_Tw t_Tw_ok n_Tw E.2.2.2.1 hK hT.1 hT.2 hS 0 rfl rfl 19 (by decide) (E.2.2.2.2.1 _ zf_Tw_104) (fun _ h => h) rfl (by decide +kernel) rfl rfl (Nat.le_of_ble_eq_true rfl) hdg (fun H1 locs1 hP hD hS1 => kk H1 locs1 ⟨hP, hD⟩ hS1)
end TWR
