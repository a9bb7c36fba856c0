theorem ck_Net_56 : CallK R_Net 56 R_Net y_Net_send b_Net_send 6 (some (FieldType.object "HomeDirectory$Message")) 4 := ⟨gdV zm_Net_56 zi_Net_send zs_Net_Net_send zn_Net zk_Net_send, by decide +kernel⟩
theorem ck_Net_60 : CallK R_Net 60 R_Msg y_Msg_sameWay b_Msg_sameWay 2 (some FieldType.boolean) 1 := ⟨gdV zm_Net_60 zi_Msg_sameWay zs_Msg_Msg_sameWay zn_Msg zk_Msg_sameWay, by decide +kernel⟩
theorem send_mx0 {eA : Nat → Nat → Nat} {sp L : List Nat} {f f9 : Nat → va_E} {iv : Nat → Nat × Nat} {q kd fr t b : Nat} (hM : MX eA [] [] sp L f iv) (hL : q ∈ L) (h13 : (iv q).1 = 13) (hn : q ∉ [] ++ sp) (hf : f9 q = .inr (11, [.ref (eA 0 kd), .int (nI fr), .int (nI t), .int (nI b), .int 0, .int 0, .int (-1), .null])) (ho : ∀ x ∈ [] ++ sp, f9 x = f x) : MX eA ([] ++ [(kd, fr, t, b, 0, 0, 0)]) ([] ++ [q]) sp L f9 iv := by
  obtain ⟨m1, m2, m3, m4, m5⟩ := hM
  refine ⟨rfl, List.nodup_cons.mpr ⟨hn, m2⟩, fun x hx => ?_, fun j x z hx hz => ?_, fun j x hx => ?_⟩
  · rcases List.mem_cons.mp hx with rfl | hx
    · exact ⟨hL, h13⟩
    · exact m3 x hx
  · cases j with
    | zero =>
      cases hx; cases hz
      rw [hf]
      show _ = mcl eA (kd, fr, t, b, 0, 0, 0) none
      rw [mcl, rq_0]
      rfl
    | succ j => simp at hx
  · obtain ⟨vs, h1, h2⟩ := m5 j x hx
    exact ⟨vs, h1, by rw [ho x (List.mem_of_getElem? hx)]; exact h2⟩
theorem send_mx1 {eA : Nat → Nat → Nat} {M : List Msg} {as0 sp L : List Nat} {la : Nat} {f f9 : Nat → va_E} {iv : Nat → Nat × Nat} {q kd fr t b : Nat} {zl : Msg} (hM : MX eA M (as0 ++ [la]) sp L f iv) (hL : q ∈ L) (h13 : (iv q).1 = 13) (hn : q ∉ (as0 ++ [la]) ++ sp) (hzl : M[as0.length]? = some zl) (hf : f9 q = .inr (11, [.ref (eA 0 kd), .int (nI fr), .int (nI t), .int (nI b), .int 0, .int 0, .int (-1), .null])) (hfl : f9 la = .inr (11, [.ref (eA 0 zl.1), .int (nI zl.2.1), .int (nI zl.2.2.1), .int (nI zl.2.2.2.1), .int zl.2.2.2.2.1, .int (nI zl.2.2.2.2.2.1), .int (rq zl.2.2.2.2.2.2), .ref q])) (ho : ∀ x ∈ (as0 ++ [la]) ++ sp, x ≠ la → f9 x = f x) : MX eA (M ++ [(kd, fr, t, b, 0, 0, 0)]) ((as0 ++ [la]) ++ [q]) sp L f9 iv := by
  obtain ⟨m1, m2, m3, m4, m5⟩ := hM
  have hlen : as0.length + 1 = M.length := by simpa using m1
  have hd := List.nodup_append.mp m2
  refine ⟨by simp [hlen], ?_, fun x hx => ?_, fun j x z hx hz => ?_, fun j x hx => ?_⟩
  · rw [List.append_assoc, List.nodup_append]
    refine ⟨hd.1, List.nodup_cons.mpr ⟨fun h => hn (List.mem_append_right _ h), hd.2.1⟩, fun x hx y hy e => ?_⟩
    rcases List.mem_cons.mp hy with rfl | hy
    · exact hn (e ▸ List.mem_append_left _ hx)
    · exact hd.2.2 x hx y hy e
  · rw [List.append_assoc] at hx
    rcases List.mem_append.mp hx with hx | hx
    · exact m3 x (List.mem_append_left _ hx)
    · rcases List.mem_cons.mp hx with rfl | hx
      · exact ⟨hL, h13⟩
      · exact m3 x (List.mem_append_right _ hx)
  · by_cases hj : j < as0.length + 1
    · rw [List.getElem?_append_left (by simpa using hj)] at hx
      rw [List.getElem?_append_left (by omega)] at hz
      by_cases hjl : j = as0.length
      · subst hjl
        rw [hzl] at hz
        cases hz
        have hxl : x = la := by simpa using hx.symm
        subst hxl
        rw [hfl, mcl, show ((as0 ++ [x]) ++ [q])[as0.length + 1]? = some q by rw [List.getElem?_append_right (by simp)]; simp]
        rfl
      · have hxm : x ∈ as0 ++ [la] := List.mem_of_getElem? hx
        have hxla : x ≠ la := by
          intro e
          subst e
          have d1 : (as0 ++ [x])[as0.length]? = some x := by simp
          have := (List.getElem?_inj (List.getElem?_eq_some_iff.mp hx).1 hd.1).mp (hx.trans d1.symm)
          omega
        rw [ho x (List.mem_append_left _ hxm) hxla, m4 j x z hx hz, show ((as0 ++ [la]) ++ [q])[j + 1]? = (as0 ++ [la])[j + 1]? from List.getElem?_append_left (by simp; omega)]
    · have hlx := (List.getElem?_eq_some_iff.mp hx).1
      have hj2 : j = M.length := by
        have : j < as0.length + 1 + 1 := by simpa using hlx
        omega
      subst hj2
      rw [List.getElem?_append_right (by simp; omega)] at hx
      rw [List.getElem?_append_right (Nat.le_refl _), Nat.sub_self] at hz
      cases hz
      have hxq : x = q := by
        have e0 : M.length - (as0 ++ [la]).length = 0 := by simp; omega
        rw [e0] at hx
        simpa using hx.symm
      subst hxq
      rw [hf, mcl, rq_0, show ((as0 ++ [la]) ++ [x])[M.length + 1]? = none by rw [List.getElem?_eq_none]; simp; omega]
      rfl
  · have hxs := List.mem_of_getElem? hx
    obtain ⟨vs, h1, h2⟩ := m5 j x hx
    refine ⟨vs, h1, ?_⟩
    rw [ho x (List.mem_append_right _ hxs) (fun e => hd.2.2 la (by simp) x hxs e.symm)]
    exact h2
theorem rf_nar {C : String} (x : Option Nat) : narrow (.object C) (va_rf x) = va_rf x := by cases x <;> rfl
theorem rf_fit {C : String} (x : Option Nat) : fits (.object C) (va_rf x) = true := by cases x <;> rfl
theorem c_Msg_init (l : Launch) (q : Nat) : Met l y_Msg_init (k_Msg_init :: wz) (rml 1 0 0) (fun v _ => v = ([.ref q] : List Value).toArray) (va_Sv (fun _ => True)) 0 0 (fun _ => False) := by
  refine st_entry (by decide) (Nat.le_of_ble_eq_true rfl) ?_
  intro p e s m below meth c0 E ls hl
  have hx := E.1
  have hb := E.2.1
  replace hl : lv_has ls 1 [(0, .ref q)] := hl
  refine lv_aload_n hx hb d_Msg_init_0 rfl (lv_at hl 0 rfl) ?_
  refine W.objInit hx hb E.2.2.2.1 (E.2.2.2.2.1 _ zm_Msg_1) (E.2.2.2.2.1 _ zi_Obj_init) (E.2.2.2.2.1 _ zk_Obj_init) rfl (by rw [E.2.2.1]; exact hl.1) rfl d_Msg_init_1 (Nat.le_of_ble_eq_true rfl) (Nat.le_of_ble_eq_true rfl) ?_
  refine W.eq (g2 := F0 m 4 ls []) rfl ?_
  exact W.vret hx hb E.2.2.2.2.2.1 (fun t ht _ => ⟨rfl, trivial, ht⟩) (fun q h => by cases h) d_Msg_init_4 E.2.2.2.2.2.2
theorem ct_sp {dA : Nat → ClassId} {eA ad : Nat → Nat → Nat} {N : Nat} {g : PS} {as sp as' sp' : List Nat} (s i : Nat) (hv : vl N s i) (h : s ≠ 1) : ct dA eA ad N g as' sp' s i = ct dA eA ad N g as sp s i := by
  have h13 := vl_lt hv
  rcases (show s = 0 ∨ s = 2 ∨ s = 3 ∨ s = 4 ∨ s = 5 ∨ s = 6 ∨ s = 7 ∨ s = 8 ∨ s = 9 ∨ s = 10 ∨ s = 11 ∨ s = 12 by omega) with rfl | rfl | rfl | rfl | rfl | rfl | rfl | rfl | rfl | rfl | rfl | rfl <;> simp only [ct]
set_option maxHeartbeats 4000000 in
set_option maxRecDepth 100000 in
theorem send_tail {p : Program} {e : Env} {R : Room} {s : State} {m : MethodId} {args : Array Value} {below : List Frame} {meth : Method} {c0 : Code} {H : Heap} {locs : List Loc} (l : Launch) (D : va_G) (dA : Nat → ClassId) (eA ad : Nat → Nat → Nat) (A : Nat → Prop) (N : Nat) (g : PS) (M : List Msg) (as sp : List Nat) (kd fr t b : Nat)
    (E : Cx p s m args meth c0 b_Net_send R_Net 6 (some (.object "HomeDirectory$Message"))) (hC : CX D dA eA A s) {L : List Nat} {f : Nat → va_E} {iv : Nat → Nat × Nat} (hP : va_P D cls (va_pl L f) H) (hD : va_D A (va_pl L f)) (hS : va_S A s.heap H locs) (hF : FX dA eA ad N g as sp L f iv) (hM : MX eA M as sp L f iv)
    {q : Nat} (hL_q : q ∈ L) (hq13 : (iv q).1 = 13) (hqn : q ∉ as ++ sp) {w0 w1 w2 w3 w4 w5 w6 w7 : Value} (hf_q : f q = .inr (11, [w0, w1, w2, w3, w4, w5, w6, w7])) {ls : Array Slot} (hl : lv_has ls 6 [(5, .ref q), (0, .ref (ad 1 0)), (1, .ref (eA 0 kd)), (2, .int (nI fr)), (3, .int (nI t)), (4, .int (nI b))]) : W p l e R s m args below meth c0 H locs 1 8 (MQ below (XQr D dA eA ad A N (snd g) (M ++ [(kd, fr, t, b, 0, 0, 0)]) as) args s 1 8 A) (F0 m 32 ls []) := by
  have hx := E.1
  have hb := E.2.1
  obtain ⟨hL_net, hin, hf_net⟩ := hF 1 0 rfl
  have ne_q_net : q ≠ ad 1 0 := fun e9 => by rw [e9, hin] at hq13; exact absurd hq13 (by decide)
  rcases List.eq_nil_or_concat as with h0 | ⟨as0, la, h0⟩
  · subst h0
    replace hf_net : f (ad 1 0) = .inr (1, [.null, .null, va_rf sp.head?, .int (nI 0), .int (g 18 0)]) := hf_net
    have hfo : ∀ x, (x ≠ q ∧ x ≠ ad 1 0) → f x = f x := fun _ _ => rfl
    refine lv_aload hx hb d_Net_send_32 (lv_at hl 0 rfl) ?_
    refine lv_aload_n hx hb d_Net_send_34 rfl (lv_at hl 2 rfl) ?_
    refine q_put (ci := 11) (C := R_Msg) (T := F_Msg) (Nn := 8) (v := .ref (eA 0 kd)) E hC.1 hP hD hS hL_q hf_q rfl i_Msg t_Msg t_Msg_ok n_Msg 0 (by decide) zf_Net_21 rfl rfl rfl (Nat.le_of_ble_eq_true rfl) rfl d_Net_send_35 (fun H locs f9 h9 h8 hP hD hS => ?_)
    replace hf_q : f9 q = .inr (11, [.ref (eA 0 kd), w1, w2, w3, w4, w5, w6, w7]) := h9
    replace hf_net := (h8 (ad 1 0) ne_q_net.symm).trans hf_net
    replace hfo := fun x hx => (h8 x hx.1).trans (hfo x hx)
    refine lv_aload hx hb d_Net_send_38 (lv_at hl 0 rfl) ?_
    refine lv_iload_n hx hb d_Net_send_40 rfl (lv_at hl 3 rfl) ?_
    refine q_put (ci := 11) (C := R_Msg) (T := F_Msg) (Nn := 8) (v := .int (nI fr)) E hC.1 hP hD hS hL_q hf_q rfl i_Msg t_Msg t_Msg_ok n_Msg 1 (by decide) zf_Net_25 rfl rfl rfl (Nat.le_of_ble_eq_true rfl) rfl d_Net_send_41 (fun H locs f9 h9 h8 hP hD hS => ?_)
    replace hf_q : f9 q = .inr (11, [.ref (eA 0 kd), .int (nI fr), w2, w3, w4, w5, w6, w7]) := h9
    replace hf_net := (h8 (ad 1 0) ne_q_net.symm).trans hf_net
    replace hfo := fun x hx => (h8 x hx.1).trans (hfo x hx)
    refine lv_aload hx hb d_Net_send_44 (lv_at hl 0 rfl) ?_
    refine lv_iload_n hx hb d_Net_send_46 rfl (lv_at hl 4 rfl) ?_
    refine q_put (ci := 11) (C := R_Msg) (T := F_Msg) (Nn := 8) (v := .int (nI t)) E hC.1 hP hD hS hL_q hf_q rfl i_Msg t_Msg t_Msg_ok n_Msg 2 (by decide) zf_Net_29 rfl rfl rfl (Nat.le_of_ble_eq_true rfl) rfl d_Net_send_47 (fun H locs f9 h9 h8 hP hD hS => ?_)
    replace hf_q : f9 q = .inr (11, [.ref (eA 0 kd), .int (nI fr), .int (nI t), w3, w4, w5, w6, w7]) := h9
    replace hf_net := (h8 (ad 1 0) ne_q_net.symm).trans hf_net
    replace hfo := fun x hx => (h8 x hx.1).trans (hfo x hx)
    refine lv_aload hx hb d_Net_send_50 (lv_at hl 0 rfl) ?_
    refine lv_iload hx hb d_Net_send_52 (lv_at hl 5 rfl) ?_
    refine q_put (ci := 11) (C := R_Msg) (T := F_Msg) (Nn := 8) (v := .int (nI b)) E hC.1 hP hD hS hL_q hf_q rfl i_Msg t_Msg t_Msg_ok n_Msg 3 (by decide) zf_Net_32 rfl rfl rfl (Nat.le_of_ble_eq_true rfl) rfl d_Net_send_54 (fun H locs f9 h9 h8 hP hD hS => ?_)
    replace hf_q : f9 q = .inr (11, [.ref (eA 0 kd), .int (nI fr), .int (nI t), .int (nI b), w4, w5, w6, w7]) := h9
    replace hf_net := (h8 (ad 1 0) ne_q_net.symm).trans hf_net
    replace hfo := fun x hx => (h8 x hx.1).trans (hfo x hx)
    refine lv_aload hx hb d_Net_send_57 (lv_at hl 0 rfl) ?_
    refine lv_iconst (v := 0) hx hb d_Net_send_59 (by decide) ?_
    refine q_put (ci := 11) (C := R_Msg) (T := F_Msg) (Nn := 8) (v := .int 0) E hC.1 hP hD hS hL_q hf_q rfl i_Msg t_Msg t_Msg_ok n_Msg 4 (by decide) zf_Net_35 rfl rfl rfl (Nat.le_of_ble_eq_true rfl) rfl d_Net_send_60 (fun H locs f9 h9 h8 hP hD hS => ?_)
    replace hf_q : f9 q = .inr (11, [.ref (eA 0 kd), .int (nI fr), .int (nI t), .int (nI b), .int 0, w5, w6, w7]) := h9
    replace hf_net := (h8 (ad 1 0) ne_q_net.symm).trans hf_net
    replace hfo := fun x hx => (h8 x hx.1).trans (hfo x hx)
    refine lv_aload hx hb d_Net_send_63 (lv_at hl 0 rfl) ?_
    refine lv_iconst (v := 0) hx hb d_Net_send_65 (by decide) ?_
    refine q_put (ci := 11) (C := R_Msg) (T := F_Msg) (Nn := 8) (v := .int 0) E hC.1 hP hD hS hL_q hf_q rfl i_Msg t_Msg t_Msg_ok n_Msg 5 (by decide) zf_Net_38 rfl rfl rfl (Nat.le_of_ble_eq_true rfl) rfl d_Net_send_66 (fun H locs f9 h9 h8 hP hD hS => ?_)
    replace hf_q : f9 q = .inr (11, [.ref (eA 0 kd), .int (nI fr), .int (nI t), .int (nI b), .int 0, .int 0, w6, w7]) := h9
    replace hf_net := (h8 (ad 1 0) ne_q_net.symm).trans hf_net
    replace hfo := fun x hx => (h8 x hx.1).trans (hfo x hx)
    refine lv_aload hx hb d_Net_send_69 (lv_at hl 0 rfl) ?_
    refine lv_iconst (v := (-1)) hx hb d_Net_send_71 (by decide) ?_
    refine q_put (ci := 11) (C := R_Msg) (T := F_Msg) (Nn := 8) (v := .int (-1)) E hC.1 hP hD hS hL_q hf_q rfl i_Msg t_Msg t_Msg_ok n_Msg 6 (by decide) zf_Net_41 rfl rfl rfl (Nat.le_of_ble_eq_true rfl) rfl d_Net_send_72 (fun H locs f9 h9 h8 hP hD hS => ?_)
    replace hf_q : f9 q = .inr (11, [.ref (eA 0 kd), .int (nI fr), .int (nI t), .int (nI b), .int 0, .int 0, .int (-1), w7]) := h9
    replace hf_net := (h8 (ad 1 0) ne_q_net.symm).trans hf_net
    replace hfo := fun x hx => (h8 x hx.1).trans (hfo x hx)
    refine lv_aload hx hb d_Net_send_75 (lv_at hl 0 rfl) ?_
    refine lv_null hx hb d_Net_send_77 ?_
    refine q_put (ci := 11) (C := R_Msg) (T := F_Msg) (Nn := 8) (v := .null) E hC.1 hP hD hS hL_q hf_q rfl i_Msg t_Msg t_Msg_ok n_Msg 7 (by decide) zf_Net_18 rfl rfl rfl (Nat.le_of_ble_eq_true rfl) rfl d_Net_send_78 (fun H locs f9 h9 h8 hP hD hS => ?_)
    replace hf_q : f9 q = .inr (11, [.ref (eA 0 kd), .int (nI fr), .int (nI t), .int (nI b), .int 0, .int 0, .int (-1), .null]) := h9
    replace hf_net := (h8 (ad 1 0) ne_q_net.symm).trans hf_net
    replace hfo := fun x hx => (h8 x hx.1).trans (hfo x hx)
    refine lv_aload_n hx hb d_Net_send_81 rfl (lv_at hl 1 rfl) ?_
    refine r_get (ci := 1) (C := R_Net) (T := F_Net) (Nn := 5) (v := .null) E hC.1 hP hL_net hf_net rfl i_Net 0 (by decide) zf_Net_44 (fun _ h => h) rfl d_Net_send_82 ?_
    refine lv_ifnonnullN hx hb d_Net_send_85 ?_
    refine lv_aload_n hx hb d_Net_send_88 rfl (lv_at hl 1 rfl) ?_
    refine lv_aload hx hb d_Net_send_89 (lv_at hl 0 rfl) ?_
    refine q_put (ci := 1) (C := R_Net) (T := F_Net) (Nn := 5) (v := .ref q) E hC.1 hP hD hS hL_net hf_net rfl i_Net t_Net t_Net_ok n_Net 0 (by decide) zf_Net_44 rfl rfl rfl (Nat.le_of_ble_eq_true rfl) rfl d_Net_send_91 (fun H locs f9 h9 h8 hP hD hS => ?_)
    replace hf_net : f9 (ad 1 0) = .inr (1, [.ref q, .null, va_rf sp.head?, .int (nI 0), .int (g 18 0)]) := h9
    replace hf_q := (h8 q ne_q_net).trans hf_q
    replace hfo := fun x hx => (h8 x hx.2).trans (hfo x hx)
    refine lv_goto (tgt := 106) hx hb d_Net_send_94 (by decide) ?_
    refine lv_aload_n hx hb d_Net_send_106 rfl (lv_at hl 1 rfl) ?_
    refine lv_aload hx hb d_Net_send_107 (lv_at hl 0 rfl) ?_
    refine q_put (ci := 1) (C := R_Net) (T := F_Net) (Nn := 5) (v := .ref q) E hC.1 hP hD hS hL_net hf_net rfl i_Net t_Net t_Net_ok n_Net 1 (by decide) zf_Net_47 rfl rfl rfl (Nat.le_of_ble_eq_true rfl) rfl d_Net_send_109 (fun H locs f9 h9 h8 hP hD hS => ?_)
    replace hf_net : f9 (ad 1 0) = .inr (1, [.ref q, .ref q, va_rf sp.head?, .int (nI 0), .int (g 18 0)]) := h9
    replace hf_q := (h8 q ne_q_net).trans hf_q
    replace hfo := fun x hx => (h8 x hx.2).trans (hfo x hx)
    refine lv_aload_n hx hb d_Net_send_112 rfl (lv_at hl 1 rfl) ?_
    refine lv_dup hx hb d_Net_send_113 rfl ?_
    refine r_get (ci := 1) (C := R_Net) (T := F_Net) (Nn := 5) (v := .int (nI 0)) E hC.1 hP hL_net hf_net rfl i_Net 3 (by decide) zf_Net_50 (fun _ h => h) rfl d_Net_send_114 ?_
    refine lv_iconst (v := 1) hx hb d_Net_send_117 (by decide) ?_
    refine wn_add hx hb (a := 0) (b := 1) d_Net_send_118 ?_
    refine q_put (ci := 1) (C := R_Net) (T := F_Net) (Nn := 5) (v := .int (nI (0 + 1))) E hC.1 hP hD hS hL_net hf_net rfl i_Net t_Net t_Net_ok n_Net 3 (by decide) zf_Net_50 rfl rfl rfl (Nat.le_of_ble_eq_true rfl) rfl d_Net_send_119 (fun H locs f9 h9 h8 hP hD hS => ?_)
    replace hf_net : f9 (ad 1 0) = .inr (1, [.ref q, .ref q, va_rf sp.head?, .int (nI (0 + 1)), .int (g 18 0)]) := h9
    replace hf_q := (h8 q ne_q_net).trans hf_q
    replace hfo := fun x hx => (h8 x hx.2).trans (hfo x hx)
    refine lv_aload_n hx hb d_Net_send_122 rfl (lv_at hl 1 rfl) ?_
    refine lv_dup hx hb d_Net_send_123 rfl ?_
    refine r_get (ci := 1) (C := R_Net) (T := F_Net) (Nn := 5) (v := .int (g 18 0)) E hC.1 hP hL_net hf_net rfl i_Net 4 (by decide) zf_Net_53 (fun _ h => h) rfl d_Net_send_124 ?_
    refine lv_iconst (v := 1) hx hb d_Net_send_127 (by decide) ?_
    refine lv_iadd hx hb d_Net_send_128 ?_
    refine q_put (ci := 1) (C := R_Net) (T := F_Net) (Nn := 5) (v := .int ((g 18 0) + 1)) E hC.1 hP hD hS hL_net hf_net rfl i_Net t_Net t_Net_ok n_Net 4 (by decide) zf_Net_53 rfl rfl rfl (Nat.le_of_ble_eq_true rfl) rfl d_Net_send_129 (fun H locs f9 h9 h8 hP hD hS => ?_)
    replace hf_net : f9 (ad 1 0) = .inr (1, [.ref q, .ref q, va_rf sp.head?, .int (nI (0 + 1)), .int ((g 18 0) + 1)]) := h9
    replace hf_q := (h8 q ne_q_net).trans hf_q
    replace hfo := fun x hx => (h8 x hx.2).trans (hfo x hx)
    refine lv_aload hx hb d_Net_send_132 (lv_at hl 0 rfl) ?_
    refine x_rret (q := q) (sp' := sp) E ⟨L, f9, iv, hP, hD, fun s1 i1 hv => ?_, ?_⟩ hS d_Net_send_134
    · obtain ⟨g1, g2, g3⟩ := hF s1 i1 hv
      refine ⟨g1, g2, ?_⟩
      by_cases h1 : s1 = 1
      · subst h1
        have hi1 : i1 = 0 := hv
        subst hi1
        exact hf_net
      · rw [hfo _ ⟨fun e9 => by rw [e9] at g2; rw [g2] at hq13; exact vl_13 hv hq13, fun e9 => h1 (by rw [e9, hin] at g2; exact (Prod.mk.inj g2).1.symm)⟩, g3, ct_cg (g := g) (g' := snd g) s1 i1 hv (ag_18 (N := N) _ s1 i1 hv (fun e9 => h1 (Prod.mk.inj e9).1)), ct_sp s1 i1 hv h1]
    · have hM0 : M = [] := List.length_eq_zero_iff.mp hM.1.symm
      subst hM0
      refine send_mx0 hM hL_q hq13 hqn hf_q (fun x hx => hfo x ⟨fun e9 => hqn (e9 ▸ hx), fun e9 => ?_⟩)
      have h13 := (hM.2.2.1 x hx).2
      rw [e9, hin] at h13
      exact absurd h13 (by decide)
  · rw [List.concat_eq_append] at h0
    subst h0
    have hlm : la ∈ (as0 ++ [la]) ++ sp := List.mem_append_left _ (List.mem_append_right _ (List.mem_singleton.mpr rfl))
    obtain ⟨hL_la, hla13⟩ := hM.2.2.1 la hlm
    have ne_la_net : la ≠ ad 1 0 := fun e9 => by rw [e9, hin] at hla13; exact absurd hla13 (by decide)
    have ne_la_q : la ≠ q := fun e9 => hqn (e9 ▸ hlm)
    obtain ⟨fi, hfi⟩ : ∃ fi, (as0 ++ [la]).head? = some fi := by cases as0 <;> exact ⟨_, rfl⟩
    have hgl : (as0 ++ [la]).getLast? = some la := by simp
    have hlen : as0.length + 1 = M.length := by have := hM.1; simpa using this
    obtain ⟨zl, hzl⟩ : ∃ z, M[as0.length]? = some z := ⟨M[as0.length]'(by omega), List.getElem?_eq_getElem _⟩
    have hal : (as0 ++ [la])[as0.length]? = some la := by simp
    have hf_la := hM.2.2.2.1 as0.length la zl hal hzl
    have hnx : (as0 ++ [la])[as0.length + 1]? = none := by simp
    rw [hnx] at hf_la
    have e1 : f (ad 1 0) = .inr (1, [va_rf (as0 ++ [la]).head?, va_rf (as0 ++ [la]).getLast?, va_rf sp.head?, .int (nI (as0 ++ [la]).length), .int (g 18 0)]) := hf_net
    rw [hfi, hgl, show (as0 ++ [la]).length = as0.length + 1 by simp] at e1
    replace hf_net : f (ad 1 0) = .inr (1, [.ref fi, .ref la, va_rf sp.head?, .int (nI (as0.length + 1)), .int (g 18 0)]) := e1
    replace hf_la : f la = .inr (11, [.ref (eA 0 zl.1), .int (nI zl.2.1), .int (nI zl.2.2.1), .int (nI zl.2.2.2.1), .int zl.2.2.2.2.1, .int (nI zl.2.2.2.2.2.1), .int (rq zl.2.2.2.2.2.2), .null]) := hf_la
    have hfo : ∀ x, (x ≠ q ∧ x ≠ ad 1 0 ∧ x ≠ la) → f x = f x := fun _ _ => rfl
    refine lv_aload hx hb d_Net_send_32 (lv_at hl 0 rfl) ?_
    refine lv_aload_n hx hb d_Net_send_34 rfl (lv_at hl 2 rfl) ?_
    refine q_put (ci := 11) (C := R_Msg) (T := F_Msg) (Nn := 8) (v := .ref (eA 0 kd)) E hC.1 hP hD hS hL_q hf_q rfl i_Msg t_Msg t_Msg_ok n_Msg 0 (by decide) zf_Net_21 rfl rfl rfl (Nat.le_of_ble_eq_true rfl) rfl d_Net_send_35 (fun H locs f9 h9 h8 hP hD hS => ?_)
    replace hf_q : f9 q = .inr (11, [.ref (eA 0 kd), w1, w2, w3, w4, w5, w6, w7]) := h9
    replace hf_net := (h8 (ad 1 0) ne_q_net.symm).trans hf_net
    replace hf_la := (h8 la ne_la_q).trans hf_la
    replace hfo := fun x hx => (h8 x hx.1).trans (hfo x hx)
    refine lv_aload hx hb d_Net_send_38 (lv_at hl 0 rfl) ?_
    refine lv_iload_n hx hb d_Net_send_40 rfl (lv_at hl 3 rfl) ?_
    refine q_put (ci := 11) (C := R_Msg) (T := F_Msg) (Nn := 8) (v := .int (nI fr)) E hC.1 hP hD hS hL_q hf_q rfl i_Msg t_Msg t_Msg_ok n_Msg 1 (by decide) zf_Net_25 rfl rfl rfl (Nat.le_of_ble_eq_true rfl) rfl d_Net_send_41 (fun H locs f9 h9 h8 hP hD hS => ?_)
    replace hf_q : f9 q = .inr (11, [.ref (eA 0 kd), .int (nI fr), w2, w3, w4, w5, w6, w7]) := h9
    replace hf_net := (h8 (ad 1 0) ne_q_net.symm).trans hf_net
    replace hf_la := (h8 la ne_la_q).trans hf_la
    replace hfo := fun x hx => (h8 x hx.1).trans (hfo x hx)
    refine lv_aload hx hb d_Net_send_44 (lv_at hl 0 rfl) ?_
    refine lv_iload_n hx hb d_Net_send_46 rfl (lv_at hl 4 rfl) ?_
    refine q_put (ci := 11) (C := R_Msg) (T := F_Msg) (Nn := 8) (v := .int (nI t)) E hC.1 hP hD hS hL_q hf_q rfl i_Msg t_Msg t_Msg_ok n_Msg 2 (by decide) zf_Net_29 rfl rfl rfl (Nat.le_of_ble_eq_true rfl) rfl d_Net_send_47 (fun H locs f9 h9 h8 hP hD hS => ?_)
    replace hf_q : f9 q = .inr (11, [.ref (eA 0 kd), .int (nI fr), .int (nI t), w3, w4, w5, w6, w7]) := h9
    replace hf_net := (h8 (ad 1 0) ne_q_net.symm).trans hf_net
    replace hf_la := (h8 la ne_la_q).trans hf_la
    replace hfo := fun x hx => (h8 x hx.1).trans (hfo x hx)
    refine lv_aload hx hb d_Net_send_50 (lv_at hl 0 rfl) ?_
    refine lv_iload hx hb d_Net_send_52 (lv_at hl 5 rfl) ?_
    refine q_put (ci := 11) (C := R_Msg) (T := F_Msg) (Nn := 8) (v := .int (nI b)) E hC.1 hP hD hS hL_q hf_q rfl i_Msg t_Msg t_Msg_ok n_Msg 3 (by decide) zf_Net_32 rfl rfl rfl (Nat.le_of_ble_eq_true rfl) rfl d_Net_send_54 (fun H locs f9 h9 h8 hP hD hS => ?_)
    replace hf_q : f9 q = .inr (11, [.ref (eA 0 kd), .int (nI fr), .int (nI t), .int (nI b), w4, w5, w6, w7]) := h9
    replace hf_net := (h8 (ad 1 0) ne_q_net.symm).trans hf_net
    replace hf_la := (h8 la ne_la_q).trans hf_la
    replace hfo := fun x hx => (h8 x hx.1).trans (hfo x hx)
    refine lv_aload hx hb d_Net_send_57 (lv_at hl 0 rfl) ?_
    refine lv_iconst (v := 0) hx hb d_Net_send_59 (by decide) ?_
    refine q_put (ci := 11) (C := R_Msg) (T := F_Msg) (Nn := 8) (v := .int 0) E hC.1 hP hD hS hL_q hf_q rfl i_Msg t_Msg t_Msg_ok n_Msg 4 (by decide) zf_Net_35 rfl rfl rfl (Nat.le_of_ble_eq_true rfl) rfl d_Net_send_60 (fun H locs f9 h9 h8 hP hD hS => ?_)
    replace hf_q : f9 q = .inr (11, [.ref (eA 0 kd), .int (nI fr), .int (nI t), .int (nI b), .int 0, w5, w6, w7]) := h9
    replace hf_net := (h8 (ad 1 0) ne_q_net.symm).trans hf_net
    replace hf_la := (h8 la ne_la_q).trans hf_la
    replace hfo := fun x hx => (h8 x hx.1).trans (hfo x hx)
    refine lv_aload hx hb d_Net_send_63 (lv_at hl 0 rfl) ?_
    refine lv_iconst (v := 0) hx hb d_Net_send_65 (by decide) ?_
    refine q_put (ci := 11) (C := R_Msg) (T := F_Msg) (Nn := 8) (v := .int 0) E hC.1 hP hD hS hL_q hf_q rfl i_Msg t_Msg t_Msg_ok n_Msg 5 (by decide) zf_Net_38 rfl rfl rfl (Nat.le_of_ble_eq_true rfl) rfl d_Net_send_66 (fun H locs f9 h9 h8 hP hD hS => ?_)
    replace hf_q : f9 q = .inr (11, [.ref (eA 0 kd), .int (nI fr), .int (nI t), .int (nI b), .int 0, .int 0, w6, w7]) := h9
    replace hf_net := (h8 (ad 1 0) ne_q_net.symm).trans hf_net
    replace hf_la := (h8 la ne_la_q).trans hf_la
    replace hfo := fun x hx => (h8 x hx.1).trans (hfo x hx)
    refine lv_aload hx hb d_Net_send_69 (lv_at hl 0 rfl) ?_
    refine lv_iconst (v := (-1)) hx hb d_Net_send_71 (by decide) ?_
    refine q_put (ci := 11) (C := R_Msg) (T := F_Msg) (Nn := 8) (v := .int (-1)) E hC.1 hP hD hS hL_q hf_q rfl i_Msg t_Msg t_Msg_ok n_Msg 6 (by decide) zf_Net_41 rfl rfl rfl (Nat.le_of_ble_eq_true rfl) rfl d_Net_send_72 (fun H locs f9 h9 h8 hP hD hS => ?_)
    replace hf_q : f9 q = .inr (11, [.ref (eA 0 kd), .int (nI fr), .int (nI t), .int (nI b), .int 0, .int 0, .int (-1), w7]) := h9
    replace hf_net := (h8 (ad 1 0) ne_q_net.symm).trans hf_net
    replace hf_la := (h8 la ne_la_q).trans hf_la
    replace hfo := fun x hx => (h8 x hx.1).trans (hfo x hx)
    refine lv_aload hx hb d_Net_send_75 (lv_at hl 0 rfl) ?_
    refine lv_null hx hb d_Net_send_77 ?_
    refine q_put (ci := 11) (C := R_Msg) (T := F_Msg) (Nn := 8) (v := .null) E hC.1 hP hD hS hL_q hf_q rfl i_Msg t_Msg t_Msg_ok n_Msg 7 (by decide) zf_Net_18 rfl rfl rfl (Nat.le_of_ble_eq_true rfl) rfl d_Net_send_78 (fun H locs f9 h9 h8 hP hD hS => ?_)
    replace hf_q : f9 q = .inr (11, [.ref (eA 0 kd), .int (nI fr), .int (nI t), .int (nI b), .int 0, .int 0, .int (-1), .null]) := h9
    replace hf_net := (h8 (ad 1 0) ne_q_net.symm).trans hf_net
    replace hf_la := (h8 la ne_la_q).trans hf_la
    replace hfo := fun x hx => (h8 x hx.1).trans (hfo x hx)
    refine lv_aload_n hx hb d_Net_send_81 rfl (lv_at hl 1 rfl) ?_
    refine r_get (ci := 1) (C := R_Net) (T := F_Net) (Nn := 5) (v := .ref fi) E hC.1 hP hL_net hf_net rfl i_Net 0 (by decide) zf_Net_44 (fun _ h => h) rfl d_Net_send_82 ?_
    refine lv_ifnonnull (tgt := 97) hx hb d_Net_send_85 (by decide) ?_
    refine lv_aload_n hx hb d_Net_send_97 rfl (lv_at hl 1 rfl) ?_
    refine r_get (ci := 1) (C := R_Net) (T := F_Net) (Nn := 5) (v := .ref la) E hC.1 hP hL_net hf_net rfl i_Net 1 (by decide) zf_Net_47 (fun _ h => h) rfl d_Net_send_98 ?_
    refine lv_aload hx hb d_Net_send_101 (lv_at hl 0 rfl) ?_
    refine q_put (ci := 11) (C := R_Msg) (T := F_Msg) (Nn := 8) (v := .ref q) E hC.1 hP hD hS hL_la hf_la rfl i_Msg t_Msg t_Msg_ok n_Msg 7 (by decide) zf_Net_18 rfl rfl rfl (Nat.le_of_ble_eq_true rfl) rfl d_Net_send_103 (fun H locs f9 h9 h8 hP hD hS => ?_)
    replace hf_la : f9 la = .inr (11, [.ref (eA 0 zl.1), .int (nI zl.2.1), .int (nI zl.2.2.1), .int (nI zl.2.2.2.1), .int zl.2.2.2.2.1, .int (nI zl.2.2.2.2.2.1), .int (rq zl.2.2.2.2.2.2), .ref q]) := h9
    replace hf_q := (h8 q ne_la_q.symm).trans hf_q
    replace hf_net := (h8 (ad 1 0) ne_la_net.symm).trans hf_net
    replace hfo := fun x hx => (h8 x hx.2.2).trans (hfo x hx)
    refine lv_aload_n hx hb d_Net_send_106 rfl (lv_at hl 1 rfl) ?_
    refine lv_aload hx hb d_Net_send_107 (lv_at hl 0 rfl) ?_
    refine q_put (ci := 1) (C := R_Net) (T := F_Net) (Nn := 5) (v := .ref q) E hC.1 hP hD hS hL_net hf_net rfl i_Net t_Net t_Net_ok n_Net 1 (by decide) zf_Net_47 rfl rfl rfl (Nat.le_of_ble_eq_true rfl) rfl d_Net_send_109 (fun H locs f9 h9 h8 hP hD hS => ?_)
    replace hf_net : f9 (ad 1 0) = .inr (1, [.ref fi, .ref q, va_rf sp.head?, .int (nI (as0.length + 1)), .int (g 18 0)]) := h9
    replace hf_q := (h8 q ne_q_net).trans hf_q
    replace hf_la := (h8 la ne_la_net).trans hf_la
    replace hfo := fun x hx => (h8 x hx.2.1).trans (hfo x hx)
    refine lv_aload_n hx hb d_Net_send_112 rfl (lv_at hl 1 rfl) ?_
    refine lv_dup hx hb d_Net_send_113 rfl ?_
    refine r_get (ci := 1) (C := R_Net) (T := F_Net) (Nn := 5) (v := .int (nI (as0.length + 1))) E hC.1 hP hL_net hf_net rfl i_Net 3 (by decide) zf_Net_50 (fun _ h => h) rfl d_Net_send_114 ?_
    refine lv_iconst (v := 1) hx hb d_Net_send_117 (by decide) ?_
    refine wn_add hx hb (a := as0.length + 1) (b := 1) d_Net_send_118 ?_
    refine q_put (ci := 1) (C := R_Net) (T := F_Net) (Nn := 5) (v := .int (nI (as0.length + 1 + 1))) E hC.1 hP hD hS hL_net hf_net rfl i_Net t_Net t_Net_ok n_Net 3 (by decide) zf_Net_50 rfl rfl rfl (Nat.le_of_ble_eq_true rfl) rfl d_Net_send_119 (fun H locs f9 h9 h8 hP hD hS => ?_)
    replace hf_net : f9 (ad 1 0) = .inr (1, [.ref fi, .ref q, va_rf sp.head?, .int (nI (as0.length + 1 + 1)), .int (g 18 0)]) := h9
    replace hf_q := (h8 q ne_q_net).trans hf_q
    replace hf_la := (h8 la ne_la_net).trans hf_la
    replace hfo := fun x hx => (h8 x hx.2.1).trans (hfo x hx)
    refine lv_aload_n hx hb d_Net_send_122 rfl (lv_at hl 1 rfl) ?_
    refine lv_dup hx hb d_Net_send_123 rfl ?_
    refine r_get (ci := 1) (C := R_Net) (T := F_Net) (Nn := 5) (v := .int (g 18 0)) E hC.1 hP hL_net hf_net rfl i_Net 4 (by decide) zf_Net_53 (fun _ h => h) rfl d_Net_send_124 ?_
    refine lv_iconst (v := 1) hx hb d_Net_send_127 (by decide) ?_
    refine lv_iadd hx hb d_Net_send_128 ?_
    refine q_put (ci := 1) (C := R_Net) (T := F_Net) (Nn := 5) (v := .int ((g 18 0) + 1)) E hC.1 hP hD hS hL_net hf_net rfl i_Net t_Net t_Net_ok n_Net 4 (by decide) zf_Net_53 rfl rfl rfl (Nat.le_of_ble_eq_true rfl) rfl d_Net_send_129 (fun H locs f9 h9 h8 hP hD hS => ?_)
    replace hf_net : f9 (ad 1 0) = .inr (1, [.ref fi, .ref q, va_rf sp.head?, .int (nI (as0.length + 1 + 1)), .int ((g 18 0) + 1)]) := h9
    replace hf_q := (h8 q ne_q_net).trans hf_q
    replace hf_la := (h8 la ne_la_net).trans hf_la
    replace hfo := fun x hx => (h8 x hx.2.1).trans (hfo x hx)
    refine lv_aload hx hb d_Net_send_132 (lv_at hl 0 rfl) ?_
    refine x_rret (q := q) (sp' := sp) E ⟨L, f9, iv, hP, hD, fun s1 i1 hv => ?_, ?_⟩ hS d_Net_send_134
    · obtain ⟨g1, g2, g3⟩ := hF s1 i1 hv
      refine ⟨g1, g2, ?_⟩
      by_cases h1 : s1 = 1
      · subst h1
        have hi1 : i1 = 0 := hv
        subst hi1
        rw [hf_net]
        show _ = (Sum.inr (1, [va_rf ((as0 ++ [la]) ++ [q]).head?, va_rf ((as0 ++ [la]) ++ [q]).getLast?, va_rf sp.head?, .int (nI ((as0 ++ [la]) ++ [q]).length), .int (g 18 0 + 1)]) : va_E)
        rw [show ((as0 ++ [la]) ++ [q]).head? = some fi by rw [List.head?_append, hfi]; rfl, show ((as0 ++ [la]) ++ [q]).getLast? = some q by simp, show ((as0 ++ [la]) ++ [q]).length = as0.length + 1 + 1 by simp]
        rfl
      · rw [hfo _ ⟨fun e9 => by rw [e9] at g2; rw [g2] at hq13; exact vl_13 hv hq13, fun e9 => h1 (by rw [e9, hin] at g2; exact (Prod.mk.inj g2).1.symm), fun e9 => by rw [e9] at g2; rw [g2] at hla13; exact vl_13 hv hla13⟩, g3, ct_cg (g := g) (g' := snd g) s1 i1 hv (ag_18 (N := N) _ s1 i1 hv (fun e9 => h1 (Prod.mk.inj e9).1)), ct_sp s1 i1 hv h1]
    · refine send_mx1 hM hL_q hq13 hqn hzl hf_q hf_la (fun x hx hxl => hfo x ⟨fun e9 => hqn (e9 ▸ hx), fun e9 => ?_, hxl⟩)
      have h13 := (hM.2.2.1 x hx).2
      rw [e9, hin] at h13
      exact absurd h13 (by decide)
set_option maxHeartbeats 4000000 in
set_option maxRecDepth 100000 in
theorem c_Net_send (l : Launch) (D : va_G) (dA : Nat → ClassId) (eA ad : Nat → Nat → Nat) (A : Nat → Prop) (N : Nat) (g : PS) (M : List Msg) (as sp : List Nat) (kd fr t b : Nat) : Met l y_Net_send (k_Net_send :: wz) (rml 2 1 8) (va_Pc [.ref (ad 1 0), .ref (eA 0 kd), .int (nI fr), .int (nI t), .int (nI b)] (PX D dA eA ad A N g M as sp)) (XQr D dA eA ad A N (snd g) (M ++ [(kd, fr, t, b, 0, 0, 0)]) as) 1 8 A := by
  refine x_entry (by decide) (Nat.le_of_ble_eq_true rfl) ?_
  intro p e s m below meth c0 E hA hC hR ls hl
  have hx := E.1
  have hb := E.2.1
  have hS : va_S A s.heap s.heap [] := va_S.rf
  obtain ⟨L, f, iv, hP, hD, hF, hM⟩ := hR
  obtain ⟨hL_net, hin, hf_net⟩ := hF 1 0 rfl
  replace hl : lv_has ls 6 [(0, .ref (ad 1 0)), (1, .ref (eA 0 kd)), (2, .int (nI fr)), (3, .int (nI t)), (4, .int (nI b))] := hl
  rcases sp with _ | ⟨q, sp⟩
  · replace hf_net : f (ad 1 0) = .inr (1, [va_rf as.head?, va_rf as.getLast?, .null, .int (nI as.length), .int (g 18 0)]) := hf_net
    refine lv_aload_n hx hb d_Net_send_0 rfl (lv_at hl 0 rfl) ?_
    refine r_get (ci := 1) (C := R_Net) (T := F_Net) (Nn := 5) (v := .null) E hC.1 hP hL_net hf_net rfl i_Net 2 (by decide) zf_Net_9 (fun _ h => h) rfl d_Net_send_1 ?_
    refine lv_astoreN (lv' := [(5, .null), (0, .ref (ad 1 0)), (1, .ref (eA 0 kd)), (2, .int (nI fr)), (3, .int (nI t)), (4, .int (nI b))]) hx hb d_Net_send_4 hl (by decide) rfl (fun ls hl => ?_)
    refine lv_aloadN hx hb d_Net_send_6 (lv_at hl 0 rfl) ?_
    refine lv_ifnonnullN hx hb d_Net_send_8 ?_
    refine q_new (ci := 11) (C := R_Msg) (T := F_Msg) (Nn := 8) (fs := [.null, .int 0, .int 0, .int 0, .int 0, .int 0, .int 0, .null]) E hC.1 hP hD hS hA rfl i_Msg t_Msg t_Msg_ok zc_Net_15 zI_Msg zn_Msg (by intro j hj; match j, hj with | 0, _ => rfl | 1, _ => rfl | 2, _ => rfl | 3, _ => rfl | 4, _ => rfl | 5, _ => rfl | 6, _ => rfl | 7, _ => rfl) (Nat.le_of_ble_eq_true rfl) (Nat.le_of_ble_eq_true rfl) d_Net_send_11 (fun q H f9 hqL h9 h8 hP hD hS => ?_)
    refine W.widen (k := 1) (n := 8) (by decide) (by decide) ?_
    refine lv_dup hx hb d_Net_send_14 rfl ?_
    refine va_csv (rest := [.ref q]) (a := ([.ref q] : List Value).toArray) (va_Run.run (va_runIN (As := []) (rest := [.ref q]) ⟨E.1, E.2.1, E.2.2.1, E.2.2.2.1, E.2.2.2.2.1⟩ (c_Msg_init l q) ⟨va_cnB 0 E.2.2.2.2.1 (gdI zk_Msg_init) rfl rfl rfl hC.2.2.2.2.2.1.2.2.2 (E.2.2.2.2.1 _ zn_Msg) (by decide +kernel) ⟨Nat.le_of_ble_eq_true rfl, Nat.le_of_ble_eq_true rfl⟩, rfl, E.2.2.2.2.1 _ zi_Msg_init⟩ preEq rfl rfl hl.1 rfl (lv_room (Nat.le_of_ble_eq_true rfl)) d_Net_send_15 ⟨Nat.le_of_ble_eq_true rfl, Nat.le_of_ble_eq_true rfl⟩)) (fun _ => ?_)
    refine lv_astore (lv' := [(5, .ref q), (0, .ref (ad 1 0)), (1, .ref (eA 0 kd)), (2, .int (nI fr)), (3, .int (nI t)), (4, .int (nI b))]) hx hb d_Net_send_18 hl (by decide) rfl (fun ls hl => ?_)
    refine lv_goto (tgt := 32) hx hb d_Net_send_20 (by decide) ?_
    refine send_tail (M := M) (as := as) (sp := []) (kd := kd) (fr := fr) (t := t) (b := b) (iv := va_up iv q (13, 0)) l D dA eA ad A N g E hC hP hD hS (fun s1 i1 hv => ?_) ?_ (List.mem_append_right _ (List.mem_singleton.mpr rfl)) (by rw [va_up_self]) (fun hq => hqL (hM.2.2.1 q hq).1) h9 (lv_sub hl [0, 1, 2, 3, 4, 5] rfl)
    · obtain ⟨g1, g2, g3⟩ := hF s1 i1 hv
      have hne : ad s1 i1 ≠ q := fun e9 => hqL (e9 ▸ g1)
      exact ⟨List.mem_append_left _ g1, by rw [va_up_ne _ _ hne]; exact g2, by rw [h8 _ hne]; exact g3⟩
    · obtain ⟨m1, m2, m3, m4, m5⟩ := hM
      have hne : ∀ x ∈ as ++ [], x ≠ q := fun x hx e9 => hqL (e9 ▸ (m3 x hx).1)
      refine ⟨m1, m2, fun x hx => ⟨List.mem_append_left _ (m3 x hx).1, by rw [va_up_ne _ _ (hne x hx)]; exact (m3 x hx).2⟩, fun j x z hx hz => ?_, fun j x hx => by simp at hx⟩
      rw [h8 x (hne x (List.mem_append_left _ (List.mem_of_getElem? hx)))]
      exact m4 j x z hx hz
  · replace hf_net : f (ad 1 0) = .inr (1, [va_rf as.head?, va_rf as.getLast?, .ref q, .int (nI as.length), .int (g 18 0)]) := hf_net
    obtain ⟨hL_q, hq13⟩ := hM.2.2.1 q (List.mem_append_right _ List.mem_cons_self)
    have ne_q_net : q ≠ ad 1 0 := fun e9 => by rw [e9, hin] at hq13; exact absurd hq13 (by decide)
    obtain ⟨vs, hvs, hf_q⟩ := hM.2.2.2.2 0 q rfl
    obtain ⟨w0, w1, w2, w3, w4, w5, w6, rfl⟩ : ∃ w0 w1 w2 w3 w4 w5 w6, vs = [w0, w1, w2, w3, w4, w5, w6] := by
      match vs, hvs with
      | [w0, w1, w2, w3, w4, w5, w6], _ => exact ⟨w0, w1, w2, w3, w4, w5, w6, rfl⟩
    replace hf_q : f q = .inr (11, [w0, w1, w2, w3, w4, w5, w6, va_rf sp.head?]) := by rw [hf_q]; cases sp <;> rfl
    have hfo : ∀ x, (x ≠ q ∧ x ≠ ad 1 0) → f x = f x := fun _ _ => rfl
    refine lv_aload_n hx hb d_Net_send_0 rfl (lv_at hl 0 rfl) ?_
    refine r_get (ci := 1) (C := R_Net) (T := F_Net) (Nn := 5) (v := .ref q) E hC.1 hP hL_net hf_net rfl i_Net 2 (by decide) zf_Net_9 (fun _ h => h) rfl d_Net_send_1 ?_
    refine lv_astore (lv' := [(5, .ref q), (0, .ref (ad 1 0)), (1, .ref (eA 0 kd)), (2, .int (nI fr)), (3, .int (nI t)), (4, .int (nI b))]) hx hb d_Net_send_4 hl (by decide) rfl (fun ls hl => ?_)
    refine lv_aload hx hb d_Net_send_6 (lv_at hl 0 rfl) ?_
    refine lv_ifnonnull (tgt := 23) hx hb d_Net_send_8 (by decide) ?_
    refine lv_aload_n hx hb d_Net_send_23 rfl (lv_at hl 1 rfl) ?_
    refine lv_aload hx hb d_Net_send_24 (lv_at hl 0 rfl) ?_
    refine r_get (ci := 11) (C := R_Msg) (T := F_Msg) (Nn := 8) (v := va_rf sp.head?) E hC.1 hP hL_q hf_q rfl i_Msg 7 (by decide) zf_Net_18 (fun _ h => h) rfl d_Net_send_26 ?_
    refine q_put (ci := 1) (C := R_Net) (T := F_Net) (Nn := 5) (v := va_rf sp.head?) E hC.1 hP hD hS hL_net hf_net rfl i_Net t_Net t_Net_ok n_Net 2 (by decide) zf_Net_9 rfl (rf_nar _) (rf_fit _) (Nat.le_of_ble_eq_true rfl) rfl d_Net_send_29 (fun H locs f9 h9 h8 hP hD hS => ?_)
    replace hf_net : f9 (ad 1 0) = .inr (1, [va_rf as.head?, va_rf as.getLast?, va_rf sp.head?, .int (nI as.length), .int (g 18 0)]) := h9
    replace hf_q := (h8 q ne_q_net).trans hf_q
    replace hfo := fun x hx => (h8 x hx.2).trans (hfo x hx)
    refine W.widen (k := 1) (n := 8) (by decide) (by decide) ?_
    obtain ⟨m1, m2, m3, m4, m5⟩ := hM
    have hd := List.nodup_append.mp m2
    have hqn : q ∉ as ++ sp := fun hq => by
      rcases List.mem_append.mp hq with hq | hq
      · exact hd.2.2 q hq q List.mem_cons_self rfl
      · exact (List.nodup_cons.mp hd.2.1).1 hq
    have hsub : ∀ x ∈ as ++ sp, x ∈ as ++ q :: sp := fun x hx => by
      rcases List.mem_append.mp hx with hx | hx
      · exact List.mem_append_left _ hx
      · exact List.mem_append_right _ (List.mem_cons_of_mem _ hx)
    have hkeep : ∀ x ∈ as ++ sp, f9 x = f x := fun x hx => hfo x ⟨fun e9 => hqn (e9 ▸ hx), fun e9 => by
      have h13 := (m3 x (hsub x hx)).2
      rw [e9, hin] at h13
      exact absurd h13 (by decide)⟩
    refine send_tail (M := M) (as := as) (sp := sp) (kd := kd) (fr := fr) (t := t) (b := b) (iv := iv) l D dA eA ad A N g E hC hP hD hS (fun s1 i1 hv => ?_) ⟨m1, ?_, fun x hx => m3 x (hsub x hx), fun j x z hx hz => ?_, fun j x hx => ?_⟩ hL_q hq13 hqn hf_q (lv_sub hl [0, 1, 2, 3, 4, 5] rfl)
    · obtain ⟨g1, g2, g3⟩ := hF s1 i1 hv
      refine ⟨g1, g2, ?_⟩
      by_cases h1 : s1 = 1
      · subst h1
        have hi1 : i1 = 0 := hv
        subst hi1
        exact hf_net
      · rw [hfo _ ⟨fun e9 => by rw [e9] at g2; rw [g2] at hq13; exact vl_13 hv hq13, fun e9 => h1 (by rw [e9, hin] at g2; exact (Prod.mk.inj g2).1.symm)⟩, g3, ct_sp s1 i1 hv h1]
    · rw [List.nodup_append]
      exact ⟨hd.1, (List.nodup_cons.mp hd.2.1).2, fun x hx y hy => hd.2.2 x hx y (List.mem_cons_of_mem _ hy)⟩
    · rw [hkeep x (List.mem_append_left _ (List.mem_of_getElem? hx))]
      exact m4 j x z hx hz
    · rw [hkeep x (List.mem_append_right _ (List.mem_of_getElem? hx))]
      exact m5 (j + 1) x hx
