
set_option maxHeartbeats 4000000 in
set_option maxRecDepth 100000 in
theorem c_Net_behind (l : Launch) (D : va_G) (dA : Nat → ClassId) (eA ad : Nat → Nat → Nat) (A : Nat → Prop) (N : Nat) (g : PS) (M : List Msg) (as sp : List Nat) {k q2 : Nat} {z2 : Msg} (hq2 : as[k]? = some q2) (hz2 : M[k]? = some z2) (hW : ∀ (i : Nat) (z : Msg), M[i]? = some z → z.1 < 10 ∧ z.2.2.1 < 5 ∧ z.2.2.2.1 < 4) : Met l y_Net_behind (k_Net_behind :: wz) (rml 1 0 0) (va_Pc [.ref (ad 1 0), .ref q2] (PX D dA eA ad A N g M as sp)) (QcRead (if (M.take k).any (same z2) then 1 else 0)) 0 0 (fun _ => False) := by
  refine x_entry (by decide) (Nat.le_of_ble_eq_true rfl) ?_
  intro p e s m below meth c0 E hA hC hR ls hl
  have hx := E.1
  have hb := E.2.1
  have hS : va_S A s.heap s.heap [] := va_S.rf
  have hlen := hR.len
  have hnd := hR.nd
  have hkl := (List.getElem?_eq_some_iff.mp hq2).1
  replace hl : lv_has ls 3 [(0, .ref (ad 1 0)), (1, .ref q2)] := hl
  have loop : ∀ (r i q : Nat), i + r = k → as[i]? = some q → (∀ j, j < i → ∀ z, M[j]? = some z → same z2 z = false) → ∀ ls, lv_has ls 3 [(2, .ref q), (0, .ref (ad 1 0)), (1, .ref q2)] → W p l e (rml 1 0 0) s m ([.ref (ad 1 0), .ref q2] : List Value).toArray below meth c0 s.heap [] 0 0 (MQ below (QcRead (if (M.take k).any (same z2) then 1 else 0)) ([.ref (ad 1 0), .ref q2] : List Value).toArray s 0 0 (fun _ => False)) (F0 m 5 ls []) := by
    intro r
    induction r with
    | zero =>
      intro i q hir hqi hno ls hl
      obtain rfl : i = k := by omega
      obtain rfl : q = q2 := Option.some.inj (hqi.symm.trans hq2)
      refine lv_aload_n hx hb d_Net_behind_5 rfl (lv_at hl 0 rfl) ?_
      refine lv_aload_n hx hb d_Net_behind_6 rfl (lv_at hl 2 rfl) ?_
      refine lv_acmpR_eq (tgt := 26) hx hb d_Net_behind_7 (by decide) (fun h1 => ?_) (fun h1 => absurd (rfl) h1)
      refine lv_aload_n hx hb d_Net_behind_26 rfl (lv_at hl 0 rfl) ?_
      refine lv_aload_n hx hb d_Net_behind_27 rfl (lv_at hl 2 rfl) ?_
      refine lv_acmpR_eq (tgt := 35) hx hb d_Net_behind_28 (by decide) (fun h2 => ?_) (fun h2 => absurd (rfl) h2)
      refine lv_iconst (v := 0) hx hb d_Net_behind_35 (by decide) ?_
      exact t_read E rfl (by rw [if_neg (by rw [any_take_f hno]; decide)]) d_Net_behind_36
    | succ r ih =>
      intro i q hir hqi hno ls hl
      have hne : ¬ q = q2 := fun e9 => by
        subst e9
        have := (List.getElem?_inj (List.getElem?_eq_some_iff.mp hqi).1 hnd).mp (hqi.trans hq2.symm)
        omega
      obtain ⟨z, hzi⟩ : ∃ z, M[i]? = some z := ⟨M[i]'(by omega), List.getElem?_eq_getElem _⟩
      obtain ⟨q3, hq3⟩ : ∃ q3, as[i + 1]? = some q3 := ⟨as[i + 1]'(by omega), List.getElem?_eq_getElem _⟩
      refine lv_aload_n hx hb d_Net_behind_5 rfl (lv_at hl 0 rfl) ?_
      refine lv_aload_n hx hb d_Net_behind_6 rfl (lv_at hl 2 rfl) ?_
      refine lv_acmpR_eq (tgt := 26) hx hb d_Net_behind_7 (by decide) (fun h3 => absurd h3 (hne)) (fun h3 => ?_)
      refine lv_aload_n hx hb d_Net_behind_10 rfl (lv_at hl 0 rfl) ?_
      refine lv_aload_n hx hb d_Net_behind_11 rfl (lv_at hl 2 rfl) ?_
      refine xc_R (av := [.ref q, .ref q2]) (xrunV (As := [.ref q2]) (rest := []) E hA hC hR hS (c_Msg_sameWay l D dA eA ad A N g M as sp hqi hzi hq2 hz2 (hW i z hzi).1 (hW i z hzi).2.1 (hW i z hzi).2.2 (hW k z2 hz2).2.1 (hW k z2 hz2).2.2) (x_recvM hC hR hqi hzi) ck_Net_60 ⟨rfl, rfl⟩ ⟨Nat.le_of_ble_eq_true rfl, Nat.le_of_ble_eq_true rfl⟩ rfl (lv_sub hl [] rfl) rfl (Nat.le_of_ble_eq_true rfl) ⟨Nat.le_of_ble_eq_true rfl, Nat.le_of_ble_eq_true rfl⟩ d_Net_behind_12) ?_
      refine lv_if_ne (tgt := 26) hx hb d_Net_behind_15 (by decide) (fun h4 => ?_) (fun h4 => ?_)
      · have hsm : same z2 z = true := by cases hf : same z2 z <;> simp_all
        refine lv_aload_n hx hb d_Net_behind_26 rfl (lv_at hl 0 rfl) ?_
        refine lv_aload_n hx hb d_Net_behind_27 rfl (lv_at hl 2 rfl) ?_
        refine lv_acmpR_eq (tgt := 35) hx hb d_Net_behind_28 (by decide) (fun h5 => absurd h5 (hne)) (fun h5 => ?_)
        refine lv_iconst (v := 1) hx hb d_Net_behind_31 (by decide) ?_
        refine lv_goto (tgt := 36) hx hb d_Net_behind_32 (by decide) ?_
        exact t_read E rfl (by rw [if_pos (any_take_t hzi (by omega) hsm)]) d_Net_behind_36
      · have hsm : same z2 z = false := by cases hf : same z2 z <;> simp_all
        refine lv_aload_n hx hb d_Net_behind_18 rfl (lv_at hl 0 rfl) ?_
        refine xg_Msg (v := .ref q3) E hC hR hqi hzi 7 (by decide) zf_Net_18 (by rw [hq3]; rfl) d_Net_behind_19 ?_
        refine lv_astore_n (lv' := [(2, .ref q3), (0, .ref (ad 1 0)), (1, .ref q2)]) hx hb d_Net_behind_22 rfl hl (by decide) rfl (fun ls hl => ?_)
        refine lv_goto (tgt := 5) hx hb d_Net_behind_23 (by decide) ?_
        exact ih (i + 1) q3 (by omega) hq3 (fun j hj => by
          rcases Nat.lt_succ_iff_lt_or_eq.mp hj with hj | rfl
          · exact hno j hj
          · intro y hy; rw [hzi] at hy; cases hy; exact hsm) ls (lv_sub hl [0, 1, 2] rfl)
  obtain ⟨q0, hq0⟩ : ∃ q0, as[0]? = some q0 := ⟨as[0]'(by omega), List.getElem?_eq_getElem _⟩
  refine lv_aload_n hx hb d_Net_behind_0 rfl (lv_at hl 0 rfl) ?_
  refine xg_Net (v := .ref q0) E hC hR 0 (by decide) zf_Net_44 (by rw [List.head?_eq_getElem?, hq0]; rfl) d_Net_behind_1 ?_
  refine lv_astore_n (lv' := [(2, .ref q0), (0, .ref (ad 1 0)), (1, .ref q2)]) hx hb d_Net_behind_4 rfl hl (by decide) rfl (fun ls hl => ?_)
  exact loop k 0 q0 (by omega) hq0 (fun j hj => absurd hj (Nat.not_lt_zero j)) ls (lv_sub hl [0, 1, 2] rfl)
theorem rem_mx {eA : Nat → Nat → Nat} {M : List Msg} {as sp L : List Nat} {f f9 : Nat → va_E} {iv : Nat → Nat × Nat} {k q : Nat} {w0 w1 w2 w3 w4 w5 w6 : Value} (hM : MX eA M as sp L f iv) (hk : as[k]? = some q) (hq : f9 q = .inr (11, [w0, w1, w2, w3, w4, w5, w6, va_rf sp.head?]))
    (hb : ∀ (j x : Nat) (z : Msg), k = j + 1 → as[j]? = some x → M[j]? = some z → f9 x = mcl eA z as[k + 1]?) (ho : ∀ x ∈ as ++ sp, x ≠ q → (∀ j, k = j + 1 → as[j]? ≠ some x) → f9 x = f x) : MX eA (M.eraseIdx k) (as.eraseIdx k) (q :: sp) L f9 iv := by
  obtain ⟨m1, m2, m3, m4, m5⟩ := hM
  have hd := List.nodup_append.mp m2
  have hkl := (List.getElem?_eq_some_iff.mp hk).1
  have hqe : as[k]'hkl = q := (List.getElem?_eq_some_iff.mp hk).2
  have hqm : q ∈ as := List.mem_of_getElem? hk
  have hqn : q ∉ as.eraseIdx k := by
    intro h
    obtain ⟨i, hi⟩ := List.getElem?_of_mem h
    rw [List.getElem?_eraseIdx] at hi
    split at hi
    · have := (List.getElem?_inj (List.getElem?_eq_some_iff.mp hi).1 hd.1).mp (hi.trans hk.symm)
      omega
    · have := (List.getElem?_inj (List.getElem?_eq_some_iff.mp hi).1 hd.1).mp (hi.trans hk.symm)
      omega
  have hsub : ∀ x, x ∈ as.eraseIdx k → x ∈ as := fun x hx => List.mem_of_mem_eraseIdx hx
  refine ⟨by rw [List.length_eraseIdx, List.length_eraseIdx, m1], ?_, fun x hx => ?_, fun j x z hx hz => ?_, fun j x hx => ?_⟩
  · rw [List.nodup_append]
    refine ⟨hd.1.sublist (List.eraseIdx_sublist _ _), List.nodup_cons.mpr ⟨fun h => hd.2.2 q hqm q h rfl, hd.2.1⟩, fun x hx y hy e => ?_⟩
    rcases List.mem_cons.mp hy with rfl | hy
    · exact hqn (e ▸ hx)
    · exact hd.2.2 x (hsub x hx) y hy e
  · rcases List.mem_append.mp hx with hx | hx
    · exact m3 x (List.mem_append_left _ (hsub x hx))
    · rcases List.mem_cons.mp hx with rfl | hx
      · exact m3 x (List.mem_append_left _ hqm)
      · exact m3 x (List.mem_append_right _ hx)
  · have hxq : x ≠ q := fun e => hqn (e ▸ List.mem_of_getElem? hx)
    have hxa : x ∈ as := hsub x (List.mem_of_getElem? hx)
    rw [List.getElem?_eraseIdx] at hx hz
    rw [List.getElem?_eraseIdx]
    by_cases hj : j < k
    · rw [if_pos hj] at hx hz
      by_cases hj1 : j + 1 < k
      · rw [if_pos hj1, ho x (List.mem_append_left _ hxa) hxq (fun i hi hxi => ?_)]
        · exact m4 j x z hx hz
        · have := (List.getElem?_inj (List.getElem?_eq_some_iff.mp hx).1 hd.1).mp (hx.trans hxi.symm)
          omega
      · rw [if_neg hj1]
        have hk1 : k = j + 1 := by omega
        rw [hb j x z hk1 hx hz, hk1]
    · rw [if_neg hj] at hx hz
      rw [if_neg (by omega), ho x (List.mem_append_left _ hxa) hxq (fun i hi hxi => ?_)]
      · exact m4 (j + 1) x z hx hz
      · have := (List.getElem?_inj (List.getElem?_eq_some_iff.mp hx).1 hd.1).mp (hx.trans hxi.symm)
        omega
  · cases j with
    | zero =>
      cases hx
      refine ⟨[w0, w1, w2, w3, w4, w5, w6], rfl, ?_⟩
      rw [hq]
      cases sp <;> rfl
    | succ j =>
      have hxs : x ∈ sp := List.mem_of_getElem? (i := j) hx
      have hxa : x ∉ as := fun h => hd.2.2 x h x hxs rfl
      obtain ⟨vs, h1, h2⟩ := m5 j x hx
      refine ⟨vs, h1, ?_⟩
      rw [ho x (List.mem_append_right _ hxs) (fun e => hxa (e ▸ hqm)) (fun i hi hxi => hxa (List.mem_of_getElem? hxi))]
      exact h2
theorem ers_head {as : List Nat} {k : Nat} : (as.eraseIdx k).head? = if k = 0 then as[1]? else as.head? := by
  rw [List.head?_eq_getElem?, List.getElem?_eraseIdx, List.head?_eq_getElem?]
  by_cases h : k = 0
  · subst h; rfl
  · rw [if_pos (by omega), if_neg h]
theorem ers_last {as : List Nat} {k : Nat} (hk : k < as.length) : (as.eraseIdx k).getLast? = if k + 1 = as.length then (if k = 0 then none else as[k - 1]?) else as.getLast? := by
  rw [List.getLast?_eq_getElem?, List.getElem?_eraseIdx, List.length_eraseIdx, if_pos hk, List.getLast?_eq_getElem?]
  by_cases h : k + 1 = as.length
  · rw [if_pos h]
    by_cases h0 : k = 0
    · subst h0
      rw [if_pos rfl, if_neg (by omega)]
      exact List.getElem?_eq_none (by omega)
    · rw [if_neg h0, if_pos (by omega)]
      congr 1
      omega
  · rw [if_neg h, if_neg (by omega)]
    congr 1
    omega
set_option maxHeartbeats 4000000 in
set_option maxRecDepth 100000 in
theorem c_Net_remove (l : Launch) (D : va_G) (dA : Nat → ClassId) (eA ad : Nat → Nat → Nat) (A : Nat → Prop) (N : Nat) (g : PS) (M : List Msg) (as sp : List Nat) {k q : Nat} {z : Msg} (hqk : as[k]? = some q) (hzk : M[k]? = some z) : Met l y_Net_remove (k_Net_remove :: wz) (rml 0 0 0) (va_Pc [.ref (ad 1 0), .ref q] (PX D dA eA ad A N g M as sp)) (XQe D dA eA ad A N g (M.eraseIdx k) (as.eraseIdx k) (q :: sp)) 0 0 A := by
  refine x_entry (by decide) (Nat.le_of_ble_eq_true rfl) ?_
  intro p e s m below meth c0 E hA hC hR ls hl
  have hx := E.1
  have hb := E.2.1
  have hS : va_S A s.heap s.heap [] := va_S.rf
  have hlen := hR.len
  have hnd := hR.nd
  have hkl := (List.getElem?_eq_some_iff.mp hqk).1
  have hR0 := hR
  replace hl : lv_has ls 4 [(0, .ref (ad 1 0)), (1, .ref q)] := hl
  have tail : ∀ (pv : Value) (ls : Array Slot), pv = (if k = 0 then .null else va_rf as[k - 1]?) → lv_has ls 4 [(3, .ref q), (2, pv), (0, .ref (ad 1 0)), (1, .ref q)] → W p l e (rml 0 0 0) s m ([.ref (ad 1 0), .ref q] : List Value).toArray below meth c0 s.heap [] 0 0 (MQ below (XQe D dA eA ad A N g (M.eraseIdx k) (as.eraseIdx k) (q :: sp)) ([.ref (ad 1 0), .ref q] : List Value).toArray s 0 0 A) (F0 m 22 ls []) := by
    intro pv ls hpv hl
    obtain ⟨L, f, iv, hP, hD, hF, hM⟩ := hR
    obtain ⟨hL_net, hin, hf_net⟩ := hF 1 0 rfl
    obtain ⟨hL_q, hq13⟩ := hM.2.2.1 q (List.mem_append_left _ (List.mem_of_getElem? hqk))
    have ne_q_net : q ≠ ad 1 0 := fun e9 => by rw [e9, hin] at hq13; exact absurd hq13 (by decide)
    have hf_q := hM.2.2.2.1 k q z hqk hzk
    replace hf_q : f q = .inr (11, [.ref (eA 0 z.1), .int (nI z.2.1), .int (nI z.2.2.1), .int (nI z.2.2.2.1), .int z.2.2.2.2.1, .int (nI z.2.2.2.2.2.1), .int (rq z.2.2.2.2.2.2), va_rf as[k + 1]?]) := hf_q
    obtain ⟨la, hla⟩ : ∃ la, as.getLast? = some la := ⟨as[as.length - 1]'(by omega), by rw [List.getLast?_eq_getElem?]; exact List.getElem?_eq_getElem _⟩
    have hlq : la = q ↔ k + 1 = as.length := by
      have hla2 : as[as.length - 1]? = some la := by rw [← List.getLast?_eq_getElem?]; exact hla
      constructor
      · intro e9
        subst e9
        have := (List.getElem?_inj hkl hnd).mp (hqk.trans hla2.symm)
        omega
      · intro e9
        rw [show as.length - 1 = k by omega, hqk] at hla2
        exact (Option.some.inj hla2).symm
    replace hf_net : f (ad 1 0) = .inr (1, [va_rf as.head?, va_rf as.getLast?, va_rf sp.head?, .int (nI as.length), .int (g 18 0)]) := hf_net
    rw [hla] at hf_net
    replace hf_net : f (ad 1 0) = .inr (1, [va_rf as.head?, .ref la, va_rf sp.head?, .int (nI as.length), .int (g 18 0)]) := hf_net
    by_cases hk0 : k = 0
    · rw [if_pos hk0] at hpv
      subst hpv
      have hfo : ∀ x, (x ≠ q ∧ x ≠ ad 1 0) → f x = f x := fun _ _ => rfl
      refine lv_aload_nN hx hb d_Net_remove_22 rfl (lv_at hl 1 rfl) ?_
      refine lv_ifnonnullN hx hb d_Net_remove_23 ?_
      refine lv_aload_n hx hb d_Net_remove_26 rfl (lv_at hl 2 rfl) ?_
      refine lv_aload_n hx hb d_Net_remove_27 rfl (lv_at hl 3 rfl) ?_
      refine r_get (ci := 11) (C := R_Msg) (T := F_Msg) (Nn := 8) (v := va_rf as[k + 1]?) E hC.1 hP hL_q hf_q rfl i_Msg 7 (by decide) zf_Net_18 (fun _ h => h) rfl d_Net_remove_28 ?_
      refine q_put (ci := 1) (C := R_Net) (T := F_Net) (Nn := 5) (v := va_rf as[k + 1]?) E hC.1 hP hD hS hL_net hf_net rfl i_Net t_Net t_Net_ok n_Net 0 (by decide) zf_Net_44 rfl (rf_nar _) (rf_fit _) (Nat.le_of_ble_eq_true rfl) rfl d_Net_remove_31 (fun H locs f9 h9 h8 hP hD hS => ?_)
      replace hf_net : f9 (ad 1 0) = .inr (1, [va_rf as[k + 1]?, .ref la, va_rf sp.head?, .int (nI as.length), .int (g 18 0)]) := h9
      replace hf_q := (h8 q ne_q_net).trans hf_q
      replace hfo := fun x hx => (h8 x hx.2).trans (hfo x hx)
      refine lv_goto (tgt := 45) hx hb d_Net_remove_34 (by decide) ?_
      refine lv_aload_n hx hb d_Net_remove_45 rfl (lv_at hl 2 rfl) ?_
      refine r_get (ci := 1) (C := R_Net) (T := F_Net) (Nn := 5) (v := .ref la) E hC.1 hP hL_net hf_net rfl i_Net 1 (by decide) zf_Net_47 (fun _ h => h) rfl d_Net_remove_46 ?_
      refine lv_aload_n hx hb d_Net_remove_49 rfl (lv_at hl 3 rfl) ?_
      refine lv_acmpR_ne (tgt := 58) hx hb d_Net_remove_50 (by decide) (fun h1 => ?_) (fun h1 => ?_)
      · replace h1 := (not_congr hlq).mp h1
        refine lv_aload_n hx hb d_Net_remove_58 rfl (lv_at hl 3 rfl) ?_
        refine lv_aload_n hx hb d_Net_remove_59 rfl (lv_at hl 2 rfl) ?_
        refine r_get (ci := 1) (C := R_Net) (T := F_Net) (Nn := 5) (v := va_rf sp.head?) E hC.1 hP hL_net hf_net rfl i_Net 2 (by decide) zf_Net_9 (fun _ h => h) rfl d_Net_remove_60 ?_
        refine q_put (ci := 11) (C := R_Msg) (T := F_Msg) (Nn := 8) (v := va_rf sp.head?) E hC.1 hP hD hS hL_q hf_q rfl i_Msg t_Msg t_Msg_ok n_Msg 7 (by decide) zf_Net_18 rfl (rf_nar _) (rf_fit _) (Nat.le_of_ble_eq_true rfl) rfl d_Net_remove_63 (fun H locs f9 h9 h8 hP hD hS => ?_)
        replace hf_q : f9 q = .inr (11, [.ref (eA 0 z.1), .int (nI z.2.1), .int (nI z.2.2.1), .int (nI z.2.2.2.1), .int z.2.2.2.2.1, .int (nI z.2.2.2.2.2.1), .int (rq z.2.2.2.2.2.2), va_rf sp.head?]) := h9
        replace hf_net := (h8 (ad 1 0) ne_q_net.symm).trans hf_net
        replace hfo := fun x hx => (h8 x hx.1).trans (hfo x hx)
        refine lv_aload_n hx hb d_Net_remove_66 rfl (lv_at hl 2 rfl) ?_
        refine lv_aload_n hx hb d_Net_remove_67 rfl (lv_at hl 3 rfl) ?_
        refine q_put (ci := 1) (C := R_Net) (T := F_Net) (Nn := 5) (v := .ref q) E hC.1 hP hD hS hL_net hf_net rfl i_Net t_Net t_Net_ok n_Net 2 (by decide) zf_Net_9 rfl rfl rfl (Nat.le_of_ble_eq_true rfl) rfl d_Net_remove_68 (fun H locs f9 h9 h8 hP hD hS => ?_)
        replace hf_net : f9 (ad 1 0) = .inr (1, [va_rf as[k + 1]?, .ref la, .ref q, .int (nI as.length), .int (g 18 0)]) := h9
        replace hf_q := (h8 q ne_q_net).trans hf_q
        replace hfo := fun x hx => (h8 x hx.2).trans (hfo x hx)
        refine lv_aload_n hx hb d_Net_remove_71 rfl (lv_at hl 2 rfl) ?_
        refine lv_dup hx hb d_Net_remove_72 rfl ?_
        refine r_get (ci := 1) (C := R_Net) (T := F_Net) (Nn := 5) (v := .int (nI as.length)) E hC.1 hP hL_net hf_net rfl i_Net 3 (by decide) zf_Net_50 (fun _ h => h) rfl d_Net_remove_73 ?_
        refine lv_iconst (v := 1) hx hb d_Net_remove_76 (by decide) ?_
        refine lv_isub hx hb d_Net_remove_77 ?_
        refine wn_eq (y := nI (as.length - 1)) (pk_sub (a := as.length) (b := 1) (by omega)) ?_
        refine q_put (ci := 1) (C := R_Net) (T := F_Net) (Nn := 5) (v := .int (nI (as.length - 1))) E hC.1 hP hD hS hL_net hf_net rfl i_Net t_Net t_Net_ok n_Net 3 (by decide) zf_Net_50 rfl rfl rfl (Nat.le_of_ble_eq_true rfl) rfl d_Net_remove_78 (fun H locs f9 h9 h8 hP hD hS => ?_)
        replace hf_net : f9 (ad 1 0) = .inr (1, [va_rf as[k + 1]?, .ref la, .ref q, .int (nI (as.length - 1)), .int (g 18 0)]) := h9
        replace hf_q := (h8 q ne_q_net).trans hf_q
        replace hfo := fun x hx => (h8 x hx.2).trans (hfo x hx)
        refine x_eret E ⟨L, f9, iv, hP, hD, fun s1 i1 hv => ?_, rem_mx hM hqk hf_q (fun j x z9 hj hx hz => ?_) (fun x hx hxq hxb => hfo x ⟨hxq, fun e9 => ?_⟩)⟩ hS d_Net_remove_81
        · obtain ⟨g1, g2, g3⟩ := hF s1 i1 hv
          refine ⟨g1, g2, ?_⟩
          by_cases h1 : s1 = 1
          · subst h1
            have hi1 : i1 = 0 := hv
            subst hi1
            rw [hf_net]
            show _ = (Sum.inr (1, [va_rf (as.eraseIdx k).head?, va_rf (as.eraseIdx k).getLast?, .ref q, .int (nI (as.eraseIdx k).length), .int (g 18 0)]) : va_E)
            rw [ers_head, ers_last hkl, List.length_eraseIdx, if_pos hkl, if_pos hk0, if_neg h1, hla]
            rw [hk0]; try rfl
          · rw [hfo _ ⟨fun e9 => by rw [e9] at g2; rw [g2] at hq13; exact vl_13 hv hq13, fun e9 => h1 (by rw [e9, hin] at g2; exact (Prod.mk.inj g2).1.symm)⟩, g3, ct_sp s1 i1 hv h1]
        · exact absurd hj (by omega)
        · have h13 := (hM.2.2.1 x hx).2
          rw [e9, hin] at h13
          exact absurd h13 (by decide)
      · replace h1 := hlq.mp h1
        refine lv_aload_n hx hb d_Net_remove_53 rfl (lv_at hl 2 rfl) ?_
        refine lv_aload_nN hx hb d_Net_remove_54 rfl (lv_at hl 1 rfl) ?_
        refine q_put (ci := 1) (C := R_Net) (T := F_Net) (Nn := 5) (v := .null) E hC.1 hP hD hS hL_net hf_net rfl i_Net t_Net t_Net_ok n_Net 1 (by decide) zf_Net_47 rfl rfl rfl (Nat.le_of_ble_eq_true rfl) rfl d_Net_remove_55 (fun H locs f9 h9 h8 hP hD hS => ?_)
        replace hf_net : f9 (ad 1 0) = .inr (1, [va_rf as[k + 1]?, .null, va_rf sp.head?, .int (nI as.length), .int (g 18 0)]) := h9
        replace hf_q := (h8 q ne_q_net).trans hf_q
        replace hfo := fun x hx => (h8 x hx.2).trans (hfo x hx)
        refine lv_aload_n hx hb d_Net_remove_58 rfl (lv_at hl 3 rfl) ?_
        refine lv_aload_n hx hb d_Net_remove_59 rfl (lv_at hl 2 rfl) ?_
        refine r_get (ci := 1) (C := R_Net) (T := F_Net) (Nn := 5) (v := va_rf sp.head?) E hC.1 hP hL_net hf_net rfl i_Net 2 (by decide) zf_Net_9 (fun _ h => h) rfl d_Net_remove_60 ?_
        refine q_put (ci := 11) (C := R_Msg) (T := F_Msg) (Nn := 8) (v := va_rf sp.head?) E hC.1 hP hD hS hL_q hf_q rfl i_Msg t_Msg t_Msg_ok n_Msg 7 (by decide) zf_Net_18 rfl (rf_nar _) (rf_fit _) (Nat.le_of_ble_eq_true rfl) rfl d_Net_remove_63 (fun H locs f9 h9 h8 hP hD hS => ?_)
        replace hf_q : f9 q = .inr (11, [.ref (eA 0 z.1), .int (nI z.2.1), .int (nI z.2.2.1), .int (nI z.2.2.2.1), .int z.2.2.2.2.1, .int (nI z.2.2.2.2.2.1), .int (rq z.2.2.2.2.2.2), va_rf sp.head?]) := h9
        replace hf_net := (h8 (ad 1 0) ne_q_net.symm).trans hf_net
        replace hfo := fun x hx => (h8 x hx.1).trans (hfo x hx)
        refine lv_aload_n hx hb d_Net_remove_66 rfl (lv_at hl 2 rfl) ?_
        refine lv_aload_n hx hb d_Net_remove_67 rfl (lv_at hl 3 rfl) ?_
        refine q_put (ci := 1) (C := R_Net) (T := F_Net) (Nn := 5) (v := .ref q) E hC.1 hP hD hS hL_net hf_net rfl i_Net t_Net t_Net_ok n_Net 2 (by decide) zf_Net_9 rfl rfl rfl (Nat.le_of_ble_eq_true rfl) rfl d_Net_remove_68 (fun H locs f9 h9 h8 hP hD hS => ?_)
        replace hf_net : f9 (ad 1 0) = .inr (1, [va_rf as[k + 1]?, .null, .ref q, .int (nI as.length), .int (g 18 0)]) := h9
        replace hf_q := (h8 q ne_q_net).trans hf_q
        replace hfo := fun x hx => (h8 x hx.2).trans (hfo x hx)
        refine lv_aload_n hx hb d_Net_remove_71 rfl (lv_at hl 2 rfl) ?_
        refine lv_dup hx hb d_Net_remove_72 rfl ?_
        refine r_get (ci := 1) (C := R_Net) (T := F_Net) (Nn := 5) (v := .int (nI as.length)) E hC.1 hP hL_net hf_net rfl i_Net 3 (by decide) zf_Net_50 (fun _ h => h) rfl d_Net_remove_73 ?_
        refine lv_iconst (v := 1) hx hb d_Net_remove_76 (by decide) ?_
        refine lv_isub hx hb d_Net_remove_77 ?_
        refine wn_eq (y := nI (as.length - 1)) (pk_sub (a := as.length) (b := 1) (by omega)) ?_
        refine q_put (ci := 1) (C := R_Net) (T := F_Net) (Nn := 5) (v := .int (nI (as.length - 1))) E hC.1 hP hD hS hL_net hf_net rfl i_Net t_Net t_Net_ok n_Net 3 (by decide) zf_Net_50 rfl rfl rfl (Nat.le_of_ble_eq_true rfl) rfl d_Net_remove_78 (fun H locs f9 h9 h8 hP hD hS => ?_)
        replace hf_net : f9 (ad 1 0) = .inr (1, [va_rf as[k + 1]?, .null, .ref q, .int (nI (as.length - 1)), .int (g 18 0)]) := h9
        replace hf_q := (h8 q ne_q_net).trans hf_q
        replace hfo := fun x hx => (h8 x hx.2).trans (hfo x hx)
        refine x_eret E ⟨L, f9, iv, hP, hD, fun s1 i1 hv => ?_, rem_mx hM hqk hf_q (fun j x z9 hj hx hz => ?_) (fun x hx hxq hxb => hfo x ⟨hxq, fun e9 => ?_⟩)⟩ hS d_Net_remove_81
        · obtain ⟨g1, g2, g3⟩ := hF s1 i1 hv
          refine ⟨g1, g2, ?_⟩
          by_cases h1 : s1 = 1
          · subst h1
            have hi1 : i1 = 0 := hv
            subst hi1
            rw [hf_net]
            show _ = (Sum.inr (1, [va_rf (as.eraseIdx k).head?, va_rf (as.eraseIdx k).getLast?, .ref q, .int (nI (as.eraseIdx k).length), .int (g 18 0)]) : va_E)
            rw [ers_head, ers_last hkl, List.length_eraseIdx, if_pos hkl, if_pos hk0, if_pos h1, if_pos hk0]
            rw [hk0]; try rfl
          · rw [hfo _ ⟨fun e9 => by rw [e9] at g2; rw [g2] at hq13; exact vl_13 hv hq13, fun e9 => h1 (by rw [e9, hin] at g2; exact (Prod.mk.inj g2).1.symm)⟩, g3, ct_sp s1 i1 hv h1]
        · exact absurd hj (by omega)
        · have h13 := (hM.2.2.1 x hx).2
          rw [e9, hin] at h13
          exact absurd h13 (by decide)
    · obtain ⟨k1, hk1⟩ : ∃ k1, k = k1 + 1 := ⟨k - 1, by omega⟩
      obtain ⟨pb, hpb⟩ : ∃ pb, as[k1]? = some pb := ⟨as[k1]'(by omega), List.getElem?_eq_getElem _⟩
      obtain ⟨zb, hzb⟩ : ∃ zb, M[k1]? = some zb := ⟨M[k1]'(by omega), List.getElem?_eq_getElem _⟩
      rw [if_neg hk0, show k - 1 = k1 by omega, hpb] at hpv
      subst hpv
      obtain ⟨hL_pb, hpb13⟩ := hM.2.2.1 pb (List.mem_append_left _ (List.mem_of_getElem? hpb))
      have ne_pb_net : pb ≠ ad 1 0 := fun e9 => by rw [e9, hin] at hpb13; exact absurd hpb13 (by decide)
      have ne_pb_q : pb ≠ q := fun e9 => by
        subst e9
        have := (List.getElem?_inj hkl hnd).mp (hqk.trans hpb.symm)
        omega
      have hf_pb := hM.2.2.2.1 k1 pb zb hpb hzb
      rw [show as[k1 + 1]? = some q by rw [← hk1]; exact hqk] at hf_pb
      replace hf_pb : f pb = .inr (11, [.ref (eA 0 zb.1), .int (nI zb.2.1), .int (nI zb.2.2.1), .int (nI zb.2.2.2.1), .int zb.2.2.2.2.1, .int (nI zb.2.2.2.2.2.1), .int (rq zb.2.2.2.2.2.2), .ref q]) := hf_pb
      replace hl : lv_has ls 4 [(3, .ref q), (2, .ref pb), (0, .ref (ad 1 0)), (1, .ref q)] := hl
      have hfo : ∀ x, (x ≠ q ∧ x ≠ ad 1 0 ∧ x ≠ pb) → f x = f x := fun _ _ => rfl
      refine lv_aload_n hx hb d_Net_remove_22 rfl (lv_at hl 1 rfl) ?_
      refine lv_ifnonnull (tgt := 37) hx hb d_Net_remove_23 (by decide) ?_
      refine lv_aload_n hx hb d_Net_remove_37 rfl (lv_at hl 1 rfl) ?_
      refine lv_aload_n hx hb d_Net_remove_38 rfl (lv_at hl 3 rfl) ?_
      refine r_get (ci := 11) (C := R_Msg) (T := F_Msg) (Nn := 8) (v := va_rf as[k + 1]?) E hC.1 hP hL_q hf_q rfl i_Msg 7 (by decide) zf_Net_18 (fun _ h => h) rfl d_Net_remove_39 ?_
      refine q_put (ci := 11) (C := R_Msg) (T := F_Msg) (Nn := 8) (v := va_rf as[k + 1]?) E hC.1 hP hD hS hL_pb hf_pb rfl i_Msg t_Msg t_Msg_ok n_Msg 7 (by decide) zf_Net_18 rfl (rf_nar _) (rf_fit _) (Nat.le_of_ble_eq_true rfl) rfl d_Net_remove_42 (fun H locs f9 h9 h8 hP hD hS => ?_)
      replace hf_pb : f9 pb = .inr (11, [.ref (eA 0 zb.1), .int (nI zb.2.1), .int (nI zb.2.2.1), .int (nI zb.2.2.2.1), .int zb.2.2.2.2.1, .int (nI zb.2.2.2.2.2.1), .int (rq zb.2.2.2.2.2.2), va_rf as[k + 1]?]) := h9
      replace hf_q := (h8 q ne_pb_q.symm).trans hf_q
      replace hf_net := (h8 (ad 1 0) ne_pb_net.symm).trans hf_net
      replace hfo := fun x hx => (h8 x hx.2.2).trans (hfo x hx)
      refine lv_aload_n hx hb d_Net_remove_45 rfl (lv_at hl 2 rfl) ?_
      refine r_get (ci := 1) (C := R_Net) (T := F_Net) (Nn := 5) (v := .ref la) E hC.1 hP hL_net hf_net rfl i_Net 1 (by decide) zf_Net_47 (fun _ h => h) rfl d_Net_remove_46 ?_
      refine lv_aload_n hx hb d_Net_remove_49 rfl (lv_at hl 3 rfl) ?_
      refine lv_acmpR_ne (tgt := 58) hx hb d_Net_remove_50 (by decide) (fun h2 => ?_) (fun h2 => ?_)
      · replace h2 := (not_congr hlq).mp h2
        refine lv_aload_n hx hb d_Net_remove_58 rfl (lv_at hl 3 rfl) ?_
        refine lv_aload_n hx hb d_Net_remove_59 rfl (lv_at hl 2 rfl) ?_
        refine r_get (ci := 1) (C := R_Net) (T := F_Net) (Nn := 5) (v := va_rf sp.head?) E hC.1 hP hL_net hf_net rfl i_Net 2 (by decide) zf_Net_9 (fun _ h => h) rfl d_Net_remove_60 ?_
        refine q_put (ci := 11) (C := R_Msg) (T := F_Msg) (Nn := 8) (v := va_rf sp.head?) E hC.1 hP hD hS hL_q hf_q rfl i_Msg t_Msg t_Msg_ok n_Msg 7 (by decide) zf_Net_18 rfl (rf_nar _) (rf_fit _) (Nat.le_of_ble_eq_true rfl) rfl d_Net_remove_63 (fun H locs f9 h9 h8 hP hD hS => ?_)
        replace hf_q : f9 q = .inr (11, [.ref (eA 0 z.1), .int (nI z.2.1), .int (nI z.2.2.1), .int (nI z.2.2.2.1), .int z.2.2.2.2.1, .int (nI z.2.2.2.2.2.1), .int (rq z.2.2.2.2.2.2), va_rf sp.head?]) := h9
        replace hf_net := (h8 (ad 1 0) ne_q_net.symm).trans hf_net
        replace hf_pb := (h8 pb ne_pb_q).trans hf_pb
        replace hfo := fun x hx => (h8 x hx.1).trans (hfo x hx)
        refine lv_aload_n hx hb d_Net_remove_66 rfl (lv_at hl 2 rfl) ?_
        refine lv_aload_n hx hb d_Net_remove_67 rfl (lv_at hl 3 rfl) ?_
        refine q_put (ci := 1) (C := R_Net) (T := F_Net) (Nn := 5) (v := .ref q) E hC.1 hP hD hS hL_net hf_net rfl i_Net t_Net t_Net_ok n_Net 2 (by decide) zf_Net_9 rfl rfl rfl (Nat.le_of_ble_eq_true rfl) rfl d_Net_remove_68 (fun H locs f9 h9 h8 hP hD hS => ?_)
        replace hf_net : f9 (ad 1 0) = .inr (1, [va_rf as.head?, .ref la, .ref q, .int (nI as.length), .int (g 18 0)]) := h9
        replace hf_q := (h8 q ne_q_net).trans hf_q
        replace hf_pb := (h8 pb ne_pb_net).trans hf_pb
        replace hfo := fun x hx => (h8 x hx.2.1).trans (hfo x hx)
        refine lv_aload_n hx hb d_Net_remove_71 rfl (lv_at hl 2 rfl) ?_
        refine lv_dup hx hb d_Net_remove_72 rfl ?_
        refine r_get (ci := 1) (C := R_Net) (T := F_Net) (Nn := 5) (v := .int (nI as.length)) E hC.1 hP hL_net hf_net rfl i_Net 3 (by decide) zf_Net_50 (fun _ h => h) rfl d_Net_remove_73 ?_
        refine lv_iconst (v := 1) hx hb d_Net_remove_76 (by decide) ?_
        refine lv_isub hx hb d_Net_remove_77 ?_
        refine wn_eq (y := nI (as.length - 1)) (pk_sub (a := as.length) (b := 1) (by omega)) ?_
        refine q_put (ci := 1) (C := R_Net) (T := F_Net) (Nn := 5) (v := .int (nI (as.length - 1))) E hC.1 hP hD hS hL_net hf_net rfl i_Net t_Net t_Net_ok n_Net 3 (by decide) zf_Net_50 rfl rfl rfl (Nat.le_of_ble_eq_true rfl) rfl d_Net_remove_78 (fun H locs f9 h9 h8 hP hD hS => ?_)
        replace hf_net : f9 (ad 1 0) = .inr (1, [va_rf as.head?, .ref la, .ref q, .int (nI (as.length - 1)), .int (g 18 0)]) := h9
        replace hf_q := (h8 q ne_q_net).trans hf_q
        replace hf_pb := (h8 pb ne_pb_net).trans hf_pb
        replace hfo := fun x hx => (h8 x hx.2.1).trans (hfo x hx)
        refine x_eret E ⟨L, f9, iv, hP, hD, fun s1 i1 hv => ?_, rem_mx hM hqk hf_q (fun j x z9 hj hx hz => ?_) (fun x hx hxq hxb => hfo x ⟨hxq, fun e9 => ?_, ?_⟩)⟩ hS d_Net_remove_81
        · obtain ⟨g1, g2, g3⟩ := hF s1 i1 hv
          refine ⟨g1, g2, ?_⟩
          by_cases h1 : s1 = 1
          · subst h1
            have hi1 : i1 = 0 := hv
            subst hi1
            rw [hf_net]
            show _ = (Sum.inr (1, [va_rf (as.eraseIdx k).head?, va_rf (as.eraseIdx k).getLast?, .ref q, .int (nI (as.eraseIdx k).length), .int (g 18 0)]) : va_E)
            rw [ers_head, ers_last hkl, List.length_eraseIdx, if_pos hkl, if_neg hk0, if_neg h2, hla]
            try rfl
          · rw [hfo _ ⟨fun e9 => by rw [e9] at g2; rw [g2] at hq13; exact vl_13 hv hq13, fun e9 => h1 (by rw [e9, hin] at g2; exact (Prod.mk.inj g2).1.symm), fun e9 => by rw [e9] at g2; rw [g2] at hpb13; exact vl_13 hv hpb13⟩, g3, ct_sp s1 i1 hv h1]
        · obtain rfl : j = k1 := by omega
          rw [hpb] at hx
          rw [hzb] at hz
          cases hx; cases hz
          rw [hf_pb]; rfl
        · have h13 := (hM.2.2.1 x hx).2
          rw [e9, hin] at h13
          exact absurd h13 (by decide)
        · exact fun e9 => hxb k1 hk1 (by rw [e9]; exact hpb)
      · replace h2 := hlq.mp h2
        refine lv_aload_n hx hb d_Net_remove_53 rfl (lv_at hl 2 rfl) ?_
        refine lv_aload_n hx hb d_Net_remove_54 rfl (lv_at hl 1 rfl) ?_
        refine q_put (ci := 1) (C := R_Net) (T := F_Net) (Nn := 5) (v := .ref pb) E hC.1 hP hD hS hL_net hf_net rfl i_Net t_Net t_Net_ok n_Net 1 (by decide) zf_Net_47 rfl rfl rfl (Nat.le_of_ble_eq_true rfl) rfl d_Net_remove_55 (fun H locs f9 h9 h8 hP hD hS => ?_)
        replace hf_net : f9 (ad 1 0) = .inr (1, [va_rf as.head?, .ref pb, va_rf sp.head?, .int (nI as.length), .int (g 18 0)]) := h9
        replace hf_q := (h8 q ne_q_net).trans hf_q
        replace hf_pb := (h8 pb ne_pb_net).trans hf_pb
        replace hfo := fun x hx => (h8 x hx.2.1).trans (hfo x hx)
        refine lv_aload_n hx hb d_Net_remove_58 rfl (lv_at hl 3 rfl) ?_
        refine lv_aload_n hx hb d_Net_remove_59 rfl (lv_at hl 2 rfl) ?_
        refine r_get (ci := 1) (C := R_Net) (T := F_Net) (Nn := 5) (v := va_rf sp.head?) E hC.1 hP hL_net hf_net rfl i_Net 2 (by decide) zf_Net_9 (fun _ h => h) rfl d_Net_remove_60 ?_
        refine q_put (ci := 11) (C := R_Msg) (T := F_Msg) (Nn := 8) (v := va_rf sp.head?) E hC.1 hP hD hS hL_q hf_q rfl i_Msg t_Msg t_Msg_ok n_Msg 7 (by decide) zf_Net_18 rfl (rf_nar _) (rf_fit _) (Nat.le_of_ble_eq_true rfl) rfl d_Net_remove_63 (fun H locs f9 h9 h8 hP hD hS => ?_)
        replace hf_q : f9 q = .inr (11, [.ref (eA 0 z.1), .int (nI z.2.1), .int (nI z.2.2.1), .int (nI z.2.2.2.1), .int z.2.2.2.2.1, .int (nI z.2.2.2.2.2.1), .int (rq z.2.2.2.2.2.2), va_rf sp.head?]) := h9
        replace hf_net := (h8 (ad 1 0) ne_q_net.symm).trans hf_net
        replace hf_pb := (h8 pb ne_pb_q).trans hf_pb
        replace hfo := fun x hx => (h8 x hx.1).trans (hfo x hx)
        refine lv_aload_n hx hb d_Net_remove_66 rfl (lv_at hl 2 rfl) ?_
        refine lv_aload_n hx hb d_Net_remove_67 rfl (lv_at hl 3 rfl) ?_
        refine q_put (ci := 1) (C := R_Net) (T := F_Net) (Nn := 5) (v := .ref q) E hC.1 hP hD hS hL_net hf_net rfl i_Net t_Net t_Net_ok n_Net 2 (by decide) zf_Net_9 rfl rfl rfl (Nat.le_of_ble_eq_true rfl) rfl d_Net_remove_68 (fun H locs f9 h9 h8 hP hD hS => ?_)
        replace hf_net : f9 (ad 1 0) = .inr (1, [va_rf as.head?, .ref pb, .ref q, .int (nI as.length), .int (g 18 0)]) := h9
        replace hf_q := (h8 q ne_q_net).trans hf_q
        replace hf_pb := (h8 pb ne_pb_net).trans hf_pb
        replace hfo := fun x hx => (h8 x hx.2.1).trans (hfo x hx)
        refine lv_aload_n hx hb d_Net_remove_71 rfl (lv_at hl 2 rfl) ?_
        refine lv_dup hx hb d_Net_remove_72 rfl ?_
        refine r_get (ci := 1) (C := R_Net) (T := F_Net) (Nn := 5) (v := .int (nI as.length)) E hC.1 hP hL_net hf_net rfl i_Net 3 (by decide) zf_Net_50 (fun _ h => h) rfl d_Net_remove_73 ?_
        refine lv_iconst (v := 1) hx hb d_Net_remove_76 (by decide) ?_
        refine lv_isub hx hb d_Net_remove_77 ?_
        refine wn_eq (y := nI (as.length - 1)) (pk_sub (a := as.length) (b := 1) (by omega)) ?_
        refine q_put (ci := 1) (C := R_Net) (T := F_Net) (Nn := 5) (v := .int (nI (as.length - 1))) E hC.1 hP hD hS hL_net hf_net rfl i_Net t_Net t_Net_ok n_Net 3 (by decide) zf_Net_50 rfl rfl rfl (Nat.le_of_ble_eq_true rfl) rfl d_Net_remove_78 (fun H locs f9 h9 h8 hP hD hS => ?_)
        replace hf_net : f9 (ad 1 0) = .inr (1, [va_rf as.head?, .ref pb, .ref q, .int (nI (as.length - 1)), .int (g 18 0)]) := h9
        replace hf_q := (h8 q ne_q_net).trans hf_q
        replace hf_pb := (h8 pb ne_pb_net).trans hf_pb
        replace hfo := fun x hx => (h8 x hx.2.1).trans (hfo x hx)
        refine x_eret E ⟨L, f9, iv, hP, hD, fun s1 i1 hv => ?_, rem_mx hM hqk hf_q (fun j x z9 hj hx hz => ?_) (fun x hx hxq hxb => hfo x ⟨hxq, fun e9 => ?_, ?_⟩)⟩ hS d_Net_remove_81
        · obtain ⟨g1, g2, g3⟩ := hF s1 i1 hv
          refine ⟨g1, g2, ?_⟩
          by_cases h1 : s1 = 1
          · subst h1
            have hi1 : i1 = 0 := hv
            subst hi1
            rw [hf_net]
            show _ = (Sum.inr (1, [va_rf (as.eraseIdx k).head?, va_rf (as.eraseIdx k).getLast?, .ref q, .int (nI (as.eraseIdx k).length), .int (g 18 0)]) : va_E)
            rw [ers_head, ers_last hkl, List.length_eraseIdx, if_pos hkl, if_neg hk0, if_pos h2, if_neg hk0]
            rw [show k - 1 = k1 by omega, hpb]; try rfl
          · rw [hfo _ ⟨fun e9 => by rw [e9] at g2; rw [g2] at hq13; exact vl_13 hv hq13, fun e9 => h1 (by rw [e9, hin] at g2; exact (Prod.mk.inj g2).1.symm), fun e9 => by rw [e9] at g2; rw [g2] at hpb13; exact vl_13 hv hpb13⟩, g3, ct_sp s1 i1 hv h1]
        · obtain rfl : j = k1 := by omega
          rw [hpb] at hx
          rw [hzb] at hz
          cases hx; cases hz
          rw [hf_pb]; rfl
        · have h13 := (hM.2.2.1 x hx).2
          rw [e9, hin] at h13
          exact absurd h13 (by decide)
        · exact fun e9 => hxb k1 hk1 (by rw [e9]; exact hpb)
  have loop : ∀ (r i q3 : Nat), i + r = k → as[i]? = some q3 → ∀ (pv : Value) (ls : Array Slot), pv = (if i = 0 then .null else va_rf as[i - 1]?) → lv_has ls 4 [(3, .ref q3), (2, pv), (0, .ref (ad 1 0)), (1, .ref q)] → W p l e (rml 0 0 0) s m ([.ref (ad 1 0), .ref q] : List Value).toArray below meth c0 s.heap [] 0 0 (MQ below (XQe D dA eA ad A N g (M.eraseIdx k) (as.eraseIdx k) (q :: sp)) ([.ref (ad 1 0), .ref q] : List Value).toArray s 0 0 A) (F0 m 7 ls []) := by
    intro r
    induction r with
    | zero =>
      intro i q3 hir hq3 pv ls hpv hl
      obtain rfl : i = k := by omega
      obtain rfl : q3 = q := Option.some.inj (hq3.symm.trans hqk)
      refine lv_aload_n hx hb d_Net_remove_7 rfl (lv_at hl 0 rfl) ?_
      refine lv_aload_n hx hb d_Net_remove_8 rfl (lv_at hl 3 rfl) ?_
      refine lv_acmpR_eq (tgt := 22) hx hb d_Net_remove_9 (by decide) (fun _ => ?_) (fun h => absurd rfl h)
      exact tail pv ls hpv hl
    | succ r ih =>
      intro i q3 hir hq3 pv ls hpv hl
      have hne : ¬ q3 = q := fun e9 => by
        subst e9
        have := (List.getElem?_inj hkl hnd).mp (hqk.trans hq3.symm)
        omega
      obtain ⟨z3, hz3⟩ : ∃ z3, M[i]? = some z3 := ⟨M[i]'(by omega), List.getElem?_eq_getElem _⟩
      obtain ⟨q4, hq4⟩ : ∃ q4, as[i + 1]? = some q4 := ⟨as[i + 1]'(by omega), List.getElem?_eq_getElem _⟩
      refine lv_aload_n hx hb d_Net_remove_7 rfl (lv_at hl 0 rfl) ?_
      refine lv_aload_n hx hb d_Net_remove_8 rfl (lv_at hl 3 rfl) ?_
      refine lv_acmpR_eq (tgt := 22) hx hb d_Net_remove_9 (by decide) (fun h => absurd h hne) (fun _ => ?_)
      refine lv_aload_n hx hb d_Net_remove_12 rfl (lv_at hl 0 rfl) ?_
      have hl2 := lv_sub hl [0, 2, 3] rfl
      refine lv_astore_n (lv' := [(2, .ref q3), (3, .ref q3), (0, .ref (ad 1 0)), (1, .ref q)]) hx hb d_Net_remove_13 rfl hl2 (by decide) rfl (fun ls hl => ?_)
      refine lv_aload_n hx hb d_Net_remove_14 rfl (lv_at hl 1 rfl) ?_
      refine xg_Msg (v := .ref q4) E hC hR hq3 hz3 7 (by decide) zf_Net_18 (by rw [hq4]; rfl) d_Net_remove_15 ?_
      refine lv_astore_n (lv' := [(3, .ref q4), (2, .ref q3), (0, .ref (ad 1 0)), (1, .ref q)]) hx hb d_Net_remove_18 rfl hl (by decide) rfl (fun ls hl => ?_)
      refine lv_goto (tgt := 7) hx hb d_Net_remove_19 (by decide) ?_
      exact ih (i + 1) q4 (by omega) hq4 (.ref q3) ls (by rw [if_neg (by omega), Nat.add_sub_cancel, hq3]; rfl) hl
  obtain ⟨q0, hq0⟩ : ∃ q0, as[0]? = some q0 := ⟨as[0]'(by omega), List.getElem?_eq_getElem _⟩
  refine lv_null hx hb d_Net_remove_0 ?_
  refine lv_astore_nN (lv' := [(2, .null), (0, .ref (ad 1 0)), (1, .ref q)]) hx hb d_Net_remove_1 rfl hl (by decide) rfl (fun ls hl => ?_)
  refine lv_aload_n hx hb d_Net_remove_2 rfl (lv_at hl 1 rfl) ?_
  refine xg_Net (v := .ref q0) E hC hR 0 (by decide) zf_Net_44 (by rw [List.head?_eq_getElem?, hq0]; rfl) d_Net_remove_3 ?_
  refine lv_astore_n (lv' := [(3, .ref q0), (2, .null), (0, .ref (ad 1 0)), (1, .ref q)]) hx hb d_Net_remove_6 rfl hl (by decide) rfl (fun ls hl => ?_)
  exact loop k 0 q0 (by omega) hq0 .null ls rfl (lv_sub hl [0, 1, 2, 3] rfl)
