
theorem RX.len {D : va_G} {dA : Nat → ClassId} {eA ad : Nat → Nat → Nat} {A : Nat → Prop} {N : Nat} {g : PS} {M : List Msg} {as sp : List Nat} {H : Heap} (hR : RX D dA eA ad A N g M as sp H) : as.length = M.length := by
  obtain ⟨L, f, iv, hP, hD, hF, hM⟩ := hR
  exact hM.1
theorem RX.nd {D : va_G} {dA : Nat → ClassId} {eA ad : Nat → Nat → Nat} {A : Nat → Prop} {N : Nat} {g : PS} {M : List Msg} {as sp : List Nat} {H : Heap} (hR : RX D dA eA ad A N g M as sp H) : as.Nodup := by
  obtain ⟨L, f, iv, hP, hD, hF, hM⟩ := hR
  exact (List.nodup_append.mp hM.2.1).1
theorem getD_fw : ∀ {k : Nat}, k < 10 → ([0, 0, 0, 0, 1, 1, 1, 1, 0, 0] : List Int32).getD k 0 = if fw k then 1 else 0 := by
  intro k hk
  rcases (show k = 0 ∨ k = 1 ∨ k = 2 ∨ k = 3 ∨ k = 4 ∨ k = 5 ∨ k = 6 ∨ k = 7 ∨ k = 8 ∨ k = 9 by omega) with rfl | rfl | rfl | rfl | rfl | rfl | rfl | rfl | rfl | rfl <;> rfl
section XF
variable {p : Program} {l : Launch} {e : Env} {R : Room} {s : State} {m : MethodId} {args : Array Value} {below : List Frame} {meth : Method} {c : Code} {H : Heap} {locs : List Loc} {cells slots : Nat} {Q : State → Prop}
variable {cc : ByteArray} {pc nL : Nat} {own : String} {ret : Option FieldType} {ls : Array Slot} {rest : List Value} {D : va_G} {dA : Nat → ClassId} {eA ad : Nat → Nat → Nat} {A : Nat → Prop}
theorem x_forward (E : Cx p s m args meth c cc own nL ret) (hC : CX D dA eA A s) (hS : va_S A s.heap H locs) {k : Nat} (hk : k < 10) {host : String} {index : Nat} (hlink : va_Nw (.fieldLinkNest own index R_Kind "forward" "Z" host) s) (hdg : decode cc pc = .ok (.getfield index, 3)) (kk : W p l e R s m args below meth c H locs cells slots Q (F0 m (pc + 3) ls (.int (if fw k then 1 else 0) :: rest))) : W p l e R s m args below meth c H locs cells slots Q (F0 m pc ls (.ref (eA 0 k) :: rest)) := by
  have hE := hC.2.1
  obtain ⟨cf, kf, fi, f, cell, h1, h2, h3, h4, h5, h6⟩ := ((hE.1 k hk).2.2 ("HomeDirectory$Kind", "forward", "Z", [0, 0, 0, 0, 1, 1, 1, 1, 0, 0]) (by simp)).kept hS.2.1
  refine va_Wgetf E.1 E.2.1 E.2.2.2.1 (hlink.use rfl) h1 h2 h3 h4 h5 rfl rfl hdg ?_
  rw [getD_fw hk]
  exact kk
theorem wr_eq {x y : Nat} (h : x = y) (k : W p l e R s m args below meth c H locs cells slots Q (F0 m pc ls (.ref y :: rest))) : W p l e R s m args below meth c H locs cells slots Q (F0 m pc ls (.ref x :: rest)) := by rw [h]; exact k
theorem wq_eq {x y : Value} (h : x = y) (k : W p l e R s m args below meth c H locs cells slots Q (F0 m pc ls (y :: rest))) : W p l e R s m args below meth c H locs cells slots Q (F0 m pc ls (x :: rest)) := by rw [h]; exact k
end XF
set_option maxHeartbeats 4000000 in
set_option maxRecDepth 100000 in
theorem c_Net_sendWord (l : Launch) (D : va_G) (dA : Nat → ClassId) (eA ad : Nat → Nat → Nat) (A : Nat → Prop) (N : Nat) (g : PS) (M : List Msg) (as sp : List Nat) (kd fr t b : Nat) (w : Int32) : Met l y_Net_sendWord (k_Net_sendWord :: wz) (rml 3 1 8) (va_Pc [.ref (ad 1 0), .ref (eA 0 kd), .int (nI fr), .int (nI t), .int (nI b), .int w] (PX D dA eA ad A N g M as sp)) (XQv D dA eA ad A N (snd g) (M ++ [(kd, fr, t, b, w, 0, 0)]) as) 1 8 A := by
  refine x_entry (by decide) (Nat.le_of_ble_eq_true rfl) ?_
  intro p e s m below meth c0 E hA hC hR ls hl
  have hx := E.1
  have hb := E.2.1
  have hS : va_S A s.heap s.heap [] := va_S.rf
  have hlen := hR.len
  replace hl : lv_has ls 6 [(0, .ref (ad 1 0)), (1, .ref (eA 0 kd)), (2, .int (nI fr)), (3, .int (nI t)), (4, .int (nI b)), (5, .int w)] := hl
  refine lv_aload_n hx hb d_Net_sendWord_0 rfl (lv_at hl 0 rfl) ?_
  refine lv_aload_n hx hb d_Net_sendWord_1 rfl (lv_at hl 1 rfl) ?_
  refine lv_iload_n hx hb d_Net_sendWord_2 rfl (lv_at hl 2 rfl) ?_
  refine lv_iload_n hx hb d_Net_sendWord_3 rfl (lv_at hl 3 rfl) ?_
  refine lv_iload hx hb d_Net_sendWord_4 (lv_at hl 4 rfl) ?_
  refine xc_r (av := [.ref (ad 1 0), .ref (eA 0 kd), .int (nI fr), .int (nI t), .int (nI b)]) (xrunV (As := [.ref (eA 0 kd), .int (nI fr), .int (nI t), .int (nI b)]) (rest := []) E hA hC hR hS (c_Net_send l D dA eA ad A N g M as sp kd fr t b) (x_recv hC hR (s0 := 1) (i0 := 0) (show vl N 1 0 from rfl) rfl rfl) ck_Net_56 ⟨rfl, rfl⟩ ⟨Nat.le_of_ble_eq_true rfl, Nat.le_of_ble_eq_true rfl⟩ rfl (lv_sub hl [] rfl) rfl (Nat.le_of_ble_eq_true rfl) ⟨Nat.le_of_ble_eq_true rfl, Nat.le_of_ble_eq_true rfl⟩ d_Net_sendWord_6) hS (fun H locs q1 sp1 hR hS => ?_)
  refine W.widen (k := 1) (n := 8) (by decide) (by decide) ?_
  have hq1 : (as ++ [q1])[M.length]? = some q1 := by rw [← hlen]; simp
  have hz1 : (M ++ [(kd, fr, t, b, 0, 0, 0)])[M.length]? = some (kd, fr, t, b, 0, 0, 0) := by simp
  refine lv_iload hx hb d_Net_sendWord_9 (lv_at hl 5 rfl) ?_
  refine xp_Msg (z' := (kd, fr, t, b, w, 0, 0)) E hC hR hS hq1 hz1 4 (by decide) zf_Net_35 rfl rfl rfl d_Net_sendWord_11 (fun H locs hR hS => ?_)
  have eM : (M ++ [(kd, fr, t, b, 0, 0, 0)]).set M.length (kd, fr, t, b, w, 0, 0) = M ++ [(kd, fr, t, b, w, 0, 0)] := by simp
  rw [eM] at hR
  exact x_vret (nw := [q1]) E hR hS d_Net_sendWord_14
set_option maxHeartbeats 4000000 in
set_option maxRecDepth 100000 in
theorem c_Net_sendFor (l : Launch) (D : va_G) (dA : Nat → ClassId) (eA ad : Nat → Nat → Nat) (A : Nat → Prop) (N : Nat) (g : PS) (M : List Msg) (as sp : List Nat) (kd t b r : Nat) : Met l y_Net_sendFor (k_Net_sendFor :: wz) (rml 3 1 8) (va_Pc [.ref (ad 1 0), .ref (eA 0 kd), .int (nI t), .int (nI b), .int (nI r)] (PX D dA eA ad A N g M as sp)) (XQv D dA eA ad A N (snd g) (M ++ [(kd, 4, t, b, 0, 0, r + 1)]) as) 1 8 A := by
  refine x_entry (by decide) (Nat.le_of_ble_eq_true rfl) ?_
  intro p e s m below meth c0 E hA hC hR ls hl
  have hx := E.1
  have hb := E.2.1
  have hS : va_S A s.heap s.heap [] := va_S.rf
  have hlen := hR.len
  replace hl : lv_has ls 5 [(0, .ref (ad 1 0)), (1, .ref (eA 0 kd)), (2, .int (nI t)), (3, .int (nI b)), (4, .int (nI r))] := hl
  refine lv_aload_n hx hb d_Net_sendFor_0 rfl (lv_at hl 0 rfl) ?_
  refine lv_aload_n hx hb d_Net_sendFor_1 rfl (lv_at hl 1 rfl) ?_
  refine lv_iconst (v := 4) hx hb d_Net_sendFor_2 (by decide) ?_
  refine lv_iload_n hx hb d_Net_sendFor_3 rfl (lv_at hl 2 rfl) ?_
  refine lv_iload_n hx hb d_Net_sendFor_4 rfl (lv_at hl 3 rfl) ?_
  refine xc_r (av := [.ref (ad 1 0), .ref (eA 0 kd), .int 4, .int (nI t), .int (nI b)]) (xrunV (As := [.ref (eA 0 kd), .int 4, .int (nI t), .int (nI b)]) (rest := []) E hA hC hR hS (c_Net_send l D dA eA ad A N g M as sp kd 4 t b) (x_recv hC hR (s0 := 1) (i0 := 0) (show vl N 1 0 from rfl) rfl rfl) ck_Net_56 ⟨rfl, rfl⟩ ⟨Nat.le_of_ble_eq_true rfl, Nat.le_of_ble_eq_true rfl⟩ rfl (lv_sub hl [] rfl) rfl (Nat.le_of_ble_eq_true rfl) ⟨Nat.le_of_ble_eq_true rfl, Nat.le_of_ble_eq_true rfl⟩ d_Net_sendFor_5) hS (fun H locs q1 sp1 hR hS => ?_)
  refine W.widen (k := 1) (n := 8) (by decide) (by decide) ?_
  have hq1 : (as ++ [q1])[M.length]? = some q1 := by rw [← hlen]; simp
  have hz1 : (M ++ [(kd, 4, t, b, 0, 0, 0)])[M.length]? = some (kd, 4, t, b, 0, 0, 0) := by simp
  refine lv_iload hx hb d_Net_sendFor_8 (lv_at hl 4 rfl) ?_
  refine xp_Msg (z' := (kd, 4, t, b, 0, 0, r + 1)) E hC hR hS hq1 hz1 6 (by decide) zf_Net_41 rfl rfl (by rw [mcl]; simp only [rq_s]; rfl) d_Net_sendFor_10 (fun H locs hR hS => ?_)
  have eM : (M ++ [(kd, 4, t, b, 0, 0, 0)]).set M.length (kd, 4, t, b, 0, 0, r + 1) = M ++ [(kd, 4, t, b, 0, 0, r + 1)] := by simp
  rw [eM] at hR
  exact x_vret (nw := [q1]) E hR hS d_Net_sendFor_13
set_option maxHeartbeats 4000000 in
set_option maxRecDepth 100000 in
theorem c_Msg_sameWay (l : Launch) (D : va_G) (dA : Nat → ClassId) (eA ad : Nat → Nat → Nat) (A : Nat → Prop) (N : Nat) (g : PS) (M : List Msg) (as sp : List Nat) {j k q q2 : Nat} {z z2 : Msg} (hq : as[j]? = some q) (hz : M[j]? = some z) (hq2 : as[k]? = some q2) (hz2 : M[k]? = some z2) (h1 : z.1 < 10) (h2 : z.2.2.1 < 5) (h3 : z.2.2.2.1 < 4) (h4 : z2.2.2.1 < 5) (h5 : z2.2.2.2.1 < 4) : Met l y_Msg_sameWay (k_Msg_sameWay :: wz) (rml 0 0 0) (va_Pc [.ref q, .ref q2] (PX D dA eA ad A N g M as sp)) (QcRead (if same z2 z then 1 else 0)) 0 0 (fun _ => False) := by
  refine x_entry (by decide) (Nat.le_of_ble_eq_true rfl) ?_
  intro p e s m below meth c0 E hA hC hR ls hl
  have hx := E.1
  have hb := E.2.1
  have hS : va_S A s.heap s.heap [] := va_S.rf
  replace hl : lv_has ls 2 [(0, .ref q), (1, .ref q2)] := hl
  refine lv_aload_n hx hb d_Msg_sameWay_0 rfl (lv_at hl 0 rfl) ?_
  refine xg_Msg E hC hR hq hz 0 (by decide) zf_Msg_7 rfl d_Msg_sameWay_1 ?_
  refine x_forward E hC hS (show z.1 < 10 by omega) hC.2.2.2.2.1.2.2.2.2.2.2.2 d_Msg_sameWay_4 ?_
  refine lv_if_eq (tgt := 36) hx hb d_Msg_sameWay_7 (by decide) (fun h11 => ?_) (fun h11 => ?_)
  · have hfw : fw z.1 = false := by cases hf : fw z.1 <;> simp_all
    refine lv_iconst (v := 0) hx hb d_Msg_sameWay_36 (by decide) ?_
    exact t_read E rfl (by simp [same, hfw]; try omega) d_Msg_sameWay_37
  · have hfw : fw z.1 = true := by cases hf : fw z.1 <;> simp_all
    refine lv_aload_n hx hb d_Msg_sameWay_10 rfl (lv_at hl 1 rfl) ?_
    refine xg_Msg E hC hR hq2 hz2 2 (by decide) zf_Msg_19 rfl d_Msg_sameWay_11 ?_
    refine lv_aload_n hx hb d_Msg_sameWay_14 rfl (lv_at hl 0 rfl) ?_
    refine xg_Msg E hC hR hq hz 2 (by decide) zf_Msg_19 rfl d_Msg_sameWay_15 ?_
    refine lv_icmp_ne (tgt := 36) hx hb d_Msg_sameWay_18 (by decide) (fun h12 => ?_) (fun h12 => ?_)
    · replace h12 := (not_congr (nI_eq (a := z2.2.2.1) (b := z.2.2.1) (by omega) (by omega))).mp h12
      refine lv_iconst (v := 0) hx hb d_Msg_sameWay_36 (by decide) ?_
      exact t_read E rfl (by simp [same, hfw, h12]; try omega) d_Msg_sameWay_37
    · replace h12 := (nI_eq (a := z2.2.2.1) (b := z.2.2.1) (by omega) (by omega)).mp h12
      refine lv_aload_n hx hb d_Msg_sameWay_21 rfl (lv_at hl 1 rfl) ?_
      refine xg_Msg E hC hR hq2 hz2 3 (by decide) zf_Msg_23 rfl d_Msg_sameWay_22 ?_
      refine lv_aload_n hx hb d_Msg_sameWay_25 rfl (lv_at hl 0 rfl) ?_
      refine xg_Msg E hC hR hq hz 3 (by decide) zf_Msg_23 rfl d_Msg_sameWay_26 ?_
      refine lv_icmp_ne (tgt := 36) hx hb d_Msg_sameWay_29 (by decide) (fun h13 => ?_) (fun h13 => ?_)
      · replace h13 := (not_congr (nI_eq (a := z2.2.2.2.1) (b := z.2.2.2.1) (by omega) (by omega))).mp h13
        refine lv_iconst (v := 0) hx hb d_Msg_sameWay_36 (by decide) ?_
        exact t_read E rfl (by simp [same, hfw, h12, h13]; try omega) d_Msg_sameWay_37
      · replace h13 := (nI_eq (a := z2.2.2.2.1) (b := z.2.2.2.1) (by omega) (by omega)).mp h13
        refine lv_iconst (v := 1) hx hb d_Msg_sameWay_32 (by decide) ?_
        refine lv_goto (tgt := 37) hx hb d_Msg_sameWay_33 (by decide) ?_
        exact t_read E rfl (by simp [same, hfw, h12, h13]; try omega) d_Msg_sameWay_37
def s_at (as : List Nat) (k : Int32) : Option Nat := if k < 0 then none else as[k.toNatClampNeg]?
set_option maxHeartbeats 4000000 in
set_option maxRecDepth 100000 in
theorem c_Net_at (l : Launch) (D : va_G) (dA : Nat → ClassId) (eA ad : Nat → Nat → Nat) (A : Nat → Prop) (N : Nat) (g : PS) (M : List Msg) (as sp : List Nat) (k : Int32) : Met l y_Net_at (k_Net_at :: wz) (rml 0 0 0) (va_Pc [.ref (ad 1 0), .int k] (PX D dA eA ad A N g M as sp)) (QcRef (s_at as k)) 0 0 (fun _ => False) := by
  refine x_entry (by decide) (Nat.le_of_ble_eq_true rfl) ?_
  intro p e s m below meth c0 E hA hC hR ls hl
  have hx := E.1
  have hb := E.2.1
  have hS : va_S A s.heap s.heap [] := va_S.rf
  have hlen := hR.len
  replace hl : lv_has ls 4 [(0, .ref (ad 1 0)), (1, .int k)] := hl
  by_cases hk0 : k < 0
  · refine lv_iload_n hx hb d_Net_at_0 rfl (lv_at hl 1 rfl) ?_
    refine lv_if_ge (tgt := 8) hx hb d_Net_at_1 (by decide) (fun h1 => absurd h1 (fun q => absurd hk0 (Int32.not_lt.mpr q))) (fun h1 => ?_)
    refine lv_null hx hb d_Net_at_4 ?_
    refine lv_goto (tgt := 12) hx hb d_Net_at_5 (by decide) ?_
    refine lv_astore_nN (lv' := [(2, .null), (0, .ref (ad 1 0)), (1, .int k)]) hx hb d_Net_at_12 rfl hl (by decide) rfl (fun ls hl => ?_)
    refine lv_iconst (v := 0) hx hb d_Net_at_13 (by decide) ?_
    refine lv_istore_n (lv' := [(3, .int 0), (2, .null), (0, .ref (ad 1 0)), (1, .int k)]) hx hb d_Net_at_14 rfl hl (by decide) rfl (fun ls hl => ?_)
    refine lv_iload_n hx hb d_Net_at_15 rfl (lv_at hl 0 rfl) ?_
    refine lv_iload_n hx hb d_Net_at_16 rfl (lv_at hl 3 rfl) ?_
    refine lv_icmp_ge (tgt := 35) hx hb d_Net_at_17 (by decide) (fun h2 => ?_) (fun h2 => absurd (Int32.le_of_lt hk0) h2)
    refine lv_aload_nN hx hb d_Net_at_35 rfl (lv_at hl 1 rfl) ?_
    exact x_qret (q := s_at as k) E (by rw [s_at, if_pos hk0]; rfl) d_Net_at_36
  · obtain ⟨kn, hkn, rfl⟩ := nI_of hk0
    have ek : (nI kn).toNatClampNeg = kn := nI_clamp hkn
    have loop : ∀ (r i : Nat), i + r = kn → ∀ ls, lv_has ls 4 [(3, .int (nI i)), (2, va_rf as[i]?), (0, .ref (ad 1 0)), (1, .int (nI kn))] → W p l e (rml 0 0 0) s m ([.ref (ad 1 0), .int (nI kn)] : List Value).toArray below meth c0 s.heap [] 0 0 (MQ below (QcRef (s_at as (nI kn))) ([.ref (ad 1 0), .int (nI kn)] : List Value).toArray s 0 0 (fun _ => False)) (F0 m 15 ls []) := by
      intro r
      induction r with
      | zero =>
        intro i hir ls hl
        obtain rfl : i = kn := by omega
        rcases hai : as[i]? with _ | q
        · rw [hai] at hl
          replace hl : lv_has ls 4 [(3, .int (nI i)), (2, .null), (0, .ref (ad 1 0)), (1, .int (nI i))] := hl
          refine lv_iload_n hx hb d_Net_at_15 rfl (lv_at hl 0 rfl) ?_
          refine lv_iload_n hx hb d_Net_at_16 rfl (lv_at hl 3 rfl) ?_
          refine lv_icmp_ge (tgt := 35) hx hb d_Net_at_17 (by decide) (fun h3 => ?_) (fun h3 => absurd (nI_le (a := i) (b := i) (by omega) (by omega)) h3)
          refine lv_aload_nN hx hb d_Net_at_35 rfl (lv_at hl 1 rfl) ?_
          exact x_qret (q := s_at as (nI i)) E (by rw [s_at, if_neg (nI_pos hkn), ek, hai]; rfl) d_Net_at_36
        · rw [hai] at hl
          replace hl : lv_has ls 4 [(3, .int (nI i)), (2, .ref q), (0, .ref (ad 1 0)), (1, .int (nI i))] := hl
          refine lv_iload_n hx hb d_Net_at_15 rfl (lv_at hl 0 rfl) ?_
          refine lv_iload_n hx hb d_Net_at_16 rfl (lv_at hl 3 rfl) ?_
          refine lv_icmp_ge (tgt := 35) hx hb d_Net_at_17 (by decide) (fun h4 => ?_) (fun h4 => absurd (nI_le (a := i) (b := i) (by omega) (by omega)) h4)
          refine lv_aload_n hx hb d_Net_at_35 rfl (lv_at hl 1 rfl) ?_
          exact x_qret (q := s_at as (nI i)) E (by rw [s_at, if_neg (nI_pos hkn), ek, hai]; rfl) d_Net_at_36
      | succ r ih =>
        intro i hir ls hl
        rcases hai : as[i]? with _ | q
        · rw [hai] at hl
          replace hl : lv_has ls 4 [(3, .int (nI i)), (2, .null), (0, .ref (ad 1 0)), (1, .int (nI kn))] := hl
          refine lv_iload_n hx hb d_Net_at_15 rfl (lv_at hl 0 rfl) ?_
          refine lv_iload_n hx hb d_Net_at_16 rfl (lv_at hl 3 rfl) ?_
          refine lv_icmp_ge (tgt := 35) hx hb d_Net_at_17 (by decide) (fun h5 => absurd h5 (nI_ge (a := i) (b := kn) (by omega) (by omega))) (fun h5 => ?_)
          refine lv_aload_nN hx hb d_Net_at_20 rfl (lv_at hl 1 rfl) ?_
          refine lv_ifnullN (tgt := 35) hx hb d_Net_at_21 (by decide) ?_
          refine lv_aload_nN hx hb d_Net_at_35 rfl (lv_at hl 1 rfl) ?_
          exact x_qret (q := s_at as (nI kn)) E (by rw [s_at, if_neg (nI_pos hkn), ek, List.getElem?_eq_none (by have := List.getElem?_eq_none_iff.mp hai; omega)]; rfl) d_Net_at_36
        · rw [hai] at hl
          replace hl : lv_has ls 4 [(3, .int (nI i)), (2, .ref q), (0, .ref (ad 1 0)), (1, .int (nI kn))] := hl
          obtain ⟨z, hzi⟩ : ∃ z, M[i]? = some z := ⟨M[i]'(by have := (List.getElem?_eq_some_iff.mp hai).1; omega), List.getElem?_eq_getElem _⟩
          refine lv_iload_n hx hb d_Net_at_15 rfl (lv_at hl 0 rfl) ?_
          refine lv_iload_n hx hb d_Net_at_16 rfl (lv_at hl 3 rfl) ?_
          refine lv_icmp_ge (tgt := 35) hx hb d_Net_at_17 (by decide) (fun h6 => absurd h6 (nI_ge (a := i) (b := kn) (by omega) (by omega))) (fun h6 => ?_)
          refine lv_aload_n hx hb d_Net_at_20 rfl (lv_at hl 1 rfl) ?_
          refine lv_ifnull hx hb d_Net_at_21 ?_
          refine lv_aload_n hx hb d_Net_at_24 rfl (lv_at hl 1 rfl) ?_
          refine xg_Msg E hC hR hai hzi 7 (by decide) zf_Net_18 rfl d_Net_at_25 ?_
          rcases hnx : as[i + 1]? with _ | q2
          · refine lv_astore_nN (lv' := [(2, .null), (3, .int (nI i)), (0, .ref (ad 1 0)), (1, .int (nI kn))]) hx hb d_Net_at_28 rfl hl (by decide) rfl (fun ls hl => ?_)
            refine lv_iinc (v := nI (i + 1)) (lv' := [(3, .int (nI (i + 1))), (2, .null), (0, .ref (ad 1 0)), (1, .int (nI kn))]) hx hb d_Net_at_29 hl (k := 1) rfl (nI_1 _) (by decide) rfl (fun ls hl => ?_)
            refine lv_goto (tgt := 15) hx hb d_Net_at_32 (by decide) ?_
            exact ih (i + 1) (by omega) ls (by rw [hnx]; exact lv_sub hl [0, 1, 2, 3] rfl)
          · refine lv_astore_n (lv' := [(2, .ref q2), (3, .int (nI i)), (0, .ref (ad 1 0)), (1, .int (nI kn))]) hx hb d_Net_at_28 rfl hl (by decide) rfl (fun ls hl => ?_)
            refine lv_iinc (v := nI (i + 1)) (lv' := [(3, .int (nI (i + 1))), (2, .ref q2), (0, .ref (ad 1 0)), (1, .int (nI kn))]) hx hb d_Net_at_29 hl (k := 1) rfl (nI_1 _) (by decide) rfl (fun ls hl => ?_)
            refine lv_goto (tgt := 15) hx hb d_Net_at_32 (by decide) ?_
            exact ih (i + 1) (by omega) ls (by rw [hnx]; exact lv_sub hl [0, 1, 2, 3] rfl)
    refine lv_iload_n hx hb d_Net_at_0 rfl (lv_at hl 1 rfl) ?_
    refine lv_if_ge (tgt := 8) hx hb d_Net_at_1 (by decide) (fun h7 => ?_) (fun h7 => absurd (nI_pos' hkn) h7)
    refine lv_aload_n hx hb d_Net_at_8 rfl (lv_at hl 0 rfl) ?_
    refine xg_Net E hC hR 0 (by decide) zf_Net_44 rfl d_Net_at_9 ?_
    rcases hnx : as.head? with _ | q2
    · refine lv_astore_nN (lv' := [(2, .null), (0, .ref (ad 1 0)), (1, .int (nI kn))]) hx hb d_Net_at_12 rfl hl (by decide) rfl (fun ls hl => ?_)
      refine lv_iconst (v := 0) hx hb d_Net_at_13 (by decide) ?_
      refine lv_istore_n (lv' := [(3, .int 0), (2, .null), (0, .ref (ad 1 0)), (1, .int (nI kn))]) hx hb d_Net_at_14 rfl hl (by decide) rfl (fun ls hl => ?_)
      exact loop kn 0 (by omega) ls (by rw [← List.head?_eq_getElem?, hnx]; exact lv_sub hl [0, 1, 2, 3] rfl)
    · refine lv_astore_n (lv' := [(2, .ref q2), (0, .ref (ad 1 0)), (1, .int (nI kn))]) hx hb d_Net_at_12 rfl hl (by decide) rfl (fun ls hl => ?_)
      refine lv_iconst (v := 0) hx hb d_Net_at_13 (by decide) ?_
      refine lv_istore_n (lv' := [(3, .int 0), (2, .ref q2), (0, .ref (ad 1 0)), (1, .int (nI kn))]) hx hb d_Net_at_14 rfl hl (by decide) rfl (fun ls hl => ?_)
      exact loop kn 0 (by omega) ls (by rw [← List.head?_eq_getElem?, hnx]; exact lv_sub hl [0, 1, 2, 3] rfl)
