/-- what a step needs -/
def okStep (g : PS) (N : Nat) : Prop := g 0 0 = nI N ∧ N ≤ 4 ∧ (∃ R, g 1 0 = nI R ∧ 1 ≤ R ∧ R ≤ 3) ∧ (∀ c, c < 4 → ∃ w, w ≤ 2 ∧ g 7 c = nI w) ∧ (∀ c, c < 4 → ∃ pl, pl ≤ 16 ∧ g 6 c = nI pl) ∧ (∀ c, c < 4 → ∃ sz, sz ≤ 16 ∧ g 5 c = nI sz) ∧ (∀ c, c < 4 → ∀ i sz, sz ≤ 16 → g 5 c = nI sz → i < sz → ∃ o, o < 6 ∧ g 3 (16 * c + i) = nI o ∧ (¬ s_access (nI o) = 0 → ∃ b, b < 4 ∧ g 4 (16 * c + i) = nI b)) ∧ (∀ c, c < N → g 7 c = 0 → ∀ b, b < 4 → ∃ st, st < 3 ∧ g 8 (4 * c + b) = nI st) ∧ g 12 0 = g 19 0 ∧ (∀ c b, c < N → b < 4 → g 8 (4 * c + b) = 0 → g 10 (4 * c + b) = 0)
theorem acc_of {o : Nat} (h : o < 6) (ha : ¬ s_access (nI o) = 0) : o = 0 ∨ o = 1 ∨ o = 5 := by
  rcases (show o = 0 ∨ o = 1 ∨ o = 2 ∨ o = 3 ∨ o = 4 ∨ o = 5 by omega) with rfl | rfl | rfl | rfl | rfl | rfl
  · exact Or.inl rfl
  · exact Or.inr (Or.inl rfl)
  · exact absurd (by decide) ha
  · exact absurd (by decide) ha
  · exact absurd (by decide) ha
  · exact Or.inr (Or.inr rfl)
set_option maxHeartbeats 4000000 in
set_option maxRecDepth 100000 in
theorem c_HD_step (l : Launch) (D : va_G) (dA : Nat → ClassId) (eA ad : Nat → Nat → Nat) (A : Nat → Prop) (N : Nat) (g : PS) (M : List Msg) (as sp : List Nat) (x : Int32) (hok : okStep g N) : Met l y_HD_step (k_HD_step :: wz) (rml 6 1 8) (va_Pc [.ref (ad 0 0), .int x] (PX D dA eA ad A N g M as sp)) (XQi D dA eA ad A N (s_step g x).1 (s_step g x).2.1 (M ++ (s_step g x).2.2) as) 1 8 A := by
  refine x_entry (by decide) (Nat.le_of_ble_eq_true rfl) ?_
  intro p e s m below meth c0 E hA hC hR ls hl
  have hx := E.1
  have hb := E.2.1
  have hS : va_S A s.heap s.heap [] := va_S.rf
  replace hl : lv_has ls 5 [(0, .ref (ad 0 0)), (1, .int x)] := hl
  obtain ⟨hN, hN4, ⟨R, hR0, hR1, hR3⟩, hwt, hp, hz, hpr, hl2, hck, hmz⟩ := hok
  by_cases hcv : s_isCore g x = 0
  · have hcv0 := hcv
    refine lv_aload_n hx hb d_HD_step_0 rfl (lv_at hl 0 rfl) ?_
    refine lv_iload_n hx hb d_HD_step_1 rfl (lv_at hl 1 rfl) ?_
    refine xc_q (av := [.ref (ad 0 0), .int x]) (xrunV (As := [.int x]) (rest := []) E hA hC hR hS (c_HD_core l D dA eA ad A N g M as sp x hN4) (x_recv hC hR (s0 := 0) (i0 := 0) (show vl N 0 0 from rfl) rfl rfl) ck_HD_74 ⟨rfl, rfl⟩ ⟨Nat.le_of_ble_eq_true rfl, Nat.le_of_ble_eq_true rfl⟩ rfl (lv_sub hl [] rfl) rfl (Nat.le_of_ble_eq_true rfl) ⟨Nat.le_of_ble_eq_true rfl, Nat.le_of_ble_eq_true rfl⟩ d_HD_step_2) ?_
    refine wq_eq (y := .null) (by rw [core_none hN hcv]; rfl) ?_
    refine lv_astore_nN (lv' := [(2, .null), (0, .ref (ad 0 0)), (1, .int x)]) hx hb d_HD_step_5 rfl hl (by decide) rfl (fun ls hl => ?_)
    refine lv_aload_nN hx hb d_HD_step_6 rfl (lv_at hl 0 rfl) ?_
    refine lv_ifnonnullN hx hb d_HD_step_7 ?_
    refine lv_iconst (v := (-1)) hx hb d_HD_step_10 (by decide) ?_
    refine W.widen (k := 1) (n := 8) (by decide) (by decide) ?_
    have eS : s_step g x = (-1, g, []) := by rw [s_step, if_pos hcv]
    rw [eS]
    rw [show M ++ ((-1, g, []) : Int32 × PS × List Msg).2.2 = M from List.append_nil M]
    exact x_iret (nw := []) E (by rw [List.append_nil]; exact hR) hS rfl rfl d_HD_step_11
  · obtain ⟨c, hcN, rfl⟩ := isCore_of hN hN4 hcv
    have ec : (nI c).toNatClampNeg = c := nI_clamp (by omega)
    obtain ⟨w, hw2, hg7⟩ := hwt c (by omega)
    have hw32 := w32 hw2
    have hw0 : g 7 c = 0 ↔ w = 0 := by rw [hg7]; exact nI_eq (b := 0) (by omega) (by omega)
    obtain ⟨pl, hpl, hg6⟩ := hp c (by omega)
    obtain ⟨sz, hsz, hg5⟩ := hz c (by omega)
    have e6 : (nI pl).toNatClampNeg = pl := nI_clamp (by omega)
    have hlt9 : nI pl < nI sz ↔ pl < sz := nI_ltI (by omega) (by omega)
    refine lv_aload_n hx hb d_HD_step_0 rfl (lv_at hl 0 rfl) ?_
    refine lv_iload_n hx hb d_HD_step_1 rfl (lv_at hl 1 rfl) ?_
    refine xc_q (av := [.ref (ad 0 0), .int (nI c)]) (xrunV (As := [.int (nI c)]) (rest := []) E hA hC hR hS (c_HD_core l D dA eA ad A N g M as sp (nI c) hN4) (x_recv hC hR (s0 := 0) (i0 := 0) (show vl N 0 0 from rfl) rfl rfl) ck_HD_74 ⟨rfl, rfl⟩ ⟨Nat.le_of_ble_eq_true rfl, Nat.le_of_ble_eq_true rfl⟩ rfl (lv_sub hl [] rfl) rfl (Nat.le_of_ble_eq_true rfl) ⟨Nat.le_of_ble_eq_true rfl, Nat.le_of_ble_eq_true rfl⟩ d_HD_step_2) ?_
    refine wq_eq (y := .ref (ad 8 c)) (by rw [core_some hN4 hcN]; rfl) ?_
    refine lv_astore_n (lv' := [(2, .ref (ad 8 c)), (0, .ref (ad 0 0)), (1, .int (nI c))]) hx hb d_HD_step_5 rfl hl (by decide) rfl (fun ls hl => ?_)
    refine lv_aload_n hx hb d_HD_step_6 rfl (lv_at hl 0 rfl) ?_
    refine lv_ifnonnull (tgt := 12) hx hb d_HD_step_7 (by decide) ?_
    refine lv_aload_n hx hb d_HD_step_12 rfl (lv_at hl 0 rfl) ?_
    refine xg_Core E hC hR (show vl N 8 c from hcN) 5 (by decide) zf_HD_100 rfl d_HD_step_13 ?_
    refine wn_eq (y := nI (32 * w)) (by rw [hg7]; exact hw32) ?_
    refine lv_if_eq (tgt := 21) hx hb d_HD_step_16 (by decide) (fun h1 => ?_) (fun h1 => ?_)
    · replace h1 := (nI_eq (a := 32 * w) (b := 0) (by omega) (by omega)).mp h1
      replace h1 : w = 0 := by omega
      have hw00 := h1
      refine lv_aload_n hx hb d_HD_step_21 rfl (lv_at hl 0 rfl) ?_
      refine xg_Core E hC hR (show vl N 8 c from hcN) 3 (by decide) zf_HD_103 rfl d_HD_step_22 ?_
      refine wn_eq (y := nI pl) hg6 ?_
      refine lv_aload_n hx hb d_HD_step_25 rfl (lv_at hl 0 rfl) ?_
      refine xg_Core E hC hR (show vl N 8 c from hcN) 2 (by decide) zf_HD_78 rfl d_HD_step_26 ?_
      refine wn_eq (y := nI sz) hg5 ?_
      refine lv_icmp_lt (tgt := 34) hx hb d_HD_step_29 (by decide) (fun h2 => ?_) (fun h2 => ?_)
      · replace h2 := (nI_ltI (a := pl) (b := sz) (by omega) (by omega)).mp h2
        have hps := h2
        obtain ⟨o, ho6, hg3, hxb⟩ := hpr c (by omega) pl sz hsz hg5 hps
        refine lv_aload_n hx hb d_HD_step_34 rfl (lv_at hl 1 rfl) ?_
        refine xg_HD E hC hR 2 (by decide) zf_HD_13 rfl d_HD_step_35 ?_
        refine lv_aload_n hx hb d_HD_step_38 rfl (lv_at hl 0 rfl) ?_
        refine xg_Core E hC hR (show vl N 8 c from hcN) 0 (by decide) zf_HD_93 rfl d_HD_step_39 ?_
        refine lv_aload_n hx hb d_HD_step_42 rfl (lv_at hl 0 rfl) ?_
        refine xg_Core E hC hR (show vl N 8 c from hcN) 3 (by decide) zf_HD_103 rfl d_HD_step_43 ?_
        refine wn_eq (y := nI pl) hg6 ?_
        refine xl_ops E hC hR (show vl N 8 c from hcN) (j := pl) (by omega) d_HD_step_46 ?_
        refine wn_eq (y := nI o) hg3 ?_
        refine xl_Ops E hC hR (j := o) (by omega) d_HD_step_47 ?_
        refine lv_astore_n (lv' := [(3, .ref (eA 2 o)), (2, .ref (ad 8 c)), (0, .ref (ad 0 0)), (1, .int (nI c))]) hx hb d_HD_step_48 rfl hl (by decide) rfl (fun ls hl => ?_)
        refine lv_aload_n hx hb d_HD_step_49 rfl (lv_at hl 1 rfl) ?_
        refine xg_Core E hC hR (show vl N 8 c from hcN) 1 (by decide) zf_HD_96 rfl d_HD_step_50 ?_
        refine lv_aload_n hx hb d_HD_step_53 rfl (lv_at hl 1 rfl) ?_
        refine xg_Core E hC hR (show vl N 8 c from hcN) 3 (by decide) zf_HD_103 rfl d_HD_step_54 ?_
        refine wn_eq (y := nI pl) hg6 ?_
        refine xl_args E hC hR (show vl N 8 c from hcN) (j := pl) (by omega) d_HD_step_57 ?_
        refine lv_istore (lv' := [(4, .int (g 4 (16 * c + pl))), (3, .ref (eA 2 o)), (2, .ref (ad 8 c)), (0, .ref (ad 0 0)), (1, .int (nI c))]) hx hb d_HD_step_58 hl (by decide) rfl (fun ls hl => ?_)
        refine lv_aload_n hx hb d_HD_step_60 rfl (lv_at hl 1 rfl) ?_
        refine xc_R (av := [.ref (eA 2 o)]) (xrunV (As := []) (rest := []) E hA hC hR hS (c_Op_accesses l D dA eA ad A N g M as sp o (by omega)) (va_recvE hC.2.2.2.1 (show o < 6 by omega) hS) ck_HD_81 ⟨rfl, rfl⟩ ⟨Nat.le_of_ble_eq_true rfl, Nat.le_of_ble_eq_true rfl⟩ rfl (lv_sub hl [] rfl) rfl (Nat.le_of_ble_eq_true rfl) ⟨Nat.le_of_ble_eq_true rfl, Nat.le_of_ble_eq_true rfl⟩ d_HD_step_61) ?_
        refine lv_if_ne (tgt := 76) hx hb d_HD_step_64 (by decide) (fun h3 => ?_) (fun h3 => ?_)
        · refine lv_aload_n hx hb d_HD_step_76 rfl (lv_at hl 3 rfl) ?_
          refine lv_aload_n hx hb d_HD_step_77 rfl (lv_at hl 2 rfl) ?_
          refine lv_aload_n hx hb d_HD_step_78 rfl (lv_at hl 1 rfl) ?_
          refine lv_iload_n hx hb d_HD_step_79 rfl (lv_at hl 4 rfl) ?_
          refine lv_iload hx hb d_HD_step_80 (lv_at hl 0 rfl) ?_
          obtain ⟨b, hb4, hg4⟩ := hxb h3
          rw [hg4]
          refine xc_i (av := [.ref (ad 0 0), .ref (ad 8 c), .ref (eA 2 o), .int (nI c), .int (nI b)]) (xrunV (As := [.ref (ad 8 c), .ref (eA 2 o), .int (nI c), .int (nI b)]) (rest := []) E hA hC hR hS (c_HD_access l D dA eA ad A N g M as sp c b o pl R hcN hN4 hb4 (acc_of ho6 h3) hg6 hg3 hck (hl2 c hcN (by rw [hg7, hw00]; rfl)) hR0 hR1 hR3 (by rw [hg7, hw00]; rfl) (hmz c b hcN hb4)) (x_recv hC hR (s0 := 0) (i0 := 0) (show vl N 0 0 from rfl) rfl rfl) ck_HD_110 ⟨rfl, rfl⟩ ⟨Nat.le_of_ble_eq_true rfl, Nat.le_of_ble_eq_true rfl⟩ rfl (lv_sub hl [] rfl) rfl (Nat.le_of_ble_eq_true rfl) ⟨Nat.le_of_ble_eq_true rfl, Nat.le_of_ble_eq_true rfl⟩ d_HD_step_82) hS (fun H locs nw1 sp1 hR hS => ?_)
          refine W.widen (k := 1) (n := 8) (by decide) (by decide) ?_
          have eS : s_step g (nI c) = s_acc g c pl b (nI o) := by rw [s_step, if_neg hcv, ec, if_pos (hw0.mpr hw00), hg6, hg5, if_pos (hlt9.mpr hps), e6, s_step2, hg3, if_neg h3, hg4, nI_clamp (by omega)]
          rw [eS]
          exact x_iret (nw := nw1) E hR hS rfl rfl d_HD_step_85
        · refine lv_aload_n hx hb d_HD_step_67 rfl (lv_at hl 2 rfl) ?_
          refine lv_aload_n hx hb d_HD_step_68 rfl (lv_at hl 1 rfl) ?_
          refine lv_iload hx hb d_HD_step_69 (lv_at hl 0 rfl) ?_
          refine xc_v (av := [.ref (ad 8 c), .ref (eA 2 o), .int (g 4 (16 * c + pl))]) (xrunV (As := [.ref (eA 2 o), .int (g 4 (16 * c + pl))]) (rest := []) E hA hC hR hS (c_Core_compute l D dA eA ad A N g M as sp c o (g 4 (16 * c + pl)) hcN ho6) (x_recv hC hR (s0 := 8) (i0 := c) (show vl N 8 c from hcN) rfl rfl) ck_HD_106 ⟨rfl, rfl⟩ ⟨Nat.le_of_ble_eq_true rfl, Nat.le_of_ble_eq_true rfl⟩ rfl (lv_sub hl [] rfl) rfl (Nat.le_of_ble_eq_true rfl) ⟨Nat.le_of_ble_eq_true rfl, Nat.le_of_ble_eq_true rfl⟩ d_HD_step_71) hS (fun H locs nw1 sp1 hR hS => ?_)
          refine lv_iconst (v := 1) hx hb d_HD_step_74 (by decide) ?_
          refine W.widen (k := 1) (n := 8) (by decide) (by decide) ?_
          have eS : s_step g (nI c) = (1, s_plain g c (nI o) (g 4 (16 * c + pl)), []) := by rw [s_step, if_neg hcv, ec, if_pos (hw0.mpr hw00), hg6, hg5, if_pos (hlt9.mpr hps), e6, s_step2, hg3, if_pos h3]
          rw [eS]
          rw [show M ++ ((1, s_plain g c (nI o) (g 4 (16 * c + pl)), []) : Int32 × PS × List Msg).2.2 = M from List.append_nil M]
          exact x_iret (nw := nw1) E hR hS rfl rfl d_HD_step_75
      · replace h2 := (not_congr (nI_ltI (a := pl) (b := sz) (by omega) (by omega))).mp h2
        refine lv_iconst (v := 4) hx hb d_HD_step_32 (by decide) ?_
        refine W.widen (k := 1) (n := 8) (by decide) (by decide) ?_
        have eS : s_step g (nI c) = (4, g, []) := by rw [s_step, if_neg hcv, ec, if_pos (hw0.mpr (by omega)), hg6, hg5, if_neg (fun e9 => absurd (hlt9.mp e9) (by omega))]
        rw [eS]
        rw [show M ++ ((4, g, []) : Int32 × PS × List Msg).2.2 = M from List.append_nil M]
        exact x_iret (nw := []) E (by rw [List.append_nil]; exact hR) hS rfl rfl d_HD_step_33
    · replace h1 := (not_congr (nI_eq (a := 32 * w) (b := 0) (by omega) (by omega))).mp h1
      replace h1 : ¬ w = 0 := by omega
      refine lv_iconst (v := 0) hx hb d_HD_step_19 (by decide) ?_
      refine W.widen (k := 1) (n := 8) (by decide) (by decide) ?_
      have eS : s_step g (nI c) = (0, g, []) := by rw [s_step, if_neg hcv, ec, if_neg (fun e9 => absurd (hw0.mp e9) (by omega))]
      rw [eS]
      rw [show M ++ ((0, g, []) : Int32 × PS × List Msg).2.2 = M from List.append_nil M]
      exact x_iret (nw := []) E (by rw [List.append_nil]; exact hR) hS rfl rfl d_HD_step_20
theorem fin_0 {g : PS} {c b : Nat} (h : ¬ g 7 c = 1) : s_fin g c b = g := by rw [s_fin, if_neg h]
set_option maxHeartbeats 4000000 in
set_option maxRecDepth 100000 in
theorem c_HD_wake (l : Launch) (D : va_G) (dA : Nat → ClassId) (eA ad : Nat → Nat → Nat) (A : Nat → Prop) (N : Nat) (g : PS) (M : List Msg) (as sp : List Nat) (c b kd st w : Nat) (hcN : c < N) (hN4 : N ≤ 4) (hb4 : b < 4) (hkd : kd < 10) (hst11 : st < 11) (hst : g 8 (4 * c + b) = nI st) (hw2 : w ≤ 2) (hg7 : g 7 c = nI w) (hpl : w = 1 → ∃ pl o, pl < 16 ∧ g 6 c = nI pl ∧ g 3 (16 * c + pl) = nI o ∧ (o = 0 ∨ o = 1 ∨ o = 5)) (hck : g 12 0 = g 19 0) : Met l y_HD_wake (k_HD_wake :: wz) (rml 2 0 0) (va_Pc [.ref (ad 0 0), .ref (ad 11 (4 * c + b)), .ref (eA 0 kd)] (PX D dA eA ad A N g M as sp)) (XQv D dA eA ad A N (s_fin (if kd = 7 then up2 g 7 c 0 else g) c b) M as) 0 0 A := by
  refine x_entry (by decide) (Nat.le_of_ble_eq_true rfl) ?_
  intro p e s m below meth c0 E hA hC hR ls hl
  have hx := E.1
  have hb := E.2.1
  have hS : va_S A s.heap s.heap [] := va_S.rf
  replace hl : lv_has ls 5 [(0, .ref (ad 0 0)), (1, .ref (ad 11 (4 * c + b))), (2, .ref (eA 0 kd))] := hl
  have hw32 := w32 hw2
  have hg71 : g 7 c = 1 ↔ w = 1 := by rw [hg7]; exact nI_eq (b := 1) (by omega) (by omega)
  have hs2 : g 8 (4 * c + b) = 2 ↔ st = 2 := by rw [hst]; exact nI_eq (b := 2) (by omega) (by omega)
  have hs1 : g 8 (4 * c + b) = 1 ↔ st = 1 := by rw [hst]; exact nI_eq (b := 1) (by omega) (by omega)
  by_cases hk7 : kd = 7
  · subst hk7
    refine lv_aload_n hx hb d_HD_wake_0 rfl (lv_at hl 0 rfl) ?_
    refine xg_HD E hC hR 5 (by decide) zf_HD_35 rfl d_HD_wake_1 ?_
    refine lv_aload_n hx hb d_HD_wake_4 rfl (lv_at hl 1 rfl) ?_
    refine xg_Line E hC hR (show vl N 11 (4 * c + b) from (show 4 * c + b < 4 * N by omega)) 0 (by decide) zf_HD_192 rfl d_HD_wake_5 ?_
    refine wn_eq (y := nI c) (by rw [show (4 * c + b) / 4 = c by omega]) ?_
    refine xl_Cores E hC hR (j := c) (by omega) hN4 d_HD_wake_8 ?_
    refine lv_astore_n (lv' := [(3, .ref (ad 8 c)), (0, .ref (ad 0 0)), (1, .ref (ad 11 (4 * c + b))), (2, .ref (eA 0 7))]) hx hb d_HD_wake_9 rfl hl (by decide) rfl (fun ls hl => ?_)
    refine lv_aload_n hx hb d_HD_wake_10 rfl (lv_at hl 3 rfl) ?_
    refine x_gets (eA := eA) hC.2.1 E hS 7 (by decide) zf_HD_194 d_HD_wake_11 ?_
    refine lv_acmpR_ne (tgt := 22) hx hb d_HD_wake_14 (by decide) (fun h1 => absurd (rfl) h1) (fun h1 => ?_)
    refine lv_aload_n hx hb d_HD_wake_17 rfl (lv_at hl 0 rfl) ?_
    refine lv_iconst (v := 0) hx hb d_HD_wake_18 (by decide) ?_
    refine xp_Core_waits E hC hR hS (show c < N by omega) 0 (by decide) zf_HD_100 d_HD_wake_19 (fun H locs hR hS => ?_)
    refine lv_aload_n hx hb d_HD_wake_22 rfl (lv_at hl 0 rfl) ?_
    refine xg_Core E hC hR (show c < N by omega) 5 (by decide) zf_HD_100 rfl d_HD_wake_23 ?_
    refine wn_eq (y := 0) (by simp [up2, upd, snd]) ?_
    refine lv_bipush (v := 32) hx hb d_HD_wake_26 (by decide) ?_
    refine lv_icmp_ne (tgt := 47) hx hb d_HD_wake_28 (by decide) (fun h2 => ?_) (fun h2 => absurd h2 (by decide))
    have eG : s_fin (if 7 = 7 then up2 g 7 c 0 else g) c b = up2 g 7 c 0 := by rw [if_pos rfl, fin_0 (by simp [up2, upd])]
    rw [eG]
    exact x_vret (nw := []) E (by rw [List.append_nil]; exact hR) hS d_HD_wake_47
  · have hk77 := hk7
    refine lv_aload_n hx hb d_HD_wake_0 rfl (lv_at hl 0 rfl) ?_
    refine xg_HD E hC hR 5 (by decide) zf_HD_35 rfl d_HD_wake_1 ?_
    refine lv_aload_n hx hb d_HD_wake_4 rfl (lv_at hl 1 rfl) ?_
    refine xg_Line E hC hR (show vl N 11 (4 * c + b) from (show 4 * c + b < 4 * N by omega)) 0 (by decide) zf_HD_192 rfl d_HD_wake_5 ?_
    refine wn_eq (y := nI c) (by rw [show (4 * c + b) / 4 = c by omega]) ?_
    refine xl_Cores E hC hR (j := c) (by omega) hN4 d_HD_wake_8 ?_
    refine lv_astore_n (lv' := [(3, .ref (ad 8 c)), (0, .ref (ad 0 0)), (1, .ref (ad 11 (4 * c + b))), (2, .ref (eA 0 kd))]) hx hb d_HD_wake_9 rfl hl (by decide) rfl (fun ls hl => ?_)
    refine lv_aload_n hx hb d_HD_wake_10 rfl (lv_at hl 3 rfl) ?_
    refine x_gets (eA := eA) hC.2.1 E hS 7 (by decide) zf_HD_194 d_HD_wake_11 ?_
    refine lv_acmpR_ne (tgt := 22) hx hb d_HD_wake_14 (by decide) (fun h3 => ?_) (fun h3 => absurd h3 (fun e9 => hk7 (hC.2.1.2 kd 7 hkd (by decide) e9)))
    refine lv_aload_n hx hb d_HD_wake_22 rfl (lv_at hl 0 rfl) ?_
    refine xg_Core E hC hR (show c < N by omega) 5 (by decide) zf_HD_100 rfl d_HD_wake_23 ?_
    refine wn_eq (y := nI (32 * w)) (by rw [hg7]; exact hw32) ?_
    refine lv_bipush (v := 32) hx hb d_HD_wake_26 (by decide) ?_
    refine lv_icmp_ne (tgt := 47) hx hb d_HD_wake_28 (by decide) (fun h4 => ?_) (fun h4 => ?_)
    · replace h4 := (not_congr (nI_eq (a := 32 * w) (b := 32) (by omega) (by omega))).mp h4
      replace h4 : ¬ w = 1 := by omega
      have eG : s_fin (if kd = 7 then up2 g 7 c 0 else g) c b = g := by rw [if_neg hk7, s_fin, if_neg (fun e9 => absurd (hg71.mp e9) (by omega))]
      rw [eG]
      exact x_vret (nw := []) E (by rw [List.append_nil]; exact hR) hS d_HD_wake_47
    · replace h4 := (nI_eq (a := 32 * w) (b := 32) (by omega) (by omega)).mp h4
      replace h4 : w = 1 := by omega
      have hw1 := h4
      obtain ⟨pl, o, hpl16, hg6, hg3, ho⟩ := hpl h4
      have e6 : (nI pl).toNatClampNeg = pl := nI_clamp (by omega)
      have ho0 : g 3 (16 * c + pl) = 0 ↔ o = 0 := by rw [hg3]; exact nI_eq (b := 0) (by omega) (by omega)
      refine lv_aload_n hx hb d_HD_wake_31 rfl (lv_at hl 0 rfl) ?_
      refine xg_Core E hC hR (show c < N by omega) 1 (by decide) zf_HD_96 rfl d_HD_wake_32 ?_
      refine lv_aload_n hx hb d_HD_wake_35 rfl (lv_at hl 0 rfl) ?_
      refine xg_Core E hC hR (show c < N by omega) 3 (by decide) zf_HD_103 rfl d_HD_wake_36 ?_
      refine wn_eq (y := nI pl) hg6 ?_
      refine xl_args E hC hR (show c < N by omega) (j := pl) (by omega) d_HD_wake_39 ?_
      refine lv_aload_n hx hb d_HD_wake_40 rfl (lv_at hl 2 rfl) ?_
      refine xg_Line E hC hR (show vl N 11 (4 * c + b) from (show 4 * c + b < 4 * N by omega)) 1 (by decide) zf_HD_197 rfl d_HD_wake_41 ?_
      refine wn_eq (y := nI b) (by rw [show (4 * c + b) % 4 = b by omega]) ?_
      refine lv_icmp_eq (tgt := 48) hx hb d_HD_wake_44 (by decide) (fun h5 => ?_) (fun h5 => ?_)
      · have h4e := h5
        refine lv_aload_n hx hb d_HD_wake_48 rfl (lv_at hl 1 rfl) ?_
        refine xg_HD E hC hR 2 (by decide) zf_HD_13 rfl d_HD_wake_49 ?_
        refine lv_aload_n hx hb d_HD_wake_52 rfl (lv_at hl 0 rfl) ?_
        refine xg_Core E hC hR (show c < N by omega) 0 (by decide) zf_HD_93 rfl d_HD_wake_53 ?_
        refine lv_aload_n hx hb d_HD_wake_56 rfl (lv_at hl 0 rfl) ?_
        refine xg_Core E hC hR (show c < N by omega) 3 (by decide) zf_HD_103 rfl d_HD_wake_57 ?_
        refine wn_eq (y := nI pl) hg6 ?_
        refine xl_ops E hC hR (show c < N by omega) (j := pl) (by omega) d_HD_wake_60 ?_
        refine wn_eq (y := nI o) hg3 ?_
        refine xl_Ops E hC hR (j := o) (by omega) d_HD_wake_61 ?_
        refine lv_astore (lv' := [(4, .ref (eA 2 o)), (3, .ref (ad 8 c)), (0, .ref (ad 0 0)), (1, .ref (ad 11 (4 * c + b))), (2, .ref (eA 0 kd))]) hx hb d_HD_wake_62 hl (by decide) rfl (fun ls hl => ?_)
        refine lv_aload_n hx hb d_HD_wake_64 rfl (lv_at hl 3 rfl) ?_
        refine xg_Line E hC hR (show vl N 11 (4 * c + b) from (show 4 * c + b < 4 * N by omega)) 4 (by decide) zf_HD_114 rfl d_HD_wake_65 ?_
        refine wr_eq (y := ad 3 st) (congrArg (ad 3) (by rw [show g 8 (4 * c + b) = nI st from hst]; exact nI_clamp (by omega))) ?_
        refine lv_aload_n hx hb d_HD_wake_68 rfl (lv_at hl 2 rfl) ?_
        refine xg_HD E hC hR 4 (by decide) zf_HD_29 rfl d_HD_wake_69 ?_
        refine xg_Chart E hC hR 2 (by decide) zf_HD_118 rfl d_HD_wake_72 ?_
        refine lv_acmpR_eq (tgt := 100) hx hb d_HD_wake_75 (by decide) (fun h6 => ?_) (fun h6 => ?_)
        · replace h6 : st = 2 := hR.md_inj (by omega) (by decide) h6
          have h2 := h6
          refine lv_aload_n hx hb d_HD_wake_100 rfl (lv_at hl 1 rfl) ?_
          refine lv_iconst (v := 0) hx hb d_HD_wake_101 (by decide) ?_
          refine xp_Core_waits E hC hR hS (show c < N by omega) 0 (by decide) zf_HD_100 d_HD_wake_102 (fun H locs hR hS => ?_)
          refine lv_aload_n hx hb d_HD_wake_105 rfl (lv_at hl 2 rfl) ?_
          refine lv_aload_n hx hb d_HD_wake_106 rfl (lv_at hl 1 rfl) ?_
          refine lv_aload hx hb d_HD_wake_107 (lv_at hl 0 rfl) ?_
          refine lv_aload_n hx hb d_HD_wake_109 rfl (lv_at hl 3 rfl) ?_
          refine xc_v (av := [.ref (ad 0 0), .ref (ad 8 c), .ref (eA 2 o), .ref (ad 11 (4 * c + b))]) (xrunV (As := [.ref (ad 8 c), .ref (eA 2 o), .ref (ad 11 (4 * c + b))]) (rest := []) E hA hC hR hS (c_HD_perform l D dA eA ad A N (up2 g 7 c 0) M as sp c b o pl hcN hN4 hb4 ho hg6 hg3 hck) (x_recv hC hR (s0 := 0) (i0 := 0) (show vl N 0 0 from rfl) rfl rfl) ck_HD_127 ⟨rfl, rfl⟩ ⟨Nat.le_of_ble_eq_true rfl, Nat.le_of_ble_eq_true rfl⟩ rfl (lv_sub hl [] rfl) rfl (Nat.le_of_ble_eq_true rfl) ⟨Nat.le_of_ble_eq_true rfl, Nat.le_of_ble_eq_true rfl⟩ d_HD_wake_110) hS (fun H locs nw1 sp1 hR hS => ?_)
          have eG : s_fin (if kd = 7 then up2 g 7 c 0 else g) c b = s_perform (up2 g 7 c 0) c pl b := by rw [if_neg hk7, s_fin, if_pos (hg71.mpr hw1), hg6, e6, if_pos h4e, if_pos (hs2.mpr h2)]
          rw [eG]
          exact x_vret (nw := nw1) E hR hS d_HD_wake_113
        · replace h6 : ¬ st = 2 := fun e9 => h6 (by rw [e9])
          have h2 := h6
          refine lv_aload_n hx hb d_HD_wake_78 rfl (lv_at hl 3 rfl) ?_
          refine xg_Line E hC hR (show vl N 11 (4 * c + b) from (show 4 * c + b < 4 * N by omega)) 4 (by decide) zf_HD_114 rfl d_HD_wake_79 ?_
          refine wr_eq (y := ad 3 st) (congrArg (ad 3) (by rw [show g 8 (4 * c + b) = nI st from hst]; exact nI_clamp (by omega))) ?_
          refine lv_aload_n hx hb d_HD_wake_82 rfl (lv_at hl 2 rfl) ?_
          refine xg_HD E hC hR 4 (by decide) zf_HD_29 rfl d_HD_wake_83 ?_
          refine xg_Chart E hC hR 1 (by decide) zf_HD_121 rfl d_HD_wake_86 ?_
          refine lv_acmpR_ne (tgt := 113) hx hb d_HD_wake_89 (by decide) (fun h7 => ?_) (fun h7 => ?_)
          · replace h7 : ¬ st = 1 := fun e9 => h7 (by rw [e9])
            have h1 := h7
            have eG : s_fin (if kd = 7 then up2 g 7 c 0 else g) c b = g := by rw [if_neg hk7, s_fin, if_pos (hg71.mpr hw1), hg6, e6, if_pos h4e, if_neg (fun e9 => h2 (hs2.mp e9)), if_neg (fun e9 => h1 (hs1.mp e9))]
            rw [eG]
            exact x_vret (nw := []) E (by rw [List.append_nil]; exact hR) hS d_HD_wake_113
          · replace h7 : st = 1 := hR.md_inj (by omega) (by decide) h7
            have h1 := h7
            refine lv_aload hx hb d_HD_wake_92 (lv_at hl 0 rfl) ?_
            refine x_gets (eA := eA) hC.2.2.2.1 E hS 0 (by decide) zf_HD_124 d_HD_wake_94 ?_
            refine lv_acmpR_ne (tgt := 113) hx hb d_HD_wake_97 (by decide) (fun h8 => ?_) (fun h8 => ?_)
            · replace h8 : ¬ o = 0 := fun e9 => h8 (by rw [e9])
              have h0 := h8
              have eG : s_fin (if kd = 7 then up2 g 7 c 0 else g) c b = g := by rw [if_neg hk7, s_fin, if_pos (hg71.mpr hw1), hg6, e6, if_pos h4e, if_neg (fun e9 => h2 (hs2.mp e9)), if_pos (hs1.mpr h1), if_neg (fun e9 => h0 (ho0.mp e9))]
              rw [eG]
              exact x_vret (nw := []) E (by rw [List.append_nil]; exact hR) hS d_HD_wake_113
            · replace h8 : o = 0 := hC.2.2.2.1.2 o 0 (show o < 6 by omega) (by decide) h8
              have h0 := h8
              refine lv_aload_n hx hb d_HD_wake_100 rfl (lv_at hl 1 rfl) ?_
              refine lv_iconst (v := 0) hx hb d_HD_wake_101 (by decide) ?_
              refine xp_Core_waits E hC hR hS (show c < N by omega) 0 (by decide) zf_HD_100 d_HD_wake_102 (fun H locs hR hS => ?_)
              refine lv_aload_n hx hb d_HD_wake_105 rfl (lv_at hl 2 rfl) ?_
              refine lv_aload_n hx hb d_HD_wake_106 rfl (lv_at hl 1 rfl) ?_
              refine lv_aload hx hb d_HD_wake_107 (lv_at hl 0 rfl) ?_
              refine lv_aload_n hx hb d_HD_wake_109 rfl (lv_at hl 3 rfl) ?_
              refine xc_v (av := [.ref (ad 0 0), .ref (ad 8 c), .ref (eA 2 o), .ref (ad 11 (4 * c + b))]) (xrunV (As := [.ref (ad 8 c), .ref (eA 2 o), .ref (ad 11 (4 * c + b))]) (rest := []) E hA hC hR hS (c_HD_perform l D dA eA ad A N (up2 g 7 c 0) M as sp c b o pl hcN hN4 hb4 ho hg6 hg3 hck) (x_recv hC hR (s0 := 0) (i0 := 0) (show vl N 0 0 from rfl) rfl rfl) ck_HD_127 ⟨rfl, rfl⟩ ⟨Nat.le_of_ble_eq_true rfl, Nat.le_of_ble_eq_true rfl⟩ rfl (lv_sub hl [] rfl) rfl (Nat.le_of_ble_eq_true rfl) ⟨Nat.le_of_ble_eq_true rfl, Nat.le_of_ble_eq_true rfl⟩ d_HD_wake_110) hS (fun H locs nw1 sp1 hR hS => ?_)
              have eG : s_fin (if kd = 7 then up2 g 7 c 0 else g) c b = s_perform (up2 g 7 c 0) c pl b := by rw [if_neg hk7, s_fin, if_pos (hg71.mpr hw1), hg6, e6, if_pos h4e, if_neg (fun e9 => h2 (hs2.mp e9)), if_pos (hs1.mpr h1), if_pos (ho0.mpr h0)]
              rw [eG]
              exact x_vret (nw := nw1) E hR hS d_HD_wake_113
      · have h4e := h5
        have eG : s_fin (if kd = 7 then up2 g 7 c 0 else g) c b = g := by rw [if_neg hk7, s_fin, if_pos (hg71.mpr hw1), hg6, e6, if_neg h4e]
        rw [eG]
        exact x_vret (nw := []) E (by rw [List.append_nil]; exact hR) hS d_HD_wake_47
theorem m1_ne {r : Nat} (h : r < 4) : ¬ (-1 : Int32) = nI r := by
  rcases (show r = 0 ∨ r = 1 ∨ r = 2 ∨ r = 3 by omega) with rfl | rfl | rfl | rfl <;> decide
/-- an end with the messages' cells told by no one -/
abbrev XQd (D : va_G) (dA : Nat → ClassId) (eA ad : Nat → Nat → Nat) (A : Nat → Prop) (N : Nat) (r : Int32) (g : PS) (M : List Msg) : Array Value → State → Outcome → State → Prop := va_Qi (fun (x : Int32) (_ : List Nat × List Nat) => x = r) (fun u t => RX D dA eA ad A N g M u.1 u.2 t.heap) A
section XD
variable {p : Program} {l : Launch} {e : Env} {R : Room} {s : State} {m : MethodId} {args : Array Value} {below : List Frame} {meth : Method} {c : Code} {H : Heap} {locs : List Loc} {cells slots : Nat} {Q : State → Prop}
variable {cc : ByteArray} {pc nL : Nat} {own : String} {ret ret0 : Option FieldType} {ls : Array Slot} {st rest As av : List Value} {D : va_G} {dA : Nat → ClassId} {eA ad : Nat → Nat → Nat} {A : Nat → Prop} {N : Nat} {g g' : PS} {M M' : List Msg} {as sp as' sp' : List Nat} {H0 : Heap} {r v : Int32} {b n idx count maxL mc ms : Nat} {C : String} {x y : MethodName} {bytes : ByteArray} {rm : Room} {Qc : Array Value → State → Outcome → State → Prop} {free : Addr → Prop}
theorem x_dret {ty : FieldType} (E : Cx p s m args meth c cc own nL (some ty)) (hR : RX D dA eA ad A N g' M' as' sp' H) (hS : va_S A s.heap H locs) (hn : narrow ty (.int v) = .int v) (hv : v = r) (hdg : decode cc pc = .ok (.ireturn, 1)) : W p l e R s m args below meth c H locs cells slots (MQ below (XQd D dA eA ad A N r g' M') args s cells slots A) (F0 m pc ls [.int v]) := by
  subst hv
  exact W.zret E.1 E.2.1 E.2.2.2.2.2.1 hn (fun t ht _ => ⟨⟨v, (as', sp'), rfl, rfl, show RX D dA eA ad A N g' M' as' sp' t.heap by rw [ht]; exact hR⟩, hS.F ht⟩) hS.2.2 hdg E.2.2.2.2.2.2
theorem xrunF {cC : ClassId} (hat : ClassAt s C cC) (E : Cx p s m args meth c cc own nL ret0) (hA : ∀ q, s.heap.size ≤ q → A q) (hC : CX D dA eA A s) (hR : RX D dA eA ad A N g M as sp H) (hS : va_S A s.heap H locs) (hM : Met l y (.code y bytes maxL ret :: wz) rm (va_Pc (.ref b :: As) (PX D dA eA ad A N g M as sp)) Qc mc ms free) (hrecv : ∃ cell : Cell, H[b]? = some cell ∧ cell.vm.isStatics = false ∧ s.vm.findClass C = some cell.cls) (hw : GoodIn wz (va_wsF own idx C x y (.code y bytes maxL ret :: wz))) (hF : va_Fw C x y s) (hd : x.cls ≠ "java/lang/invoke/MethodHandle" ∧ x.cls ≠ "java/lang/invoke/VarHandle" ∧ (parseMethodDescriptor x.desc).map (fun d => d.parameters.length) = some n) (hrc : rm.cells = mc ∧ rm.slots = ms) (hRm : rm.frames + 1 ≤ R.frames ∧ 8 + (maxL + 11) + rm.locals ≤ R.locals) (hn : As.length = n) (hsz : lv_has ls nL []) (hst : st = As.reverse ++ .ref b :: rest) (hrest : (rest.map fun v => v.category).sum ≤ 8) (hf : cells + mc ≤ R.cells ∧ slots + ms ≤ R.slots) (hdg : decode cc pc = .ok (.invokeinterface idx count, 5)) :
    va_Run5 p l e R s m args below meth c H locs cells slots mc ms (F0 m pc ls st) rest (Qc (Value.ref b :: As).toArray) free :=
  va_runF (As := As) (rest := rest) hat ⟨E.1, E.2.1, E.2.2.1, E.2.2.2.1, E.2.2.2.2.1⟩ hM (va_cwF n E.2.2.2.2.1 hw rfl hrc.1 hrc.2 hF hd hRm) ⟨px_blind, hrecv, fun U hU hW => ⟨rfl, px_at hA hC hR hS hU hW⟩⟩ rfl hn hsz.1 hst (lv_room hrest) hdg hf
theorem xf_i (hr : va_Run5 p l e R s m args below meth c H locs cells slots mc ms (F0 m pc ls st) rest (XQi D dA eA ad A N r g' M' as av.toArray) A) (hS : va_S A H0 H locs)
    (kk : ∀ (H1 : Heap) (locs1 : List Loc) (nw sp1 : List Nat), RX D dA eA ad A N g' M' (as ++ nw) sp1 H1 → va_S A H0 H1 locs1 → W p l e R s m args below meth c H1 locs1 (cells + mc) (slots + ms) Q (F0 m (pc + 5) ls (.int r :: rest))) : W p l e R s m args below meth c H locs cells slots Q (F0 m pc ls st) :=
  va_callFi hr hS (fun _ _ h => h) (fun _ h => h) (fun r1 u t H1 locs1 ht _ hw hB _ _ hS1 => by
    subst hw
    exact kk H1 locs1 u.1 u.2 (by rw [← ht]; exact hB) hS1)
end XD
theorem ci_Home {D : va_G} {dA : Nat → ClassId} {s : State} (h : va_K D cls (tys dA) s) : ClassAt s R_Home (D.1 10) := (h.1 10 _ rfl).2
theorem ci_Line {D : va_G} {dA : Nat → ClassId} {s : State} (h : va_K D cls (tys dA) s) : ClassAt s R_Line (D.1 9) := (h.1 9 _ rfl).2
theorem gf_Home : GoodIn wz (va_wsF R_HD 178 R_Home y_Rcv_take y_Home_take (k_Home_take :: wz)) := gdF zm_HD_178 zs_Home_Home_take_v zi_Home_take zn_Home zk_Home_take
theorem gf_Line : GoodIn wz (va_wsF R_HD 178 R_Line y_Rcv_take y_Line_take (k_Line_take :: wz)) := gdF zm_HD_178 zs_Line_Line_take_v zi_Line_take zn_Line zk_Line_take
theorem tk_o {g : PS} {kd c b nb : Nat} {v : Int32} {k : Nat} (h : k ≠ 8 ∧ k ≠ 9 ∧ k ≠ 10 ∧ k ≠ 18 ∧ k ≠ 7) : s_tkG g kd c b v nb k = g k := by
  obtain ⟨h8, h9, h10, h18, h7⟩ := h
  unfold s_tkG s_acG
  repeat (first | rfl | (rw [up2_k _ _ h8]) | (rw [up2_k _ _ h9]) | (rw [up2_k _ _ h10]) | (rw [snd, up2_k _ _ h18]) | (rw [up2_k _ _ h7]) | split)
theorem tk_7 {g : PS} {kd c b nb : Nat} {v : Int32} (hk : kd = 4 ∨ kd = 5 ∨ kd = 6 ∨ kd = 7 ∨ kd = 8 ∨ kd = 9) : s_tkG g kd c b v nb 7 = g 7 := by
  rcases hk with rfl | rfl | rfl | rfl | rfl | rfl
  · rfl
  · rfl
  · rfl
  · rfl
  · rfl
  · rfl
theorem up2_at (g : PS) (k j : Nat) (v : Int32) : up2 g k j v k j = v := by simp [up2, upd]
theorem tk_8 {g : PS} {st kd c b nb : Nat} {v : Int32} (hst : g 8 (4 * c + b) = nI st) (hok : (st, kd) ∈ okL) : ∃ st', st' < 11 ∧ s_tkG g kd c b v nb 8 (4 * c + b) = nI st' := by
  have hs : st < 11 := by
    simp only [okL, okE, okS, okO, okF, okG, List.cons_append, List.nil_append, List.mem_cons, Prod.mk.injEq, List.not_mem_nil, or_false] at hok
    omega
  unfold s_tkG s_acG
  repeat' split
  all_goals first
    | (rw [up2_at]; exact ⟨0, by decide, rfl⟩)
    | (rw [up2_at]; exact ⟨1, by decide, rfl⟩)
    | (rw [up2_at]; exact ⟨2, by decide, rfl⟩)
    | (rw [up2_at]; exact ⟨4, by decide, rfl⟩)
    | (rw [up2_at]; exact ⟨5, by decide, rfl⟩)
    | (rw [up2_at]; exact ⟨7, by decide, rfl⟩)
    | (rw [up2_at]; exact ⟨9, by decide, rfl⟩)
    | (rw [up2_at]; exact ⟨10, by decide, rfl⟩)
    | (rw [up2_at]; exact ⟨st, hs, hst⟩)
    | (exfalso; simp only [okL, okE, okS, okO, okF, okG, List.cons_append, List.nil_append, List.mem_cons, Prod.mk.injEq, List.not_mem_nil, or_false] at hok; omega)
theorem tk_ac {g : PS} {kd c b nb : Nat} {v : Int32} : (if kd = 7 then up2 (s_tkG g kd c b v nb) 7 c 0 else s_tkG g kd c b v nb) = s_acG g kd c b v nb := by
  by_cases h : kd = 7
  · subst h
    simp [s_tkG, s_acG]
  · rw [if_neg h, s_tkG, if_neg h]
theorem okL_kd {st kd : Nat} (h : (st, kd) ∈ okL) : kd = 4 ∨ kd = 5 ∨ kd = 6 ∨ kd = 7 ∨ kd = 8 ∨ kd = 9 := by
  simp only [okL, okE, okS, okO, okF, okG, List.cons_append, List.nil_append, List.mem_cons, Prod.mk.injEq, List.not_mem_nil, or_false] at h
  omega
/-- what a delivery needs -/
def okDel (g : PS) (M : List Msg) (N : Nat) : Prop := N ≤ 4 ∧ M.length < 1000 ∧ WfM M ∧ (∀ b, b < 4 → ∃ st, st < 4 ∧ g 14 b = nI st ∧ (st = 2 → ∃ o, o < 4 ∧ g 15 b = nI o) ∧ (¬ st = 2 → g 15 b = -1))
  ∧ (∀ (j : Nat) (z : Msg), M[j]? = some z → z.2.2.1 = 4 → z.1 = 0 ∨ z.1 = 1 ∨ z.1 = 2 ∨ z.1 = 3 ∨ z.1 = 8)
  ∧ (∀ (j : Nat) (z : Msg), M[j]? = some z → ¬ z.2.2.1 = 4 → s_behind M j z = 0 → z.2.2.1 < N ∧ ∃ st, g 8 (4 * z.2.2.1 + z.2.2.2.1) = nI st ∧ (st, z.1) ∈ okL ∧ (st = 3 → z.1 = 8 → z.2.2.2.2.2.1 = 0))
  ∧ (∀ c, c < N → ∃ w, w ≤ 2 ∧ g 7 c = nI w ∧ (w = 1 → ∃ pl o, pl < 16 ∧ g 6 c = nI pl ∧ g 3 (16 * c + pl) = nI o ∧ (o = 0 ∨ o = 1 ∨ o = 5))) ∧ g 12 0 = g 19 0
theorem erase_app {α : Type} {l l2 : List α} {k : Nat} {z : α} (h : l[k]? = some z) : (l ++ l2).eraseIdx k = l.eraseIdx k ++ l2 := by
  obtain ⟨hk, -⟩ := List.getElem?_eq_some_iff.mp h
  exact List.eraseIdx_append_of_lt_length hk l2
theorem get_app {α : Type} {l l2 : List α} {k : Nat} {z : α} (h : l[k]? = some z) : (l ++ l2)[k]? = some z := by
  obtain ⟨hk, -⟩ := List.getElem?_eq_some_iff.mp h
  rw [List.getElem?_append_left hk]; exact h
set_option maxHeartbeats 4000000 in
set_option maxRecDepth 100000 in
theorem c_HD_deliver (l : Launch) (D : va_G) (dA : Nat → ClassId) (eA ad : Nat → Nat → Nat) (A : Nat → Prop) (N : Nat) (g : PS) (M : List Msg) (as sp : List Nat) (x : Int32) (hok : okDel g M N) : Met l y_HD_deliver (k_HD_deliver :: wz) (rml 6 5 40) (va_Pc [.ref (ad 0 0), .int x] (PX D dA eA ad A N g M as sp)) (XQd D dA eA ad A N (s_deliver g M x).1 (s_deliver g M x).2.1 (s_deliver g M x).2.2) 5 40 A := by
  refine x_entry (by decide) (Nat.le_of_ble_eq_true rfl) ?_
  intro p e s m below meth c0 E hA hC hR ls hl
  have hx := E.1
  have hb := E.2.1
  have hS : va_S A s.heap s.heap [] := va_S.rf
  replace hl : lv_has ls 4 [(0, .ref (ad 0 0)), (1, .int x)] := hl
  obtain ⟨hN4, hML, hW, hh, hkH, hkL, hwk, hck⟩ := hok
  have hlen := hR.len
  by_cases hx0 : x < 0
  · have hx1 := hx0
    refine lv_aload_n hx hb d_HD_deliver_0 rfl (lv_at hl 0 rfl) ?_
    refine xg_HD E hC hR 3 (by decide) zf_HD_22 rfl d_HD_deliver_1 ?_
    refine lv_iload_n hx hb d_HD_deliver_4 rfl (lv_at hl 1 rfl) ?_
    refine xc_q (av := [.ref (ad 1 0), .int x]) (xrunV (As := [.int x]) (rest := []) E hA hC hR hS (c_Net_at l D dA eA ad A N g M as sp x) (x_recv hC hR (s0 := 1) (i0 := 0) (show vl N 1 0 from rfl) rfl rfl) ck_HD_152 ⟨rfl, rfl⟩ ⟨Nat.le_of_ble_eq_true rfl, Nat.le_of_ble_eq_true rfl⟩ rfl (lv_sub hl [] rfl) rfl (Nat.le_of_ble_eq_true rfl) ⟨Nat.le_of_ble_eq_true rfl, Nat.le_of_ble_eq_true rfl⟩ d_HD_deliver_5) ?_
    refine wq_eq (y := .null) (by rw [s_at, if_pos hx0]; rfl) ?_
    refine lv_astore_nN (lv' := [(2, .null), (0, .ref (ad 0 0)), (1, .int x)]) hx hb d_HD_deliver_8 rfl hl (by decide) rfl (fun ls hl => ?_)
    refine lv_aload_nN hx hb d_HD_deliver_9 rfl (lv_at hl 0 rfl) ?_
    refine lv_ifnonnullN hx hb d_HD_deliver_10 ?_
    refine lv_iconst (v := (-1)) hx hb d_HD_deliver_13 (by decide) ?_
    refine W.widen (k := 5) (n := 40) (by decide) (by decide) ?_
    have eS : s_deliver g M x = (-1, g, M) := by rw [s_deliver, if_pos hx0]
    rw [eS]
    exact x_dret E hR hS rfl rfl d_HD_deliver_14
  · by_cases hxl : nI M.length ≤ x
    · obtain ⟨xn, hxn, rfl⟩ := nI_of hx0
      have hxl2 := (nI_leI (by omega) hxn).mp hxl
      have ex := nI_clamp hxn
      refine lv_aload_n hx hb d_HD_deliver_0 rfl (lv_at hl 0 rfl) ?_
      refine xg_HD E hC hR 3 (by decide) zf_HD_22 rfl d_HD_deliver_1 ?_
      refine lv_iload_n hx hb d_HD_deliver_4 rfl (lv_at hl 1 rfl) ?_
      refine xc_q (av := [.ref (ad 1 0), .int (nI xn)]) (xrunV (As := [.int (nI xn)]) (rest := []) E hA hC hR hS (c_Net_at l D dA eA ad A N g M as sp (nI xn)) (x_recv hC hR (s0 := 1) (i0 := 0) (show vl N 1 0 from rfl) rfl rfl) ck_HD_152 ⟨rfl, rfl⟩ ⟨Nat.le_of_ble_eq_true rfl, Nat.le_of_ble_eq_true rfl⟩ rfl (lv_sub hl [] rfl) rfl (Nat.le_of_ble_eq_true rfl) ⟨Nat.le_of_ble_eq_true rfl, Nat.le_of_ble_eq_true rfl⟩ d_HD_deliver_5) ?_
      refine wq_eq (y := .null) (by rw [s_at, if_neg hx0, ex, List.getElem?_eq_none (by omega)]; rfl) ?_
      refine lv_astore_nN (lv' := [(2, .null), (0, .ref (ad 0 0)), (1, .int (nI xn))]) hx hb d_HD_deliver_8 rfl hl (by decide) rfl (fun ls hl => ?_)
      refine lv_aload_nN hx hb d_HD_deliver_9 rfl (lv_at hl 0 rfl) ?_
      refine lv_ifnonnullN hx hb d_HD_deliver_10 ?_
      refine lv_iconst (v := (-1)) hx hb d_HD_deliver_13 (by decide) ?_
      refine W.widen (k := 5) (n := 40) (by decide) (by decide) ?_
      have eS : s_deliver g M (nI xn) = (-1, g, M) := by rw [s_deliver, if_neg hx0, if_neg (Int32.not_lt.mpr hxl)]
      rw [eS]
      exact x_dret E hR hS rfl rfl d_HD_deliver_14
    · obtain ⟨j, hj, rfl⟩ := ix_of (by omega) hx0 hxl
      have ej : (nI j).toNatClampNeg = j := nI_clamp (by omega)
      obtain ⟨⟨kd, fr, t, b, v, nb, aq⟩, hz⟩ : ∃ z, M[j]? = some z := ⟨M[j]'hj, List.getElem?_eq_getElem _⟩
      obtain ⟨q, hq⟩ : ∃ q, as[j]? = some q := ⟨as[j]'(by omega), List.getElem?_eq_getElem _⟩
      obtain ⟨hk10, hfr5, ht5, hb4, hfr9, hwa⟩ := hW j _ hz
      replace hk10 : kd < 10 := hk10
      replace hfr5 : fr < 5 := hfr5
      replace ht5 : t < 5 := ht5
      replace hb4 : b < 4 := hb4
      replace hfr9 : t = 4 → fr < 4 := hfr9
      replace hwa : kd = 4 ∨ kd = 5 ∨ kd = 6 → ∃ a, a < 4 ∧ aq = a + 1 := hwa
      have hd0 : s_deliver g M (nI j) = if s_behind M j (kd, fr, t, b, v, nb, aq) = 0 then (if s_stalls g (kd, fr, t, b, v, nb, aq) = 0 then (nI (M.eraseIdx j ++ s_handQ g (kd, fr, t, b, v, nb, aq)).length, s_handG g (kd, fr, t, b, v, nb, aq), M.eraseIdx j ++ s_handQ g (kd, fr, t, b, v, nb, aq)) else (-3, g, M)) else (-2, g, M) := by
        rw [s_deliver, if_neg hx0, if_pos (Int32.not_le.mp hxl), ej, hz]
      refine lv_aload_n hx hb d_HD_deliver_0 rfl (lv_at hl 0 rfl) ?_
      refine xg_HD E hC hR 3 (by decide) zf_HD_22 rfl d_HD_deliver_1 ?_
      refine lv_iload_n hx hb d_HD_deliver_4 rfl (lv_at hl 1 rfl) ?_
      refine xc_q (av := [.ref (ad 1 0), .int (nI j)]) (xrunV (As := [.int (nI j)]) (rest := []) E hA hC hR hS (c_Net_at l D dA eA ad A N g M as sp (nI j)) (x_recv hC hR (s0 := 1) (i0 := 0) (show vl N 1 0 from rfl) rfl rfl) ck_HD_152 ⟨rfl, rfl⟩ ⟨Nat.le_of_ble_eq_true rfl, Nat.le_of_ble_eq_true rfl⟩ rfl (lv_sub hl [] rfl) rfl (Nat.le_of_ble_eq_true rfl) ⟨Nat.le_of_ble_eq_true rfl, Nat.le_of_ble_eq_true rfl⟩ d_HD_deliver_5) ?_
      refine wq_eq (y := .ref q) (by rw [s_at, if_neg hx0, ej, hq]; rfl) ?_
      refine lv_astore_n (lv' := [(2, .ref q), (0, .ref (ad 0 0)), (1, .int (nI j))]) hx hb d_HD_deliver_8 rfl hl (by decide) rfl (fun ls hl => ?_)
      refine lv_aload_n hx hb d_HD_deliver_9 rfl (lv_at hl 0 rfl) ?_
      refine lv_ifnonnull (tgt := 15) hx hb d_HD_deliver_10 (by decide) ?_
      refine lv_aload_n hx hb d_HD_deliver_15 rfl (lv_at hl 0 rfl) ?_
      refine xg_Msg E hC hR hq hz 0 (by decide) zf_HD_156 rfl d_HD_deliver_16 ?_
      refine x_forward E hC hS hk10 hC.2.2.2.2.1.2.2.2.2.2.2.1 d_HD_deliver_19 ?_
      refine lv_if_eq (tgt := 39) hx hb d_HD_deliver_22 (by decide) (fun h1 => ?_) (fun h1 => ?_)
      · have hbh : s_behind M j (kd, fr, t, b, v, nb, aq) = 0 := by
          have hf9 : fw kd = false := by cases hf9 : fw kd with | false => rfl | true => rw [hf9] at h1; exact absurd h1 (by decide)
          unfold s_behind; rw [show fw (kd, fr, t, b, v, nb, aq).1 = false from hf9]; split <;> rfl
        refine lv_aload_n hx hb d_HD_deliver_39 rfl (lv_at hl 0 rfl) ?_
        refine xg_Msg E hC hR hq hz 2 (by decide) zf_HD_172 rfl d_HD_deliver_40 ?_
        refine lv_iconst (v := 4) hx hb d_HD_deliver_43 (by decide) ?_
        refine lv_icmp_ne (tgt := 59) hx hb d_HD_deliver_44 (by decide) (fun h2 => ?_) (fun h2 => ?_)
        · replace h2 := (not_congr (nI_eq (a := t) (b := 4) (by omega) (by omega))).mp h2
          have ht4 := h2
          obtain ⟨htN, st, hst, hokl, hnb⟩ := hkL j _ hz ht4 hbh
          replace htN : t < N := htN
          replace hst : g 8 (4 * t + b) = nI st := hst
          replace hokl : (st, kd) ∈ okL := hokl
          replace hnb : st = 3 → kd = 8 → nb = 0 := hnb
          have hkk := okL_kd hokl
          obtain ⟨st2, hst211, hst2⟩ := tk_8 (v := v) (nb := nb) hst hokl
          obtain ⟨w, hw2, hg7, hwp⟩ := hwk t htN
          refine lv_aload_n hx hb d_HD_deliver_59 rfl (lv_at hl 1 rfl) ?_
          refine xg_HD E hC hR 6 (by decide) zf_HD_41 rfl d_HD_deliver_60 ?_
          refine lv_iconst (v := 4) hx hb d_HD_deliver_63 (by decide) ?_
          refine lv_aload_n hx hb d_HD_deliver_64 rfl (lv_at hl 0 rfl) ?_
          refine xg_Msg E hC hR hq hz 2 (by decide) zf_HD_172 rfl d_HD_deliver_65 ?_
          refine wn_mul hx hb (a := 4) (b := t) d_HD_deliver_68 ?_
          refine lv_aload_n hx hb d_HD_deliver_69 rfl (lv_at hl 0 rfl) ?_
          refine xg_Msg E hC hR hq hz 3 (by decide) zf_HD_175 rfl d_HD_deliver_70 ?_
          refine wn_add hx hb (a := 4 * t) (b := b) d_HD_deliver_73 ?_
          refine xl_Lines E hC hR (j := 4 * t + b) (by omega) hN4 d_HD_deliver_74 ?_
          refine lv_astore_n (lv' := [(3, .ref (ad 11 (4 * t + b))), (2, .ref q), (0, .ref (ad 0 0)), (1, .int (nI j))]) hx hb d_HD_deliver_75 rfl hl (by decide) rfl (fun ls hl => ?_)
          refine lv_aload_n hx hb d_HD_deliver_76 rfl (lv_at hl 0 rfl) ?_
          refine lv_aload_n hx hb d_HD_deliver_77 rfl (lv_at hl 1 rfl) ?_
          refine xf_i (av := [.ref (ad 11 (4 * t + b)), .ref q]) (xrunF (x := y_Rcv_take) (n := 1) (As := [.ref q]) (rest := []) (ci_Line hC.1) E hA hC hR hS (c_Line_take l D dA eA ad A N g M as sp t b htN hN4 hb4 st kd j q fr v nb aq hst hq hz hwa hnb hokl) (x_recv hC hR (s0 := 11) (i0 := 4 * t + b) (show 4 * t + b < 4 * N by omega) rfl rfl) gf_Line hC.2.2.2.2.2.2.1.2 (by decide +kernel) ⟨rfl, rfl⟩ ⟨Nat.le_of_ble_eq_true rfl, Nat.le_of_ble_eq_true rfl⟩ rfl (lv_sub hl [] rfl) rfl (Nat.le_of_ble_eq_true rfl) ⟨Nat.le_of_ble_eq_true rfl, Nat.le_of_ble_eq_true rfl⟩ d_HD_deliver_78) hS (fun H locs nw1 sp1 hR hS => ?_)
          refine W.widen (k := 5) (n := 40) (by decide) (by decide) ?_
          by_cases hs0 : s_stalls g (kd, fr, t, b, v, nb, aq) = 0
          · rw [if_pos hs0, if_pos hs0] at hR
            refine wn_eq (y := 1) (if_pos hs0) ?_
            refine lv_if_ne (tgt := 89) hx hb d_HD_deliver_83 (by decide) (fun h3 => ?_) (fun h3 => absurd h3 (by decide))
            refine lv_aload_n hx hb d_HD_deliver_89 rfl (lv_at hl 0 rfl) ?_
            refine va_instY (C := R_Line) hx hb E.2.2.2.1 (E.2.2.2.2.1 _ zc_HD_39) hC.2.2.2.2.2.2.2.2.1 (x_recv hC hR (s0 := 11) (i0 := 4 * t + b) (show 4 * t + b < 4 * N by omega) rfl rfl) d_HD_deliver_90 ?_
            refine lv_if_eq (tgt := 108) hx hb d_HD_deliver_93 (by decide) (fun h4 => absurd h4 (by decide)) (fun h4 => ?_)
            refine lv_aload_n hx hb d_HD_deliver_96 rfl (lv_at hl 2 rfl) ?_
            refine lv_aload_n hx hb d_HD_deliver_97 rfl (lv_at hl 0 rfl) ?_
            refine va_castY (C := R_Line) hx hb E.2.2.2.1 (E.2.2.2.2.1 _ zc_HD_39) hC.2.2.2.2.2.2.2.2.1 (x_recv hC hR (s0 := 11) (i0 := 4 * t + b) (show 4 * t + b < 4 * N by omega) rfl rfl) d_HD_deliver_98 ?_
            refine lv_aload_n hx hb d_HD_deliver_101 rfl (lv_at hl 1 rfl) ?_
            refine xg_Msg E hC hR (get_app hq) (get_app hz) 0 (by decide) zf_HD_156 rfl d_HD_deliver_102 ?_
            refine xc_v (av := [.ref (ad 0 0), .ref (ad 11 (4 * t + b)), .ref (eA 0 kd)]) (xrunV (As := [.ref (ad 11 (4 * t + b)), .ref (eA 0 kd)]) (rest := []) E hA hC hR hS (c_HD_wake l D dA eA ad A N (s_tkG g kd t b v nb) (M ++ s_acQ g kd t b aq) (as ++ nw1) sp1 t b kd st2 w htN hN4 hb4 hk10 hst211 hst2 hw2 (show s_tkG g kd t b v nb 7 t = nI w by rw [tk_7 hkk]; exact hg7) (by rw [tk_o (k := 6) (by decide), tk_o (k := 3) (by decide)]; exact hwp) (by rw [tk_o (k := 12) (by decide), tk_o (k := 19) (by decide)]; exact hck)) (x_recv hC hR (s0 := 0) (i0 := 0) (show vl N 0 0 from rfl) rfl rfl) ck_HD_183 ⟨rfl, rfl⟩ ⟨Nat.le_of_ble_eq_true rfl, Nat.le_of_ble_eq_true rfl⟩ rfl (lv_sub hl [] rfl) rfl (Nat.le_of_ble_eq_true rfl) ⟨Nat.le_of_ble_eq_true rfl, Nat.le_of_ble_eq_true rfl⟩ d_HD_deliver_105) hS (fun H locs nw2 sp2 hR hS => ?_)
            rw [tk_ac] at hR
            refine lv_aload_n hx hb d_HD_deliver_108 rfl (lv_at hl 2 rfl) ?_
            refine xg_HD E hC hR 3 (by decide) zf_HD_22 rfl d_HD_deliver_109 ?_
            refine lv_aload_n hx hb d_HD_deliver_112 rfl (lv_at hl 1 rfl) ?_
            refine xc_e (av := [.ref (ad 1 0), .ref q]) (xrunV (As := [.ref q]) (rest := []) E hA hC hR hS (c_Net_remove l D dA eA ad A N (s_fin (s_acG g kd t b v nb) t b) (M ++ s_acQ g kd t b aq) ((as ++ nw1) ++ nw2) sp2 (get_app (get_app hq)) (get_app hz)) (x_recv hC hR (s0 := 1) (i0 := 0) (show vl N 1 0 from rfl) rfl rfl) ck_HD_187 ⟨rfl, rfl⟩ ⟨Nat.le_of_ble_eq_true rfl, Nat.le_of_ble_eq_true rfl⟩ rfl (lv_sub hl [] rfl) rfl (Nat.le_of_ble_eq_true rfl) ⟨Nat.le_of_ble_eq_true rfl, Nat.le_of_ble_eq_true rfl⟩ d_HD_deliver_113) hS (fun H locs hR hS => ?_)
            refine lv_aload_n hx hb d_HD_deliver_116 rfl (lv_at hl 2 rfl) ?_
            refine xg_HD E hC hR 3 (by decide) zf_HD_22 rfl d_HD_deliver_117 ?_
            refine xn_Net E hC hR 3 (by decide) hC.2.2.2.2.1.1 rfl d_HD_deliver_120 ?_
            refine wn_eq (y := nI ((M ++ s_acQ g kd t b aq).eraseIdx j).length) (by rw [hR.len]) ?_
            rw [erase_app hz] at hR
            have eG : s_handG g (kd, fr, t, b, v, nb, aq) = s_fin (s_acG g kd t b v nb) t b := if_neg ht4
            have eQ : s_handQ g (kd, fr, t, b, v, nb, aq) = s_acQ g kd t b aq := if_neg ht4
            rw [hd0, if_pos hbh, if_pos hs0, eG, eQ]
            exact x_dret E hR hS rfl (by rw [erase_app hz]) d_HD_deliver_123
          · rw [if_neg hs0, if_neg hs0] at hR
            refine wn_eq (y := 0) (if_neg hs0) ?_
            refine lv_if_ne (tgt := 89) hx hb d_HD_deliver_83 (by decide) (fun h5 => absurd (by decide) h5) (fun h5 => ?_)
            refine lv_bipush (v := (-3)) hx hb d_HD_deliver_86 (by decide) ?_
            rw [hd0, if_pos hbh, if_neg hs0]
            exact x_dret E hR hS rfl rfl d_HD_deliver_88
        · replace h2 := (nI_eq (a := t) (b := 4) (by omega) (by omega)).mp h2
          subst h2
          have hkind := hkH j _ hz rfl
          replace hkind : kd = 0 ∨ kd = 1 ∨ kd = 2 ∨ kd = 3 ∨ kd = 8 := hkind
          have hfr4 : fr < 4 := hfr9 rfl
          obtain ⟨hs, hs4, hhs, hho, hno⟩ := hh b hb4
          have hhom : g 15 b = nI fr → hs = 2 := fun e9 => Classical.byContradiction fun e8 => absurd ((hno e8).symm.trans e9) (m1_ne hfr4)
          refine lv_aload_n hx hb d_HD_deliver_47 rfl (lv_at hl 1 rfl) ?_
          refine xg_HD E hC hR 7 (by decide) zf_HD_47 rfl d_HD_deliver_48 ?_
          refine lv_aload_n hx hb d_HD_deliver_51 rfl (lv_at hl 0 rfl) ?_
          refine xg_Msg E hC hR hq hz 3 (by decide) zf_HD_175 rfl d_HD_deliver_52 ?_
          refine xl_Homes E hC hR (j := b) (by omega) d_HD_deliver_55 ?_
          refine lv_goto (tgt := 75) hx hb d_HD_deliver_56 (by decide) ?_
          refine lv_astore_n (lv' := [(3, .ref (ad 12 b)), (2, .ref q), (0, .ref (ad 0 0)), (1, .int (nI j))]) hx hb d_HD_deliver_75 rfl hl (by decide) rfl (fun ls hl => ?_)
          refine lv_aload_n hx hb d_HD_deliver_76 rfl (lv_at hl 0 rfl) ?_
          refine lv_aload_n hx hb d_HD_deliver_77 rfl (lv_at hl 1 rfl) ?_
          refine xf_i (av := [.ref (ad 12 b), .ref q]) (xrunF (x := y_Rcv_take) (n := 1) (As := [.ref q]) (rest := []) (ci_Home hC.1) E hA hC hR hS (c_Home_take l D dA eA ad A N g M as sp b hb4 hs hs4 hhs kd j q fr 4 v nb aq hkind hfr4 hq hz hho hhom) (x_recv hC hR (s0 := 12) (i0 := b) (show b < 4 by omega) rfl rfl) gf_Home hC.2.2.2.2.2.2.1.1 (by decide +kernel) ⟨rfl, rfl⟩ ⟨Nat.le_of_ble_eq_true rfl, Nat.le_of_ble_eq_true rfl⟩ rfl (lv_sub hl [] rfl) rfl (Nat.le_of_ble_eq_true rfl) ⟨Nat.le_of_ble_eq_true rfl, Nat.le_of_ble_eq_true rfl⟩ d_HD_deliver_78) hS (fun H locs nw1 sp1 hR hS => ?_)
          refine W.widen (k := 5) (n := 40) (by decide) (by decide) ?_
          by_cases hs0 : s_stalls g (kd, fr, 4, b, v, nb, aq) = 0
          · rw [if_pos hs0, if_pos hs0] at hR
            refine wn_eq (y := 1) (if_pos hs0) ?_
            refine lv_if_ne (tgt := 89) hx hb d_HD_deliver_83 (by decide) (fun h6 => ?_) (fun h6 => absurd h6 (by decide))
            refine lv_aload_n hx hb d_HD_deliver_89 rfl (lv_at hl 0 rfl) ?_
            refine va_instNo (C := R_Home) hx hb E.2.2.2.1 (E.2.2.2.2.1 _ zc_HD_39) hC.2.2.2.2.2.2.2.2.2.2 (x_recv hC hR (s0 := 12) (i0 := b) (show b < 4 by omega) rfl rfl) d_HD_deliver_90 ?_
            refine lv_if_eq (tgt := 108) hx hb d_HD_deliver_93 (by decide) (fun h7 => ?_) (fun h7 => absurd (by decide) h7)
            refine lv_aload_n hx hb d_HD_deliver_108 rfl (lv_at hl 2 rfl) ?_
            refine xg_HD E hC hR 3 (by decide) zf_HD_22 rfl d_HD_deliver_109 ?_
            refine lv_aload_n hx hb d_HD_deliver_112 rfl (lv_at hl 1 rfl) ?_
            refine xc_e (av := [.ref (ad 1 0), .ref q]) (xrunV (As := [.ref q]) (rest := []) E hA hC hR hS (c_Net_remove l D dA eA ad A N (s_ahG g kd fr b v) (M ++ s_ahQ g kd fr b) (as ++ nw1) sp1 (get_app hq) (get_app hz)) (x_recv hC hR (s0 := 1) (i0 := 0) (show vl N 1 0 from rfl) rfl rfl) ck_HD_187 ⟨rfl, rfl⟩ ⟨Nat.le_of_ble_eq_true rfl, Nat.le_of_ble_eq_true rfl⟩ rfl (lv_sub hl [] rfl) rfl (Nat.le_of_ble_eq_true rfl) ⟨Nat.le_of_ble_eq_true rfl, Nat.le_of_ble_eq_true rfl⟩ d_HD_deliver_113) hS (fun H locs hR hS => ?_)
            refine lv_aload_n hx hb d_HD_deliver_116 rfl (lv_at hl 2 rfl) ?_
            refine xg_HD E hC hR 3 (by decide) zf_HD_22 rfl d_HD_deliver_117 ?_
            refine xn_Net E hC hR 3 (by decide) hC.2.2.2.2.1.1 rfl d_HD_deliver_120 ?_
            refine wn_eq (y := nI ((M ++ s_ahQ g kd fr b).eraseIdx j).length) (by rw [hR.len]) ?_
            rw [erase_app hz] at hR
            rw [hd0, if_pos hbh, if_pos hs0]
            exact x_dret E hR hS rfl (by rw [erase_app hz]; rfl) d_HD_deliver_123
          · rw [if_neg hs0, if_neg hs0] at hR
            refine wn_eq (y := 0) (if_neg hs0) ?_
            refine lv_if_ne (tgt := 89) hx hb d_HD_deliver_83 (by decide) (fun h8 => absurd (by decide) h8) (fun h8 => ?_)
            refine lv_bipush (v := (-3)) hx hb d_HD_deliver_86 (by decide) ?_
            rw [hd0, if_pos hbh, if_neg hs0]
            exact x_dret E hR hS rfl rfl d_HD_deliver_88
      · have hf9 : fw kd = true := by cases hf9 : fw kd with | true => rfl | false => rw [hf9] at h1; exact absurd (by decide) h1
        refine lv_aload_n hx hb d_HD_deliver_25 rfl (lv_at hl 1 rfl) ?_
        refine xg_HD E hC hR 3 (by decide) zf_HD_22 rfl d_HD_deliver_26 ?_
        refine lv_aload_n hx hb d_HD_deliver_29 rfl (lv_at hl 0 rfl) ?_
        refine xc_R (av := [.ref (ad 1 0), .ref q]) (xrunV (As := [.ref q]) (rest := []) E hA hC hR hS (c_Net_behind l D dA eA ad A N g M as sp hq hz (fun i z h9 => ⟨(hW i z h9).1, (hW i z h9).2.2.1, (hW i z h9).2.2.2.1⟩)) (x_recv hC hR (s0 := 1) (i0 := 0) (show vl N 1 0 from rfl) rfl rfl) ck_HD_168 ⟨rfl, rfl⟩ ⟨Nat.le_of_ble_eq_true rfl, Nat.le_of_ble_eq_true rfl⟩ rfl (lv_sub hl [] rfl) rfl (Nat.le_of_ble_eq_true rfl) ⟨Nat.le_of_ble_eq_true rfl, Nat.le_of_ble_eq_true rfl⟩ d_HD_deliver_30) ?_
        refine lv_if_eq (tgt := 39) hx hb d_HD_deliver_33 (by decide) (fun h9 => ?_) (fun h9 => ?_)
        · have hbh : s_behind M j (kd, fr, t, b, v, nb, aq) = 0 := by
            unfold s_behind; split
            · next e9 => rw [if_pos e9] at h9; exact absurd h9 (by decide)
            · rfl
          refine lv_aload_n hx hb d_HD_deliver_39 rfl (lv_at hl 0 rfl) ?_
          refine xg_Msg E hC hR hq hz 2 (by decide) zf_HD_172 rfl d_HD_deliver_40 ?_
          refine lv_iconst (v := 4) hx hb d_HD_deliver_43 (by decide) ?_
          refine lv_icmp_ne (tgt := 59) hx hb d_HD_deliver_44 (by decide) (fun h10 => ?_) (fun h10 => ?_)
          · replace h10 := (not_congr (nI_eq (a := t) (b := 4) (by omega) (by omega))).mp h10
            have ht4 := h10
            obtain ⟨htN, st, hst, hokl, hnb⟩ := hkL j _ hz ht4 hbh
            replace htN : t < N := htN
            replace hst : g 8 (4 * t + b) = nI st := hst
            replace hokl : (st, kd) ∈ okL := hokl
            replace hnb : st = 3 → kd = 8 → nb = 0 := hnb
            have hkk := okL_kd hokl
            obtain ⟨st2, hst211, hst2⟩ := tk_8 (v := v) (nb := nb) hst hokl
            obtain ⟨w, hw2, hg7, hwp⟩ := hwk t htN
            refine lv_aload_n hx hb d_HD_deliver_59 rfl (lv_at hl 1 rfl) ?_
            refine xg_HD E hC hR 6 (by decide) zf_HD_41 rfl d_HD_deliver_60 ?_
            refine lv_iconst (v := 4) hx hb d_HD_deliver_63 (by decide) ?_
            refine lv_aload_n hx hb d_HD_deliver_64 rfl (lv_at hl 0 rfl) ?_
            refine xg_Msg E hC hR hq hz 2 (by decide) zf_HD_172 rfl d_HD_deliver_65 ?_
            refine wn_mul hx hb (a := 4) (b := t) d_HD_deliver_68 ?_
            refine lv_aload_n hx hb d_HD_deliver_69 rfl (lv_at hl 0 rfl) ?_
            refine xg_Msg E hC hR hq hz 3 (by decide) zf_HD_175 rfl d_HD_deliver_70 ?_
            refine wn_add hx hb (a := 4 * t) (b := b) d_HD_deliver_73 ?_
            refine xl_Lines E hC hR (j := 4 * t + b) (by omega) hN4 d_HD_deliver_74 ?_
            refine lv_astore_n (lv' := [(3, .ref (ad 11 (4 * t + b))), (2, .ref q), (0, .ref (ad 0 0)), (1, .int (nI j))]) hx hb d_HD_deliver_75 rfl hl (by decide) rfl (fun ls hl => ?_)
            refine lv_aload_n hx hb d_HD_deliver_76 rfl (lv_at hl 0 rfl) ?_
            refine lv_aload_n hx hb d_HD_deliver_77 rfl (lv_at hl 1 rfl) ?_
            refine xf_i (av := [.ref (ad 11 (4 * t + b)), .ref q]) (xrunF (x := y_Rcv_take) (n := 1) (As := [.ref q]) (rest := []) (ci_Line hC.1) E hA hC hR hS (c_Line_take l D dA eA ad A N g M as sp t b htN hN4 hb4 st kd j q fr v nb aq hst hq hz hwa hnb hokl) (x_recv hC hR (s0 := 11) (i0 := 4 * t + b) (show 4 * t + b < 4 * N by omega) rfl rfl) gf_Line hC.2.2.2.2.2.2.1.2 (by decide +kernel) ⟨rfl, rfl⟩ ⟨Nat.le_of_ble_eq_true rfl, Nat.le_of_ble_eq_true rfl⟩ rfl (lv_sub hl [] rfl) rfl (Nat.le_of_ble_eq_true rfl) ⟨Nat.le_of_ble_eq_true rfl, Nat.le_of_ble_eq_true rfl⟩ d_HD_deliver_78) hS (fun H locs nw1 sp1 hR hS => ?_)
            refine W.widen (k := 5) (n := 40) (by decide) (by decide) ?_
            by_cases hs0 : s_stalls g (kd, fr, t, b, v, nb, aq) = 0
            · rw [if_pos hs0, if_pos hs0] at hR
              refine wn_eq (y := 1) (if_pos hs0) ?_
              refine lv_if_ne (tgt := 89) hx hb d_HD_deliver_83 (by decide) (fun h11 => ?_) (fun h11 => absurd h11 (by decide))
              refine lv_aload_n hx hb d_HD_deliver_89 rfl (lv_at hl 0 rfl) ?_
              refine va_instY (C := R_Line) hx hb E.2.2.2.1 (E.2.2.2.2.1 _ zc_HD_39) hC.2.2.2.2.2.2.2.2.1 (x_recv hC hR (s0 := 11) (i0 := 4 * t + b) (show 4 * t + b < 4 * N by omega) rfl rfl) d_HD_deliver_90 ?_
              refine lv_if_eq (tgt := 108) hx hb d_HD_deliver_93 (by decide) (fun h12 => absurd h12 (by decide)) (fun h12 => ?_)
              refine lv_aload_n hx hb d_HD_deliver_96 rfl (lv_at hl 2 rfl) ?_
              refine lv_aload_n hx hb d_HD_deliver_97 rfl (lv_at hl 0 rfl) ?_
              refine va_castY (C := R_Line) hx hb E.2.2.2.1 (E.2.2.2.2.1 _ zc_HD_39) hC.2.2.2.2.2.2.2.2.1 (x_recv hC hR (s0 := 11) (i0 := 4 * t + b) (show 4 * t + b < 4 * N by omega) rfl rfl) d_HD_deliver_98 ?_
              refine lv_aload_n hx hb d_HD_deliver_101 rfl (lv_at hl 1 rfl) ?_
              refine xg_Msg E hC hR (get_app hq) (get_app hz) 0 (by decide) zf_HD_156 rfl d_HD_deliver_102 ?_
              refine xc_v (av := [.ref (ad 0 0), .ref (ad 11 (4 * t + b)), .ref (eA 0 kd)]) (xrunV (As := [.ref (ad 11 (4 * t + b)), .ref (eA 0 kd)]) (rest := []) E hA hC hR hS (c_HD_wake l D dA eA ad A N (s_tkG g kd t b v nb) (M ++ s_acQ g kd t b aq) (as ++ nw1) sp1 t b kd st2 w htN hN4 hb4 hk10 hst211 hst2 hw2 (show s_tkG g kd t b v nb 7 t = nI w by rw [tk_7 hkk]; exact hg7) (by rw [tk_o (k := 6) (by decide), tk_o (k := 3) (by decide)]; exact hwp) (by rw [tk_o (k := 12) (by decide), tk_o (k := 19) (by decide)]; exact hck)) (x_recv hC hR (s0 := 0) (i0 := 0) (show vl N 0 0 from rfl) rfl rfl) ck_HD_183 ⟨rfl, rfl⟩ ⟨Nat.le_of_ble_eq_true rfl, Nat.le_of_ble_eq_true rfl⟩ rfl (lv_sub hl [] rfl) rfl (Nat.le_of_ble_eq_true rfl) ⟨Nat.le_of_ble_eq_true rfl, Nat.le_of_ble_eq_true rfl⟩ d_HD_deliver_105) hS (fun H locs nw2 sp2 hR hS => ?_)
              rw [tk_ac] at hR
              refine lv_aload_n hx hb d_HD_deliver_108 rfl (lv_at hl 2 rfl) ?_
              refine xg_HD E hC hR 3 (by decide) zf_HD_22 rfl d_HD_deliver_109 ?_
              refine lv_aload_n hx hb d_HD_deliver_112 rfl (lv_at hl 1 rfl) ?_
              refine xc_e (av := [.ref (ad 1 0), .ref q]) (xrunV (As := [.ref q]) (rest := []) E hA hC hR hS (c_Net_remove l D dA eA ad A N (s_fin (s_acG g kd t b v nb) t b) (M ++ s_acQ g kd t b aq) ((as ++ nw1) ++ nw2) sp2 (get_app (get_app hq)) (get_app hz)) (x_recv hC hR (s0 := 1) (i0 := 0) (show vl N 1 0 from rfl) rfl rfl) ck_HD_187 ⟨rfl, rfl⟩ ⟨Nat.le_of_ble_eq_true rfl, Nat.le_of_ble_eq_true rfl⟩ rfl (lv_sub hl [] rfl) rfl (Nat.le_of_ble_eq_true rfl) ⟨Nat.le_of_ble_eq_true rfl, Nat.le_of_ble_eq_true rfl⟩ d_HD_deliver_113) hS (fun H locs hR hS => ?_)
              refine lv_aload_n hx hb d_HD_deliver_116 rfl (lv_at hl 2 rfl) ?_
              refine xg_HD E hC hR 3 (by decide) zf_HD_22 rfl d_HD_deliver_117 ?_
              refine xn_Net E hC hR 3 (by decide) hC.2.2.2.2.1.1 rfl d_HD_deliver_120 ?_
              refine wn_eq (y := nI ((M ++ s_acQ g kd t b aq).eraseIdx j).length) (by rw [hR.len]) ?_
              rw [erase_app hz] at hR
              have eG : s_handG g (kd, fr, t, b, v, nb, aq) = s_fin (s_acG g kd t b v nb) t b := if_neg ht4
              have eQ : s_handQ g (kd, fr, t, b, v, nb, aq) = s_acQ g kd t b aq := if_neg ht4
              rw [hd0, if_pos hbh, if_pos hs0, eG, eQ]
              exact x_dret E hR hS rfl (by rw [erase_app hz]) d_HD_deliver_123
            · rw [if_neg hs0, if_neg hs0] at hR
              refine wn_eq (y := 0) (if_neg hs0) ?_
              refine lv_if_ne (tgt := 89) hx hb d_HD_deliver_83 (by decide) (fun h13 => absurd (by decide) h13) (fun h13 => ?_)
              refine lv_bipush (v := (-3)) hx hb d_HD_deliver_86 (by decide) ?_
              rw [hd0, if_pos hbh, if_neg hs0]
              exact x_dret E hR hS rfl rfl d_HD_deliver_88
          · replace h10 := (nI_eq (a := t) (b := 4) (by omega) (by omega)).mp h10
            subst h10
            have hkind := hkH j _ hz rfl
            replace hkind : kd = 0 ∨ kd = 1 ∨ kd = 2 ∨ kd = 3 ∨ kd = 8 := hkind
            have hfr4 : fr < 4 := hfr9 rfl
            obtain ⟨hs, hs4, hhs, hho, hno⟩ := hh b hb4
            have hhom : g 15 b = nI fr → hs = 2 := fun e9 => Classical.byContradiction fun e8 => absurd ((hno e8).symm.trans e9) (m1_ne hfr4)
            refine lv_aload_n hx hb d_HD_deliver_47 rfl (lv_at hl 1 rfl) ?_
            refine xg_HD E hC hR 7 (by decide) zf_HD_47 rfl d_HD_deliver_48 ?_
            refine lv_aload_n hx hb d_HD_deliver_51 rfl (lv_at hl 0 rfl) ?_
            refine xg_Msg E hC hR hq hz 3 (by decide) zf_HD_175 rfl d_HD_deliver_52 ?_
            refine xl_Homes E hC hR (j := b) (by omega) d_HD_deliver_55 ?_
            refine lv_goto (tgt := 75) hx hb d_HD_deliver_56 (by decide) ?_
            refine lv_astore_n (lv' := [(3, .ref (ad 12 b)), (2, .ref q), (0, .ref (ad 0 0)), (1, .int (nI j))]) hx hb d_HD_deliver_75 rfl hl (by decide) rfl (fun ls hl => ?_)
            refine lv_aload_n hx hb d_HD_deliver_76 rfl (lv_at hl 0 rfl) ?_
            refine lv_aload_n hx hb d_HD_deliver_77 rfl (lv_at hl 1 rfl) ?_
            refine xf_i (av := [.ref (ad 12 b), .ref q]) (xrunF (x := y_Rcv_take) (n := 1) (As := [.ref q]) (rest := []) (ci_Home hC.1) E hA hC hR hS (c_Home_take l D dA eA ad A N g M as sp b hb4 hs hs4 hhs kd j q fr 4 v nb aq hkind hfr4 hq hz hho hhom) (x_recv hC hR (s0 := 12) (i0 := b) (show b < 4 by omega) rfl rfl) gf_Home hC.2.2.2.2.2.2.1.1 (by decide +kernel) ⟨rfl, rfl⟩ ⟨Nat.le_of_ble_eq_true rfl, Nat.le_of_ble_eq_true rfl⟩ rfl (lv_sub hl [] rfl) rfl (Nat.le_of_ble_eq_true rfl) ⟨Nat.le_of_ble_eq_true rfl, Nat.le_of_ble_eq_true rfl⟩ d_HD_deliver_78) hS (fun H locs nw1 sp1 hR hS => ?_)
            refine W.widen (k := 5) (n := 40) (by decide) (by decide) ?_
            by_cases hs0 : s_stalls g (kd, fr, 4, b, v, nb, aq) = 0
            · rw [if_pos hs0, if_pos hs0] at hR
              refine wn_eq (y := 1) (if_pos hs0) ?_
              refine lv_if_ne (tgt := 89) hx hb d_HD_deliver_83 (by decide) (fun h14 => ?_) (fun h14 => absurd h14 (by decide))
              refine lv_aload_n hx hb d_HD_deliver_89 rfl (lv_at hl 0 rfl) ?_
              refine va_instNo (C := R_Home) hx hb E.2.2.2.1 (E.2.2.2.2.1 _ zc_HD_39) hC.2.2.2.2.2.2.2.2.2.2 (x_recv hC hR (s0 := 12) (i0 := b) (show b < 4 by omega) rfl rfl) d_HD_deliver_90 ?_
              refine lv_if_eq (tgt := 108) hx hb d_HD_deliver_93 (by decide) (fun h15 => ?_) (fun h15 => absurd (by decide) h15)
              refine lv_aload_n hx hb d_HD_deliver_108 rfl (lv_at hl 2 rfl) ?_
              refine xg_HD E hC hR 3 (by decide) zf_HD_22 rfl d_HD_deliver_109 ?_
              refine lv_aload_n hx hb d_HD_deliver_112 rfl (lv_at hl 1 rfl) ?_
              refine xc_e (av := [.ref (ad 1 0), .ref q]) (xrunV (As := [.ref q]) (rest := []) E hA hC hR hS (c_Net_remove l D dA eA ad A N (s_ahG g kd fr b v) (M ++ s_ahQ g kd fr b) (as ++ nw1) sp1 (get_app hq) (get_app hz)) (x_recv hC hR (s0 := 1) (i0 := 0) (show vl N 1 0 from rfl) rfl rfl) ck_HD_187 ⟨rfl, rfl⟩ ⟨Nat.le_of_ble_eq_true rfl, Nat.le_of_ble_eq_true rfl⟩ rfl (lv_sub hl [] rfl) rfl (Nat.le_of_ble_eq_true rfl) ⟨Nat.le_of_ble_eq_true rfl, Nat.le_of_ble_eq_true rfl⟩ d_HD_deliver_113) hS (fun H locs hR hS => ?_)
              refine lv_aload_n hx hb d_HD_deliver_116 rfl (lv_at hl 2 rfl) ?_
              refine xg_HD E hC hR 3 (by decide) zf_HD_22 rfl d_HD_deliver_117 ?_
              refine xn_Net E hC hR 3 (by decide) hC.2.2.2.2.1.1 rfl d_HD_deliver_120 ?_
              refine wn_eq (y := nI ((M ++ s_ahQ g kd fr b).eraseIdx j).length) (by rw [hR.len]) ?_
              rw [erase_app hz] at hR
              rw [hd0, if_pos hbh, if_pos hs0]
              exact x_dret E hR hS rfl (by rw [erase_app hz]; rfl) d_HD_deliver_123
            · rw [if_neg hs0, if_neg hs0] at hR
              refine wn_eq (y := 0) (if_neg hs0) ?_
              refine lv_if_ne (tgt := 89) hx hb d_HD_deliver_83 (by decide) (fun h16 => absurd (by decide) h16) (fun h16 => ?_)
              refine lv_bipush (v := (-3)) hx hb d_HD_deliver_86 (by decide) ?_
              rw [hd0, if_pos hbh, if_neg hs0]
              exact x_dret E hR hS rfl rfl d_HD_deliver_88
        · have hbh : ¬ s_behind M j (kd, fr, t, b, v, nb, aq) = 0 := by
            unfold s_behind; split
            · decide
            · next e9 => rw [if_neg e9] at h9; exact absurd rfl h9
          refine lv_bipush (v := (-2)) hx hb d_HD_deliver_36 (by decide) ?_
          refine W.widen (k := 5) (n := 40) (by decide) (by decide) ?_
          rw [hd0, if_neg hbh]
          exact x_dret E hR hS rfl rfl d_HD_deliver_38
