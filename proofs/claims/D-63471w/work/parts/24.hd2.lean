theorem i2b_op {o : Nat} (h : o < 6) : (nI o).toInt8.toInt32 = nI o := by
  rcases (show o = 0 ∨ o = 1 ∨ o = 2 ∨ o = 3 ∨ o = 4 ∨ o = 5 by omega) with rfl | rfl | rfl | rfl | rfl | rfl <;> decide
theorem le5 {y : Int32} (h : ¬ 5 < y) : ¬ nI 6 ≤ y := by
  intro q
  apply h
  rw [Int32.le_iff_toInt_le] at q
  rw [Int32.lt_iff_toInt_lt]
  have e6 : (nI 6).toInt = 6 := by decide
  have e7 : (5 : Int32).toInt = 5 := by decide
  rw [e6] at q
  rw [e7]
  omega
theorem code_full {g : PS} {c : Nat} {op x : Int32} (h : g 5 (nI c).toNatClampNeg = 16) : s_code g (nI c) op x = (0, g) := by
  have h3 : s_code3 g (nI c) op x = (0, g) := by rw [s_code3, if_pos h]
  have h2 : s_code2 g (nI c) op x = (0, g) := by
    rw [s_code2, h3]
    split
    · split
      · rfl
      · split <;> rfl
    · rfl
  rw [s_code, h2]
  repeat (first | rfl | split)
theorem w32 {w : Nat} (h : w ≤ 2) : (32 : Int32) * nI w = nI (32 * w) := by rw [show (32 : Int32) = nI 32 from rfl, pk_mul]
theorem perf_cm (a : PS) (c i : Nat) (p d e k : Int32) : up2 (up2 (up2 (up2 a 6 c p) 19 0 d) 11 i e) 12 0 k = up2 (up2 (up2 (up2 a 12 0 k) 11 i e) 19 0 d) 6 c p := by
  rw [up2_cm (up2 (up2 a 6 c p) 19 0 d) (k := 11) (k' := 12) e k (by decide), up2_cm (up2 a 6 c p) (k := 19) (k' := 12) d k (by decide), up2_cm a (k := 6) (k' := 12) p k (by decide), up2_cm (up2 (up2 a 12 0 k) 6 c p) (k := 19) (k' := 11) d e (by decide), up2_cm (up2 a 12 0 k) (k := 6) (k' := 11) p e (by decide), up2_cm (up2 (up2 a 12 0 k) 11 i e) (k := 6) (k' := 19) p d (by decide)]
set_option maxHeartbeats 4000000 in
set_option maxRecDepth 100000 in
theorem c_HD_go (l : Launch) (D : va_G) (dA : Nat → ClassId) (eA ad : Nat → Nat → Nat) (A : Nat → Prop) (N : Nat) (g : PS) (M : List Msg) (as sp : List Nat) (x y : Int32) (hN : g 0 0 = nI N) (hN4 : N ≤ 4) (hwt : ∀ c, c < 4 → ∃ w, w ≤ 2 ∧ g 7 c = nI w) : Met l y_HD_go (k_HD_go :: wz) (rml 1 0 0) (va_Pc [.ref (ad 0 0), .int x, .int y] (PX D dA eA ad A N g M as sp)) (XQi D dA eA ad A N (s_go g x y).1 (s_go g x y).2 M as) 0 0 A := by
  refine x_entry (by decide) (Nat.le_of_ble_eq_true rfl) ?_
  intro p e s m below meth c0 E hA hC hR ls hl
  have hx := E.1
  have hb := E.2.1
  have hS : va_S A s.heap s.heap [] := va_S.rf
  replace hl : lv_has ls 4 [(0, .ref (ad 0 0)), (1, .int x), (2, .int y)] := hl
  by_cases hcv : s_isCore g x = 0
  · have hcv0 := hcv
    refine lv_aload_n hx hb d_HD_go_0 rfl (lv_at hl 0 rfl) ?_
    refine lv_iload_n hx hb d_HD_go_1 rfl (lv_at hl 1 rfl) ?_
    refine xc_q (av := [.ref (ad 0 0), .int x]) (xrunV (As := [.int x]) (rest := []) E hA hC hR hS (c_HD_core l D dA eA ad A N g M as sp x hN4) (x_recv hC hR (s0 := 0) (i0 := 0) (show vl N 0 0 from rfl) rfl rfl) ck_HD_74 ⟨rfl, rfl⟩ ⟨Nat.le_of_ble_eq_true rfl, Nat.le_of_ble_eq_true rfl⟩ rfl (lv_sub hl [] rfl) rfl (Nat.le_of_ble_eq_true rfl) ⟨Nat.le_of_ble_eq_true rfl, Nat.le_of_ble_eq_true rfl⟩ d_HD_go_2) ?_
    refine wq_eq (y := .null) (by rw [core_none hN hcv]; rfl) ?_
    refine lv_astore_nN (lv' := [(3, .null), (0, .ref (ad 0 0)), (1, .int x), (2, .int y)]) hx hb d_HD_go_5 rfl hl (by decide) rfl (fun ls hl => ?_)
    refine lv_aload_nN hx hb d_HD_go_6 rfl (lv_at hl 0 rfl) ?_
    refine lv_ifnullN (tgt := 27) hx hb d_HD_go_7 (by decide) ?_
    refine lv_iconst (v := 0) hx hb d_HD_go_27 (by decide) ?_
    have eS : s_go g x y = (0, g) := by rw [s_go, if_pos hcv]
    rw [eS]
    exact x_iret (nw := []) E (by rw [List.append_nil]; exact hR) hS rfl rfl d_HD_go_28
  · obtain ⟨c, hcN, rfl⟩ := isCore_of hN hN4 hcv
    have ec : (nI c).toNatClampNeg = c := nI_clamp (by omega)
    obtain ⟨w, hw2, hg7⟩ := hwt c (by omega)
    have hw32 := w32 hw2
    have hw0 : g 7 c = 0 ↔ w = 0 := by rw [hg7]; exact nI_eq (b := 0) (by omega) (by omega)
    refine lv_aload_n hx hb d_HD_go_0 rfl (lv_at hl 0 rfl) ?_
    refine lv_iload_n hx hb d_HD_go_1 rfl (lv_at hl 1 rfl) ?_
    refine xc_q (av := [.ref (ad 0 0), .int (nI c)]) (xrunV (As := [.int (nI c)]) (rest := []) E hA hC hR hS (c_HD_core l D dA eA ad A N g M as sp (nI c) hN4) (x_recv hC hR (s0 := 0) (i0 := 0) (show vl N 0 0 from rfl) rfl rfl) ck_HD_74 ⟨rfl, rfl⟩ ⟨Nat.le_of_ble_eq_true rfl, Nat.le_of_ble_eq_true rfl⟩ rfl (lv_sub hl [] rfl) rfl (Nat.le_of_ble_eq_true rfl) ⟨Nat.le_of_ble_eq_true rfl, Nat.le_of_ble_eq_true rfl⟩ d_HD_go_2) ?_
    refine wq_eq (y := .ref (ad 8 c)) (by rw [core_some hN4 hcN]; rfl) ?_
    refine lv_astore_n (lv' := [(3, .ref (ad 8 c)), (0, .ref (ad 0 0)), (1, .int (nI c)), (2, .int y)]) hx hb d_HD_go_5 rfl hl (by decide) rfl (fun ls hl => ?_)
    refine lv_aload_n hx hb d_HD_go_6 rfl (lv_at hl 0 rfl) ?_
    refine lv_ifnull hx hb d_HD_go_7 ?_
    refine lv_aload_n hx hb d_HD_go_10 rfl (lv_at hl 0 rfl) ?_
    refine xg_Core E hC hR (show vl N 8 c from hcN) 5 (by decide) zf_HD_100 rfl d_HD_go_11 ?_
    refine wn_eq (y := nI (32 * w)) (by rw [hg7]; exact hw32) ?_
    refine lv_if_ne (tgt := 27) hx hb d_HD_go_14 (by decide) (fun h1 => ?_) (fun h1 => ?_)
    · replace h1 := (not_congr (nI_eq (a := 32 * w) (b := 0) (by omega) (by omega))).mp h1
      replace h1 : ¬ w = 0 := by omega
      refine lv_iconst (v := 0) hx hb d_HD_go_27 (by decide) ?_
      have eS : s_go g (nI c) y = (0, g) := by simp [s_go, hcv, ec, hw0, h1]
      rw [eS]
      exact x_iret (nw := []) E (by rw [List.append_nil]; exact hR) hS rfl rfl d_HD_go_28
    · replace h1 := (nI_eq (a := 32 * w) (b := 0) (by omega) (by omega)).mp h1
      replace h1 : w = 0 := by omega
      refine lv_iload_n hx hb d_HD_go_17 rfl (lv_at hl 3 rfl) ?_
      refine lv_if_lt (tgt := 27) hx hb d_HD_go_18 (by decide) (fun h2 => ?_) (fun h2 => ?_)
      · refine lv_iconst (v := 0) hx hb d_HD_go_27 (by decide) ?_
        have eS : s_go g (nI c) y = (0, g) := by simp [s_go, hcv, ec, hw0, h1, h2]
        rw [eS]
        exact x_iret (nw := []) E (by rw [List.append_nil]; exact hR) hS rfl rfl d_HD_go_28
      · refine lv_iload_n hx hb d_HD_go_21 rfl (lv_at hl 3 rfl) ?_
        refine lv_bipush (v := 16) hx hb d_HD_go_22 (by decide) ?_
        refine lv_icmp_le (tgt := 29) hx hb d_HD_go_24 (by decide) (fun h3 => ?_) (fun h3 => ?_)
        · refine lv_aload_n hx hb d_HD_go_29 rfl (lv_at hl 0 rfl) ?_
          refine lv_iload_n hx hb d_HD_go_30 rfl (lv_at hl 3 rfl) ?_
          refine xp_Core_place E hC hR hS (show vl N 8 c from hcN) zf_HD_103 d_HD_go_31 (fun H locs hR hS => ?_)
          refine lv_iconst (v := 1) hx hb d_HD_go_34 (by decide) ?_
          have eS : s_go g (nI c) y = (1, up2 g 6 c y) := by simp [s_go, hcv, ec, hw0, h1, h2, h3]
          rw [eS]
          exact x_iret (nw := []) E (by rw [List.append_nil]; exact hR) hS rfl rfl d_HD_go_35
        · refine lv_iconst (v := 0) hx hb d_HD_go_27 (by decide) ?_
          have eS : s_go g (nI c) y = (0, g) := by simp [s_go, hcv, ec, hw0, h1, h2, h3]
          rw [eS]
          exact x_iret (nw := []) E (by rw [List.append_nil]; exact hR) hS rfl rfl d_HD_go_28
set_option maxHeartbeats 4000000 in
set_option maxRecDepth 100000 in
theorem c_HD_code (l : Launch) (D : va_G) (dA : Nat → ClassId) (eA ad : Nat → Nat → Nat) (A : Nat → Prop) (N : Nat) (g : PS) (M : List Msg) (as sp : List Nat) (x y z : Int32) (hN : g 0 0 = nI N) (hN4 : N ≤ 4) (hz : ∀ c, c < 4 → ∃ sz, sz ≤ 16 ∧ g 5 c = nI sz) : Met l y_HD_code (k_HD_code :: wz) (rml 1 0 0) (va_Pc [.ref (ad 0 0), .int x, .int y, .int z] (PX D dA eA ad A N g M as sp)) (XQi D dA eA ad A N (s_code g x y z).1 (s_code g x y z).2 M as) 0 0 A := by
  refine x_entry (by decide) (Nat.le_of_ble_eq_true rfl) ?_
  intro p e s m below meth c0 E hA hC hR ls hl
  have hx := E.1
  have hb := E.2.1
  have hS : va_S A s.heap s.heap [] := va_S.rf
  replace hl : lv_has ls 6 [(0, .ref (ad 0 0)), (1, .int x), (2, .int y), (3, .int z)] := hl
  by_cases hcv : s_isCore g x = 0
  · have hcv0 := hcv
    refine lv_aload_n hx hb d_HD_code_0 rfl (lv_at hl 0 rfl) ?_
    refine lv_iload_n hx hb d_HD_code_1 rfl (lv_at hl 1 rfl) ?_
    refine xc_q (av := [.ref (ad 0 0), .int x]) (xrunV (As := [.int x]) (rest := []) E hA hC hR hS (c_HD_core l D dA eA ad A N g M as sp x hN4) (x_recv hC hR (s0 := 0) (i0 := 0) (show vl N 0 0 from rfl) rfl rfl) ck_HD_74 ⟨rfl, rfl⟩ ⟨Nat.le_of_ble_eq_true rfl, Nat.le_of_ble_eq_true rfl⟩ rfl (lv_sub hl [] rfl) rfl (Nat.le_of_ble_eq_true rfl) ⟨Nat.le_of_ble_eq_true rfl, Nat.le_of_ble_eq_true rfl⟩ d_HD_code_2) ?_
    refine wq_eq (y := .null) (by rw [core_none hN hcv]; rfl) ?_
    refine lv_astoreN (lv' := [(4, .null), (0, .ref (ad 0 0)), (1, .int x), (2, .int y), (3, .int z)]) hx hb d_HD_code_5 hl (by decide) rfl (fun ls hl => ?_)
    refine lv_aloadN hx hb d_HD_code_7 (lv_at hl 0 rfl) ?_
    refine lv_ifnullN (tgt := 31) hx hb d_HD_code_9 (by decide) ?_
    refine lv_iconst (v := 0) hx hb d_HD_code_31 (by decide) ?_
    have eS : s_code g x y z = (0, g) := by rw [s_code, if_pos hcv]
    rw [eS]
    exact x_iret (nw := []) E (by rw [List.append_nil]; exact hR) hS rfl rfl d_HD_code_32
  · obtain ⟨c, hcN, rfl⟩ := isCore_of hN hN4 hcv
    have ec : (nI c).toNatClampNeg = c := nI_clamp (by omega)
    obtain ⟨sz, hsz, hg5⟩ := hz c (by omega)
    have e5 : (nI sz).toNatClampNeg = sz := nI_clamp (by omega)
    refine lv_aload_n hx hb d_HD_code_0 rfl (lv_at hl 0 rfl) ?_
    refine lv_iload_n hx hb d_HD_code_1 rfl (lv_at hl 1 rfl) ?_
    refine xc_q (av := [.ref (ad 0 0), .int (nI c)]) (xrunV (As := [.int (nI c)]) (rest := []) E hA hC hR hS (c_HD_core l D dA eA ad A N g M as sp (nI c) hN4) (x_recv hC hR (s0 := 0) (i0 := 0) (show vl N 0 0 from rfl) rfl rfl) ck_HD_74 ⟨rfl, rfl⟩ ⟨Nat.le_of_ble_eq_true rfl, Nat.le_of_ble_eq_true rfl⟩ rfl (lv_sub hl [] rfl) rfl (Nat.le_of_ble_eq_true rfl) ⟨Nat.le_of_ble_eq_true rfl, Nat.le_of_ble_eq_true rfl⟩ d_HD_code_2) ?_
    refine wq_eq (y := .ref (ad 8 c)) (by rw [core_some hN4 hcN]; rfl) ?_
    refine lv_astore (lv' := [(4, .ref (ad 8 c)), (0, .ref (ad 0 0)), (1, .int (nI c)), (2, .int y), (3, .int z)]) hx hb d_HD_code_5 hl (by decide) rfl (fun ls hl => ?_)
    refine lv_aload hx hb d_HD_code_7 (lv_at hl 0 rfl) ?_
    refine lv_ifnull hx hb d_HD_code_9 ?_
    refine lv_iload_n hx hb d_HD_code_12 rfl (lv_at hl 3 rfl) ?_
    refine lv_if_lt (tgt := 31) hx hb d_HD_code_13 (by decide) (fun h1 => ?_) (fun h1 => ?_)
    · refine lv_iconst (v := 0) hx hb d_HD_code_31 (by decide) ?_
      have eS : s_code g (nI c) y z = (0, g) := by simp only [s_code, s_code2, s_code3, if_neg hcv, if_pos h1]
      rw [eS]
      exact x_iret (nw := []) E (by rw [List.append_nil]; exact hR) hS rfl rfl d_HD_code_32
    · refine lv_iload_n hx hb d_HD_code_16 rfl (lv_at hl 3 rfl) ?_
      refine lv_iconst (v := 5) hx hb d_HD_code_17 (by decide) ?_
      refine lv_icmp_gt (tgt := 31) hx hb d_HD_code_18 (by decide) (fun h2 => ?_) (fun h2 => ?_)
      · refine lv_iconst (v := 0) hx hb d_HD_code_31 (by decide) ?_
        have eS : s_code g (nI c) y z = (0, g) := by simp only [s_code, s_code2, s_code3, if_neg hcv, if_neg h1, if_pos h2]
        rw [eS]
        exact x_iret (nw := []) E (by rw [List.append_nil]; exact hR) hS rfl rfl d_HD_code_32
      · refine lv_aload hx hb d_HD_code_21 (lv_at hl 0 rfl) ?_
        refine xg_Core E hC hR (show vl N 8 c from hcN) 2 (by decide) zf_HD_78 rfl d_HD_code_23 ?_
        refine wn_eq (y := nI sz) hg5 ?_
        refine lv_bipush (v := 16) hx hb d_HD_code_26 (by decide) ?_
        refine lv_icmp_lt (tgt := 33) hx hb d_HD_code_28 (by decide) (fun h3 => ?_) (fun h3 => ?_)
        · replace h3 := (nI_ltI (a := sz) (b := 16) (by omega) (by omega)).mp h3
          have hs16 : ¬ nI sz = 16 := nI_neF (b := 16) (by omega) (by omega) (by omega)
          obtain ⟨o, ho6, rfl⟩ := ix_of (by omega) h1 (le5 h2)
          refine lv_aload_n hx hb d_HD_code_33 rfl (lv_at hl 1 rfl) ?_
          refine xg_HD E hC hR 2 (by decide) zf_HD_13 rfl d_HD_code_34 ?_
          refine lv_iload_n hx hb d_HD_code_37 rfl (lv_at hl 3 rfl) ?_
          refine xl_Ops E hC hR (j := o) (by omega) d_HD_code_38 ?_
          refine lv_astore (lv' := [(5, .ref (eA 2 o)), (4, .ref (ad 8 c)), (0, .ref (ad 0 0)), (1, .int (nI c)), (2, .int (nI o)), (3, .int z)]) hx hb d_HD_code_39 hl (by decide) rfl (fun ls hl => ?_)
          refine lv_aload hx hb d_HD_code_41 (lv_at hl 0 rfl) ?_
          refine xc_R (av := [.ref (eA 2 o)]) (xrunV (As := []) (rest := []) E hA hC hR hS (c_Op_accesses l D dA eA ad A N g M as sp o (by omega)) (va_recvE hC.2.2.2.1 (show o < 6 by omega) hS) ck_HD_81 ⟨rfl, rfl⟩ ⟨Nat.le_of_ble_eq_true rfl, Nat.le_of_ble_eq_true rfl⟩ rfl (lv_sub hl [] rfl) rfl (Nat.le_of_ble_eq_true rfl) ⟨Nat.le_of_ble_eq_true rfl, Nat.le_of_ble_eq_true rfl⟩ d_HD_code_43) ?_
          refine lv_if_eq (tgt := 59) hx hb d_HD_code_46 (by decide) (fun h4 => ?_) (fun h4 => ?_)
          · refine lv_aload hx hb d_HD_code_59 (lv_at hl 0 rfl) ?_
            refine x_gets (eA := eA) hC.2.2.2.1 E hS 3 (by decide) zf_HD_89 d_HD_code_61 ?_
            refine lv_acmpR_ne (tgt := 79) hx hb d_HD_code_64 (by decide) (fun h5 => ?_) (fun h5 => ?_)
            · replace h5 : ¬ o = 3 := fun e9 => h5 (by rw [e9])
              have hj3 : ¬ nI o = 3 := nI_neF (b := 3) h5 (by omega) (by omega)
              refine lv_aload hx hb d_HD_code_79 (lv_at hl 1 rfl) ?_
              refine xg_Core E hC hR (show vl N 8 c from hcN) 0 (by decide) zf_HD_93 rfl d_HD_code_81 ?_
              refine lv_aload hx hb d_HD_code_84 (lv_at hl 1 rfl) ?_
              refine xg_Core E hC hR (show vl N 8 c from hcN) 2 (by decide) zf_HD_78 rfl d_HD_code_86 ?_
              refine wn_eq (y := nI sz) hg5 ?_
              refine lv_iload_n hx hb d_HD_code_89 rfl (lv_at hl 4 rfl) ?_
              refine lv_i2b (v := nI o) hx hb d_HD_code_90 (i2b_op (by omega)) ?_
              refine xs_ops E hC hR hS (show vl N 8 c from hcN) (j := sz) (by omega) (i2b_op (by omega)) d_HD_code_91 (fun H locs hR hS => ?_)
              refine lv_aload hx hb d_HD_code_92 (lv_at hl 1 rfl) ?_
              refine xg_Core E hC hR (show vl N 8 c from hcN) 1 (by decide) zf_HD_96 rfl d_HD_code_94 ?_
              refine lv_aload hx hb d_HD_code_97 (lv_at hl 1 rfl) ?_
              refine lv_dup hx hb d_HD_code_99 rfl ?_
              refine xg_Core E hC hR (show vl N 8 c from hcN) 2 (by decide) zf_HD_78 rfl d_HD_code_100 ?_
              refine wn_eq (y := g 5 c) (by simp [up2, upd, snd]) ?_
              refine wn_eq (y := nI sz) hg5 ?_
              refine lv_dup_x1 hx hb d_HD_code_103 rfl rfl ?_
              refine lv_iconst (v := 1) hx hb d_HD_code_104 (by decide) ?_
              refine wn_add hx hb (a := sz) (b := 1) d_HD_code_105 ?_
              refine xp_Core_size E hC hR hS (show vl N 8 c from hcN) zf_HD_78 d_HD_code_106 (fun H locs hR hS => ?_)
              refine lv_iload_n hx hb d_HD_code_109 rfl (lv_at hl 5 rfl) ?_
              refine xs_args E hC hR hS (show vl N 8 c from hcN) (j := sz) (by omega) d_HD_code_110 (fun H locs hR hS => ?_)
              refine lv_iconst (v := 1) hx hb d_HD_code_111 (by decide) ?_
              rw [up2_cm (up2 g 3 (16 * c + sz) (nI o)) (k := 5) (k' := 4) _ _ (by decide)] at hR
              have eS : s_code g (nI c) (nI o) z = (1, up2 (up2 (up2 g 3 (16 * c + sz) (nI o)) 4 (16 * c + sz) z) 5 c (nI (sz + 1))) := by simp only [s_code, s_code2, s_code3, if_neg hcv, if_neg h1, if_neg h2, if_pos h4, if_neg hj3, ec, hg5, e5, if_neg hs16, nI_1]
              rw [eS]
              exact x_iret (nw := []) E (by rw [List.append_nil]; exact hR) hS rfl rfl d_HD_code_112
            · replace h5 : o = 3 := hC.2.2.2.1.2 o 3 (show o < 6 by omega) (by decide) h5
              have hj3 : nI o = 3 := by rw [h5]; rfl
              refine lv_iload_n hx hb d_HD_code_67 rfl (lv_at hl 5 rfl) ?_
              refine lv_if_lt (tgt := 77) hx hb d_HD_code_68 (by decide) (fun h6 => ?_) (fun h6 => ?_)
              · refine lv_iconst (v := 0) hx hb d_HD_code_77 (by decide) ?_
                have eS : s_code g (nI c) (nI o) z = (0, g) := by simp only [s_code, s_code2, s_code3, if_neg hcv, if_neg h1, if_neg h2, if_pos h4, if_pos hj3, if_pos h6]
                rw [eS]
                exact x_iret (nw := []) E (by rw [List.append_nil]; exact hR) hS rfl rfl d_HD_code_78
              · refine lv_iload_n hx hb d_HD_code_71 rfl (lv_at hl 5 rfl) ?_
                refine lv_bipush (v := 16) hx hb d_HD_code_72 (by decide) ?_
                refine lv_icmp_lt (tgt := 79) hx hb d_HD_code_74 (by decide) (fun h7 => ?_) (fun h7 => ?_)
                · have h15 : ¬ 15 < z := fun e9 => i32_15.mp e9 h7
                  refine lv_aload hx hb d_HD_code_79 (lv_at hl 1 rfl) ?_
                  refine xg_Core E hC hR (show vl N 8 c from hcN) 0 (by decide) zf_HD_93 rfl d_HD_code_81 ?_
                  refine lv_aload hx hb d_HD_code_84 (lv_at hl 1 rfl) ?_
                  refine xg_Core E hC hR (show vl N 8 c from hcN) 2 (by decide) zf_HD_78 rfl d_HD_code_86 ?_
                  refine wn_eq (y := nI sz) hg5 ?_
                  refine lv_iload_n hx hb d_HD_code_89 rfl (lv_at hl 4 rfl) ?_
                  refine lv_i2b (v := nI o) hx hb d_HD_code_90 (i2b_op (by omega)) ?_
                  refine xs_ops E hC hR hS (show vl N 8 c from hcN) (j := sz) (by omega) (i2b_op (by omega)) d_HD_code_91 (fun H locs hR hS => ?_)
                  refine lv_aload hx hb d_HD_code_92 (lv_at hl 1 rfl) ?_
                  refine xg_Core E hC hR (show vl N 8 c from hcN) 1 (by decide) zf_HD_96 rfl d_HD_code_94 ?_
                  refine lv_aload hx hb d_HD_code_97 (lv_at hl 1 rfl) ?_
                  refine lv_dup hx hb d_HD_code_99 rfl ?_
                  refine xg_Core E hC hR (show vl N 8 c from hcN) 2 (by decide) zf_HD_78 rfl d_HD_code_100 ?_
                  refine wn_eq (y := g 5 c) (by simp [up2, upd, snd]) ?_
                  refine wn_eq (y := nI sz) hg5 ?_
                  refine lv_dup_x1 hx hb d_HD_code_103 rfl rfl ?_
                  refine lv_iconst (v := 1) hx hb d_HD_code_104 (by decide) ?_
                  refine wn_add hx hb (a := sz) (b := 1) d_HD_code_105 ?_
                  refine xp_Core_size E hC hR hS (show vl N 8 c from hcN) zf_HD_78 d_HD_code_106 (fun H locs hR hS => ?_)
                  refine lv_iload_n hx hb d_HD_code_109 rfl (lv_at hl 5 rfl) ?_
                  refine xs_args E hC hR hS (show vl N 8 c from hcN) (j := sz) (by omega) d_HD_code_110 (fun H locs hR hS => ?_)
                  refine lv_iconst (v := 1) hx hb d_HD_code_111 (by decide) ?_
                  rw [up2_cm (up2 g 3 (16 * c + sz) (nI o)) (k := 5) (k' := 4) _ _ (by decide)] at hR
                  have eS : s_code g (nI c) (nI o) z = (1, up2 (up2 (up2 g 3 (16 * c + sz) (nI o)) 4 (16 * c + sz) z) 5 c (nI (sz + 1))) := by simp only [s_code, s_code2, s_code3, if_neg hcv, if_neg h1, if_neg h2, if_pos h4, if_pos hj3, if_neg h6, if_neg h15, ec, hg5, e5, if_neg hs16, nI_1]
                  rw [eS]
                  exact x_iret (nw := []) E (by rw [List.append_nil]; exact hR) hS rfl rfl d_HD_code_112
                · have h15 : 15 < z := i32_15.mpr h7
                  refine lv_iconst (v := 0) hx hb d_HD_code_77 (by decide) ?_
                  have eS : s_code g (nI c) (nI o) z = (0, g) := by simp only [s_code, s_code2, s_code3, if_neg hcv, if_neg h1, if_neg h2, if_pos h4, if_pos hj3, if_neg h6, if_pos h15]
                  rw [eS]
                  exact x_iret (nw := []) E (by rw [List.append_nil]; exact hR) hS rfl rfl d_HD_code_78
          · refine lv_iload_n hx hb d_HD_code_49 rfl (lv_at hl 5 rfl) ?_
            refine s_callR (As := [.int z]) (rest := []) E (c_HD_isBlock l z) ck_HD_85 ⟨rfl, rfl⟩ ⟨Nat.le_of_ble_eq_true rfl, Nat.le_of_ble_eq_true rfl⟩ rfl (lv_sub hl [] rfl) rfl (Nat.le_of_ble_eq_true rfl) ⟨Nat.le_of_ble_eq_true rfl, Nat.le_of_ble_eq_true rfl⟩ d_HD_code_50 ?_
            refine lv_if_ne (tgt := 79) hx hb d_HD_code_53 (by decide) (fun h8 => ?_) (fun h8 => ?_)
            · refine lv_aload hx hb d_HD_code_79 (lv_at hl 1 rfl) ?_
              refine xg_Core E hC hR (show vl N 8 c from hcN) 0 (by decide) zf_HD_93 rfl d_HD_code_81 ?_
              refine lv_aload hx hb d_HD_code_84 (lv_at hl 1 rfl) ?_
              refine xg_Core E hC hR (show vl N 8 c from hcN) 2 (by decide) zf_HD_78 rfl d_HD_code_86 ?_
              refine wn_eq (y := nI sz) hg5 ?_
              refine lv_iload_n hx hb d_HD_code_89 rfl (lv_at hl 4 rfl) ?_
              refine lv_i2b (v := nI o) hx hb d_HD_code_90 (i2b_op (by omega)) ?_
              refine xs_ops E hC hR hS (show vl N 8 c from hcN) (j := sz) (by omega) (i2b_op (by omega)) d_HD_code_91 (fun H locs hR hS => ?_)
              refine lv_aload hx hb d_HD_code_92 (lv_at hl 1 rfl) ?_
              refine xg_Core E hC hR (show vl N 8 c from hcN) 1 (by decide) zf_HD_96 rfl d_HD_code_94 ?_
              refine lv_aload hx hb d_HD_code_97 (lv_at hl 1 rfl) ?_
              refine lv_dup hx hb d_HD_code_99 rfl ?_
              refine xg_Core E hC hR (show vl N 8 c from hcN) 2 (by decide) zf_HD_78 rfl d_HD_code_100 ?_
              refine wn_eq (y := g 5 c) (by simp [up2, upd, snd]) ?_
              refine wn_eq (y := nI sz) hg5 ?_
              refine lv_dup_x1 hx hb d_HD_code_103 rfl rfl ?_
              refine lv_iconst (v := 1) hx hb d_HD_code_104 (by decide) ?_
              refine wn_add hx hb (a := sz) (b := 1) d_HD_code_105 ?_
              refine xp_Core_size E hC hR hS (show vl N 8 c from hcN) zf_HD_78 d_HD_code_106 (fun H locs hR hS => ?_)
              refine lv_iload_n hx hb d_HD_code_109 rfl (lv_at hl 5 rfl) ?_
              refine xs_args E hC hR hS (show vl N 8 c from hcN) (j := sz) (by omega) d_HD_code_110 (fun H locs hR hS => ?_)
              refine lv_iconst (v := 1) hx hb d_HD_code_111 (by decide) ?_
              have hj3 : ¬ nI o = 3 := fun e9 => absurd (show s_access (nI o) = 0 by rw [e9]; rfl) h4
              rw [up2_cm (up2 g 3 (16 * c + sz) (nI o)) (k := 5) (k' := 4) _ _ (by decide)] at hR
              have eS : s_code g (nI c) (nI o) z = (1, up2 (up2 (up2 g 3 (16 * c + sz) (nI o)) 4 (16 * c + sz) z) 5 c (nI (sz + 1))) := by simp only [s_code, s_code2, s_code3, if_neg hcv, if_neg h1, if_neg h2, if_neg h4, if_neg h8, if_neg hj3, ec, hg5, e5, if_neg hs16, nI_1]
              rw [eS]
              exact x_iret (nw := []) E (by rw [List.append_nil]; exact hR) hS rfl rfl d_HD_code_112
            · refine lv_goto (tgt := 77) hx hb d_HD_code_56 (by decide) ?_
              refine lv_iconst (v := 0) hx hb d_HD_code_77 (by decide) ?_
              have eS : s_code g (nI c) (nI o) z = (0, g) := by simp only [s_code, s_code2, s_code3, if_neg hcv, if_neg h1, if_neg h2, if_neg h4, if_pos h8]
              rw [eS]
              exact x_iret (nw := []) E (by rw [List.append_nil]; exact hR) hS rfl rfl d_HD_code_78
        · replace h3 := (not_congr (nI_ltI (a := sz) (b := 16) (by omega) (by omega))).mp h3
          refine lv_iconst (v := 0) hx hb d_HD_code_31 (by decide) ?_
          have eS : s_code g (nI c) y z = (0, g) := code_full (by rw [ec, hg5, show sz = 16 by omega]; rfl)
          rw [eS]
          exact x_iret (nw := []) E (by rw [List.append_nil]; exact hR) hS rfl rfl d_HD_code_32
set_option maxHeartbeats 4000000 in
set_option maxRecDepth 100000 in
theorem c_Core_compute (l : Launch) (D : va_G) (dA : Nat → ClassId) (eA ad : Nat → Nat → Nat) (A : Nat → Prop) (N : Nat) (g : PS) (M : List Msg) (as sp : List Nat) (c o : Nat) (x : Int32) (hcN : c < N) (ho : o < 6) : Met l y_Core_compute (k_Core_compute :: wz) (rml 0 0 0) (va_Pc [.ref (ad 8 c), .ref (eA 2 o), .int x] (PX D dA eA ad A N g M as sp)) (XQv D dA eA ad A N (s_plain g c (nI o) x) M as) 0 0 A := by
  refine x_entry (by decide) (Nat.le_of_ble_eq_true rfl) ?_
  intro p e s m below meth c0 E hA hC hR ls hl
  have hx := E.1
  have hb := E.2.1
  have hS : va_S A s.heap s.heap [] := va_S.rf
  replace hl : lv_has ls 4 [(0, .ref (ad 8 c)), (1, .ref (eA 2 o)), (2, .int x)] := hl
  refine lv_aload_n hx hb d_Core_compute_0 rfl (lv_at hl 1 rfl) ?_
  refine x_gets (eA := eA) hC.2.2.2.1 E hS 3 (by decide) zf_Core_17 d_Core_compute_1 ?_
  refine lv_acmpR_ne (tgt := 18) hx hb d_Core_compute_4 (by decide) (fun h1 => ?_) (fun h1 => ?_)
  · replace h1 : ¬ o = 3 := fun e9 => h1 (by rw [e9])
    refine lv_iconst (v := 0) hx hb d_Core_compute_18 (by decide) ?_
    refine lv_istore_n (lv' := [(3, .int 0), (0, .ref (ad 8 c)), (1, .ref (eA 2 o)), (2, .int x)]) hx hb d_Core_compute_19 rfl hl (by decide) rfl (fun ls hl => ?_)
    refine lv_aload_n hx hb d_Core_compute_20 rfl (lv_at hl 1 rfl) ?_
    refine lv_aload_n hx hb d_Core_compute_21 rfl (lv_at hl 2 rfl) ?_
    refine x_gets (eA := eA) hC.2.2.2.1 E hS 2 (by decide) zf_Core_27 d_Core_compute_22 ?_
    refine lv_acmpR_ne (tgt := 37) hx hb d_Core_compute_25 (by decide) (fun h2 => ?_) (fun h2 => ?_)
    · replace h2 : ¬ o = 2 := fun e9 => h2 (by rw [e9])
      refine lv_aload_n hx hb d_Core_compute_37 rfl (lv_at hl 2 rfl) ?_
      refine x_gets (eA := eA) hC.2.2.2.1 E hS 4 (by decide) zf_Core_30 d_Core_compute_38 ?_
      refine lv_acmpR_ne (tgt := 48) hx hb d_Core_compute_41 (by decide) (fun h3 => ?_) (fun h3 => ?_)
      · replace h3 : ¬ o = 4 := fun e9 => h3 (by rw [e9])
        refine lv_aload_n hx hb d_Core_compute_48 rfl (lv_at hl 1 rfl) ?_
        refine xg_Core E hC hR (show vl N 8 c from hcN) 4 (by decide) zf_Core_23 rfl d_Core_compute_49 ?_
        refine xp_Core_a E hC hR hS (show vl N 8 c from hcN) zf_Core_23 d_Core_compute_52 (fun H locs hR hS => ?_)
        refine lv_aload_n hx hb d_Core_compute_55 rfl (lv_at hl 1 rfl) ?_
        refine lv_iload_n hx hb d_Core_compute_56 rfl (lv_at hl 0 rfl) ?_
        refine lv_if_eq (tgt := 64) hx hb d_Core_compute_57 (by decide) (fun h4 => ?_) (fun h4 => absurd (by decide) h4)
        refine lv_aload_n hx hb d_Core_compute_64 rfl (lv_at hl 1 rfl) ?_
        refine xg_Core E hC hR (show vl N 8 c from hcN) 3 (by decide) zf_Core_33 rfl d_Core_compute_65 ?_
        refine wn_eq (y := g 6 c) (by simp [up2, upd, snd]) ?_
        refine lv_iconst (v := 1) hx hb d_Core_compute_68 (by decide) ?_
        refine lv_iadd hx hb d_Core_compute_69 ?_
        refine xp_Core_place E hC hR hS (show vl N 8 c from hcN) zf_Core_33 d_Core_compute_70 (fun H locs hR hS => ?_)
        have hq3 : ¬ nI o = 3 := nI_neF (b := 3) h1 (by omega) (by omega)
        have hq2 : ¬ nI o = 2 := nI_neF (b := 2) h2 (by omega) (by omega)
        have hq4 : ¬ nI o = 4 := nI_neF (b := 4) h3 (by omega) (by omega)
        have eG : up2 (up2 g 2 c (g 2 c)) 6 c ((g 6 c) + 1) = s_plain g c (nI o) x := by rw [s_plain, if_neg hq2, if_neg hq4, if_neg hq3]
        rw [eG] at hR
        exact x_vret (nw := []) E (by rw [List.append_nil]; exact hR) hS d_Core_compute_73
      · replace h3 : o = 4 := hC.2.2.2.1.2 o 4 (show o < 6 by omega) (by decide) h3
        refine lv_iload_n hx hb d_Core_compute_44 rfl (lv_at hl 3 rfl) ?_
        refine lv_goto (tgt := 52) hx hb d_Core_compute_45 (by decide) ?_
        refine xp_Core_a E hC hR hS (show vl N 8 c from hcN) zf_Core_23 d_Core_compute_52 (fun H locs hR hS => ?_)
        refine lv_aload_n hx hb d_Core_compute_55 rfl (lv_at hl 1 rfl) ?_
        refine lv_iload_n hx hb d_Core_compute_56 rfl (lv_at hl 0 rfl) ?_
        refine lv_if_eq (tgt := 64) hx hb d_Core_compute_57 (by decide) (fun h5 => ?_) (fun h5 => absurd (by decide) h5)
        refine lv_aload_n hx hb d_Core_compute_64 rfl (lv_at hl 1 rfl) ?_
        refine xg_Core E hC hR (show vl N 8 c from hcN) 3 (by decide) zf_Core_33 rfl d_Core_compute_65 ?_
        refine wn_eq (y := g 6 c) (by simp [up2, upd, snd]) ?_
        refine lv_iconst (v := 1) hx hb d_Core_compute_68 (by decide) ?_
        refine lv_iadd hx hb d_Core_compute_69 ?_
        refine xp_Core_place E hC hR hS (show vl N 8 c from hcN) zf_Core_33 d_Core_compute_70 (fun H locs hR hS => ?_)
        have hq3 : ¬ nI o = 3 := nI_neF (b := 3) h1 (by omega) (by omega)
        have hq2 : ¬ nI o = 2 := nI_neF (b := 2) h2 (by omega) (by omega)
        have hq4 : nI o = 4 := by rw [h3]; rfl
        have eG : up2 (up2 g 2 c x) 6 c ((g 6 c) + 1) = s_plain g c (nI o) x := by rw [s_plain, if_neg hq2, if_pos hq4, if_neg hq3]
        rw [eG] at hR
        exact x_vret (nw := []) E (by rw [List.append_nil]; exact hR) hS d_Core_compute_73
    · replace h2 : o = 2 := hC.2.2.2.1.2 o 2 (show o < 6 by omega) (by decide) h2
      refine lv_aload_n hx hb d_Core_compute_28 rfl (lv_at hl 1 rfl) ?_
      refine xg_Core E hC hR (show vl N 8 c from hcN) 4 (by decide) zf_Core_23 rfl d_Core_compute_29 ?_
      refine lv_iload_n hx hb d_Core_compute_32 rfl (lv_at hl 3 rfl) ?_
      refine lv_iadd hx hb d_Core_compute_33 ?_
      refine lv_goto (tgt := 52) hx hb d_Core_compute_34 (by decide) ?_
      refine xp_Core_a E hC hR hS (show vl N 8 c from hcN) zf_Core_23 d_Core_compute_52 (fun H locs hR hS => ?_)
      refine lv_aload_n hx hb d_Core_compute_55 rfl (lv_at hl 1 rfl) ?_
      refine lv_iload_n hx hb d_Core_compute_56 rfl (lv_at hl 0 rfl) ?_
      refine lv_if_eq (tgt := 64) hx hb d_Core_compute_57 (by decide) (fun h6 => ?_) (fun h6 => absurd (by decide) h6)
      refine lv_aload_n hx hb d_Core_compute_64 rfl (lv_at hl 1 rfl) ?_
      refine xg_Core E hC hR (show vl N 8 c from hcN) 3 (by decide) zf_Core_33 rfl d_Core_compute_65 ?_
      refine wn_eq (y := g 6 c) (by simp [up2, upd, snd]) ?_
      refine lv_iconst (v := 1) hx hb d_Core_compute_68 (by decide) ?_
      refine lv_iadd hx hb d_Core_compute_69 ?_
      refine xp_Core_place E hC hR hS (show vl N 8 c from hcN) zf_Core_33 d_Core_compute_70 (fun H locs hR hS => ?_)
      have hq3 : ¬ nI o = 3 := nI_neF (b := 3) h1 (by omega) (by omega)
      have hq2 : nI o = 2 := by rw [h2]; rfl
      have hq4 : ¬ nI o = 4 := by rw [hq2]; decide
      have eG : up2 (up2 g 2 c ((g 2 c) + x)) 6 c ((g 6 c) + 1) = s_plain g c (nI o) x := by rw [s_plain, if_pos hq2, if_neg hq3]
      rw [eG] at hR
      exact x_vret (nw := []) E (by rw [List.append_nil]; exact hR) hS d_Core_compute_73
  · replace h1 : o = 3 := hC.2.2.2.1.2 o 3 (show o < 6 by omega) (by decide) h1
    refine lv_aload_n hx hb d_Core_compute_7 rfl (lv_at hl 0 rfl) ?_
    refine xg_Core E hC hR (show vl N 8 c from hcN) 4 (by decide) zf_Core_23 rfl d_Core_compute_8 ?_
    refine lv_if_eq (tgt := 18) hx hb d_Core_compute_11 (by decide) (fun h7 => ?_) (fun h7 => ?_)
    · refine lv_iconst (v := 0) hx hb d_Core_compute_18 (by decide) ?_
      refine lv_istore_n (lv' := [(3, .int 0), (0, .ref (ad 8 c)), (1, .ref (eA 2 o)), (2, .int x)]) hx hb d_Core_compute_19 rfl hl (by decide) rfl (fun ls hl => ?_)
      refine lv_aload_n hx hb d_Core_compute_20 rfl (lv_at hl 1 rfl) ?_
      refine lv_aload_n hx hb d_Core_compute_21 rfl (lv_at hl 2 rfl) ?_
      refine x_gets (eA := eA) hC.2.2.2.1 E hS 2 (by decide) zf_Core_27 d_Core_compute_22 ?_
      refine lv_acmpR_ne (tgt := 37) hx hb d_Core_compute_25 (by decide) (fun h8 => ?_) (fun h8 => absurd h8 (fun e9 => absurd (hC.2.2.2.1.2 o 2 (show _ < 6 by omega) (by decide) e9) (by rw [h1]; decide)))
      refine lv_aload_n hx hb d_Core_compute_37 rfl (lv_at hl 2 rfl) ?_
      refine x_gets (eA := eA) hC.2.2.2.1 E hS 4 (by decide) zf_Core_30 d_Core_compute_38 ?_
      refine lv_acmpR_ne (tgt := 48) hx hb d_Core_compute_41 (by decide) (fun h9 => ?_) (fun h9 => absurd h9 (fun e9 => absurd (hC.2.2.2.1.2 o 4 (show _ < 6 by omega) (by decide) e9) (by rw [h1]; decide)))
      refine lv_aload_n hx hb d_Core_compute_48 rfl (lv_at hl 1 rfl) ?_
      refine xg_Core E hC hR (show vl N 8 c from hcN) 4 (by decide) zf_Core_23 rfl d_Core_compute_49 ?_
      refine xp_Core_a E hC hR hS (show vl N 8 c from hcN) zf_Core_23 d_Core_compute_52 (fun H locs hR hS => ?_)
      refine lv_aload_n hx hb d_Core_compute_55 rfl (lv_at hl 1 rfl) ?_
      refine lv_iload_n hx hb d_Core_compute_56 rfl (lv_at hl 0 rfl) ?_
      refine lv_if_eq (tgt := 64) hx hb d_Core_compute_57 (by decide) (fun h10 => ?_) (fun h10 => absurd (by decide) h10)
      refine lv_aload_n hx hb d_Core_compute_64 rfl (lv_at hl 1 rfl) ?_
      refine xg_Core E hC hR (show vl N 8 c from hcN) 3 (by decide) zf_Core_33 rfl d_Core_compute_65 ?_
      refine wn_eq (y := g 6 c) (by simp [up2, upd, snd]) ?_
      refine lv_iconst (v := 1) hx hb d_Core_compute_68 (by decide) ?_
      refine lv_iadd hx hb d_Core_compute_69 ?_
      refine xp_Core_place E hC hR hS (show vl N 8 c from hcN) zf_Core_33 d_Core_compute_70 (fun H locs hR hS => ?_)
      have hq3 : nI o = 3 := by rw [h1]; rfl
      have hq2 : ¬ nI o = 2 := by rw [hq3]; decide
      have hq4 : ¬ nI o = 4 := by rw [hq3]; decide
      have eG : up2 (up2 g 2 c (g 2 c)) 6 c ((g 6 c) + 1) = s_plain g c (nI o) x := by rw [s_plain, if_neg hq2, if_neg hq4, if_pos hq3, if_pos h7]
      rw [eG] at hR
      exact x_vret (nw := []) E (by rw [List.append_nil]; exact hR) hS d_Core_compute_73
    · refine lv_iconst (v := 1) hx hb d_Core_compute_14 (by decide) ?_
      refine lv_goto (tgt := 19) hx hb d_Core_compute_15 (by decide) ?_
      refine lv_istore_n (lv' := [(3, .int 1), (0, .ref (ad 8 c)), (1, .ref (eA 2 o)), (2, .int x)]) hx hb d_Core_compute_19 rfl hl (by decide) rfl (fun ls hl => ?_)
      refine lv_aload_n hx hb d_Core_compute_20 rfl (lv_at hl 1 rfl) ?_
      refine lv_aload_n hx hb d_Core_compute_21 rfl (lv_at hl 2 rfl) ?_
      refine x_gets (eA := eA) hC.2.2.2.1 E hS 2 (by decide) zf_Core_27 d_Core_compute_22 ?_
      refine lv_acmpR_ne (tgt := 37) hx hb d_Core_compute_25 (by decide) (fun h11 => ?_) (fun h11 => absurd h11 (fun e9 => absurd (hC.2.2.2.1.2 o 2 (show _ < 6 by omega) (by decide) e9) (by rw [h1]; decide)))
      refine lv_aload_n hx hb d_Core_compute_37 rfl (lv_at hl 2 rfl) ?_
      refine x_gets (eA := eA) hC.2.2.2.1 E hS 4 (by decide) zf_Core_30 d_Core_compute_38 ?_
      refine lv_acmpR_ne (tgt := 48) hx hb d_Core_compute_41 (by decide) (fun h12 => ?_) (fun h12 => absurd h12 (fun e9 => absurd (hC.2.2.2.1.2 o 4 (show _ < 6 by omega) (by decide) e9) (by rw [h1]; decide)))
      refine lv_aload_n hx hb d_Core_compute_48 rfl (lv_at hl 1 rfl) ?_
      refine xg_Core E hC hR (show vl N 8 c from hcN) 4 (by decide) zf_Core_23 rfl d_Core_compute_49 ?_
      refine xp_Core_a E hC hR hS (show vl N 8 c from hcN) zf_Core_23 d_Core_compute_52 (fun H locs hR hS => ?_)
      refine lv_aload_n hx hb d_Core_compute_55 rfl (lv_at hl 1 rfl) ?_
      refine lv_iload_n hx hb d_Core_compute_56 rfl (lv_at hl 0 rfl) ?_
      refine lv_if_eq (tgt := 64) hx hb d_Core_compute_57 (by decide) (fun h13 => absurd h13 (by decide)) (fun h13 => ?_)
      refine lv_iload_n hx hb d_Core_compute_60 rfl (lv_at hl 3 rfl) ?_
      refine lv_goto (tgt := 70) hx hb d_Core_compute_61 (by decide) ?_
      refine xp_Core_place E hC hR hS (show vl N 8 c from hcN) zf_Core_33 d_Core_compute_70 (fun H locs hR hS => ?_)
      have hq3 : nI o = 3 := by rw [h1]; rfl
      have hq2 : ¬ nI o = 2 := by rw [hq3]; decide
      have hq4 : ¬ nI o = 4 := by rw [hq3]; decide
      have eG : up2 (up2 g 2 c (g 2 c)) 6 c x = s_plain g c (nI o) x := by rw [s_plain, if_neg hq2, if_neg hq4, if_pos hq3, if_neg h7]
      rw [eG] at hR
      exact x_vret (nw := []) E (by rw [List.append_nil]; exact hR) hS d_Core_compute_73
set_option maxHeartbeats 4000000 in
set_option maxRecDepth 100000 in
theorem c_Core_perform (l : Launch) (D : va_G) (dA : Nat → ClassId) (eA ad : Nat → Nat → Nat) (A : Nat → Prop) (N : Nat) (g : PS) (M : List Msg) (as sp : List Nat) (c b o pl : Nat) (hcN : c < N) (hN4 : N ≤ 4) (hb4 : b < 4) (ho : o = 0 ∨ o = 1 ∨ o = 5) (hg6 : g 6 c = nI pl) : Met l y_Core_perform (k_Core_perform :: wz) (rml 0 0 0) (va_Pc [.ref (ad 8 c), .ref (eA 2 o), .ref (ad 11 (4 * c + b))] (PX D dA eA ad A N g M as sp)) (XQv D dA eA ad A N (up2 (up2 (up2 g 9 (4 * c + b) (if o = 0 then g 9 (4 * c + b) else g 2 c)) 2 c (if o = 1 then g 2 c else g 9 (4 * c + b))) 6 c (nI (pl + 1))) M as) 0 0 A := by
  refine x_entry (by decide) (Nat.le_of_ble_eq_true rfl) ?_
  intro p e s m below meth c0 E hA hC hR ls hl
  have hx := E.1
  have hb := E.2.1
  have hS : va_S A s.heap s.heap [] := va_S.rf
  replace hl : lv_has ls 4 [(0, .ref (ad 8 c)), (1, .ref (eA 2 o)), (2, .ref (ad 11 (4 * c + b)))] := hl
  refine lv_aload_n hx hb d_Core_perform_0 rfl (lv_at hl 2 rfl) ?_
  refine xg_Line E hC hR (show vl N 11 (4 * c + b) from (show 4 * c + b < 4 * N by omega)) 5 (by decide) zf_Core_36 rfl d_Core_perform_1 ?_
  refine lv_istore_n (lv' := [(3, .int (g 9 (4 * c + b))), (0, .ref (ad 8 c)), (1, .ref (eA 2 o)), (2, .ref (ad 11 (4 * c + b)))]) hx hb d_Core_perform_4 rfl hl (by decide) rfl (fun ls hl => ?_)
  refine lv_aload_n hx hb d_Core_perform_5 rfl (lv_at hl 2 rfl) ?_
  refine x_gets (eA := eA) hC.2.2.2.1 E hS 0 (by decide) zf_Core_41 d_Core_perform_6 ?_
  refine lv_acmpR_eq (tgt := 20) hx hb d_Core_perform_9 (by decide) (fun h1 => ?_) (fun h1 => ?_)
  · replace h1 : o = 0 := hC.2.2.2.1.2 o 0 (show o < 6 by omega) (by decide) h1
    refine lv_aload_n hx hb d_Core_perform_20 rfl (lv_at hl 2 rfl) ?_
    refine x_gets (eA := eA) hC.2.2.2.1 E hS 1 (by decide) zf_Core_44 d_Core_perform_21 ?_
    refine lv_acmpR_eq (tgt := 32) hx hb d_Core_perform_24 (by decide) (fun h2 => absurd h2 (fun e9 => absurd (hC.2.2.2.1.2 o 1 (show _ < 6 by omega) (by decide) e9) (by rw [h1]; decide))) (fun h2 => ?_)
    refine lv_aload_n hx hb d_Core_perform_27 rfl (lv_at hl 1 rfl) ?_
    refine lv_iload_n hx hb d_Core_perform_28 rfl (lv_at hl 0 rfl) ?_
    refine xp_Core_a E hC hR hS (show vl N 8 c from hcN) zf_Core_23 d_Core_perform_29 (fun H locs hR hS => ?_)
    refine lv_aload_n hx hb d_Core_perform_32 rfl (lv_at hl 1 rfl) ?_
    refine lv_dup hx hb d_Core_perform_33 rfl ?_
    refine xg_Core E hC hR (show vl N 8 c from hcN) 3 (by decide) zf_Core_33 rfl d_Core_perform_34 ?_
    refine wn_eq (y := g 6 c) (by simp [up2, upd, snd]) ?_
    refine wn_eq (y := nI pl) hg6 ?_
    refine lv_iconst (v := 1) hx hb d_Core_perform_37 (by decide) ?_
    refine wn_add hx hb (a := pl) (b := 1) d_Core_perform_38 ?_
    refine xp_Core_place E hC hR hS (show vl N 8 c from hcN) zf_Core_33 d_Core_perform_39 (fun H locs hR hS => ?_)
    have eG : up2 (up2 g 2 c (g 9 (4 * c + b))) 6 c (nI (pl + 1)) = up2 (up2 (up2 g 9 (4 * c + b) (if o = 0 then g 9 (4 * c + b) else g 2 c)) 2 c (if o = 1 then g 2 c else g 9 (4 * c + b))) 6 c (nI (pl + 1)) := by rw [if_pos h1, if_neg (by omega), up2_id]
    rw [eG] at hR
    exact x_vret (nw := []) E (by rw [List.append_nil]; exact hR) hS d_Core_perform_42
  · replace h1 : ¬ o = 0 := fun e9 => h1 (by rw [e9])
    refine lv_aload_n hx hb d_Core_perform_12 rfl (lv_at hl 3 rfl) ?_
    refine lv_aload_n hx hb d_Core_perform_13 rfl (lv_at hl 1 rfl) ?_
    refine xg_Core E hC hR (show vl N 8 c from hcN) 4 (by decide) zf_Core_23 rfl d_Core_perform_14 ?_
    refine xp_Line_word E hC hR hS (show vl N 11 (4 * c + b) from (show 4 * c + b < 4 * N by omega)) zf_Core_36 d_Core_perform_17 (fun H locs hR hS => ?_)
    refine lv_aload_n hx hb d_Core_perform_20 rfl (lv_at hl 2 rfl) ?_
    refine x_gets (eA := eA) hC.2.2.2.1 E hS 1 (by decide) zf_Core_44 d_Core_perform_21 ?_
    refine lv_acmpR_eq (tgt := 32) hx hb d_Core_perform_24 (by decide) (fun h3 => ?_) (fun h3 => ?_)
    · replace h3 : o = 1 := hC.2.2.2.1.2 o 1 (show o < 6 by omega) (by decide) h3
      refine lv_aload_n hx hb d_Core_perform_32 rfl (lv_at hl 1 rfl) ?_
      refine lv_dup hx hb d_Core_perform_33 rfl ?_
      refine xg_Core E hC hR (show vl N 8 c from hcN) 3 (by decide) zf_Core_33 rfl d_Core_perform_34 ?_
      refine wn_eq (y := g 6 c) (by simp [up2, upd, snd]) ?_
      refine wn_eq (y := nI pl) hg6 ?_
      refine lv_iconst (v := 1) hx hb d_Core_perform_37 (by decide) ?_
      refine wn_add hx hb (a := pl) (b := 1) d_Core_perform_38 ?_
      refine xp_Core_place E hC hR hS (show vl N 8 c from hcN) zf_Core_33 d_Core_perform_39 (fun H locs hR hS => ?_)
      have eG : up2 (up2 g 9 (4 * c + b) (g 2 c)) 6 c (nI (pl + 1)) = up2 (up2 (up2 g 9 (4 * c + b) (if o = 0 then g 9 (4 * c + b) else g 2 c)) 2 c (if o = 1 then g 2 c else g 9 (4 * c + b))) 6 c (nI (pl + 1)) := by rw [if_neg (by omega), if_pos h3, up2_same (show up2 g 9 (4 * c + b) (g 2 c) 2 c = g 2 c from rfl)]
      rw [eG] at hR
      exact x_vret (nw := []) E (by rw [List.append_nil]; exact hR) hS d_Core_perform_42
    · replace h3 : ¬ o = 1 := fun e9 => h3 (by rw [e9])
      refine lv_aload_n hx hb d_Core_perform_27 rfl (lv_at hl 1 rfl) ?_
      refine lv_iload_n hx hb d_Core_perform_28 rfl (lv_at hl 0 rfl) ?_
      refine xp_Core_a E hC hR hS (show vl N 8 c from hcN) zf_Core_23 d_Core_perform_29 (fun H locs hR hS => ?_)
      refine lv_aload_n hx hb d_Core_perform_32 rfl (lv_at hl 1 rfl) ?_
      refine lv_dup hx hb d_Core_perform_33 rfl ?_
      refine xg_Core E hC hR (show vl N 8 c from hcN) 3 (by decide) zf_Core_33 rfl d_Core_perform_34 ?_
      refine wn_eq (y := g 6 c) (by simp [up2, upd, snd]) ?_
      refine wn_eq (y := nI pl) hg6 ?_
      refine lv_iconst (v := 1) hx hb d_Core_perform_37 (by decide) ?_
      refine wn_add hx hb (a := pl) (b := 1) d_Core_perform_38 ?_
      refine xp_Core_place E hC hR hS (show vl N 8 c from hcN) zf_Core_33 d_Core_perform_39 (fun H locs hR hS => ?_)
      have eG : up2 (up2 (up2 g 9 (4 * c + b) (g 2 c)) 2 c (g 9 (4 * c + b))) 6 c (nI (pl + 1)) = up2 (up2 (up2 g 9 (4 * c + b) (if o = 0 then g 9 (4 * c + b) else g 2 c)) 2 c (if o = 1 then g 2 c else g 9 (4 * c + b))) 6 c (nI (pl + 1)) := by rw [if_neg (by omega), if_neg (by omega)]
      rw [eG] at hR
      exact x_vret (nw := []) E (by rw [List.append_nil]; exact hR) hS d_Core_perform_42
set_option maxHeartbeats 4000000 in
set_option maxRecDepth 100000 in
theorem c_HD_perform (l : Launch) (D : va_G) (dA : Nat → ClassId) (eA ad : Nat → Nat → Nat) (A : Nat → Prop) (N : Nat) (g : PS) (M : List Msg) (as sp : List Nat) (c b o pl : Nat) (hcN : c < N) (hN4 : N ≤ 4) (hb4 : b < 4) (ho : o = 0 ∨ o = 1 ∨ o = 5) (hg6 : g 6 c = nI pl) (hg3 : g 3 (16 * c + pl) = nI o) (hck : g 12 0 = g 19 0) : Met l y_HD_perform (k_HD_perform :: wz) (rml 1 0 0) (va_Pc [.ref (ad 0 0), .ref (ad 8 c), .ref (eA 2 o), .ref (ad 11 (4 * c + b))] (PX D dA eA ad A N g M as sp)) (XQv D dA eA ad A N (s_perform g c pl b) M as) 0 0 A := by
  refine x_entry (by decide) (Nat.le_of_ble_eq_true rfl) ?_
  intro p e s m below meth c0 E hA hC hR ls hl
  have hx := E.1
  have hb := E.2.1
  have hS : va_S A s.heap s.heap [] := va_S.rf
  replace hl : lv_has ls 4 [(0, .ref (ad 0 0)), (1, .ref (ad 8 c)), (2, .ref (eA 2 o)), (3, .ref (ad 11 (4 * c + b)))] := hl
  refine lv_aload_n hx hb d_HD_perform_0 rfl (lv_at hl 1 rfl) ?_
  refine lv_aload_n hx hb d_HD_perform_1 rfl (lv_at hl 2 rfl) ?_
  refine lv_aload_n hx hb d_HD_perform_2 rfl (lv_at hl 3 rfl) ?_
  refine xc_v (av := [.ref (ad 8 c), .ref (eA 2 o), .ref (ad 11 (4 * c + b))]) (xrunV (As := [.ref (eA 2 o), .ref (ad 11 (4 * c + b))]) (rest := []) E hA hC hR hS (c_Core_perform l D dA eA ad A N g M as sp c b o pl hcN hN4 hb4 ho hg6) (x_recv hC hR (s0 := 8) (i0 := c) (show vl N 8 c from hcN) rfl rfl) ck_HD_146 ⟨rfl, rfl⟩ ⟨Nat.le_of_ble_eq_true rfl, Nat.le_of_ble_eq_true rfl⟩ rfl (lv_sub hl [] rfl) rfl (Nat.le_of_ble_eq_true rfl) ⟨Nat.le_of_ble_eq_true rfl, Nat.le_of_ble_eq_true rfl⟩ d_HD_perform_3) hS (fun H locs nw1 sp1 hR hS => ?_)
  refine lv_aload_n hx hb d_HD_perform_6 rfl (lv_at hl 3 rfl) ?_
  refine lv_aload_n hx hb d_HD_perform_7 rfl (lv_at hl 0 rfl) ?_
  refine lv_dup hx hb d_HD_perform_8 rfl ?_
  refine xg_HD E hC hR 8 (by decide) zf_HD_149 rfl d_HD_perform_9 ?_
  refine wn_eq (y := g 19 0) (by simp [up2, upd, snd]) ?_
  refine lv_iconst (v := 1) hx hb d_HD_perform_12 (by decide) ?_
  refine lv_iadd hx hb d_HD_perform_13 ?_
  refine lv_dup_x1 hx hb d_HD_perform_14 rfl rfl ?_
  refine xp_HD_performed E hC hR hS zf_HD_149 d_HD_perform_15 (fun H locs hR hS => ?_)
  refine xp_Line_used E hC hR hS (show vl N 11 (4 * c + b) from (show 4 * c + b < 4 * N by omega)) zf_HD_134 d_HD_perform_18 (fun H locs hR hS => ?_)
  have ho0 : g 3 (16 * c + pl) = 0 ↔ o = 0 := by rw [hg3]; exact nI_eq (b := 0) (by omega) (by omega)
  have ho1 : g 3 (16 * c + pl) = 1 ↔ o = 1 := by rw [hg3]; exact nI_eq (b := 1) (by omega) (by omega)
  replace hR := RX.ext (fun s9 i9 => ag_12 (g := up2 (up2 (up2 (up2 (up2 g 9 (4 * c + b) (if o = 0 then g 9 (4 * c + b) else g 2 c)) 2 c (if o = 1 then g 2 c else g 9 (4 * c + b))) 6 c (nI (pl + 1))) 19 0 ((g 19 0) + 1)) 11 (4 * c + b) ((g 19 0) + 1)) (g 12 0 + 1) s9 i9) hR
  rw [perf_cm] at hR
  have eG : up2 (up2 (up2 (up2 (up2 (up2 g 9 (4 * c + b) (if o = 0 then g 9 (4 * c + b) else g 2 c)) 2 c (if o = 1 then g 2 c else g 9 (4 * c + b))) 12 0 (g 12 0 + 1)) 11 (4 * c + b) (g 19 0 + 1)) 19 0 (g 19 0 + 1)) 6 c (nI (pl + 1)) = s_perform g c pl b := by
    simp only [s_perform, ho0, ho1, hck]
  rw [eG] at hR
  exact x_vret (nw := nw1) E hR hS d_HD_perform_21
set_option maxHeartbeats 4000000 in
set_option maxRecDepth 100000 in
theorem c_HD_access (l : Launch) (D : va_G) (dA : Nat → ClassId) (eA ad : Nat → Nat → Nat) (A : Nat → Prop) (N : Nat) (g : PS) (M : List Msg) (as sp : List Nat) (c b o pl R : Nat) (hcN : c < N) (hN4 : N ≤ 4) (hb4 : b < 4) (ho : o = 0 ∨ o = 1 ∨ o = 5) (hg6 : g 6 c = nI pl) (hg3 : g 3 (16 * c + pl) = nI o) (hck : g 12 0 = g 19 0) (hl2 : ∀ b, b < 4 → ∃ st, st < 3 ∧ g 8 (4 * c + b) = nI st) (hR0 : g 1 0 = nI R) (hR1 : 1 ≤ R) (hR3 : R ≤ 3) (hg7 : g 7 c = 0) (hmz : g 8 (4 * c + b) = 0 → g 10 (4 * c + b) = 0) : Met l y_HD_access (k_HD_access :: wz) (rml 5 1 8) (va_Pc [.ref (ad 0 0), .ref (ad 8 c), .ref (eA 2 o), .int (nI c), .int (nI b)] (PX D dA eA ad A N g M as sp)) (XQi D dA eA ad A N (s_acc g c pl b (nI o)).1 (s_acc g c pl b (nI o)).2.1 (M ++ (s_acc g c pl b (nI o)).2.2) as) 1 8 A := by
  refine x_entry (by decide) (Nat.le_of_ble_eq_true rfl) ?_
  intro p e s m below meth c0 E hA hC hR ls hl
  have hx := E.1
  have hb := E.2.1
  have hS : va_S A s.heap s.heap [] := va_S.rf
  replace hl : lv_has ls 10 [(0, .ref (ad 0 0)), (1, .ref (ad 8 c)), (2, .ref (eA 2 o)), (3, .int (nI c)), (4, .int (nI b))] := hl
  obtain ⟨st, hst3, hst⟩ := hl2 b hb4
  have hs2 : g 8 (4 * c + b) = 2 ↔ st = 2 := by rw [hst]; exact nI_eq (b := 2) (by omega) (by omega)
  have hs1 : g 8 (4 * c + b) = 1 ↔ st = 1 := by rw [hst]; exact nI_eq (b := 1) (by omega) (by omega)
  have ho0 : nI o = 0 ↔ o = 0 := nI_eq (b := 0) (by omega) (by omega)
  have hu4 := s_used_le g c 4
  have hlt9 : nI (s_used g c 4) < g 1 0 ↔ s_used g c 4 < R := by rw [hR0]; exact nI_ltI (by omega) (by omega)
  have tail : (st = 0 → s_used g c 4 < R) → ¬ st = 2 → ¬ (st = 1 ∧ o = 0) → ∀ ls, lv_has ls 10 [(5, .ref (ad 11 (4 * c + b))), (0, .ref (ad 0 0)), (1, .ref (ad 8 c)), (2, .ref (eA 2 o)), (3, .int (nI c)), (4, .int (nI b))] → W p l e (rml 5 1 8) s m ([.ref (ad 0 0), .ref (ad 8 c), .ref (eA 2 o), .int (nI c), .int (nI b)] : List Value).toArray below meth c0 s.heap [] 0 0 (MQ below (XQi D dA eA ad A N (s_acc g c pl b (nI o)).1 (s_acc g c pl b (nI o)).2.1 (M ++ (s_acc g c pl b (nI o)).2.2) as) ([.ref (ad 0 0), .ref (ad 8 c), .ref (eA 2 o), .int (nI c), .int (nI b)] : List Value).toArray s 1 8 A) (F0 m 179 ls []) := by
    intro hrm hn2 hn1 ls hl
    refine lv_aload_n hx hb d_HD_access_179 rfl (lv_at hl 3 rfl) ?_
    refine x_gets (eA := eA) hC.2.2.2.1 E hS 0 (by decide) zf_HD_124 d_HD_access_180 ?_
    refine lv_acmpR_ne (tgt := 194) hx hb d_HD_access_183 (by decide) (fun h1 => ?_) (fun h1 => ?_)
    · replace h1 : ¬ o = 0 := fun e9 => h1 (by rw [e9])
      have hroom : ¬ st = 1 → s_used g c 4 < R := fun _ => hrm (by omega)
      refine lv_aload hx hb d_HD_access_194 (lv_at hl 0 rfl) ?_
      refine xc_v (av := [.ref (ad 11 (4 * c + b))]) (xrunV (As := []) (rest := []) E hA hC hR hS (c_Line_gain l D dA eA ad A N g M as sp c b hcN hN4 hb4 st (by omega) hst) (x_recv hC hR (s0 := 11) (i0 := 4 * c + b) (show vl N 11 (4 * c + b) from (show 4 * c + b < 4 * N by omega)) rfl rfl) ck_HD_143 ⟨rfl, rfl⟩ ⟨Nat.le_of_ble_eq_true rfl, Nat.le_of_ble_eq_true rfl⟩ rfl (lv_sub hl [] rfl) rfl (Nat.le_of_ble_eq_true rfl) ⟨Nat.le_of_ble_eq_true rfl, Nat.le_of_ble_eq_true rfl⟩ d_HD_access_196) hS (fun H locs nw1 sp1 hR hS => ?_)
      refine W.widen (k := 1) (n := 8) (by decide) (by decide) ?_
      refine lv_aload_n hx hb d_HD_access_199 rfl (lv_at hl 2 rfl) ?_
      refine lv_bipush (v := 32) hx hb d_HD_access_200 (by decide) ?_
      refine xp_Core_waits E hC hR hS (show vl N 8 c from hcN) 1 (by decide) zf_HD_100 d_HD_access_202 (fun H locs hR hS => ?_)
      refine lv_iconst (v := 2) hx hb d_HD_access_205 (by decide) ?_
      by_cases h1 : st = 1
      · have hdum := h1
        have eS : s_acc g c pl b (nI o) = (2, s_ask g c b 6, [(1, c, 4, b, 0, 0, 0)]) := by
          rw [s_acc, if_neg (fun e9 => absurd (hs2.mp e9) (by omega)), if_pos (hs1.mpr h1), if_neg (fun e9 => absurd (ho0.mp e9) (by omega))]
        rw [eS]
        rw [show up2 (up2 (up2 (snd g) 10 (4 * c + b) 0) 8 (4 * c + b) (if st = 1 then 6 else 4)) 7 c 1 = s_ask g c b 6 from by rw [if_pos h1, s_ask, up2_cm (snd g) (k := 10) (k' := 8) _ _ (by decide)]] at hR
        exact x_iret (nw := nw1) E hR hS rfl rfl d_HD_access_206
      · have hdum := h1
        have eS : s_acc g c pl b (nI o) = (2, s_ask g c b 4, [(1, c, 4, b, 0, 0, 0)]) := by
          rw [s_acc, if_neg (fun e9 => absurd (hs2.mp e9) (by omega)), if_neg (fun e9 => absurd (hs1.mp e9) (by omega)), if_pos (hlt9.mpr (hroom h1)), if_neg (fun e9 => absurd (ho0.mp e9) (by omega))]
        rw [eS]
        rw [show up2 (up2 (up2 (snd g) 10 (4 * c + b) 0) 8 (4 * c + b) (if st = 1 then 6 else 4)) 7 c 1 = s_ask g c b 4 from by rw [if_neg h1, s_ask, up2_cm (snd g) (k := 10) (k' := 8) _ _ (by decide)]] at hR
        exact x_iret (nw := nw1) E hR hS rfl rfl d_HD_access_206
    · replace h1 : o = 0 := hC.2.2.2.1.2 o 0 (show o < 6 by omega) (by decide) h1
      have hroom : s_used g c 4 < R := hrm (by omega)
      refine lv_aload hx hb d_HD_access_186 (lv_at hl 0 rfl) ?_
      refine xc_v (av := [.ref (ad 11 (4 * c + b))]) (xrunV (As := []) (rest := []) E hA hC hR hS (c_Line_fetch l D dA eA ad A N g M as sp c b hcN hN4 hb4) (x_recv hC hR (s0 := 11) (i0 := 4 * c + b) (show vl N 11 (4 * c + b) from (show 4 * c + b < 4 * N by omega)) rfl rfl) ck_HD_140 ⟨rfl, rfl⟩ ⟨Nat.le_of_ble_eq_true rfl, Nat.le_of_ble_eq_true rfl⟩ rfl (lv_sub hl [] rfl) rfl (Nat.le_of_ble_eq_true rfl) ⟨Nat.le_of_ble_eq_true rfl, Nat.le_of_ble_eq_true rfl⟩ d_HD_access_188) hS (fun H locs nw1 sp1 hR hS => ?_)
      refine W.widen (k := 1) (n := 8) (by decide) (by decide) ?_
      refine lv_goto (tgt := 199) hx hb d_HD_access_191 (by decide) ?_
      refine lv_aload_n hx hb d_HD_access_199 rfl (lv_at hl 2 rfl) ?_
      refine lv_bipush (v := 32) hx hb d_HD_access_200 (by decide) ?_
      refine xp_Core_waits E hC hR hS (show vl N 8 c from hcN) 1 (by decide) zf_HD_100 d_HD_access_202 (fun H locs hR hS => ?_)
      refine lv_iconst (v := 2) hx hb d_HD_access_205 (by decide) ?_
      have hmiss : up2 (up2 (snd g) 8 (4 * c + b) 3) 7 c 1 10 (4 * c + b) = 0 := hmz (by rw [hst, show st = 0 by omega]; rfl)
      have eS : s_acc g c pl b (nI o) = (2, s_ask g c b 3, [(0, c, 4, b, 0, 0, 0)]) := by
        rw [s_acc, if_neg (fun e9 => absurd (hs2.mp e9) (by omega)), if_neg (fun e9 => absurd (hs1.mp e9) (by omega)), if_pos (hlt9.mpr hroom), if_pos (ho0.mpr (by omega))]
      rw [eS]
      rw [show up2 (up2 (snd g) 8 (4 * c + b) 3) 7 c 1 = s_ask g c b 3 from by rw [s_ask, up2_cm (up2 (snd g) 8 (4 * c + b) 3) (k := 10) (k' := 7) _ _ (by decide), up2_same (g := up2 (up2 (snd g) 8 (4 * c + b) 3) 7 c 1) (k := 10) (j := 4 * c + b) hmiss]] at hR
      exact x_iret (nw := nw1) E hR hS rfl rfl d_HD_access_206
  have loop : st = 0 → ∀ (r i : Nat), i + r = 4 → ∀ (pv : Value) (ls : Array Slot), pv = (if s_vic g c i = 0 then .null else .ref (ad 11 (4 * c + (s_vic g c i - 1)))) → lv_has ls 10 [(8, .int (nI i)), (7, .int (nI (s_used g c i))), (6, pv), (5, .ref (ad 11 (4 * c + b))), (0, .ref (ad 0 0)), (1, .ref (ad 8 c)), (2, .ref (eA 2 o)), (3, .int (nI c)), (4, .int (nI b))] → W p l e (rml 5 1 8) s m ([.ref (ad 0 0), .ref (ad 8 c), .ref (eA 2 o), .int (nI c), .int (nI b)] : List Value).toArray below meth c0 s.heap [] 0 0 (MQ below (XQi D dA eA ad A N (s_acc g c pl b (nI o)).1 (s_acc g c pl b (nI o)).2.1 (M ++ (s_acc g c pl b (nI o)).2.2) as) ([.ref (ad 0 0), .ref (ad 8 c), .ref (eA 2 o), .int (nI c), .int (nI b)] : List Value).toArray s 1 8 A) (F0 m 84 ls []) := by
    intro hst0 r
    induction r with
    | zero =>
      intro i hir pv ls hpv hl
      obtain rfl : i = 4 := by omega
      by_cases hv0 : s_vic g c 4 = 0
      · rw [if_pos hv0] at hpv
        subst hpv
        refine lv_iload hx hb d_HD_access_84 (lv_at hl 0 rfl) ?_
        refine lv_iconst (v := 4) hx hb d_HD_access_86 (by decide) ?_
        refine lv_icmp_ge (tgt := 152) hx hb d_HD_access_87 (by decide) (fun h2 => ?_) (fun h2 => absurd (by decide) h2)
        refine lv_aloadN hx hb d_HD_access_152 (lv_at hl 2 rfl) ?_
        refine lv_ifnullN (tgt := 179) hx hb d_HD_access_154 (by decide) ?_
        exact tail (fun _ => by
          rcases Nat.eq_zero_or_pos (s_used g c 4) with q9 | q9
          · omega
          · have := s_vic_pos g c 4 q9; omega) (by omega) (by omega) ls (lv_sub hl [3, 4, 5, 6, 7, 8] rfl)
      · obtain ⟨v, hv⟩ : ∃ v, s_vic g c 4 = v + 1 := ⟨s_vic g c 4 - 1, by omega⟩
        have hv4 : v < 4 := by have := s_vic_le g c 4; omega
        rw [if_neg hv0, hv, Nat.add_sub_cancel] at hpv
        subst hpv
        obtain ⟨sv, hsv3, hsv⟩ := hl2 v hv4
        refine lv_iload hx hb d_HD_access_84 (lv_at hl 0 rfl) ?_
        refine lv_iconst (v := 4) hx hb d_HD_access_86 (by decide) ?_
        refine lv_icmp_ge (tgt := 152) hx hb d_HD_access_87 (by decide) (fun h3 => ?_) (fun h3 => absurd (by decide) h3)
        refine lv_aload hx hb d_HD_access_152 (lv_at hl 2 rfl) ?_
        refine lv_ifnull hx hb d_HD_access_154 ?_
        refine lv_iload hx hb d_HD_access_157 (lv_at hl 1 rfl) ?_
        refine lv_aload_n hx hb d_HD_access_159 rfl (lv_at hl 4 rfl) ?_
        refine xg_HD E hC hR 1 (by decide) zf_HD_64 rfl d_HD_access_160 ?_
        refine wn_eq (y := nI R) hR0 ?_
        refine lv_icmp_lt (tgt := 179) hx hb d_HD_access_163 (by decide) (fun h4 => ?_) (fun h4 => ?_)
        · replace h4 := (nI_ltI (a := s_used g c 4) (b := R) (by omega) (by omega)).mp h4
          exact tail (fun _ => h4) (by omega) (by omega) ls (lv_sub hl [3, 4, 5, 6, 7, 8] rfl)
        · replace h4 := (not_congr (nI_ltI (a := s_used g c 4) (b := R) (by omega) (by omega))).mp h4
          refine lv_aload hx hb d_HD_access_166 (lv_at hl 2 rfl) ?_
          refine xc_v (av := [.ref (ad 11 (4 * c + v))]) (xrunV (As := []) (rest := []) E hA hC hR hS (c_Line_leave l D dA eA ad A N g M as sp c v hcN hN4 hv4 sv (by omega) hsv) (x_recv hC hR (s0 := 11) (i0 := 4 * c + v) (show vl N 11 (4 * c + v) from (show 4 * c + v < 4 * N by omega)) rfl rfl) ck_HD_137 ⟨rfl, rfl⟩ ⟨Nat.le_of_ble_eq_true rfl, Nat.le_of_ble_eq_true rfl⟩ rfl (lv_sub hl [] rfl) rfl (Nat.le_of_ble_eq_true rfl) ⟨Nat.le_of_ble_eq_true rfl, Nat.le_of_ble_eq_true rfl⟩ d_HD_access_168) hS (fun H locs nw1 sp1 hR hS => ?_)
          refine W.widen (k := 1) (n := 8) (by decide) (by decide) ?_
          refine lv_aload_n hx hb d_HD_access_171 rfl (lv_at hl 5 rfl) ?_
          refine lv_bipush (v := 64) hx hb d_HD_access_172 (by decide) ?_
          refine xp_Core_waits E hC hR hS (show vl N 8 c from hcN) 2 (by decide) zf_HD_100 d_HD_access_174 (fun H locs hR hS => ?_)
          refine lv_iconst (v := 3) hx hb d_HD_access_177 (by decide) ?_
          have hsv1 : g 8 (4 * c + v) = 1 ↔ sv = 1 := by rw [hsv]; exact nI_eq (b := 1) (by omega) (by omega)
          have eQ : s_replQ g c v = (if sv = 1 then 2 else 3, c, 4, v, if sv = 1 then 0 else g 9 (4 * c + v), 0, 0) := by simp only [s_replQ, hsv1]
          rw [← eQ] at hR
          have eS : s_acc g c pl b (nI o) = (3, s_replG g c v, [s_replQ g c v]) := by
            rw [s_acc, if_neg (fun e9 => absurd (hs2.mp e9) (by omega)), if_neg (fun e9 => absurd (hs1.mp e9) (by omega)), if_neg (fun e9 => absurd (hlt9.mp e9) (by omega)), hv, Nat.add_sub_cancel]
          rw [eS]
          rw [show up2 (up2 (snd g) 8 (4 * c + v) (if sv = 1 then 9 else 8)) 7 c 2 = s_replG g c v from by simp only [s_replG, hsv1]] at hR
          exact x_iret (nw := nw1) E hR hS rfl rfl d_HD_access_178
    | succ r ih =>
      intro i hir pv ls hpv hl
      have hvi := s_vic_le g c i
      have hui := s_used_le g c i
      by_cases hv0 : s_vic g c i = 0
      · rw [if_pos hv0] at hpv
        subst hpv
        obtain ⟨si, hsi3, hsi⟩ := hl2 i (by omega)
        have hsi0 : g 8 (4 * c + i) = 0 ↔ si = 0 := by rw [hsi]; exact nI_eq (b := 0) (by omega) (by omega)
        refine lv_iload hx hb d_HD_access_84 (lv_at hl 0 rfl) ?_
        refine lv_iconst (v := 4) hx hb d_HD_access_86 (by decide) ?_
        refine lv_icmp_ge (tgt := 152) hx hb d_HD_access_87 (by decide) (fun h5 => absurd h5 (nI_ge (a := i) (b := 4) (by omega) (by omega))) (fun h5 => ?_)
        refine lv_aload_n hx hb d_HD_access_90 rfl (lv_at hl 4 rfl) ?_
        refine xg_HD E hC hR 6 (by decide) zf_HD_41 rfl d_HD_access_91 ?_
        refine lv_iconst (v := 4) hx hb d_HD_access_94 (by decide) ?_
        refine lv_iload_n hx hb d_HD_access_95 rfl (lv_at hl 7 rfl) ?_
        refine wn_mul hx hb (a := 4) (b := c) d_HD_access_96 ?_
        refine lv_iload hx hb d_HD_access_97 (lv_at hl 0 rfl) ?_
        refine wn_add hx hb (a := 4 * c) (b := i) d_HD_access_99 ?_
        refine xl_Lines E hC hR (j := 4 * c + i) (by omega) hN4 d_HD_access_100 ?_
        refine lv_astore (lv' := [(9, .ref (ad 11 (4 * c + i))), (8, .int (nI i)), (7, .int (nI (s_used g c i))), (6, .null), (5, .ref (ad 11 (4 * c + b))), (0, .ref (ad 0 0)), (1, .ref (ad 8 c)), (2, .ref (eA 2 o)), (3, .int (nI c)), (4, .int (nI b))]) hx hb d_HD_access_101 hl (by decide) rfl (fun ls hl => ?_)
        refine lv_aload hx hb d_HD_access_103 (lv_at hl 0 rfl) ?_
        refine xg_Line E hC hR (show 4 * c + i < 4 * N by omega) 4 (by decide) zf_HD_114 rfl d_HD_access_105 ?_
        refine wr_eq (y := ad 3 si) (congrArg (ad 3) (by rw [show g 8 (4 * c + i) = nI si from hsi]; exact nI_clamp (by omega))) ?_
        refine lv_aload_n hx hb d_HD_access_108 rfl (lv_at hl 5 rfl) ?_
        refine xg_HD E hC hR 4 (by decide) zf_HD_29 rfl d_HD_access_109 ?_
        refine xg_Chart E hC hR 0 (by decide) zf_HD_131 rfl d_HD_access_112 ?_
        refine lv_acmpR_ne (tgt := 121) hx hb d_HD_access_115 (by decide) (fun h6 => ?_) (fun h6 => ?_)
        · replace h6 : ¬ si = 0 := fun e9 => h6 (by rw [e9])
          refine lv_iinc (v := nI (s_used g c i + 1)) (lv' := [(7, .int (nI (s_used g c i + 1))), (9, .ref (ad 11 (4 * c + i))), (8, .int (nI i)), (6, .null), (5, .ref (ad 11 (4 * c + b))), (0, .ref (ad 0 0)), (1, .ref (ad 8 c)), (2, .ref (eA 2 o)), (3, .int (nI c)), (4, .int (nI b))]) hx hb d_HD_access_121 hl (k := 2) rfl (nI_1 _) (by decide) rfl (fun ls hl => ?_)
          refine lv_aloadN hx hb d_HD_access_124 (lv_at hl 3 rfl) ?_
          refine lv_ifnullN (tgt := 142) hx hb d_HD_access_126 (by decide) ?_
          refine lv_aload hx hb d_HD_access_142 (lv_at hl 1 rfl) ?_
          refine lv_astore (lv' := [(6, .ref (ad 11 (4 * c + i))), (7, .int (nI (s_used g c i + 1))), (9, .ref (ad 11 (4 * c + i))), (8, .int (nI i)), (5, .ref (ad 11 (4 * c + b))), (0, .ref (ad 0 0)), (1, .ref (ad 8 c)), (2, .ref (eA 2 o)), (3, .int (nI c)), (4, .int (nI b))]) hx hb d_HD_access_144 hl (by decide) rfl (fun ls hl => ?_)
          refine lv_iinc (v := nI (i + 1)) (lv' := [(8, .int (nI (i + 1))), (6, .ref (ad 11 (4 * c + i))), (7, .int (nI (s_used g c i + 1))), (9, .ref (ad 11 (4 * c + i))), (5, .ref (ad 11 (4 * c + b))), (0, .ref (ad 0 0)), (1, .ref (ad 8 c)), (2, .ref (eA 2 o)), (3, .int (nI c)), (4, .int (nI b))]) hx hb d_HD_access_146 hl (k := 3) rfl (nI_1 _) (by decide) rfl (fun ls hl => ?_)
          refine lv_goto (tgt := 84) hx hb d_HD_access_149 (by decide) ?_
          have e7 : s_used g c (i + 1) = s_used g c i + 1 := by rw [s_used, if_neg (fun e9 => h6 (hsi0.mp e9))]
          have e6 : s_vic g c (i + 1) = i + 1 := by rw [s_vic, if_neg (fun e9 => h6 (hsi0.mp e9)), if_pos hv0]
          exact ih (i + 1) (by omega) (.ref (ad 11 (4 * c + i))) ls (by rw [e6, if_neg (by omega), Nat.add_sub_cancel]) (by rw [e7]; exact lv_sub hl [0, 2, 1, 4, 5, 6, 7, 8, 9] rfl)
        · replace h6 : si = 0 := hR.md_inj (by omega) (by decide) h6
          refine lv_goto (tgt := 146) hx hb d_HD_access_118 (by decide) ?_
          refine lv_iinc (v := nI (i + 1)) (lv' := [(8, .int (nI (i + 1))), (9, .ref (ad 11 (4 * c + i))), (7, .int (nI (s_used g c i))), (6, .null), (5, .ref (ad 11 (4 * c + b))), (0, .ref (ad 0 0)), (1, .ref (ad 8 c)), (2, .ref (eA 2 o)), (3, .int (nI c)), (4, .int (nI b))]) hx hb d_HD_access_146 hl (k := 1) rfl (nI_1 _) (by decide) rfl (fun ls hl => ?_)
          refine lv_goto (tgt := 84) hx hb d_HD_access_149 (by decide) ?_
          have e7 : s_used g c (i + 1) = s_used g c i := by rw [s_used, if_pos (hsi0.mpr h6)]
          have e6 : s_vic g c (i + 1) = s_vic g c i := by rw [s_vic, if_pos (hsi0.mpr h6)]
          exact ih (i + 1) (by omega) (.null) ls (by rw [e6, if_pos hv0]) (by rw [e7]; exact lv_sub hl [0, 2, 3, 4, 5, 6, 7, 8, 9] rfl)
      · obtain ⟨v, hv⟩ : ∃ v, s_vic g c i = v + 1 := ⟨s_vic g c i - 1, by omega⟩
        have hv4 : v < 4 := by omega
        rw [if_neg hv0, hv, Nat.add_sub_cancel] at hpv
        subst hpv
        obtain ⟨si, hsi3, hsi⟩ := hl2 i (by omega)
        have hsi0 : g 8 (4 * c + i) = 0 ↔ si = 0 := by rw [hsi]; exact nI_eq (b := 0) (by omega) (by omega)
        refine lv_iload hx hb d_HD_access_84 (lv_at hl 0 rfl) ?_
        refine lv_iconst (v := 4) hx hb d_HD_access_86 (by decide) ?_
        refine lv_icmp_ge (tgt := 152) hx hb d_HD_access_87 (by decide) (fun h7 => absurd h7 (nI_ge (a := i) (b := 4) (by omega) (by omega))) (fun h7 => ?_)
        refine lv_aload_n hx hb d_HD_access_90 rfl (lv_at hl 4 rfl) ?_
        refine xg_HD E hC hR 6 (by decide) zf_HD_41 rfl d_HD_access_91 ?_
        refine lv_iconst (v := 4) hx hb d_HD_access_94 (by decide) ?_
        refine lv_iload_n hx hb d_HD_access_95 rfl (lv_at hl 7 rfl) ?_
        refine wn_mul hx hb (a := 4) (b := c) d_HD_access_96 ?_
        refine lv_iload hx hb d_HD_access_97 (lv_at hl 0 rfl) ?_
        refine wn_add hx hb (a := 4 * c) (b := i) d_HD_access_99 ?_
        refine xl_Lines E hC hR (j := 4 * c + i) (by omega) hN4 d_HD_access_100 ?_
        refine lv_astore (lv' := [(9, .ref (ad 11 (4 * c + i))), (8, .int (nI i)), (7, .int (nI (s_used g c i))), (6, .ref (ad 11 (4 * c + v))), (5, .ref (ad 11 (4 * c + b))), (0, .ref (ad 0 0)), (1, .ref (ad 8 c)), (2, .ref (eA 2 o)), (3, .int (nI c)), (4, .int (nI b))]) hx hb d_HD_access_101 hl (by decide) rfl (fun ls hl => ?_)
        refine lv_aload hx hb d_HD_access_103 (lv_at hl 0 rfl) ?_
        refine xg_Line E hC hR (show 4 * c + i < 4 * N by omega) 4 (by decide) zf_HD_114 rfl d_HD_access_105 ?_
        refine wr_eq (y := ad 3 si) (congrArg (ad 3) (by rw [show g 8 (4 * c + i) = nI si from hsi]; exact nI_clamp (by omega))) ?_
        refine lv_aload_n hx hb d_HD_access_108 rfl (lv_at hl 5 rfl) ?_
        refine xg_HD E hC hR 4 (by decide) zf_HD_29 rfl d_HD_access_109 ?_
        refine xg_Chart E hC hR 0 (by decide) zf_HD_131 rfl d_HD_access_112 ?_
        refine lv_acmpR_ne (tgt := 121) hx hb d_HD_access_115 (by decide) (fun h8 => ?_) (fun h8 => ?_)
        · replace h8 : ¬ si = 0 := fun e9 => h8 (by rw [e9])
          refine lv_iinc (v := nI (s_used g c i + 1)) (lv' := [(7, .int (nI (s_used g c i + 1))), (9, .ref (ad 11 (4 * c + i))), (8, .int (nI i)), (6, .ref (ad 11 (4 * c + v))), (5, .ref (ad 11 (4 * c + b))), (0, .ref (ad 0 0)), (1, .ref (ad 8 c)), (2, .ref (eA 2 o)), (3, .int (nI c)), (4, .int (nI b))]) hx hb d_HD_access_121 hl (k := 2) rfl (nI_1 _) (by decide) rfl (fun ls hl => ?_)
          refine lv_aload hx hb d_HD_access_124 (lv_at hl 3 rfl) ?_
          refine lv_ifnull hx hb d_HD_access_126 ?_
          refine lv_aload hx hb d_HD_access_129 (lv_at hl 1 rfl) ?_
          refine xg_Line E hC hR (show 4 * c + i < 4 * N by omega) 7 (by decide) zf_HD_134 rfl d_HD_access_131 ?_
          refine lv_aload hx hb d_HD_access_134 (lv_at hl 3 rfl) ?_
          refine xg_Line E hC hR (show vl N 11 (4 * c + v) from (show 4 * c + v < 4 * N by omega)) 7 (by decide) zf_HD_134 rfl d_HD_access_136 ?_
          refine lv_icmp_ge (tgt := 146) hx hb d_HD_access_139 (by decide) (fun h9 => ?_) (fun h9 => ?_)
          · refine lv_iinc (v := nI (i + 1)) (lv' := [(8, .int (nI (i + 1))), (7, .int (nI (s_used g c i + 1))), (9, .ref (ad 11 (4 * c + i))), (6, .ref (ad 11 (4 * c + v))), (5, .ref (ad 11 (4 * c + b))), (0, .ref (ad 0 0)), (1, .ref (ad 8 c)), (2, .ref (eA 2 o)), (3, .int (nI c)), (4, .int (nI b))]) hx hb d_HD_access_146 hl (k := 2) rfl (nI_1 _) (by decide) rfl (fun ls hl => ?_)
            refine lv_goto (tgt := 84) hx hb d_HD_access_149 (by decide) ?_
            have e7 : s_used g c (i + 1) = s_used g c i + 1 := by rw [s_used, if_neg (fun e9 => h8 (hsi0.mp e9))]
            have e6 : s_vic g c (i + 1) = v + 1 := by rw [s_vic, if_neg (fun e9 => h8 (hsi0.mp e9)), if_neg hv0, hv, Nat.add_sub_cancel, if_pos h9]
            exact ih (i + 1) (by omega) (.ref (ad 11 (4 * c + v))) ls (by rw [e6, if_neg (by omega), Nat.add_sub_cancel]) (by rw [e7]; exact lv_sub hl [0, 1, 3, 4, 5, 6, 7, 8, 9] rfl)
          · refine lv_aload hx hb d_HD_access_142 (lv_at hl 1 rfl) ?_
            refine lv_astore (lv' := [(6, .ref (ad 11 (4 * c + i))), (7, .int (nI (s_used g c i + 1))), (9, .ref (ad 11 (4 * c + i))), (8, .int (nI i)), (5, .ref (ad 11 (4 * c + b))), (0, .ref (ad 0 0)), (1, .ref (ad 8 c)), (2, .ref (eA 2 o)), (3, .int (nI c)), (4, .int (nI b))]) hx hb d_HD_access_144 hl (by decide) rfl (fun ls hl => ?_)
            refine lv_iinc (v := nI (i + 1)) (lv' := [(8, .int (nI (i + 1))), (6, .ref (ad 11 (4 * c + i))), (7, .int (nI (s_used g c i + 1))), (9, .ref (ad 11 (4 * c + i))), (5, .ref (ad 11 (4 * c + b))), (0, .ref (ad 0 0)), (1, .ref (ad 8 c)), (2, .ref (eA 2 o)), (3, .int (nI c)), (4, .int (nI b))]) hx hb d_HD_access_146 hl (k := 3) rfl (nI_1 _) (by decide) rfl (fun ls hl => ?_)
            refine lv_goto (tgt := 84) hx hb d_HD_access_149 (by decide) ?_
            have e7 : s_used g c (i + 1) = s_used g c i + 1 := by rw [s_used, if_neg (fun e9 => h8 (hsi0.mp e9))]
            have e6 : s_vic g c (i + 1) = i + 1 := by rw [s_vic, if_neg (fun e9 => h8 (hsi0.mp e9)), if_neg hv0, hv, Nat.add_sub_cancel, if_neg h9]
            exact ih (i + 1) (by omega) (.ref (ad 11 (4 * c + i))) ls (by rw [e6, if_neg (by omega), Nat.add_sub_cancel]) (by rw [e7]; exact lv_sub hl [0, 2, 1, 4, 5, 6, 7, 8, 9] rfl)
        · replace h8 : si = 0 := hR.md_inj (by omega) (by decide) h8
          refine lv_goto (tgt := 146) hx hb d_HD_access_118 (by decide) ?_
          refine lv_iinc (v := nI (i + 1)) (lv' := [(8, .int (nI (i + 1))), (9, .ref (ad 11 (4 * c + i))), (7, .int (nI (s_used g c i))), (6, .ref (ad 11 (4 * c + v))), (5, .ref (ad 11 (4 * c + b))), (0, .ref (ad 0 0)), (1, .ref (ad 8 c)), (2, .ref (eA 2 o)), (3, .int (nI c)), (4, .int (nI b))]) hx hb d_HD_access_146 hl (k := 1) rfl (nI_1 _) (by decide) rfl (fun ls hl => ?_)
          refine lv_goto (tgt := 84) hx hb d_HD_access_149 (by decide) ?_
          have e7 : s_used g c (i + 1) = s_used g c i := by rw [s_used, if_pos (hsi0.mpr h8)]
          have e6 : s_vic g c (i + 1) = s_vic g c i := by rw [s_vic, if_pos (hsi0.mpr h8)]
          exact ih (i + 1) (by omega) (.ref (ad 11 (4 * c + v))) ls (by rw [e6, hv, if_neg (by omega), Nat.add_sub_cancel]) (by rw [e7]; exact lv_sub hl [0, 2, 3, 4, 5, 6, 7, 8, 9] rfl)
  refine lv_aload_n hx hb d_HD_access_0 rfl (lv_at hl 0 rfl) ?_
  refine xg_HD E hC hR 6 (by decide) zf_HD_41 rfl d_HD_access_1 ?_
  refine lv_iconst (v := 4) hx hb d_HD_access_4 (by decide) ?_
  refine lv_iload_n hx hb d_HD_access_5 rfl (lv_at hl 3 rfl) ?_
  refine wn_mul hx hb (a := 4) (b := c) d_HD_access_6 ?_
  refine lv_iload hx hb d_HD_access_7 (lv_at hl 4 rfl) ?_
  refine wn_add hx hb (a := 4 * c) (b := b) d_HD_access_9 ?_
  refine xl_Lines E hC hR (j := 4 * c + b) (by omega) hN4 d_HD_access_10 ?_
  refine lv_astore (lv' := [(5, .ref (ad 11 (4 * c + b))), (0, .ref (ad 0 0)), (1, .ref (ad 8 c)), (2, .ref (eA 2 o)), (3, .int (nI c)), (4, .int (nI b))]) hx hb d_HD_access_11 hl (by decide) rfl (fun ls hl => ?_)
  refine lv_aload hx hb d_HD_access_13 (lv_at hl 0 rfl) ?_
  refine xg_Line E hC hR (show 4 * c + b < 4 * N by omega) 4 (by decide) zf_HD_114 rfl d_HD_access_15 ?_
  refine wr_eq (y := ad 3 st) (congrArg (ad 3) (by rw [show g 8 (4 * c + b) = nI st from hst]; exact nI_clamp (by omega))) ?_
  refine lv_aload_n hx hb d_HD_access_18 rfl (lv_at hl 1 rfl) ?_
  refine xg_HD E hC hR 4 (by decide) zf_HD_29 rfl d_HD_access_19 ?_
  refine xg_Chart E hC hR 2 (by decide) zf_HD_118 rfl d_HD_access_22 ?_
  refine lv_acmpR_eq (tgt := 50) hx hb d_HD_access_25 (by decide) (fun h10 => ?_) (fun h10 => ?_)
  · replace h10 : st = 2 := hR.md_inj (by omega) (by decide) h10
    refine lv_aload_n hx hb d_HD_access_50 rfl (lv_at hl 1 rfl) ?_
    refine lv_aload_n hx hb d_HD_access_51 rfl (lv_at hl 2 rfl) ?_
    refine lv_aload_n hx hb d_HD_access_52 rfl (lv_at hl 3 rfl) ?_
    refine lv_aload hx hb d_HD_access_53 (lv_at hl 0 rfl) ?_
    refine xc_v (av := [.ref (ad 0 0), .ref (ad 8 c), .ref (eA 2 o), .ref (ad 11 (4 * c + b))]) (xrunV (As := [.ref (ad 8 c), .ref (eA 2 o), .ref (ad 11 (4 * c + b))]) (rest := []) E hA hC hR hS (c_HD_perform l D dA eA ad A N g M as sp c b o pl hcN hN4 hb4 ho hg6 hg3 hck) (x_recv hC hR (s0 := 0) (i0 := 0) (show vl N 0 0 from rfl) rfl rfl) ck_HD_127 ⟨rfl, rfl⟩ ⟨Nat.le_of_ble_eq_true rfl, Nat.le_of_ble_eq_true rfl⟩ rfl (lv_sub hl [] rfl) rfl (Nat.le_of_ble_eq_true rfl) ⟨Nat.le_of_ble_eq_true rfl, Nat.le_of_ble_eq_true rfl⟩ d_HD_access_55) hS (fun H locs nw1 sp1 hR hS => ?_)
    refine lv_iconst (v := 1) hx hb d_HD_access_58 (by decide) ?_
    have hcase : st = 2 ∨ (st = 1 ∧ o = 0) := by omega
    refine W.widen (k := 1) (n := 8) (by decide) (by decide) ?_
    have eS : s_acc g c pl b (nI o) = (1, s_perform g c pl b, []) := by
      rw [s_acc]
      rcases hcase with h2 | ⟨h1, h0⟩
      · rw [if_pos (hs2.mpr h2)]
      · rw [if_neg (fun e9 => absurd (hs2.mp e9) (by omega)), if_pos (hs1.mpr h1), if_pos (ho0.mpr h0)]
    rw [eS]
    rw [show M ++ ((1 : Int32), s_perform g c pl b, ([] : List Msg)).2.2 = M from List.append_nil M]
    exact x_iret (nw := nw1) E hR hS rfl rfl d_HD_access_59
  · replace h10 : ¬ st = 2 := fun e9 => h10 (by rw [e9])
    refine lv_aload hx hb d_HD_access_28 (lv_at hl 0 rfl) ?_
    refine xg_Line E hC hR (show 4 * c + b < 4 * N by omega) 4 (by decide) zf_HD_114 rfl d_HD_access_30 ?_
    refine wr_eq (y := ad 3 st) (congrArg (ad 3) (by rw [show g 8 (4 * c + b) = nI st from hst]; exact nI_clamp (by omega))) ?_
    refine lv_aload_n hx hb d_HD_access_33 rfl (lv_at hl 1 rfl) ?_
    refine xg_HD E hC hR 4 (by decide) zf_HD_29 rfl d_HD_access_34 ?_
    refine xg_Chart E hC hR 1 (by decide) zf_HD_121 rfl d_HD_access_37 ?_
    refine lv_acmpR_ne (tgt := 60) hx hb d_HD_access_40 (by decide) (fun h11 => ?_) (fun h11 => ?_)
    · replace h11 : ¬ st = 1 := fun e9 => h11 (by rw [e9])
      refine lv_aload hx hb d_HD_access_60 (lv_at hl 0 rfl) ?_
      refine xg_Line E hC hR (show 4 * c + b < 4 * N by omega) 4 (by decide) zf_HD_114 rfl d_HD_access_62 ?_
      refine wr_eq (y := ad 3 st) (congrArg (ad 3) (by rw [show g 8 (4 * c + b) = nI st from hst]; exact nI_clamp (by omega))) ?_
      refine lv_aload_n hx hb d_HD_access_65 rfl (lv_at hl 1 rfl) ?_
      refine xg_HD E hC hR 4 (by decide) zf_HD_29 rfl d_HD_access_66 ?_
      refine xg_Chart E hC hR 0 (by decide) zf_HD_131 rfl d_HD_access_69 ?_
      refine lv_acmpR_ne (tgt := 179) hx hb d_HD_access_72 (by decide) (fun h12 => ?_) (fun h12 => ?_)
      · replace h12 : ¬ st = 0 := fun e9 => h12 (by rw [e9])
        exact tail (by omega) (by omega) (by omega) ls (lv_sub hl [0, 1, 2, 3, 4, 5] rfl)
      · replace h12 : st = 0 := hR.md_inj (by omega) (by decide) h12
        refine lv_null hx hb d_HD_access_75 ?_
        refine lv_astoreN (lv' := [(6, .null), (5, .ref (ad 11 (4 * c + b))), (0, .ref (ad 0 0)), (1, .ref (ad 8 c)), (2, .ref (eA 2 o)), (3, .int (nI c)), (4, .int (nI b))]) hx hb d_HD_access_76 hl (by decide) rfl (fun ls hl => ?_)
        refine lv_iconst (v := 0) hx hb d_HD_access_78 (by decide) ?_
        refine lv_istore (lv' := [(7, .int 0), (6, .null), (5, .ref (ad 11 (4 * c + b))), (0, .ref (ad 0 0)), (1, .ref (ad 8 c)), (2, .ref (eA 2 o)), (3, .int (nI c)), (4, .int (nI b))]) hx hb d_HD_access_79 hl (by decide) rfl (fun ls hl => ?_)
        refine lv_iconst (v := 0) hx hb d_HD_access_81 (by decide) ?_
        refine lv_istore (lv' := [(8, .int 0), (7, .int 0), (6, .null), (5, .ref (ad 11 (4 * c + b))), (0, .ref (ad 0 0)), (1, .ref (ad 8 c)), (2, .ref (eA 2 o)), (3, .int (nI c)), (4, .int (nI b))]) hx hb d_HD_access_82 hl (by decide) rfl (fun ls hl => ?_)
        exact loop h12 4 0 rfl .null ls rfl (lv_sub hl [0, 1, 2, 3, 4, 5, 6, 7, 8] rfl)
    · replace h11 : st = 1 := hR.md_inj (by omega) (by decide) h11
      refine lv_aload_n hx hb d_HD_access_43 rfl (lv_at hl 3 rfl) ?_
      refine x_gets (eA := eA) hC.2.2.2.1 E hS 0 (by decide) zf_HD_124 d_HD_access_44 ?_
      refine lv_acmpR_ne (tgt := 60) hx hb d_HD_access_47 (by decide) (fun h13 => ?_) (fun h13 => ?_)
      · replace h13 : ¬ o = 0 := fun e9 => h13 (by rw [e9])
        refine lv_aload hx hb d_HD_access_60 (lv_at hl 0 rfl) ?_
        refine xg_Line E hC hR (show 4 * c + b < 4 * N by omega) 4 (by decide) zf_HD_114 rfl d_HD_access_62 ?_
        refine wr_eq (y := ad 3 st) (congrArg (ad 3) (by rw [show g 8 (4 * c + b) = nI st from hst]; exact nI_clamp (by omega))) ?_
        refine lv_aload_n hx hb d_HD_access_65 rfl (lv_at hl 1 rfl) ?_
        refine xg_HD E hC hR 4 (by decide) zf_HD_29 rfl d_HD_access_66 ?_
        refine xg_Chart E hC hR 0 (by decide) zf_HD_131 rfl d_HD_access_69 ?_
        refine lv_acmpR_ne (tgt := 179) hx hb d_HD_access_72 (by decide) (fun h14 => ?_) (fun h14 => ?_)
        · replace h14 : ¬ st = 0 := fun e9 => h14 (by rw [e9])
          exact tail (by omega) (by omega) (by omega) ls (lv_sub hl [0, 1, 2, 3, 4, 5] rfl)
        · replace h14 : st = 0 := hR.md_inj (by omega) (by decide) h14
          refine lv_null hx hb d_HD_access_75 ?_
          refine lv_astoreN (lv' := [(6, .null), (5, .ref (ad 11 (4 * c + b))), (0, .ref (ad 0 0)), (1, .ref (ad 8 c)), (2, .ref (eA 2 o)), (3, .int (nI c)), (4, .int (nI b))]) hx hb d_HD_access_76 hl (by decide) rfl (fun ls hl => ?_)
          refine lv_iconst (v := 0) hx hb d_HD_access_78 (by decide) ?_
          refine lv_istore (lv' := [(7, .int 0), (6, .null), (5, .ref (ad 11 (4 * c + b))), (0, .ref (ad 0 0)), (1, .ref (ad 8 c)), (2, .ref (eA 2 o)), (3, .int (nI c)), (4, .int (nI b))]) hx hb d_HD_access_79 hl (by decide) rfl (fun ls hl => ?_)
          refine lv_iconst (v := 0) hx hb d_HD_access_81 (by decide) ?_
          refine lv_istore (lv' := [(8, .int 0), (7, .int 0), (6, .null), (5, .ref (ad 11 (4 * c + b))), (0, .ref (ad 0 0)), (1, .ref (ad 8 c)), (2, .ref (eA 2 o)), (3, .int (nI c)), (4, .int (nI b))]) hx hb d_HD_access_82 hl (by decide) rfl (fun ls hl => ?_)
          exact loop h14 4 0 rfl .null ls rfl (lv_sub hl [0, 1, 2, 3, 4, 5, 6, 7, 8] rfl)
      · replace h13 : o = 0 := hC.2.2.2.1.2 o 0 (show o < 6 by omega) (by decide) h13
        refine lv_aload_n hx hb d_HD_access_50 rfl (lv_at hl 1 rfl) ?_
        refine lv_aload_n hx hb d_HD_access_51 rfl (lv_at hl 2 rfl) ?_
        refine lv_aload_n hx hb d_HD_access_52 rfl (lv_at hl 3 rfl) ?_
        refine lv_aload hx hb d_HD_access_53 (lv_at hl 0 rfl) ?_
        refine xc_v (av := [.ref (ad 0 0), .ref (ad 8 c), .ref (eA 2 o), .ref (ad 11 (4 * c + b))]) (xrunV (As := [.ref (ad 8 c), .ref (eA 2 o), .ref (ad 11 (4 * c + b))]) (rest := []) E hA hC hR hS (c_HD_perform l D dA eA ad A N g M as sp c b o pl hcN hN4 hb4 ho hg6 hg3 hck) (x_recv hC hR (s0 := 0) (i0 := 0) (show vl N 0 0 from rfl) rfl rfl) ck_HD_127 ⟨rfl, rfl⟩ ⟨Nat.le_of_ble_eq_true rfl, Nat.le_of_ble_eq_true rfl⟩ rfl (lv_sub hl [] rfl) rfl (Nat.le_of_ble_eq_true rfl) ⟨Nat.le_of_ble_eq_true rfl, Nat.le_of_ble_eq_true rfl⟩ d_HD_access_55) hS (fun H locs nw1 sp1 hR hS => ?_)
        refine lv_iconst (v := 1) hx hb d_HD_access_58 (by decide) ?_
        have hcase : st = 2 ∨ (st = 1 ∧ o = 0) := by omega
        refine W.widen (k := 1) (n := 8) (by decide) (by decide) ?_
        have eS : s_acc g c pl b (nI o) = (1, s_perform g c pl b, []) := by
          rw [s_acc]
          rcases hcase with h2 | ⟨h1, h0⟩
          · rw [if_pos (hs2.mpr h2)]
          · rw [if_neg (fun e9 => absurd (hs2.mp e9) (by omega)), if_pos (hs1.mpr h1), if_pos (ho0.mpr h0)]
        rw [eS]
        rw [show M ++ ((1 : Int32), s_perform g c pl b, ([] : List Msg)).2.2 = M from List.append_nil M]
        exact x_iret (nw := nw1) E hR hS rfl rfl d_HD_access_59
