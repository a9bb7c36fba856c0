theorem ck_HD_7 : CallKS R_HD 7 y_Op_values b_Op_values 0 (some (FieldType.array (FieldType.object "HomeDirectory$Op"))) 0 := ⟨gdS zm_HD_7 zS_Op_values zn_Op zk_Op_values, by decide +kernel⟩
theorem ck_HD_51 : CallKS R_HD 51 y_Math_min b_Math_min 2 (some FieldType.int) 2 := ⟨gdS zm_HD_51 zS_Math_min zn_Math zk_Math_min, by decide +kernel⟩
theorem ck_HD_57 : CallKS R_HD 57 y_Math_max b_Math_max 2 (some FieldType.int) 2 := ⟨gdS zm_HD_57 zS_Math_max zn_Math zk_Math_max, by decide +kernel⟩
theorem ck_HD_74 : CallK R_HD 74 R_HD y_HD_core b_HD_core 2 (some (FieldType.object "HomeDirectory$Core")) 1 := ⟨gdV zm_HD_74 zi_HD_core zs_HD_HD_core zn_HD zk_HD_core, by decide +kernel⟩
theorem ck_HD_81 : CallK R_HD 81 R_Op y_Op_accesses b_Op_accesses 1 (some FieldType.boolean) 0 := ⟨gdV zm_HD_81 zi_Op_accesses zs_Op_Op_accesses zn_Op zk_Op_accesses, by decide +kernel⟩
theorem ck_HD_85 : CallKS R_HD 85 y_HD_isBlock b_HD_isBlock 1 (some FieldType.boolean) 1 := ⟨gdS zm_HD_85 zS_HD_isBlock zn_HD zk_HD_isBlock, by decide +kernel⟩
theorem ck_HD_106 : CallK R_HD 106 R_Core y_Core_compute b_Core_compute 4 none 2 := ⟨gdV zm_HD_106 zi_Core_compute zs_Core_Core_compute zn_Core zk_Core_compute, by decide +kernel⟩
theorem ck_HD_110 : CallK R_HD 110 R_HD y_HD_access b_HD_access 10 (some FieldType.int) 4 := ⟨gdV zm_HD_110 zi_HD_access zs_HD_HD_access zn_HD zk_HD_access, by decide +kernel⟩
theorem ck_HD_127 : CallK R_HD 127 R_HD y_HD_perform b_HD_perform 4 none 3 := ⟨gdV zm_HD_127 zi_HD_perform zs_HD_HD_perform zn_HD zk_HD_perform, by decide +kernel⟩
theorem ck_HD_146 : CallK R_HD 146 R_Core y_Core_perform b_Core_perform 4 none 2 := ⟨gdV zm_HD_146 zi_Core_perform zs_Core_Core_perform zn_Core zk_Core_perform, by decide +kernel⟩
theorem ck_HD_137 : CallK R_HD 137 R_Line y_Line_leave b_Line_leave 1 none 0 := ⟨gdV zm_HD_137 zi_Line_leave zs_Line_Line_leave zn_Line zk_Line_leave, by decide +kernel⟩
theorem ck_HD_140 : CallK R_HD 140 R_Line y_Line_fetch b_Line_fetch 1 none 0 := ⟨gdV zm_HD_140 zi_Line_fetch zs_Line_Line_fetch zn_Line zk_Line_fetch, by decide +kernel⟩
theorem ck_HD_143 : CallK R_HD 143 R_Line y_Line_gain b_Line_gain 1 none 0 := ⟨gdV zm_HD_143 zi_Line_gain zs_Line_Line_gain zn_Line zk_Line_gain, by decide +kernel⟩
theorem ck_HD_152 : CallK R_HD 152 R_Net y_Net_at b_Net_at 4 (some (FieldType.object "HomeDirectory$Message")) 1 := ⟨gdV zm_HD_152 zi_Net_at zs_Net_Net_at zn_Net zk_Net_at, by decide +kernel⟩
theorem ck_HD_168 : CallK R_HD 168 R_Net y_Net_behind b_Net_behind 3 (some FieldType.boolean) 1 := ⟨gdV zm_HD_168 zi_Net_behind zs_Net_Net_behind zn_Net zk_Net_behind, by decide +kernel⟩
theorem ck_HD_183 : CallK R_HD 183 R_HD y_HD_wake b_HD_wake 5 none 2 := ⟨gdV zm_HD_183 zi_HD_wake zs_HD_HD_wake zn_HD zk_HD_wake, by decide +kernel⟩
theorem ck_HD_187 : CallK R_HD 187 R_Net y_Net_remove b_Net_remove 4 none 1 := ⟨gdV zm_HD_187 zi_Net_remove zs_Net_Net_remove zn_Net zk_Net_remove, by decide +kernel⟩
theorem ck_HD_214 : CallK R_HD 214 R_HD y_HD_lineOf b_HD_lineOf 3 (some (FieldType.object "HomeDirectory$Line")) 2 := ⟨gdV zm_HD_214 zi_HD_lineOf zs_HD_HD_lineOf zn_HD zk_HD_lineOf, by decide +kernel⟩
theorem gu_HD_198 : GoodIn wz (va_wsU R_HD 198 R_Kind "java/lang/Enum" ⟨"HomeDirectory$Kind", "ordinal", "()I"⟩ y_Enum_ordinal (k_Enum_ordinal :: wz)) := gdU zm_HD_198 zM_Kind_ordinal zs_Kind_Enum_ordinal_v zi_Enum_ordinal zn_Enum zk_Enum_ordinal
theorem gu_HD_231 : GoodIn wz (va_wsU R_HD 231 R_Std "java/lang/Enum" ⟨"HomeDirectory$Standing", "ordinal", "()I"⟩ y_Enum_ordinal (k_Enum_ordinal :: wz)) := gdU zm_HD_231 zM_Std_ordinal zs_Std_Enum_ordinal_v zi_Enum_ordinal zn_Enum zk_Enum_ordinal
theorem i32_34 {x : Int32} : 3 < x ↔ 4 ≤ x := by
  rw [Int32.lt_iff_toInt_lt, Int32.le_iff_toInt_le]
  have e3 : (3 : Int32).toInt = 3 := by decide
  have e4 : (4 : Int32).toInt = 4 := by decide
  rw [e3, e4]
  omega
theorem i32_15 {x : Int32} : 15 < x ↔ ¬ x < 16 := by
  rw [Int32.lt_iff_toInt_lt, Int32.lt_iff_toInt_lt]
  have e3 : (15 : Int32).toInt = 15 := by decide
  have e4 : (16 : Int32).toInt = 16 := by decide
  rw [e3, e4]
  omega
def s_coreR (ad : Nat → Nat → Nat) (N : Nat) (x : Int32) : Option Nat := if x < 0 then none else if x < nI N then some (ad 8 x.toNatClampNeg) else none
theorem core_none {ad : Nat → Nat → Nat} {g : PS} {N : Nat} {x : Int32} (hN : g 0 0 = nI N) (h : s_isCore g x = 0) : s_coreR ad N x = none := by
  unfold s_isCore at h
  unfold s_coreR
  by_cases h0 : x < 0
  · rw [if_pos h0]
  · rw [if_neg h0] at h ⊢
    by_cases h1 : g 0 0 ≤ x
    · rw [hN] at h1
      rw [if_neg (Int32.not_lt.mpr h1)]
    · rw [if_neg h1] at h
      exact absurd h (by decide)
theorem core_some {ad : Nat → Nat → Nat} {N c : Nat} (hN4 : N ≤ 4) (hc : c < N) : s_coreR ad N (nI c) = some (ad 8 c) := by
  unfold s_coreR
  rw [if_neg (nI_pos (by omega)), if_pos (nI_lt hc (by omega)), nI_clamp (by omega)]
def s_lineR (ad : Nat → Nat → Nat) (N : Nat) (x y : Int32) : Option Nat := if s_coreR ad N x = none then none else if s_isBlock y = 0 then none else some (ad 11 (4 * x.toNatClampNeg + y.toNatClampNeg))
set_option maxHeartbeats 4000000 in
set_option maxRecDepth 100000 in
theorem c_Op_accesses (l : Launch) (D : va_G) (dA : Nat → ClassId) (eA ad : Nat → Nat → Nat) (A : Nat → Prop) (N : Nat) (g : PS) (M : List Msg) (as sp : List Nat) (o : Nat) (ho : o < 6) : Met l y_Op_accesses (k_Op_accesses :: wz) (rml 0 0 0) (va_Pc [.ref (eA 2 o)] (PX D dA eA ad A N g M as sp)) (QcRead (s_access (nI o))) 0 0 (fun _ => False) := by
  refine x_entry (by decide) (Nat.le_of_ble_eq_true rfl) ?_
  intro p e s m below meth c0 E hA hC hR ls hl
  have hx := E.1
  have hb := E.2.1
  have hS : va_S A s.heap s.heap [] := va_S.rf
  replace hl : lv_has ls 1 [(0, .ref (eA 2 o))] := hl
  refine lv_aload_n hx hb d_Op_accesses_0 rfl (lv_at hl 0 rfl) ?_
  refine x_gets (eA := eA) hC.2.2.2.1 E hS 0 (by decide) zf_Op_3 d_Op_accesses_1 ?_
  refine lv_acmpR_eq (tgt := 21) hx hb d_Op_accesses_4 (by decide) (fun h1 => ?_) (fun h1 => ?_)
  · replace h1 : o = 0 := hC.2.2.2.1.2 o 0 (show o < 6 by omega) (by decide) h1
    refine lv_iconst (v := 1) hx hb d_Op_accesses_21 (by decide) ?_
    refine lv_goto (tgt := 26) hx hb d_Op_accesses_22 (by decide) ?_
    exact t_read E rfl (by rcases (show o = 0 ∨ o = 1 ∨ o = 2 ∨ o = 3 ∨ o = 4 ∨ o = 5 by omega) with rfl | rfl | rfl | rfl | rfl | rfl <;> first | decide | omega) d_Op_accesses_26
  · replace h1 : ¬ o = 0 := fun e9 => h1 (by rw [e9])
    refine lv_aload_n hx hb d_Op_accesses_7 rfl (lv_at hl 0 rfl) ?_
    refine x_gets (eA := eA) hC.2.2.2.1 E hS 1 (by decide) zf_Op_7 d_Op_accesses_8 ?_
    refine lv_acmpR_eq (tgt := 21) hx hb d_Op_accesses_11 (by decide) (fun h2 => ?_) (fun h2 => ?_)
    · replace h2 : o = 1 := hC.2.2.2.1.2 o 1 (show o < 6 by omega) (by decide) h2
      refine lv_iconst (v := 1) hx hb d_Op_accesses_21 (by decide) ?_
      refine lv_goto (tgt := 26) hx hb d_Op_accesses_22 (by decide) ?_
      exact t_read E rfl (by rcases (show o = 0 ∨ o = 1 ∨ o = 2 ∨ o = 3 ∨ o = 4 ∨ o = 5 by omega) with rfl | rfl | rfl | rfl | rfl | rfl <;> first | decide | omega) d_Op_accesses_26
    · replace h2 : ¬ o = 1 := fun e9 => h2 (by rw [e9])
      refine lv_aload_n hx hb d_Op_accesses_14 rfl (lv_at hl 0 rfl) ?_
      refine x_gets (eA := eA) hC.2.2.2.1 E hS 5 (by decide) zf_Op_19 d_Op_accesses_15 ?_
      refine lv_acmpR_ne (tgt := 25) hx hb d_Op_accesses_18 (by decide) (fun h3 => ?_) (fun h3 => ?_)
      · replace h3 : ¬ o = 5 := fun e9 => h3 (by rw [e9])
        refine lv_iconst (v := 0) hx hb d_Op_accesses_25 (by decide) ?_
        exact t_read E rfl (by rcases (show o = 0 ∨ o = 1 ∨ o = 2 ∨ o = 3 ∨ o = 4 ∨ o = 5 by omega) with rfl | rfl | rfl | rfl | rfl | rfl <;> first | decide | omega) d_Op_accesses_26
      · replace h3 : o = 5 := hC.2.2.2.1.2 o 5 (show o < 6 by omega) (by decide) h3
        refine lv_iconst (v := 1) hx hb d_Op_accesses_21 (by decide) ?_
        refine lv_goto (tgt := 26) hx hb d_Op_accesses_22 (by decide) ?_
        exact t_read E rfl (by rcases (show o = 0 ∨ o = 1 ∨ o = 2 ∨ o = 3 ∨ o = 4 ∨ o = 5 by omega) with rfl | rfl | rfl | rfl | rfl | rfl <;> first | decide | omega) d_Op_accesses_26
theorem c_HD_isBlock (l : Launch) (x : Int32) : Met l y_HD_isBlock (k_HD_isBlock :: wz) (rml 0 0 0) (fun v _ => v = ([.int x] : List Value).toArray) (QcRead (s_isBlock x)) 0 0 (fun _ => False) := by
  refine st_entry (by decide) (Nat.le_of_ble_eq_true rfl) ?_
  intro p e s m below meth c0 E ls hl
  have hx := E.1
  have hb := E.2.1
  replace hl : lv_has ls 1 [(0, .int x)] := hl
  refine lv_iload_n hx hb d_HD_isBlock_0 rfl (lv_at hl 0 rfl) ?_
  refine lv_if_lt (tgt := 13) hx hb d_HD_isBlock_1 (by decide) (fun h1 => ?_) (fun h1 => ?_)
  · refine lv_iconst (v := 0) hx hb d_HD_isBlock_13 (by decide) ?_
    exact t_read E rfl (by simp [s_isBlock, i32_34, h1]) d_HD_isBlock_14
  · refine lv_iload_n hx hb d_HD_isBlock_4 rfl (lv_at hl 0 rfl) ?_
    refine lv_iconst (v := 4) hx hb d_HD_isBlock_5 (by decide) ?_
    refine lv_icmp_ge (tgt := 13) hx hb d_HD_isBlock_6 (by decide) (fun h2 => ?_) (fun h2 => ?_)
    · refine lv_iconst (v := 0) hx hb d_HD_isBlock_13 (by decide) ?_
      exact t_read E rfl (by simp [s_isBlock, i32_34, h1, h2]) d_HD_isBlock_14
    · refine lv_iconst (v := 1) hx hb d_HD_isBlock_9 (by decide) ?_
      refine lv_goto (tgt := 14) hx hb d_HD_isBlock_10 (by decide) ?_
      exact t_read E rfl (by simp [s_isBlock, i32_34, h1, h2]) d_HD_isBlock_14
set_option maxHeartbeats 4000000 in
set_option maxRecDepth 100000 in
theorem c_HD_core (l : Launch) (D : va_G) (dA : Nat → ClassId) (eA ad : Nat → Nat → Nat) (A : Nat → Prop) (N : Nat) (g : PS) (M : List Msg) (as sp : List Nat) (x : Int32) (hN4 : N ≤ 4) : Met l y_HD_core (k_HD_core :: wz) (rml 0 0 0) (va_Pc [.ref (ad 0 0), .int x] (PX D dA eA ad A N g M as sp)) (QcRef (s_coreR ad N x)) 0 0 (fun _ => False) := by
  refine x_entry (by decide) (Nat.le_of_ble_eq_true rfl) ?_
  intro p e s m below meth c0 E hA hC hR ls hl
  have hx := E.1
  have hb := E.2.1
  have hS : va_S A s.heap s.heap [] := va_S.rf
  replace hl : lv_has ls 2 [(0, .ref (ad 0 0)), (1, .int x)] := hl
  refine lv_iload_n hx hb d_HD_core_0 rfl (lv_at hl 1 rfl) ?_
  refine lv_if_lt (tgt := 12) hx hb d_HD_core_1 (by decide) (fun h1 => ?_) (fun h1 => ?_)
  · refine lv_null hx hb d_HD_core_12 ?_
    refine lv_goto (tgt := 22) hx hb d_HD_core_13 (by decide) ?_
    exact x_qret (q := s_coreR ad N x) E (by rw [s_coreR]; rw [if_pos h1]; rfl) d_HD_core_22
  · refine lv_iload_n hx hb d_HD_core_4 rfl (lv_at hl 1 rfl) ?_
    refine lv_aload_n hx hb d_HD_core_5 rfl (lv_at hl 0 rfl) ?_
    refine xg_HD E hC hR 0 (by decide) zf_HD_60 rfl d_HD_core_6 ?_
    refine lv_icmp_lt (tgt := 16) hx hb d_HD_core_9 (by decide) (fun h2 => ?_) (fun h2 => ?_)
    · have hlt := h2
      obtain ⟨c, hc, rfl⟩ := ix_of (by omega) h1 (fun q => absurd h2 (Int32.not_lt.mpr q))
      refine lv_aload_n hx hb d_HD_core_16 rfl (lv_at hl 0 rfl) ?_
      refine xg_HD E hC hR 5 (by decide) zf_HD_35 rfl d_HD_core_17 ?_
      refine lv_iload_n hx hb d_HD_core_20 rfl (lv_at hl 1 rfl) ?_
      refine xl_Cores E hC hR (j := c) (by omega) hN4 d_HD_core_21 ?_
      exact x_qret (q := s_coreR ad N (nI c)) E (by rw [core_some hN4 hc]; rfl) d_HD_core_22
    · refine lv_null hx hb d_HD_core_12 ?_
      refine lv_goto (tgt := 22) hx hb d_HD_core_13 (by decide) ?_
      exact x_qret (q := s_coreR ad N x) E (by rw [s_coreR]; rw [if_neg h1, if_neg h2]; rfl) d_HD_core_22
set_option maxHeartbeats 4000000 in
set_option maxRecDepth 100000 in
theorem c_HD_accumulator (l : Launch) (D : va_G) (dA : Nat → ClassId) (eA ad : Nat → Nat → Nat) (A : Nat → Prop) (N : Nat) (g : PS) (M : List Msg) (as sp : List Nat) (x : Int32) (hN : g 0 0 = nI N) (hN4 : N ≤ 4) : Met l y_HD_accumulator (k_HD_accumulator :: wz) (rml 1 0 0) (va_Pc [.ref (ad 0 0), .int x] (PX D dA eA ad A N g M as sp)) (QcRead (s_accum g x)) 0 0 (fun _ => False) := by
  refine x_entry (by decide) (Nat.le_of_ble_eq_true rfl) ?_
  intro p e s m below meth c0 E hA hC hR ls hl
  have hx := E.1
  have hb := E.2.1
  have hS : va_S A s.heap s.heap [] := va_S.rf
  replace hl : lv_has ls 3 [(0, .ref (ad 0 0)), (1, .int x)] := hl
  by_cases hcv : s_isCore g x = 0
  · have hcv0 := hcv
    refine lv_aload_n hx hb d_HD_accumulator_0 rfl (lv_at hl 0 rfl) ?_
    refine lv_iload_n hx hb d_HD_accumulator_1 rfl (lv_at hl 1 rfl) ?_
    refine xc_q (av := [.ref (ad 0 0), .int x]) (xrunV (As := [.int x]) (rest := []) E hA hC hR hS (c_HD_core l D dA eA ad A N g M as sp x hN4) (x_recv hC hR (s0 := 0) (i0 := 0) (show vl N 0 0 from rfl) rfl rfl) ck_HD_74 ⟨rfl, rfl⟩ ⟨Nat.le_of_ble_eq_true rfl, Nat.le_of_ble_eq_true rfl⟩ rfl (lv_sub hl [] rfl) rfl (Nat.le_of_ble_eq_true rfl) ⟨Nat.le_of_ble_eq_true rfl, Nat.le_of_ble_eq_true rfl⟩ d_HD_accumulator_2) ?_
    refine wq_eq (y := .null) (by rw [core_none hN hcv]; rfl) ?_
    refine lv_astore_nN (lv' := [(2, .null), (0, .ref (ad 0 0)), (1, .int x)]) hx hb d_HD_accumulator_5 rfl hl (by decide) rfl (fun ls hl => ?_)
    refine lv_aload_nN hx hb d_HD_accumulator_6 rfl (lv_at hl 0 rfl) ?_
    refine lv_ifnonnullN hx hb d_HD_accumulator_7 ?_
    refine lv_iconst (v := 0) hx hb d_HD_accumulator_10 (by decide) ?_
    refine lv_goto (tgt := 18) hx hb d_HD_accumulator_11 (by decide) ?_
    exact t_read E rfl (by simp [s_accum, hcv]) d_HD_accumulator_18
  · obtain ⟨c, hcN, rfl⟩ := isCore_of hN hN4 hcv
    have ec : (nI c).toNatClampNeg = c := nI_clamp (by omega)
    refine lv_aload_n hx hb d_HD_accumulator_0 rfl (lv_at hl 0 rfl) ?_
    refine lv_iload_n hx hb d_HD_accumulator_1 rfl (lv_at hl 1 rfl) ?_
    refine xc_q (av := [.ref (ad 0 0), .int (nI c)]) (xrunV (As := [.int (nI c)]) (rest := []) E hA hC hR hS (c_HD_core l D dA eA ad A N g M as sp (nI c) hN4) (x_recv hC hR (s0 := 0) (i0 := 0) (show vl N 0 0 from rfl) rfl rfl) ck_HD_74 ⟨rfl, rfl⟩ ⟨Nat.le_of_ble_eq_true rfl, Nat.le_of_ble_eq_true rfl⟩ rfl (lv_sub hl [] rfl) rfl (Nat.le_of_ble_eq_true rfl) ⟨Nat.le_of_ble_eq_true rfl, Nat.le_of_ble_eq_true rfl⟩ d_HD_accumulator_2) ?_
    refine wq_eq (y := .ref (ad 8 c)) (by rw [core_some hN4 hcN]; rfl) ?_
    refine lv_astore_n (lv' := [(2, .ref (ad 8 c)), (0, .ref (ad 0 0)), (1, .int (nI c))]) hx hb d_HD_accumulator_5 rfl hl (by decide) rfl (fun ls hl => ?_)
    refine lv_aload_n hx hb d_HD_accumulator_6 rfl (lv_at hl 0 rfl) ?_
    refine lv_ifnonnull (tgt := 14) hx hb d_HD_accumulator_7 (by decide) ?_
    refine lv_aload_n hx hb d_HD_accumulator_14 rfl (lv_at hl 0 rfl) ?_
    refine xg_Core E hC hR (show vl N 8 c from hcN) 4 (by decide) zf_HD_243 rfl d_HD_accumulator_15 ?_
    exact t_read E rfl (by simp [s_accum, hcv, ec]) d_HD_accumulator_18
set_option maxHeartbeats 4000000 in
set_option maxRecDepth 100000 in
theorem c_HD_place (l : Launch) (D : va_G) (dA : Nat → ClassId) (eA ad : Nat → Nat → Nat) (A : Nat → Prop) (N : Nat) (g : PS) (M : List Msg) (as sp : List Nat) (x : Int32) (hN : g 0 0 = nI N) (hN4 : N ≤ 4) : Met l y_HD_place (k_HD_place :: wz) (rml 1 0 0) (va_Pc [.ref (ad 0 0), .int x] (PX D dA eA ad A N g M as sp)) (QcRead (s_place g x)) 0 0 (fun _ => False) := by
  refine x_entry (by decide) (Nat.le_of_ble_eq_true rfl) ?_
  intro p e s m below meth c0 E hA hC hR ls hl
  have hx := E.1
  have hb := E.2.1
  have hS : va_S A s.heap s.heap [] := va_S.rf
  replace hl : lv_has ls 3 [(0, .ref (ad 0 0)), (1, .int x)] := hl
  by_cases hcv : s_isCore g x = 0
  · have hcv0 := hcv
    refine lv_aload_n hx hb d_HD_place_0 rfl (lv_at hl 0 rfl) ?_
    refine lv_iload_n hx hb d_HD_place_1 rfl (lv_at hl 1 rfl) ?_
    refine xc_q (av := [.ref (ad 0 0), .int x]) (xrunV (As := [.int x]) (rest := []) E hA hC hR hS (c_HD_core l D dA eA ad A N g M as sp x hN4) (x_recv hC hR (s0 := 0) (i0 := 0) (show vl N 0 0 from rfl) rfl rfl) ck_HD_74 ⟨rfl, rfl⟩ ⟨Nat.le_of_ble_eq_true rfl, Nat.le_of_ble_eq_true rfl⟩ rfl (lv_sub hl [] rfl) rfl (Nat.le_of_ble_eq_true rfl) ⟨Nat.le_of_ble_eq_true rfl, Nat.le_of_ble_eq_true rfl⟩ d_HD_place_2) ?_
    refine wq_eq (y := .null) (by rw [core_none hN hcv]; rfl) ?_
    refine lv_astore_nN (lv' := [(2, .null), (0, .ref (ad 0 0)), (1, .int x)]) hx hb d_HD_place_5 rfl hl (by decide) rfl (fun ls hl => ?_)
    refine lv_aload_nN hx hb d_HD_place_6 rfl (lv_at hl 0 rfl) ?_
    refine lv_ifnonnullN hx hb d_HD_place_7 ?_
    refine lv_iconst (v := (-1)) hx hb d_HD_place_10 (by decide) ?_
    refine lv_goto (tgt := 23) hx hb d_HD_place_11 (by decide) ?_
    exact t_read E rfl (by simp [s_place, hcv]) d_HD_place_23
  · obtain ⟨c, hcN, rfl⟩ := isCore_of hN hN4 hcv
    have ec : (nI c).toNatClampNeg = c := nI_clamp (by omega)
    refine lv_aload_n hx hb d_HD_place_0 rfl (lv_at hl 0 rfl) ?_
    refine lv_iload_n hx hb d_HD_place_1 rfl (lv_at hl 1 rfl) ?_
    refine xc_q (av := [.ref (ad 0 0), .int (nI c)]) (xrunV (As := [.int (nI c)]) (rest := []) E hA hC hR hS (c_HD_core l D dA eA ad A N g M as sp (nI c) hN4) (x_recv hC hR (s0 := 0) (i0 := 0) (show vl N 0 0 from rfl) rfl rfl) ck_HD_74 ⟨rfl, rfl⟩ ⟨Nat.le_of_ble_eq_true rfl, Nat.le_of_ble_eq_true rfl⟩ rfl (lv_sub hl [] rfl) rfl (Nat.le_of_ble_eq_true rfl) ⟨Nat.le_of_ble_eq_true rfl, Nat.le_of_ble_eq_true rfl⟩ d_HD_place_2) ?_
    refine wq_eq (y := .ref (ad 8 c)) (by rw [core_some hN4 hcN]; rfl) ?_
    refine lv_astore_n (lv' := [(2, .ref (ad 8 c)), (0, .ref (ad 0 0)), (1, .int (nI c))]) hx hb d_HD_place_5 rfl hl (by decide) rfl (fun ls hl => ?_)
    refine lv_aload_n hx hb d_HD_place_6 rfl (lv_at hl 0 rfl) ?_
    refine lv_ifnonnull (tgt := 14) hx hb d_HD_place_7 (by decide) ?_
    refine lv_aload_n hx hb d_HD_place_14 rfl (lv_at hl 0 rfl) ?_
    refine xg_Core E hC hR (show vl N 8 c from hcN) 3 (by decide) zf_HD_103 rfl d_HD_place_15 ?_
    refine lv_aload_n hx hb d_HD_place_18 rfl (lv_at hl 0 rfl) ?_
    refine xg_Core E hC hR (show vl N 8 c from hcN) 5 (by decide) zf_HD_100 rfl d_HD_place_19 ?_
    refine lv_iadd hx hb d_HD_place_22 ?_
    exact t_read E rfl (by simp [s_place, hcv, ec]) d_HD_place_23
set_option maxHeartbeats 4000000 in
set_option maxRecDepth 100000 in
theorem c_HD_messages (l : Launch) (D : va_G) (dA : Nat → ClassId) (eA ad : Nat → Nat → Nat) (A : Nat → Prop) (N : Nat) (g : PS) (M : List Msg) (as sp : List Nat)  : Met l y_HD_messages (k_HD_messages :: wz) (rml 0 0 0) (va_Pc [.ref (ad 0 0)] (PX D dA eA ad A N g M as sp)) (QcRead (nI M.length)) 0 0 (fun _ => False) := by
  refine x_entry (by decide) (Nat.le_of_ble_eq_true rfl) ?_
  intro p e s m below meth c0 E hA hC hR ls hl
  have hx := E.1
  have hb := E.2.1
  have hS : va_S A s.heap s.heap [] := va_S.rf
  replace hl : lv_has ls 1 [(0, .ref (ad 0 0))] := hl
  refine lv_aload_n hx hb d_HD_messages_0 rfl (lv_at hl 0 rfl) ?_
  refine xg_HD E hC hR 3 (by decide) zf_HD_22 rfl d_HD_messages_1 ?_
  refine xn_Net E hC hR 3 (by decide) hC.2.2.2.2.1.1 rfl d_HD_messages_4 ?_
  refine wn_eq (y := nI M.length) (by rw [hR.len]) ?_
  exact t_read E rfl rfl d_HD_messages_7
set_option maxHeartbeats 4000000 in
set_option maxRecDepth 100000 in
theorem c_HD_sent (l : Launch) (D : va_G) (dA : Nat → ClassId) (eA ad : Nat → Nat → Nat) (A : Nat → Prop) (N : Nat) (g : PS) (M : List Msg) (as sp : List Nat)  : Met l y_HD_sent (k_HD_sent :: wz) (rml 0 0 0) (va_Pc [.ref (ad 0 0)] (PX D dA eA ad A N g M as sp)) (QcRead (g 18 0)) 0 0 (fun _ => False) := by
  refine x_entry (by decide) (Nat.le_of_ble_eq_true rfl) ?_
  intro p e s m below meth c0 E hA hC hR ls hl
  have hx := E.1
  have hb := E.2.1
  have hS : va_S A s.heap s.heap [] := va_S.rf
  replace hl : lv_has ls 1 [(0, .ref (ad 0 0))] := hl
  refine lv_aload_n hx hb d_HD_sent_0 rfl (lv_at hl 0 rfl) ?_
  refine xg_HD E hC hR 3 (by decide) zf_HD_22 rfl d_HD_sent_1 ?_
  refine xn_Net E hC hR 4 (by decide) hC.2.2.2.2.1.2.1 rfl d_HD_sent_4 ?_
  exact t_read E rfl rfl d_HD_sent_7
set_option maxHeartbeats 4000000 in
set_option maxRecDepth 100000 in
theorem c_HD_performed (l : Launch) (D : va_G) (dA : Nat → ClassId) (eA ad : Nat → Nat → Nat) (A : Nat → Prop) (N : Nat) (g : PS) (M : List Msg) (as sp : List Nat)  : Met l y_HD_performed (k_HD_performed :: wz) (rml 0 0 0) (va_Pc [.ref (ad 0 0)] (PX D dA eA ad A N g M as sp)) (QcRead (g 19 0)) 0 0 (fun _ => False) := by
  refine x_entry (by decide) (Nat.le_of_ble_eq_true rfl) ?_
  intro p e s m below meth c0 E hA hC hR ls hl
  have hx := E.1
  have hb := E.2.1
  have hS : va_S A s.heap s.heap [] := va_S.rf
  replace hl : lv_has ls 1 [(0, .ref (ad 0 0))] := hl
  refine lv_aload_n hx hb d_HD_performed_0 rfl (lv_at hl 0 rfl) ?_
  refine xg_HD E hC hR 8 (by decide) zf_HD_149 rfl d_HD_performed_1 ?_
  exact t_read E rfl rfl d_HD_performed_4
set_option maxHeartbeats 4000000 in
set_option maxRecDepth 100000 in
theorem c_HD_memory (l : Launch) (D : va_G) (dA : Nat → ClassId) (eA ad : Nat → Nat → Nat) (A : Nat → Prop) (N : Nat) (g : PS) (M : List Msg) (as sp : List Nat) (x : Int32) : Met l y_HD_memory (k_HD_memory :: wz) (rml 1 0 0) (va_Pc [.ref (ad 0 0), .int x] (PX D dA eA ad A N g M as sp)) (QcRead (s_memory g x)) 0 0 (fun _ => False) := by
  refine x_entry (by decide) (Nat.le_of_ble_eq_true rfl) ?_
  intro p e s m below meth c0 E hA hC hR ls hl
  have hx := E.1
  have hb := E.2.1
  have hS : va_S A s.heap s.heap [] := va_S.rf
  replace hl : lv_has ls 2 [(0, .ref (ad 0 0)), (1, .int x)] := hl
  refine lv_iload_n hx hb d_HD_memory_0 rfl (lv_at hl 1 rfl) ?_
  refine s_callR (As := [.int x]) (rest := []) E (c_HD_isBlock l x) ck_HD_85 ⟨rfl, rfl⟩ ⟨Nat.le_of_ble_eq_true rfl, Nat.le_of_ble_eq_true rfl⟩ rfl (lv_sub hl [] rfl) rfl (Nat.le_of_ble_eq_true rfl) ⟨Nat.le_of_ble_eq_true rfl, Nat.le_of_ble_eq_true rfl⟩ d_HD_memory_1 ?_
  refine lv_if_eq (tgt := 19) hx hb d_HD_memory_4 (by decide) (fun h1 => ?_) (fun h1 => ?_)
  · refine lv_iconst (v := 0) hx hb d_HD_memory_19 (by decide) ?_
    exact t_read E rfl (by simp [s_memory, h1]) d_HD_memory_20
  · have hbv := h1
    obtain ⟨b, hb4, rfl⟩ := isBlock_of h1
    have eb : (nI b).toNatClampNeg = b := nI_clamp (by omega)
    refine lv_aload_n hx hb d_HD_memory_7 rfl (lv_at hl 0 rfl) ?_
    refine xg_HD E hC hR 7 (by decide) zf_HD_47 rfl d_HD_memory_8 ?_
    refine lv_iload_n hx hb d_HD_memory_11 rfl (lv_at hl 1 rfl) ?_
    refine xl_Homes E hC hR (j := b) (by omega) d_HD_memory_12 ?_
    refine xn_Home E hC hR (show b < 4 by omega) 5 (by decide) hC.2.2.2.2.1.2.2.2.2.2.1 rfl d_HD_memory_13 ?_
    refine lv_goto (tgt := 20) hx hb d_HD_memory_16 (by decide) ?_
    exact t_read E rfl (by simp [s_memory, hbv, eb]) d_HD_memory_20
set_option maxHeartbeats 4000000 in
set_option maxRecDepth 100000 in
theorem c_HD_home (l : Launch) (D : va_G) (dA : Nat → ClassId) (eA ad : Nat → Nat → Nat) (A : Nat → Prop) (N : Nat) (g : PS) (M : List Msg) (as sp : List Nat) (x : Int32) (hk : ∀ b, b < 4 → ∃ st, st < 4 ∧ g 14 b = nI st) (hom : ∀ b, b < 4 → ¬ g 14 b = 2 → g 15 b = -1) : Met l y_HD_home (k_HD_home :: wz) (rml 1 0 0) (va_Pc [.ref (ad 0 0), .int x] (PX D dA eA ad A N g M as sp)) (QcRead (s_home g x)) 0 0 (fun _ => False) := by
  refine x_entry (by decide) (Nat.le_of_ble_eq_true rfl) ?_
  intro p e s m below meth c0 E hA hC hR ls hl
  have hx := E.1
  have hb := E.2.1
  have hS : va_S A s.heap s.heap [] := va_S.rf
  replace hl : lv_has ls 3 [(0, .ref (ad 0 0)), (1, .int x)] := hl
  refine lv_iload_n hx hb d_HD_home_0 rfl (lv_at hl 1 rfl) ?_
  refine s_callR (As := [.int x]) (rest := []) E (c_HD_isBlock l x) ck_HD_85 ⟨rfl, rfl⟩ ⟨Nat.le_of_ble_eq_true rfl, Nat.le_of_ble_eq_true rfl⟩ rfl (lv_sub hl [] rfl) rfl (Nat.le_of_ble_eq_true rfl) ⟨Nat.le_of_ble_eq_true rfl, Nat.le_of_ble_eq_true rfl⟩ d_HD_home_1 ?_
  refine lv_if_ne (tgt := 9) hx hb d_HD_home_4 (by decide) (fun h1 => ?_) (fun h1 => ?_)
  · have hbv := h1
    obtain ⟨b, hb4, rfl⟩ := isBlock_of h1
    have eb : (nI b).toNatClampNeg = b := nI_clamp (by omega)
    obtain ⟨st, hst4, hst⟩ := hk b hb4
    refine lv_aload_n hx hb d_HD_home_9 rfl (lv_at hl 0 rfl) ?_
    refine xg_HD E hC hR 7 (by decide) zf_HD_47 rfl d_HD_home_10 ?_
    refine lv_iload_n hx hb d_HD_home_13 rfl (lv_at hl 1 rfl) ?_
    refine xl_Homes E hC hR (j := b) (by omega) d_HD_home_14 ?_
    refine lv_astore_n (lv' := [(2, .ref (ad 12 b)), (0, .ref (ad 0 0)), (1, .int (nI b))]) hx hb d_HD_home_15 rfl hl (by decide) rfl (fun ls hl => ?_)
    refine lv_aload_n hx hb d_HD_home_16 rfl (lv_at hl 0 rfl) ?_
    refine xn_Home E hC hR (show b < 4 by omega) 2 (by decide) hC.2.2.2.2.1.2.2.1 rfl d_HD_home_17 ?_
    refine wr_eq (y := eA 1 st) (congrArg (eA 1) (by rw [show g 14 b = nI st from hst]; exact nI_clamp (by omega))) ?_
    refine xc_R (av := [.ref (eA 1 st)]) (xrunU (n := 0) (As := []) (rest := []) E hA hC hR hS (c_ord_Std l D dA eA ad A N g M as sp hst4) (va_recvE hC.2.2.1 hst4 hS) gu_HD_231 hC.2.2.2.2.2.2.2.1.2 (by decide +kernel) ⟨rfl, rfl⟩ ⟨Nat.le_of_ble_eq_true rfl, Nat.le_of_ble_eq_true rfl⟩ rfl (lv_sub hl [] rfl) rfl (Nat.le_of_ble_eq_true rfl) ⟨Nat.le_of_ble_eq_true rfl, Nat.le_of_ble_eq_true rfl⟩ d_HD_home_20) ?_
    refine lv_iconst (v := 4) hx hb d_HD_home_23 (by decide) ?_
    refine lv_aload_n hx hb d_HD_home_24 rfl (lv_at hl 0 rfl) ?_
    refine xn_Home E hC hR (show b < 4 by omega) 3 (by decide) hC.2.2.2.2.1.2.2.2.1 rfl d_HD_home_25 ?_
    refine lv_iconst (v := 1) hx hb d_HD_home_28 (by decide) ?_
    refine lv_iadd hx hb d_HD_home_29 ?_
    refine lv_imul hx hb d_HD_home_30 ?_
    refine lv_iadd hx hb d_HD_home_31 ?_
    refine lv_bipush (v := 32) hx hb d_HD_home_32 (by decide) ?_
    refine lv_aload_n hx hb d_HD_home_34 rfl (lv_at hl 0 rfl) ?_
    refine xn_Home E hC hR (show b < 4 by omega) 4 (by decide) hC.2.2.2.2.1.2.2.2.2.1 rfl d_HD_home_35 ?_
    refine wn_mul hx hb (a := 32) (b := s_set g b 4) d_HD_home_38 ?_
    refine lv_iadd hx hb d_HD_home_39 ?_
    exact t_read E rfl (by
      rw [s_home, if_neg hbv, eb, ← hst]
      by_cases h2 : g 14 b = 2
      · rw [if_pos h2]
      · rw [if_neg h2, hom b hb4 h2]; rfl) d_HD_home_40
  · refine lv_iconst (v := (-1)) hx hb d_HD_home_7 (by decide) ?_
    exact t_read E rfl (by simp [s_home, h1]) d_HD_home_8
set_option maxHeartbeats 4000000 in
set_option maxRecDepth 100000 in
theorem c_HD_lineOf (l : Launch) (D : va_G) (dA : Nat → ClassId) (eA ad : Nat → Nat → Nat) (A : Nat → Prop) (N : Nat) (g : PS) (M : List Msg) (as sp : List Nat) (x y : Int32) (hN : g 0 0 = nI N) (hN4 : N ≤ 4) : Met l y_HD_lineOf (k_HD_lineOf :: wz) (rml 1 0 0) (va_Pc [.ref (ad 0 0), .int x, .int y] (PX D dA eA ad A N g M as sp)) (QcRef (s_lineR ad N x y)) 0 0 (fun _ => False) := by
  refine x_entry (by decide) (Nat.le_of_ble_eq_true rfl) ?_
  intro p e s m below meth c0 E hA hC hR ls hl
  have hx := E.1
  have hb := E.2.1
  have hS : va_S A s.heap s.heap [] := va_S.rf
  replace hl : lv_has ls 3 [(0, .ref (ad 0 0)), (1, .int x), (2, .int y)] := hl
  by_cases hcv : s_isCore g x = 0
  · have hcv0 := hcv
    refine lv_aload_n hx hb d_HD_lineOf_0 rfl (lv_at hl 0 rfl) ?_
    refine lv_iload_n hx hb d_HD_lineOf_1 rfl (lv_at hl 1 rfl) ?_
    refine xc_q (av := [.ref (ad 0 0), .int x]) (xrunV (As := [.int x]) (rest := []) E hA hC hR hS (c_HD_core l D dA eA ad A N g M as sp x hN4) (x_recv hC hR (s0 := 0) (i0 := 0) (show vl N 0 0 from rfl) rfl rfl) ck_HD_74 ⟨rfl, rfl⟩ ⟨Nat.le_of_ble_eq_true rfl, Nat.le_of_ble_eq_true rfl⟩ rfl (lv_sub hl [] rfl) rfl (Nat.le_of_ble_eq_true rfl) ⟨Nat.le_of_ble_eq_true rfl, Nat.le_of_ble_eq_true rfl⟩ d_HD_lineOf_2) ?_
    refine wq_eq (y := .null) (by rw [core_none hN hcv]; rfl) ?_
    refine lv_ifnullN (tgt := 15) hx hb d_HD_lineOf_5 (by decide) ?_
    refine lv_null hx hb d_HD_lineOf_15 ?_
    refine lv_goto (tgt := 29) hx hb d_HD_lineOf_16 (by decide) ?_
    exact x_qret (q := s_lineR ad N x y) E (by rw [s_lineR, if_pos (core_none hN hcv)]; rfl) d_HD_lineOf_29
  · obtain ⟨c, hcN, rfl⟩ := isCore_of hN hN4 hcv
    have ec : (nI c).toNatClampNeg = c := nI_clamp (by omega)
    refine lv_aload_n hx hb d_HD_lineOf_0 rfl (lv_at hl 0 rfl) ?_
    refine lv_iload_n hx hb d_HD_lineOf_1 rfl (lv_at hl 1 rfl) ?_
    refine xc_q (av := [.ref (ad 0 0), .int (nI c)]) (xrunV (As := [.int (nI c)]) (rest := []) E hA hC hR hS (c_HD_core l D dA eA ad A N g M as sp (nI c) hN4) (x_recv hC hR (s0 := 0) (i0 := 0) (show vl N 0 0 from rfl) rfl rfl) ck_HD_74 ⟨rfl, rfl⟩ ⟨Nat.le_of_ble_eq_true rfl, Nat.le_of_ble_eq_true rfl⟩ rfl (lv_sub hl [] rfl) rfl (Nat.le_of_ble_eq_true rfl) ⟨Nat.le_of_ble_eq_true rfl, Nat.le_of_ble_eq_true rfl⟩ d_HD_lineOf_2) ?_
    refine wq_eq (y := .ref (ad 8 c)) (by rw [core_some hN4 hcN]; rfl) ?_
    refine lv_ifnull hx hb d_HD_lineOf_5 ?_
    refine lv_iload_n hx hb d_HD_lineOf_8 rfl (lv_at hl 2 rfl) ?_
    refine s_callR (As := [.int y]) (rest := []) E (c_HD_isBlock l y) ck_HD_85 ⟨rfl, rfl⟩ ⟨Nat.le_of_ble_eq_true rfl, Nat.le_of_ble_eq_true rfl⟩ rfl (lv_sub hl [] rfl) rfl (Nat.le_of_ble_eq_true rfl) ⟨Nat.le_of_ble_eq_true rfl, Nat.le_of_ble_eq_true rfl⟩ d_HD_lineOf_9 ?_
    refine lv_if_ne (tgt := 19) hx hb d_HD_lineOf_12 (by decide) (fun h1 => ?_) (fun h1 => ?_)
    · have hbv := h1
      obtain ⟨b, hb4, rfl⟩ := isBlock_of h1
      have eb : (nI b).toNatClampNeg = b := nI_clamp (by omega)
      refine lv_aload_n hx hb d_HD_lineOf_19 rfl (lv_at hl 0 rfl) ?_
      refine xg_HD E hC hR 6 (by decide) zf_HD_41 rfl d_HD_lineOf_20 ?_
      refine lv_iconst (v := 4) hx hb d_HD_lineOf_23 (by decide) ?_
      refine lv_iload_n hx hb d_HD_lineOf_24 rfl (lv_at hl 1 rfl) ?_
      refine wn_mul hx hb (a := 4) (b := c) d_HD_lineOf_25 ?_
      refine lv_iload_n hx hb d_HD_lineOf_26 rfl (lv_at hl 2 rfl) ?_
      refine wn_add hx hb (a := 4 * c) (b := b) d_HD_lineOf_27 ?_
      refine xl_Lines E hC hR (j := 4 * c + b) (by omega) hN4 d_HD_lineOf_28 ?_
      exact x_qret (q := s_lineR ad N (nI c) (nI b)) E (by rw [s_lineR, core_some hN4 hcN, if_neg (by simp), if_neg hbv, ec, eb]; rfl) d_HD_lineOf_29
    · refine lv_null hx hb d_HD_lineOf_15 ?_
      refine lv_goto (tgt := 29) hx hb d_HD_lineOf_16 (by decide) ?_
      exact x_qret (q := s_lineR ad N (nI c) y) E (by rw [s_lineR, core_some hN4 hcN, if_neg (by simp), if_pos h1]; rfl) d_HD_lineOf_29
set_option maxHeartbeats 4000000 in
set_option maxRecDepth 100000 in
theorem c_HD_line (l : Launch) (D : va_G) (dA : Nat → ClassId) (eA ad : Nat → Nat → Nat) (A : Nat → Prop) (N : Nat) (g : PS) (M : List Msg) (as sp : List Nat) (x y : Int32) (hN : g 0 0 = nI N) (hN4 : N ≤ 4) (hl8 : ∀ c b, c < N → b < 4 → ∃ st, st < 11 ∧ g 8 (4 * c + b) = nI st) : Met l y_HD_line (k_HD_line :: wz) (rml 2 0 0) (va_Pc [.ref (ad 0 0), .int x, .int y] (PX D dA eA ad A N g M as sp)) (QcRead (s_line g x y)) 0 0 (fun _ => False) := by
  refine x_entry (by decide) (Nat.le_of_ble_eq_true rfl) ?_
  intro p e s m below meth c0 E hA hC hR ls hl
  have hx := E.1
  have hb := E.2.1
  have hS : va_S A s.heap s.heap [] := va_S.rf
  replace hl : lv_has ls 4 [(0, .ref (ad 0 0)), (1, .int x), (2, .int y)] := hl
  by_cases hcv : s_isCore g x = 0
  · have ec := hcv
    refine lv_aload_n hx hb d_HD_line_0 rfl (lv_at hl 0 rfl) ?_
    refine lv_iload_n hx hb d_HD_line_1 rfl (lv_at hl 1 rfl) ?_
    refine lv_iload_n hx hb d_HD_line_2 rfl (lv_at hl 2 rfl) ?_
    refine xc_q (av := [.ref (ad 0 0), .int x, .int y]) (xrunV (As := [.int x, .int y]) (rest := []) E hA hC hR hS (c_HD_lineOf l D dA eA ad A N g M as sp x y hN hN4) (x_recv hC hR (s0 := 0) (i0 := 0) (show vl N 0 0 from rfl) rfl rfl) ck_HD_214 ⟨rfl, rfl⟩ ⟨Nat.le_of_ble_eq_true rfl, Nat.le_of_ble_eq_true rfl⟩ rfl (lv_sub hl [] rfl) rfl (Nat.le_of_ble_eq_true rfl) ⟨Nat.le_of_ble_eq_true rfl, Nat.le_of_ble_eq_true rfl⟩ d_HD_line_3) ?_
    refine wq_eq (y := .null) (by rw [s_lineR, if_pos (core_none hN hcv)]; rfl) ?_
    refine lv_astore_nN (lv' := [(3, .null), (0, .ref (ad 0 0)), (1, .int x), (2, .int y)]) hx hb d_HD_line_6 rfl hl (by decide) rfl (fun ls hl => ?_)
    refine lv_aload_nN hx hb d_HD_line_7 rfl (lv_at hl 0 rfl) ?_
    refine lv_ifnonnullN hx hb d_HD_line_8 ?_
    refine lv_iconst (v := (-1)) hx hb d_HD_line_11 (by decide) ?_
    refine lv_goto (tgt := 22) hx hb d_HD_line_12 (by decide) ?_
    exact t_read E rfl (by rw [s_line, if_pos hcv]) d_HD_line_22
  · by_cases hbv : s_isBlock y = 0
    · have ec := hcv
      refine lv_aload_n hx hb d_HD_line_0 rfl (lv_at hl 0 rfl) ?_
      refine lv_iload_n hx hb d_HD_line_1 rfl (lv_at hl 1 rfl) ?_
      refine lv_iload_n hx hb d_HD_line_2 rfl (lv_at hl 2 rfl) ?_
      refine xc_q (av := [.ref (ad 0 0), .int x, .int y]) (xrunV (As := [.int x, .int y]) (rest := []) E hA hC hR hS (c_HD_lineOf l D dA eA ad A N g M as sp x y hN hN4) (x_recv hC hR (s0 := 0) (i0 := 0) (show vl N 0 0 from rfl) rfl rfl) ck_HD_214 ⟨rfl, rfl⟩ ⟨Nat.le_of_ble_eq_true rfl, Nat.le_of_ble_eq_true rfl⟩ rfl (lv_sub hl [] rfl) rfl (Nat.le_of_ble_eq_true rfl) ⟨Nat.le_of_ble_eq_true rfl, Nat.le_of_ble_eq_true rfl⟩ d_HD_line_3) ?_
      obtain ⟨c, hcN, rfl⟩ := isCore_of hN hN4 hcv
      refine wq_eq (y := .null) (by rw [s_lineR, core_some hN4 hcN, if_neg (by simp), if_pos hbv]; rfl) ?_
      refine lv_astore_nN (lv' := [(3, .null), (0, .ref (ad 0 0)), (1, .int (nI c)), (2, .int y)]) hx hb d_HD_line_6 rfl hl (by decide) rfl (fun ls hl => ?_)
      refine lv_aload_nN hx hb d_HD_line_7 rfl (lv_at hl 0 rfl) ?_
      refine lv_ifnonnullN hx hb d_HD_line_8 ?_
      refine lv_iconst (v := (-1)) hx hb d_HD_line_11 (by decide) ?_
      refine lv_goto (tgt := 22) hx hb d_HD_line_12 (by decide) ?_
      exact t_read E rfl (by rw [s_line, if_neg hcv, if_pos hbv]) d_HD_line_22
    · obtain ⟨c, hcN, rfl⟩ := isCore_of hN hN4 hcv
      obtain ⟨b, hb4, rfl⟩ := isBlock_of hbv
      have ec : (nI c).toNatClampNeg = c := nI_clamp (by omega)
      have eb : (nI b).toNatClampNeg = b := nI_clamp (by omega)
      obtain ⟨st, hst11, hst⟩ := hl8 c b hcN hb4
      refine lv_aload_n hx hb d_HD_line_0 rfl (lv_at hl 0 rfl) ?_
      refine lv_iload_n hx hb d_HD_line_1 rfl (lv_at hl 1 rfl) ?_
      refine lv_iload_n hx hb d_HD_line_2 rfl (lv_at hl 2 rfl) ?_
      refine xc_q (av := [.ref (ad 0 0), .int (nI c), .int (nI b)]) (xrunV (As := [.int (nI c), .int (nI b)]) (rest := []) E hA hC hR hS (c_HD_lineOf l D dA eA ad A N g M as sp (nI c) (nI b) hN hN4) (x_recv hC hR (s0 := 0) (i0 := 0) (show vl N 0 0 from rfl) rfl rfl) ck_HD_214 ⟨rfl, rfl⟩ ⟨Nat.le_of_ble_eq_true rfl, Nat.le_of_ble_eq_true rfl⟩ rfl (lv_sub hl [] rfl) rfl (Nat.le_of_ble_eq_true rfl) ⟨Nat.le_of_ble_eq_true rfl, Nat.le_of_ble_eq_true rfl⟩ d_HD_line_3) ?_
      refine wq_eq (y := .ref (ad 11 (4 * c + b))) (by rw [s_lineR, core_some hN4 hcN, if_neg (by simp), if_neg hbv, ec, eb]; rfl) ?_
      refine lv_astore_n (lv' := [(3, .ref (ad 11 (4 * c + b))), (0, .ref (ad 0 0)), (1, .int (nI c)), (2, .int (nI b))]) hx hb d_HD_line_6 rfl hl (by decide) rfl (fun ls hl => ?_)
      refine lv_aload_n hx hb d_HD_line_7 rfl (lv_at hl 0 rfl) ?_
      refine lv_ifnonnull (tgt := 15) hx hb d_HD_line_8 (by decide) ?_
      refine lv_aload_n hx hb d_HD_line_15 rfl (lv_at hl 0 rfl) ?_
      refine xg_Line E hC hR (show vl N 11 (4 * c + b) from (show 4 * c + b < 4 * N by omega)) 4 (by decide) zf_HD_114 rfl d_HD_line_16 ?_
      refine wr_eq (y := ad 3 st) (congrArg (ad 3) (by rw [show g 8 (4 * c + b) = nI st from hst]; exact nI_clamp (by omega))) ?_
      refine xg_code E hC hR (q := st) (by omega) zf_HD_218 d_HD_line_19 ?_
      exact t_read E rfl (by rw [s_line, if_neg hcv, if_neg hbv, ec, eb, hst]) d_HD_line_22
set_option maxHeartbeats 4000000 in
set_option maxRecDepth 100000 in
theorem c_HD_word (l : Launch) (D : va_G) (dA : Nat → ClassId) (eA ad : Nat → Nat → Nat) (A : Nat → Prop) (N : Nat) (g : PS) (M : List Msg) (as sp : List Nat) (x y : Int32) (hN : g 0 0 = nI N) (hN4 : N ≤ 4) (hl8 : ∀ c b, c < N → b < 4 → ∃ st, st < 11 ∧ g 8 (4 * c + b) = nI st) : Met l y_HD_word (k_HD_word :: wz) (rml 2 0 0) (va_Pc [.ref (ad 0 0), .int x, .int y] (PX D dA eA ad A N g M as sp)) (QcRead (s_word g x y)) 0 0 (fun _ => False) := by
  refine x_entry (by decide) (Nat.le_of_ble_eq_true rfl) ?_
  intro p e s m below meth c0 E hA hC hR ls hl
  have hx := E.1
  have hb := E.2.1
  have hS : va_S A s.heap s.heap [] := va_S.rf
  replace hl : lv_has ls 4 [(0, .ref (ad 0 0)), (1, .int x), (2, .int y)] := hl
  by_cases hcv : s_isCore g x = 0
  · have ec := hcv
    refine lv_aload_n hx hb d_HD_word_0 rfl (lv_at hl 0 rfl) ?_
    refine lv_iload_n hx hb d_HD_word_1 rfl (lv_at hl 1 rfl) ?_
    refine lv_iload_n hx hb d_HD_word_2 rfl (lv_at hl 2 rfl) ?_
    refine xc_q (av := [.ref (ad 0 0), .int x, .int y]) (xrunV (As := [.int x, .int y]) (rest := []) E hA hC hR hS (c_HD_lineOf l D dA eA ad A N g M as sp x y hN hN4) (x_recv hC hR (s0 := 0) (i0 := 0) (show vl N 0 0 from rfl) rfl rfl) ck_HD_214 ⟨rfl, rfl⟩ ⟨Nat.le_of_ble_eq_true rfl, Nat.le_of_ble_eq_true rfl⟩ rfl (lv_sub hl [] rfl) rfl (Nat.le_of_ble_eq_true rfl) ⟨Nat.le_of_ble_eq_true rfl, Nat.le_of_ble_eq_true rfl⟩ d_HD_word_3) ?_
    refine wq_eq (y := .null) (by rw [s_lineR, if_pos (core_none hN hcv)]; rfl) ?_
    refine lv_astore_nN (lv' := [(3, .null), (0, .ref (ad 0 0)), (1, .int x), (2, .int y)]) hx hb d_HD_word_6 rfl hl (by decide) rfl (fun ls hl => ?_)
    refine lv_aload_nN hx hb d_HD_word_7 rfl (lv_at hl 0 rfl) ?_
    refine lv_ifnullN (tgt := 21) hx hb d_HD_word_8 (by decide) ?_
    refine lv_iconst (v := 0) hx hb d_HD_word_21 (by decide) ?_
    refine lv_goto (tgt := 29) hx hb d_HD_word_22 (by decide) ?_
    exact t_read E rfl (by rw [s_word, if_pos hcv]) d_HD_word_29
  · by_cases hbv : s_isBlock y = 0
    · have ec := hcv
      refine lv_aload_n hx hb d_HD_word_0 rfl (lv_at hl 0 rfl) ?_
      refine lv_iload_n hx hb d_HD_word_1 rfl (lv_at hl 1 rfl) ?_
      refine lv_iload_n hx hb d_HD_word_2 rfl (lv_at hl 2 rfl) ?_
      refine xc_q (av := [.ref (ad 0 0), .int x, .int y]) (xrunV (As := [.int x, .int y]) (rest := []) E hA hC hR hS (c_HD_lineOf l D dA eA ad A N g M as sp x y hN hN4) (x_recv hC hR (s0 := 0) (i0 := 0) (show vl N 0 0 from rfl) rfl rfl) ck_HD_214 ⟨rfl, rfl⟩ ⟨Nat.le_of_ble_eq_true rfl, Nat.le_of_ble_eq_true rfl⟩ rfl (lv_sub hl [] rfl) rfl (Nat.le_of_ble_eq_true rfl) ⟨Nat.le_of_ble_eq_true rfl, Nat.le_of_ble_eq_true rfl⟩ d_HD_word_3) ?_
      obtain ⟨c, hcN, rfl⟩ := isCore_of hN hN4 hcv
      refine wq_eq (y := .null) (by rw [s_lineR, core_some hN4 hcN, if_neg (by simp), if_pos hbv]; rfl) ?_
      refine lv_astore_nN (lv' := [(3, .null), (0, .ref (ad 0 0)), (1, .int (nI c)), (2, .int y)]) hx hb d_HD_word_6 rfl hl (by decide) rfl (fun ls hl => ?_)
      refine lv_aload_nN hx hb d_HD_word_7 rfl (lv_at hl 0 rfl) ?_
      refine lv_ifnullN (tgt := 21) hx hb d_HD_word_8 (by decide) ?_
      refine lv_iconst (v := 0) hx hb d_HD_word_21 (by decide) ?_
      refine lv_goto (tgt := 29) hx hb d_HD_word_22 (by decide) ?_
      exact t_read E rfl (by rw [s_word, if_neg hcv, if_pos hbv]) d_HD_word_29
    · obtain ⟨c, hcN, rfl⟩ := isCore_of hN hN4 hcv
      obtain ⟨b, hb4, rfl⟩ := isBlock_of hbv
      have ec : (nI c).toNatClampNeg = c := nI_clamp (by omega)
      have eb : (nI b).toNatClampNeg = b := nI_clamp (by omega)
      obtain ⟨st, hst11, hst⟩ := hl8 c b hcN hb4
      refine lv_aload_n hx hb d_HD_word_0 rfl (lv_at hl 0 rfl) ?_
      refine lv_iload_n hx hb d_HD_word_1 rfl (lv_at hl 1 rfl) ?_
      refine lv_iload_n hx hb d_HD_word_2 rfl (lv_at hl 2 rfl) ?_
      refine xc_q (av := [.ref (ad 0 0), .int (nI c), .int (nI b)]) (xrunV (As := [.int (nI c), .int (nI b)]) (rest := []) E hA hC hR hS (c_HD_lineOf l D dA eA ad A N g M as sp (nI c) (nI b) hN hN4) (x_recv hC hR (s0 := 0) (i0 := 0) (show vl N 0 0 from rfl) rfl rfl) ck_HD_214 ⟨rfl, rfl⟩ ⟨Nat.le_of_ble_eq_true rfl, Nat.le_of_ble_eq_true rfl⟩ rfl (lv_sub hl [] rfl) rfl (Nat.le_of_ble_eq_true rfl) ⟨Nat.le_of_ble_eq_true rfl, Nat.le_of_ble_eq_true rfl⟩ d_HD_word_3) ?_
      refine wq_eq (y := .ref (ad 11 (4 * c + b))) (by rw [s_lineR, core_some hN4 hcN, if_neg (by simp), if_neg hbv, ec, eb]; rfl) ?_
      refine lv_astore_n (lv' := [(3, .ref (ad 11 (4 * c + b))), (0, .ref (ad 0 0)), (1, .int (nI c)), (2, .int (nI b))]) hx hb d_HD_word_6 rfl hl (by decide) rfl (fun ls hl => ?_)
      refine lv_aload_n hx hb d_HD_word_7 rfl (lv_at hl 0 rfl) ?_
      refine lv_ifnull hx hb d_HD_word_8 ?_
      refine lv_aload_n hx hb d_HD_word_11 rfl (lv_at hl 0 rfl) ?_
      refine xg_Line E hC hR (show vl N 11 (4 * c + b) from (show 4 * c + b < 4 * N by omega)) 4 (by decide) zf_HD_114 rfl d_HD_word_12 ?_
      refine wr_eq (y := ad 3 st) (congrArg (ad 3) (by rw [show g 8 (4 * c + b) = nI st from hst]; exact nI_clamp (by omega))) ?_
      refine xg_holds E hC hR (q := st) (by omega) zf_HD_223 d_HD_word_15 ?_
      refine lv_if_ne (tgt := 25) hx hb d_HD_word_18 (by decide) (fun h1 => ?_) (fun h1 => ?_)
      · refine lv_aload_n hx hb d_HD_word_25 rfl (lv_at hl 0 rfl) ?_
        refine xg_Line E hC hR (show vl N 11 (4 * c + b) from (show 4 * c + b < 4 * N by omega)) 5 (by decide) zf_HD_226 rfl d_HD_word_26 ?_
        exact t_read E rfl (by
          rw [s_word, if_neg hcv, if_neg hbv, ec, eb, hst]
          rcases (show st = 0 ∨ st = 1 ∨ st = 2 ∨ st = 3 ∨ st = 4 ∨ st = 5 ∨ st = 6 ∨ st = 7 ∨ st = 8 ∨ st = 9 ∨ st = 10 by omega) with rfl | rfl | rfl | rfl | rfl | rfl | rfl | rfl | rfl | rfl | rfl <;> first | rfl | (exfalso; revert h1; decide)) d_HD_word_29
      · refine lv_iconst (v := 0) hx hb d_HD_word_21 (by decide) ?_
        refine lv_goto (tgt := 29) hx hb d_HD_word_22 (by decide) ?_
        exact t_read E rfl (by
          rw [s_word, if_neg hcv, if_neg hbv, ec, eb, hst]
          rcases (show st = 0 ∨ st = 1 ∨ st = 2 ∨ st = 3 ∨ st = 4 ∨ st = 5 ∨ st = 6 ∨ st = 7 ∨ st = 8 ∨ st = 9 ∨ st = 10 by omega) with rfl | rfl | rfl | rfl | rfl | rfl | rfl | rfl | rfl | rfl | rfl <;> first | rfl | (exfalso; revert h1; decide)) d_HD_word_29
set_option maxHeartbeats 4000000 in
set_option maxRecDepth 100000 in
theorem c_HD_message (l : Launch) (D : va_G) (dA : Nat → ClassId) (eA ad : Nat → Nat → Nat) (A : Nat → Prop) (N : Nat) (g : PS) (M : List Msg) (as sp : List Nat) (x y : Int32) (hW : ∀ (i : Nat) (z : Msg), M[i]? = some z → z.1 < 10) (hML : M.length < 1000) : Met l y_HD_message (k_HD_message :: wz) (rml 1 0 0) (va_Pc [.ref (ad 0 0), .int x, .int y] (PX D dA eA ad A N g M as sp)) (QcRead (s_message M x y)) 0 0 (fun _ => False) := by
  refine x_entry (by decide) (Nat.le_of_ble_eq_true rfl) ?_
  intro p e s m below meth c0 E hA hC hR ls hl
  have hx := E.1
  have hb := E.2.1
  have hS : va_S A s.heap s.heap [] := va_S.rf
  replace hl : lv_has ls 4 [(0, .ref (ad 0 0)), (1, .int x), (2, .int y)] := hl
  have hlen := hR.len
  by_cases hx0 : x < 0
  · have hx1 := hx0
    refine lv_aload_n hx hb d_HD_message_0 rfl (lv_at hl 0 rfl) ?_
    refine xg_HD E hC hR 3 (by decide) zf_HD_22 rfl d_HD_message_1 ?_
    refine lv_iload_n hx hb d_HD_message_4 rfl (lv_at hl 1 rfl) ?_
    refine xc_q (av := [.ref (ad 1 0), .int x]) (xrunV (As := [.int x]) (rest := []) E hA hC hR hS (c_Net_at l D dA eA ad A N g M as sp x) (x_recv hC hR (s0 := 1) (i0 := 0) (show vl N 1 0 from rfl) rfl rfl) ck_HD_152 ⟨rfl, rfl⟩ ⟨Nat.le_of_ble_eq_true rfl, Nat.le_of_ble_eq_true rfl⟩ rfl (lv_sub hl [] rfl) rfl (Nat.le_of_ble_eq_true rfl) ⟨Nat.le_of_ble_eq_true rfl, Nat.le_of_ble_eq_true rfl⟩ d_HD_message_5) ?_
    refine wq_eq (y := .null) (by rw [s_at, if_pos hx0]; rfl) ?_
    refine lv_astore_nN (lv' := [(3, .null), (0, .ref (ad 0 0)), (1, .int x), (2, .int y)]) hx hb d_HD_message_8 rfl hl (by decide) rfl (fun ls hl => ?_)
    refine lv_aload_nN hx hb d_HD_message_9 rfl (lv_at hl 0 rfl) ?_
    refine lv_ifnonnullN hx hb d_HD_message_10 ?_
    refine lv_iconst (v := (-1)) hx hb d_HD_message_13 (by decide) ?_
    exact t_read E rfl (by rw [s_message, if_pos hx0]) d_HD_message_14
  · by_cases hxl : nI M.length ≤ x
    · obtain ⟨xn, hxn, rfl⟩ := nI_of hx0
      have hxl2 := (nI_leI (by omega) hxn).mp hxl
      have ex := nI_clamp hxn
      refine lv_aload_n hx hb d_HD_message_0 rfl (lv_at hl 0 rfl) ?_
      refine xg_HD E hC hR 3 (by decide) zf_HD_22 rfl d_HD_message_1 ?_
      refine lv_iload_n hx hb d_HD_message_4 rfl (lv_at hl 1 rfl) ?_
      refine xc_q (av := [.ref (ad 1 0), .int (nI xn)]) (xrunV (As := [.int (nI xn)]) (rest := []) E hA hC hR hS (c_Net_at l D dA eA ad A N g M as sp (nI xn)) (x_recv hC hR (s0 := 1) (i0 := 0) (show vl N 1 0 from rfl) rfl rfl) ck_HD_152 ⟨rfl, rfl⟩ ⟨Nat.le_of_ble_eq_true rfl, Nat.le_of_ble_eq_true rfl⟩ rfl (lv_sub hl [] rfl) rfl (Nat.le_of_ble_eq_true rfl) ⟨Nat.le_of_ble_eq_true rfl, Nat.le_of_ble_eq_true rfl⟩ d_HD_message_5) ?_
      refine wq_eq (y := .null) (by rw [s_at, if_neg hx0, ex, List.getElem?_eq_none (by omega)]; rfl) ?_
      refine lv_astore_nN (lv' := [(3, .null), (0, .ref (ad 0 0)), (1, .int (nI xn)), (2, .int y)]) hx hb d_HD_message_8 rfl hl (by decide) rfl (fun ls hl => ?_)
      refine lv_aload_nN hx hb d_HD_message_9 rfl (lv_at hl 0 rfl) ?_
      refine lv_ifnonnullN hx hb d_HD_message_10 ?_
      refine lv_iconst (v := (-1)) hx hb d_HD_message_13 (by decide) ?_
      exact t_read E rfl (by rw [s_message, if_neg hx0, if_pos hxl]) d_HD_message_14
    · obtain ⟨j, hj, rfl⟩ := ix_of (by omega) hx0 hxl
      have ej : (nI j).toNatClampNeg = j := nI_clamp (by omega)
      obtain ⟨z, hz⟩ : ∃ z, M[j]? = some z := ⟨M[j]'hj, List.getElem?_eq_getElem _⟩
      obtain ⟨q, hq⟩ : ∃ q, as[j]? = some q := ⟨as[j]'(by omega), List.getElem?_eq_getElem _⟩
      refine lv_aload_n hx hb d_HD_message_0 rfl (lv_at hl 0 rfl) ?_
      refine xg_HD E hC hR 3 (by decide) zf_HD_22 rfl d_HD_message_1 ?_
      refine lv_iload_n hx hb d_HD_message_4 rfl (lv_at hl 1 rfl) ?_
      refine xc_q (av := [.ref (ad 1 0), .int (nI j)]) (xrunV (As := [.int (nI j)]) (rest := []) E hA hC hR hS (c_Net_at l D dA eA ad A N g M as sp (nI j)) (x_recv hC hR (s0 := 1) (i0 := 0) (show vl N 1 0 from rfl) rfl rfl) ck_HD_152 ⟨rfl, rfl⟩ ⟨Nat.le_of_ble_eq_true rfl, Nat.le_of_ble_eq_true rfl⟩ rfl (lv_sub hl [] rfl) rfl (Nat.le_of_ble_eq_true rfl) ⟨Nat.le_of_ble_eq_true rfl, Nat.le_of_ble_eq_true rfl⟩ d_HD_message_5) ?_
      refine wq_eq (y := .ref q) (by rw [s_at, if_neg hx0, ej, hq]; rfl) ?_
      refine lv_astore_n (lv' := [(3, .ref q), (0, .ref (ad 0 0)), (1, .int (nI j)), (2, .int y)]) hx hb d_HD_message_8 rfl hl (by decide) rfl (fun ls hl => ?_)
      refine lv_aload_n hx hb d_HD_message_9 rfl (lv_at hl 0 rfl) ?_
      refine lv_ifnonnull (tgt := 15) hx hb d_HD_message_10 (by decide) ?_
      refine lv_iload_n hx hb d_HD_message_15 rfl (lv_at hl 3 rfl) ?_
      by_cases hy0 : y < 0
      · refine lv_tableOut (tgt := 98) hx hb d_HD_message_16 (Or.inl (by rw [Int32.lt_iff_toInt_lt] at hy0; exact hy0)) (by decide) ?_
        refine lv_iconst (v := (-1)) hx hb d_HD_message_98 (by decide) ?_
        exact t_read E rfl (by rw [s_message, if_neg hx0, if_neg hxl, if_pos hy0]) d_HD_message_99
      · by_cases hy6 : y ≤ 6
        · obtain ⟨w, hw7, rfl⟩ : ∃ w, w < 7 ∧ y = nI w := ix_of (by omega) hy0 (le6 hy6)
          rcases (show w = 0 ∨ w = 1 ∨ w = 2 ∨ w = 3 ∨ w = 4 ∨ w = 5 ∨ w = 6 by omega) with rfl | rfl | rfl | rfl | rfl | rfl | rfl
          · refine lv_tableIn (off := 44) (tgt := 60) hx hb d_HD_message_16 (by decide) (by decide) (by decide) (by decide) ?_
            refine lv_aload_n hx hb d_HD_message_60 rfl (lv_at hl 0 rfl) ?_
            refine xg_Msg E hC hR hq hz 0 (by decide) zf_HD_156 rfl d_HD_message_61 ?_
            refine xc_R (av := [.ref (eA 0 z.1)]) (xrunU (n := 0) (As := []) (rest := []) E hA hC hR hS (c_ord_Kind l D dA eA ad A N g M as sp (hW j z hz)) (va_recvE hC.2.1 (hW j z hz) hS) gu_HD_198 hC.2.2.2.2.2.2.2.1.2 (by decide +kernel) ⟨rfl, rfl⟩ ⟨Nat.le_of_ble_eq_true rfl, Nat.le_of_ble_eq_true rfl⟩ rfl (lv_sub hl [] rfl) rfl (Nat.le_of_ble_eq_true rfl) ⟨Nat.le_of_ble_eq_true rfl, Nat.le_of_ble_eq_true rfl⟩ d_HD_message_64) ?_
            exact t_read E rfl (by rw [s_message, if_neg hx0, if_neg hxl, if_neg hy0, if_pos hy6, ej, hz]; simp only [m_field]; rfl) d_HD_message_67
          · refine lv_tableIn (off := 52) (tgt := 68) hx hb d_HD_message_16 (by decide) (by decide) (by decide) (by decide) ?_
            refine lv_aload_n hx hb d_HD_message_68 rfl (lv_at hl 0 rfl) ?_
            refine xg_Msg E hC hR hq hz 1 (by decide) zf_HD_202 rfl d_HD_message_69 ?_
            exact t_read E rfl (by rw [s_message, if_neg hx0, if_neg hxl, if_neg hy0, if_pos hy6, ej, hz]; simp only [m_field]; rfl) d_HD_message_72
          · refine lv_tableIn (off := 57) (tgt := 73) hx hb d_HD_message_16 (by decide) (by decide) (by decide) (by decide) ?_
            refine lv_aload_n hx hb d_HD_message_73 rfl (lv_at hl 0 rfl) ?_
            refine xg_Msg E hC hR hq hz 2 (by decide) zf_HD_172 rfl d_HD_message_74 ?_
            exact t_read E rfl (by rw [s_message, if_neg hx0, if_neg hxl, if_neg hy0, if_pos hy6, ej, hz]; simp only [m_field]; rfl) d_HD_message_77
          · refine lv_tableIn (off := 62) (tgt := 78) hx hb d_HD_message_16 (by decide) (by decide) (by decide) (by decide) ?_
            refine lv_aload_n hx hb d_HD_message_78 rfl (lv_at hl 0 rfl) ?_
            refine xg_Msg E hC hR hq hz 3 (by decide) zf_HD_175 rfl d_HD_message_79 ?_
            exact t_read E rfl (by rw [s_message, if_neg hx0, if_neg hxl, if_neg hy0, if_pos hy6, ej, hz]; simp only [m_field]; rfl) d_HD_message_82
          · refine lv_tableIn (off := 67) (tgt := 83) hx hb d_HD_message_16 (by decide) (by decide) (by decide) (by decide) ?_
            refine lv_aload_n hx hb d_HD_message_83 rfl (lv_at hl 0 rfl) ?_
            refine xg_Msg E hC hR hq hz 4 (by decide) zf_HD_205 rfl d_HD_message_84 ?_
            exact t_read E rfl (by rw [s_message, if_neg hx0, if_neg hxl, if_neg hy0, if_pos hy6, ej, hz]; simp only [m_field]; rfl) d_HD_message_87
          · refine lv_tableIn (off := 72) (tgt := 88) hx hb d_HD_message_16 (by decide) (by decide) (by decide) (by decide) ?_
            refine lv_aload_n hx hb d_HD_message_88 rfl (lv_at hl 0 rfl) ?_
            refine xg_Msg E hC hR hq hz 5 (by decide) zf_HD_208 rfl d_HD_message_89 ?_
            exact t_read E rfl (by rw [s_message, if_neg hx0, if_neg hxl, if_neg hy0, if_pos hy6, ej, hz]; simp only [m_field]; rfl) d_HD_message_92
          · refine lv_tableIn (off := 77) (tgt := 93) hx hb d_HD_message_16 (by decide) (by decide) (by decide) (by decide) ?_
            refine lv_aload_n hx hb d_HD_message_93 rfl (lv_at hl 0 rfl) ?_
            refine xg_Msg E hC hR hq hz 6 (by decide) zf_HD_211 rfl d_HD_message_94 ?_
            exact t_read E rfl (by rw [s_message, if_neg hx0, if_neg hxl, if_neg hy0, if_pos hy6, ej, hz]; simp only [m_field]; rfl) d_HD_message_97
        · refine lv_tableOut (tgt := 98) hx hb d_HD_message_16 (Or.inr (by have h := Int32.not_le.mp hy6; rw [Int32.lt_iff_toInt_lt] at h; exact h)) (by decide) ?_
          refine lv_iconst (v := (-1)) hx hb d_HD_message_98 (by decide) ?_
          exact t_read E rfl (by rw [s_message, if_neg hx0, if_neg hxl, if_neg hy0, if_neg hy6]) d_HD_message_99
