theorem sh_pow : ∀ {c : Nat}, c < 4 → (1 : Int32) <<< (nI c &&& 31) = nI (2 ^ c)
  | 0, _ => by decide
  | 1, _ => by decide
  | 2, _ => by decide
  | 3, _ => by decide
  | c + 4, h => absurd h (by omega)
theorem le6 {y : Int32} (h : y ≤ 6) : ¬ nI 7 ≤ y := by
  intro q
  rw [Int32.le_iff_toInt_le] at h q
  have e6 : (6 : Int32).toInt = 6 := by decide
  have e7 : (nI 7).toInt = 7 := by decide
  rw [e6] at h
  rw [e7] at q
  omega
set_option maxHeartbeats 4000000 in
set_option maxRecDepth 100000 in
theorem c_Tw_messages (l : Launch) (D : va_G) (dA : Nat → ClassId) (ad : Nat → Nat) (A : Nat → Prop) (g : PS) (M : List Msg)  : Met l y_Tw_messages (k_Tw_messages :: wz) (rml 0 0 0) (va_Pc [.ref (ad 0)] (PT D dA ad A g M)) (QcRead (nI M.length)) 0 0 (fun _ => False) := by
  refine tw_entry (by decide) (Nat.le_of_ble_eq_true rfl) ?_
  intro p e s m below meth c0 E hK hT ls hl
  have hT0 := hT
  obtain ⟨K, hT, hk⟩ := hT
  have hx := E.1
  have hb := E.2.1
  replace hl : lv_has ls 1 [(0, .ref (ad 0))] := hl
  refine lv_aload_n hx hb d_Tw_messages_0 rfl (lv_at hl 0 rfl) ?_
  refine tg_17 E hK hT d_Tw_messages_1 ?_
  exact t_read E rfl rfl d_Tw_messages_4
set_option maxHeartbeats 4000000 in
set_option maxRecDepth 100000 in
theorem c_Tw_sent (l : Launch) (D : va_G) (dA : Nat → ClassId) (ad : Nat → Nat) (A : Nat → Prop) (g : PS) (M : List Msg)  : Met l y_Tw_sent (k_Tw_sent :: wz) (rml 0 0 0) (va_Pc [.ref (ad 0)] (PT D dA ad A g M)) (QcRead (g 18 0)) 0 0 (fun _ => False) := by
  refine tw_entry (by decide) (Nat.le_of_ble_eq_true rfl) ?_
  intro p e s m below meth c0 E hK hT ls hl
  have hT0 := hT
  obtain ⟨K, hT, hk⟩ := hT
  have hx := E.1
  have hb := E.2.1
  replace hl : lv_has ls 1 [(0, .ref (ad 0))] := hl
  refine lv_aload_n hx hb d_Tw_sent_0 rfl (lv_at hl 0 rfl) ?_
  refine tg_18 E hK hT d_Tw_sent_1 ?_
  exact t_read E rfl rfl d_Tw_sent_4
set_option maxHeartbeats 4000000 in
set_option maxRecDepth 100000 in
theorem c_Tw_performed (l : Launch) (D : va_G) (dA : Nat → ClassId) (ad : Nat → Nat) (A : Nat → Prop) (g : PS) (M : List Msg)  : Met l y_Tw_performed (k_Tw_performed :: wz) (rml 0 0 0) (va_Pc [.ref (ad 0)] (PT D dA ad A g M)) (QcRead (g 19 0)) 0 0 (fun _ => False) := by
  refine tw_entry (by decide) (Nat.le_of_ble_eq_true rfl) ?_
  intro p e s m below meth c0 E hK hT ls hl
  have hT0 := hT
  obtain ⟨K, hT, hk⟩ := hT
  have hx := E.1
  have hb := E.2.1
  replace hl : lv_has ls 1 [(0, .ref (ad 0))] := hl
  refine lv_aload_n hx hb d_Tw_performed_0 rfl (lv_at hl 0 rfl) ?_
  refine tg_19 E hK hT d_Tw_performed_1 ?_
  exact t_read E rfl rfl d_Tw_performed_4
set_option maxHeartbeats 4000000 in
set_option maxRecDepth 100000 in
theorem c_Tw_accumulator (l : Launch) (D : va_G) (dA : Nat → ClassId) (ad : Nat → Nat) (A : Nat → Prop) (g : PS) (M : List Msg) (x : Int32) (N : Nat) (hN : g 0 0 = nI N) (hN4 : N ≤ 4) : Met l y_Tw_accumulator (k_Tw_accumulator :: wz) (rml 1 0 0) (va_Pc [.ref (ad 0), .int x] (PT D dA ad A g M)) (QcRead (s_accum g x)) 0 0 (fun _ => False) := by
  refine tw_entry (by decide) (Nat.le_of_ble_eq_true rfl) ?_
  intro p e s m below meth c0 E hK hT ls hl
  have hT0 := hT
  obtain ⟨K, hT, hk⟩ := hT
  have hx := E.1
  have hb := E.2.1
  replace hl : lv_has ls 2 [(0, .ref (ad 0)), (1, .int x)] := hl
  refine lv_aload_n hx hb d_Tw_accumulator_0 rfl (lv_at hl 0 rfl) ?_
  refine lv_iload_n hx hb d_Tw_accumulator_1 rfl (lv_at hl 1 rfl) ?_
  refine t_callR (As := [.int x]) (rest := []) E hK ⟨K, hT, hk⟩ (c_Tw_isCore l D dA ad A g M x) ck_Tw_81 ⟨rfl, rfl⟩ ⟨Nat.le_of_ble_eq_true rfl, Nat.le_of_ble_eq_true rfl⟩ rfl (lv_sub hl [] rfl) rfl (Nat.le_of_ble_eq_true rfl) ⟨Nat.zero_le _, Nat.zero_le _⟩ d_Tw_accumulator_2 ?_
  refine lv_if_eq (tgt := 17) hx hb d_Tw_accumulator_5 (by decide) (fun h1 => ?_) (fun h1 => ?_)
  · refine lv_iconst (v := 0) hx hb d_Tw_accumulator_17 (by decide) ?_
    exact t_read E rfl (by simp [s_accum, h1]) d_Tw_accumulator_18
  · obtain ⟨c, hcN, rfl⟩ := isCore_of hN hN4 h1
    have ec : (nI c).toNatClampNeg = c := nI_clamp (by omega)
    refine lv_aload_n hx hb d_Tw_accumulator_8 rfl (lv_at hl 0 rfl) ?_
    refine tg_2 E hK hT d_Tw_accumulator_9 ?_
    refine lv_iload_n hx hb d_Tw_accumulator_12 rfl (lv_at hl 1 rfl) ?_
    refine tl_2 E hK hT (j := c) (by omega) d_Tw_accumulator_13 ?_
    refine lv_goto (tgt := 18) hx hb d_Tw_accumulator_14 (by decide) ?_
    exact t_read E rfl (by simp [s_accum, h1, ec]) d_Tw_accumulator_18
set_option maxHeartbeats 4000000 in
set_option maxRecDepth 100000 in
theorem c_Tw_place (l : Launch) (D : va_G) (dA : Nat → ClassId) (ad : Nat → Nat) (A : Nat → Prop) (g : PS) (M : List Msg) (x : Int32) (N : Nat) (hN : g 0 0 = nI N) (hN4 : N ≤ 4) : Met l y_Tw_place (k_Tw_place :: wz) (rml 1 0 0) (va_Pc [.ref (ad 0), .int x] (PT D dA ad A g M)) (QcRead (s_place g x)) 0 0 (fun _ => False) := by
  refine tw_entry (by decide) (Nat.le_of_ble_eq_true rfl) ?_
  intro p e s m below meth c0 E hK hT ls hl
  have hT0 := hT
  obtain ⟨K, hT, hk⟩ := hT
  have hx := E.1
  have hb := E.2.1
  replace hl : lv_has ls 2 [(0, .ref (ad 0)), (1, .int x)] := hl
  refine lv_aload_n hx hb d_Tw_place_0 rfl (lv_at hl 0 rfl) ?_
  refine lv_iload_n hx hb d_Tw_place_1 rfl (lv_at hl 1 rfl) ?_
  refine t_callR (As := [.int x]) (rest := []) E hK ⟨K, hT, hk⟩ (c_Tw_isCore l D dA ad A g M x) ck_Tw_81 ⟨rfl, rfl⟩ ⟨Nat.le_of_ble_eq_true rfl, Nat.le_of_ble_eq_true rfl⟩ rfl (lv_sub hl [] rfl) rfl (Nat.le_of_ble_eq_true rfl) ⟨Nat.zero_le _, Nat.zero_le _⟩ d_Tw_place_2 ?_
  refine lv_if_eq (tgt := 27) hx hb d_Tw_place_5 (by decide) (fun h1 => ?_) (fun h1 => ?_)
  · refine lv_iconst (v := (-1)) hx hb d_Tw_place_27 (by decide) ?_
    exact t_read E rfl (by simp [s_place, h1]) d_Tw_place_28
  · obtain ⟨c, hcN, rfl⟩ := isCore_of hN hN4 h1
    have ec : (nI c).toNatClampNeg = c := nI_clamp (by omega)
    refine lv_aload_n hx hb d_Tw_place_8 rfl (lv_at hl 0 rfl) ?_
    refine tg_6 E hK hT d_Tw_place_9 ?_
    refine lv_iload_n hx hb d_Tw_place_12 rfl (lv_at hl 1 rfl) ?_
    refine tl_6 E hK hT (j := c) (by omega) d_Tw_place_13 ?_
    refine lv_bipush (v := 32) hx hb d_Tw_place_14 (by decide) ?_
    refine lv_aload_n hx hb d_Tw_place_16 rfl (lv_at hl 0 rfl) ?_
    refine tg_7 E hK hT d_Tw_place_17 ?_
    refine lv_iload_n hx hb d_Tw_place_20 rfl (lv_at hl 1 rfl) ?_
    refine tl_7 E hK hT (j := c) (by omega) d_Tw_place_21 ?_
    refine lv_imul hx hb d_Tw_place_22 ?_
    refine lv_iadd hx hb d_Tw_place_23 ?_
    refine lv_goto (tgt := 28) hx hb d_Tw_place_24 (by decide) ?_
    exact t_read E rfl (by simp [s_place, h1, ec]) d_Tw_place_28
set_option maxHeartbeats 4000000 in
set_option maxRecDepth 100000 in
theorem c_Tw_memory (l : Launch) (D : va_G) (dA : Nat → ClassId) (ad : Nat → Nat) (A : Nat → Prop) (g : PS) (M : List Msg) (x : Int32) : Met l y_Tw_memory (k_Tw_memory :: wz) (rml 1 0 0) (va_Pc [.ref (ad 0), .int x] (PT D dA ad A g M)) (QcRead (s_memory g x)) 0 0 (fun _ => False) := by
  refine tw_entry (by decide) (Nat.le_of_ble_eq_true rfl) ?_
  intro p e s m below meth c0 E hK hT ls hl
  have hT0 := hT
  obtain ⟨K, hT, hk⟩ := hT
  have hx := E.1
  have hb := E.2.1
  replace hl : lv_has ls 2 [(0, .ref (ad 0)), (1, .int x)] := hl
  refine lv_iload_n hx hb d_Tw_memory_0 rfl (lv_at hl 1 rfl) ?_
  refine s_callR (As := [.int x]) (rest := []) E (c_Tw_isBlock l x) ck_Tw_88 ⟨rfl, rfl⟩ ⟨Nat.le_of_ble_eq_true rfl, Nat.le_of_ble_eq_true rfl⟩ rfl (lv_sub hl [] rfl) rfl (Nat.le_of_ble_eq_true rfl) ⟨Nat.zero_le _, Nat.zero_le _⟩ d_Tw_memory_1 ?_
  refine lv_if_eq (tgt := 16) hx hb d_Tw_memory_4 (by decide) (fun h1 => ?_) (fun h1 => ?_)
  · refine lv_iconst (v := 0) hx hb d_Tw_memory_16 (by decide) ?_
    exact t_read E rfl (by simp [s_memory, h1]) d_Tw_memory_17
  · obtain ⟨b, hb4, rfl⟩ := isBlock_of h1
    have eb : (nI b).toNatClampNeg = b := nI_clamp (by omega)
    refine lv_aload_n hx hb d_Tw_memory_7 rfl (lv_at hl 0 rfl) ?_
    refine tg_13 E hK hT d_Tw_memory_8 ?_
    refine lv_iload_n hx hb d_Tw_memory_11 rfl (lv_at hl 1 rfl) ?_
    refine tl_13 E hK hT (j := b) (by omega) d_Tw_memory_12 ?_
    refine lv_goto (tgt := 17) hx hb d_Tw_memory_13 (by decide) ?_
    exact t_read E rfl (by simp [s_memory, h1, eb]) d_Tw_memory_17
set_option maxHeartbeats 4000000 in
set_option maxRecDepth 100000 in
theorem c_Tw_line (l : Launch) (D : va_G) (dA : Nat → ClassId) (ad : Nat → Nat) (A : Nat → Prop) (g : PS) (M : List Msg) (x y : Int32) (N : Nat) (hN : g 0 0 = nI N) (hN4 : N ≤ 4) : Met l y_Tw_line (k_Tw_line :: wz) (rml 1 0 0) (va_Pc [.ref (ad 0), .int x, .int y] (PT D dA ad A g M)) (QcRead (s_line g x y)) 0 0 (fun _ => False) := by
  refine tw_entry (by decide) (Nat.le_of_ble_eq_true rfl) ?_
  intro p e s m below meth c0 E hK hT ls hl
  have hT0 := hT
  obtain ⟨K, hT, hk⟩ := hT
  have hx := E.1
  have hb := E.2.1
  replace hl : lv_has ls 3 [(0, .ref (ad 0)), (1, .int x), (2, .int y)] := hl
  refine lv_aload_n hx hb d_Tw_line_0 rfl (lv_at hl 0 rfl) ?_
  refine lv_iload_n hx hb d_Tw_line_1 rfl (lv_at hl 1 rfl) ?_
  refine t_callR (As := [.int x]) (rest := []) E hK ⟨K, hT, hk⟩ (c_Tw_isCore l D dA ad A g M x) ck_Tw_81 ⟨rfl, rfl⟩ ⟨Nat.le_of_ble_eq_true rfl, Nat.le_of_ble_eq_true rfl⟩ rfl (lv_sub hl [] rfl) rfl (Nat.le_of_ble_eq_true rfl) ⟨Nat.zero_le _, Nat.zero_le _⟩ d_Tw_line_2 ?_
  refine lv_if_eq (tgt := 28) hx hb d_Tw_line_5 (by decide) (fun h1 => ?_) (fun h1 => ?_)
  · refine lv_iconst (v := (-1)) hx hb d_Tw_line_28 (by decide) ?_
    exact t_read E rfl (by simp [s_line, h1]) d_Tw_line_29
  · obtain ⟨c, hcN, rfl⟩ := isCore_of hN hN4 h1
    have ec : (nI c).toNatClampNeg = c := nI_clamp (by omega)
    refine lv_iload_n hx hb d_Tw_line_8 rfl (lv_at hl 2 rfl) ?_
    refine s_callR (As := [.int y]) (rest := []) E (c_Tw_isBlock l y) ck_Tw_88 ⟨rfl, rfl⟩ ⟨Nat.le_of_ble_eq_true rfl, Nat.le_of_ble_eq_true rfl⟩ rfl (lv_sub hl [] rfl) rfl (Nat.le_of_ble_eq_true rfl) ⟨Nat.zero_le _, Nat.zero_le _⟩ d_Tw_line_9 ?_
    refine lv_if_eq (tgt := 28) hx hb d_Tw_line_12 (by decide) (fun h2 => ?_) (fun h2 => ?_)
    · refine lv_iconst (v := (-1)) hx hb d_Tw_line_28 (by decide) ?_
      exact t_read E rfl (by simp [s_line, h1, ec, h2]) d_Tw_line_29
    · obtain ⟨b, hb4, rfl⟩ := isBlock_of h2
      have eb : (nI b).toNatClampNeg = b := nI_clamp (by omega)
      refine lv_aload_n hx hb d_Tw_line_15 rfl (lv_at hl 0 rfl) ?_
      refine tg_8 E hK hT d_Tw_line_16 ?_
      refine lv_iconst (v := 4) hx hb d_Tw_line_19 (by decide) ?_
      refine lv_iload_n hx hb d_Tw_line_20 rfl (lv_at hl 1 rfl) ?_
      refine wn_mul hx hb (a := 4) (b := c) d_Tw_line_21 ?_
      refine lv_iload_n hx hb d_Tw_line_22 rfl (lv_at hl 2 rfl) ?_
      refine wn_add hx hb (a := 4 * c) (b := b) d_Tw_line_23 ?_
      refine tl_8 E hK hT (j := 4 * c + b) (by omega) d_Tw_line_24 ?_
      refine lv_goto (tgt := 29) hx hb d_Tw_line_25 (by decide) ?_
      exact t_read E rfl (by simp [s_line, h1, ec, h2, eb]) d_Tw_line_29
set_option maxHeartbeats 4000000 in
set_option maxRecDepth 100000 in
theorem c_Tw_word (l : Launch) (D : va_G) (dA : Nat → ClassId) (ad : Nat → Nat) (A : Nat → Prop) (g : PS) (M : List Msg) (x y : Int32) (N : Nat) (hN : g 0 0 = nI N) (hN4 : N ≤ 4) : Met l y_Tw_word (k_Tw_word :: wz) (rml 1 0 0) (va_Pc [.ref (ad 0), .int x, .int y] (PT D dA ad A g M)) (QcRead (s_word g x y)) 0 0 (fun _ => False) := by
  refine tw_entry (by decide) (Nat.le_of_ble_eq_true rfl) ?_
  intro p e s m below meth c0 E hK hT ls hl
  have hT0 := hT
  obtain ⟨K, hT, hk⟩ := hT
  have hx := E.1
  have hb := E.2.1
  replace hl : lv_has ls 5 [(0, .ref (ad 0)), (1, .int x), (2, .int y)] := hl
  refine lv_aload_n hx hb d_Tw_word_0 rfl (lv_at hl 0 rfl) ?_
  refine lv_iload_n hx hb d_Tw_word_1 rfl (lv_at hl 1 rfl) ?_
  refine t_callR (As := [.int x]) (rest := []) E hK ⟨K, hT, hk⟩ (c_Tw_isCore l D dA ad A g M x) ck_Tw_81 ⟨rfl, rfl⟩ ⟨Nat.le_of_ble_eq_true rfl, Nat.le_of_ble_eq_true rfl⟩ rfl (lv_sub hl [] rfl) rfl (Nat.le_of_ble_eq_true rfl) ⟨Nat.zero_le _, Nat.zero_le _⟩ d_Tw_word_2 ?_
  refine lv_if_eq (tgt := 15) hx hb d_Tw_word_5 (by decide) (fun h1 => ?_) (fun h1 => ?_)
  · refine lv_iconst (v := 0) hx hb d_Tw_word_15 (by decide) ?_
    exact t_read E rfl (by simp [s_word, h1]) d_Tw_word_16
  · obtain ⟨c, hcN, rfl⟩ := isCore_of hN hN4 h1
    have ec : (nI c).toNatClampNeg = c := nI_clamp (by omega)
    refine lv_iload_n hx hb d_Tw_word_8 rfl (lv_at hl 2 rfl) ?_
    refine s_callR (As := [.int y]) (rest := []) E (c_Tw_isBlock l y) ck_Tw_88 ⟨rfl, rfl⟩ ⟨Nat.le_of_ble_eq_true rfl, Nat.le_of_ble_eq_true rfl⟩ rfl (lv_sub hl [] rfl) rfl (Nat.le_of_ble_eq_true rfl) ⟨Nat.zero_le _, Nat.zero_le _⟩ d_Tw_word_9 ?_
    refine lv_if_ne (tgt := 17) hx hb d_Tw_word_12 (by decide) (fun h2 => ?_) (fun h2 => ?_)
    · obtain ⟨b, hb4, rfl⟩ := isBlock_of h2
      have eb : (nI b).toNatClampNeg = b := nI_clamp (by omega)
      refine lv_aload_n hx hb d_Tw_word_17 rfl (lv_at hl 0 rfl) ?_
      refine tg_8 E hK hT d_Tw_word_18 ?_
      refine lv_iconst (v := 4) hx hb d_Tw_word_21 (by decide) ?_
      refine lv_iload_n hx hb d_Tw_word_22 rfl (lv_at hl 1 rfl) ?_
      refine wn_mul hx hb (a := 4) (b := c) d_Tw_word_23 ?_
      refine lv_iload_n hx hb d_Tw_word_24 rfl (lv_at hl 2 rfl) ?_
      refine wn_add hx hb (a := 4 * c) (b := b) d_Tw_word_25 ?_
      refine tl_8 E hK hT (j := 4 * c + b) (by omega) d_Tw_word_26 ?_
      refine lv_istore_n (lv' := [(3, .int (g 8 (4 * c + b))), (0, .ref (ad 0)), (1, .int (nI c)), (2, .int (nI b))]) hx hb d_Tw_word_27 rfl hl (by decide) rfl (fun ls hl => ?_)
      refine lv_iload_n hx hb d_Tw_word_28 rfl (lv_at hl 0 rfl) ?_
      refine lv_iconst (v := 1) hx hb d_Tw_word_29 (by decide) ?_
      refine lv_icmp_eq (tgt := 62) hx hb d_Tw_word_30 (by decide) (fun h3 => ?_) (fun h3 => ?_)
      · refine lv_iconst (v := 1) hx hb d_Tw_word_62 (by decide) ?_
        refine lv_goto (tgt := 67) hx hb d_Tw_word_63 (by decide) ?_
        refine lv_istore (lv' := [(4, .int 1), (3, .int (g 8 (4 * c + b))), (0, .ref (ad 0)), (1, .int (nI c)), (2, .int (nI b))]) hx hb d_Tw_word_67 hl (by decide) rfl (fun ls hl => ?_)
        refine lv_iload hx hb d_Tw_word_69 (lv_at hl 0 rfl) ?_
        refine lv_if_eq (tgt := 87) hx hb d_Tw_word_71 (by decide) (fun h4 => absurd h4 (by decide)) (fun h4 => ?_)
        refine lv_aload_n hx hb d_Tw_word_74 rfl (lv_at hl 2 rfl) ?_
        refine tg_9 E hK hT d_Tw_word_75 ?_
        refine lv_iconst (v := 4) hx hb d_Tw_word_78 (by decide) ?_
        refine lv_iload_n hx hb d_Tw_word_79 rfl (lv_at hl 3 rfl) ?_
        refine wn_mul hx hb (a := 4) (b := c) d_Tw_word_80 ?_
        refine lv_iload_n hx hb d_Tw_word_81 rfl (lv_at hl 4 rfl) ?_
        refine wn_add hx hb (a := 4 * c) (b := b) d_Tw_word_82 ?_
        refine tl_9 E hK hT (j := 4 * c + b) (by omega) d_Tw_word_83 ?_
        refine lv_goto (tgt := 88) hx hb d_Tw_word_84 (by decide) ?_
        exact t_read E rfl (by simp [s_word, h1, ec, h2, eb, h3, h4]) d_Tw_word_88
      · refine lv_iload_n hx hb d_Tw_word_33 rfl (lv_at hl 0 rfl) ?_
        refine lv_iconst (v := 2) hx hb d_Tw_word_34 (by decide) ?_
        refine lv_icmp_eq (tgt := 62) hx hb d_Tw_word_35 (by decide) (fun h5 => ?_) (fun h5 => ?_)
        · refine lv_iconst (v := 1) hx hb d_Tw_word_62 (by decide) ?_
          refine lv_goto (tgt := 67) hx hb d_Tw_word_63 (by decide) ?_
          refine lv_istore (lv' := [(4, .int 1), (3, .int (g 8 (4 * c + b))), (0, .ref (ad 0)), (1, .int (nI c)), (2, .int (nI b))]) hx hb d_Tw_word_67 hl (by decide) rfl (fun ls hl => ?_)
          refine lv_iload hx hb d_Tw_word_69 (lv_at hl 0 rfl) ?_
          refine lv_if_eq (tgt := 87) hx hb d_Tw_word_71 (by decide) (fun h6 => absurd h6 (by decide)) (fun h6 => ?_)
          refine lv_aload_n hx hb d_Tw_word_74 rfl (lv_at hl 2 rfl) ?_
          refine tg_9 E hK hT d_Tw_word_75 ?_
          refine lv_iconst (v := 4) hx hb d_Tw_word_78 (by decide) ?_
          refine lv_iload_n hx hb d_Tw_word_79 rfl (lv_at hl 3 rfl) ?_
          refine wn_mul hx hb (a := 4) (b := c) d_Tw_word_80 ?_
          refine lv_iload_n hx hb d_Tw_word_81 rfl (lv_at hl 4 rfl) ?_
          refine wn_add hx hb (a := 4 * c) (b := b) d_Tw_word_82 ?_
          refine tl_9 E hK hT (j := 4 * c + b) (by omega) d_Tw_word_83 ?_
          refine lv_goto (tgt := 88) hx hb d_Tw_word_84 (by decide) ?_
          exact t_read E rfl (by simp [s_word, h1, ec, h2, eb, h3, h5, h6]) d_Tw_word_88
        · refine lv_iload_n hx hb d_Tw_word_38 rfl (lv_at hl 0 rfl) ?_
          refine lv_bipush (v := 6) hx hb d_Tw_word_39 (by decide) ?_
          refine lv_icmp_eq (tgt := 62) hx hb d_Tw_word_41 (by decide) (fun h7 => ?_) (fun h7 => ?_)
          · refine lv_iconst (v := 1) hx hb d_Tw_word_62 (by decide) ?_
            refine lv_goto (tgt := 67) hx hb d_Tw_word_63 (by decide) ?_
            refine lv_istore (lv' := [(4, .int 1), (3, .int (g 8 (4 * c + b))), (0, .ref (ad 0)), (1, .int (nI c)), (2, .int (nI b))]) hx hb d_Tw_word_67 hl (by decide) rfl (fun ls hl => ?_)
            refine lv_iload hx hb d_Tw_word_69 (lv_at hl 0 rfl) ?_
            refine lv_if_eq (tgt := 87) hx hb d_Tw_word_71 (by decide) (fun h8 => absurd h8 (by decide)) (fun h8 => ?_)
            refine lv_aload_n hx hb d_Tw_word_74 rfl (lv_at hl 2 rfl) ?_
            refine tg_9 E hK hT d_Tw_word_75 ?_
            refine lv_iconst (v := 4) hx hb d_Tw_word_78 (by decide) ?_
            refine lv_iload_n hx hb d_Tw_word_79 rfl (lv_at hl 3 rfl) ?_
            refine wn_mul hx hb (a := 4) (b := c) d_Tw_word_80 ?_
            refine lv_iload_n hx hb d_Tw_word_81 rfl (lv_at hl 4 rfl) ?_
            refine wn_add hx hb (a := 4 * c) (b := b) d_Tw_word_82 ?_
            refine tl_9 E hK hT (j := 4 * c + b) (by omega) d_Tw_word_83 ?_
            refine lv_goto (tgt := 88) hx hb d_Tw_word_84 (by decide) ?_
            exact t_read E rfl (by simp [s_word, h1, ec, h2, eb, h3, h5, h7, h8]) d_Tw_word_88
          · refine lv_iload_n hx hb d_Tw_word_44 rfl (lv_at hl 0 rfl) ?_
            refine lv_bipush (v := 7) hx hb d_Tw_word_45 (by decide) ?_
            refine lv_icmp_eq (tgt := 62) hx hb d_Tw_word_47 (by decide) (fun h9 => ?_) (fun h9 => ?_)
            · refine lv_iconst (v := 1) hx hb d_Tw_word_62 (by decide) ?_
              refine lv_goto (tgt := 67) hx hb d_Tw_word_63 (by decide) ?_
              refine lv_istore (lv' := [(4, .int 1), (3, .int (g 8 (4 * c + b))), (0, .ref (ad 0)), (1, .int (nI c)), (2, .int (nI b))]) hx hb d_Tw_word_67 hl (by decide) rfl (fun ls hl => ?_)
              refine lv_iload hx hb d_Tw_word_69 (lv_at hl 0 rfl) ?_
              refine lv_if_eq (tgt := 87) hx hb d_Tw_word_71 (by decide) (fun h10 => absurd h10 (by decide)) (fun h10 => ?_)
              refine lv_aload_n hx hb d_Tw_word_74 rfl (lv_at hl 2 rfl) ?_
              refine tg_9 E hK hT d_Tw_word_75 ?_
              refine lv_iconst (v := 4) hx hb d_Tw_word_78 (by decide) ?_
              refine lv_iload_n hx hb d_Tw_word_79 rfl (lv_at hl 3 rfl) ?_
              refine wn_mul hx hb (a := 4) (b := c) d_Tw_word_80 ?_
              refine lv_iload_n hx hb d_Tw_word_81 rfl (lv_at hl 4 rfl) ?_
              refine wn_add hx hb (a := 4 * c) (b := b) d_Tw_word_82 ?_
              refine tl_9 E hK hT (j := 4 * c + b) (by omega) d_Tw_word_83 ?_
              refine lv_goto (tgt := 88) hx hb d_Tw_word_84 (by decide) ?_
              exact t_read E rfl (by simp [s_word, h1, ec, h2, eb, h3, h5, h7, h9, h10]) d_Tw_word_88
            · refine lv_iload_n hx hb d_Tw_word_50 rfl (lv_at hl 0 rfl) ?_
              refine lv_bipush (v := 8) hx hb d_Tw_word_51 (by decide) ?_
              refine lv_icmp_eq (tgt := 62) hx hb d_Tw_word_53 (by decide) (fun h11 => ?_) (fun h11 => ?_)
              · refine lv_iconst (v := 1) hx hb d_Tw_word_62 (by decide) ?_
                refine lv_goto (tgt := 67) hx hb d_Tw_word_63 (by decide) ?_
                refine lv_istore (lv' := [(4, .int 1), (3, .int (g 8 (4 * c + b))), (0, .ref (ad 0)), (1, .int (nI c)), (2, .int (nI b))]) hx hb d_Tw_word_67 hl (by decide) rfl (fun ls hl => ?_)
                refine lv_iload hx hb d_Tw_word_69 (lv_at hl 0 rfl) ?_
                refine lv_if_eq (tgt := 87) hx hb d_Tw_word_71 (by decide) (fun h12 => absurd h12 (by decide)) (fun h12 => ?_)
                refine lv_aload_n hx hb d_Tw_word_74 rfl (lv_at hl 2 rfl) ?_
                refine tg_9 E hK hT d_Tw_word_75 ?_
                refine lv_iconst (v := 4) hx hb d_Tw_word_78 (by decide) ?_
                refine lv_iload_n hx hb d_Tw_word_79 rfl (lv_at hl 3 rfl) ?_
                refine wn_mul hx hb (a := 4) (b := c) d_Tw_word_80 ?_
                refine lv_iload_n hx hb d_Tw_word_81 rfl (lv_at hl 4 rfl) ?_
                refine wn_add hx hb (a := 4 * c) (b := b) d_Tw_word_82 ?_
                refine tl_9 E hK hT (j := 4 * c + b) (by omega) d_Tw_word_83 ?_
                refine lv_goto (tgt := 88) hx hb d_Tw_word_84 (by decide) ?_
                exact t_read E rfl (by simp [s_word, h1, ec, h2, eb, h3, h5, h7, h9, h11, h12]) d_Tw_word_88
              · refine lv_iload_n hx hb d_Tw_word_56 rfl (lv_at hl 0 rfl) ?_
                refine lv_bipush (v := 9) hx hb d_Tw_word_57 (by decide) ?_
                refine lv_icmp_ne (tgt := 66) hx hb d_Tw_word_59 (by decide) (fun h13 => ?_) (fun h13 => ?_)
                · refine lv_iconst (v := 0) hx hb d_Tw_word_66 (by decide) ?_
                  refine lv_istore (lv' := [(4, .int 0), (3, .int (g 8 (4 * c + b))), (0, .ref (ad 0)), (1, .int (nI c)), (2, .int (nI b))]) hx hb d_Tw_word_67 hl (by decide) rfl (fun ls hl => ?_)
                  refine lv_iload hx hb d_Tw_word_69 (lv_at hl 0 rfl) ?_
                  refine lv_if_eq (tgt := 87) hx hb d_Tw_word_71 (by decide) (fun h14 => ?_) (fun h14 => absurd (by decide) h14)
                  refine lv_iconst (v := 0) hx hb d_Tw_word_87 (by decide) ?_
                  exact t_read E rfl (by simp [s_word, h1, ec, h2, eb, h3, h5, h7, h9, h11, h13, h14]) d_Tw_word_88
                · refine lv_iconst (v := 1) hx hb d_Tw_word_62 (by decide) ?_
                  refine lv_goto (tgt := 67) hx hb d_Tw_word_63 (by decide) ?_
                  refine lv_istore (lv' := [(4, .int 1), (3, .int (g 8 (4 * c + b))), (0, .ref (ad 0)), (1, .int (nI c)), (2, .int (nI b))]) hx hb d_Tw_word_67 hl (by decide) rfl (fun ls hl => ?_)
                  refine lv_iload hx hb d_Tw_word_69 (lv_at hl 0 rfl) ?_
                  refine lv_if_eq (tgt := 87) hx hb d_Tw_word_71 (by decide) (fun h15 => absurd h15 (by decide)) (fun h15 => ?_)
                  refine lv_aload_n hx hb d_Tw_word_74 rfl (lv_at hl 2 rfl) ?_
                  refine tg_9 E hK hT d_Tw_word_75 ?_
                  refine lv_iconst (v := 4) hx hb d_Tw_word_78 (by decide) ?_
                  refine lv_iload_n hx hb d_Tw_word_79 rfl (lv_at hl 3 rfl) ?_
                  refine wn_mul hx hb (a := 4) (b := c) d_Tw_word_80 ?_
                  refine lv_iload_n hx hb d_Tw_word_81 rfl (lv_at hl 4 rfl) ?_
                  refine wn_add hx hb (a := 4 * c) (b := b) d_Tw_word_82 ?_
                  refine tl_9 E hK hT (j := 4 * c + b) (by omega) d_Tw_word_83 ?_
                  refine lv_goto (tgt := 88) hx hb d_Tw_word_84 (by decide) ?_
                  exact t_read E rfl (by simp [s_word, h1, ec, h2, eb, h3, h5, h7, h9, h11, h13, h15]) d_Tw_word_88
    · refine lv_iconst (v := 0) hx hb d_Tw_word_15 (by decide) ?_
      exact t_read E rfl (by simp [s_word, h1, ec, h2]) d_Tw_word_16
set_option maxHeartbeats 4000000 in
set_option maxRecDepth 100000 in
theorem c_Tw_home (l : Launch) (D : va_G) (dA : Nat → ClassId) (ad : Nat → Nat) (A : Nat → Prop) (g : PS) (M : List Msg) (x : Int32) : Met l y_Tw_home (k_Tw_home :: wz) (rml 1 0 0) (va_Pc [.ref (ad 0), .int x] (PT D dA ad A g M)) (QcRead (s_home g x)) 0 0 (fun _ => False) := by
  refine tw_entry (by decide) (Nat.le_of_ble_eq_true rfl) ?_
  intro p e s m below meth c0 E hK hT ls hl
  have hT0 := hT
  obtain ⟨K, hT, hk⟩ := hT
  have hx := E.1
  have hb := E.2.1
  replace hl : lv_has ls 4 [(0, .ref (ad 0)), (1, .int x)] := hl
  refine lv_iload_n hx hb d_Tw_home_0 rfl (lv_at hl 1 rfl) ?_
  refine s_callR (As := [.int x]) (rest := []) E (c_Tw_isBlock l x) ck_Tw_88 ⟨rfl, rfl⟩ ⟨Nat.le_of_ble_eq_true rfl, Nat.le_of_ble_eq_true rfl⟩ rfl (lv_sub hl [] rfl) rfl (Nat.le_of_ble_eq_true rfl) ⟨Nat.zero_le _, Nat.zero_le _⟩ d_Tw_home_1 ?_
  refine lv_if_ne (tgt := 9) hx hb d_Tw_home_4 (by decide) (fun h1 => ?_) (fun h1 => ?_)
  · obtain ⟨b, hb4, rfl⟩ := isBlock_of h1
    have eb : (nI b).toNatClampNeg = b := nI_clamp (by omega)
    refine lv_iconst (v := 0) hx hb d_Tw_home_9 (by decide) ?_
    refine lv_istore_n (lv' := [(2, .int 0), (0, .ref (ad 0)), (1, .int (nI b))]) hx hb d_Tw_home_10 rfl hl (by decide) rfl (fun ls hl => ?_)
    refine lv_iconst (v := 0) hx hb d_Tw_home_11 (by decide) ?_
    refine lv_istore_n (lv' := [(3, .int 0), (2, .int 0), (0, .ref (ad 0)), (1, .int (nI b))]) hx hb d_Tw_home_12 rfl hl (by decide) rfl (fun ls hl => ?_)
    have loop : ∀ (r c : Nat), c + r = 4 → ∀ ls, lv_has ls 4 [(3, .int (nI c)), (2, .int (nI (s_set g b c))), (0, .ref (ad 0)), (1, .int (nI b))] → W p l e (rml 1 0 0) s m ([.ref (ad 0), .int (nI b)] : List Value).toArray below meth c0 s.heap [] 0 0 (MQ below (QcRead (s_home g (nI b))) ([.ref (ad 0), .int (nI b)] : List Value).toArray s 0 0 (fun _ => False)) (F0 m 13 ls []) := by
      intro r
      induction r with
      | zero =>
        intro c hcr ls hl
        obtain rfl : c = 4 := by omega
        refine lv_iload_n hx hb d_Tw_home_13 rfl (lv_at hl 0 rfl) ?_
        refine lv_iconst (v := 4) hx hb d_Tw_home_14 (by decide) ?_
        refine lv_icmp_ge (tgt := 47) hx hb d_Tw_home_15 (by decide) (fun h2 => ?_) (fun h2 => absurd (by decide) h2)
        refine lv_aload_n hx hb d_Tw_home_47 rfl (lv_at hl 2 rfl) ?_
        refine tg_14 E hK hT d_Tw_home_48 ?_
        refine lv_iload_n hx hb d_Tw_home_51 rfl (lv_at hl 3 rfl) ?_
        refine tl_14 E hK hT (j := b) (by omega) d_Tw_home_52 ?_
        refine lv_aload_n hx hb d_Tw_home_53 rfl (lv_at hl 2 rfl) ?_
        refine tg_14 E hK hT d_Tw_home_54 ?_
        refine lv_iload_n hx hb d_Tw_home_57 rfl (lv_at hl 3 rfl) ?_
        refine tl_14 E hK hT (j := b) (by omega) d_Tw_home_58 ?_
        refine lv_iconst (v := 2) hx hb d_Tw_home_59 (by decide) ?_
        refine lv_icmp_ne (tgt := 76) hx hb d_Tw_home_60 (by decide) (fun h3 => ?_) (fun h3 => ?_)
        · refine lv_iconst (v := 0) hx hb d_Tw_home_76 (by decide) ?_
          refine lv_iadd hx hb d_Tw_home_77 ?_
          refine lv_bipush (v := 32) hx hb d_Tw_home_78 (by decide) ?_
          refine lv_iload_n hx hb d_Tw_home_80 rfl (lv_at hl 1 rfl) ?_
          refine wn_mul hx hb (a := 32) (b := s_set g b 4) d_Tw_home_81 ?_
          refine lv_iadd hx hb d_Tw_home_82 ?_
          exact t_read E rfl (by simp [s_home, h1, eb, h2, h3]) d_Tw_home_83
        · refine lv_iconst (v := 4) hx hb d_Tw_home_63 (by decide) ?_
          refine lv_aload_n hx hb d_Tw_home_64 rfl (lv_at hl 2 rfl) ?_
          refine tg_15 E hK hT d_Tw_home_65 ?_
          refine lv_iload_n hx hb d_Tw_home_68 rfl (lv_at hl 3 rfl) ?_
          refine tl_15 E hK hT (j := b) (by omega) d_Tw_home_69 ?_
          refine lv_iconst (v := 1) hx hb d_Tw_home_70 (by decide) ?_
          refine lv_iadd hx hb d_Tw_home_71 ?_
          refine lv_imul hx hb d_Tw_home_72 ?_
          refine lv_goto (tgt := 77) hx hb d_Tw_home_73 (by decide) ?_
          refine lv_iadd hx hb d_Tw_home_77 ?_
          refine lv_bipush (v := 32) hx hb d_Tw_home_78 (by decide) ?_
          refine lv_iload_n hx hb d_Tw_home_80 rfl (lv_at hl 1 rfl) ?_
          refine wn_mul hx hb (a := 32) (b := s_set g b 4) d_Tw_home_81 ?_
          refine lv_iadd hx hb d_Tw_home_82 ?_
          exact t_read E rfl (by simp [s_home, h1, eb, h2, h3]) d_Tw_home_83
      | succ r ih =>
        intro c hcr ls hl
        refine lv_iload_n hx hb d_Tw_home_13 rfl (lv_at hl 0 rfl) ?_
        refine lv_iconst (v := 4) hx hb d_Tw_home_14 (by decide) ?_
        refine lv_icmp_ge (tgt := 47) hx hb d_Tw_home_15 (by decide) (fun h4 => absurd h4 (nI_ge (a := c) (b := 4) (by omega) (by omega))) (fun h4 => ?_)
        refine lv_aload_n hx hb d_Tw_home_18 rfl (lv_at hl 2 rfl) ?_
        refine tg_16 E hK hT d_Tw_home_19 ?_
        refine lv_iconst (v := 4) hx hb d_Tw_home_22 (by decide) ?_
        refine lv_iload_n hx hb d_Tw_home_23 rfl (lv_at hl 3 rfl) ?_
        refine wn_mul hx hb (a := 4) (b := b) d_Tw_home_24 ?_
        refine lv_iload_n hx hb d_Tw_home_25 rfl (lv_at hl 0 rfl) ?_
        refine wn_add hx hb (a := 4 * b) (b := c) d_Tw_home_26 ?_
        refine tl_16 E hK hT (j := 4 * b + c) (by omega) d_Tw_home_27 ?_
        refine lv_if_eq (tgt := 39) hx hb d_Tw_home_28 (by decide) (fun h5 => ?_) (fun h5 => ?_)
        · refine lv_iload_n hx hb d_Tw_home_39 rfl (lv_at hl 1 rfl) ?_
          refine lv_istore_n (lv' := [(2, .int (nI (s_set g b c))), (3, .int (nI c)), (0, .ref (ad 0)), (1, .int (nI b))]) hx hb d_Tw_home_40 rfl hl (by decide) rfl (fun ls hl => ?_)
          refine lv_iinc (v := nI (c + 1)) (lv' := [(3, .int (nI (c + 1))), (2, .int (nI (s_set g b c))), (0, .ref (ad 0)), (1, .int (nI b))]) hx hb d_Tw_home_41 hl (k := 1) rfl (nI_1 _) (by decide) rfl (fun ls hl => ?_)
          refine lv_goto (tgt := 13) hx hb d_Tw_home_44 (by decide) ?_
          have e9 : s_set g b (c + 1) = s_set g b c := by simp [s_set, h4, h5]
          exact ih (c + 1) (by omega) ls (by rw [e9]; exact lv_sub hl [0, 1, 2, 3] rfl)
        · refine lv_iload_n hx hb d_Tw_home_31 rfl (lv_at hl 1 rfl) ?_
          refine lv_iconst (v := 1) hx hb d_Tw_home_32 (by decide) ?_
          refine lv_iload_n hx hb d_Tw_home_33 rfl (lv_at hl 0 rfl) ?_
          refine lv_ishl hx hb d_Tw_home_34 ?_
          refine wn_eq (y := nI (2 ^ c)) (sh_pow (by omega)) ?_
          refine wn_add hx hb (a := s_set g b c) (b := 2 ^ c) d_Tw_home_35 ?_
          refine lv_goto (tgt := 40) hx hb d_Tw_home_36 (by decide) ?_
          refine lv_istore_n (lv' := [(2, .int (nI (s_set g b c + (2 ^ c)))), (3, .int (nI c)), (0, .ref (ad 0)), (1, .int (nI b))]) hx hb d_Tw_home_40 rfl hl (by decide) rfl (fun ls hl => ?_)
          refine lv_iinc (v := nI (c + 1)) (lv' := [(3, .int (nI (c + 1))), (2, .int (nI (s_set g b c + (2 ^ c)))), (0, .ref (ad 0)), (1, .int (nI b))]) hx hb d_Tw_home_41 hl (k := 1) rfl (nI_1 _) (by decide) rfl (fun ls hl => ?_)
          refine lv_goto (tgt := 13) hx hb d_Tw_home_44 (by decide) ?_
          have e9 : s_set g b (c + 1) = s_set g b c + 2 ^ c := by simp [s_set, h4, h5]
          exact ih (c + 1) (by omega) ls (by rw [e9]; exact lv_sub hl [0, 1, 2, 3] rfl)
    exact loop 4 0 rfl ls (lv_sub hl [0, 1, 2, 3] rfl)
  · refine lv_iconst (v := (-1)) hx hb d_Tw_home_7 (by decide) ?_
    exact t_read E rfl (by simp [s_home, h1]) d_Tw_home_8
set_option maxHeartbeats 4000000 in
set_option maxRecDepth 100000 in
theorem c_Tw_message (l : Launch) (D : va_G) (dA : Nat → ClassId) (ad : Nat → Nat) (A : Nat → Prop) (g : PS) (M : List Msg) (x y : Int32) : Met l y_Tw_message (k_Tw_message :: wz) (rml 0 0 0) (va_Pc [.ref (ad 0), .int x, .int y] (PT D dA ad A g M)) (QcRead (s_message M x y)) 0 0 (fun _ => False) := by
  refine tw_entry (by decide) (Nat.le_of_ble_eq_true rfl) ?_
  intro p e s m below meth c0 E hK hT ls hl
  have hT0 := hT
  obtain ⟨K, hT, hk⟩ := hT
  have hx := E.1
  have hb := E.2.1
  replace hl : lv_has ls 4 [(0, .ref (ad 0)), (1, .int x), (2, .int y)] := hl
  refine lv_iload_n hx hb d_Tw_message_0 rfl (lv_at hl 1 rfl) ?_
  refine lv_if_lt (tgt := 22) hx hb d_Tw_message_1 (by decide) (fun h1 => ?_) (fun h1 => ?_)
  · refine lv_iconst (v := (-1)) hx hb d_Tw_message_22 (by decide) ?_
    exact t_read E rfl (by simp [s_message, h1]) d_Tw_message_23
  · refine lv_iload_n hx hb d_Tw_message_4 rfl (lv_at hl 1 rfl) ?_
    refine lv_aload_n hx hb d_Tw_message_5 rfl (lv_at hl 0 rfl) ?_
    refine tg_17 E hK hT d_Tw_message_6 ?_
    refine lv_icmp_ge (tgt := 22) hx hb d_Tw_message_9 (by decide) (fun h2 => ?_) (fun h2 => ?_)
    · refine lv_iconst (v := (-1)) hx hb d_Tw_message_22 (by decide) ?_
      exact t_read E rfl (by simp [s_message, h1, h2]) d_Tw_message_23
    · obtain ⟨j, hj, rfl⟩ := ix_of (by have := hk.1; omega) h1 h2
      have ej : (nI j).toNatClampNeg = j := nI_clamp (by have := hk.1; omega)
      have hML := hk.1
      obtain ⟨q, hq⟩ : ∃ q, M[j]? = some q := ⟨M[j]'hj, List.getElem?_eq_getElem _⟩
      have fq := hk.2 j q hq
      refine lv_iload_n hx hb d_Tw_message_12 rfl (lv_at hl 2 rfl) ?_
      refine lv_if_lt (tgt := 22) hx hb d_Tw_message_13 (by decide) (fun h3 => ?_) (fun h3 => ?_)
      · refine lv_iconst (v := (-1)) hx hb d_Tw_message_22 (by decide) ?_
        exact t_read E rfl (by simp [s_message, h1, h2, ej, hq, h3]) d_Tw_message_23
      · refine lv_iload_n hx hb d_Tw_message_16 rfl (lv_at hl 2 rfl) ?_
        refine lv_bipush (v := 6) hx hb d_Tw_message_17 (by decide) ?_
        refine lv_icmp_le (tgt := 24) hx hb d_Tw_message_19 (by decide) (fun h4 => ?_) (fun h4 => ?_)
        · obtain ⟨w, hw7, rfl⟩ : ∃ w, w < 7 ∧ y = nI w := ix_of (by omega) h3 (le6 h4)
          rcases (show w = 0 ∨ w = 1 ∨ w = 2 ∨ w = 3 ∨ w = 4 ∨ w = 5 ∨ w = 6 by omega) with rfl | rfl | rfl | rfl | rfl | rfl | rfl
          · refine lv_iload_n hx hb d_Tw_message_24 rfl (lv_at hl 2 rfl) ?_
            refine lv_if_ne (tgt := 37) hx hb d_Tw_message_25 (by decide) (fun h5 => absurd (by decide) h5) (fun h5 => ?_)
            refine lv_aload_n hx hb d_Tw_message_28 rfl (lv_at hl 0 rfl) ?_
            refine tg_20 E hK hT d_Tw_message_29 ?_
            refine lv_iload_n hx hb d_Tw_message_32 rfl (lv_at hl 1 rfl) ?_
            refine tl_20 E hK hT (j := j) (by omega) d_Tw_message_33 ?_
            refine wn_eq (y := nI q.1) fq.1 ?_
            refine lv_goto (tgt := 71) hx hb d_Tw_message_34 (by decide) ?_
            refine lv_istore_n (lv' := [(3, .int (nI q.1)), (0, .ref (ad 0)), (1, .int (nI j)), (2, .int (nI 0))]) hx hb d_Tw_message_71 rfl hl (by decide) rfl (fun ls hl => ?_)
            refine lv_iload_n hx hb d_Tw_message_72 rfl (lv_at hl 3 rfl) ?_
            refine lv_iconst (v := 4) hx hb d_Tw_message_73 (by decide) ?_
            refine lv_icmp_ge (tgt := 81) hx hb d_Tw_message_74 (by decide) (fun h6 => absurd h6 (by decide)) (fun h6 => ?_)
            refine lv_iload_n hx hb d_Tw_message_77 rfl (lv_at hl 0 rfl) ?_
            refine lv_goto (tgt := 115) hx hb d_Tw_message_78 (by decide) ?_
            exact t_read E rfl (by simp [s_message, h1, h2, ej, hq, h3, h4, h5, h6, show nI 0 = (0 : Int32) from rfl, m_field]) d_Tw_message_115
          · refine lv_iload_n hx hb d_Tw_message_24 rfl (lv_at hl 2 rfl) ?_
            refine lv_if_ne (tgt := 37) hx hb d_Tw_message_25 (by decide) (fun h7 => ?_) (fun h7 => absurd h7 (by decide))
            refine lv_iload_n hx hb d_Tw_message_37 rfl (lv_at hl 2 rfl) ?_
            refine lv_iconst (v := 1) hx hb d_Tw_message_38 (by decide) ?_
            refine lv_icmp_ne (tgt := 51) hx hb d_Tw_message_39 (by decide) (fun h8 => absurd (by decide) h8) (fun h8 => ?_)
            refine lv_aload_n hx hb d_Tw_message_42 rfl (lv_at hl 0 rfl) ?_
            refine tg_21 E hK hT d_Tw_message_43 ?_
            refine lv_iload_n hx hb d_Tw_message_46 rfl (lv_at hl 1 rfl) ?_
            refine tl_21 E hK hT (j := j) (by omega) d_Tw_message_47 ?_
            refine wn_eq (y := nI q.2.1) fq.2.1 ?_
            refine lv_goto (tgt := 71) hx hb d_Tw_message_48 (by decide) ?_
            refine lv_istore_n (lv' := [(3, .int (nI q.2.1)), (0, .ref (ad 0)), (1, .int (nI j)), (2, .int (nI 1))]) hx hb d_Tw_message_71 rfl hl (by decide) rfl (fun ls hl => ?_)
            refine lv_iload_n hx hb d_Tw_message_72 rfl (lv_at hl 3 rfl) ?_
            refine lv_iconst (v := 4) hx hb d_Tw_message_73 (by decide) ?_
            refine lv_icmp_ge (tgt := 81) hx hb d_Tw_message_74 (by decide) (fun h9 => absurd h9 (by decide)) (fun h9 => ?_)
            refine lv_iload_n hx hb d_Tw_message_77 rfl (lv_at hl 0 rfl) ?_
            refine lv_goto (tgt := 115) hx hb d_Tw_message_78 (by decide) ?_
            exact t_read E rfl (by simp [s_message, h1, h2, ej, hq, h3, h4, h7, h8, show nI 1 = (1 : Int32) from rfl, m_field]) d_Tw_message_115
          · refine lv_iload_n hx hb d_Tw_message_24 rfl (lv_at hl 2 rfl) ?_
            refine lv_if_ne (tgt := 37) hx hb d_Tw_message_25 (by decide) (fun h10 => ?_) (fun h10 => absurd h10 (by decide))
            refine lv_iload_n hx hb d_Tw_message_37 rfl (lv_at hl 2 rfl) ?_
            refine lv_iconst (v := 1) hx hb d_Tw_message_38 (by decide) ?_
            refine lv_icmp_ne (tgt := 51) hx hb d_Tw_message_39 (by decide) (fun h11 => ?_) (fun h11 => absurd h11 (by decide))
            refine lv_iload_n hx hb d_Tw_message_51 rfl (lv_at hl 2 rfl) ?_
            refine lv_iconst (v := 2) hx hb d_Tw_message_52 (by decide) ?_
            refine lv_icmp_ne (tgt := 65) hx hb d_Tw_message_53 (by decide) (fun h12 => absurd (by decide) h12) (fun h12 => ?_)
            refine lv_aload_n hx hb d_Tw_message_56 rfl (lv_at hl 0 rfl) ?_
            refine tg_22 E hK hT d_Tw_message_57 ?_
            refine lv_iload_n hx hb d_Tw_message_60 rfl (lv_at hl 1 rfl) ?_
            refine tl_22 E hK hT (j := j) (by omega) d_Tw_message_61 ?_
            refine wn_eq (y := nI q.2.2.1) fq.2.2.1 ?_
            refine lv_goto (tgt := 71) hx hb d_Tw_message_62 (by decide) ?_
            refine lv_istore_n (lv' := [(3, .int (nI q.2.2.1)), (0, .ref (ad 0)), (1, .int (nI j)), (2, .int (nI 2))]) hx hb d_Tw_message_71 rfl hl (by decide) rfl (fun ls hl => ?_)
            refine lv_iload_n hx hb d_Tw_message_72 rfl (lv_at hl 3 rfl) ?_
            refine lv_iconst (v := 4) hx hb d_Tw_message_73 (by decide) ?_
            refine lv_icmp_ge (tgt := 81) hx hb d_Tw_message_74 (by decide) (fun h13 => absurd h13 (by decide)) (fun h13 => ?_)
            refine lv_iload_n hx hb d_Tw_message_77 rfl (lv_at hl 0 rfl) ?_
            refine lv_goto (tgt := 115) hx hb d_Tw_message_78 (by decide) ?_
            exact t_read E rfl (by simp [s_message, h1, h2, ej, hq, h3, h4, h10, h11, show nI 2 = (2 : Int32) from rfl, m_field]) d_Tw_message_115
          · refine lv_iload_n hx hb d_Tw_message_24 rfl (lv_at hl 2 rfl) ?_
            refine lv_if_ne (tgt := 37) hx hb d_Tw_message_25 (by decide) (fun h14 => ?_) (fun h14 => absurd h14 (by decide))
            refine lv_iload_n hx hb d_Tw_message_37 rfl (lv_at hl 2 rfl) ?_
            refine lv_iconst (v := 1) hx hb d_Tw_message_38 (by decide) ?_
            refine lv_icmp_ne (tgt := 51) hx hb d_Tw_message_39 (by decide) (fun h15 => ?_) (fun h15 => absurd h15 (by decide))
            refine lv_iload_n hx hb d_Tw_message_51 rfl (lv_at hl 2 rfl) ?_
            refine lv_iconst (v := 2) hx hb d_Tw_message_52 (by decide) ?_
            refine lv_icmp_ne (tgt := 65) hx hb d_Tw_message_53 (by decide) (fun h16 => ?_) (fun h16 => absurd h16 (by decide))
            refine lv_aload_n hx hb d_Tw_message_65 rfl (lv_at hl 0 rfl) ?_
            refine tg_23 E hK hT d_Tw_message_66 ?_
            refine lv_iload_n hx hb d_Tw_message_69 rfl (lv_at hl 1 rfl) ?_
            refine tl_23 E hK hT (j := j) (by omega) d_Tw_message_70 ?_
            refine wn_eq (y := nI q.2.2.2.1) fq.2.2.2.1 ?_
            refine lv_istore_n (lv' := [(3, .int (nI q.2.2.2.1)), (0, .ref (ad 0)), (1, .int (nI j)), (2, .int (nI 3))]) hx hb d_Tw_message_71 rfl hl (by decide) rfl (fun ls hl => ?_)
            refine lv_iload_n hx hb d_Tw_message_72 rfl (lv_at hl 3 rfl) ?_
            refine lv_iconst (v := 4) hx hb d_Tw_message_73 (by decide) ?_
            refine lv_icmp_ge (tgt := 81) hx hb d_Tw_message_74 (by decide) (fun h17 => absurd h17 (by decide)) (fun h17 => ?_)
            refine lv_iload_n hx hb d_Tw_message_77 rfl (lv_at hl 0 rfl) ?_
            refine lv_goto (tgt := 115) hx hb d_Tw_message_78 (by decide) ?_
            exact t_read E rfl (by simp [s_message, h1, h2, ej, hq, h3, h4, h14, h15, show nI 3 = (3 : Int32) from rfl, m_field]) d_Tw_message_115
          · refine lv_iload_n hx hb d_Tw_message_24 rfl (lv_at hl 2 rfl) ?_
            refine lv_if_ne (tgt := 37) hx hb d_Tw_message_25 (by decide) (fun h18 => ?_) (fun h18 => absurd h18 (by decide))
            refine lv_iload_n hx hb d_Tw_message_37 rfl (lv_at hl 2 rfl) ?_
            refine lv_iconst (v := 1) hx hb d_Tw_message_38 (by decide) ?_
            refine lv_icmp_ne (tgt := 51) hx hb d_Tw_message_39 (by decide) (fun h19 => ?_) (fun h19 => absurd h19 (by decide))
            refine lv_iload_n hx hb d_Tw_message_51 rfl (lv_at hl 2 rfl) ?_
            refine lv_iconst (v := 2) hx hb d_Tw_message_52 (by decide) ?_
            refine lv_icmp_ne (tgt := 65) hx hb d_Tw_message_53 (by decide) (fun h20 => ?_) (fun h20 => absurd h20 (by decide))
            refine lv_aload_n hx hb d_Tw_message_65 rfl (lv_at hl 0 rfl) ?_
            refine tg_23 E hK hT d_Tw_message_66 ?_
            refine lv_iload_n hx hb d_Tw_message_69 rfl (lv_at hl 1 rfl) ?_
            refine tl_23 E hK hT (j := j) (by omega) d_Tw_message_70 ?_
            refine wn_eq (y := nI q.2.2.2.1) fq.2.2.2.1 ?_
            refine lv_istore_n (lv' := [(3, .int (nI q.2.2.2.1)), (0, .ref (ad 0)), (1, .int (nI j)), (2, .int (nI 4))]) hx hb d_Tw_message_71 rfl hl (by decide) rfl (fun ls hl => ?_)
            refine lv_iload_n hx hb d_Tw_message_72 rfl (lv_at hl 3 rfl) ?_
            refine lv_iconst (v := 4) hx hb d_Tw_message_73 (by decide) ?_
            refine lv_icmp_ge (tgt := 81) hx hb d_Tw_message_74 (by decide) (fun h21 => ?_) (fun h21 => absurd (by decide) h21)
            refine lv_iload_n hx hb d_Tw_message_81 rfl (lv_at hl 3 rfl) ?_
            refine lv_iconst (v := 4) hx hb d_Tw_message_82 (by decide) ?_
            refine lv_icmp_ne (tgt := 95) hx hb d_Tw_message_83 (by decide) (fun h22 => absurd (by decide) h22) (fun h22 => ?_)
            refine lv_aload_n hx hb d_Tw_message_86 rfl (lv_at hl 1 rfl) ?_
            refine tg_24 E hK hT d_Tw_message_87 ?_
            refine lv_iload_n hx hb d_Tw_message_90 rfl (lv_at hl 2 rfl) ?_
            refine tl_24 E hK hT (j := j) (by omega) d_Tw_message_91 ?_
            refine wn_eq (y := q.2.2.2.2.1) fq.2.2.2.2.1 ?_
            refine lv_goto (tgt := 115) hx hb d_Tw_message_92 (by decide) ?_
            exact t_read E rfl (by simp [s_message, h1, h2, ej, hq, h3, h4, h18, h19, show nI 4 = (4 : Int32) from rfl, m_field]) d_Tw_message_115
          · refine lv_iload_n hx hb d_Tw_message_24 rfl (lv_at hl 2 rfl) ?_
            refine lv_if_ne (tgt := 37) hx hb d_Tw_message_25 (by decide) (fun h23 => ?_) (fun h23 => absurd h23 (by decide))
            refine lv_iload_n hx hb d_Tw_message_37 rfl (lv_at hl 2 rfl) ?_
            refine lv_iconst (v := 1) hx hb d_Tw_message_38 (by decide) ?_
            refine lv_icmp_ne (tgt := 51) hx hb d_Tw_message_39 (by decide) (fun h24 => ?_) (fun h24 => absurd h24 (by decide))
            refine lv_iload_n hx hb d_Tw_message_51 rfl (lv_at hl 2 rfl) ?_
            refine lv_iconst (v := 2) hx hb d_Tw_message_52 (by decide) ?_
            refine lv_icmp_ne (tgt := 65) hx hb d_Tw_message_53 (by decide) (fun h25 => ?_) (fun h25 => absurd h25 (by decide))
            refine lv_aload_n hx hb d_Tw_message_65 rfl (lv_at hl 0 rfl) ?_
            refine tg_23 E hK hT d_Tw_message_66 ?_
            refine lv_iload_n hx hb d_Tw_message_69 rfl (lv_at hl 1 rfl) ?_
            refine tl_23 E hK hT (j := j) (by omega) d_Tw_message_70 ?_
            refine wn_eq (y := nI q.2.2.2.1) fq.2.2.2.1 ?_
            refine lv_istore_n (lv' := [(3, .int (nI q.2.2.2.1)), (0, .ref (ad 0)), (1, .int (nI j)), (2, .int (nI 5))]) hx hb d_Tw_message_71 rfl hl (by decide) rfl (fun ls hl => ?_)
            refine lv_iload_n hx hb d_Tw_message_72 rfl (lv_at hl 3 rfl) ?_
            refine lv_iconst (v := 4) hx hb d_Tw_message_73 (by decide) ?_
            refine lv_icmp_ge (tgt := 81) hx hb d_Tw_message_74 (by decide) (fun h26 => ?_) (fun h26 => absurd (by decide) h26)
            refine lv_iload_n hx hb d_Tw_message_81 rfl (lv_at hl 3 rfl) ?_
            refine lv_iconst (v := 4) hx hb d_Tw_message_82 (by decide) ?_
            refine lv_icmp_ne (tgt := 95) hx hb d_Tw_message_83 (by decide) (fun h27 => ?_) (fun h27 => absurd h27 (by decide))
            refine lv_iload_n hx hb d_Tw_message_95 rfl (lv_at hl 3 rfl) ?_
            refine lv_iconst (v := 5) hx hb d_Tw_message_96 (by decide) ?_
            refine lv_icmp_ne (tgt := 109) hx hb d_Tw_message_97 (by decide) (fun h28 => absurd (by decide) h28) (fun h28 => ?_)
            refine lv_aload_n hx hb d_Tw_message_100 rfl (lv_at hl 1 rfl) ?_
            refine tg_25 E hK hT d_Tw_message_101 ?_
            refine lv_iload_n hx hb d_Tw_message_104 rfl (lv_at hl 2 rfl) ?_
            refine tl_25 E hK hT (j := j) (by omega) d_Tw_message_105 ?_
            refine wn_eq (y := nI q.2.2.2.2.2.1) fq.2.2.2.2.2.1 ?_
            refine lv_goto (tgt := 115) hx hb d_Tw_message_106 (by decide) ?_
            exact t_read E rfl (by simp [s_message, h1, h2, ej, hq, h3, h4, h23, h24, show nI 5 = (5 : Int32) from rfl, m_field]) d_Tw_message_115
          · refine lv_iload_n hx hb d_Tw_message_24 rfl (lv_at hl 2 rfl) ?_
            refine lv_if_ne (tgt := 37) hx hb d_Tw_message_25 (by decide) (fun h29 => ?_) (fun h29 => absurd h29 (by decide))
            refine lv_iload_n hx hb d_Tw_message_37 rfl (lv_at hl 2 rfl) ?_
            refine lv_iconst (v := 1) hx hb d_Tw_message_38 (by decide) ?_
            refine lv_icmp_ne (tgt := 51) hx hb d_Tw_message_39 (by decide) (fun h30 => ?_) (fun h30 => absurd h30 (by decide))
            refine lv_iload_n hx hb d_Tw_message_51 rfl (lv_at hl 2 rfl) ?_
            refine lv_iconst (v := 2) hx hb d_Tw_message_52 (by decide) ?_
            refine lv_icmp_ne (tgt := 65) hx hb d_Tw_message_53 (by decide) (fun h31 => ?_) (fun h31 => absurd h31 (by decide))
            refine lv_aload_n hx hb d_Tw_message_65 rfl (lv_at hl 0 rfl) ?_
            refine tg_23 E hK hT d_Tw_message_66 ?_
            refine lv_iload_n hx hb d_Tw_message_69 rfl (lv_at hl 1 rfl) ?_
            refine tl_23 E hK hT (j := j) (by omega) d_Tw_message_70 ?_
            refine wn_eq (y := nI q.2.2.2.1) fq.2.2.2.1 ?_
            refine lv_istore_n (lv' := [(3, .int (nI q.2.2.2.1)), (0, .ref (ad 0)), (1, .int (nI j)), (2, .int (nI 6))]) hx hb d_Tw_message_71 rfl hl (by decide) rfl (fun ls hl => ?_)
            refine lv_iload_n hx hb d_Tw_message_72 rfl (lv_at hl 3 rfl) ?_
            refine lv_iconst (v := 4) hx hb d_Tw_message_73 (by decide) ?_
            refine lv_icmp_ge (tgt := 81) hx hb d_Tw_message_74 (by decide) (fun h32 => ?_) (fun h32 => absurd (by decide) h32)
            refine lv_iload_n hx hb d_Tw_message_81 rfl (lv_at hl 3 rfl) ?_
            refine lv_iconst (v := 4) hx hb d_Tw_message_82 (by decide) ?_
            refine lv_icmp_ne (tgt := 95) hx hb d_Tw_message_83 (by decide) (fun h33 => ?_) (fun h33 => absurd h33 (by decide))
            refine lv_iload_n hx hb d_Tw_message_95 rfl (lv_at hl 3 rfl) ?_
            refine lv_iconst (v := 5) hx hb d_Tw_message_96 (by decide) ?_
            refine lv_icmp_ne (tgt := 109) hx hb d_Tw_message_97 (by decide) (fun h34 => ?_) (fun h34 => absurd h34 (by decide))
            refine lv_aload_n hx hb d_Tw_message_109 rfl (lv_at hl 1 rfl) ?_
            refine tg_26 E hK hT d_Tw_message_110 ?_
            refine lv_iload_n hx hb d_Tw_message_113 rfl (lv_at hl 2 rfl) ?_
            refine tl_26 E hK hT (j := j) (by omega) d_Tw_message_114 ?_
            refine wn_eq (y := rq q.2.2.2.2.2.2) fq.2.2.2.2.2.2 ?_
            exact t_read E rfl (by simp [s_message, h1, h2, ej, hq, h3, h4, h29, h30, show nI 6 = (6 : Int32) from rfl, m_field]) d_Tw_message_115
        · refine lv_iconst (v := (-1)) hx hb d_Tw_message_22 (by decide) ?_
          exact t_read E rfl (by simp [s_message, h1, h2, ej, hq, h3, h4]) d_Tw_message_23
set_option maxHeartbeats 4000000 in
set_option maxRecDepth 100000 in
theorem c_Tw_go (l : Launch) (D : va_G) (dA : Nat → ClassId) (ad : Nat → Nat) (A : Nat → Prop) (g : PS) (M : List Msg) (x y : Int32) (N : Nat) (hN : g 0 0 = nI N) (hN4 : N ≤ 4) : Met l y_Tw_go (k_Tw_go :: wz) (rml 1 0 0) (va_Pc [.ref (ad 0), .int x, .int y] (PT D dA ad A g M)) (TQi D dA ad A ((s_go g x y).1) ((s_go g x y).2) (M)) 0 0 A := by
  refine tw_entry (by decide) (Nat.le_of_ble_eq_true rfl) ?_
  intro p e s m below meth c0 E hK hT ls hl
  have hT0 := hT
  obtain ⟨K, hT, hk⟩ := hT
  have hx := E.1
  have hb := E.2.1
  have hS : va_S A s.heap s.heap [] := va_S.rf
  replace hl : lv_has ls 3 [(0, .ref (ad 0)), (1, .int x), (2, .int y)] := hl
  refine lv_aload_n hx hb d_Tw_go_0 rfl (lv_at hl 0 rfl) ?_
  refine lv_iload_n hx hb d_Tw_go_1 rfl (lv_at hl 1 rfl) ?_
  refine t_callR (As := [.int x]) (rest := []) E hK ⟨K, hT, hk⟩ (c_Tw_isCore l D dA ad A g M x) ck_Tw_81 ⟨rfl, rfl⟩ ⟨Nat.le_of_ble_eq_true rfl, Nat.le_of_ble_eq_true rfl⟩ rfl (lv_sub hl [] rfl) rfl (Nat.le_of_ble_eq_true rfl) ⟨Nat.zero_le _, Nat.zero_le _⟩ d_Tw_go_2 ?_
  refine lv_if_eq (tgt := 27) hx hb d_Tw_go_5 (by decide) (fun h1 => ?_) (fun h1 => ?_)
  · refine lv_iconst (v := 0) hx hb d_Tw_go_27 (by decide) ?_
    have eS : s_go g x y = (0, g) := by simp [s_go, h1]
    rw [eS]
    exact t_iret E ⟨K, hT, hk⟩ hS rfl rfl d_Tw_go_28
  · obtain ⟨c, hcN, rfl⟩ := isCore_of hN hN4 h1
    have ec : (nI c).toNatClampNeg = c := nI_clamp (by omega)
    refine lv_aload_n hx hb d_Tw_go_8 rfl (lv_at hl 0 rfl) ?_
    refine tg_7 E hK hT d_Tw_go_9 ?_
    refine lv_iload_n hx hb d_Tw_go_12 rfl (lv_at hl 1 rfl) ?_
    refine tl_7 E hK hT (j := c) (by omega) d_Tw_go_13 ?_
    refine lv_if_ne (tgt := 27) hx hb d_Tw_go_14 (by decide) (fun h2 => ?_) (fun h2 => ?_)
    · refine lv_iconst (v := 0) hx hb d_Tw_go_27 (by decide) ?_
      have eS : s_go g (nI c) y = (0, g) := by simp [s_go, h1, ec, h2]
      rw [eS]
      exact t_iret E ⟨K, hT, hk⟩ hS rfl rfl d_Tw_go_28
    · refine lv_iload_n hx hb d_Tw_go_17 rfl (lv_at hl 2 rfl) ?_
      refine lv_if_lt (tgt := 27) hx hb d_Tw_go_18 (by decide) (fun h3 => ?_) (fun h3 => ?_)
      · refine lv_iconst (v := 0) hx hb d_Tw_go_27 (by decide) ?_
        have eS : s_go g (nI c) y = (0, g) := by simp [s_go, h1, ec, h2, h3]
        rw [eS]
        exact t_iret E ⟨K, hT, hk⟩ hS rfl rfl d_Tw_go_28
      · refine lv_iload_n hx hb d_Tw_go_21 rfl (lv_at hl 2 rfl) ?_
        refine lv_bipush (v := 16) hx hb d_Tw_go_22 (by decide) ?_
        refine lv_icmp_le (tgt := 29) hx hb d_Tw_go_24 (by decide) (fun h4 => ?_) (fun h4 => ?_)
        · refine lv_aload_n hx hb d_Tw_go_29 rfl (lv_at hl 0 rfl) ?_
          refine tg_6 E hK hT d_Tw_go_30 ?_
          refine lv_iload_n hx hb d_Tw_go_33 rfl (lv_at hl 1 rfl) ?_
          refine lv_iload_n hx hb d_Tw_go_34 rfl (lv_at hl 2 rfl) ?_
          refine ts_6 E hK hT hS (j := c) (by omega) d_Tw_go_35 (fun H locs hT hS => ?_)
          refine lv_iconst (v := 1) hx hb d_Tw_go_36 (by decide) ?_
          have eS : s_go g (nI c) y = (1, up2 g 6 c y) := by simp [s_go, h1, ec, h2, h3, h4]
          rw [eS]
          exact t_iret E ⟨K, hT, hk⟩ hS rfl rfl d_Tw_go_37
        · refine lv_iconst (v := 0) hx hb d_Tw_go_27 (by decide) ?_
          have eS : s_go g (nI c) y = (0, g) := by simp [s_go, h1, ec, h2, h3, h4]
          rw [eS]
          exact t_iret E ⟨K, hT, hk⟩ hS rfl rfl d_Tw_go_28
set_option maxHeartbeats 4000000 in
set_option maxRecDepth 100000 in
theorem c_Tw_code (l : Launch) (D : va_G) (dA : Nat → ClassId) (ad : Nat → Nat) (A : Nat → Prop) (g : PS) (M : List Msg) (x y z : Int32) (N : Nat) (hN : g 0 0 = nI N) (hN4 : N ≤ 4) (hz : ∀ c, c < 4 → ∃ sz, sz ≤ 16 ∧ g 5 c = nI sz) : Met l y_Tw_code (k_Tw_code :: wz) (rml 1 0 0) (va_Pc [.ref (ad 0), .int x, .int y, .int z] (PT D dA ad A g M)) (TQi D dA ad A ((s_code g x y z).1) ((s_code g x y z).2) (M)) 0 0 A := by
  refine tw_entry (by decide) (Nat.le_of_ble_eq_true rfl) ?_
  intro p e s m below meth c0 E hK hT ls hl
  have hT0 := hT
  obtain ⟨K, hT, hk⟩ := hT
  have hx := E.1
  have hb := E.2.1
  have hS : va_S A s.heap s.heap [] := va_S.rf
  replace hl : lv_has ls 4 [(0, .ref (ad 0)), (1, .int x), (2, .int y), (3, .int z)] := hl
  refine lv_aload_n hx hb d_Tw_code_0 rfl (lv_at hl 0 rfl) ?_
  refine lv_iload_n hx hb d_Tw_code_1 rfl (lv_at hl 1 rfl) ?_
  refine t_callR (As := [.int x]) (rest := []) E hK ⟨K, hT, hk⟩ (c_Tw_isCore l D dA ad A g M x) ck_Tw_81 ⟨rfl, rfl⟩ ⟨Nat.le_of_ble_eq_true rfl, Nat.le_of_ble_eq_true rfl⟩ rfl (lv_sub hl [] rfl) rfl (Nat.le_of_ble_eq_true rfl) ⟨Nat.zero_le _, Nat.zero_le _⟩ d_Tw_code_2 ?_
  refine lv_if_eq (tgt := 57) hx hb d_Tw_code_5 (by decide) (fun h1 => ?_) (fun h1 => ?_)
  · refine lv_iconst (v := 0) hx hb d_Tw_code_57 (by decide) ?_
    have eS : s_code g x y z = (0, g) := by simp only [s_code, s_code2, s_code3, if_pos h1]
    rw [eS]
    exact t_iret E ⟨K, hT, hk⟩ hS rfl rfl d_Tw_code_58
  · obtain ⟨c, hcN, rfl⟩ := isCore_of hN hN4 h1
    have ec : (nI c).toNatClampNeg = c := nI_clamp (by omega)
    obtain ⟨sz, hsz, hg5⟩ := hz c (by omega)
    have e5 : (nI sz).toNatClampNeg = sz := nI_clamp (by omega)
    refine lv_iload_n hx hb d_Tw_code_8 rfl (lv_at hl 2 rfl) ?_
    refine lv_if_lt (tgt := 57) hx hb d_Tw_code_9 (by decide) (fun h2 => ?_) (fun h2 => ?_)
    · refine lv_iconst (v := 0) hx hb d_Tw_code_57 (by decide) ?_
      have eS : s_code g (nI c) y z = (0, g) := by simp only [s_code, s_code2, s_code3, if_neg h1, if_pos h2, ec, hg5, e5]
      rw [eS]
      exact t_iret E ⟨K, hT, hk⟩ hS rfl rfl d_Tw_code_58
    · refine lv_iload_n hx hb d_Tw_code_12 rfl (lv_at hl 2 rfl) ?_
      refine lv_iconst (v := 5) hx hb d_Tw_code_13 (by decide) ?_
      refine lv_icmp_gt (tgt := 57) hx hb d_Tw_code_14 (by decide) (fun h3 => ?_) (fun h3 => ?_)
      · refine lv_iconst (v := 0) hx hb d_Tw_code_57 (by decide) ?_
        have eS : s_code g (nI c) y z = (0, g) := by simp only [s_code, s_code2, s_code3, if_neg h1, if_neg h2, if_pos h3, ec, hg5, e5]
        rw [eS]
        exact t_iret E ⟨K, hT, hk⟩ hS rfl rfl d_Tw_code_58
      · refine lv_iload_n hx hb d_Tw_code_17 rfl (lv_at hl 2 rfl) ?_
        refine s_callR (As := [.int y]) (rest := []) E (c_Tw_access l y) ck_Tw_85 ⟨rfl, rfl⟩ ⟨Nat.le_of_ble_eq_true rfl, Nat.le_of_ble_eq_true rfl⟩ rfl (lv_sub hl [] rfl) rfl (Nat.le_of_ble_eq_true rfl) ⟨Nat.zero_le _, Nat.zero_le _⟩ d_Tw_code_18 ?_
        refine lv_if_eq (tgt := 31) hx hb d_Tw_code_21 (by decide) (fun h4 => ?_) (fun h4 => ?_)
        · refine lv_iload_n hx hb d_Tw_code_31 rfl (lv_at hl 2 rfl) ?_
          refine lv_iconst (v := 3) hx hb d_Tw_code_32 (by decide) ?_
          refine lv_icmp_ne (tgt := 46) hx hb d_Tw_code_33 (by decide) (fun h5 => ?_) (fun h5 => ?_)
          · refine lv_aload_n hx hb d_Tw_code_46 rfl (lv_at hl 0 rfl) ?_
            refine tg_5 E hK hT d_Tw_code_47 ?_
            refine lv_iload_n hx hb d_Tw_code_50 rfl (lv_at hl 1 rfl) ?_
            refine tl_5 E hK hT (j := c) (by omega) d_Tw_code_51 ?_
            refine wn_eq (y := nI sz) hg5 ?_
            refine lv_bipush (v := 16) hx hb d_Tw_code_52 (by decide) ?_
            refine lv_icmp_ne (tgt := 59) hx hb d_Tw_code_54 (by decide) (fun h6 => ?_) (fun h6 => ?_)
            · replace h6 := (not_congr (nI_eq (a := sz) (b := 16) (by omega) (by omega))).mp h6
              have hs16 : ¬ nI sz = 16 := nI_neF (b := 16) h6 (by omega) (by omega)
              refine lv_aload_n hx hb d_Tw_code_59 rfl (lv_at hl 0 rfl) ?_
              refine tg_3 E hK hT d_Tw_code_60 ?_
              refine lv_bipush (v := 16) hx hb d_Tw_code_63 (by decide) ?_
              refine lv_iload_n hx hb d_Tw_code_65 rfl (lv_at hl 1 rfl) ?_
              refine wn_mul hx hb (a := 16) (b := c) d_Tw_code_66 ?_
              refine lv_aload_n hx hb d_Tw_code_67 rfl (lv_at hl 0 rfl) ?_
              refine tg_5 E hK hT d_Tw_code_68 ?_
              refine lv_iload_n hx hb d_Tw_code_71 rfl (lv_at hl 1 rfl) ?_
              refine tl_5 E hK hT (j := c) (by omega) d_Tw_code_72 ?_
              refine wn_eq (y := nI sz) hg5 ?_
              refine wn_add hx hb (a := 16 * c) (b := sz) d_Tw_code_73 ?_
              refine lv_iload_n hx hb d_Tw_code_74 rfl (lv_at hl 2 rfl) ?_
              refine ts_3 E hK hT hS (j := 16 * c + sz) (by omega) d_Tw_code_75 (fun H locs hT hS => ?_)
              refine lv_aload_n hx hb d_Tw_code_76 rfl (lv_at hl 0 rfl) ?_
              refine tg_4 E hK hT d_Tw_code_77 ?_
              refine lv_bipush (v := 16) hx hb d_Tw_code_80 (by decide) ?_
              refine lv_iload_n hx hb d_Tw_code_82 rfl (lv_at hl 1 rfl) ?_
              refine wn_mul hx hb (a := 16) (b := c) d_Tw_code_83 ?_
              refine lv_aload_n hx hb d_Tw_code_84 rfl (lv_at hl 0 rfl) ?_
              refine tg_5 E hK hT d_Tw_code_85 ?_
              refine lv_iload_n hx hb d_Tw_code_88 rfl (lv_at hl 1 rfl) ?_
              refine tl_5 E hK hT (j := c) (by omega) d_Tw_code_89 ?_
              refine wn_eq (y := g 5 c) (by simp [up2, upd, snd]) ?_
              refine wn_eq (y := nI sz) hg5 ?_
              refine wn_add hx hb (a := 16 * c) (b := sz) d_Tw_code_90 ?_
              refine lv_iload_n hx hb d_Tw_code_91 rfl (lv_at hl 3 rfl) ?_
              refine ts_4 E hK hT hS (j := 16 * c + sz) (by omega) d_Tw_code_92 (fun H locs hT hS => ?_)
              refine lv_aload_n hx hb d_Tw_code_93 rfl (lv_at hl 0 rfl) ?_
              refine tg_5 E hK hT d_Tw_code_94 ?_
              refine lv_iload_n hx hb d_Tw_code_97 rfl (lv_at hl 1 rfl) ?_
              refine lv_dup2_11 hx hb d_Tw_code_98 rfl rfl ?_
              refine tl_5 E hK hT (j := c) (by omega) d_Tw_code_99 ?_
              refine wn_eq (y := g 5 c) (by simp [up2, upd, snd]) ?_
              refine wn_eq (y := nI sz) hg5 ?_
              refine lv_iconst (v := 1) hx hb d_Tw_code_100 (by decide) ?_
              refine wn_add hx hb (a := sz) (b := 1) d_Tw_code_101 ?_
              refine ts_5 E hK hT hS (j := c) (by omega) d_Tw_code_102 (fun H locs hT hS => ?_)
              refine lv_iconst (v := 1) hx hb d_Tw_code_103 (by decide) ?_
              have eS : s_code g (nI c) y z = (1, up2 (up2 (up2 g 3 (16 * c + sz) y) 4 (16 * c + sz) z) 5 c (nI (sz + 1))) := by simp only [s_code, s_code2, s_code3, if_neg h1, if_neg h2, if_neg h3, if_pos h4, if_neg h5, ec, hg5, e5, nI_1, if_neg hs16]
              rw [eS]
              exact t_iret E ⟨K, hT, hk⟩ hS rfl rfl d_Tw_code_104
            · replace h6 := (nI_eq (a := sz) (b := 16) (by omega) (by omega)).mp h6
              have hs16 :  nI sz = 16 := by rw [h6]; rfl
              refine lv_iconst (v := 0) hx hb d_Tw_code_57 (by decide) ?_
              have eS : s_code g (nI c) y z = (0, g) := by simp only [s_code, s_code2, s_code3, if_neg h1, if_neg h2, if_neg h3, if_pos h4, if_neg h5, ec, hg5, e5, if_pos hs16]
              rw [eS]
              exact t_iret E ⟨K, hT, hk⟩ hS rfl rfl d_Tw_code_58
          · refine lv_iload_n hx hb d_Tw_code_36 rfl (lv_at hl 3 rfl) ?_
            refine lv_if_lt (tgt := 57) hx hb d_Tw_code_37 (by decide) (fun h7 => ?_) (fun h7 => ?_)
            · refine lv_iconst (v := 0) hx hb d_Tw_code_57 (by decide) ?_
              have eS : s_code g (nI c) y z = (0, g) := by simp only [s_code, s_code2, s_code3, if_neg h1, if_neg h2, if_neg h3, if_pos h4, if_pos h5, if_pos h7, ec, hg5, e5]
              rw [eS]
              exact t_iret E ⟨K, hT, hk⟩ hS rfl rfl d_Tw_code_58
            · refine lv_iload_n hx hb d_Tw_code_40 rfl (lv_at hl 3 rfl) ?_
              refine lv_bipush (v := 15) hx hb d_Tw_code_41 (by decide) ?_
              refine lv_icmp_gt (tgt := 57) hx hb d_Tw_code_43 (by decide) (fun h8 => ?_) (fun h8 => ?_)
              · refine lv_iconst (v := 0) hx hb d_Tw_code_57 (by decide) ?_
                have eS : s_code g (nI c) y z = (0, g) := by simp only [s_code, s_code2, s_code3, if_neg h1, if_neg h2, if_neg h3, if_pos h4, if_pos h5, if_neg h7, if_pos h8, ec, hg5, e5]
                rw [eS]
                exact t_iret E ⟨K, hT, hk⟩ hS rfl rfl d_Tw_code_58
              · refine lv_aload_n hx hb d_Tw_code_46 rfl (lv_at hl 0 rfl) ?_
                refine tg_5 E hK hT d_Tw_code_47 ?_
                refine lv_iload_n hx hb d_Tw_code_50 rfl (lv_at hl 1 rfl) ?_
                refine tl_5 E hK hT (j := c) (by omega) d_Tw_code_51 ?_
                refine wn_eq (y := nI sz) hg5 ?_
                refine lv_bipush (v := 16) hx hb d_Tw_code_52 (by decide) ?_
                refine lv_icmp_ne (tgt := 59) hx hb d_Tw_code_54 (by decide) (fun h9 => ?_) (fun h9 => ?_)
                · replace h9 := (not_congr (nI_eq (a := sz) (b := 16) (by omega) (by omega))).mp h9
                  have hs16 : ¬ nI sz = 16 := nI_neF (b := 16) h9 (by omega) (by omega)
                  refine lv_aload_n hx hb d_Tw_code_59 rfl (lv_at hl 0 rfl) ?_
                  refine tg_3 E hK hT d_Tw_code_60 ?_
                  refine lv_bipush (v := 16) hx hb d_Tw_code_63 (by decide) ?_
                  refine lv_iload_n hx hb d_Tw_code_65 rfl (lv_at hl 1 rfl) ?_
                  refine wn_mul hx hb (a := 16) (b := c) d_Tw_code_66 ?_
                  refine lv_aload_n hx hb d_Tw_code_67 rfl (lv_at hl 0 rfl) ?_
                  refine tg_5 E hK hT d_Tw_code_68 ?_
                  refine lv_iload_n hx hb d_Tw_code_71 rfl (lv_at hl 1 rfl) ?_
                  refine tl_5 E hK hT (j := c) (by omega) d_Tw_code_72 ?_
                  refine wn_eq (y := nI sz) hg5 ?_
                  refine wn_add hx hb (a := 16 * c) (b := sz) d_Tw_code_73 ?_
                  refine lv_iload_n hx hb d_Tw_code_74 rfl (lv_at hl 2 rfl) ?_
                  refine ts_3 E hK hT hS (j := 16 * c + sz) (by omega) d_Tw_code_75 (fun H locs hT hS => ?_)
                  refine lv_aload_n hx hb d_Tw_code_76 rfl (lv_at hl 0 rfl) ?_
                  refine tg_4 E hK hT d_Tw_code_77 ?_
                  refine lv_bipush (v := 16) hx hb d_Tw_code_80 (by decide) ?_
                  refine lv_iload_n hx hb d_Tw_code_82 rfl (lv_at hl 1 rfl) ?_
                  refine wn_mul hx hb (a := 16) (b := c) d_Tw_code_83 ?_
                  refine lv_aload_n hx hb d_Tw_code_84 rfl (lv_at hl 0 rfl) ?_
                  refine tg_5 E hK hT d_Tw_code_85 ?_
                  refine lv_iload_n hx hb d_Tw_code_88 rfl (lv_at hl 1 rfl) ?_
                  refine tl_5 E hK hT (j := c) (by omega) d_Tw_code_89 ?_
                  refine wn_eq (y := g 5 c) (by simp [up2, upd, snd]) ?_
                  refine wn_eq (y := nI sz) hg5 ?_
                  refine wn_add hx hb (a := 16 * c) (b := sz) d_Tw_code_90 ?_
                  refine lv_iload_n hx hb d_Tw_code_91 rfl (lv_at hl 3 rfl) ?_
                  refine ts_4 E hK hT hS (j := 16 * c + sz) (by omega) d_Tw_code_92 (fun H locs hT hS => ?_)
                  refine lv_aload_n hx hb d_Tw_code_93 rfl (lv_at hl 0 rfl) ?_
                  refine tg_5 E hK hT d_Tw_code_94 ?_
                  refine lv_iload_n hx hb d_Tw_code_97 rfl (lv_at hl 1 rfl) ?_
                  refine lv_dup2_11 hx hb d_Tw_code_98 rfl rfl ?_
                  refine tl_5 E hK hT (j := c) (by omega) d_Tw_code_99 ?_
                  refine wn_eq (y := g 5 c) (by simp [up2, upd, snd]) ?_
                  refine wn_eq (y := nI sz) hg5 ?_
                  refine lv_iconst (v := 1) hx hb d_Tw_code_100 (by decide) ?_
                  refine wn_add hx hb (a := sz) (b := 1) d_Tw_code_101 ?_
                  refine ts_5 E hK hT hS (j := c) (by omega) d_Tw_code_102 (fun H locs hT hS => ?_)
                  refine lv_iconst (v := 1) hx hb d_Tw_code_103 (by decide) ?_
                  have eS : s_code g (nI c) y z = (1, up2 (up2 (up2 g 3 (16 * c + sz) y) 4 (16 * c + sz) z) 5 c (nI (sz + 1))) := by simp only [s_code, s_code2, s_code3, if_neg h1, if_neg h2, if_neg h3, if_pos h4, if_pos h5, if_neg h7, if_neg h8, ec, hg5, e5, nI_1, if_neg hs16]
                  rw [eS]
                  exact t_iret E ⟨K, hT, hk⟩ hS rfl rfl d_Tw_code_104
                · replace h9 := (nI_eq (a := sz) (b := 16) (by omega) (by omega)).mp h9
                  have hs16 :  nI sz = 16 := by rw [h9]; rfl
                  refine lv_iconst (v := 0) hx hb d_Tw_code_57 (by decide) ?_
                  have eS : s_code g (nI c) y z = (0, g) := by simp only [s_code, s_code2, s_code3, if_neg h1, if_neg h2, if_neg h3, if_pos h4, if_pos h5, if_neg h7, if_neg h8, ec, hg5, e5, if_pos hs16]
                  rw [eS]
                  exact t_iret E ⟨K, hT, hk⟩ hS rfl rfl d_Tw_code_58
        · refine lv_iload_n hx hb d_Tw_code_24 rfl (lv_at hl 3 rfl) ?_
          refine s_callR (As := [.int z]) (rest := []) E (c_Tw_isBlock l z) ck_Tw_88 ⟨rfl, rfl⟩ ⟨Nat.le_of_ble_eq_true rfl, Nat.le_of_ble_eq_true rfl⟩ rfl (lv_sub hl [] rfl) rfl (Nat.le_of_ble_eq_true rfl) ⟨Nat.zero_le _, Nat.zero_le _⟩ d_Tw_code_25 ?_
          refine lv_if_eq (tgt := 57) hx hb d_Tw_code_28 (by decide) (fun h10 => ?_) (fun h10 => ?_)
          · refine lv_iconst (v := 0) hx hb d_Tw_code_57 (by decide) ?_
            have eS : s_code g (nI c) y z = (0, g) := by simp only [s_code, s_code2, s_code3, if_neg h1, if_neg h2, if_neg h3, if_neg h4, if_pos h10, ec, hg5, e5]
            rw [eS]
            exact t_iret E ⟨K, hT, hk⟩ hS rfl rfl d_Tw_code_58
          · refine lv_iload_n hx hb d_Tw_code_31 rfl (lv_at hl 2 rfl) ?_
            refine lv_iconst (v := 3) hx hb d_Tw_code_32 (by decide) ?_
            refine lv_icmp_ne (tgt := 46) hx hb d_Tw_code_33 (by decide) (fun h11 => ?_) (fun h11 => ?_)
            · refine lv_aload_n hx hb d_Tw_code_46 rfl (lv_at hl 0 rfl) ?_
              refine tg_5 E hK hT d_Tw_code_47 ?_
              refine lv_iload_n hx hb d_Tw_code_50 rfl (lv_at hl 1 rfl) ?_
              refine tl_5 E hK hT (j := c) (by omega) d_Tw_code_51 ?_
              refine wn_eq (y := nI sz) hg5 ?_
              refine lv_bipush (v := 16) hx hb d_Tw_code_52 (by decide) ?_
              refine lv_icmp_ne (tgt := 59) hx hb d_Tw_code_54 (by decide) (fun h12 => ?_) (fun h12 => ?_)
              · replace h12 := (not_congr (nI_eq (a := sz) (b := 16) (by omega) (by omega))).mp h12
                have hs16 : ¬ nI sz = 16 := nI_neF (b := 16) h12 (by omega) (by omega)
                refine lv_aload_n hx hb d_Tw_code_59 rfl (lv_at hl 0 rfl) ?_
                refine tg_3 E hK hT d_Tw_code_60 ?_
                refine lv_bipush (v := 16) hx hb d_Tw_code_63 (by decide) ?_
                refine lv_iload_n hx hb d_Tw_code_65 rfl (lv_at hl 1 rfl) ?_
                refine wn_mul hx hb (a := 16) (b := c) d_Tw_code_66 ?_
                refine lv_aload_n hx hb d_Tw_code_67 rfl (lv_at hl 0 rfl) ?_
                refine tg_5 E hK hT d_Tw_code_68 ?_
                refine lv_iload_n hx hb d_Tw_code_71 rfl (lv_at hl 1 rfl) ?_
                refine tl_5 E hK hT (j := c) (by omega) d_Tw_code_72 ?_
                refine wn_eq (y := nI sz) hg5 ?_
                refine wn_add hx hb (a := 16 * c) (b := sz) d_Tw_code_73 ?_
                refine lv_iload_n hx hb d_Tw_code_74 rfl (lv_at hl 2 rfl) ?_
                refine ts_3 E hK hT hS (j := 16 * c + sz) (by omega) d_Tw_code_75 (fun H locs hT hS => ?_)
                refine lv_aload_n hx hb d_Tw_code_76 rfl (lv_at hl 0 rfl) ?_
                refine tg_4 E hK hT d_Tw_code_77 ?_
                refine lv_bipush (v := 16) hx hb d_Tw_code_80 (by decide) ?_
                refine lv_iload_n hx hb d_Tw_code_82 rfl (lv_at hl 1 rfl) ?_
                refine wn_mul hx hb (a := 16) (b := c) d_Tw_code_83 ?_
                refine lv_aload_n hx hb d_Tw_code_84 rfl (lv_at hl 0 rfl) ?_
                refine tg_5 E hK hT d_Tw_code_85 ?_
                refine lv_iload_n hx hb d_Tw_code_88 rfl (lv_at hl 1 rfl) ?_
                refine tl_5 E hK hT (j := c) (by omega) d_Tw_code_89 ?_
                refine wn_eq (y := g 5 c) (by simp [up2, upd, snd]) ?_
                refine wn_eq (y := nI sz) hg5 ?_
                refine wn_add hx hb (a := 16 * c) (b := sz) d_Tw_code_90 ?_
                refine lv_iload_n hx hb d_Tw_code_91 rfl (lv_at hl 3 rfl) ?_
                refine ts_4 E hK hT hS (j := 16 * c + sz) (by omega) d_Tw_code_92 (fun H locs hT hS => ?_)
                refine lv_aload_n hx hb d_Tw_code_93 rfl (lv_at hl 0 rfl) ?_
                refine tg_5 E hK hT d_Tw_code_94 ?_
                refine lv_iload_n hx hb d_Tw_code_97 rfl (lv_at hl 1 rfl) ?_
                refine lv_dup2_11 hx hb d_Tw_code_98 rfl rfl ?_
                refine tl_5 E hK hT (j := c) (by omega) d_Tw_code_99 ?_
                refine wn_eq (y := g 5 c) (by simp [up2, upd, snd]) ?_
                refine wn_eq (y := nI sz) hg5 ?_
                refine lv_iconst (v := 1) hx hb d_Tw_code_100 (by decide) ?_
                refine wn_add hx hb (a := sz) (b := 1) d_Tw_code_101 ?_
                refine ts_5 E hK hT hS (j := c) (by omega) d_Tw_code_102 (fun H locs hT hS => ?_)
                refine lv_iconst (v := 1) hx hb d_Tw_code_103 (by decide) ?_
                have eS : s_code g (nI c) y z = (1, up2 (up2 (up2 g 3 (16 * c + sz) y) 4 (16 * c + sz) z) 5 c (nI (sz + 1))) := by simp only [s_code, s_code2, s_code3, if_neg h1, if_neg h2, if_neg h3, if_neg h4, if_neg h10, if_neg h11, ec, hg5, e5, nI_1, if_neg hs16]
                rw [eS]
                exact t_iret E ⟨K, hT, hk⟩ hS rfl rfl d_Tw_code_104
              · replace h12 := (nI_eq (a := sz) (b := 16) (by omega) (by omega)).mp h12
                have hs16 :  nI sz = 16 := by rw [h12]; rfl
                refine lv_iconst (v := 0) hx hb d_Tw_code_57 (by decide) ?_
                have eS : s_code g (nI c) y z = (0, g) := by simp only [s_code, s_code2, s_code3, if_neg h1, if_neg h2, if_neg h3, if_neg h4, if_neg h10, if_neg h11, ec, hg5, e5, if_pos hs16]
                rw [eS]
                exact t_iret E ⟨K, hT, hk⟩ hS rfl rfl d_Tw_code_58
            · refine lv_iload_n hx hb d_Tw_code_36 rfl (lv_at hl 3 rfl) ?_
              refine lv_if_lt (tgt := 57) hx hb d_Tw_code_37 (by decide) (fun h13 => ?_) (fun h13 => ?_)
              · refine lv_iconst (v := 0) hx hb d_Tw_code_57 (by decide) ?_
                have eS : s_code g (nI c) y z = (0, g) := by simp only [s_code, s_code2, s_code3, if_neg h1, if_neg h2, if_neg h3, if_neg h4, if_neg h10, if_pos h11, if_pos h13, ec, hg5, e5]
                rw [eS]
                exact t_iret E ⟨K, hT, hk⟩ hS rfl rfl d_Tw_code_58
              · refine lv_iload_n hx hb d_Tw_code_40 rfl (lv_at hl 3 rfl) ?_
                refine lv_bipush (v := 15) hx hb d_Tw_code_41 (by decide) ?_
                refine lv_icmp_gt (tgt := 57) hx hb d_Tw_code_43 (by decide) (fun h14 => ?_) (fun h14 => ?_)
                · refine lv_iconst (v := 0) hx hb d_Tw_code_57 (by decide) ?_
                  have eS : s_code g (nI c) y z = (0, g) := by simp only [s_code, s_code2, s_code3, if_neg h1, if_neg h2, if_neg h3, if_neg h4, if_neg h10, if_pos h11, if_neg h13, if_pos h14, ec, hg5, e5]
                  rw [eS]
                  exact t_iret E ⟨K, hT, hk⟩ hS rfl rfl d_Tw_code_58
                · refine lv_aload_n hx hb d_Tw_code_46 rfl (lv_at hl 0 rfl) ?_
                  refine tg_5 E hK hT d_Tw_code_47 ?_
                  refine lv_iload_n hx hb d_Tw_code_50 rfl (lv_at hl 1 rfl) ?_
                  refine tl_5 E hK hT (j := c) (by omega) d_Tw_code_51 ?_
                  refine wn_eq (y := nI sz) hg5 ?_
                  refine lv_bipush (v := 16) hx hb d_Tw_code_52 (by decide) ?_
                  refine lv_icmp_ne (tgt := 59) hx hb d_Tw_code_54 (by decide) (fun h15 => ?_) (fun h15 => ?_)
                  · replace h15 := (not_congr (nI_eq (a := sz) (b := 16) (by omega) (by omega))).mp h15
                    have hs16 : ¬ nI sz = 16 := nI_neF (b := 16) h15 (by omega) (by omega)
                    refine lv_aload_n hx hb d_Tw_code_59 rfl (lv_at hl 0 rfl) ?_
                    refine tg_3 E hK hT d_Tw_code_60 ?_
                    refine lv_bipush (v := 16) hx hb d_Tw_code_63 (by decide) ?_
                    refine lv_iload_n hx hb d_Tw_code_65 rfl (lv_at hl 1 rfl) ?_
                    refine wn_mul hx hb (a := 16) (b := c) d_Tw_code_66 ?_
                    refine lv_aload_n hx hb d_Tw_code_67 rfl (lv_at hl 0 rfl) ?_
                    refine tg_5 E hK hT d_Tw_code_68 ?_
                    refine lv_iload_n hx hb d_Tw_code_71 rfl (lv_at hl 1 rfl) ?_
                    refine tl_5 E hK hT (j := c) (by omega) d_Tw_code_72 ?_
                    refine wn_eq (y := nI sz) hg5 ?_
                    refine wn_add hx hb (a := 16 * c) (b := sz) d_Tw_code_73 ?_
                    refine lv_iload_n hx hb d_Tw_code_74 rfl (lv_at hl 2 rfl) ?_
                    refine ts_3 E hK hT hS (j := 16 * c + sz) (by omega) d_Tw_code_75 (fun H locs hT hS => ?_)
                    refine lv_aload_n hx hb d_Tw_code_76 rfl (lv_at hl 0 rfl) ?_
                    refine tg_4 E hK hT d_Tw_code_77 ?_
                    refine lv_bipush (v := 16) hx hb d_Tw_code_80 (by decide) ?_
                    refine lv_iload_n hx hb d_Tw_code_82 rfl (lv_at hl 1 rfl) ?_
                    refine wn_mul hx hb (a := 16) (b := c) d_Tw_code_83 ?_
                    refine lv_aload_n hx hb d_Tw_code_84 rfl (lv_at hl 0 rfl) ?_
                    refine tg_5 E hK hT d_Tw_code_85 ?_
                    refine lv_iload_n hx hb d_Tw_code_88 rfl (lv_at hl 1 rfl) ?_
                    refine tl_5 E hK hT (j := c) (by omega) d_Tw_code_89 ?_
                    refine wn_eq (y := g 5 c) (by simp [up2, upd, snd]) ?_
                    refine wn_eq (y := nI sz) hg5 ?_
                    refine wn_add hx hb (a := 16 * c) (b := sz) d_Tw_code_90 ?_
                    refine lv_iload_n hx hb d_Tw_code_91 rfl (lv_at hl 3 rfl) ?_
                    refine ts_4 E hK hT hS (j := 16 * c + sz) (by omega) d_Tw_code_92 (fun H locs hT hS => ?_)
                    refine lv_aload_n hx hb d_Tw_code_93 rfl (lv_at hl 0 rfl) ?_
                    refine tg_5 E hK hT d_Tw_code_94 ?_
                    refine lv_iload_n hx hb d_Tw_code_97 rfl (lv_at hl 1 rfl) ?_
                    refine lv_dup2_11 hx hb d_Tw_code_98 rfl rfl ?_
                    refine tl_5 E hK hT (j := c) (by omega) d_Tw_code_99 ?_
                    refine wn_eq (y := g 5 c) (by simp [up2, upd, snd]) ?_
                    refine wn_eq (y := nI sz) hg5 ?_
                    refine lv_iconst (v := 1) hx hb d_Tw_code_100 (by decide) ?_
                    refine wn_add hx hb (a := sz) (b := 1) d_Tw_code_101 ?_
                    refine ts_5 E hK hT hS (j := c) (by omega) d_Tw_code_102 (fun H locs hT hS => ?_)
                    refine lv_iconst (v := 1) hx hb d_Tw_code_103 (by decide) ?_
                    have eS : s_code g (nI c) y z = (1, up2 (up2 (up2 g 3 (16 * c + sz) y) 4 (16 * c + sz) z) 5 c (nI (sz + 1))) := by simp only [s_code, s_code2, s_code3, if_neg h1, if_neg h2, if_neg h3, if_neg h4, if_neg h10, if_pos h11, if_neg h13, if_neg h14, ec, hg5, e5, nI_1, if_neg hs16]
                    rw [eS]
                    exact t_iret E ⟨K, hT, hk⟩ hS rfl rfl d_Tw_code_104
                  · replace h15 := (nI_eq (a := sz) (b := 16) (by omega) (by omega)).mp h15
                    have hs16 :  nI sz = 16 := by rw [h15]; rfl
                    refine lv_iconst (v := 0) hx hb d_Tw_code_57 (by decide) ?_
                    have eS : s_code g (nI c) y z = (0, g) := by simp only [s_code, s_code2, s_code3, if_neg h1, if_neg h2, if_neg h3, if_neg h4, if_neg h10, if_pos h11, if_neg h13, if_neg h14, ec, hg5, e5, if_pos hs16]
                    rw [eS]
                    exact t_iret E ⟨K, hT, hk⟩ hS rfl rfl d_Tw_code_58
