theorem set_or {g : PS} {b r : Nat} (hr : r < 4) : nI (s_set g b 4) ||| ((1 : Int32) <<< (nI r &&& 31)) = nI (s_set (up2 g 16 (4 * b + r) 1) b 4) := by
  rw [sh_pow hr]
  rcases (show r = 0 ∨ r = 1 ∨ r = 2 ∨ r = 3 by omega) with rfl | rfl | rfl | rfl <;> by_cases h0 : g 16 (4 * b) = 0 <;> by_cases h1 : g 16 (4 * b + 1) = 0 <;> by_cases h2 : g 16 (4 * b + 2) = 0 <;> by_cases h3 : g 16 (4 * b + 3) = 0 <;> simp [s_set, up2, upd, h0, h1, h2, h3] <;> decide
theorem set_andn {g : PS} {b r : Nat} (hr : r < 4) : nI (s_set g b 4) &&& (((1 : Int32) <<< (nI r &&& 31)) ^^^ (-1)) = nI (s_set (up2 g 16 (4 * b + r) 0) b 4) := by
  rw [sh_pow hr]
  rcases (show r = 0 ∨ r = 1 ∨ r = 2 ∨ r = 3 by omega) with rfl | rfl | rfl | rfl <;> by_cases h0 : g 16 (4 * b) = 0 <;> by_cases h1 : g 16 (4 * b + 1) = 0 <;> by_cases h2 : g 16 (4 * b + 2) = 0 <;> by_cases h3 : g 16 (4 * b + 3) = 0 <;> simp [s_set, up2, upd, h0, h1, h2, h3] <;> decide
theorem set_o {g : PS} {b r i : Nat} {v : Int32} (hr : r < 4) (h : i ≠ b) : s_set (up2 g 16 (4 * b + r) v) i 4 = s_set g i 4 := by
  have e : ∀ c, c < 4 → up2 g 16 (4 * b + r) v 16 (4 * i + c) = g 16 (4 * i + c) := fun c hc => up2_j _ _ (by omega)
  have e0 := e 0 (by omega)
  have e1 := e 1 (by omega)
  have e2 := e 2 (by omega)
  have e3 := e 3 (by omega)
  simp only [s_set, e0, e1, e2, e3]
theorem set_0 {g : PS} {b : Nat} : s_set g b 4 = 0 ↔ s_shr g b 0 4 = 0 := by
  by_cases h0 : g 16 (4 * b) = 0 <;> by_cases h1 : g 16 (4 * b + 1) = 0 <;> by_cases h2 : g 16 (4 * b + 2) = 0 <;> by_cases h3 : g 16 (4 * b + 3) = 0 <;> simp [s_set, s_shr, h0, h1, h2, h3]
theorem set_16 (g : PS) (b : Nat) : s_set g b 4 < 16 := s_set_lt g b 4
def s_bc (x : Int32) : Int32 :=
  let sh := fun (y : Int32) (k : Int32) => (y.toUInt32 >>> (k.toUInt32 &&& Int32.toUInt32 31)).toInt32
  let x1 := x - (sh x 1 &&& 1431655765)
  let x2 := (x1 &&& 858993459) + (sh x1 2 &&& 858993459)
  let x3 := (x2 + sh x2 4) &&& 252645135
  let x4 := x3 + sh x3 8
  let x5 := x4 + sh x4 16
  x5 &&& 63
theorem c_Int_bitCount (l : Launch) (x : Int32) : Met l y_Int_bitCount (k_Int_bitCount :: wz) (rml 0 0 0) (fun v _ => v = ([.int x] : List Value).toArray) (QcRead (s_bc x)) 0 0 (fun _ => False) := by
  refine st_entry (by decide) (Nat.le_of_ble_eq_true rfl) ?_
  intro p e s m below meth c0 E ls hl
  have hx := E.1
  have hb := E.2.1
  replace hl : lv_has ls 1 [(0, .int x)] := hl
  refine lv_iload_n hx hb d_Int_bitCount_0 rfl (lv_at hl 0 rfl) ?_
  refine lv_iload_n hx hb d_Int_bitCount_1 rfl (lv_at hl 0 rfl) ?_
  refine lv_iconst (v := 1) hx hb d_Int_bitCount_2 (by decide) ?_
  refine lv_iushr hx hb d_Int_bitCount_3 rfl ?_
  refine lv_ldcw (v := 1431655765) hx hb E.2.2.2.1 (E.2.2.2.2.1 _ zC_Int_265) d_Int_bitCount_4 ?_
  refine lv_iand hx hb d_Int_bitCount_7 ?_
  refine lv_isub hx hb d_Int_bitCount_8 ?_
  refine lv_topi (fun y1 ey1 => ?_)
  refine lv_istore_n (lv' := [(0, .int y1)]) hx hb d_Int_bitCount_9 rfl hl (by decide) rfl (fun ls hl => ?_)
  refine lv_iload_n hx hb d_Int_bitCount_10 rfl (lv_at hl 0 rfl) ?_
  refine lv_ldcw (v := 858993459) hx hb E.2.2.2.1 (E.2.2.2.2.1 _ zC_Int_266) d_Int_bitCount_11 ?_
  refine lv_iand hx hb d_Int_bitCount_14 ?_
  refine lv_iload_n hx hb d_Int_bitCount_15 rfl (lv_at hl 0 rfl) ?_
  refine lv_iconst (v := 2) hx hb d_Int_bitCount_16 (by decide) ?_
  refine lv_iushr hx hb d_Int_bitCount_17 rfl ?_
  refine lv_ldcw (v := 858993459) hx hb E.2.2.2.1 (E.2.2.2.2.1 _ zC_Int_266) d_Int_bitCount_18 ?_
  refine lv_iand hx hb d_Int_bitCount_21 ?_
  refine lv_iadd hx hb d_Int_bitCount_22 ?_
  refine lv_topi (fun y2 ey2 => ?_)
  refine lv_istore_n (lv' := [(0, .int y2)]) hx hb d_Int_bitCount_23 rfl hl (by decide) rfl (fun ls hl => ?_)
  refine lv_iload_n hx hb d_Int_bitCount_24 rfl (lv_at hl 0 rfl) ?_
  refine lv_iload_n hx hb d_Int_bitCount_25 rfl (lv_at hl 0 rfl) ?_
  refine lv_iconst (v := 4) hx hb d_Int_bitCount_26 (by decide) ?_
  refine lv_iushr hx hb d_Int_bitCount_27 rfl ?_
  refine lv_iadd hx hb d_Int_bitCount_28 ?_
  refine lv_ldcw (v := 252645135) hx hb E.2.2.2.1 (E.2.2.2.2.1 _ zC_Int_267) d_Int_bitCount_29 ?_
  refine lv_iand hx hb d_Int_bitCount_32 ?_
  refine lv_topi (fun y3 ey3 => ?_)
  refine lv_istore_n (lv' := [(0, .int y3)]) hx hb d_Int_bitCount_33 rfl hl (by decide) rfl (fun ls hl => ?_)
  refine lv_iload_n hx hb d_Int_bitCount_34 rfl (lv_at hl 0 rfl) ?_
  refine lv_iload_n hx hb d_Int_bitCount_35 rfl (lv_at hl 0 rfl) ?_
  refine lv_bipush (v := 8) hx hb d_Int_bitCount_36 (by decide) ?_
  refine lv_iushr hx hb d_Int_bitCount_38 rfl ?_
  refine lv_iadd hx hb d_Int_bitCount_39 ?_
  refine lv_topi (fun y4 ey4 => ?_)
  refine lv_istore_n (lv' := [(0, .int y4)]) hx hb d_Int_bitCount_40 rfl hl (by decide) rfl (fun ls hl => ?_)
  refine lv_iload_n hx hb d_Int_bitCount_41 rfl (lv_at hl 0 rfl) ?_
  refine lv_iload_n hx hb d_Int_bitCount_42 rfl (lv_at hl 0 rfl) ?_
  refine lv_bipush (v := 16) hx hb d_Int_bitCount_43 (by decide) ?_
  refine lv_iushr hx hb d_Int_bitCount_45 rfl ?_
  refine lv_iadd hx hb d_Int_bitCount_46 ?_
  refine lv_topi (fun y5 ey5 => ?_)
  refine lv_istore_n (lv' := [(0, .int y5)]) hx hb d_Int_bitCount_47 rfl hl (by decide) rfl (fun ls hl => ?_)
  refine lv_iload_n hx hb d_Int_bitCount_48 rfl (lv_at hl 0 rfl) ?_
  refine lv_bipush (v := 63) hx hb d_Int_bitCount_49 (by decide) ?_
  refine lv_iand hx hb d_Int_bitCount_51 ?_
  exact t_read E rfl (by subst ey5; subst ey4; subst ey3; subst ey2; subst ey1; rfl) d_Int_bitCount_52
def s_tz (i : Int32) : Int32 := if i = 0 then 0 else if i = 1 then 1 else if i = 3 then 2 else 3
theorem c_Int_ntz (l : Launch) (x i : Int32) (hi : (x ^^^ (-1)) &&& (x - 1) = i) (h4 : i = 0 ∨ i = 1 ∨ i = 3 ∨ i = 7) : Met l y_Int_numberOfTrailingZeros (k_Int_numberOfTrailingZeros :: wz) (rml 0 0 0) (fun v _ => v = ([.int x] : List Value).toArray) (QcRead (s_tz i)) 0 0 (fun _ => False) := by
  refine st_entry (by decide) (Nat.le_of_ble_eq_true rfl) ?_
  intro p e s m below meth c0 E ls hl
  have hx := E.1
  have hb := E.2.1
  replace hl : lv_has ls 2 [(0, .int x)] := hl
  refine lv_iload_n hx hb d_Int_numberOfTrailingZeros_0 rfl (lv_at hl 0 rfl) ?_
  refine lv_iconst (v := (-1)) hx hb d_Int_numberOfTrailingZeros_1 (by decide) ?_
  refine lv_ixor hx hb d_Int_numberOfTrailingZeros_2 ?_
  refine lv_iload_n hx hb d_Int_numberOfTrailingZeros_3 rfl (lv_at hl 0 rfl) ?_
  refine lv_iconst (v := 1) hx hb d_Int_numberOfTrailingZeros_4 (by decide) ?_
  refine lv_isub hx hb d_Int_numberOfTrailingZeros_5 ?_
  refine lv_iand hx hb d_Int_numberOfTrailingZeros_6 ?_
  refine wn_eq (y := i) hi ?_
  clear hi
  rcases h4 with rfl | rfl | rfl | rfl
  · refine lv_istore_n (lv' := [(0, .int 0)]) hx hb d_Int_numberOfTrailingZeros_7 rfl hl (by decide) rfl (fun ls hl => ?_)
    refine lv_iload_n hx hb d_Int_numberOfTrailingZeros_8 rfl (lv_at hl 0 rfl) ?_
    refine lv_if_gt (tgt := 17) hx hb d_Int_numberOfTrailingZeros_9 (by decide) (fun h1 => absurd h1 (by decide)) (fun h1 => ?_)
    refine lv_iload_n hx hb d_Int_numberOfTrailingZeros_12 rfl (lv_at hl 0 rfl) ?_
    refine lv_bipush (v := 32) hx hb d_Int_numberOfTrailingZeros_13 (by decide) ?_
    refine lv_iand hx hb d_Int_numberOfTrailingZeros_15 ?_
    refine wn_eq (y := 0) (by decide) ?_
    exact t_read E rfl (by decide) d_Int_numberOfTrailingZeros_16
  · refine lv_istore_n (lv' := [(0, .int 1)]) hx hb d_Int_numberOfTrailingZeros_7 rfl hl (by decide) rfl (fun ls hl => ?_)
    refine lv_iload_n hx hb d_Int_numberOfTrailingZeros_8 rfl (lv_at hl 0 rfl) ?_
    refine lv_if_gt (tgt := 17) hx hb d_Int_numberOfTrailingZeros_9 (by decide) (fun h2 => ?_) (fun h2 => absurd (by decide) h2)
    refine lv_iconst (v := 1) hx hb d_Int_numberOfTrailingZeros_17 (by decide) ?_
    refine lv_istore_n (lv' := [(1, .int 1), (0, .int 1)]) hx hb d_Int_numberOfTrailingZeros_18 rfl hl (by decide) rfl (fun ls hl => ?_)
    refine lv_iload_n hx hb d_Int_numberOfTrailingZeros_19 rfl (lv_at hl 1 rfl) ?_
    refine lv_ldcw (v := 65536) hx hb E.2.2.2.1 (E.2.2.2.2.1 _ zC_Int_264) d_Int_numberOfTrailingZeros_20 ?_
    refine lv_icmp_le (tgt := 34) hx hb d_Int_numberOfTrailingZeros_23 (by decide) (fun h3 => ?_) (fun h3 => absurd (by decide) h3)
    refine lv_iload_n hx hb d_Int_numberOfTrailingZeros_34 rfl (lv_at hl 1 rfl) ?_
    refine lv_sipush (v := 256) hx hb d_Int_numberOfTrailingZeros_35 (by decide) ?_
    refine lv_icmp_le (tgt := 49) hx hb d_Int_numberOfTrailingZeros_38 (by decide) (fun h4 => ?_) (fun h4 => absurd (by decide) h4)
    refine lv_iload_n hx hb d_Int_numberOfTrailingZeros_49 rfl (lv_at hl 1 rfl) ?_
    refine lv_bipush (v := 16) hx hb d_Int_numberOfTrailingZeros_50 (by decide) ?_
    refine lv_icmp_le (tgt := 62) hx hb d_Int_numberOfTrailingZeros_52 (by decide) (fun h5 => ?_) (fun h5 => absurd (by decide) h5)
    refine lv_iload_n hx hb d_Int_numberOfTrailingZeros_62 rfl (lv_at hl 1 rfl) ?_
    refine lv_iconst (v := 4) hx hb d_Int_numberOfTrailingZeros_63 (by decide) ?_
    refine lv_icmp_le (tgt := 74) hx hb d_Int_numberOfTrailingZeros_64 (by decide) (fun h6 => ?_) (fun h6 => absurd (by decide) h6)
    refine lv_iload_n hx hb d_Int_numberOfTrailingZeros_74 rfl (lv_at hl 0 rfl) ?_
    refine lv_iload_n hx hb d_Int_numberOfTrailingZeros_75 rfl (lv_at hl 1 rfl) ?_
    refine lv_iconst (v := 1) hx hb d_Int_numberOfTrailingZeros_76 (by decide) ?_
    refine lv_iushr (v := 0) hx hb d_Int_numberOfTrailingZeros_77 (by decide) ?_
    refine lv_iadd hx hb d_Int_numberOfTrailingZeros_78 ?_
    refine wn_eq (y := 1) (by decide) ?_
    exact t_read E rfl (by decide) d_Int_numberOfTrailingZeros_79
  · refine lv_istore_n (lv' := [(0, .int 3)]) hx hb d_Int_numberOfTrailingZeros_7 rfl hl (by decide) rfl (fun ls hl => ?_)
    refine lv_iload_n hx hb d_Int_numberOfTrailingZeros_8 rfl (lv_at hl 0 rfl) ?_
    refine lv_if_gt (tgt := 17) hx hb d_Int_numberOfTrailingZeros_9 (by decide) (fun h7 => ?_) (fun h7 => absurd (by decide) h7)
    refine lv_iconst (v := 1) hx hb d_Int_numberOfTrailingZeros_17 (by decide) ?_
    refine lv_istore_n (lv' := [(1, .int 1), (0, .int 3)]) hx hb d_Int_numberOfTrailingZeros_18 rfl hl (by decide) rfl (fun ls hl => ?_)
    refine lv_iload_n hx hb d_Int_numberOfTrailingZeros_19 rfl (lv_at hl 1 rfl) ?_
    refine lv_ldcw (v := 65536) hx hb E.2.2.2.1 (E.2.2.2.2.1 _ zC_Int_264) d_Int_numberOfTrailingZeros_20 ?_
    refine lv_icmp_le (tgt := 34) hx hb d_Int_numberOfTrailingZeros_23 (by decide) (fun h8 => ?_) (fun h8 => absurd (by decide) h8)
    refine lv_iload_n hx hb d_Int_numberOfTrailingZeros_34 rfl (lv_at hl 1 rfl) ?_
    refine lv_sipush (v := 256) hx hb d_Int_numberOfTrailingZeros_35 (by decide) ?_
    refine lv_icmp_le (tgt := 49) hx hb d_Int_numberOfTrailingZeros_38 (by decide) (fun h9 => ?_) (fun h9 => absurd (by decide) h9)
    refine lv_iload_n hx hb d_Int_numberOfTrailingZeros_49 rfl (lv_at hl 1 rfl) ?_
    refine lv_bipush (v := 16) hx hb d_Int_numberOfTrailingZeros_50 (by decide) ?_
    refine lv_icmp_le (tgt := 62) hx hb d_Int_numberOfTrailingZeros_52 (by decide) (fun h10 => ?_) (fun h10 => absurd (by decide) h10)
    refine lv_iload_n hx hb d_Int_numberOfTrailingZeros_62 rfl (lv_at hl 1 rfl) ?_
    refine lv_iconst (v := 4) hx hb d_Int_numberOfTrailingZeros_63 (by decide) ?_
    refine lv_icmp_le (tgt := 74) hx hb d_Int_numberOfTrailingZeros_64 (by decide) (fun h11 => ?_) (fun h11 => absurd (by decide) h11)
    refine lv_iload_n hx hb d_Int_numberOfTrailingZeros_74 rfl (lv_at hl 0 rfl) ?_
    refine lv_iload_n hx hb d_Int_numberOfTrailingZeros_75 rfl (lv_at hl 1 rfl) ?_
    refine lv_iconst (v := 1) hx hb d_Int_numberOfTrailingZeros_76 (by decide) ?_
    refine lv_iushr (v := 1) hx hb d_Int_numberOfTrailingZeros_77 (by decide) ?_
    refine lv_iadd hx hb d_Int_numberOfTrailingZeros_78 ?_
    refine wn_eq (y := 2) (by decide) ?_
    exact t_read E rfl (by decide) d_Int_numberOfTrailingZeros_79
  · refine lv_istore_n (lv' := [(0, .int 7)]) hx hb d_Int_numberOfTrailingZeros_7 rfl hl (by decide) rfl (fun ls hl => ?_)
    refine lv_iload_n hx hb d_Int_numberOfTrailingZeros_8 rfl (lv_at hl 0 rfl) ?_
    refine lv_if_gt (tgt := 17) hx hb d_Int_numberOfTrailingZeros_9 (by decide) (fun h12 => ?_) (fun h12 => absurd (by decide) h12)
    refine lv_iconst (v := 1) hx hb d_Int_numberOfTrailingZeros_17 (by decide) ?_
    refine lv_istore_n (lv' := [(1, .int 1), (0, .int 7)]) hx hb d_Int_numberOfTrailingZeros_18 rfl hl (by decide) rfl (fun ls hl => ?_)
    refine lv_iload_n hx hb d_Int_numberOfTrailingZeros_19 rfl (lv_at hl 1 rfl) ?_
    refine lv_ldcw (v := 65536) hx hb E.2.2.2.1 (E.2.2.2.2.1 _ zC_Int_264) d_Int_numberOfTrailingZeros_20 ?_
    refine lv_icmp_le (tgt := 34) hx hb d_Int_numberOfTrailingZeros_23 (by decide) (fun h13 => ?_) (fun h13 => absurd (by decide) h13)
    refine lv_iload_n hx hb d_Int_numberOfTrailingZeros_34 rfl (lv_at hl 1 rfl) ?_
    refine lv_sipush (v := 256) hx hb d_Int_numberOfTrailingZeros_35 (by decide) ?_
    refine lv_icmp_le (tgt := 49) hx hb d_Int_numberOfTrailingZeros_38 (by decide) (fun h14 => ?_) (fun h14 => absurd (by decide) h14)
    refine lv_iload_n hx hb d_Int_numberOfTrailingZeros_49 rfl (lv_at hl 1 rfl) ?_
    refine lv_bipush (v := 16) hx hb d_Int_numberOfTrailingZeros_50 (by decide) ?_
    refine lv_icmp_le (tgt := 62) hx hb d_Int_numberOfTrailingZeros_52 (by decide) (fun h15 => ?_) (fun h15 => absurd (by decide) h15)
    refine lv_iload_n hx hb d_Int_numberOfTrailingZeros_62 rfl (lv_at hl 1 rfl) ?_
    refine lv_iconst (v := 4) hx hb d_Int_numberOfTrailingZeros_63 (by decide) ?_
    refine lv_icmp_le (tgt := 74) hx hb d_Int_numberOfTrailingZeros_64 (by decide) (fun h16 => absurd h16 (by decide)) (fun h16 => ?_)
    refine lv_iinc (v := 3) (lv' := [(1, .int 3), (0, .int 7)]) hx hb d_Int_numberOfTrailingZeros_67 hl (k := 0) rfl (by decide) (by decide) rfl (fun ls hl => ?_)
    refine lv_iload_n hx hb d_Int_numberOfTrailingZeros_70 rfl (lv_at hl 1 rfl) ?_
    refine lv_iconst (v := 2) hx hb d_Int_numberOfTrailingZeros_71 (by decide) ?_
    refine lv_iushr (v := 1) hx hb d_Int_numberOfTrailingZeros_72 (by decide) ?_
    refine lv_istore_n (lv' := [(0, .int 1), (1, .int 3)]) hx hb d_Int_numberOfTrailingZeros_73 rfl hl (by decide) rfl (fun ls hl => ?_)
    refine lv_iload_n hx hb d_Int_numberOfTrailingZeros_74 rfl (lv_at hl 1 rfl) ?_
    refine lv_iload_n hx hb d_Int_numberOfTrailingZeros_75 rfl (lv_at hl 0 rfl) ?_
    refine lv_iconst (v := 1) hx hb d_Int_numberOfTrailingZeros_76 (by decide) ?_
    refine lv_iushr (v := 0) hx hb d_Int_numberOfTrailingZeros_77 (by decide) ?_
    refine lv_iadd hx hb d_Int_numberOfTrailingZeros_78 ?_
    refine wn_eq (y := 3) (by decide) ?_
    exact t_read E rfl (by decide) d_Int_numberOfTrailingZeros_79
theorem ord_Kind : ∀ {k : Nat}, k < 10 → ([0, 1, 2, 3, 4, 5, 6, 7, 8, 9] : List Int32).getD k 0 = nI k := by intro k hk; rcases (show k = 0 ∨ k = 1 ∨ k = 2 ∨ k = 3 ∨ k = 4 ∨ k = 5 ∨ k = 6 ∨ k = 7 ∨ k = 8 ∨ k = 9 by omega) with rfl | rfl | rfl | rfl | rfl | rfl | rfl | rfl | rfl | rfl <;> rfl
theorem c_ord_Kind (l : Launch) (D : va_G) (dA : Nat → ClassId) (eA ad : Nat → Nat → Nat) (A : Nat → Prop) (N : Nat) (g : PS) (M : List Msg) (as sp : List Nat) {k : Nat} (hk : k < 10) : Met l y_Enum_ordinal (k_Enum_ordinal :: wz) (rml 0 0 0) (va_Pc [.ref (eA 0 k)] (PX D dA eA ad A N g M as sp)) (QcRead (nI k)) 0 0 (fun _ => False) := by
  refine x_entry (by decide) (Nat.le_of_ble_eq_true rfl) ?_
  intro p e s m below meth c0 E hA hC hR ls hl
  have hx := E.1
  have hb := E.2.1
  replace hl : lv_has ls 1 [(0, .ref (eA 0 k))] := hl
  refine lv_aload_n hx hb d_Enum_ordinal_0 rfl (lv_at hl 0 rfl) ?_
  refine va_getE (q := ("java/lang/Enum", "ordinal", "I", [0, 1, 2, 3, 4, 5, 6, 7, 8, 9])) hx hb hC.2.1 hk (va_S.rf (A := A)) E.2.2.2.1 (by simp) (E.2.2.2.2.1 _ zf_Enum_7) (fun _ h => h) d_Enum_ordinal_1 ?_
  exact t_read E rfl (ord_Kind hk) d_Enum_ordinal_4
theorem ord_Std : ∀ {k : Nat}, k < 4 → ([0, 1, 2, 3] : List Int32).getD k 0 = nI k := by intro k hk; rcases (show k = 0 ∨ k = 1 ∨ k = 2 ∨ k = 3 by omega) with rfl | rfl | rfl | rfl <;> rfl
theorem c_ord_Std (l : Launch) (D : va_G) (dA : Nat → ClassId) (eA ad : Nat → Nat → Nat) (A : Nat → Prop) (N : Nat) (g : PS) (M : List Msg) (as sp : List Nat) {k : Nat} (hk : k < 4) : Met l y_Enum_ordinal (k_Enum_ordinal :: wz) (rml 0 0 0) (va_Pc [.ref (eA 1 k)] (PX D dA eA ad A N g M as sp)) (QcRead (nI k)) 0 0 (fun _ => False) := by
  refine x_entry (by decide) (Nat.le_of_ble_eq_true rfl) ?_
  intro p e s m below meth c0 E hA hC hR ls hl
  have hx := E.1
  have hb := E.2.1
  replace hl : lv_has ls 1 [(0, .ref (eA 1 k))] := hl
  refine lv_aload_n hx hb d_Enum_ordinal_0 rfl (lv_at hl 0 rfl) ?_
  refine va_getE (q := ("java/lang/Enum", "ordinal", "I", [0, 1, 2, 3])) hx hb hC.2.2.1 hk (va_S.rf (A := A)) E.2.2.2.1 (by simp) (E.2.2.2.2.1 _ zf_Enum_7) (fun _ h => h) d_Enum_ordinal_1 ?_
  exact t_read E rfl (ord_Std hk) d_Enum_ordinal_4
