set_option maxHeartbeats 4000000 in
set_option maxRecDepth 100000 in
theorem c_Tw_perform (l : Launch) (D : va_G) (dA : Nat → ClassId) (ad : Nat → Nat) (A : Nat → Prop) (g : PS) (M : List Msg) (c pl b : Nat) (hc : c < 4) (hpl : pl < 16) (hb4 : b < 4) (h6 : g 6 c = nI pl) (h4 : g 4 (16 * c + pl) = nI b) : Met l y_Tw_perform (k_Tw_perform :: wz) (rml 0 0 0) (va_Pc [.ref (ad 0), .int (nI c)] (PT D dA ad A g M)) (TQv D dA ad A (s_perform g c pl b) (M)) 0 0 A := by
  refine tw_entry (by decide) (Nat.le_of_ble_eq_true rfl) ?_
  intro p e s m below meth c0 E hK hT ls hl
  have hT0 := hT
  obtain ⟨K, hT, hk⟩ := hT
  have hx := E.1
  have hb := E.2.1
  have hS : va_S A s.heap s.heap [] := va_S.rf
  replace hl : lv_has ls 5 [(0, .ref (ad 0)), (1, .int (nI c))] := hl
  refine lv_bipush (v := 16) hx hb d_Tw_perform_0 (by decide) ?_
  refine lv_iload_n hx hb d_Tw_perform_2 rfl (lv_at hl 1 rfl) ?_
  refine wn_mul hx hb (a := 16) (b := c) d_Tw_perform_3 ?_
  refine lv_aload_n hx hb d_Tw_perform_4 rfl (lv_at hl 0 rfl) ?_
  refine tg_6 E hK hT d_Tw_perform_5 ?_
  refine lv_iload_n hx hb d_Tw_perform_8 rfl (lv_at hl 1 rfl) ?_
  refine tl_6 E hK hT (j := c) (by omega) d_Tw_perform_9 ?_
  refine wn_eq (y := nI pl) h6 ?_
  refine wn_add hx hb (a := 16 * c) (b := pl) d_Tw_perform_10 ?_
  refine lv_istore_n (lv' := [(2, .int (nI (16 * c + pl))), (0, .ref (ad 0)), (1, .int (nI c))]) hx hb d_Tw_perform_11 rfl hl (by decide) rfl (fun ls hl => ?_)
  refine lv_iconst (v := 4) hx hb d_Tw_perform_12 (by decide) ?_
  refine lv_iload_n hx hb d_Tw_perform_13 rfl (lv_at hl 2 rfl) ?_
  refine wn_mul hx hb (a := 4) (b := c) d_Tw_perform_14 ?_
  refine lv_aload_n hx hb d_Tw_perform_15 rfl (lv_at hl 1 rfl) ?_
  refine tg_4 E hK hT d_Tw_perform_16 ?_
  refine lv_iload_n hx hb d_Tw_perform_19 rfl (lv_at hl 0 rfl) ?_
  refine tl_4 E hK hT (j := 16 * c + pl) (by omega) d_Tw_perform_20 ?_
  refine wn_eq (y := nI b) h4 ?_
  refine wn_add hx hb (a := 4 * c) (b := b) d_Tw_perform_21 ?_
  refine lv_istore_n (lv' := [(3, .int (nI (4 * c + b))), (2, .int (nI (16 * c + pl))), (0, .ref (ad 0)), (1, .int (nI c))]) hx hb d_Tw_perform_22 rfl hl (by decide) rfl (fun ls hl => ?_)
  refine lv_aload_n hx hb d_Tw_perform_23 rfl (lv_at hl 2 rfl) ?_
  refine tg_9 E hK hT d_Tw_perform_24 ?_
  refine lv_iload_n hx hb d_Tw_perform_27 rfl (lv_at hl 0 rfl) ?_
  refine tl_9 E hK hT (j := 4 * c + b) (by omega) d_Tw_perform_28 ?_
  refine lv_istore (lv' := [(4, .int (g 9 (4 * c + b))), (3, .int (nI (4 * c + b))), (2, .int (nI (16 * c + pl))), (0, .ref (ad 0)), (1, .int (nI c))]) hx hb d_Tw_perform_29 hl (by decide) rfl (fun ls hl => ?_)
  refine lv_aload_n hx hb d_Tw_perform_31 rfl (lv_at hl 3 rfl) ?_
  refine tg_9 E hK hT d_Tw_perform_32 ?_
  refine lv_iload_n hx hb d_Tw_perform_35 rfl (lv_at hl 1 rfl) ?_
  refine lv_aload_n hx hb d_Tw_perform_36 rfl (lv_at hl 3 rfl) ?_
  refine tg_3 E hK hT d_Tw_perform_37 ?_
  refine lv_iload_n hx hb d_Tw_perform_40 rfl (lv_at hl 2 rfl) ?_
  refine tl_3 E hK hT (j := 16 * c + pl) (by omega) d_Tw_perform_41 ?_
  refine lv_if_ne (tgt := 50) hx hb d_Tw_perform_42 (by decide) (fun h1 => ?_) (fun h1 => ?_)
  · refine lv_aload_n hx hb d_Tw_perform_50 rfl (lv_at hl 3 rfl) ?_
    refine tg_2 E hK hT d_Tw_perform_51 ?_
    refine lv_iload_n hx hb d_Tw_perform_54 rfl (lv_at hl 4 rfl) ?_
    refine tl_2 E hK hT (j := c) (by omega) d_Tw_perform_55 ?_
    refine ts_9 E hK hT hS (j := 4 * c + b) (by omega) d_Tw_perform_56 (fun H locs hT hS => ?_)
    refine lv_aload_n hx hb d_Tw_perform_57 rfl (lv_at hl 3 rfl) ?_
    refine tg_2 E hK hT d_Tw_perform_58 ?_
    refine lv_iload_n hx hb d_Tw_perform_61 rfl (lv_at hl 4 rfl) ?_
    refine lv_aload_n hx hb d_Tw_perform_62 rfl (lv_at hl 3 rfl) ?_
    refine tg_3 E hK hT d_Tw_perform_63 ?_
    refine lv_iload_n hx hb d_Tw_perform_66 rfl (lv_at hl 2 rfl) ?_
    refine tl_3 E hK hT (j := 16 * c + pl) (by omega) d_Tw_perform_67 ?_
    refine wn_eq (y := g 3 (16 * c + pl)) (by simp [up2, upd, snd]) ?_
    refine lv_iconst (v := 1) hx hb d_Tw_perform_68 (by decide) ?_
    refine lv_icmp_ne (tgt := 81) hx hb d_Tw_perform_69 (by decide) (fun h2 => ?_) (fun h2 => ?_)
    · refine lv_iload hx hb d_Tw_perform_81 (lv_at hl 0 rfl) ?_
      refine ts_2 E hK hT hS (j := c) (by omega) d_Tw_perform_83 (fun H locs hT hS => ?_)
      refine lv_aload_n hx hb d_Tw_perform_84 rfl (lv_at hl 3 rfl) ?_
      refine lv_dup hx hb d_Tw_perform_85 rfl ?_
      refine tg_12 E hK hT d_Tw_perform_86 ?_
      refine wn_eq (y := g 12 0) (by simp [up2, upd, snd]) ?_
      refine lv_iconst (v := 1) hx hb d_Tw_perform_89 (by decide) ?_
      refine lv_iadd hx hb d_Tw_perform_90 ?_
      refine tp_12 E hK hT hS d_Tw_perform_91 (fun H locs hT hS => ?_)
      refine lv_aload_n hx hb d_Tw_perform_94 rfl (lv_at hl 3 rfl) ?_
      refine tg_11 E hK hT d_Tw_perform_95 ?_
      refine lv_iload_n hx hb d_Tw_perform_98 rfl (lv_at hl 1 rfl) ?_
      refine lv_aload_n hx hb d_Tw_perform_99 rfl (lv_at hl 3 rfl) ?_
      refine tg_12 E hK hT d_Tw_perform_100 ?_
      refine wn_eq (y := (g 12 0) + 1) (by simp [up2, upd, snd]) ?_
      refine ts_11 E hK hT hS (j := 4 * c + b) (by omega) d_Tw_perform_103 (fun H locs hT hS => ?_)
      refine lv_aload_n hx hb d_Tw_perform_104 rfl (lv_at hl 3 rfl) ?_
      refine lv_dup hx hb d_Tw_perform_105 rfl ?_
      refine tg_19 E hK hT d_Tw_perform_106 ?_
      refine wn_eq (y := g 19 0) (by simp [up2, upd, snd]) ?_
      refine lv_iconst (v := 1) hx hb d_Tw_perform_109 (by decide) ?_
      refine lv_iadd hx hb d_Tw_perform_110 ?_
      refine tp_19 E hK hT hS d_Tw_perform_111 (fun H locs hT hS => ?_)
      refine lv_aload_n hx hb d_Tw_perform_114 rfl (lv_at hl 3 rfl) ?_
      refine tg_6 E hK hT d_Tw_perform_115 ?_
      refine lv_iload_n hx hb d_Tw_perform_118 rfl (lv_at hl 4 rfl) ?_
      refine lv_dup2_11 hx hb d_Tw_perform_119 rfl rfl ?_
      refine tl_6 E hK hT (j := c) (by omega) d_Tw_perform_120 ?_
      refine wn_eq (y := g 6 c) (by simp [up2, upd, snd]) ?_
      refine wn_eq (y := nI pl) h6 ?_
      refine lv_iconst (v := 1) hx hb d_Tw_perform_121 (by decide) ?_
      refine wn_add hx hb (a := pl) (b := 1) d_Tw_perform_122 ?_
      refine ts_6 E hK hT hS (j := c) (by omega) d_Tw_perform_123 (fun H locs hT hS => ?_)
      have eG : s_perform g c pl b = up2 (up2 (up2 (up2 (up2 (up2 g 9 (4 * c + b) (g 2 c)) 2 c (g 9 (4 * c + b))) 12 0 ((g 12 0) + 1)) 11 (4 * c + b) ((g 12 0) + 1)) 19 0 ((g 19 0) + 1)) 6 c (nI (pl + 1)) := by simp [s_perform, h1, h2]
      rw [eG]
      exact t_vret E ⟨K, hT, hk⟩ hS d_Tw_perform_124
    · refine lv_aload_n hx hb d_Tw_perform_72 rfl (lv_at hl 3 rfl) ?_
      refine tg_2 E hK hT d_Tw_perform_73 ?_
      refine lv_iload_n hx hb d_Tw_perform_76 rfl (lv_at hl 4 rfl) ?_
      refine tl_2 E hK hT (j := c) (by omega) d_Tw_perform_77 ?_
      refine wn_eq (y := g 2 c) (by simp [up2, upd, snd]) ?_
      refine lv_goto (tgt := 83) hx hb d_Tw_perform_78 (by decide) ?_
      refine ts_2 E hK hT hS (j := c) (by omega) d_Tw_perform_83 (fun H locs hT hS => ?_)
      refine lv_aload_n hx hb d_Tw_perform_84 rfl (lv_at hl 3 rfl) ?_
      refine lv_dup hx hb d_Tw_perform_85 rfl ?_
      refine tg_12 E hK hT d_Tw_perform_86 ?_
      refine wn_eq (y := g 12 0) (by simp [up2, upd, snd]) ?_
      refine lv_iconst (v := 1) hx hb d_Tw_perform_89 (by decide) ?_
      refine lv_iadd hx hb d_Tw_perform_90 ?_
      refine tp_12 E hK hT hS d_Tw_perform_91 (fun H locs hT hS => ?_)
      refine lv_aload_n hx hb d_Tw_perform_94 rfl (lv_at hl 3 rfl) ?_
      refine tg_11 E hK hT d_Tw_perform_95 ?_
      refine lv_iload_n hx hb d_Tw_perform_98 rfl (lv_at hl 1 rfl) ?_
      refine lv_aload_n hx hb d_Tw_perform_99 rfl (lv_at hl 3 rfl) ?_
      refine tg_12 E hK hT d_Tw_perform_100 ?_
      refine wn_eq (y := (g 12 0) + 1) (by simp [up2, upd, snd]) ?_
      refine ts_11 E hK hT hS (j := 4 * c + b) (by omega) d_Tw_perform_103 (fun H locs hT hS => ?_)
      refine lv_aload_n hx hb d_Tw_perform_104 rfl (lv_at hl 3 rfl) ?_
      refine lv_dup hx hb d_Tw_perform_105 rfl ?_
      refine tg_19 E hK hT d_Tw_perform_106 ?_
      refine wn_eq (y := g 19 0) (by simp [up2, upd, snd]) ?_
      refine lv_iconst (v := 1) hx hb d_Tw_perform_109 (by decide) ?_
      refine lv_iadd hx hb d_Tw_perform_110 ?_
      refine tp_19 E hK hT hS d_Tw_perform_111 (fun H locs hT hS => ?_)
      refine lv_aload_n hx hb d_Tw_perform_114 rfl (lv_at hl 3 rfl) ?_
      refine tg_6 E hK hT d_Tw_perform_115 ?_
      refine lv_iload_n hx hb d_Tw_perform_118 rfl (lv_at hl 4 rfl) ?_
      refine lv_dup2_11 hx hb d_Tw_perform_119 rfl rfl ?_
      refine tl_6 E hK hT (j := c) (by omega) d_Tw_perform_120 ?_
      refine wn_eq (y := g 6 c) (by simp [up2, upd, snd]) ?_
      refine wn_eq (y := nI pl) h6 ?_
      refine lv_iconst (v := 1) hx hb d_Tw_perform_121 (by decide) ?_
      refine wn_add hx hb (a := pl) (b := 1) d_Tw_perform_122 ?_
      refine ts_6 E hK hT hS (j := c) (by omega) d_Tw_perform_123 (fun H locs hT hS => ?_)
      have eG : s_perform g c pl b = up2 (up2 (up2 (up2 (up2 (up2 g 9 (4 * c + b) (g 2 c)) 2 c (g 2 c)) 12 0 ((g 12 0) + 1)) 11 (4 * c + b) ((g 12 0) + 1)) 19 0 ((g 19 0) + 1)) 6 c (nI (pl + 1)) := by simp [s_perform, h1, h2]
      rw [eG]
      exact t_vret E ⟨K, hT, hk⟩ hS d_Tw_perform_124
  · refine lv_iload hx hb d_Tw_perform_45 (lv_at hl 0 rfl) ?_
    refine lv_goto (tgt := 56) hx hb d_Tw_perform_47 (by decide) ?_
    refine ts_9 E hK hT hS (j := 4 * c + b) (by omega) d_Tw_perform_56 (fun H locs hT hS => ?_)
    refine lv_aload_n hx hb d_Tw_perform_57 rfl (lv_at hl 3 rfl) ?_
    refine tg_2 E hK hT d_Tw_perform_58 ?_
    refine lv_iload_n hx hb d_Tw_perform_61 rfl (lv_at hl 4 rfl) ?_
    refine lv_aload_n hx hb d_Tw_perform_62 rfl (lv_at hl 3 rfl) ?_
    refine tg_3 E hK hT d_Tw_perform_63 ?_
    refine lv_iload_n hx hb d_Tw_perform_66 rfl (lv_at hl 2 rfl) ?_
    refine tl_3 E hK hT (j := 16 * c + pl) (by omega) d_Tw_perform_67 ?_
    refine wn_eq (y := g 3 (16 * c + pl)) (by simp [up2, upd, snd]) ?_
    refine lv_iconst (v := 1) hx hb d_Tw_perform_68 (by decide) ?_
    refine lv_icmp_ne (tgt := 81) hx hb d_Tw_perform_69 (by decide) (fun h3 => ?_) (fun h3 => absurd h3 (by rw [h1]; decide))
    refine lv_iload hx hb d_Tw_perform_81 (lv_at hl 0 rfl) ?_
    refine ts_2 E hK hT hS (j := c) (by omega) d_Tw_perform_83 (fun H locs hT hS => ?_)
    refine lv_aload_n hx hb d_Tw_perform_84 rfl (lv_at hl 3 rfl) ?_
    refine lv_dup hx hb d_Tw_perform_85 rfl ?_
    refine tg_12 E hK hT d_Tw_perform_86 ?_
    refine wn_eq (y := g 12 0) (by simp [up2, upd, snd]) ?_
    refine lv_iconst (v := 1) hx hb d_Tw_perform_89 (by decide) ?_
    refine lv_iadd hx hb d_Tw_perform_90 ?_
    refine tp_12 E hK hT hS d_Tw_perform_91 (fun H locs hT hS => ?_)
    refine lv_aload_n hx hb d_Tw_perform_94 rfl (lv_at hl 3 rfl) ?_
    refine tg_11 E hK hT d_Tw_perform_95 ?_
    refine lv_iload_n hx hb d_Tw_perform_98 rfl (lv_at hl 1 rfl) ?_
    refine lv_aload_n hx hb d_Tw_perform_99 rfl (lv_at hl 3 rfl) ?_
    refine tg_12 E hK hT d_Tw_perform_100 ?_
    refine wn_eq (y := (g 12 0) + 1) (by simp [up2, upd, snd]) ?_
    refine ts_11 E hK hT hS (j := 4 * c + b) (by omega) d_Tw_perform_103 (fun H locs hT hS => ?_)
    refine lv_aload_n hx hb d_Tw_perform_104 rfl (lv_at hl 3 rfl) ?_
    refine lv_dup hx hb d_Tw_perform_105 rfl ?_
    refine tg_19 E hK hT d_Tw_perform_106 ?_
    refine wn_eq (y := g 19 0) (by simp [up2, upd, snd]) ?_
    refine lv_iconst (v := 1) hx hb d_Tw_perform_109 (by decide) ?_
    refine lv_iadd hx hb d_Tw_perform_110 ?_
    refine tp_19 E hK hT hS d_Tw_perform_111 (fun H locs hT hS => ?_)
    refine lv_aload_n hx hb d_Tw_perform_114 rfl (lv_at hl 3 rfl) ?_
    refine tg_6 E hK hT d_Tw_perform_115 ?_
    refine lv_iload_n hx hb d_Tw_perform_118 rfl (lv_at hl 4 rfl) ?_
    refine lv_dup2_11 hx hb d_Tw_perform_119 rfl rfl ?_
    refine tl_6 E hK hT (j := c) (by omega) d_Tw_perform_120 ?_
    refine wn_eq (y := g 6 c) (by simp [up2, upd, snd]) ?_
    refine wn_eq (y := nI pl) h6 ?_
    refine lv_iconst (v := 1) hx hb d_Tw_perform_121 (by decide) ?_
    refine wn_add hx hb (a := pl) (b := 1) d_Tw_perform_122 ?_
    refine ts_6 E hK hT hS (j := c) (by omega) d_Tw_perform_123 (fun H locs hT hS => ?_)
    have eG : s_perform g c pl b = up2 (up2 (up2 (up2 (up2 (up2 g 9 (4 * c + b) (g 9 (4 * c + b))) 2 c (g 9 (4 * c + b))) 12 0 ((g 12 0) + 1)) 11 (4 * c + b) ((g 12 0) + 1)) 19 0 ((g 19 0) + 1)) 6 c (nI (pl + 1)) := by simp [s_perform, h1, h3]
    rw [eG]
    exact t_vret E ⟨K, hT, hk⟩ hS d_Tw_perform_124
set_option maxHeartbeats 4000000 in
set_option maxRecDepth 100000 in
theorem c_Tw_plain (l : Launch) (D : va_G) (dA : Nat → ClassId) (ad : Nat → Nat) (A : Nat → Prop) (g : PS) (M : List Msg) (c : Nat) (op x : Int32) (hc : c < 4) : Met l y_Tw_plain (k_Tw_plain :: wz) (rml 0 0 0) (va_Pc [.ref (ad 0), .int (nI c), .int op, .int x] (PT D dA ad A g M)) (TQi D dA ad A (1) (s_plain g c op x) (M)) 0 0 A := by
  refine tw_entry (by decide) (Nat.le_of_ble_eq_true rfl) ?_
  intro p e s m below meth c0 E hK hT ls hl
  have hT0 := hT
  obtain ⟨K, hT, hk⟩ := hT
  have hx := E.1
  have hb := E.2.1
  have hS : va_S A s.heap s.heap [] := va_S.rf
  replace hl : lv_has ls 5 [(0, .ref (ad 0)), (1, .int (nI c)), (2, .int op), (3, .int x)] := hl
  refine lv_aload_n hx hb d_Tw_plain_0 rfl (lv_at hl 0 rfl) ?_
  refine tg_2 E hK hT d_Tw_plain_1 ?_
  refine lv_iload_n hx hb d_Tw_plain_4 rfl (lv_at hl 1 rfl) ?_
  refine tl_2 E hK hT (j := c) (by omega) d_Tw_plain_5 ?_
  refine lv_istore (lv' := [(4, .int (g 2 c)), (0, .ref (ad 0)), (1, .int (nI c)), (2, .int op), (3, .int x)]) hx hb d_Tw_plain_6 hl (by decide) rfl (fun ls hl => ?_)
  refine lv_aload_n hx hb d_Tw_plain_8 rfl (lv_at hl 1 rfl) ?_
  refine tg_2 E hK hT d_Tw_plain_9 ?_
  refine lv_iload_n hx hb d_Tw_plain_12 rfl (lv_at hl 2 rfl) ?_
  refine lv_iload_n hx hb d_Tw_plain_13 rfl (lv_at hl 3 rfl) ?_
  refine lv_iconst (v := 2) hx hb d_Tw_plain_14 (by decide) ?_
  refine lv_icmp_ne (tgt := 25) hx hb d_Tw_plain_15 (by decide) (fun h1 => ?_) (fun h1 => ?_)
  · refine lv_iload_n hx hb d_Tw_plain_25 rfl (lv_at hl 3 rfl) ?_
    refine lv_iconst (v := 4) hx hb d_Tw_plain_26 (by decide) ?_
    refine lv_icmp_ne (tgt := 34) hx hb d_Tw_plain_27 (by decide) (fun h2 => ?_) (fun h2 => ?_)
    · refine lv_iload hx hb d_Tw_plain_34 (lv_at hl 0 rfl) ?_
      refine ts_2 E hK hT hS (j := c) (by omega) d_Tw_plain_36 (fun H locs hT hS => ?_)
      refine lv_aload_n hx hb d_Tw_plain_37 rfl (lv_at hl 1 rfl) ?_
      refine tg_6 E hK hT d_Tw_plain_38 ?_
      refine lv_iload_n hx hb d_Tw_plain_41 rfl (lv_at hl 2 rfl) ?_
      refine lv_iload_n hx hb d_Tw_plain_42 rfl (lv_at hl 3 rfl) ?_
      refine lv_iconst (v := 3) hx hb d_Tw_plain_43 (by decide) ?_
      refine lv_icmp_ne (tgt := 56) hx hb d_Tw_plain_44 (by decide) (fun h3 => ?_) (fun h3 => ?_)
      · refine lv_aload_n hx hb d_Tw_plain_56 rfl (lv_at hl 1 rfl) ?_
        refine tg_6 E hK hT d_Tw_plain_57 ?_
        refine lv_iload_n hx hb d_Tw_plain_60 rfl (lv_at hl 2 rfl) ?_
        refine tl_6 E hK hT (j := c) (by omega) d_Tw_plain_61 ?_
        refine wn_eq (y := g 6 c) (by simp [up2, upd, snd]) ?_
        refine lv_iconst (v := 1) hx hb d_Tw_plain_62 (by decide) ?_
        refine lv_iadd hx hb d_Tw_plain_63 ?_
        refine ts_6 E hK hT hS (j := c) (by omega) d_Tw_plain_64 (fun H locs hT hS => ?_)
        refine lv_iconst (v := 1) hx hb d_Tw_plain_65 (by decide) ?_
        have eG : s_plain g c op x = up2 (up2 g 2 c (g 2 c)) 6 c ((g 6 c) + 1) := by simp [s_plain, h1, h2, h3]
        rw [eG]
        exact t_iret E ⟨K, hT, hk⟩ hS rfl rfl d_Tw_plain_66
      · refine lv_iload hx hb d_Tw_plain_47 (lv_at hl 0 rfl) ?_
        refine lv_if_eq (tgt := 56) hx hb d_Tw_plain_49 (by decide) (fun h4 => ?_) (fun h4 => ?_)
        · refine lv_aload_n hx hb d_Tw_plain_56 rfl (lv_at hl 1 rfl) ?_
          refine tg_6 E hK hT d_Tw_plain_57 ?_
          refine lv_iload_n hx hb d_Tw_plain_60 rfl (lv_at hl 2 rfl) ?_
          refine tl_6 E hK hT (j := c) (by omega) d_Tw_plain_61 ?_
          refine wn_eq (y := g 6 c) (by simp [up2, upd, snd]) ?_
          refine lv_iconst (v := 1) hx hb d_Tw_plain_62 (by decide) ?_
          refine lv_iadd hx hb d_Tw_plain_63 ?_
          refine ts_6 E hK hT hS (j := c) (by omega) d_Tw_plain_64 (fun H locs hT hS => ?_)
          refine lv_iconst (v := 1) hx hb d_Tw_plain_65 (by decide) ?_
          have eG : s_plain g c op x = up2 (up2 g 2 c (g 2 c)) 6 c ((g 6 c) + 1) := by simp [s_plain, h1, h2, h3, h4]
          rw [eG]
          exact t_iret E ⟨K, hT, hk⟩ hS rfl rfl d_Tw_plain_66
        · refine lv_iload_n hx hb d_Tw_plain_52 rfl (lv_at hl 4 rfl) ?_
          refine lv_goto (tgt := 64) hx hb d_Tw_plain_53 (by decide) ?_
          refine ts_6 E hK hT hS (j := c) (by omega) d_Tw_plain_64 (fun H locs hT hS => ?_)
          refine lv_iconst (v := 1) hx hb d_Tw_plain_65 (by decide) ?_
          have eG : s_plain g c op x = up2 (up2 g 2 c (g 2 c)) 6 c x := by simp [s_plain, h1, h2, h3, h4]
          rw [eG]
          exact t_iret E ⟨K, hT, hk⟩ hS rfl rfl d_Tw_plain_66
    · refine lv_iload_n hx hb d_Tw_plain_30 rfl (lv_at hl 4 rfl) ?_
      refine lv_goto (tgt := 36) hx hb d_Tw_plain_31 (by decide) ?_
      refine ts_2 E hK hT hS (j := c) (by omega) d_Tw_plain_36 (fun H locs hT hS => ?_)
      refine lv_aload_n hx hb d_Tw_plain_37 rfl (lv_at hl 1 rfl) ?_
      refine tg_6 E hK hT d_Tw_plain_38 ?_
      refine lv_iload_n hx hb d_Tw_plain_41 rfl (lv_at hl 2 rfl) ?_
      refine lv_iload_n hx hb d_Tw_plain_42 rfl (lv_at hl 3 rfl) ?_
      refine lv_iconst (v := 3) hx hb d_Tw_plain_43 (by decide) ?_
      refine lv_icmp_ne (tgt := 56) hx hb d_Tw_plain_44 (by decide) (fun h5 => ?_) (fun h5 => absurd h5 (by rw [h2]; decide))
      refine lv_aload_n hx hb d_Tw_plain_56 rfl (lv_at hl 1 rfl) ?_
      refine tg_6 E hK hT d_Tw_plain_57 ?_
      refine lv_iload_n hx hb d_Tw_plain_60 rfl (lv_at hl 2 rfl) ?_
      refine tl_6 E hK hT (j := c) (by omega) d_Tw_plain_61 ?_
      refine wn_eq (y := g 6 c) (by simp [up2, upd, snd]) ?_
      refine lv_iconst (v := 1) hx hb d_Tw_plain_62 (by decide) ?_
      refine lv_iadd hx hb d_Tw_plain_63 ?_
      refine ts_6 E hK hT hS (j := c) (by omega) d_Tw_plain_64 (fun H locs hT hS => ?_)
      refine lv_iconst (v := 1) hx hb d_Tw_plain_65 (by decide) ?_
      have eG : s_plain g c op x = up2 (up2 g 2 c x) 6 c ((g 6 c) + 1) := by simp [s_plain, h1, h2, h5]
      rw [eG]
      exact t_iret E ⟨K, hT, hk⟩ hS rfl rfl d_Tw_plain_66
  · refine lv_iload hx hb d_Tw_plain_18 (lv_at hl 0 rfl) ?_
    refine lv_iload_n hx hb d_Tw_plain_20 rfl (lv_at hl 4 rfl) ?_
    refine lv_iadd hx hb d_Tw_plain_21 ?_
    refine lv_goto (tgt := 36) hx hb d_Tw_plain_22 (by decide) ?_
    refine ts_2 E hK hT hS (j := c) (by omega) d_Tw_plain_36 (fun H locs hT hS => ?_)
    refine lv_aload_n hx hb d_Tw_plain_37 rfl (lv_at hl 1 rfl) ?_
    refine tg_6 E hK hT d_Tw_plain_38 ?_
    refine lv_iload_n hx hb d_Tw_plain_41 rfl (lv_at hl 2 rfl) ?_
    refine lv_iload_n hx hb d_Tw_plain_42 rfl (lv_at hl 3 rfl) ?_
    refine lv_iconst (v := 3) hx hb d_Tw_plain_43 (by decide) ?_
    refine lv_icmp_ne (tgt := 56) hx hb d_Tw_plain_44 (by decide) (fun h6 => ?_) (fun h6 => absurd h6 (by rw [h1]; decide))
    refine lv_aload_n hx hb d_Tw_plain_56 rfl (lv_at hl 1 rfl) ?_
    refine tg_6 E hK hT d_Tw_plain_57 ?_
    refine lv_iload_n hx hb d_Tw_plain_60 rfl (lv_at hl 2 rfl) ?_
    refine tl_6 E hK hT (j := c) (by omega) d_Tw_plain_61 ?_
    refine wn_eq (y := g 6 c) (by simp [up2, upd, snd]) ?_
    refine lv_iconst (v := 1) hx hb d_Tw_plain_62 (by decide) ?_
    refine lv_iadd hx hb d_Tw_plain_63 ?_
    refine ts_6 E hK hT hS (j := c) (by omega) d_Tw_plain_64 (fun H locs hT hS => ?_)
    refine lv_iconst (v := 1) hx hb d_Tw_plain_65 (by decide) ?_
    have eG : s_plain g c op x = up2 (up2 g 2 c ((g 2 c) + x)) 6 c ((g 6 c) + 1) := by simp [s_plain, h1, h6]
    rw [eG]
    exact t_iret E ⟨K, hT, hk⟩ hS rfl rfl d_Tw_plain_66
set_option maxHeartbeats 4000000 in
set_option maxRecDepth 100000 in
theorem c_Tw_inUse (l : Launch) (D : va_G) (dA : Nat → ClassId) (ad : Nat → Nat) (A : Nat → Prop) (g : PS) (M : List Msg) (c : Nat) (hc : c < 4) : Met l y_Tw_inUse (k_Tw_inUse :: wz) (rml 0 0 0) (va_Pc [.ref (ad 0), .int (nI c)] (PT D dA ad A g M)) (QcRead (nI (s_used g c 4))) 0 0 (fun _ => False) := by
  refine tw_entry (by decide) (Nat.le_of_ble_eq_true rfl) ?_
  intro p e s m below meth c0 E hK hT ls hl
  have hT0 := hT
  obtain ⟨K, hT, hk⟩ := hT
  have hx := E.1
  have hb := E.2.1
  replace hl : lv_has ls 4 [(0, .ref (ad 0)), (1, .int (nI c))] := hl
  refine lv_iconst (v := 0) hx hb d_Tw_inUse_0 (by decide) ?_
  refine lv_istore_n (lv' := [(2, .int 0), (0, .ref (ad 0)), (1, .int (nI c))]) hx hb d_Tw_inUse_1 rfl hl (by decide) rfl (fun ls hl => ?_)
  refine lv_iconst (v := 0) hx hb d_Tw_inUse_2 (by decide) ?_
  refine lv_istore_n (lv' := [(3, .int 0), (2, .int 0), (0, .ref (ad 0)), (1, .int (nI c))]) hx hb d_Tw_inUse_3 rfl hl (by decide) rfl (fun ls hl => ?_)
  have loop : ∀ (r b : Nat), b + r = 4 → ∀ ls, lv_has ls 4 [(3, .int (nI b)), (2, .int (nI (s_used g c b))), (0, .ref (ad 0)), (1, .int (nI c))] → W p l e (rml 0 0 0) s m ([.ref (ad 0), .int (nI c)] : List Value).toArray below meth c0 s.heap [] 0 0 (MQ below (QcRead (nI (s_used g c 4))) ([.ref (ad 0), .int (nI c)] : List Value).toArray s 0 0 (fun _ => False)) (F0 m 4 ls []) := by
    intro r
    induction r with
    | zero =>
      intro b hbr ls hl
      refine lv_iload_n hx hb d_Tw_inUse_4 rfl (lv_at hl 0 rfl) ?_
      refine lv_iconst (v := 4) hx hb d_Tw_inUse_5 (by decide) ?_
      refine lv_icmp_ge (tgt := 36) hx hb d_Tw_inUse_6 (by decide) (fun h1 => ?_) (fun h1 => absurd (nI_le (a := 4) (b := b) (by omega) (by omega)) h1)
      refine lv_iload_n hx hb d_Tw_inUse_36 rfl (lv_at hl 1 rfl) ?_
      exact t_read E rfl (by rw [show b = 4 by omega]) d_Tw_inUse_37
    | succ r ih =>
      intro b hbr ls hl
      have hub := s_used_le g c b
      refine lv_iload_n hx hb d_Tw_inUse_4 rfl (lv_at hl 0 rfl) ?_
      refine lv_iconst (v := 4) hx hb d_Tw_inUse_5 (by decide) ?_
      refine lv_icmp_ge (tgt := 36) hx hb d_Tw_inUse_6 (by decide) (fun h2 => absurd h2 (nI_ge (a := b) (b := 4) (by omega) (by omega))) (fun h2 => ?_)
      refine lv_aload_n hx hb d_Tw_inUse_9 rfl (lv_at hl 2 rfl) ?_
      refine tg_8 E hK hT d_Tw_inUse_10 ?_
      refine lv_iconst (v := 4) hx hb d_Tw_inUse_13 (by decide) ?_
      refine lv_iload_n hx hb d_Tw_inUse_14 rfl (lv_at hl 3 rfl) ?_
      refine wn_mul hx hb (a := 4) (b := c) d_Tw_inUse_15 ?_
      refine lv_iload_n hx hb d_Tw_inUse_16 rfl (lv_at hl 0 rfl) ?_
      refine wn_add hx hb (a := 4 * c) (b := b) d_Tw_inUse_17 ?_
      refine tl_8 E hK hT (j := 4 * c + b) (by omega) d_Tw_inUse_18 ?_
      refine lv_if_eq (tgt := 28) hx hb d_Tw_inUse_19 (by decide) (fun h3 => ?_) (fun h3 => ?_)
      · refine lv_iload_n hx hb d_Tw_inUse_28 rfl (lv_at hl 1 rfl) ?_
        refine lv_istore_n (lv' := [(2, .int (nI (s_used g c b))), (3, .int (nI b)), (0, .ref (ad 0)), (1, .int (nI c))]) hx hb d_Tw_inUse_29 rfl hl (by decide) rfl (fun ls hl => ?_)
        refine lv_iinc (v := nI (b + 1)) (lv' := [(3, .int (nI (b + 1))), (2, .int (nI (s_used g c b))), (0, .ref (ad 0)), (1, .int (nI c))]) hx hb d_Tw_inUse_30 hl (k := 1) rfl (nI_1 _) (by decide) rfl (fun ls hl => ?_)
        refine lv_goto (tgt := 4) hx hb d_Tw_inUse_33 (by decide) ?_
        have e9 : s_used g c (b + 1) = s_used g c b := by simp [s_used, h2, h3]
        exact ih (b + 1) (by omega) ls (by rw [e9]; exact lv_sub hl [0, 1, 2, 3] rfl)
      · refine lv_iload_n hx hb d_Tw_inUse_22 rfl (lv_at hl 1 rfl) ?_
        refine lv_iconst (v := 1) hx hb d_Tw_inUse_23 (by decide) ?_
        refine wn_add hx hb (a := s_used g c b) (b := 1) d_Tw_inUse_24 ?_
        refine lv_goto (tgt := 29) hx hb d_Tw_inUse_25 (by decide) ?_
        refine lv_istore_n (lv' := [(2, .int (nI (s_used g c b + 1))), (3, .int (nI b)), (0, .ref (ad 0)), (1, .int (nI c))]) hx hb d_Tw_inUse_29 rfl hl (by decide) rfl (fun ls hl => ?_)
        refine lv_iinc (v := nI (b + 1)) (lv' := [(3, .int (nI (b + 1))), (2, .int (nI (s_used g c b + 1))), (0, .ref (ad 0)), (1, .int (nI c))]) hx hb d_Tw_inUse_30 hl (k := 1) rfl (nI_1 _) (by decide) rfl (fun ls hl => ?_)
        refine lv_goto (tgt := 4) hx hb d_Tw_inUse_33 (by decide) ?_
        have e9 : s_used g c (b + 1) = s_used g c b + 1 := by simp [s_used, h2, h3]
        exact ih (b + 1) (by omega) ls (by rw [e9]; exact lv_sub hl [0, 1, 2, 3] rfl)
  exact loop 4 0 rfl ls (lv_sub hl [0, 1, 2, 3] rfl)
set_option maxHeartbeats 4000000 in
set_option maxRecDepth 100000 in
theorem c_Tw_ask (l : Launch) (D : va_G) (dA : Nat → ClassId) (ad : Nat → Nat) (A : Nat → Prop) (g : PS) (M : List Msg) (c b rk : Nat) (st : Int32) (hc : c < 4) (hb4 : b < 4) (hM : M.length < 64) : Met l y_Tw_ask (k_Tw_ask :: wz) (rml 1 0 0) (va_Pc [.ref (ad 0), .int (nI c), .int (nI b), .int (nI rk), .int st] (PT D dA ad A g M)) (TQi D dA ad A (2) (s_ask g c b st) (M ++ [(rk, c, 4, b, 0, 0, 0)])) 0 0 A := by
  refine tw_entry (by decide) (Nat.le_of_ble_eq_true rfl) ?_
  intro p e s m below meth c0 E hK hT ls hl
  have hT0 := hT
  obtain ⟨K, hT, hk⟩ := hT
  have hx := E.1
  have hb := E.2.1
  have hS : va_S A s.heap s.heap [] := va_S.rf
  replace hl : lv_has ls 5 [(0, .ref (ad 0)), (1, .int (nI c)), (2, .int (nI b)), (3, .int (nI rk)), (4, .int st)] := hl
  refine lv_aload_n hx hb d_Tw_ask_0 rfl (lv_at hl 0 rfl) ?_
  refine lv_iload_n hx hb d_Tw_ask_1 rfl (lv_at hl 3 rfl) ?_
  refine lv_iload_n hx hb d_Tw_ask_2 rfl (lv_at hl 1 rfl) ?_
  refine lv_iconst (v := 4) hx hb d_Tw_ask_3 (by decide) ?_
  refine lv_iload_n hx hb d_Tw_ask_4 rfl (lv_at hl 2 rfl) ?_
  refine lv_iconst (v := 0) hx hb d_Tw_ask_5 (by decide) ?_
  refine lv_iconst (v := 0) hx hb d_Tw_ask_6 (by decide) ?_
  refine lv_iconst (v := (-1)) hx hb d_Tw_ask_7 (by decide) ?_
  refine t_callv (As := [.int (nI rk), .int (nI c), .int 4, .int (nI b), .int 0, .int 0, .int (-1)]) (rest := []) E hK ⟨K, hT, hk⟩ hS (c_Tw_send l D dA ad A g M (nI rk) (nI c) 4 (nI b) 0 0 (-1) (rk, c, 4, b, 0, 0, 0) ⟨rfl, rfl, rfl, rfl, rfl, rfl, rq_0.symm⟩ (by first | omega | (simp; omega))) ck_Tw_97 ⟨rfl, rfl⟩ ⟨Nat.le_of_ble_eq_true rfl, Nat.le_of_ble_eq_true rfl⟩ rfl (lv_sub hl [] rfl) rfl (Nat.le_of_ble_eq_true rfl) ⟨Nat.zero_le _, Nat.zero_le _⟩ d_Tw_ask_8 (fun H locs hT hS => ?_)
  obtain ⟨K, hT, hk⟩ := hT
  refine lv_aload_n hx hb d_Tw_ask_11 rfl (lv_at hl 0 rfl) ?_
  refine tg_8 E hK hT d_Tw_ask_12 ?_
  refine lv_iconst (v := 4) hx hb d_Tw_ask_15 (by decide) ?_
  refine lv_iload_n hx hb d_Tw_ask_16 rfl (lv_at hl 1 rfl) ?_
  refine wn_mul hx hb (a := 4) (b := c) d_Tw_ask_17 ?_
  refine lv_iload_n hx hb d_Tw_ask_18 rfl (lv_at hl 2 rfl) ?_
  refine wn_add hx hb (a := 4 * c) (b := b) d_Tw_ask_19 ?_
  refine lv_iload hx hb d_Tw_ask_20 (lv_at hl 4 rfl) ?_
  refine ts_8 E hK hT hS (j := 4 * c + b) (by omega) d_Tw_ask_22 (fun H locs hT hS => ?_)
  refine lv_aload_n hx hb d_Tw_ask_23 rfl (lv_at hl 0 rfl) ?_
  refine tg_10 E hK hT d_Tw_ask_24 ?_
  refine lv_iconst (v := 4) hx hb d_Tw_ask_27 (by decide) ?_
  refine lv_iload_n hx hb d_Tw_ask_28 rfl (lv_at hl 1 rfl) ?_
  refine wn_mul hx hb (a := 4) (b := c) d_Tw_ask_29 ?_
  refine lv_iload_n hx hb d_Tw_ask_30 rfl (lv_at hl 2 rfl) ?_
  refine wn_add hx hb (a := 4 * c) (b := b) d_Tw_ask_31 ?_
  refine lv_iconst (v := 0) hx hb d_Tw_ask_32 (by decide) ?_
  refine ts_10 E hK hT hS (j := 4 * c + b) (by omega) d_Tw_ask_33 (fun H locs hT hS => ?_)
  refine lv_aload_n hx hb d_Tw_ask_34 rfl (lv_at hl 0 rfl) ?_
  refine tg_7 E hK hT d_Tw_ask_35 ?_
  refine lv_iload_n hx hb d_Tw_ask_38 rfl (lv_at hl 1 rfl) ?_
  refine lv_iconst (v := 1) hx hb d_Tw_ask_39 (by decide) ?_
  refine ts_7 E hK hT hS (j := c) (by omega) d_Tw_ask_40 (fun H locs hT hS => ?_)
  refine lv_iconst (v := 2) hx hb d_Tw_ask_41 (by decide) ?_
  have eG : s_ask g c b st = up2 (up2 (up2 (snd g) 8 (4 * c + b) st) 10 (4 * c + b) 0) 7 c 1 := by simp [s_ask]
  rw [eG]
  exact t_iret E ⟨K, hT, hk⟩ hS rfl rfl d_Tw_ask_42
set_option maxHeartbeats 4000000 in
set_option maxRecDepth 100000 in
theorem c_Tw_sharers (l : Launch) (D : va_G) (dA : Nat → ClassId) (ad : Nat → Nat) (A : Nat → Prop) (g : PS) (M : List Msg) (b : Nat) (w : Int32) (wq : Nat) (hb4 : b < 4) (hwq : wq < 6) (hw : w = rq wq) : Met l y_Tw_sharers (k_Tw_sharers :: wz) (rml 0 0 0) (va_Pc [.ref (ad 0), .int (nI b), .int w] (PT D dA ad A g M)) (QcRead (nI (s_shr g b wq 4))) 0 0 (fun _ => False) := by
  refine tw_entry (by decide) (Nat.le_of_ble_eq_true rfl) ?_
  intro p e s m below meth c0 E hK hT ls hl
  have hT0 := hT
  obtain ⟨K, hT, hk⟩ := hT
  have hx := E.1
  have hb := E.2.1
  replace hl : lv_has ls 5 [(0, .ref (ad 0)), (1, .int (nI b)), (2, .int w)] := hl
  refine lv_iconst (v := 0) hx hb d_Tw_sharers_0 (by decide) ?_
  refine lv_istore_n (lv' := [(3, .int 0), (0, .ref (ad 0)), (1, .int (nI b)), (2, .int w)]) hx hb d_Tw_sharers_1 rfl hl (by decide) rfl (fun ls hl => ?_)
  refine lv_iconst (v := 0) hx hb d_Tw_sharers_2 (by decide) ?_
  refine lv_istore (lv' := [(4, .int 0), (3, .int 0), (0, .ref (ad 0)), (1, .int (nI b)), (2, .int w)]) hx hb d_Tw_sharers_3 hl (by decide) rfl (fun ls hl => ?_)
  have loop : ∀ (r c : Nat), c + r = 4 → ∀ ls, lv_has ls 5 [(4, .int (nI c)), (3, .int (nI (s_shr g b wq c))), (0, .ref (ad 0)), (1, .int (nI b)), (2, .int w)] → W p l e (rml 0 0 0) s m ([.ref (ad 0), .int (nI b), .int w] : List Value).toArray below meth c0 s.heap [] 0 0 (MQ below (QcRead (nI (s_shr g b wq 4))) ([.ref (ad 0), .int (nI b), .int w] : List Value).toArray s 0 0 (fun _ => False)) (F0 m 5 ls []) := by
    intro r
    induction r with
    | zero =>
      intro c hcr ls hl
      refine lv_iload hx hb d_Tw_sharers_5 (lv_at hl 0 rfl) ?_
      refine lv_iconst (v := 4) hx hb d_Tw_sharers_7 (by decide) ?_
      refine lv_icmp_ge (tgt := 45) hx hb d_Tw_sharers_8 (by decide) (fun h1 => ?_) (fun h1 => absurd (nI_le (a := 4) (b := c) (by omega) (by omega)) h1)
      refine lv_iload_n hx hb d_Tw_sharers_45 rfl (lv_at hl 1 rfl) ?_
      exact t_read E rfl (by rw [show c = 4 by omega]) d_Tw_sharers_46
    | succ r ih =>
      intro c hcr ls hl
      refine lv_iload hx hb d_Tw_sharers_5 (lv_at hl 0 rfl) ?_
      refine lv_iconst (v := 4) hx hb d_Tw_sharers_7 (by decide) ?_
      refine lv_icmp_ge (tgt := 45) hx hb d_Tw_sharers_8 (by decide) (fun h2 => absurd h2 (nI_ge (a := c) (b := 4) (by omega) (by omega))) (fun h2 => ?_)
      refine lv_aload_n hx hb d_Tw_sharers_11 rfl (lv_at hl 2 rfl) ?_
      refine tg_16 E hK hT d_Tw_sharers_12 ?_
      refine lv_iconst (v := 4) hx hb d_Tw_sharers_15 (by decide) ?_
      refine lv_iload_n hx hb d_Tw_sharers_16 rfl (lv_at hl 3 rfl) ?_
      refine wn_mul hx hb (a := 4) (b := b) d_Tw_sharers_17 ?_
      refine lv_iload hx hb d_Tw_sharers_18 (lv_at hl 0 rfl) ?_
      refine wn_add hx hb (a := 4 * b) (b := c) d_Tw_sharers_20 ?_
      refine tl_16 E hK hT (j := 4 * b + c) (by omega) d_Tw_sharers_21 ?_
      refine lv_if_eq (tgt := 37) hx hb d_Tw_sharers_22 (by decide) (fun h3 => ?_) (fun h3 => ?_)
      · refine lv_iload_n hx hb d_Tw_sharers_37 rfl (lv_at hl 1 rfl) ?_
        refine lv_istore_n (lv' := [(3, .int (nI (s_shr g b wq c))), (4, .int (nI c)), (0, .ref (ad 0)), (1, .int (nI b)), (2, .int w)]) hx hb d_Tw_sharers_38 rfl hl (by decide) rfl (fun ls hl => ?_)
        refine lv_iinc (v := nI (c + 1)) (lv' := [(4, .int (nI (c + 1))), (3, .int (nI (s_shr g b wq c))), (0, .ref (ad 0)), (1, .int (nI b)), (2, .int w)]) hx hb d_Tw_sharers_39 hl (k := 1) rfl (nI_1 _) (by decide) rfl (fun ls hl => ?_)
        refine lv_goto (tgt := 5) hx hb d_Tw_sharers_42 (by decide) ?_
        have e9 : s_shr g b wq (c + 1) = s_shr g b wq c := by simp [s_shr, h2, h3]
        exact ih (c + 1) (by omega) ls (by rw [e9]; exact lv_sub hl [0, 1, 2, 3, 4] rfl)
      · refine lv_iload hx hb d_Tw_sharers_25 (lv_at hl 0 rfl) ?_
        refine lv_iload_n hx hb d_Tw_sharers_27 rfl (lv_at hl 4 rfl) ?_
        refine lv_icmp_eq (tgt := 37) hx hb d_Tw_sharers_28 (by decide) (fun h4 => ?_) (fun h4 => ?_)
        · rw [hw, rq_eq (by omega) (by omega)] at h4
          refine lv_iload_n hx hb d_Tw_sharers_37 rfl (lv_at hl 1 rfl) ?_
          refine lv_istore_n (lv' := [(3, .int (nI (s_shr g b wq c))), (4, .int (nI c)), (0, .ref (ad 0)), (1, .int (nI b)), (2, .int w)]) hx hb d_Tw_sharers_38 rfl hl (by decide) rfl (fun ls hl => ?_)
          refine lv_iinc (v := nI (c + 1)) (lv' := [(4, .int (nI (c + 1))), (3, .int (nI (s_shr g b wq c))), (0, .ref (ad 0)), (1, .int (nI b)), (2, .int w)]) hx hb d_Tw_sharers_39 hl (k := 1) rfl (nI_1 _) (by decide) rfl (fun ls hl => ?_)
          refine lv_goto (tgt := 5) hx hb d_Tw_sharers_42 (by decide) ?_
          have e9 : s_shr g b wq (c + 1) = s_shr g b wq c := by simp [s_shr, h2, h3, h4]
          exact ih (c + 1) (by omega) ls (by rw [e9]; exact lv_sub hl [0, 1, 2, 3, 4] rfl)
        · rw [hw, rq_eq (by omega) (by omega)] at h4
          refine lv_iload_n hx hb d_Tw_sharers_31 rfl (lv_at hl 1 rfl) ?_
          refine lv_iconst (v := 1) hx hb d_Tw_sharers_32 (by decide) ?_
          refine wn_add hx hb (a := s_shr g b wq c) (b := 1) d_Tw_sharers_33 ?_
          refine lv_goto (tgt := 38) hx hb d_Tw_sharers_34 (by decide) ?_
          refine lv_istore_n (lv' := [(3, .int (nI (s_shr g b wq c + 1))), (4, .int (nI c)), (0, .ref (ad 0)), (1, .int (nI b)), (2, .int w)]) hx hb d_Tw_sharers_38 rfl hl (by decide) rfl (fun ls hl => ?_)
          refine lv_iinc (v := nI (c + 1)) (lv' := [(4, .int (nI (c + 1))), (3, .int (nI (s_shr g b wq c + 1))), (0, .ref (ad 0)), (1, .int (nI b)), (2, .int w)]) hx hb d_Tw_sharers_39 hl (k := 1) rfl (nI_1 _) (by decide) rfl (fun ls hl => ?_)
          refine lv_goto (tgt := 5) hx hb d_Tw_sharers_42 (by decide) ?_
          have e9 : s_shr g b wq (c + 1) = s_shr g b wq c + 1 := by simp [s_shr, h2, h3, h4]
          exact ih (c + 1) (by omega) ls (by rw [e9]; exact lv_sub hl [0, 1, 2, 3, 4] rfl)
  exact loop 4 0 rfl ls (lv_sub hl [0, 1, 2, 3, 4] rfl)
