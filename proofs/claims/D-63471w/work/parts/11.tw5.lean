theorem fin_pre {g : PS} {kd c b : Nat} {v : Int32} {nb : Nat} (hc : c < 4) (hw : ∀ c, c < 4 → g 7 c = 1 → ∃ pl xb, pl < 16 ∧ xb < 4 ∧ g 6 c = nI pl ∧ g 4 (16 * c + pl) = nI xb) : s_acG g kd c b v nb 7 c = 1 → ∃ pl xb, pl < 16 ∧ xb < 4 ∧ s_acG g kd c b v nb 6 c = nI pl ∧ s_acG g kd c b v nb 4 (16 * c + pl) = nI xb := by
  intro h
  rw [s_acG_o g kd c b v nb (k := 6) (by decide), s_acG_o g kd c b v nb (k := 4) (by decide)]
  rcases s_acG_7 g kd c b v nb c with h1 | ⟨-, h1⟩
  · exact hw c hc (by rw [← h1]; exact h)
  · rw [h1] at h; exact absurd h (by decide)
set_option maxHeartbeats 4000000 in
set_option maxRecDepth 100000 in
theorem c_Tw_step (l : Launch) (D : va_G) (dA : Nat → ClassId) (ad : Nat → Nat) (A : Nat → Prop) (g : PS) (M : List Msg) (x : Int32) (N : Nat) (hN : g 0 0 = nI N) (hN4 : N ≤ 4) (R : Nat) (hR : g 1 0 = nI R) (hR1 : 1 ≤ R) (hR3 : R ≤ 3) (hp : ∀ c, c < 4 → ∃ pl, pl ≤ 16 ∧ g 6 c = nI pl) (hz : ∀ c, c < 4 → ∃ sz, sz ≤ 16 ∧ g 5 c = nI sz) (hpr : ∀ c, c < 4 → ∀ i sz, sz ≤ 16 → g 5 c = nI sz → i < sz → ¬ s_access (g 3 (16 * c + i)) = 0 → ∃ b, b < 4 ∧ g 4 (16 * c + i) = nI b) (hM : M.length < 64) : Met l y_Tw_step (k_Tw_step :: wz) (rml 3 0 0) (va_Pc [.ref (ad 0), .int x] (PT D dA ad A g M)) (TQi D dA ad A ((s_step g x).1) ((s_step g x).2.1) (M ++ (s_step g x).2.2)) 0 0 A := by
  refine tw_entry (by decide) (Nat.le_of_ble_eq_true rfl) ?_
  intro p e s m below meth c0 E hK hT ls hl
  have hT0 := hT
  obtain ⟨K, hT, hk⟩ := hT
  have hx := E.1
  have hb := E.2.1
  have hS : va_S A s.heap s.heap [] := va_S.rf
  replace hl : lv_has ls 5 [(0, .ref (ad 0)), (1, .int x)] := hl
  refine lv_aload_n hx hb d_Tw_step_0 rfl (lv_at hl 0 rfl) ?_
  refine lv_iload_n hx hb d_Tw_step_1 rfl (lv_at hl 1 rfl) ?_
  refine t_callR (As := [.int x]) (rest := []) E hK ⟨K, hT, hk⟩ (c_Tw_isCore l D dA ad A g M x) ck_Tw_81 ⟨rfl, rfl⟩ ⟨Nat.le_of_ble_eq_true rfl, Nat.le_of_ble_eq_true rfl⟩ rfl (lv_sub hl [] rfl) rfl (Nat.le_of_ble_eq_true rfl) ⟨Nat.zero_le _, Nat.zero_le _⟩ d_Tw_step_2 ?_
  refine lv_if_ne (tgt := 10) hx hb d_Tw_step_5 (by decide) (fun h1 => ?_) (fun h1 => ?_)
  · obtain ⟨c, hcN, rfl⟩ := isCore_of hN hN4 h1
    have ec : (nI c).toNatClampNeg = c := nI_clamp (by omega)
    obtain ⟨pl, hpl, hg6⟩ := hp c (by omega)
    obtain ⟨sz, hsz, hg5⟩ := hz c (by omega)
    have e6 : (nI pl).toNatClampNeg = pl := nI_clamp (by omega)
    refine lv_aload_n hx hb d_Tw_step_10 rfl (lv_at hl 0 rfl) ?_
    refine tg_7 E hK hT d_Tw_step_11 ?_
    refine lv_iload_n hx hb d_Tw_step_14 rfl (lv_at hl 1 rfl) ?_
    refine tl_7 E hK hT (j := c) (by omega) d_Tw_step_15 ?_
    refine lv_if_eq (tgt := 21) hx hb d_Tw_step_16 (by decide) (fun h2 => ?_) (fun h2 => ?_)
    · refine lv_aload_n hx hb d_Tw_step_21 rfl (lv_at hl 0 rfl) ?_
      refine tg_6 E hK hT d_Tw_step_22 ?_
      refine lv_iload_n hx hb d_Tw_step_25 rfl (lv_at hl 1 rfl) ?_
      refine tl_6 E hK hT (j := c) (by omega) d_Tw_step_26 ?_
      refine wn_eq (y := nI pl) hg6 ?_
      refine lv_aload_n hx hb d_Tw_step_27 rfl (lv_at hl 0 rfl) ?_
      refine tg_5 E hK hT d_Tw_step_28 ?_
      refine lv_iload_n hx hb d_Tw_step_31 rfl (lv_at hl 1 rfl) ?_
      refine tl_5 E hK hT (j := c) (by omega) d_Tw_step_32 ?_
      refine wn_eq (y := nI sz) hg5 ?_
      refine lv_icmp_lt (tgt := 38) hx hb d_Tw_step_33 (by decide) (fun h3 => ?_) (fun h3 => ?_)
      · replace h3 := (nI_ltI (a := pl) (b := sz) (by omega) (by omega)).mp h3
        have hlt : nI pl < nI sz := nI_lt h3 (by omega)
        refine lv_aload_n hx hb d_Tw_step_38 rfl (lv_at hl 0 rfl) ?_
        refine tg_3 E hK hT d_Tw_step_39 ?_
        refine lv_bipush (v := 16) hx hb d_Tw_step_42 (by decide) ?_
        refine lv_iload_n hx hb d_Tw_step_44 rfl (lv_at hl 1 rfl) ?_
        refine wn_mul hx hb (a := 16) (b := c) d_Tw_step_45 ?_
        refine lv_aload_n hx hb d_Tw_step_46 rfl (lv_at hl 0 rfl) ?_
        refine tg_6 E hK hT d_Tw_step_47 ?_
        refine lv_iload_n hx hb d_Tw_step_50 rfl (lv_at hl 1 rfl) ?_
        refine tl_6 E hK hT (j := c) (by omega) d_Tw_step_51 ?_
        refine wn_eq (y := nI pl) hg6 ?_
        refine wn_add hx hb (a := 16 * c) (b := pl) d_Tw_step_52 ?_
        refine tl_3 E hK hT (j := 16 * c + pl) (by omega) d_Tw_step_53 ?_
        refine lv_istore_n (lv' := [(2, .int (g 3 (16 * c + pl))), (0, .ref (ad 0)), (1, .int (nI c))]) hx hb d_Tw_step_54 rfl hl (by decide) rfl (fun ls hl => ?_)
        refine lv_aload_n hx hb d_Tw_step_55 rfl (lv_at hl 1 rfl) ?_
        refine tg_4 E hK hT d_Tw_step_56 ?_
        refine lv_bipush (v := 16) hx hb d_Tw_step_59 (by decide) ?_
        refine lv_iload_n hx hb d_Tw_step_61 rfl (lv_at hl 2 rfl) ?_
        refine wn_mul hx hb (a := 16) (b := c) d_Tw_step_62 ?_
        refine lv_aload_n hx hb d_Tw_step_63 rfl (lv_at hl 1 rfl) ?_
        refine tg_6 E hK hT d_Tw_step_64 ?_
        refine lv_iload_n hx hb d_Tw_step_67 rfl (lv_at hl 2 rfl) ?_
        refine tl_6 E hK hT (j := c) (by omega) d_Tw_step_68 ?_
        refine wn_eq (y := nI pl) hg6 ?_
        refine wn_add hx hb (a := 16 * c) (b := pl) d_Tw_step_69 ?_
        refine tl_4 E hK hT (j := 16 * c + pl) (by omega) d_Tw_step_70 ?_
        refine lv_istore_n (lv' := [(3, .int (g 4 (16 * c + pl))), (2, .int (g 3 (16 * c + pl))), (0, .ref (ad 0)), (1, .int (nI c))]) hx hb d_Tw_step_71 rfl hl (by decide) rfl (fun ls hl => ?_)
        refine lv_iload_n hx hb d_Tw_step_72 rfl (lv_at hl 1 rfl) ?_
        refine s_callR (As := [.int (g 3 (16 * c + pl))]) (rest := []) E (c_Tw_access l (g 3 (16 * c + pl))) ck_Tw_85 ⟨rfl, rfl⟩ ⟨Nat.le_of_ble_eq_true rfl, Nat.le_of_ble_eq_true rfl⟩ rfl (lv_sub hl [] rfl) rfl (Nat.le_of_ble_eq_true rfl) ⟨Nat.zero_le _, Nat.zero_le _⟩ d_Tw_step_73 ?_
        refine lv_if_ne (tgt := 87) hx hb d_Tw_step_76 (by decide) (fun h4 => ?_) (fun h4 => ?_)
        · obtain ⟨b, hb4, hg4⟩ := hpr c (by omega) pl sz (by omega) hg5 (by omega) h4
          have eb : (nI b).toNatClampNeg = b := nI_clamp (by omega)
          rw [hg4] at hl
          refine lv_aload_n hx hb d_Tw_step_87 rfl (lv_at hl 2 rfl) ?_
          refine tg_8 E hK hT d_Tw_step_88 ?_
          refine lv_iconst (v := 4) hx hb d_Tw_step_91 (by decide) ?_
          refine lv_iload_n hx hb d_Tw_step_92 rfl (lv_at hl 3 rfl) ?_
          refine wn_mul hx hb (a := 4) (b := c) d_Tw_step_93 ?_
          refine lv_iload_n hx hb d_Tw_step_94 rfl (lv_at hl 0 rfl) ?_
          refine wn_add hx hb (a := 4 * c) (b := b) d_Tw_step_95 ?_
          refine tl_8 E hK hT (j := 4 * c + b) (by omega) d_Tw_step_96 ?_
          refine lv_istore (lv' := [(4, .int (g 8 (4 * c + b))), (3, .int (nI b)), (2, .int (g 3 (16 * c + pl))), (0, .ref (ad 0)), (1, .int (nI c))]) hx hb d_Tw_step_97 hl (by decide) rfl (fun ls hl => ?_)
          refine lv_iload hx hb d_Tw_step_99 (lv_at hl 0 rfl) ?_
          refine lv_iconst (v := 2) hx hb d_Tw_step_101 (by decide) ?_
          refine lv_icmp_eq (tgt := 115) hx hb d_Tw_step_102 (by decide) (fun h5 => ?_) (fun h5 => ?_)
          · refine lv_aload_n hx hb d_Tw_step_115 rfl (lv_at hl 3 rfl) ?_
            refine lv_iload_n hx hb d_Tw_step_116 rfl (lv_at hl 4 rfl) ?_
            refine t_callv (As := [.int (nI c)]) (rest := []) E hK ⟨K, hT, hk⟩ hS (c_Tw_perform l D dA ad A g M c pl b (by omega) (by omega) hb4 hg6 hg4) ck_Tw_111 ⟨rfl, rfl⟩ ⟨Nat.le_of_ble_eq_true rfl, Nat.le_of_ble_eq_true rfl⟩ rfl (lv_sub hl [] rfl) rfl (Nat.le_of_ble_eq_true rfl) ⟨Nat.zero_le _, Nat.zero_le _⟩ d_Tw_step_117 (fun H locs hT hS => ?_)
            obtain ⟨K, hT, hk⟩ := hT
            refine lv_iconst (v := 1) hx hb d_Tw_step_120 (by decide) ?_
            have eS : s_step g (nI c) = (1, s_perform g c pl b, []) := by simp only [s_step, s_step2, s_acc, if_neg h1, if_pos h2, if_pos hlt, if_neg h4, if_pos h5, ec, hg6, hg5, e6, hg4, eb]
            rw [eS]
            rw [show M ++ ((1 : Int32), s_perform g c pl b, ([] : List Msg)).2.2 = M from List.append_nil M]
            exact t_iret E ⟨K, hT, hk⟩ hS rfl rfl d_Tw_step_121
          · refine lv_iload hx hb d_Tw_step_105 (lv_at hl 0 rfl) ?_
            refine lv_iconst (v := 1) hx hb d_Tw_step_107 (by decide) ?_
            refine lv_icmp_ne (tgt := 122) hx hb d_Tw_step_108 (by decide) (fun h6 => ?_) (fun h6 => ?_)
            · refine lv_iload hx hb d_Tw_step_122 (lv_at hl 0 rfl) ?_
              refine lv_iconst (v := 1) hx hb d_Tw_step_124 (by decide) ?_
              refine lv_icmp_ne (tgt := 138) hx hb d_Tw_step_125 (by decide) (fun h7 => ?_) (fun h7 => absurd h7 (h6))
              refine lv_aload_n hx hb d_Tw_step_138 rfl (lv_at hl 3 rfl) ?_
              refine lv_iload_n hx hb d_Tw_step_139 rfl (lv_at hl 4 rfl) ?_
              refine t_callR (As := [.int (nI c)]) (rest := []) E hK ⟨K, hT, hk⟩ (c_Tw_inUse l D dA ad A g M c (by omega)) ck_Tw_119 ⟨rfl, rfl⟩ ⟨Nat.le_of_ble_eq_true rfl, Nat.le_of_ble_eq_true rfl⟩ rfl (lv_sub hl [] rfl) rfl (Nat.le_of_ble_eq_true rfl) ⟨Nat.zero_le _, Nat.zero_le _⟩ d_Tw_step_140 ?_
              refine lv_aload_n hx hb d_Tw_step_143 rfl (lv_at hl 3 rfl) ?_
              refine tg_1 E hK hT d_Tw_step_144 ?_
              refine lv_icmp_lt (tgt := 156) hx hb d_Tw_step_147 (by decide) (fun h8 => ?_) (fun h8 => ?_)
              · refine lv_iload_n hx hb d_Tw_step_156 rfl (lv_at hl 2 rfl) ?_
                refine lv_if_ne (tgt := 171) hx hb d_Tw_step_157 (by decide) (fun h9 => ?_) (fun h9 => ?_)
                · refine lv_aload_n hx hb d_Tw_step_171 rfl (lv_at hl 3 rfl) ?_
                  refine lv_iload_n hx hb d_Tw_step_172 rfl (lv_at hl 4 rfl) ?_
                  refine lv_iload_n hx hb d_Tw_step_173 rfl (lv_at hl 1 rfl) ?_
                  refine lv_iconst (v := 1) hx hb d_Tw_step_174 (by decide) ?_
                  refine lv_iconst (v := 4) hx hb d_Tw_step_175 (by decide) ?_
                  refine t_calli (As := [.int (nI c), .int (nI b), .int 1, .int 4]) (rest := []) E hK ⟨K, hT, hk⟩ hS (c_Tw_ask l D dA ad A g M c b 1 4 (by omega) hb4 hM) ck_Tw_115 ⟨rfl, rfl⟩ ⟨Nat.le_of_ble_eq_true rfl, Nat.le_of_ble_eq_true rfl⟩ rfl (lv_sub hl [] rfl) rfl (Nat.le_of_ble_eq_true rfl) ⟨Nat.zero_le _, Nat.zero_le _⟩ d_Tw_step_176 (fun H locs hT hS => ?_)
                  obtain ⟨K, hT, hk⟩ := hT
                  have eS : s_step g (nI c) = (2, s_ask g c b 4, [(1, c, 4, b, 0, 0, 0)]) := by simp only [s_step, s_step2, s_acc, if_neg h1, if_pos h2, if_pos hlt, if_neg h4, if_neg h5, if_neg h6, if_pos h8, if_neg h9, ec, hg6, hg5, e6, hg4, eb]
                  rw [eS]
                  exact t_iret E ⟨K, hT, hk⟩ hS rfl rfl d_Tw_step_179
                · refine lv_aload_n hx hb d_Tw_step_160 rfl (lv_at hl 3 rfl) ?_
                  refine lv_iload_n hx hb d_Tw_step_161 rfl (lv_at hl 4 rfl) ?_
                  refine lv_iload_n hx hb d_Tw_step_162 rfl (lv_at hl 1 rfl) ?_
                  refine lv_iconst (v := 0) hx hb d_Tw_step_163 (by decide) ?_
                  refine lv_iconst (v := 3) hx hb d_Tw_step_164 (by decide) ?_
                  refine t_calli (As := [.int (nI c), .int (nI b), .int 0, .int 3]) (rest := []) E hK ⟨K, hT, hk⟩ hS (c_Tw_ask l D dA ad A g M c b 0 3 (by omega) hb4 hM) ck_Tw_115 ⟨rfl, rfl⟩ ⟨Nat.le_of_ble_eq_true rfl, Nat.le_of_ble_eq_true rfl⟩ rfl (lv_sub hl [] rfl) rfl (Nat.le_of_ble_eq_true rfl) ⟨Nat.zero_le _, Nat.zero_le _⟩ d_Tw_step_165 (fun H locs hT hS => ?_)
                  obtain ⟨K, hT, hk⟩ := hT
                  refine lv_goto (tgt := 179) hx hb d_Tw_step_168 (by decide) ?_
                  have eS : s_step g (nI c) = (2, s_ask g c b 3, [(0, c, 4, b, 0, 0, 0)]) := by simp only [s_step, s_step2, s_acc, if_neg h1, if_pos h2, if_pos hlt, if_neg h4, if_neg h5, if_neg h6, if_pos h8, if_pos h9, ec, hg6, hg5, e6, hg4, eb]
                  rw [eS]
                  exact t_iret E ⟨K, hT, hk⟩ hS rfl rfl d_Tw_step_179
              · obtain ⟨v, hv4, hv⟩ := vic_of hR hR1 hR3 h8
                refine lv_aload_n hx hb d_Tw_step_150 rfl (lv_at hl 3 rfl) ?_
                refine lv_iload_n hx hb d_Tw_step_151 rfl (lv_at hl 4 rfl) ?_
                refine t_calli (As := [.int (nI c)]) (rest := []) E hK ⟨K, hT, hk⟩ hS (c_Tw_replace l D dA ad A g M c v (by omega) hv hv4 hM) ck_Tw_123 ⟨rfl, rfl⟩ ⟨Nat.le_of_ble_eq_true rfl, Nat.le_of_ble_eq_true rfl⟩ rfl (lv_sub hl [] rfl) rfl (Nat.le_of_ble_eq_true rfl) ⟨Nat.zero_le _, Nat.zero_le _⟩ d_Tw_step_152 (fun H locs hT hS => ?_)
                obtain ⟨K, hT, hk⟩ := hT
                have eS : s_step g (nI c) = (3, s_replG g c v, [s_replQ g c v]) := by simp only [s_step, s_step2, s_acc, if_neg h1, if_pos h2, if_pos hlt, if_neg h4, if_neg h5, if_neg h6, if_neg h8, ec, hg6, hg5, e6, hg4, eb, hv, Nat.add_sub_cancel]
                rw [eS]
                exact t_iret E ⟨K, hT, hk⟩ hS rfl rfl d_Tw_step_155
            · refine lv_iload_n hx hb d_Tw_step_111 rfl (lv_at hl 2 rfl) ?_
              refine lv_if_ne (tgt := 122) hx hb d_Tw_step_112 (by decide) (fun h10 => ?_) (fun h10 => ?_)
              · refine lv_iload hx hb d_Tw_step_122 (lv_at hl 0 rfl) ?_
                refine lv_iconst (v := 1) hx hb d_Tw_step_124 (by decide) ?_
                refine lv_icmp_ne (tgt := 138) hx hb d_Tw_step_125 (by decide) (fun h11 => absurd (by first | (rw [h6]; done) | (rw [h6]; decide)) h11) (fun h11 => ?_)
                refine lv_aload_n hx hb d_Tw_step_128 rfl (lv_at hl 3 rfl) ?_
                refine lv_iload_n hx hb d_Tw_step_129 rfl (lv_at hl 4 rfl) ?_
                refine lv_iload_n hx hb d_Tw_step_130 rfl (lv_at hl 1 rfl) ?_
                refine lv_iconst (v := 1) hx hb d_Tw_step_131 (by decide) ?_
                refine lv_bipush (v := 6) hx hb d_Tw_step_132 (by decide) ?_
                refine t_calli (As := [.int (nI c), .int (nI b), .int 1, .int 6]) (rest := []) E hK ⟨K, hT, hk⟩ hS (c_Tw_ask l D dA ad A g M c b 1 6 (by omega) hb4 hM) ck_Tw_115 ⟨rfl, rfl⟩ ⟨Nat.le_of_ble_eq_true rfl, Nat.le_of_ble_eq_true rfl⟩ rfl (lv_sub hl [] rfl) rfl (Nat.le_of_ble_eq_true rfl) ⟨Nat.zero_le _, Nat.zero_le _⟩ d_Tw_step_134 (fun H locs hT hS => ?_)
                obtain ⟨K, hT, hk⟩ := hT
                have eS : s_step g (nI c) = (2, s_ask g c b 6, [(1, c, 4, b, 0, 0, 0)]) := by simp only [s_step, s_step2, s_acc, if_neg h1, if_pos h2, if_pos hlt, if_neg h4, if_neg h5, if_pos h6, if_neg h10, ec, hg6, hg5, e6, hg4, eb]
                rw [eS]
                exact t_iret E ⟨K, hT, hk⟩ hS rfl rfl d_Tw_step_137
              · refine lv_aload_n hx hb d_Tw_step_115 rfl (lv_at hl 3 rfl) ?_
                refine lv_iload_n hx hb d_Tw_step_116 rfl (lv_at hl 4 rfl) ?_
                refine t_callv (As := [.int (nI c)]) (rest := []) E hK ⟨K, hT, hk⟩ hS (c_Tw_perform l D dA ad A g M c pl b (by omega) (by omega) hb4 hg6 hg4) ck_Tw_111 ⟨rfl, rfl⟩ ⟨Nat.le_of_ble_eq_true rfl, Nat.le_of_ble_eq_true rfl⟩ rfl (lv_sub hl [] rfl) rfl (Nat.le_of_ble_eq_true rfl) ⟨Nat.zero_le _, Nat.zero_le _⟩ d_Tw_step_117 (fun H locs hT hS => ?_)
                obtain ⟨K, hT, hk⟩ := hT
                refine lv_iconst (v := 1) hx hb d_Tw_step_120 (by decide) ?_
                have eS : s_step g (nI c) = (1, s_perform g c pl b, []) := by simp only [s_step, s_step2, s_acc, if_neg h1, if_pos h2, if_pos hlt, if_neg h4, if_neg h5, if_pos h6, if_pos h10, ec, hg6, hg5, e6, hg4, eb]
                rw [eS]
                rw [show M ++ ((1 : Int32), s_perform g c pl b, ([] : List Msg)).2.2 = M from List.append_nil M]
                exact t_iret E ⟨K, hT, hk⟩ hS rfl rfl d_Tw_step_121
        · refine lv_aload_n hx hb d_Tw_step_79 rfl (lv_at hl 2 rfl) ?_
          refine lv_iload_n hx hb d_Tw_step_80 rfl (lv_at hl 3 rfl) ?_
          refine lv_iload_n hx hb d_Tw_step_81 rfl (lv_at hl 1 rfl) ?_
          refine lv_iload_n hx hb d_Tw_step_82 rfl (lv_at hl 0 rfl) ?_
          refine t_calli (As := [.int (nI c), .int (g 3 (16 * c + pl)), .int (g 4 (16 * c + pl))]) (rest := []) E hK ⟨K, hT, hk⟩ hS (c_Tw_plain l D dA ad A g M c (g 3 (16 * c + pl)) (g 4 (16 * c + pl)) (by omega)) ck_Tw_107 ⟨rfl, rfl⟩ ⟨Nat.le_of_ble_eq_true rfl, Nat.le_of_ble_eq_true rfl⟩ rfl (lv_sub hl [] rfl) rfl (Nat.le_of_ble_eq_true rfl) ⟨Nat.zero_le _, Nat.zero_le _⟩ d_Tw_step_83 (fun H locs hT hS => ?_)
          obtain ⟨K, hT, hk⟩ := hT
          have eS : s_step g (nI c) = (1, s_plain g c (g 3 (16 * c + pl)) (g 4 (16 * c + pl)), []) := by simp only [s_step, s_step2, s_acc, if_neg h1, if_pos h2, if_pos hlt, if_pos h4, ec, hg6, hg5, e6]
          rw [eS]
          rw [show M ++ ((1 : Int32), s_plain g c (g 3 (16 * c + pl)) (g 4 (16 * c + pl)), ([] : List Msg)).2.2 = M from List.append_nil M]
          exact t_iret E ⟨K, hT, hk⟩ hS rfl rfl d_Tw_step_86
      · replace h3 := (not_congr (nI_ltI (a := pl) (b := sz) (by omega) (by omega))).mp h3
        have hlt : ¬ nI pl < nI sz := nI_nlt (Nat.le_of_not_lt h3) (by omega)
        refine lv_iconst (v := 4) hx hb d_Tw_step_36 (by decide) ?_
        have eS : s_step g (nI c) = (4, g, []) := by simp only [s_step, s_step2, s_acc, if_neg h1, if_pos h2, if_neg hlt, ec, hg6, hg5, e6]
        rw [eS]
        rw [show M ++ ((4 : Int32), g, ([] : List Msg)).2.2 = M from List.append_nil M]
        exact t_iret E ⟨K, hT, hk⟩ hS rfl rfl d_Tw_step_37
    · refine lv_iconst (v := 0) hx hb d_Tw_step_19 (by decide) ?_
      have eS : s_step g (nI c) = (0, g, []) := by simp only [s_step, s_step2, s_acc, if_neg h1, if_neg h2, ec, hg6, hg5, e6]
      rw [eS]
      rw [show M ++ ((0 : Int32), g, ([] : List Msg)).2.2 = M from List.append_nil M]
      exact t_iret E ⟨K, hT, hk⟩ hS rfl rfl d_Tw_step_20
  · refine lv_iconst (v := (-1)) hx hb d_Tw_step_8 (by decide) ?_
    have eS : s_step g x = ((-1), g, []) := by simp only [s_step, s_step2, s_acc, if_pos h1]
    rw [eS]
    rw [show M ++ (((-1) : Int32), g, ([] : List Msg)).2.2 = M from List.append_nil M]
    exact t_iret E ⟨K, hT, hk⟩ hS rfl rfl d_Tw_step_9
set_option maxHeartbeats 4000000 in
set_option maxRecDepth 100000 in
theorem c_Tw_deliver (l : Launch) (D : va_G) (dA : Nat → ClassId) (ad : Nat → Nat) (A : Nat → Prop) (g : PS) (M : List Msg) (x : Int32) (hW : WfM M) (ho : ∀ b, b < 4 → g 14 b = 2 → ∃ o, o < 4 ∧ g 15 b = nI o) (hw : ∀ c, c < 4 → g 7 c = 1 → ∃ pl xb, pl < 16 ∧ xb < 4 ∧ g 6 c = nI pl ∧ g 4 (16 * c + pl) = nI xb) (hM : M.length ≤ 60) : Met l y_Tw_deliver (k_Tw_deliver :: wz) (rml 4 0 0) (va_Pc [.ref (ad 0), .int x] (PT D dA ad A g M)) (TQi D dA ad A ((s_deliver g M x).1) ((s_deliver g M x).2.1) ((s_deliver g M x).2.2)) 0 0 A := by
  refine tw_entry (by decide) (Nat.le_of_ble_eq_true rfl) ?_
  intro p e s m below meth c0 E hK hT ls hl
  have hT0 := hT
  obtain ⟨K, hT, hk⟩ := hT
  have hx := E.1
  have hb := E.2.1
  have hS : va_S A s.heap s.heap [] := va_S.rf
  replace hl : lv_has ls 9 [(0, .ref (ad 0)), (1, .int x)] := hl
  refine lv_iload_n hx hb d_Tw_deliver_0 rfl (lv_at hl 1 rfl) ?_
  refine lv_if_lt (tgt := 12) hx hb d_Tw_deliver_1 (by decide) (fun h1 => ?_) (fun h1 => ?_)
  · refine lv_iconst (v := (-1)) hx hb d_Tw_deliver_12 (by decide) ?_
    have eS : s_deliver g M x = ((-1), g, M) := by simp only [s_deliver, s_handG, s_handQ, if_pos h1]
    rw [eS]
    exact t_iret E ⟨K, hT, hk⟩ hS rfl rfl d_Tw_deliver_13
  · refine lv_iload_n hx hb d_Tw_deliver_4 rfl (lv_at hl 1 rfl) ?_
    refine lv_aload_n hx hb d_Tw_deliver_5 rfl (lv_at hl 0 rfl) ?_
    refine tg_17 E hK hT d_Tw_deliver_6 ?_
    refine lv_icmp_lt (tgt := 14) hx hb d_Tw_deliver_9 (by decide) (fun h2 => ?_) (fun h2 => ?_)
    · have hML := hk.1
      obtain ⟨j, hj, rfl⟩ := ix_of (by omega) h1 (fun q => absurd h2 (Int32.not_lt.mpr q))
      have ej : (nI j).toNatClampNeg = j := nI_clamp (by omega)
      obtain ⟨⟨kd, fr, t, b, v, nb, aq⟩, hq⟩ : ∃ q, M[j]? = some q := ⟨M[j]'hj, List.getElem?_eq_getElem _⟩
      have fq := hk.2 j _ hq
      obtain ⟨hkd, hfr, ht5, hb4, hr4, ha⟩ := hW j _ hq
      dsimp only at hkd hfr ht5 hb4 hr4 ha
      refine lv_aload_n hx hb d_Tw_deliver_14 rfl (lv_at hl 0 rfl) ?_
      refine lv_iload_n hx hb d_Tw_deliver_15 rfl (lv_at hl 1 rfl) ?_
      refine t_callR (As := [.int (nI j)]) (rest := []) E hK ⟨K, hT, hk⟩ (c_Tw_behind l D dA ad A g M j kd fr t b v nb aq hq hkd ht5 hb4 (fun i z hz => ⟨(hW i z hz).1, (hW i z hz).2.2.1, (hW i z hz).2.2.2.1⟩)) ck_Tw_126 ⟨rfl, rfl⟩ ⟨Nat.le_of_ble_eq_true rfl, Nat.le_of_ble_eq_true rfl⟩ rfl (lv_sub hl [] rfl) rfl (Nat.le_of_ble_eq_true rfl) ⟨Nat.zero_le _, Nat.zero_le _⟩ d_Tw_deliver_16 ?_
      refine lv_if_eq (tgt := 25) hx hb d_Tw_deliver_19 (by decide) (fun h3 => ?_) (fun h3 => ?_)
      · refine lv_aload_n hx hb d_Tw_deliver_25 rfl (lv_at hl 0 rfl) ?_
        refine lv_iload_n hx hb d_Tw_deliver_26 rfl (lv_at hl 1 rfl) ?_
        refine t_callR (As := [.int (nI j)]) (rest := []) E hK ⟨K, hT, hk⟩ (c_Tw_stalls l D dA ad A g M j kd fr t b v nb aq hq hkd ht5 hb4) ck_Tw_129 ⟨rfl, rfl⟩ ⟨Nat.le_of_ble_eq_true rfl, Nat.le_of_ble_eq_true rfl⟩ rfl (lv_sub hl [] rfl) rfl (Nat.le_of_ble_eq_true rfl) ⟨Nat.zero_le _, Nat.zero_le _⟩ d_Tw_deliver_27 ?_
        refine lv_if_eq (tgt := 36) hx hb d_Tw_deliver_30 (by decide) (fun h4 => ?_) (fun h4 => ?_)
        · refine lv_aload_n hx hb d_Tw_deliver_36 rfl (lv_at hl 0 rfl) ?_
          refine tg_20 E hK hT d_Tw_deliver_37 ?_
          refine lv_iload_n hx hb d_Tw_deliver_40 rfl (lv_at hl 1 rfl) ?_
          refine tl_20 E hK hT (j := j) (by omega) d_Tw_deliver_41 ?_
          refine wn_eq (y := nI kd) fq.1 ?_
          refine lv_istore_n (lv' := [(2, .int (nI kd)), (0, .ref (ad 0)), (1, .int (nI j))]) hx hb d_Tw_deliver_42 rfl hl (by decide) rfl (fun ls hl => ?_)
          refine lv_aload_n hx hb d_Tw_deliver_43 rfl (lv_at hl 1 rfl) ?_
          refine tg_21 E hK hT d_Tw_deliver_44 ?_
          refine lv_iload_n hx hb d_Tw_deliver_47 rfl (lv_at hl 2 rfl) ?_
          refine tl_21 E hK hT (j := j) (by omega) d_Tw_deliver_48 ?_
          refine wn_eq (y := nI fr) fq.2.1 ?_
          refine lv_istore_n (lv' := [(3, .int (nI fr)), (2, .int (nI kd)), (0, .ref (ad 0)), (1, .int (nI j))]) hx hb d_Tw_deliver_49 rfl hl (by decide) rfl (fun ls hl => ?_)
          refine lv_aload_n hx hb d_Tw_deliver_50 rfl (lv_at hl 2 rfl) ?_
          refine tg_22 E hK hT d_Tw_deliver_51 ?_
          refine lv_iload_n hx hb d_Tw_deliver_54 rfl (lv_at hl 3 rfl) ?_
          refine tl_22 E hK hT (j := j) (by omega) d_Tw_deliver_55 ?_
          refine wn_eq (y := nI t) fq.2.2.1 ?_
          refine lv_istore (lv' := [(4, .int (nI t)), (3, .int (nI fr)), (2, .int (nI kd)), (0, .ref (ad 0)), (1, .int (nI j))]) hx hb d_Tw_deliver_56 hl (by decide) rfl (fun ls hl => ?_)
          refine lv_aload_n hx hb d_Tw_deliver_58 rfl (lv_at hl 3 rfl) ?_
          refine tg_23 E hK hT d_Tw_deliver_59 ?_
          refine lv_iload_n hx hb d_Tw_deliver_62 rfl (lv_at hl 4 rfl) ?_
          refine tl_23 E hK hT (j := j) (by omega) d_Tw_deliver_63 ?_
          refine wn_eq (y := nI b) fq.2.2.2.1 ?_
          refine lv_istore (lv' := [(5, .int (nI b)), (4, .int (nI t)), (3, .int (nI fr)), (2, .int (nI kd)), (0, .ref (ad 0)), (1, .int (nI j))]) hx hb d_Tw_deliver_64 hl (by decide) rfl (fun ls hl => ?_)
          refine lv_aload_n hx hb d_Tw_deliver_66 rfl (lv_at hl 4 rfl) ?_
          refine tg_24 E hK hT d_Tw_deliver_67 ?_
          refine lv_iload_n hx hb d_Tw_deliver_70 rfl (lv_at hl 5 rfl) ?_
          refine tl_24 E hK hT (j := j) (by omega) d_Tw_deliver_71 ?_
          refine wn_eq (y := v) fq.2.2.2.2.1 ?_
          refine lv_istore (lv' := [(6, .int v), (5, .int (nI b)), (4, .int (nI t)), (3, .int (nI fr)), (2, .int (nI kd)), (0, .ref (ad 0)), (1, .int (nI j))]) hx hb d_Tw_deliver_72 hl (by decide) rfl (fun ls hl => ?_)
          refine lv_aload_n hx hb d_Tw_deliver_74 rfl (lv_at hl 5 rfl) ?_
          refine tg_25 E hK hT d_Tw_deliver_75 ?_
          refine lv_iload_n hx hb d_Tw_deliver_78 rfl (lv_at hl 6 rfl) ?_
          refine tl_25 E hK hT (j := j) (by omega) d_Tw_deliver_79 ?_
          refine wn_eq (y := nI nb) fq.2.2.2.2.2.1 ?_
          refine lv_istore (lv' := [(7, .int (nI nb)), (6, .int v), (5, .int (nI b)), (4, .int (nI t)), (3, .int (nI fr)), (2, .int (nI kd)), (0, .ref (ad 0)), (1, .int (nI j))]) hx hb d_Tw_deliver_80 hl (by decide) rfl (fun ls hl => ?_)
          refine lv_aload_n hx hb d_Tw_deliver_82 rfl (lv_at hl 6 rfl) ?_
          refine tg_26 E hK hT d_Tw_deliver_83 ?_
          refine lv_iload_n hx hb d_Tw_deliver_86 rfl (lv_at hl 7 rfl) ?_
          refine tl_26 E hK hT (j := j) (by omega) d_Tw_deliver_87 ?_
          refine wn_eq (y := rq aq) fq.2.2.2.2.2.2 ?_
          refine lv_istore (lv' := [(8, .int (rq aq)), (7, .int (nI nb)), (6, .int v), (5, .int (nI b)), (4, .int (nI t)), (3, .int (nI fr)), (2, .int (nI kd)), (0, .ref (ad 0)), (1, .int (nI j))]) hx hb d_Tw_deliver_88 hl (by decide) rfl (fun ls hl => ?_)
          refine lv_aload_n hx hb d_Tw_deliver_90 rfl (lv_at hl 7 rfl) ?_
          refine lv_iload_n hx hb d_Tw_deliver_91 rfl (lv_at hl 8 rfl) ?_
          refine t_callv (As := [.int (nI j)]) (rest := []) E hK ⟨K, hT, hk⟩ hS (c_Tw_remove l D dA ad A g M j hj) ck_Tw_132 ⟨rfl, rfl⟩ ⟨Nat.le_of_ble_eq_true rfl, Nat.le_of_ble_eq_true rfl⟩ rfl (lv_sub hl [] rfl) rfl (Nat.le_of_ble_eq_true rfl) ⟨Nat.zero_le _, Nat.zero_le _⟩ d_Tw_deliver_92 (fun H locs hT hS => ?_)
          obtain ⟨K, hT, hk⟩ := hT
          have hML2 : (M.eraseIdx j).length < 60 := by rw [List.length_eraseIdx, if_pos hj]; omega
          refine lv_iload hx hb d_Tw_deliver_95 (lv_at hl 4 rfl) ?_
          refine lv_iconst (v := 4) hx hb d_Tw_deliver_97 (by decide) ?_
          refine lv_icmp_ne (tgt := 114) hx hb d_Tw_deliver_98 (by decide) (fun h5 => ?_) (fun h5 => ?_)
          · replace h5 := (not_congr (nI_eq (a := t) (b := 4) (by omega) (by omega))).mp h5
            refine lv_aload_n hx hb d_Tw_deliver_114 rfl (lv_at hl 7 rfl) ?_
            refine lv_iload_n hx hb d_Tw_deliver_115 rfl (lv_at hl 6 rfl) ?_
            refine lv_iload hx hb d_Tw_deliver_116 (lv_at hl 4 rfl) ?_
            refine lv_iload hx hb d_Tw_deliver_118 (lv_at hl 3 rfl) ?_
            refine lv_iload hx hb d_Tw_deliver_120 (lv_at hl 2 rfl) ?_
            refine lv_iload hx hb d_Tw_deliver_122 (lv_at hl 1 rfl) ?_
            refine lv_iload hx hb d_Tw_deliver_124 (lv_at hl 0 rfl) ?_
            refine t_callv (As := [.int (nI kd), .int (nI t), .int (nI b), .int v, .int (nI nb), .int (rq aq)]) (rest := []) E hK ⟨K, hT, hk⟩ hS (c_Tw_atCore l D dA ad A g (M.eraseIdx j) kd t b v nb aq hkd (by omega) hb4 ha hML2) ck_Tw_139 ⟨rfl, rfl⟩ ⟨Nat.le_of_ble_eq_true rfl, Nat.le_of_ble_eq_true rfl⟩ rfl (lv_sub hl [] rfl) rfl (Nat.le_of_ble_eq_true rfl) ⟨Nat.zero_le _, Nat.zero_le _⟩ d_Tw_deliver_126 (fun H locs hT hS => ?_)
            obtain ⟨K, hT, hk⟩ := hT
            refine lv_aload_n hx hb d_Tw_deliver_129 rfl (lv_at hl 7 rfl) ?_
            refine lv_iload hx hb d_Tw_deliver_130 (lv_at hl 4 rfl) ?_
            refine lv_iload hx hb d_Tw_deliver_132 (lv_at hl 3 rfl) ?_
            refine t_callv (As := [.int (nI t), .int (nI b)]) (rest := []) E hK ⟨K, hT, hk⟩ hS (c_Tw_finish l D dA ad A (s_acG g kd t b v nb) (M.eraseIdx j ++ s_acQ g kd t b aq) t b (by omega) hb4 (fin_pre (by omega) hw)) ck_Tw_143 ⟨rfl, rfl⟩ ⟨Nat.le_of_ble_eq_true rfl, Nat.le_of_ble_eq_true rfl⟩ rfl (lv_sub hl [] rfl) rfl (Nat.le_of_ble_eq_true rfl) ⟨Nat.zero_le _, Nat.zero_le _⟩ d_Tw_deliver_134 (fun H locs hT hS => ?_)
            obtain ⟨K, hT, hk⟩ := hT
            refine lv_aload_n hx hb d_Tw_deliver_137 rfl (lv_at hl 7 rfl) ?_
            refine tg_17 E hK hT d_Tw_deliver_138 ?_
            have eS : s_deliver g M (nI j) = (nI ((M.eraseIdx j ++ s_acQ g kd t b aq).length), s_fin (s_acG g kd t b v nb) t b, M.eraseIdx j ++ s_acQ g kd t b aq) := by simp only [s_deliver, s_handG, s_handQ, if_neg h1, if_pos h2, if_pos h3, if_pos h4, if_neg h5, ej, hq]
            rw [eS]
            exact t_iret E ⟨K, hT, hk⟩ hS rfl rfl d_Tw_deliver_141
          · replace h5 := (nI_eq (a := t) (b := 4) (by omega) (by omega)).mp h5
            refine lv_aload_n hx hb d_Tw_deliver_101 rfl (lv_at hl 7 rfl) ?_
            refine lv_iload_n hx hb d_Tw_deliver_102 rfl (lv_at hl 6 rfl) ?_
            refine lv_iload_n hx hb d_Tw_deliver_103 rfl (lv_at hl 5 rfl) ?_
            refine lv_iload hx hb d_Tw_deliver_104 (lv_at hl 3 rfl) ?_
            refine lv_iload hx hb d_Tw_deliver_106 (lv_at hl 2 rfl) ?_
            refine t_callv (As := [.int (nI kd), .int (nI fr), .int (nI b), .int v]) (rest := []) E hK ⟨K, hT, hk⟩ hS (c_Tw_atHome l D dA ad A g (M.eraseIdx j) kd fr b v hkd (hr4 (by omega)) hb4 (ho b hb4) hML2) ck_Tw_135 ⟨rfl, rfl⟩ ⟨Nat.le_of_ble_eq_true rfl, Nat.le_of_ble_eq_true rfl⟩ rfl (lv_sub hl [] rfl) rfl (Nat.le_of_ble_eq_true rfl) ⟨Nat.zero_le _, Nat.zero_le _⟩ d_Tw_deliver_108 (fun H locs hT hS => ?_)
            obtain ⟨K, hT, hk⟩ := hT
            refine lv_goto (tgt := 137) hx hb d_Tw_deliver_111 (by decide) ?_
            refine lv_aload_n hx hb d_Tw_deliver_137 rfl (lv_at hl 7 rfl) ?_
            refine tg_17 E hK hT d_Tw_deliver_138 ?_
            have eS : s_deliver g M (nI j) = (nI ((M.eraseIdx j ++ s_ahQ g kd fr b).length), s_ahG g kd fr b v, M.eraseIdx j ++ s_ahQ g kd fr b) := by simp only [s_deliver, s_handG, s_handQ, if_neg h1, if_pos h2, if_pos h3, if_pos h4, if_pos h5, ej, hq]
            rw [eS]
            exact t_iret E ⟨K, hT, hk⟩ hS rfl rfl d_Tw_deliver_141
        · refine lv_bipush (v := (-3)) hx hb d_Tw_deliver_33 (by decide) ?_
          have eS : s_deliver g M (nI j) = ((-3), g, M) := by simp only [s_deliver, s_handG, s_handQ, if_neg h1, if_pos h2, if_pos h3, if_neg h4, ej, hq]
          rw [eS]
          exact t_iret E ⟨K, hT, hk⟩ hS rfl rfl d_Tw_deliver_35
      · refine lv_bipush (v := (-2)) hx hb d_Tw_deliver_22 (by decide) ?_
        have eS : s_deliver g M (nI j) = ((-2), g, M) := by simp only [s_deliver, s_handG, s_handQ, if_neg h1, if_pos h2, if_neg h3, ej, hq]
        rw [eS]
        exact t_iret E ⟨K, hT, hk⟩ hS rfl rfl d_Tw_deliver_24
    · refine lv_iconst (v := (-1)) hx hb d_Tw_deliver_12 (by decide) ?_
      have eS : s_deliver g M x = ((-1), g, M) := by simp only [s_deliver, s_handG, s_handQ, if_neg h1, if_neg h2]
      rw [eS]
      exact t_iret E ⟨K, hT, hk⟩ hS rfl rfl d_Tw_deliver_13
