theorem nI_eqT {a b : Nat} (h : a = b) : nI a = nI b := by rw [h]
theorem nI_neF {a b : Nat} (h : a ≠ b) (ha : a < 2 ^ 31) (hb : b < 2 ^ 31) : ¬ nI a = nI b := fun q => h ((nI_eq ha hb).mp q)
theorem rq_eq {c q : Nat} (hc : c < 2 ^ 31) (hq : q < 2 ^ 31) : nI c = rq q ↔ c + 1 = q := by
  cases q with
  | zero =>
    constructor
    · intro h
      rw [rq_0] at h
      have h1 := nI_pos' hc
      rw [h] at h1
      exact absurd h1 (by decide)
    · intro h
      exact absurd h (by omega)
  | succ q =>
    rw [rq_s, nI_eq hc (by omega)]
    omega
theorem mk_send {K : PS} {M : List Msg} {k f t b v n r : Int32} {q : Msg} (hk : MK K M) (hM : M.length < 64) (hq : k = nI q.1 ∧ f = nI q.2.1 ∧ t = nI q.2.2.1 ∧ b = nI q.2.2.2.1 ∧ v = q.2.2.2.2.1 ∧ n = nI q.2.2.2.2.2.1 ∧ r = rq q.2.2.2.2.2.2) :
    MK (up2 (up2 (up2 (up2 (up2 (up2 (up2 K 0 M.length k) 1 M.length f) 2 M.length t) 3 M.length b) 4 M.length v) 5 M.length n) 6 M.length r) (M ++ [q]) := by
  refine ⟨by rw [List.length_append]; exact hM, fun i z hz => ?_⟩
  by_cases hi : i < M.length
  · rw [List.getElem?_append_left hi] at hz
    have hne : i ≠ M.length := by omega
    have := hk.2 i z hz
    simpa [up2, upd, hne] using this
  · rw [List.getElem?_append_right (by omega)] at hz
    have h1 : i - M.length < 1 := (List.getElem?_eq_some_iff.mp hz).1
    have h0 : i = M.length := by omega
    subst h0
    rw [Nat.sub_self] at hz
    cases hz
    simpa [up2, upd] using hq
theorem ck_Tw_81 : CallK R_Tw 81 R_Tw y_Tw_isCore b_Tw_isCore 2 (some FieldType.boolean) 1 := ⟨gdV zm_Tw_81 zi_Tw_isCore zs_Tw_Tw_isCore zn_Tw zk_Tw_isCore, by decide +kernel⟩
theorem ck_Tw_85 : CallKS R_Tw 85 y_Tw_access b_Tw_access 1 (some FieldType.boolean) 1 := ⟨gdS zm_Tw_85 zS_Tw_access zn_Tw zk_Tw_access, by decide +kernel⟩
theorem ck_Tw_88 : CallKS R_Tw 88 y_Tw_isBlock b_Tw_isBlock 1 (some FieldType.boolean) 1 := ⟨gdS zm_Tw_88 zS_Tw_isBlock zn_Tw zk_Tw_isBlock, by decide +kernel⟩
theorem ck_Tw_107 : CallK R_Tw 107 R_Tw y_Tw_plain b_Tw_plain 5 (some FieldType.int) 3 := ⟨gdV zm_Tw_107 zi_Tw_plain zs_Tw_Tw_plain zn_Tw zk_Tw_plain, by decide +kernel⟩
theorem ck_Tw_111 : CallK R_Tw 111 R_Tw y_Tw_perform b_Tw_perform 5 none 1 := ⟨gdV zm_Tw_111 zi_Tw_perform zs_Tw_Tw_perform zn_Tw zk_Tw_perform, by decide +kernel⟩
theorem ck_Tw_115 : CallK R_Tw 115 R_Tw y_Tw_ask b_Tw_ask 5 (some FieldType.int) 4 := ⟨gdV zm_Tw_115 zi_Tw_ask zs_Tw_Tw_ask zn_Tw zk_Tw_ask, by decide +kernel⟩
theorem ck_Tw_97 : CallK R_Tw 97 R_Tw y_Tw_send b_Tw_send 8 none 7 := ⟨gdV zm_Tw_97 zi_Tw_send zs_Tw_Tw_send zn_Tw zk_Tw_send, by decide +kernel⟩
theorem ck_Tw_119 : CallK R_Tw 119 R_Tw y_Tw_inUse b_Tw_inUse 4 (some FieldType.int) 1 := ⟨gdV zm_Tw_119 zi_Tw_inUse zs_Tw_Tw_inUse zn_Tw zk_Tw_inUse, by decide +kernel⟩
theorem ck_Tw_123 : CallK R_Tw 123 R_Tw y_Tw_replace b_Tw_replace 5 (some FieldType.int) 1 := ⟨gdV zm_Tw_123 zi_Tw_replace zs_Tw_Tw_replace zn_Tw zk_Tw_replace, by decide +kernel⟩
theorem ck_Tw_126 : CallK R_Tw 126 R_Tw y_Tw_behind b_Tw_behind 3 (some FieldType.boolean) 1 := ⟨gdV zm_Tw_126 zi_Tw_behind zs_Tw_Tw_behind zn_Tw zk_Tw_behind, by decide +kernel⟩
theorem ck_Tw_129 : CallK R_Tw 129 R_Tw y_Tw_stalls b_Tw_stalls 3 (some FieldType.boolean) 1 := ⟨gdV zm_Tw_129 zi_Tw_stalls zs_Tw_Tw_stalls zn_Tw zk_Tw_stalls, by decide +kernel⟩
theorem ck_Tw_132 : CallK R_Tw 132 R_Tw y_Tw_remove b_Tw_remove 3 none 1 := ⟨gdV zm_Tw_132 zi_Tw_remove zs_Tw_Tw_remove zn_Tw zk_Tw_remove, by decide +kernel⟩
theorem ck_Tw_135 : CallK R_Tw 135 R_Tw y_Tw_atHome b_Tw_atHome 6 none 4 := ⟨gdV zm_Tw_135 zi_Tw_atHome zs_Tw_Tw_atHome zn_Tw zk_Tw_atHome, by decide +kernel⟩
theorem ck_Tw_151 : CallK R_Tw 151 R_Tw y_Tw_gets b_Tw_gets 3 none 2 := ⟨gdV zm_Tw_151 zi_Tw_gets zs_Tw_Tw_gets zn_Tw zk_Tw_gets, by decide +kernel⟩
theorem ck_Tw_147 : CallK R_Tw 147 R_Tw y_Tw_data b_Tw_data 6 none 5 := ⟨gdV zm_Tw_147 zi_Tw_data zs_Tw_Tw_data zn_Tw zk_Tw_data, by decide +kernel⟩
theorem ck_Tw_154 : CallK R_Tw 154 R_Tw y_Tw_getm b_Tw_getm 4 none 2 := ⟨gdV zm_Tw_154 zi_Tw_getm zs_Tw_Tw_getm zn_Tw zk_Tw_getm, by decide +kernel⟩
theorem ck_Tw_157 : CallK R_Tw 157 R_Tw y_Tw_sharers b_Tw_sharers 5 (some FieldType.int) 2 := ⟨gdV zm_Tw_157 zi_Tw_sharers zs_Tw_Tw_sharers zn_Tw zk_Tw_sharers, by decide +kernel⟩
theorem ck_Tw_139 : CallK R_Tw 139 R_Tw y_Tw_atCore b_Tw_atCore 10 none 6 := ⟨gdV zm_Tw_139 zi_Tw_atCore zs_Tw_Tw_atCore zn_Tw zk_Tw_atCore, by decide +kernel⟩
theorem ck_Tw_143 : CallK R_Tw 143 R_Tw y_Tw_finish b_Tw_finish 5 none 2 := ⟨gdV zm_Tw_143 zi_Tw_finish zs_Tw_Tw_finish zn_Tw zk_Tw_finish, by decide +kernel⟩
theorem c_Tw_isBlock (l : Launch) (x : Int32) : Met l y_Tw_isBlock (k_Tw_isBlock :: wz) (rml 0 0 0) (fun v _ => v = ([.int x] : List Value).toArray) (QcRead (s_isBlock x)) 0 0 (fun _ => False) := by
  refine st_entry (by decide) (Nat.le_of_ble_eq_true rfl) ?_
  intro p e s m below meth c0 E ls hl
  have hx := E.1
  have hb := E.2.1
  replace hl : lv_has ls 1 [(0, .int x)] := hl
  refine lv_iload_n hx hb d_Tw_isBlock_0 rfl (lv_at hl 0 rfl) ?_
  refine lv_if_lt (tgt := 13) hx hb d_Tw_isBlock_1 (by decide) (fun h1 => ?_) (fun h1 => ?_)
  · refine lv_iconst (v := 0) hx hb d_Tw_isBlock_13 (by decide) ?_
    exact t_read E rfl (by simp [s_isBlock, h1]) d_Tw_isBlock_14
  · refine lv_iload_n hx hb d_Tw_isBlock_4 rfl (lv_at hl 0 rfl) ?_
    refine lv_iconst (v := 3) hx hb d_Tw_isBlock_5 (by decide) ?_
    refine lv_icmp_gt (tgt := 13) hx hb d_Tw_isBlock_6 (by decide) (fun h2 => ?_) (fun h2 => ?_)
    · refine lv_iconst (v := 0) hx hb d_Tw_isBlock_13 (by decide) ?_
      exact t_read E rfl (by simp [s_isBlock, h1, h2]) d_Tw_isBlock_14
    · refine lv_iconst (v := 1) hx hb d_Tw_isBlock_9 (by decide) ?_
      refine lv_goto (tgt := 14) hx hb d_Tw_isBlock_10 (by decide) ?_
      exact t_read E rfl (by simp [s_isBlock, h1, h2]) d_Tw_isBlock_14
theorem c_Tw_access (l : Launch) (x : Int32) : Met l y_Tw_access (k_Tw_access :: wz) (rml 0 0 0) (fun v _ => v = ([.int x] : List Value).toArray) (QcRead (s_access x)) 0 0 (fun _ => False) := by
  refine st_entry (by decide) (Nat.le_of_ble_eq_true rfl) ?_
  intro p e s m below meth c0 E ls hl
  have hx := E.1
  have hb := E.2.1
  replace hl : lv_has ls 1 [(0, .int x)] := hl
  refine lv_iload_n hx hb d_Tw_access_0 rfl (lv_at hl 0 rfl) ?_
  refine lv_if_eq (tgt := 14) hx hb d_Tw_access_1 (by decide) (fun h1 => ?_) (fun h1 => ?_)
  · refine lv_iconst (v := 1) hx hb d_Tw_access_14 (by decide) ?_
    refine lv_goto (tgt := 19) hx hb d_Tw_access_15 (by decide) ?_
    exact t_read E rfl (by simp [s_access, h1]) d_Tw_access_19
  · refine lv_iload_n hx hb d_Tw_access_4 rfl (lv_at hl 0 rfl) ?_
    refine lv_iconst (v := 1) hx hb d_Tw_access_5 (by decide) ?_
    refine lv_icmp_eq (tgt := 14) hx hb d_Tw_access_6 (by decide) (fun h2 => ?_) (fun h2 => ?_)
    · refine lv_iconst (v := 1) hx hb d_Tw_access_14 (by decide) ?_
      refine lv_goto (tgt := 19) hx hb d_Tw_access_15 (by decide) ?_
      exact t_read E rfl (by simp [s_access, h1, h2]) d_Tw_access_19
    · refine lv_iload_n hx hb d_Tw_access_9 rfl (lv_at hl 0 rfl) ?_
      refine lv_iconst (v := 5) hx hb d_Tw_access_10 (by decide) ?_
      refine lv_icmp_ne (tgt := 18) hx hb d_Tw_access_11 (by decide) (fun h3 => ?_) (fun h3 => ?_)
      · refine lv_iconst (v := 0) hx hb d_Tw_access_18 (by decide) ?_
        exact t_read E rfl (by simp [s_access, h1, h2, h3]) d_Tw_access_19
      · refine lv_iconst (v := 1) hx hb d_Tw_access_14 (by decide) ?_
        refine lv_goto (tgt := 19) hx hb d_Tw_access_15 (by decide) ?_
        exact t_read E rfl (by simp [s_access, h1, h2, h3]) d_Tw_access_19
set_option maxHeartbeats 4000000 in
set_option maxRecDepth 100000 in
theorem c_Tw_isCore (l : Launch) (D : va_G) (dA : Nat → ClassId) (ad : Nat → Nat) (A : Nat → Prop) (g : PS) (M : List Msg) (x : Int32) : Met l y_Tw_isCore (k_Tw_isCore :: wz) (rml 0 0 0) (va_Pc [.ref (ad 0), .int x] (PT D dA ad A g M)) (QcRead (s_isCore g x)) 0 0 (fun _ => False) := by
  refine tw_entry (by decide) (Nat.le_of_ble_eq_true rfl) ?_
  intro p e s m below meth c0 E hK hT ls hl
  have hT0 := hT
  obtain ⟨K, hT, hk⟩ := hT
  have hx := E.1
  have hb := E.2.1
  replace hl : lv_has ls 2 [(0, .ref (ad 0)), (1, .int x)] := hl
  refine lv_iload_n hx hb d_Tw_isCore_0 rfl (lv_at hl 1 rfl) ?_
  refine lv_if_lt (tgt := 16) hx hb d_Tw_isCore_1 (by decide) (fun h1 => ?_) (fun h1 => ?_)
  · refine lv_iconst (v := 0) hx hb d_Tw_isCore_16 (by decide) ?_
    exact t_read E rfl (by simp [s_isCore, h1]) d_Tw_isCore_17
  · refine lv_iload_n hx hb d_Tw_isCore_4 rfl (lv_at hl 1 rfl) ?_
    refine lv_aload_n hx hb d_Tw_isCore_5 rfl (lv_at hl 0 rfl) ?_
    refine tg_0 E hK hT d_Tw_isCore_6 ?_
    refine lv_icmp_ge (tgt := 16) hx hb d_Tw_isCore_9 (by decide) (fun h2 => ?_) (fun h2 => ?_)
    · refine lv_iconst (v := 0) hx hb d_Tw_isCore_16 (by decide) ?_
      exact t_read E rfl (by simp [s_isCore, h1, h2]) d_Tw_isCore_17
    · refine lv_iconst (v := 1) hx hb d_Tw_isCore_12 (by decide) ?_
      refine lv_goto (tgt := 17) hx hb d_Tw_isCore_13 (by decide) ?_
      exact t_read E rfl (by simp [s_isCore, h1, h2]) d_Tw_isCore_17
set_option maxHeartbeats 4000000 in
set_option maxRecDepth 100000 in
theorem c_Tw_send (l : Launch) (D : va_G) (dA : Nat → ClassId) (ad : Nat → Nat) (A : Nat → Prop) (g : PS) (M : List Msg) (k f t b v n r : Int32) (q : Msg) (hq : k = nI q.1 ∧ f = nI q.2.1 ∧ t = nI q.2.2.1 ∧ b = nI q.2.2.2.1 ∧ v = q.2.2.2.2.1 ∧ n = nI q.2.2.2.2.2.1 ∧ r = rq q.2.2.2.2.2.2) (hM : M.length < 64) : Met l y_Tw_send (k_Tw_send :: wz) (rml 0 0 0) (va_Pc [.ref (ad 0), .int k, .int f, .int t, .int b, .int v, .int n, .int r] (PT D dA ad A g M)) (TQv D dA ad A (snd g) (M ++ [q])) 0 0 A := by
  refine tw_entry (by decide) (Nat.le_of_ble_eq_true rfl) ?_
  intro p e s m below meth c0 E hK hT ls hl
  have hT0 := hT
  obtain ⟨K, hT, hk⟩ := hT
  have hx := E.1
  have hb := E.2.1
  have hS : va_S A s.heap s.heap [] := va_S.rf
  replace hl : lv_has ls 8 [(0, .ref (ad 0)), (1, .int k), (2, .int f), (3, .int t), (4, .int b), (5, .int v), (6, .int n), (7, .int r)] := hl
  refine lv_aload_n hx hb d_Tw_send_0 rfl (lv_at hl 0 rfl) ?_
  refine tg_20 E hK hT d_Tw_send_1 ?_
  refine lv_aload_n hx hb d_Tw_send_4 rfl (lv_at hl 0 rfl) ?_
  refine tg_17 E hK hT d_Tw_send_5 ?_
  refine lv_iload_n hx hb d_Tw_send_8 rfl (lv_at hl 1 rfl) ?_
  refine ts_20 E hK hT hS (j := M.length) (by omega) d_Tw_send_9 (fun H locs hT hS => ?_)
  refine lv_aload_n hx hb d_Tw_send_10 rfl (lv_at hl 0 rfl) ?_
  refine tg_21 E hK hT d_Tw_send_11 ?_
  refine lv_aload_n hx hb d_Tw_send_14 rfl (lv_at hl 0 rfl) ?_
  refine tg_17 E hK hT d_Tw_send_15 ?_
  refine lv_iload_n hx hb d_Tw_send_18 rfl (lv_at hl 2 rfl) ?_
  refine ts_21 E hK hT hS (j := M.length) (by omega) d_Tw_send_19 (fun H locs hT hS => ?_)
  refine lv_aload_n hx hb d_Tw_send_20 rfl (lv_at hl 0 rfl) ?_
  refine tg_22 E hK hT d_Tw_send_21 ?_
  refine lv_aload_n hx hb d_Tw_send_24 rfl (lv_at hl 0 rfl) ?_
  refine tg_17 E hK hT d_Tw_send_25 ?_
  refine lv_iload_n hx hb d_Tw_send_28 rfl (lv_at hl 3 rfl) ?_
  refine ts_22 E hK hT hS (j := M.length) (by omega) d_Tw_send_29 (fun H locs hT hS => ?_)
  refine lv_aload_n hx hb d_Tw_send_30 rfl (lv_at hl 0 rfl) ?_
  refine tg_23 E hK hT d_Tw_send_31 ?_
  refine lv_aload_n hx hb d_Tw_send_34 rfl (lv_at hl 0 rfl) ?_
  refine tg_17 E hK hT d_Tw_send_35 ?_
  refine lv_iload hx hb d_Tw_send_38 (lv_at hl 4 rfl) ?_
  refine ts_23 E hK hT hS (j := M.length) (by omega) d_Tw_send_40 (fun H locs hT hS => ?_)
  refine lv_aload_n hx hb d_Tw_send_41 rfl (lv_at hl 0 rfl) ?_
  refine tg_24 E hK hT d_Tw_send_42 ?_
  refine lv_aload_n hx hb d_Tw_send_45 rfl (lv_at hl 0 rfl) ?_
  refine tg_17 E hK hT d_Tw_send_46 ?_
  refine lv_iload hx hb d_Tw_send_49 (lv_at hl 5 rfl) ?_
  refine ts_24 E hK hT hS (j := M.length) (by omega) d_Tw_send_51 (fun H locs hT hS => ?_)
  refine lv_aload_n hx hb d_Tw_send_52 rfl (lv_at hl 0 rfl) ?_
  refine tg_25 E hK hT d_Tw_send_53 ?_
  refine lv_aload_n hx hb d_Tw_send_56 rfl (lv_at hl 0 rfl) ?_
  refine tg_17 E hK hT d_Tw_send_57 ?_
  refine lv_iload hx hb d_Tw_send_60 (lv_at hl 6 rfl) ?_
  refine ts_25 E hK hT hS (j := M.length) (by omega) d_Tw_send_62 (fun H locs hT hS => ?_)
  refine lv_aload_n hx hb d_Tw_send_63 rfl (lv_at hl 0 rfl) ?_
  refine tg_26 E hK hT d_Tw_send_64 ?_
  refine lv_aload_n hx hb d_Tw_send_67 rfl (lv_at hl 0 rfl) ?_
  refine tg_17 E hK hT d_Tw_send_68 ?_
  refine lv_iload hx hb d_Tw_send_71 (lv_at hl 7 rfl) ?_
  refine ts_26 E hK hT hS (j := M.length) (by omega) d_Tw_send_73 (fun H locs hT hS => ?_)
  refine lv_aload_n hx hb d_Tw_send_74 rfl (lv_at hl 0 rfl) ?_
  refine lv_dup hx hb d_Tw_send_75 rfl ?_
  refine tg_17 E hK hT d_Tw_send_76 ?_
  refine lv_iconst (v := 1) hx hb d_Tw_send_79 (by decide) ?_
  refine wn_add hx hb (a := M.length) (b := 1) d_Tw_send_80 ?_
  refine tp_17 E hK hT hS (q := M.length + 1) d_Tw_send_81 (fun H locs hT hS => ?_)
  refine lv_aload_n hx hb d_Tw_send_84 rfl (lv_at hl 0 rfl) ?_
  refine lv_dup hx hb d_Tw_send_85 rfl ?_
  refine tg_18 E hK hT d_Tw_send_86 ?_
  refine lv_iconst (v := 1) hx hb d_Tw_send_89 (by decide) ?_
  refine lv_iadd hx hb d_Tw_send_90 ?_
  refine tp_18 E hK hT hS d_Tw_send_91 (fun H locs hT hS => ?_)
  exact t_vret (H := H) E ⟨_, by rw [List.length_append]; exact hT, mk_send hk hM hq⟩ hS d_Tw_send_94
set_option maxHeartbeats 4000000 in
set_option maxRecDepth 100000 in
theorem c_Tw_data (l : Launch) (D : va_G) (dA : Nat → ClassId) (ad : Nat → Nat) (A : Nat → Prop) (g : PS) (M : List Msg) (f t b : Nat) (v : Int32) (n : Nat) (hM : M.length < 64) : Met l y_Tw_data (k_Tw_data :: wz) (rml 1 0 0) (va_Pc [.ref (ad 0), .int (nI f), .int (nI t), .int (nI b), .int v, .int (nI n)] (PT D dA ad A g M)) (TQv D dA ad A (snd g) (M ++ [(8, f, t, b, v, n, 0)])) 0 0 A := by
  refine tw_entry (by decide) (Nat.le_of_ble_eq_true rfl) ?_
  intro p e s m below meth c0 E hK hT ls hl
  have hT0 := hT
  obtain ⟨K, hT, hk⟩ := hT
  have hx := E.1
  have hb := E.2.1
  have hS : va_S A s.heap s.heap [] := va_S.rf
  replace hl : lv_has ls 6 [(0, .ref (ad 0)), (1, .int (nI f)), (2, .int (nI t)), (3, .int (nI b)), (4, .int v), (5, .int (nI n))] := hl
  refine lv_aload_n hx hb d_Tw_data_0 rfl (lv_at hl 0 rfl) ?_
  refine lv_bipush (v := 8) hx hb d_Tw_data_1 (by decide) ?_
  refine lv_iload_n hx hb d_Tw_data_3 rfl (lv_at hl 1 rfl) ?_
  refine lv_iload_n hx hb d_Tw_data_4 rfl (lv_at hl 2 rfl) ?_
  refine lv_iload_n hx hb d_Tw_data_5 rfl (lv_at hl 3 rfl) ?_
  refine lv_iload hx hb d_Tw_data_6 (lv_at hl 4 rfl) ?_
  refine lv_iload hx hb d_Tw_data_8 (lv_at hl 5 rfl) ?_
  refine lv_iconst (v := (-1)) hx hb d_Tw_data_10 (by decide) ?_
  refine t_callv (As := [.int 8, .int (nI f), .int (nI t), .int (nI b), .int v, .int (nI n), .int (-1)]) (rest := []) E hK ⟨K, hT, hk⟩ hS (c_Tw_send l D dA ad A g M 8 (nI f) (nI t) (nI b) v (nI n) (-1) (8, f, t, b, v, n, 0) ⟨rfl, rfl, rfl, rfl, rfl, rfl, rq_0.symm⟩ hM) ck_Tw_97 ⟨rfl, rfl⟩ ⟨Nat.le_of_ble_eq_true rfl, Nat.le_of_ble_eq_true rfl⟩ rfl (lv_sub hl [] rfl) rfl (Nat.le_of_ble_eq_true rfl) ⟨Nat.zero_le _, Nat.zero_le _⟩ d_Tw_data_11 (fun H locs hT hS => ?_)
  obtain ⟨K, hT, hk⟩ := hT
  exact t_vret E ⟨K, hT, hk⟩ hS d_Tw_data_14
