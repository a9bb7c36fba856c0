theorem ck_Line_52 : CallK R_Line 52 R_Net y_Net_send b_Net_send 6 (some (FieldType.object "HomeDirectory$Message")) 4 := ⟨gdV zm_Line_52 zi_Net_send zs_Net_Net_send zn_Net zk_Net_send, by decide +kernel⟩
theorem ck_Line_91 : CallK R_Line 91 R_Net y_Net_sendWord b_Net_sendWord 6 none 5 := ⟨gdV zm_Line_91 zi_Net_sendWord zs_Net_Net_sendWord zn_Net zk_Net_sendWord, by decide +kernel⟩
theorem ck_Emp_18 : CallK R_Emp 18 R_Line y_Line_release b_Line_release 1 none 0 := ⟨gdV zm_Emp_18 zi_Line_release zs_Line_Line_release zn_Line zk_Line_release, by decide +kernel⟩
theorem ck_Sha_18 : CallK R_Sha 18 R_Line y_Line_release b_Line_release 1 none 0 := ⟨gdV zm_Sha_18 zi_Line_release zs_Line_Line_release zn_Line zk_Line_release, by decide +kernel⟩
theorem ck_Sha_27 : CallK R_Sha 27 R_Line y_Line_answer b_Line_answer 2 none 1 := ⟨gdV zm_Sha_27 zi_Line_answer zs_Line_Line_answer zn_Line zk_Line_answer, by decide +kernel⟩
theorem ck_Own_53 : CallK R_Own 53 R_Net y_Net_sendWord b_Net_sendWord 6 none 5 := ⟨gdV zm_Own_53 zi_Net_sendWord zs_Net_Net_sendWord zn_Net zk_Net_sendWord, by decide +kernel⟩
theorem ck_Own_77 : CallK R_Own 77 R_Line y_Line_release b_Line_release 1 none 0 := ⟨gdV zm_Own_77 zi_Line_release zs_Line_Line_release zn_Line zk_Line_release, by decide +kernel⟩

theorem ck_Gai_60 : CallK R_Gai 60 R_Line y_Line_answer b_Line_answer 2 none 1 := ⟨gdV zm_Gai_60 zi_Line_answer zs_Line_Line_answer zn_Line zk_Line_answer, by decide +kernel⟩
theorem gu_Own_27 : GoodIn wz (va_wsU R_Own 27 R_Kind "java/lang/Enum" ⟨"HomeDirectory$Kind", "ordinal", "()I"⟩ y_Enum_ordinal (k_Enum_ordinal :: wz)) := gdU zm_Own_27 zM_Kind_ordinal zs_Kind_Enum_ordinal_v zi_Enum_ordinal zn_Enum zk_Enum_ordinal
theorem gu_Gai_19 : GoodIn wz (va_wsU R_Gai 19 R_Kind "java/lang/Enum" ⟨"HomeDirectory$Kind", "ordinal", "()I"⟩ y_Enum_ordinal (k_Enum_ordinal :: wz)) := gdU zm_Gai_19 zM_Kind_ordinal zs_Kind_Enum_ordinal_v zi_Enum_ordinal zn_Enum zk_Enum_ordinal
theorem gm_Emp : GoodIn wz (va_wsU R_Line 35 R_Emp "HomeDirectory$Mode" y_Mode_take y_Emp_take (k_Emp_take :: wz)) := gdU zm_Line_35 zM_Mode_take zs_Emp_Emp_take_v zi_Emp_take zn_Emp zk_Emp_take
theorem gm_Sha : GoodIn wz (va_wsU R_Line 35 R_Sha "HomeDirectory$Mode" y_Mode_take y_Sha_take (k_Sha_take :: wz)) := gdU zm_Line_35 zM_Mode_take zs_Sha_Sha_take_v zi_Sha_take zn_Sha zk_Sha_take
theorem gm_Own : GoodIn wz (va_wsU R_Line 35 R_Own "HomeDirectory$Mode" y_Mode_take y_Own_take (k_Own_take :: wz)) := gdU zm_Line_35 zM_Mode_take zs_Own_Own_take_v zi_Own_take zn_Own zk_Own_take
theorem gm_Fet : GoodIn wz (va_wsU R_Line 35 R_Fet "HomeDirectory$Mode" y_Mode_take y_Fet_take (k_Fet_take :: wz)) := gdU zm_Line_35 zM_Mode_take zs_Fet_Fet_take_v zi_Fet_take zn_Fet zk_Fet_take
theorem gm_Gai : GoodIn wz (va_wsU R_Line 35 R_Gai "HomeDirectory$Mode" y_Mode_take y_Gai_take (k_Gai_take :: wz)) := gdU zm_Line_35 zM_Mode_take zs_Gai_Gai_take_v zi_Gai_take zn_Gai zk_Gai_take
theorem nl_0 : nI 0 = (0 : Int32) := rfl
theorem nl_1 : nI 1 = (1 : Int32) := rfl
theorem nl_2 : nI 2 = (2 : Int32) := rfl
theorem nl_3 : nI 3 = (3 : Int32) := rfl
theorem nl_4 : nI 4 = (4 : Int32) := rfl
theorem nl_5 : nI 5 = (5 : Int32) := rfl
theorem nl_6 : nI 6 = (6 : Int32) := rfl
theorem nl_7 : nI 7 = (7 : Int32) := rfl
theorem nl_8 : nI 8 = (8 : Int32) := rfl
theorem nl_9 : nI 9 = (9 : Int32) := rfl
theorem nl_10 : nI 10 = (10 : Int32) := rfl
theorem up2_same {g : PS} {k j : Nat} {v : Int32} (h : g k j = v) : up2 g k j v = g := by subst h; exact up2_id g k j
/-- what a line does with what comes in; the waiting core apart -/
def s_tkG (g : PS) (kd c b : Nat) (v : Int32) (nb : Nat) : PS := if kd = 7 then up2 g 8 (4 * c + b) 0 else s_acG g kd c b v nb
abbrev okE : List (Nat × Nat) := [(10, 7)]
abbrev okS : List (Nat × Nat) := [(1, 6), (9, 6), (9, 7)]
abbrev okO : List (Nat × Nat) := [(2, 4), (2, 5), (8, 4), (8, 5), (8, 7)]
abbrev okF : List (Nat × Nat) := [(3, 8), (3, 6)]
abbrev okG : List (Nat × Nat) := [(4, 8), (4, 9), (4, 4), (4, 5), (5, 9), (5, 4), (5, 5), (6, 8), (6, 9), (6, 6), (6, 4), (6, 5), (7, 9), (7, 4), (7, 5)]
/-- states of a line and kinds that may come to it -/
abbrev okL : List (Nat × Nat) := okE ++ (okS ++ (okO ++ (okF ++ okG)))
theorem gai_same {s : State} {args : Array Value} (h : (Cond.sameField R_Gai R_Mode "holds" "Z").before args s = true) : ∀ x, s.fieldFound? (F_Gai 1).1 (F_Gai 1).2.1 (F_Gai 1).2.2.1 = some x → s.fieldFound? R_Gai (F_Gai 1).2.1 (F_Gai 1).2.2.1 = some x := by
  intro x hx
  have h1 : s.fieldFound? R_Mode "holds" "Z" = some x := hx
  show s.fieldFound? R_Gai "holds" "Z" = some x
  cases hg : s.fieldFound? R_Gai "holds" "Z" with
  | none => simp [Cond.before, Cond.holds, Cond.value, hg] at h
  | some y =>
    obtain ⟨c, k, i, f⟩ := y
    have h2 := Cond.sameField_spec hg h
    rw [h1] at h2
    exact h2.symm
set_option maxHeartbeats 4000000 in
set_option maxRecDepth 100000 in
theorem c_Line_release (l : Launch) (D : va_G) (dA : Nat → ClassId) (eA ad : Nat → Nat → Nat) (A : Nat → Prop) (N : Nat) (g : PS) (M : List Msg) (as sp : List Nat) (c b : Nat) (hc : c < N) (hN4 : N ≤ 4) (hb4 : b < 4) : Met l y_Line_release (k_Line_release :: wz) (rml 0 0 0) (va_Pc [.ref (ad 11 (4 * c + b))] (PX D dA eA ad A N g M as sp)) (XQv D dA eA ad A N (up2 g 8 (4 * c + b) (nI 0)) M as) 0 0 A := by
  refine x_entry (by decide) (Nat.le_of_ble_eq_true rfl) ?_
  intro p e s m below meth c0 E hA hC hR ls hl
  have hx := E.1
  have hb := E.2.1
  have hS : va_S A s.heap s.heap [] := va_S.rf
  replace hl : lv_has ls 1 [(0, .ref (ad 11 (4 * c + b)))] := hl
  refine lv_aload_n hx hb d_Line_release_0 rfl (lv_at hl 0 rfl) ?_
  refine lv_aload_n hx hb d_Line_release_1 rfl (lv_at hl 0 rfl) ?_
  refine xg_Line E hC hR (show vl N 11 (4 * c + b) from (show 4 * c + b < 4 * N by omega)) 3 (by decide) zf_Line_22 rfl d_Line_release_2 ?_
  refine xg_Chart E hC hR 0 (by decide) zf_Line_26 rfl d_Line_release_5 ?_
  refine xp_Line_mode E hC hR hS (show vl N 11 (4 * c + b) from (show 4 * c + b < 4 * N by omega)) (q := 0) (by omega) zf_Line_32 d_Line_release_8 (fun H locs hR hS => ?_)
  exact x_vret (nw := []) E (by rw [List.append_nil]; exact hR) hS d_Line_release_11
set_option maxHeartbeats 4000000 in
set_option maxRecDepth 100000 in
theorem c_Line_answer (l : Launch) (D : va_G) (dA : Nat → ClassId) (eA ad : Nat → Nat → Nat) (A : Nat → Prop) (N : Nat) (g : PS) (M : List Msg) (as sp : List Nat) (c b : Nat) (hc : c < N) (hN4 : N ≤ 4) (hb4 : b < 4) (j q kd fr t b2 : Nat) (v : Int32) (nb a : Nat) (hq : as[j]? = some q) (hz : M[j]? = some (kd, fr, t, b2, v, nb, a + 1)) : Met l y_Line_answer (k_Line_answer :: wz) (rml 3 1 8) (va_Pc [.ref (ad 11 (4 * c + b)), .ref q] (PX D dA eA ad A N g M as sp)) (XQv D dA eA ad A N (snd g) (M ++ [(9, c, a, b, 0, 0, 0)]) as) 1 8 A := by
  refine x_entry (by decide) (Nat.le_of_ble_eq_true rfl) ?_
  intro p e s m below meth c0 E hA hC hR ls hl
  have hx := E.1
  have hb := E.2.1
  have hS : va_S A s.heap s.heap [] := va_S.rf
  replace hl : lv_has ls 2 [(0, .ref (ad 11 (4 * c + b))), (1, .ref q)] := hl
  refine lv_aload_n hx hb d_Line_answer_0 rfl (lv_at hl 0 rfl) ?_
  refine xg_Line E hC hR (show vl N 11 (4 * c + b) from (show 4 * c + b < 4 * N by omega)) 2 (by decide) zf_Line_18 rfl d_Line_answer_1 ?_
  refine x_gets (eA := eA) hC.2.1 E hS 9 (by decide) zf_Line_41 d_Line_answer_4 ?_
  refine lv_aload_n hx hb d_Line_answer_7 rfl (lv_at hl 0 rfl) ?_
  refine xg_Line E hC hR (show vl N 11 (4 * c + b) from (show 4 * c + b < 4 * N by omega)) 0 (by decide) zf_Line_9 rfl d_Line_answer_8 ?_
  refine wn_eq (y := nI c) (by rw [show (4 * c + b) / 4 = c by omega]) ?_
  refine lv_aload_n hx hb d_Line_answer_11 rfl (lv_at hl 1 rfl) ?_
  refine xg_Msg E hC hR hq hz 6 (by decide) zf_Line_47 rfl d_Line_answer_12 ?_
  refine wn_eq (y := nI a) (rq_s a) ?_
  refine lv_aload_n hx hb d_Line_answer_15 rfl (lv_at hl 0 rfl) ?_
  refine xg_Line E hC hR (show vl N 11 (4 * c + b) from (show 4 * c + b < 4 * N by omega)) 1 (by decide) zf_Line_15 rfl d_Line_answer_16 ?_
  refine wn_eq (y := nI b) (by rw [show (4 * c + b) % 4 = b by omega]) ?_
  refine xc_r (av := [.ref (ad 1 0), .ref (eA 0 9), .int (nI c), .int (nI a), .int (nI b)]) (xrunV (As := [.ref (eA 0 9), .int (nI c), .int (nI a), .int (nI b)]) (rest := []) E hA hC hR hS (c_Net_send l D dA eA ad A N g M as sp 9 c a b) (x_recv hC hR (s0 := 1) (i0 := 0) (show vl N 1 0 from rfl) rfl rfl) ck_Line_52 ⟨rfl, rfl⟩ ⟨Nat.le_of_ble_eq_true rfl, Nat.le_of_ble_eq_true rfl⟩ rfl (lv_sub hl [] rfl) rfl (Nat.le_of_ble_eq_true rfl) ⟨Nat.le_of_ble_eq_true rfl, Nat.le_of_ble_eq_true rfl⟩ d_Line_answer_19) hS (fun H locs q1 sp1 hR hS => ?_)
  refine W.widen (k := 1) (n := 8) (by decide) (by decide) ?_
  refine lv_pop hx hb d_Line_answer_22 rfl ?_
  exact x_vret (nw := [q1]) E hR hS d_Line_answer_23
set_option maxHeartbeats 4000000 in
set_option maxRecDepth 100000 in
theorem c_Line_fetch (l : Launch) (D : va_G) (dA : Nat → ClassId) (eA ad : Nat → Nat → Nat) (A : Nat → Prop) (N : Nat) (g : PS) (M : List Msg) (as sp : List Nat) (c b : Nat) (hc : c < N) (hN4 : N ≤ 4) (hb4 : b < 4) : Met l y_Line_fetch (k_Line_fetch :: wz) (rml 3 1 8) (va_Pc [.ref (ad 11 (4 * c + b))] (PX D dA eA ad A N g M as sp)) (XQv D dA eA ad A N (up2 (snd g) 8 (4 * c + b) 3) (M ++ [(0, c, 4, b, 0, 0, 0)]) as) 1 8 A := by
  refine x_entry (by decide) (Nat.le_of_ble_eq_true rfl) ?_
  intro p e s m below meth c0 E hA hC hR ls hl
  have hx := E.1
  have hb := E.2.1
  have hS : va_S A s.heap s.heap [] := va_S.rf
  replace hl : lv_has ls 1 [(0, .ref (ad 11 (4 * c + b)))] := hl
  refine lv_aload_n hx hb d_Line_fetch_0 rfl (lv_at hl 0 rfl) ?_
  refine xg_Line E hC hR (show vl N 11 (4 * c + b) from (show 4 * c + b < 4 * N by omega)) 2 (by decide) zf_Line_18 rfl d_Line_fetch_1 ?_
  refine x_gets (eA := eA) hC.2.1 E hS 0 (by decide) zf_Line_58 d_Line_fetch_4 ?_
  refine lv_aload_n hx hb d_Line_fetch_7 rfl (lv_at hl 0 rfl) ?_
  refine xg_Line E hC hR (show vl N 11 (4 * c + b) from (show 4 * c + b < 4 * N by omega)) 0 (by decide) zf_Line_9 rfl d_Line_fetch_8 ?_
  refine wn_eq (y := nI c) (by rw [show (4 * c + b) / 4 = c by omega]) ?_
  refine lv_iconst (v := 4) hx hb d_Line_fetch_11 (by decide) ?_
  refine lv_aload_n hx hb d_Line_fetch_12 rfl (lv_at hl 0 rfl) ?_
  refine xg_Line E hC hR (show vl N 11 (4 * c + b) from (show 4 * c + b < 4 * N by omega)) 1 (by decide) zf_Line_15 rfl d_Line_fetch_13 ?_
  refine wn_eq (y := nI b) (by rw [show (4 * c + b) % 4 = b by omega]) ?_
  refine xc_r (av := [.ref (ad 1 0), .ref (eA 0 0), .int (nI c), .int 4, .int (nI b)]) (xrunV (As := [.ref (eA 0 0), .int (nI c), .int 4, .int (nI b)]) (rest := []) E hA hC hR hS (c_Net_send l D dA eA ad A N g M as sp 0 c 4 b) (x_recv hC hR (s0 := 1) (i0 := 0) (show vl N 1 0 from rfl) rfl rfl) ck_Line_52 ⟨rfl, rfl⟩ ⟨Nat.le_of_ble_eq_true rfl, Nat.le_of_ble_eq_true rfl⟩ rfl (lv_sub hl [] rfl) rfl (Nat.le_of_ble_eq_true rfl) ⟨Nat.le_of_ble_eq_true rfl, Nat.le_of_ble_eq_true rfl⟩ d_Line_fetch_16) hS (fun H locs q1 sp1 hR hS => ?_)
  refine W.widen (k := 1) (n := 8) (by decide) (by decide) ?_
  refine lv_pop hx hb d_Line_fetch_19 rfl ?_
  refine lv_aload_n hx hb d_Line_fetch_20 rfl (lv_at hl 0 rfl) ?_
  refine lv_aload_n hx hb d_Line_fetch_21 rfl (lv_at hl 0 rfl) ?_
  refine xg_Line E hC hR (show vl N 11 (4 * c + b) from (show 4 * c + b < 4 * N by omega)) 3 (by decide) zf_Line_22 rfl d_Line_fetch_22 ?_
  refine xg_Chart E hC hR 3 (by decide) zf_Line_61 rfl d_Line_fetch_25 ?_
  refine xp_Line_mode E hC hR hS (show vl N 11 (4 * c + b) from (show 4 * c + b < 4 * N by omega)) (q := 3) (by omega) zf_Line_32 d_Line_fetch_28 (fun H locs hR hS => ?_)
  have eG : up2 (snd g) 8 (4 * c + b) (nI 3) = up2 (snd g) 8 (4 * c + b) 3 := by rfl
  rw [eG] at hR
  exact x_vret (nw := [q1]) E hR hS d_Line_fetch_31
set_option maxHeartbeats 4000000 in
set_option maxRecDepth 100000 in
theorem c_Line_gain (l : Launch) (D : va_G) (dA : Nat → ClassId) (eA ad : Nat → Nat → Nat) (A : Nat → Prop) (N : Nat) (g : PS) (M : List Msg) (as sp : List Nat) (c b : Nat) (hc : c < N) (hN4 : N ≤ 4) (hb4 : b < 4) (st : Nat) (hst11 : st < 11) (hst : g 8 (4 * c + b) = nI st) : Met l y_Line_gain (k_Line_gain :: wz) (rml 3 1 8) (va_Pc [.ref (ad 11 (4 * c + b))] (PX D dA eA ad A N g M as sp)) (XQv D dA eA ad A N (up2 (up2 (snd g) 10 (4 * c + b) 0) 8 (4 * c + b) (if st = 1 then 6 else 4)) (M ++ [(1, c, 4, b, 0, 0, 0)]) as) 1 8 A := by
  refine x_entry (by decide) (Nat.le_of_ble_eq_true rfl) ?_
  intro p e s m below meth c0 E hA hC hR ls hl
  have hx := E.1
  have hb := E.2.1
  have hS : va_S A s.heap s.heap [] := va_S.rf
  replace hl : lv_has ls 1 [(0, .ref (ad 11 (4 * c + b)))] := hl
  refine lv_aload_n hx hb d_Line_gain_0 rfl (lv_at hl 0 rfl) ?_
  refine xg_Line E hC hR (show vl N 11 (4 * c + b) from (show 4 * c + b < 4 * N by omega)) 2 (by decide) zf_Line_18 rfl d_Line_gain_1 ?_
  refine x_gets (eA := eA) hC.2.1 E hS 1 (by decide) zf_Line_64 d_Line_gain_4 ?_
  refine lv_aload_n hx hb d_Line_gain_7 rfl (lv_at hl 0 rfl) ?_
  refine xg_Line E hC hR (show vl N 11 (4 * c + b) from (show 4 * c + b < 4 * N by omega)) 0 (by decide) zf_Line_9 rfl d_Line_gain_8 ?_
  refine wn_eq (y := nI c) (by rw [show (4 * c + b) / 4 = c by omega]) ?_
  refine lv_iconst (v := 4) hx hb d_Line_gain_11 (by decide) ?_
  refine lv_aload_n hx hb d_Line_gain_12 rfl (lv_at hl 0 rfl) ?_
  refine xg_Line E hC hR (show vl N 11 (4 * c + b) from (show 4 * c + b < 4 * N by omega)) 1 (by decide) zf_Line_15 rfl d_Line_gain_13 ?_
  refine wn_eq (y := nI b) (by rw [show (4 * c + b) % 4 = b by omega]) ?_
  refine xc_r (av := [.ref (ad 1 0), .ref (eA 0 1), .int (nI c), .int 4, .int (nI b)]) (xrunV (As := [.ref (eA 0 1), .int (nI c), .int 4, .int (nI b)]) (rest := []) E hA hC hR hS (c_Net_send l D dA eA ad A N g M as sp 1 c 4 b) (x_recv hC hR (s0 := 1) (i0 := 0) (show vl N 1 0 from rfl) rfl rfl) ck_Line_52 ⟨rfl, rfl⟩ ⟨Nat.le_of_ble_eq_true rfl, Nat.le_of_ble_eq_true rfl⟩ rfl (lv_sub hl [] rfl) rfl (Nat.le_of_ble_eq_true rfl) ⟨Nat.le_of_ble_eq_true rfl, Nat.le_of_ble_eq_true rfl⟩ d_Line_gain_16) hS (fun H locs q1 sp1 hR hS => ?_)
  refine W.widen (k := 1) (n := 8) (by decide) (by decide) ?_
  refine lv_pop hx hb d_Line_gain_19 rfl ?_
  refine lv_aload_n hx hb d_Line_gain_20 rfl (lv_at hl 0 rfl) ?_
  refine lv_iconst (v := 0) hx hb d_Line_gain_21 (by decide) ?_
  refine xp_Line_count E hC hR hS (show vl N 11 (4 * c + b) from (show 4 * c + b < 4 * N by omega)) zf_Line_67 d_Line_gain_22 (fun H locs hR hS => ?_)
  refine lv_aload_n hx hb d_Line_gain_25 rfl (lv_at hl 0 rfl) ?_
  refine lv_aload_n hx hb d_Line_gain_26 rfl (lv_at hl 0 rfl) ?_
  refine xg_Line E hC hR (show vl N 11 (4 * c + b) from (show 4 * c + b < 4 * N by omega)) 4 (by decide) zf_Line_32 rfl d_Line_gain_27 ?_
  refine wr_eq (y := ad 3 st) (congrArg (ad 3) (by rw [show (up2 (snd g) 10 (4 * c + b) 0) 8 (4 * c + b) = nI st from (by simp [up2, upd, snd, hst])]; exact nI_clamp (by omega))) ?_
  refine lv_aload_n hx hb d_Line_gain_30 rfl (lv_at hl 0 rfl) ?_
  refine xg_Line E hC hR (show vl N 11 (4 * c + b) from (show 4 * c + b < 4 * N by omega)) 3 (by decide) zf_Line_22 rfl d_Line_gain_31 ?_
  refine xg_Chart E hC hR 1 (by decide) zf_Line_70 rfl d_Line_gain_34 ?_
  refine lv_acmpR_ne (tgt := 50) hx hb d_Line_gain_37 (by decide) (fun h1 => ?_) (fun h1 => ?_)
  · replace h1 : ¬ st = 1 := fun e9 => h1 (by rw [e9])
    refine lv_aload_n hx hb d_Line_gain_50 rfl (lv_at hl 0 rfl) ?_
    refine xg_Line E hC hR (show vl N 11 (4 * c + b) from (show 4 * c + b < 4 * N by omega)) 3 (by decide) zf_Line_22 rfl d_Line_gain_51 ?_
    refine xg_Chart E hC hR 4 (by decide) zf_Line_76 rfl d_Line_gain_54 ?_
    refine xp_Line_mode E hC hR hS (show vl N 11 (4 * c + b) from (show 4 * c + b < 4 * N by omega)) (q := 4) (by omega) zf_Line_32 d_Line_gain_57 (fun H locs hR hS => ?_)
    have eG : up2 (up2 (snd g) 10 (4 * c + b) 0) 8 (4 * c + b) (nI 4) = up2 (up2 (snd g) 10 (4 * c + b) 0) 8 (4 * c + b) (if st = 1 then 6 else 4) := by rw [if_neg h1]; rfl
    rw [eG] at hR
    exact x_vret (nw := [q1]) E hR hS d_Line_gain_60
  · replace h1 : st = 1 := hR.md_inj (by omega) (by decide) h1
    refine lv_aload_n hx hb d_Line_gain_40 rfl (lv_at hl 0 rfl) ?_
    refine xg_Line E hC hR (show vl N 11 (4 * c + b) from (show 4 * c + b < 4 * N by omega)) 3 (by decide) zf_Line_22 rfl d_Line_gain_41 ?_
    refine xg_Chart E hC hR 6 (by decide) zf_Line_73 rfl d_Line_gain_44 ?_
    refine lv_goto (tgt := 57) hx hb d_Line_gain_47 (by decide) ?_
    refine xp_Line_mode E hC hR hS (show vl N 11 (4 * c + b) from (show 4 * c + b < 4 * N by omega)) (q := 6) (by omega) zf_Line_32 d_Line_gain_57 (fun H locs hR hS => ?_)
    have eG : up2 (up2 (snd g) 10 (4 * c + b) 0) 8 (4 * c + b) (nI 6) = up2 (up2 (snd g) 10 (4 * c + b) 0) 8 (4 * c + b) (if st = 1 then 6 else 4) := by rw [if_pos h1]; rfl
    rw [eG] at hR
    exact x_vret (nw := [q1]) E hR hS d_Line_gain_60
set_option maxHeartbeats 4000000 in
set_option maxRecDepth 100000 in
theorem c_Line_leave (l : Launch) (D : va_G) (dA : Nat → ClassId) (eA ad : Nat → Nat → Nat) (A : Nat → Prop) (N : Nat) (g : PS) (M : List Msg) (as sp : List Nat) (c b : Nat) (hc : c < N) (hN4 : N ≤ 4) (hb4 : b < 4) (st : Nat) (hst11 : st < 11) (hst : g 8 (4 * c + b) = nI st) : Met l y_Line_leave (k_Line_leave :: wz) (rml 4 1 8) (va_Pc [.ref (ad 11 (4 * c + b))] (PX D dA eA ad A N g M as sp)) (XQv D dA eA ad A N (up2 (snd g) 8 (4 * c + b) (if st = 1 then 9 else 8)) (M ++ [(if st = 1 then 2 else 3, c, 4, b, if st = 1 then 0 else g 9 (4 * c + b), 0, 0)]) as) 1 8 A := by
  refine x_entry (by decide) (Nat.le_of_ble_eq_true rfl) ?_
  intro p e s m below meth c0 E hA hC hR ls hl
  have hx := E.1
  have hb := E.2.1
  have hS : va_S A s.heap s.heap [] := va_S.rf
  replace hl : lv_has ls 1 [(0, .ref (ad 11 (4 * c + b)))] := hl
  refine lv_aload_n hx hb d_Line_leave_0 rfl (lv_at hl 0 rfl) ?_
  refine xg_Line E hC hR (show vl N 11 (4 * c + b) from (show 4 * c + b < 4 * N by omega)) 4 (by decide) zf_Line_32 rfl d_Line_leave_1 ?_
  refine wr_eq (y := ad 3 st) (congrArg (ad 3) (by rw [show g 8 (4 * c + b) = nI st from hst]; exact nI_clamp (by omega))) ?_
  refine lv_aload_n hx hb d_Line_leave_4 rfl (lv_at hl 0 rfl) ?_
  refine xg_Line E hC hR (show vl N 11 (4 * c + b) from (show 4 * c + b < 4 * N by omega)) 3 (by decide) zf_Line_22 rfl d_Line_leave_5 ?_
  refine xg_Chart E hC hR 1 (by decide) zf_Line_70 rfl d_Line_leave_8 ?_
  refine lv_acmpR_ne (tgt := 48) hx hb d_Line_leave_11 (by decide) (fun h1 => ?_) (fun h1 => ?_)
  · replace h1 : ¬ st = 1 := fun e9 => h1 (by rw [e9])
    refine lv_aload_n hx hb d_Line_leave_48 rfl (lv_at hl 0 rfl) ?_
    refine xg_Line E hC hR (show vl N 11 (4 * c + b) from (show 4 * c + b < 4 * N by omega)) 2 (by decide) zf_Line_18 rfl d_Line_leave_49 ?_
    refine x_gets (eA := eA) hC.2.1 E hS 3 (by decide) zf_Line_85 d_Line_leave_52 ?_
    refine lv_aload_n hx hb d_Line_leave_55 rfl (lv_at hl 0 rfl) ?_
    refine xg_Line E hC hR (show vl N 11 (4 * c + b) from (show 4 * c + b < 4 * N by omega)) 0 (by decide) zf_Line_9 rfl d_Line_leave_56 ?_
    refine wn_eq (y := nI c) (by rw [show (4 * c + b) / 4 = c by omega]) ?_
    refine lv_iconst (v := 4) hx hb d_Line_leave_59 (by decide) ?_
    refine lv_aload_n hx hb d_Line_leave_60 rfl (lv_at hl 0 rfl) ?_
    refine xg_Line E hC hR (show vl N 11 (4 * c + b) from (show 4 * c + b < 4 * N by omega)) 1 (by decide) zf_Line_15 rfl d_Line_leave_61 ?_
    refine wn_eq (y := nI b) (by rw [show (4 * c + b) % 4 = b by omega]) ?_
    refine lv_aload_n hx hb d_Line_leave_64 rfl (lv_at hl 0 rfl) ?_
    refine xg_Line E hC hR (show vl N 11 (4 * c + b) from (show 4 * c + b < 4 * N by omega)) 5 (by decide) zf_Line_88 rfl d_Line_leave_65 ?_
    refine xc_v (av := [.ref (ad 1 0), .ref (eA 0 3), .int (nI c), .int 4, .int (nI b), .int (g 9 (4 * c + b))]) (xrunV (As := [.ref (eA 0 3), .int (nI c), .int 4, .int (nI b), .int (g 9 (4 * c + b))]) (rest := []) E hA hC hR hS (c_Net_sendWord l D dA eA ad A N g M as sp 3 c 4 b (g 9 (4 * c + b))) (x_recv hC hR (s0 := 1) (i0 := 0) (show vl N 1 0 from rfl) rfl rfl) ck_Line_91 ⟨rfl, rfl⟩ ⟨Nat.le_of_ble_eq_true rfl, Nat.le_of_ble_eq_true rfl⟩ rfl (lv_sub hl [] rfl) rfl (Nat.le_of_ble_eq_true rfl) ⟨Nat.le_of_ble_eq_true rfl, Nat.le_of_ble_eq_true rfl⟩ d_Line_leave_68) hS (fun H locs nw1 sp1 hR hS => ?_)
    refine W.widen (k := 1) (n := 8) (by decide) (by decide) ?_
    refine lv_aload_n hx hb d_Line_leave_71 rfl (lv_at hl 0 rfl) ?_
    refine lv_aload_n hx hb d_Line_leave_72 rfl (lv_at hl 0 rfl) ?_
    refine xg_Line E hC hR (show vl N 11 (4 * c + b) from (show 4 * c + b < 4 * N by omega)) 3 (by decide) zf_Line_22 rfl d_Line_leave_73 ?_
    refine xg_Chart E hC hR 8 (by decide) zf_Line_95 rfl d_Line_leave_76 ?_
    refine xp_Line_mode E hC hR hS (show vl N 11 (4 * c + b) from (show 4 * c + b < 4 * N by omega)) (q := 8) (by omega) zf_Line_32 d_Line_leave_79 (fun H locs hR hS => ?_)
    rw [if_neg h1, if_neg h1, if_neg h1]
    exact x_vret (nw := nw1) E hR hS d_Line_leave_82
  · replace h1 : st = 1 := hR.md_inj (by omega) (by decide) h1
    refine lv_aload_n hx hb d_Line_leave_14 rfl (lv_at hl 0 rfl) ?_
    refine xg_Line E hC hR (show vl N 11 (4 * c + b) from (show 4 * c + b < 4 * N by omega)) 2 (by decide) zf_Line_18 rfl d_Line_leave_15 ?_
    refine x_gets (eA := eA) hC.2.1 E hS 2 (by decide) zf_Line_79 d_Line_leave_18 ?_
    refine lv_aload_n hx hb d_Line_leave_21 rfl (lv_at hl 0 rfl) ?_
    refine xg_Line E hC hR (show vl N 11 (4 * c + b) from (show 4 * c + b < 4 * N by omega)) 0 (by decide) zf_Line_9 rfl d_Line_leave_22 ?_
    refine wn_eq (y := nI c) (by rw [show (4 * c + b) / 4 = c by omega]) ?_
    refine lv_iconst (v := 4) hx hb d_Line_leave_25 (by decide) ?_
    refine lv_aload_n hx hb d_Line_leave_26 rfl (lv_at hl 0 rfl) ?_
    refine xg_Line E hC hR (show vl N 11 (4 * c + b) from (show 4 * c + b < 4 * N by omega)) 1 (by decide) zf_Line_15 rfl d_Line_leave_27 ?_
    refine wn_eq (y := nI b) (by rw [show (4 * c + b) % 4 = b by omega]) ?_
    refine xc_r (av := [.ref (ad 1 0), .ref (eA 0 2), .int (nI c), .int 4, .int (nI b)]) (xrunV (As := [.ref (eA 0 2), .int (nI c), .int 4, .int (nI b)]) (rest := []) E hA hC hR hS (c_Net_send l D dA eA ad A N g M as sp 2 c 4 b) (x_recv hC hR (s0 := 1) (i0 := 0) (show vl N 1 0 from rfl) rfl rfl) ck_Line_52 ⟨rfl, rfl⟩ ⟨Nat.le_of_ble_eq_true rfl, Nat.le_of_ble_eq_true rfl⟩ rfl (lv_sub hl [] rfl) rfl (Nat.le_of_ble_eq_true rfl) ⟨Nat.le_of_ble_eq_true rfl, Nat.le_of_ble_eq_true rfl⟩ d_Line_leave_30) hS (fun H locs q1 sp1 hR hS => ?_)
    refine W.widen (k := 1) (n := 8) (by decide) (by decide) ?_
    refine lv_pop hx hb d_Line_leave_33 rfl ?_
    refine lv_aload_n hx hb d_Line_leave_34 rfl (lv_at hl 0 rfl) ?_
    refine lv_aload_n hx hb d_Line_leave_35 rfl (lv_at hl 0 rfl) ?_
    refine xg_Line E hC hR (show vl N 11 (4 * c + b) from (show 4 * c + b < 4 * N by omega)) 3 (by decide) zf_Line_22 rfl d_Line_leave_36 ?_
    refine xg_Chart E hC hR 9 (by decide) zf_Line_82 rfl d_Line_leave_39 ?_
    refine xp_Line_mode E hC hR hS (show vl N 11 (4 * c + b) from (show 4 * c + b < 4 * N by omega)) (q := 9) (by omega) zf_Line_32 d_Line_leave_42 (fun H locs hR hS => ?_)
    refine lv_goto (tgt := 82) hx hb d_Line_leave_45 (by decide) ?_
    rw [if_pos h1, if_pos h1, if_pos h1]
    exact x_vret (nw := [q1]) E hR hS d_Line_leave_82
set_option maxHeartbeats 4000000 in
set_option maxRecDepth 100000 in
theorem c_Emp_take (l : Launch) (D : va_G) (dA : Nat → ClassId) (eA ad : Nat → Nat → Nat) (A : Nat → Prop) (N : Nat) (g : PS) (M : List Msg) (as sp : List Nat) (c b : Nat) (hc : c < N) (hN4 : N ≤ 4) (hb4 : b < 4) (st kd j q fr : Nat) (v : Int32) (nb aq : Nat) (hst : g 8 (4 * c + b) = nI st) (hq : as[j]? = some q) (hz : M[j]? = some (kd, fr, c, b, v, nb, aq)) (ha : kd = 4 ∨ kd = 5 ∨ kd = 6 → ∃ a, a < 4 ∧ aq = a + 1) (hnb : st = 3 → kd = 8 → nb = 0) (hok : (st, kd) ∈ okE) : Met l y_Emp_take (k_Emp_take :: wz) (rml 4 2 16) (va_Pc [.ref (ad 3 st), .ref (ad 11 (4 * c + b)), .ref q] (PX D dA eA ad A N g M as sp)) (XQi D dA eA ad A N (if s_stalls g (kd, fr, c, b, v, nb, aq) = 0 then 1 else 0) (if s_stalls g (kd, fr, c, b, v, nb, aq) = 0 then s_tkG g kd c b v nb else g) (if s_stalls g (kd, fr, c, b, v, nb, aq) = 0 then M ++ s_acQ g kd c b aq else M) as) 2 16 A := by
  refine x_entry (by decide) (Nat.le_of_ble_eq_true rfl) ?_
  intro p e s m below meth c0 E hA hC hR ls hl
  have hx := E.1
  have hb := E.2.1
  have hS : va_S A s.heap s.heap [] := va_S.rf
  replace hl : lv_has ls 3 [(0, .ref (ad 3 st)), (1, .ref (ad 11 (4 * c + b))), (2, .ref q)] := hl
  have hc4 : ¬ c = 4 := by omega
  simp only [okE, List.mem_cons, Prod.mk.injEq, List.not_mem_nil, or_false] at hok
  rcases hok with ⟨rfl, rfl⟩
  have hs9 : s_stalls g (7, fr, c, b, v, nb, aq) = 0 := by simp [s_stalls, hc4]
  rw [hs9]
  have hg8 : g 8 (4 * c + b) = 10 := hst
  refine lv_aload_n hx hb d_Emp_take_0 rfl (lv_at hl 2 rfl) ?_
  refine xg_Msg E hC hR hq hz 0 (by decide) zf_Emp_7 rfl d_Emp_take_1 ?_
  refine x_gets (eA := eA) hC.2.1 E hS 7 (by decide) zf_Emp_13 d_Emp_take_4 ?_
  refine lv_acmpR_ne (tgt := 14) hx hb d_Emp_take_7 (by decide) (fun h1 => absurd (rfl) h1) (fun h1 => ?_)
  refine lv_aload_n hx hb d_Emp_take_10 rfl (lv_at hl 1 rfl) ?_
  refine xc_v (av := [.ref (ad 11 (4 * c + b))]) (xrunV (As := []) (rest := []) E hA hC hR hS (c_Line_release l D dA eA ad A N g M as sp c b hc hN4 hb4) (x_recv hC hR (s0 := 11) (i0 := 4 * c + b) (show vl N 11 (4 * c + b) from (show 4 * c + b < 4 * N by omega)) rfl rfl) ck_Emp_18 ⟨rfl, rfl⟩ ⟨Nat.le_of_ble_eq_true rfl, Nat.le_of_ble_eq_true rfl⟩ rfl (lv_sub hl [] rfl) rfl (Nat.le_of_ble_eq_true rfl) ⟨Nat.le_of_ble_eq_true rfl, Nat.le_of_ble_eq_true rfl⟩ d_Emp_take_11) hS (fun H locs nw1 sp1 hR hS => ?_)
  refine lv_iconst (v := 1) hx hb d_Emp_take_14 (by decide) ?_
  refine W.widen (k := 2) (n := 16) (by decide) (by decide) ?_
  rw [if_pos rfl, if_pos rfl, if_pos rfl]
  have eM : M = M ++ s_acQ g 7 c b aq := by simp [s_acQ]
  have eG : up2 g 8 (4 * c + b) (nI 0) = s_tkG g 7 c b v nb := by rw [s_tkG, if_pos rfl]; rfl
  rw [eG, eM] at hR
  exact x_iret (nw := nw1) E hR hS rfl rfl d_Emp_take_15
set_option maxHeartbeats 4000000 in
set_option maxRecDepth 100000 in
theorem c_Sha_take (l : Launch) (D : va_G) (dA : Nat → ClassId) (eA ad : Nat → Nat → Nat) (A : Nat → Prop) (N : Nat) (g : PS) (M : List Msg) (as sp : List Nat) (c b : Nat) (hc : c < N) (hN4 : N ≤ 4) (hb4 : b < 4) (st kd j q fr : Nat) (v : Int32) (nb aq : Nat) (hst : g 8 (4 * c + b) = nI st) (hq : as[j]? = some q) (hz : M[j]? = some (kd, fr, c, b, v, nb, aq)) (ha : kd = 4 ∨ kd = 5 ∨ kd = 6 → ∃ a, a < 4 ∧ aq = a + 1) (hnb : st = 3 → kd = 8 → nb = 0) (hok : (st, kd) ∈ okS) : Met l y_Sha_take (k_Sha_take :: wz) (rml 4 2 16) (va_Pc [.ref (ad 3 st), .ref (ad 11 (4 * c + b)), .ref q] (PX D dA eA ad A N g M as sp)) (XQi D dA eA ad A N (if s_stalls g (kd, fr, c, b, v, nb, aq) = 0 then 1 else 0) (if s_stalls g (kd, fr, c, b, v, nb, aq) = 0 then s_tkG g kd c b v nb else g) (if s_stalls g (kd, fr, c, b, v, nb, aq) = 0 then M ++ s_acQ g kd c b aq else M) as) 2 16 A := by
  refine x_entry (by decide) (Nat.le_of_ble_eq_true rfl) ?_
  intro p e s m below meth c0 E hA hC hR ls hl
  have hx := E.1
  have hb := E.2.1
  have hS : va_S A s.heap s.heap [] := va_S.rf
  replace hl : lv_has ls 3 [(0, .ref (ad 3 st)), (1, .ref (ad 11 (4 * c + b))), (2, .ref q)] := hl
  have hc4 : ¬ c = 4 := by omega
  simp only [okS, List.mem_cons, Prod.mk.injEq, List.not_mem_nil, or_false] at hok
  rcases hok with ⟨rfl, rfl⟩ | ⟨rfl, rfl⟩ | ⟨rfl, rfl⟩
  · obtain ⟨a, ha4, rfl⟩ := ha (by decide)
    have hs9 : s_stalls g (6, fr, c, b, v, nb, a + 1) = 0 := by
      simp only [s_stalls]
      rw [hst, if_neg hc4]
      decide
    rw [hs9]
    have hg8 : g 8 (4 * c + b) = 1 := hst
    refine lv_aload_n hx hb d_Sha_take_0 rfl (lv_at hl 2 rfl) ?_
    refine xg_Msg E hC hR hq hz 0 (by decide) zf_Sha_7 rfl d_Sha_take_1 ?_
    refine x_gets (eA := eA) hC.2.1 E hS 7 (by decide) zf_Sha_13 d_Sha_take_4 ?_
    refine lv_acmpR_ne (tgt := 17) hx hb d_Sha_take_7 (by decide) (fun h1 => ?_) (fun h1 => absurd h1 (fun e9 => absurd (hC.2.1.2 6 7 (by decide) (by decide) e9) (by decide)))
    refine lv_aload_n hx hb d_Sha_take_17 rfl (lv_at hl 2 rfl) ?_
    refine xg_Msg E hC hR hq hz 0 (by decide) zf_Sha_7 rfl d_Sha_take_18 ?_
    refine x_gets (eA := eA) hC.2.1 E hS 6 (by decide) zf_Sha_24 d_Sha_take_21 ?_
    refine lv_acmpR_ne (tgt := 64) hx hb d_Sha_take_24 (by decide) (fun h2 => absurd (rfl) h2) (fun h2 => ?_)
    refine lv_aload_n hx hb d_Sha_take_27 rfl (lv_at hl 1 rfl) ?_
    refine lv_aload_n hx hb d_Sha_take_28 rfl (lv_at hl 2 rfl) ?_
    refine xc_v (av := [.ref (ad 11 (4 * c + b)), .ref q]) (xrunV (As := [.ref q]) (rest := []) E hA hC hR hS (c_Line_answer l D dA eA ad A N g M as sp c b hc hN4 hb4 j q 6 fr c b v nb a hq hz) (x_recv hC hR (s0 := 11) (i0 := 4 * c + b) (show vl N 11 (4 * c + b) from (show 4 * c + b < 4 * N by omega)) rfl rfl) ck_Sha_27 ⟨rfl, rfl⟩ ⟨Nat.le_of_ble_eq_true rfl, Nat.le_of_ble_eq_true rfl⟩ rfl (lv_sub hl [] rfl) rfl (Nat.le_of_ble_eq_true rfl) ⟨Nat.le_of_ble_eq_true rfl, Nat.le_of_ble_eq_true rfl⟩ d_Sha_take_29) hS (fun H locs nw1 sp1 hR hS => ?_)
    refine W.widen (k := 1) (n := 8) (by decide) (by decide) ?_
    refine lv_aload_n hx hb d_Sha_take_32 rfl (lv_at hl 1 rfl) ?_
    refine lv_aload_n hx hb d_Sha_take_33 rfl (lv_at hl 0 rfl) ?_
    refine lv_aload_n hx hb d_Sha_take_34 rfl (lv_at hl 1 rfl) ?_
    refine xg_Line E hC hR (show vl N 11 (4 * c + b) from (show 4 * c + b < 4 * N by omega)) 3 (by decide) zf_Sha_31 rfl d_Sha_take_35 ?_
    refine xg_Chart E hC hR 1 (by decide) zf_Sha_35 rfl d_Sha_take_38 ?_
    refine lv_acmpR_ne (tgt := 54) hx hb d_Sha_take_41 (by decide) (fun h3 => absurd (rfl) h3) (fun h3 => ?_)
    refine lv_aload_n hx hb d_Sha_take_44 rfl (lv_at hl 1 rfl) ?_
    refine xg_Line E hC hR (show vl N 11 (4 * c + b) from (show 4 * c + b < 4 * N by omega)) 3 (by decide) zf_Sha_31 rfl d_Sha_take_45 ?_
    refine xg_Chart E hC hR 0 (by decide) zf_Sha_41 rfl d_Sha_take_48 ?_
    refine lv_goto (tgt := 61) hx hb d_Sha_take_51 (by decide) ?_
    refine xp_Line_mode E hC hR hS (show vl N 11 (4 * c + b) from (show 4 * c + b < 4 * N by omega)) (q := 0) (by omega) zf_Sha_47 d_Sha_take_61 (fun H locs hR hS => ?_)
    refine lv_iconst (v := 1) hx hb d_Sha_take_64 (by decide) ?_
    refine W.widen (k := 2) (n := 16) (by decide) (by decide) ?_
    rw [if_pos rfl, if_pos rfl, if_pos rfl]
    have eM : M ++ [(9, c, a, b, 0, 0, 0)] = M ++ s_acQ g 6 c b (a + 1) := by simp [s_acQ]
    have eG : up2 (snd g) 8 (4 * c + b) (nI 0) = s_tkG g 6 c b v nb := by simp [s_tkG, s_acG, hg8, nl_0, nl_1, nl_2, nl_3, nl_4, nl_5, nl_6, nl_7, nl_8, nl_9, nl_10]
    rw [eG, eM] at hR
    exact x_iret (nw := nw1) E hR hS rfl rfl d_Sha_take_65
  · obtain ⟨a, ha4, rfl⟩ := ha (by decide)
    have hs9 : s_stalls g (6, fr, c, b, v, nb, a + 1) = 0 := by
      simp only [s_stalls]
      rw [hst, if_neg hc4]
      decide
    rw [hs9]
    have hg8 : g 8 (4 * c + b) = 9 := hst
    refine lv_aload_n hx hb d_Sha_take_0 rfl (lv_at hl 2 rfl) ?_
    refine xg_Msg E hC hR hq hz 0 (by decide) zf_Sha_7 rfl d_Sha_take_1 ?_
    refine x_gets (eA := eA) hC.2.1 E hS 7 (by decide) zf_Sha_13 d_Sha_take_4 ?_
    refine lv_acmpR_ne (tgt := 17) hx hb d_Sha_take_7 (by decide) (fun h4 => ?_) (fun h4 => absurd h4 (fun e9 => absurd (hC.2.1.2 6 7 (by decide) (by decide) e9) (by decide)))
    refine lv_aload_n hx hb d_Sha_take_17 rfl (lv_at hl 2 rfl) ?_
    refine xg_Msg E hC hR hq hz 0 (by decide) zf_Sha_7 rfl d_Sha_take_18 ?_
    refine x_gets (eA := eA) hC.2.1 E hS 6 (by decide) zf_Sha_24 d_Sha_take_21 ?_
    refine lv_acmpR_ne (tgt := 64) hx hb d_Sha_take_24 (by decide) (fun h5 => absurd (rfl) h5) (fun h5 => ?_)
    refine lv_aload_n hx hb d_Sha_take_27 rfl (lv_at hl 1 rfl) ?_
    refine lv_aload_n hx hb d_Sha_take_28 rfl (lv_at hl 2 rfl) ?_
    refine xc_v (av := [.ref (ad 11 (4 * c + b)), .ref q]) (xrunV (As := [.ref q]) (rest := []) E hA hC hR hS (c_Line_answer l D dA eA ad A N g M as sp c b hc hN4 hb4 j q 6 fr c b v nb a hq hz) (x_recv hC hR (s0 := 11) (i0 := 4 * c + b) (show vl N 11 (4 * c + b) from (show 4 * c + b < 4 * N by omega)) rfl rfl) ck_Sha_27 ⟨rfl, rfl⟩ ⟨Nat.le_of_ble_eq_true rfl, Nat.le_of_ble_eq_true rfl⟩ rfl (lv_sub hl [] rfl) rfl (Nat.le_of_ble_eq_true rfl) ⟨Nat.le_of_ble_eq_true rfl, Nat.le_of_ble_eq_true rfl⟩ d_Sha_take_29) hS (fun H locs nw1 sp1 hR hS => ?_)
    refine W.widen (k := 1) (n := 8) (by decide) (by decide) ?_
    refine lv_aload_n hx hb d_Sha_take_32 rfl (lv_at hl 1 rfl) ?_
    refine lv_aload_n hx hb d_Sha_take_33 rfl (lv_at hl 0 rfl) ?_
    refine lv_aload_n hx hb d_Sha_take_34 rfl (lv_at hl 1 rfl) ?_
    refine xg_Line E hC hR (show vl N 11 (4 * c + b) from (show 4 * c + b < 4 * N by omega)) 3 (by decide) zf_Sha_31 rfl d_Sha_take_35 ?_
    refine xg_Chart E hC hR 1 (by decide) zf_Sha_35 rfl d_Sha_take_38 ?_
    refine lv_acmpR_ne (tgt := 54) hx hb d_Sha_take_41 (by decide) (fun h6 => ?_) (fun h6 => absurd h6 (fun e9 => absurd (hR.md_inj (by decide) (by decide) e9) (by decide)))
    refine lv_aload_n hx hb d_Sha_take_54 rfl (lv_at hl 1 rfl) ?_
    refine xg_Line E hC hR (show vl N 11 (4 * c + b) from (show 4 * c + b < 4 * N by omega)) 3 (by decide) zf_Sha_31 rfl d_Sha_take_55 ?_
    refine xg_Chart E hC hR 10 (by decide) zf_Sha_44 rfl d_Sha_take_58 ?_
    refine xp_Line_mode E hC hR hS (show vl N 11 (4 * c + b) from (show 4 * c + b < 4 * N by omega)) (q := 10) (by omega) zf_Sha_47 d_Sha_take_61 (fun H locs hR hS => ?_)
    refine lv_iconst (v := 1) hx hb d_Sha_take_64 (by decide) ?_
    refine W.widen (k := 2) (n := 16) (by decide) (by decide) ?_
    rw [if_pos rfl, if_pos rfl, if_pos rfl]
    have eM : M ++ [(9, c, a, b, 0, 0, 0)] = M ++ s_acQ g 6 c b (a + 1) := by simp [s_acQ]
    have eG : up2 (snd g) 8 (4 * c + b) (nI 10) = s_tkG g 6 c b v nb := by simp [s_tkG, s_acG, hg8, nl_0, nl_1, nl_2, nl_3, nl_4, nl_5, nl_6, nl_7, nl_8, nl_9, nl_10]
    rw [eG, eM] at hR
    exact x_iret (nw := nw1) E hR hS rfl rfl d_Sha_take_65
  · have hs9 : s_stalls g (7, fr, c, b, v, nb, aq) = 0 := by simp [s_stalls, hc4]
    rw [hs9]
    have hg8 : g 8 (4 * c + b) = 9 := hst
    refine lv_aload_n hx hb d_Sha_take_0 rfl (lv_at hl 2 rfl) ?_
    refine xg_Msg E hC hR hq hz 0 (by decide) zf_Sha_7 rfl d_Sha_take_1 ?_
    refine x_gets (eA := eA) hC.2.1 E hS 7 (by decide) zf_Sha_13 d_Sha_take_4 ?_
    refine lv_acmpR_ne (tgt := 17) hx hb d_Sha_take_7 (by decide) (fun h7 => absurd (rfl) h7) (fun h7 => ?_)
    refine lv_aload_n hx hb d_Sha_take_10 rfl (lv_at hl 1 rfl) ?_
    refine xc_v (av := [.ref (ad 11 (4 * c + b))]) (xrunV (As := []) (rest := []) E hA hC hR hS (c_Line_release l D dA eA ad A N g M as sp c b hc hN4 hb4) (x_recv hC hR (s0 := 11) (i0 := 4 * c + b) (show vl N 11 (4 * c + b) from (show 4 * c + b < 4 * N by omega)) rfl rfl) ck_Sha_18 ⟨rfl, rfl⟩ ⟨Nat.le_of_ble_eq_true rfl, Nat.le_of_ble_eq_true rfl⟩ rfl (lv_sub hl [] rfl) rfl (Nat.le_of_ble_eq_true rfl) ⟨Nat.le_of_ble_eq_true rfl, Nat.le_of_ble_eq_true rfl⟩ d_Sha_take_11) hS (fun H locs nw1 sp1 hR hS => ?_)
    refine lv_goto (tgt := 64) hx hb d_Sha_take_14 (by decide) ?_
    refine lv_iconst (v := 1) hx hb d_Sha_take_64 (by decide) ?_
    refine W.widen (k := 2) (n := 16) (by decide) (by decide) ?_
    rw [if_pos rfl, if_pos rfl, if_pos rfl]
    have eM : M = M ++ s_acQ g 7 c b aq := by simp [s_acQ]
    have eG : up2 g 8 (4 * c + b) (nI 0) = s_tkG g 7 c b v nb := by rw [s_tkG, if_pos rfl]; rfl
    rw [eG, eM] at hR
    exact x_iret (nw := nw1) E hR hS rfl rfl d_Sha_take_65
set_option maxHeartbeats 4000000 in
set_option maxRecDepth 100000 in
theorem c_Own_take (l : Launch) (D : va_G) (dA : Nat → ClassId) (eA ad : Nat → Nat → Nat) (A : Nat → Prop) (N : Nat) (g : PS) (M : List Msg) (as sp : List Nat) (c b : Nat) (hc : c < N) (hN4 : N ≤ 4) (hb4 : b < 4) (st kd j q fr : Nat) (v : Int32) (nb aq : Nat) (hst : g 8 (4 * c + b) = nI st) (hq : as[j]? = some q) (hz : M[j]? = some (kd, fr, c, b, v, nb, aq)) (ha : kd = 4 ∨ kd = 5 ∨ kd = 6 → ∃ a, a < 4 ∧ aq = a + 1) (hnb : st = 3 → kd = 8 → nb = 0) (hok : (st, kd) ∈ okO) : Met l y_Own_take (k_Own_take :: wz) (rml 4 2 16) (va_Pc [.ref (ad 3 st), .ref (ad 11 (4 * c + b)), .ref q] (PX D dA eA ad A N g M as sp)) (XQi D dA eA ad A N (if s_stalls g (kd, fr, c, b, v, nb, aq) = 0 then 1 else 0) (if s_stalls g (kd, fr, c, b, v, nb, aq) = 0 then s_tkG g kd c b v nb else g) (if s_stalls g (kd, fr, c, b, v, nb, aq) = 0 then M ++ s_acQ g kd c b aq else M) as) 2 16 A := by
  refine x_entry (by decide) (Nat.le_of_ble_eq_true rfl) ?_
  intro p e s m below meth c0 E hA hC hR ls hl
  have hx := E.1
  have hb := E.2.1
  have hS : va_S A s.heap s.heap [] := va_S.rf
  replace hl : lv_has ls 4 [(0, .ref (ad 3 st)), (1, .ref (ad 11 (4 * c + b))), (2, .ref q)] := hl
  have hc4 : ¬ c = 4 := by omega
  simp only [okO, List.mem_cons, Prod.mk.injEq, List.not_mem_nil, or_false] at hok
  rcases hok with ⟨rfl, rfl⟩ | ⟨rfl, rfl⟩ | ⟨rfl, rfl⟩ | ⟨rfl, rfl⟩ | ⟨rfl, rfl⟩
  · obtain ⟨a, ha4, rfl⟩ := ha (by decide)
    have hs9 : s_stalls g (4, fr, c, b, v, nb, a + 1) = 0 := by
      simp only [s_stalls]
      rw [hst, if_neg hc4]
      decide
    rw [hs9]
    have hg8 : g 8 (4 * c + b) = 2 := hst
    refine lv_aload_n hx hb d_Own_take_0 rfl (lv_at hl 0 rfl) ?_
    refine lv_aload_n hx hb d_Own_take_1 rfl (lv_at hl 1 rfl) ?_
    refine xg_Line E hC hR (show vl N 11 (4 * c + b) from (show 4 * c + b < 4 * N by omega)) 3 (by decide) zf_Own_9 rfl d_Own_take_2 ?_
    refine xg_Chart E hC hR 2 (by decide) zf_Own_15 rfl d_Own_take_5 ?_
    refine lv_acmpR_ne (tgt := 15) hx hb d_Own_take_8 (by decide) (fun h1 => absurd (rfl) h1) (fun h1 => ?_)
    refine lv_iconst (v := 1) hx hb d_Own_take_11 (by decide) ?_
    refine lv_goto (tgt := 16) hx hb d_Own_take_12 (by decide) ?_
    refine lv_istore_n (lv' := [(3, .int 1), (0, .ref (ad 3 2)), (1, .ref (ad 11 (4 * c + b))), (2, .ref q)]) hx hb d_Own_take_16 rfl hl (by decide) rfl (fun ls hl => ?_)
    refine lv_aload_n hx hb d_Own_take_17 rfl (lv_at hl 3 rfl) ?_
    refine xg_Msg E hC hR hq hz 0 (by decide) zf_Own_21 rfl d_Own_take_18 ?_
    refine xc_R (av := [.ref (eA 0 4)]) (xrunU (As := []) (rest := []) E hA hC hR hS (c_ord_Kind l D dA eA ad A N g M as sp (by decide)) (va_recvE hC.2.1 (by decide) hS) gu_Own_27 hC.2.2.2.2.2.2.2.1.2 (by decide +kernel) ⟨rfl, rfl⟩ ⟨Nat.le_of_ble_eq_true rfl, Nat.le_of_ble_eq_true rfl⟩ rfl (lv_sub hl [] rfl) rfl (Nat.le_of_ble_eq_true rfl) ⟨Nat.le_of_ble_eq_true rfl, Nat.le_of_ble_eq_true rfl⟩ d_Own_take_21) ?_
    refine lv_lookup (off := 28) (tgt := 52) hx hb d_Own_take_24 (by decide) (by decide) (by decide) ?_
    refine lv_aload_n hx hb d_Own_take_52 rfl (lv_at hl 2 rfl) ?_
    refine xg_Line E hC hR (show vl N 11 (4 * c + b) from (show 4 * c + b < 4 * N by omega)) 2 (by decide) zf_Own_33 rfl d_Own_take_53 ?_
    refine x_gets (eA := eA) hC.2.1 E hS 8 (by decide) zf_Own_37 d_Own_take_56 ?_
    refine lv_aload_n hx hb d_Own_take_59 rfl (lv_at hl 2 rfl) ?_
    refine xg_Line E hC hR (show vl N 11 (4 * c + b) from (show 4 * c + b < 4 * N by omega)) 0 (by decide) zf_Own_40 rfl d_Own_take_60 ?_
    refine wn_eq (y := nI c) (by rw [show (4 * c + b) / 4 = c by omega]) ?_
    refine lv_aload_n hx hb d_Own_take_63 rfl (lv_at hl 3 rfl) ?_
    refine xg_Msg E hC hR hq hz 6 (by decide) zf_Own_44 rfl d_Own_take_64 ?_
    refine wn_eq (y := nI a) (rq_s a) ?_
    refine lv_aload_n hx hb d_Own_take_67 rfl (lv_at hl 2 rfl) ?_
    refine xg_Line E hC hR (show vl N 11 (4 * c + b) from (show 4 * c + b < 4 * N by omega)) 1 (by decide) zf_Own_47 rfl d_Own_take_68 ?_
    refine wn_eq (y := nI b) (by rw [show (4 * c + b) % 4 = b by omega]) ?_
    refine lv_aload_n hx hb d_Own_take_71 rfl (lv_at hl 2 rfl) ?_
    refine xg_Line E hC hR (show vl N 11 (4 * c + b) from (show 4 * c + b < 4 * N by omega)) 5 (by decide) zf_Own_50 rfl d_Own_take_72 ?_
    refine xc_v (av := [.ref (ad 1 0), .ref (eA 0 8), .int (nI c), .int (nI a), .int (nI b), .int (g 9 (4 * c + b))]) (xrunV (As := [.ref (eA 0 8), .int (nI c), .int (nI a), .int (nI b), .int (g 9 (4 * c + b))]) (rest := []) E hA hC hR hS (c_Net_sendWord l D dA eA ad A N g M as sp 8 c a b (g 9 (4 * c + b))) (x_recv hC hR (s0 := 1) (i0 := 0) (show vl N 1 0 from rfl) rfl rfl) ck_Own_53 ⟨rfl, rfl⟩ ⟨Nat.le_of_ble_eq_true rfl, Nat.le_of_ble_eq_true rfl⟩ rfl (lv_sub hl [] rfl) rfl (Nat.le_of_ble_eq_true rfl) ⟨Nat.le_of_ble_eq_true rfl, Nat.le_of_ble_eq_true rfl⟩ d_Own_take_75) hS (fun H locs nw1 sp1 hR hS => ?_)
    refine W.widen (k := 1) (n := 8) (by decide) (by decide) ?_
    refine lv_aload_n hx hb d_Own_take_78 rfl (lv_at hl 2 rfl) ?_
    refine xg_Line E hC hR (show vl N 11 (4 * c + b) from (show 4 * c + b < 4 * N by omega)) 2 (by decide) zf_Own_33 rfl d_Own_take_79 ?_
    refine x_gets (eA := eA) hC.2.1 E hS 8 (by decide) zf_Own_37 d_Own_take_82 ?_
    refine lv_aload_n hx hb d_Own_take_85 rfl (lv_at hl 2 rfl) ?_
    refine xg_Line E hC hR (show vl N 11 (4 * c + b) from (show 4 * c + b < 4 * N by omega)) 0 (by decide) zf_Own_40 rfl d_Own_take_86 ?_
    refine wn_eq (y := nI c) (by rw [show (4 * c + b) / 4 = c by omega]) ?_
    refine lv_iconst (v := 4) hx hb d_Own_take_89 (by decide) ?_
    refine lv_aload_n hx hb d_Own_take_90 rfl (lv_at hl 2 rfl) ?_
    refine xg_Line E hC hR (show vl N 11 (4 * c + b) from (show 4 * c + b < 4 * N by omega)) 1 (by decide) zf_Own_47 rfl d_Own_take_91 ?_
    refine wn_eq (y := nI b) (by rw [show (4 * c + b) % 4 = b by omega]) ?_
    refine lv_aload_n hx hb d_Own_take_94 rfl (lv_at hl 2 rfl) ?_
    refine xg_Line E hC hR (show vl N 11 (4 * c + b) from (show 4 * c + b < 4 * N by omega)) 5 (by decide) zf_Own_50 rfl d_Own_take_95 ?_
    refine wn_eq (y := g 9 (4 * c + b)) (by simp [up2, upd, snd]) ?_
    refine xc_v (av := [.ref (ad 1 0), .ref (eA 0 8), .int (nI c), .int 4, .int (nI b), .int (g 9 (4 * c + b))]) (xrunV (As := [.ref (eA 0 8), .int (nI c), .int 4, .int (nI b), .int (g 9 (4 * c + b))]) (rest := []) E hA hC hR hS (c_Net_sendWord l D dA eA ad A N (snd g) (M ++ [(8, c, a, b, g 9 (4 * c + b), 0, 0)]) (as ++ nw1) sp1 8 c 4 b (g 9 (4 * c + b))) (x_recv hC hR (s0 := 1) (i0 := 0) (show vl N 1 0 from rfl) rfl rfl) ck_Own_53 ⟨rfl, rfl⟩ ⟨Nat.le_of_ble_eq_true rfl, Nat.le_of_ble_eq_true rfl⟩ rfl (lv_sub hl [] rfl) rfl (Nat.le_of_ble_eq_true rfl) ⟨Nat.le_of_ble_eq_true rfl, Nat.le_of_ble_eq_true rfl⟩ d_Own_take_98) hS (fun H locs nw2 sp2 hR hS => ?_)
    refine W.widen (k := 2) (n := 16) (by decide) (by decide) ?_
    refine lv_aload_n hx hb d_Own_take_101 rfl (lv_at hl 2 rfl) ?_
    refine lv_iload_n hx hb d_Own_take_102 rfl (lv_at hl 0 rfl) ?_
    refine lv_if_eq (tgt := 116) hx hb d_Own_take_103 (by decide) (fun h2 => absurd h2 (by decide)) (fun h2 => ?_)
    refine lv_aload_n hx hb d_Own_take_106 rfl (lv_at hl 2 rfl) ?_
    refine xg_Line E hC hR (show vl N 11 (4 * c + b) from (show 4 * c + b < 4 * N by omega)) 3 (by decide) zf_Own_9 rfl d_Own_take_107 ?_
    refine xg_Chart E hC hR 1 (by decide) zf_Own_59 rfl d_Own_take_110 ?_
    refine lv_goto (tgt := 123) hx hb d_Own_take_113 (by decide) ?_
    refine xp_Line_mode E hC hR hS (show vl N 11 (4 * c + b) from (show 4 * c + b < 4 * N by omega)) (q := 1) (by omega) zf_Own_65 d_Own_take_123 (fun H locs hR hS => ?_)
    refine lv_iconst (v := 1) hx hb d_Own_take_126 (by decide) ?_
    rw [if_pos rfl, if_pos rfl, if_pos rfl]
    have eM : M ++ [(8, c, a, b, g 9 (4 * c + b), 0, 0)] ++ [(8, c, 4, b, g 9 (4 * c + b), 0, 0)] = M ++ s_acQ g 4 c b (a + 1) := by simp [s_acQ]
    have eG : up2 (snd (snd g)) 8 (4 * c + b) (nI 1) = s_tkG g 4 c b v nb := by simp [s_tkG, s_acG, hg8, nl_0, nl_1, nl_2, nl_3, nl_4, nl_5, nl_6, nl_7, nl_8, nl_9, nl_10, h2]
    rw [eG, eM] at hR
    exact x_iret (nw := nw1 ++ nw2) E (by simp only [List.append_assoc] at hR ⊢; exact hR) hS rfl rfl d_Own_take_127
  · obtain ⟨a, ha4, rfl⟩ := ha (by decide)
    have hs9 : s_stalls g (5, fr, c, b, v, nb, a + 1) = 0 := by
      simp only [s_stalls]
      rw [hst, if_neg hc4]
      decide
    rw [hs9]
    have hg8 : g 8 (4 * c + b) = 2 := hst
    refine lv_aload_n hx hb d_Own_take_0 rfl (lv_at hl 0 rfl) ?_
    refine lv_aload_n hx hb d_Own_take_1 rfl (lv_at hl 1 rfl) ?_
    refine xg_Line E hC hR (show vl N 11 (4 * c + b) from (show 4 * c + b < 4 * N by omega)) 3 (by decide) zf_Own_9 rfl d_Own_take_2 ?_
    refine xg_Chart E hC hR 2 (by decide) zf_Own_15 rfl d_Own_take_5 ?_
    refine lv_acmpR_ne (tgt := 15) hx hb d_Own_take_8 (by decide) (fun h3 => absurd (rfl) h3) (fun h3 => ?_)
    refine lv_iconst (v := 1) hx hb d_Own_take_11 (by decide) ?_
    refine lv_goto (tgt := 16) hx hb d_Own_take_12 (by decide) ?_
    refine lv_istore_n (lv' := [(3, .int 1), (0, .ref (ad 3 2)), (1, .ref (ad 11 (4 * c + b))), (2, .ref q)]) hx hb d_Own_take_16 rfl hl (by decide) rfl (fun ls hl => ?_)
    refine lv_aload_n hx hb d_Own_take_17 rfl (lv_at hl 3 rfl) ?_
    refine xg_Msg E hC hR hq hz 0 (by decide) zf_Own_21 rfl d_Own_take_18 ?_
    refine xc_R (av := [.ref (eA 0 5)]) (xrunU (As := []) (rest := []) E hA hC hR hS (c_ord_Kind l D dA eA ad A N g M as sp (by decide)) (va_recvE hC.2.1 (by decide) hS) gu_Own_27 hC.2.2.2.2.2.2.2.1.2 (by decide +kernel) ⟨rfl, rfl⟩ ⟨Nat.le_of_ble_eq_true rfl, Nat.le_of_ble_eq_true rfl⟩ rfl (lv_sub hl [] rfl) rfl (Nat.le_of_ble_eq_true rfl) ⟨Nat.le_of_ble_eq_true rfl, Nat.le_of_ble_eq_true rfl⟩ d_Own_take_21) ?_
    refine lv_lookup (off := 104) (tgt := 128) hx hb d_Own_take_24 (by decide) (by decide) (by decide) ?_
    refine lv_aload_n hx hb d_Own_take_128 rfl (lv_at hl 2 rfl) ?_
    refine xg_Line E hC hR (show vl N 11 (4 * c + b) from (show 4 * c + b < 4 * N by omega)) 2 (by decide) zf_Own_33 rfl d_Own_take_129 ?_
    refine x_gets (eA := eA) hC.2.1 E hS 8 (by decide) zf_Own_37 d_Own_take_132 ?_
    refine lv_aload_n hx hb d_Own_take_135 rfl (lv_at hl 2 rfl) ?_
    refine xg_Line E hC hR (show vl N 11 (4 * c + b) from (show 4 * c + b < 4 * N by omega)) 0 (by decide) zf_Own_40 rfl d_Own_take_136 ?_
    refine wn_eq (y := nI c) (by rw [show (4 * c + b) / 4 = c by omega]) ?_
    refine lv_aload_n hx hb d_Own_take_139 rfl (lv_at hl 3 rfl) ?_
    refine xg_Msg E hC hR hq hz 6 (by decide) zf_Own_44 rfl d_Own_take_140 ?_
    refine wn_eq (y := nI a) (rq_s a) ?_
    refine lv_aload_n hx hb d_Own_take_143 rfl (lv_at hl 2 rfl) ?_
    refine xg_Line E hC hR (show vl N 11 (4 * c + b) from (show 4 * c + b < 4 * N by omega)) 1 (by decide) zf_Own_47 rfl d_Own_take_144 ?_
    refine wn_eq (y := nI b) (by rw [show (4 * c + b) % 4 = b by omega]) ?_
    refine lv_aload_n hx hb d_Own_take_147 rfl (lv_at hl 2 rfl) ?_
    refine xg_Line E hC hR (show vl N 11 (4 * c + b) from (show 4 * c + b < 4 * N by omega)) 5 (by decide) zf_Own_50 rfl d_Own_take_148 ?_
    refine xc_v (av := [.ref (ad 1 0), .ref (eA 0 8), .int (nI c), .int (nI a), .int (nI b), .int (g 9 (4 * c + b))]) (xrunV (As := [.ref (eA 0 8), .int (nI c), .int (nI a), .int (nI b), .int (g 9 (4 * c + b))]) (rest := []) E hA hC hR hS (c_Net_sendWord l D dA eA ad A N g M as sp 8 c a b (g 9 (4 * c + b))) (x_recv hC hR (s0 := 1) (i0 := 0) (show vl N 1 0 from rfl) rfl rfl) ck_Own_53 ⟨rfl, rfl⟩ ⟨Nat.le_of_ble_eq_true rfl, Nat.le_of_ble_eq_true rfl⟩ rfl (lv_sub hl [] rfl) rfl (Nat.le_of_ble_eq_true rfl) ⟨Nat.le_of_ble_eq_true rfl, Nat.le_of_ble_eq_true rfl⟩ d_Own_take_151) hS (fun H locs nw1 sp1 hR hS => ?_)
    refine W.widen (k := 1) (n := 8) (by decide) (by decide) ?_
    refine lv_aload_n hx hb d_Own_take_154 rfl (lv_at hl 2 rfl) ?_
    refine lv_iload_n hx hb d_Own_take_155 rfl (lv_at hl 0 rfl) ?_
    refine lv_if_eq (tgt := 169) hx hb d_Own_take_156 (by decide) (fun h4 => absurd h4 (by decide)) (fun h4 => ?_)
    refine lv_aload_n hx hb d_Own_take_159 rfl (lv_at hl 2 rfl) ?_
    refine xg_Line E hC hR (show vl N 11 (4 * c + b) from (show 4 * c + b < 4 * N by omega)) 3 (by decide) zf_Own_9 rfl d_Own_take_160 ?_
    refine xg_Chart E hC hR 0 (by decide) zf_Own_68 rfl d_Own_take_163 ?_
    refine lv_goto (tgt := 176) hx hb d_Own_take_166 (by decide) ?_
    refine xp_Line_mode E hC hR hS (show vl N 11 (4 * c + b) from (show 4 * c + b < 4 * N by omega)) (q := 0) (by omega) zf_Own_65 d_Own_take_176 (fun H locs hR hS => ?_)
    refine lv_iconst (v := 1) hx hb d_Own_take_179 (by decide) ?_
    refine W.widen (k := 2) (n := 16) (by decide) (by decide) ?_
    rw [if_pos rfl, if_pos rfl, if_pos rfl]
    have eM : M ++ [(8, c, a, b, g 9 (4 * c + b), 0, 0)] = M ++ s_acQ g 5 c b (a + 1) := by simp [s_acQ]
    have eG : up2 (snd g) 8 (4 * c + b) (nI 0) = s_tkG g 5 c b v nb := by simp [s_tkG, s_acG, hg8, nl_0, nl_1, nl_2, nl_3, nl_4, nl_5, nl_6, nl_7, nl_8, nl_9, nl_10, h4]
    rw [eG, eM] at hR
    exact x_iret (nw := nw1) E hR hS rfl rfl d_Own_take_180
  · obtain ⟨a, ha4, rfl⟩ := ha (by decide)
    have hs9 : s_stalls g (4, fr, c, b, v, nb, a + 1) = 0 := by
      simp only [s_stalls]
      rw [hst, if_neg hc4]
      decide
    rw [hs9]
    have hg8 : g 8 (4 * c + b) = 8 := hst
    refine lv_aload_n hx hb d_Own_take_0 rfl (lv_at hl 0 rfl) ?_
    refine lv_aload_n hx hb d_Own_take_1 rfl (lv_at hl 1 rfl) ?_
    refine xg_Line E hC hR (show vl N 11 (4 * c + b) from (show 4 * c + b < 4 * N by omega)) 3 (by decide) zf_Own_9 rfl d_Own_take_2 ?_
    refine xg_Chart E hC hR 2 (by decide) zf_Own_15 rfl d_Own_take_5 ?_
    refine lv_acmpR_ne (tgt := 15) hx hb d_Own_take_8 (by decide) (fun h5 => ?_) (fun h5 => absurd h5 (fun e9 => absurd (hR.md_inj (by decide) (by decide) e9) (by decide)))
    refine lv_iconst (v := 0) hx hb d_Own_take_15 (by decide) ?_
    refine lv_istore_n (lv' := [(3, .int 0), (0, .ref (ad 3 8)), (1, .ref (ad 11 (4 * c + b))), (2, .ref q)]) hx hb d_Own_take_16 rfl hl (by decide) rfl (fun ls hl => ?_)
    refine lv_aload_n hx hb d_Own_take_17 rfl (lv_at hl 3 rfl) ?_
    refine xg_Msg E hC hR hq hz 0 (by decide) zf_Own_21 rfl d_Own_take_18 ?_
    refine xc_R (av := [.ref (eA 0 4)]) (xrunU (As := []) (rest := []) E hA hC hR hS (c_ord_Kind l D dA eA ad A N g M as sp (by decide)) (va_recvE hC.2.1 (by decide) hS) gu_Own_27 hC.2.2.2.2.2.2.2.1.2 (by decide +kernel) ⟨rfl, rfl⟩ ⟨Nat.le_of_ble_eq_true rfl, Nat.le_of_ble_eq_true rfl⟩ rfl (lv_sub hl [] rfl) rfl (Nat.le_of_ble_eq_true rfl) ⟨Nat.le_of_ble_eq_true rfl, Nat.le_of_ble_eq_true rfl⟩ d_Own_take_21) ?_
    refine lv_lookup (off := 28) (tgt := 52) hx hb d_Own_take_24 (by decide) (by decide) (by decide) ?_
    refine lv_aload_n hx hb d_Own_take_52 rfl (lv_at hl 2 rfl) ?_
    refine xg_Line E hC hR (show vl N 11 (4 * c + b) from (show 4 * c + b < 4 * N by omega)) 2 (by decide) zf_Own_33 rfl d_Own_take_53 ?_
    refine x_gets (eA := eA) hC.2.1 E hS 8 (by decide) zf_Own_37 d_Own_take_56 ?_
    refine lv_aload_n hx hb d_Own_take_59 rfl (lv_at hl 2 rfl) ?_
    refine xg_Line E hC hR (show vl N 11 (4 * c + b) from (show 4 * c + b < 4 * N by omega)) 0 (by decide) zf_Own_40 rfl d_Own_take_60 ?_
    refine wn_eq (y := nI c) (by rw [show (4 * c + b) / 4 = c by omega]) ?_
    refine lv_aload_n hx hb d_Own_take_63 rfl (lv_at hl 3 rfl) ?_
    refine xg_Msg E hC hR hq hz 6 (by decide) zf_Own_44 rfl d_Own_take_64 ?_
    refine wn_eq (y := nI a) (rq_s a) ?_
    refine lv_aload_n hx hb d_Own_take_67 rfl (lv_at hl 2 rfl) ?_
    refine xg_Line E hC hR (show vl N 11 (4 * c + b) from (show 4 * c + b < 4 * N by omega)) 1 (by decide) zf_Own_47 rfl d_Own_take_68 ?_
    refine wn_eq (y := nI b) (by rw [show (4 * c + b) % 4 = b by omega]) ?_
    refine lv_aload_n hx hb d_Own_take_71 rfl (lv_at hl 2 rfl) ?_
    refine xg_Line E hC hR (show vl N 11 (4 * c + b) from (show 4 * c + b < 4 * N by omega)) 5 (by decide) zf_Own_50 rfl d_Own_take_72 ?_
    refine xc_v (av := [.ref (ad 1 0), .ref (eA 0 8), .int (nI c), .int (nI a), .int (nI b), .int (g 9 (4 * c + b))]) (xrunV (As := [.ref (eA 0 8), .int (nI c), .int (nI a), .int (nI b), .int (g 9 (4 * c + b))]) (rest := []) E hA hC hR hS (c_Net_sendWord l D dA eA ad A N g M as sp 8 c a b (g 9 (4 * c + b))) (x_recv hC hR (s0 := 1) (i0 := 0) (show vl N 1 0 from rfl) rfl rfl) ck_Own_53 ⟨rfl, rfl⟩ ⟨Nat.le_of_ble_eq_true rfl, Nat.le_of_ble_eq_true rfl⟩ rfl (lv_sub hl [] rfl) rfl (Nat.le_of_ble_eq_true rfl) ⟨Nat.le_of_ble_eq_true rfl, Nat.le_of_ble_eq_true rfl⟩ d_Own_take_75) hS (fun H locs nw1 sp1 hR hS => ?_)
    refine W.widen (k := 1) (n := 8) (by decide) (by decide) ?_
    refine lv_aload_n hx hb d_Own_take_78 rfl (lv_at hl 2 rfl) ?_
    refine xg_Line E hC hR (show vl N 11 (4 * c + b) from (show 4 * c + b < 4 * N by omega)) 2 (by decide) zf_Own_33 rfl d_Own_take_79 ?_
    refine x_gets (eA := eA) hC.2.1 E hS 8 (by decide) zf_Own_37 d_Own_take_82 ?_
    refine lv_aload_n hx hb d_Own_take_85 rfl (lv_at hl 2 rfl) ?_
    refine xg_Line E hC hR (show vl N 11 (4 * c + b) from (show 4 * c + b < 4 * N by omega)) 0 (by decide) zf_Own_40 rfl d_Own_take_86 ?_
    refine wn_eq (y := nI c) (by rw [show (4 * c + b) / 4 = c by omega]) ?_
    refine lv_iconst (v := 4) hx hb d_Own_take_89 (by decide) ?_
    refine lv_aload_n hx hb d_Own_take_90 rfl (lv_at hl 2 rfl) ?_
    refine xg_Line E hC hR (show vl N 11 (4 * c + b) from (show 4 * c + b < 4 * N by omega)) 1 (by decide) zf_Own_47 rfl d_Own_take_91 ?_
    refine wn_eq (y := nI b) (by rw [show (4 * c + b) % 4 = b by omega]) ?_
    refine lv_aload_n hx hb d_Own_take_94 rfl (lv_at hl 2 rfl) ?_
    refine xg_Line E hC hR (show vl N 11 (4 * c + b) from (show 4 * c + b < 4 * N by omega)) 5 (by decide) zf_Own_50 rfl d_Own_take_95 ?_
    refine wn_eq (y := g 9 (4 * c + b)) (by simp [up2, upd, snd]) ?_
    refine xc_v (av := [.ref (ad 1 0), .ref (eA 0 8), .int (nI c), .int 4, .int (nI b), .int (g 9 (4 * c + b))]) (xrunV (As := [.ref (eA 0 8), .int (nI c), .int 4, .int (nI b), .int (g 9 (4 * c + b))]) (rest := []) E hA hC hR hS (c_Net_sendWord l D dA eA ad A N (snd g) (M ++ [(8, c, a, b, g 9 (4 * c + b), 0, 0)]) (as ++ nw1) sp1 8 c 4 b (g 9 (4 * c + b))) (x_recv hC hR (s0 := 1) (i0 := 0) (show vl N 1 0 from rfl) rfl rfl) ck_Own_53 ⟨rfl, rfl⟩ ⟨Nat.le_of_ble_eq_true rfl, Nat.le_of_ble_eq_true rfl⟩ rfl (lv_sub hl [] rfl) rfl (Nat.le_of_ble_eq_true rfl) ⟨Nat.le_of_ble_eq_true rfl, Nat.le_of_ble_eq_true rfl⟩ d_Own_take_98) hS (fun H locs nw2 sp2 hR hS => ?_)
    refine W.widen (k := 2) (n := 16) (by decide) (by decide) ?_
    refine lv_aload_n hx hb d_Own_take_101 rfl (lv_at hl 2 rfl) ?_
    refine lv_iload_n hx hb d_Own_take_102 rfl (lv_at hl 0 rfl) ?_
    refine lv_if_eq (tgt := 116) hx hb d_Own_take_103 (by decide) (fun h6 => ?_) (fun h6 => absurd (by decide) h6)
    refine lv_aload_n hx hb d_Own_take_116 rfl (lv_at hl 2 rfl) ?_
    refine xg_Line E hC hR (show vl N 11 (4 * c + b) from (show 4 * c + b < 4 * N by omega)) 3 (by decide) zf_Own_9 rfl d_Own_take_117 ?_
    refine xg_Chart E hC hR 9 (by decide) zf_Own_62 rfl d_Own_take_120 ?_
    refine xp_Line_mode E hC hR hS (show vl N 11 (4 * c + b) from (show 4 * c + b < 4 * N by omega)) (q := 9) (by omega) zf_Own_65 d_Own_take_123 (fun H locs hR hS => ?_)
    refine lv_iconst (v := 1) hx hb d_Own_take_126 (by decide) ?_
    rw [if_pos rfl, if_pos rfl, if_pos rfl]
    have eM : M ++ [(8, c, a, b, g 9 (4 * c + b), 0, 0)] ++ [(8, c, 4, b, g 9 (4 * c + b), 0, 0)] = M ++ s_acQ g 4 c b (a + 1) := by simp [s_acQ]
    have eG : up2 (snd (snd g)) 8 (4 * c + b) (nI 9) = s_tkG g 4 c b v nb := by simp [s_tkG, s_acG, hg8, nl_0, nl_1, nl_2, nl_3, nl_4, nl_5, nl_6, nl_7, nl_8, nl_9, nl_10, h6]
    rw [eG, eM] at hR
    exact x_iret (nw := nw1 ++ nw2) E (by simp only [List.append_assoc] at hR ⊢; exact hR) hS rfl rfl d_Own_take_127
  · obtain ⟨a, ha4, rfl⟩ := ha (by decide)
    have hs9 : s_stalls g (5, fr, c, b, v, nb, a + 1) = 0 := by
      simp only [s_stalls]
      rw [hst, if_neg hc4]
      decide
    rw [hs9]
    have hg8 : g 8 (4 * c + b) = 8 := hst
    refine lv_aload_n hx hb d_Own_take_0 rfl (lv_at hl 0 rfl) ?_
    refine lv_aload_n hx hb d_Own_take_1 rfl (lv_at hl 1 rfl) ?_
    refine xg_Line E hC hR (show vl N 11 (4 * c + b) from (show 4 * c + b < 4 * N by omega)) 3 (by decide) zf_Own_9 rfl d_Own_take_2 ?_
    refine xg_Chart E hC hR 2 (by decide) zf_Own_15 rfl d_Own_take_5 ?_
    refine lv_acmpR_ne (tgt := 15) hx hb d_Own_take_8 (by decide) (fun h7 => ?_) (fun h7 => absurd h7 (fun e9 => absurd (hR.md_inj (by decide) (by decide) e9) (by decide)))
    refine lv_iconst (v := 0) hx hb d_Own_take_15 (by decide) ?_
    refine lv_istore_n (lv' := [(3, .int 0), (0, .ref (ad 3 8)), (1, .ref (ad 11 (4 * c + b))), (2, .ref q)]) hx hb d_Own_take_16 rfl hl (by decide) rfl (fun ls hl => ?_)
    refine lv_aload_n hx hb d_Own_take_17 rfl (lv_at hl 3 rfl) ?_
    refine xg_Msg E hC hR hq hz 0 (by decide) zf_Own_21 rfl d_Own_take_18 ?_
    refine xc_R (av := [.ref (eA 0 5)]) (xrunU (As := []) (rest := []) E hA hC hR hS (c_ord_Kind l D dA eA ad A N g M as sp (by decide)) (va_recvE hC.2.1 (by decide) hS) gu_Own_27 hC.2.2.2.2.2.2.2.1.2 (by decide +kernel) ⟨rfl, rfl⟩ ⟨Nat.le_of_ble_eq_true rfl, Nat.le_of_ble_eq_true rfl⟩ rfl (lv_sub hl [] rfl) rfl (Nat.le_of_ble_eq_true rfl) ⟨Nat.le_of_ble_eq_true rfl, Nat.le_of_ble_eq_true rfl⟩ d_Own_take_21) ?_
    refine lv_lookup (off := 104) (tgt := 128) hx hb d_Own_take_24 (by decide) (by decide) (by decide) ?_
    refine lv_aload_n hx hb d_Own_take_128 rfl (lv_at hl 2 rfl) ?_
    refine xg_Line E hC hR (show vl N 11 (4 * c + b) from (show 4 * c + b < 4 * N by omega)) 2 (by decide) zf_Own_33 rfl d_Own_take_129 ?_
    refine x_gets (eA := eA) hC.2.1 E hS 8 (by decide) zf_Own_37 d_Own_take_132 ?_
    refine lv_aload_n hx hb d_Own_take_135 rfl (lv_at hl 2 rfl) ?_
    refine xg_Line E hC hR (show vl N 11 (4 * c + b) from (show 4 * c + b < 4 * N by omega)) 0 (by decide) zf_Own_40 rfl d_Own_take_136 ?_
    refine wn_eq (y := nI c) (by rw [show (4 * c + b) / 4 = c by omega]) ?_
    refine lv_aload_n hx hb d_Own_take_139 rfl (lv_at hl 3 rfl) ?_
    refine xg_Msg E hC hR hq hz 6 (by decide) zf_Own_44 rfl d_Own_take_140 ?_
    refine wn_eq (y := nI a) (rq_s a) ?_
    refine lv_aload_n hx hb d_Own_take_143 rfl (lv_at hl 2 rfl) ?_
    refine xg_Line E hC hR (show vl N 11 (4 * c + b) from (show 4 * c + b < 4 * N by omega)) 1 (by decide) zf_Own_47 rfl d_Own_take_144 ?_
    refine wn_eq (y := nI b) (by rw [show (4 * c + b) % 4 = b by omega]) ?_
    refine lv_aload_n hx hb d_Own_take_147 rfl (lv_at hl 2 rfl) ?_
    refine xg_Line E hC hR (show vl N 11 (4 * c + b) from (show 4 * c + b < 4 * N by omega)) 5 (by decide) zf_Own_50 rfl d_Own_take_148 ?_
    refine xc_v (av := [.ref (ad 1 0), .ref (eA 0 8), .int (nI c), .int (nI a), .int (nI b), .int (g 9 (4 * c + b))]) (xrunV (As := [.ref (eA 0 8), .int (nI c), .int (nI a), .int (nI b), .int (g 9 (4 * c + b))]) (rest := []) E hA hC hR hS (c_Net_sendWord l D dA eA ad A N g M as sp 8 c a b (g 9 (4 * c + b))) (x_recv hC hR (s0 := 1) (i0 := 0) (show vl N 1 0 from rfl) rfl rfl) ck_Own_53 ⟨rfl, rfl⟩ ⟨Nat.le_of_ble_eq_true rfl, Nat.le_of_ble_eq_true rfl⟩ rfl (lv_sub hl [] rfl) rfl (Nat.le_of_ble_eq_true rfl) ⟨Nat.le_of_ble_eq_true rfl, Nat.le_of_ble_eq_true rfl⟩ d_Own_take_151) hS (fun H locs nw1 sp1 hR hS => ?_)
    refine W.widen (k := 1) (n := 8) (by decide) (by decide) ?_
    refine lv_aload_n hx hb d_Own_take_154 rfl (lv_at hl 2 rfl) ?_
    refine lv_iload_n hx hb d_Own_take_155 rfl (lv_at hl 0 rfl) ?_
    refine lv_if_eq (tgt := 169) hx hb d_Own_take_156 (by decide) (fun h8 => ?_) (fun h8 => absurd (by decide) h8)
    refine lv_aload_n hx hb d_Own_take_169 rfl (lv_at hl 2 rfl) ?_
    refine xg_Line E hC hR (show vl N 11 (4 * c + b) from (show 4 * c + b < 4 * N by omega)) 3 (by decide) zf_Own_9 rfl d_Own_take_170 ?_
    refine xg_Chart E hC hR 10 (by decide) zf_Own_71 rfl d_Own_take_173 ?_
    refine xp_Line_mode E hC hR hS (show vl N 11 (4 * c + b) from (show 4 * c + b < 4 * N by omega)) (q := 10) (by omega) zf_Own_65 d_Own_take_176 (fun H locs hR hS => ?_)
    refine lv_iconst (v := 1) hx hb d_Own_take_179 (by decide) ?_
    refine W.widen (k := 2) (n := 16) (by decide) (by decide) ?_
    rw [if_pos rfl, if_pos rfl, if_pos rfl]
    have eM : M ++ [(8, c, a, b, g 9 (4 * c + b), 0, 0)] = M ++ s_acQ g 5 c b (a + 1) := by simp [s_acQ]
    have eG : up2 (snd g) 8 (4 * c + b) (nI 10) = s_tkG g 5 c b v nb := by simp [s_tkG, s_acG, hg8, nl_0, nl_1, nl_2, nl_3, nl_4, nl_5, nl_6, nl_7, nl_8, nl_9, nl_10, h8]
    rw [eG, eM] at hR
    exact x_iret (nw := nw1) E hR hS rfl rfl d_Own_take_180
  · have hs9 : s_stalls g (7, fr, c, b, v, nb, aq) = 0 := by simp [s_stalls, hc4]
    rw [hs9]
    have hg8 : g 8 (4 * c + b) = 8 := hst
    refine lv_aload_n hx hb d_Own_take_0 rfl (lv_at hl 0 rfl) ?_
    refine lv_aload_n hx hb d_Own_take_1 rfl (lv_at hl 1 rfl) ?_
    refine xg_Line E hC hR (show vl N 11 (4 * c + b) from (show 4 * c + b < 4 * N by omega)) 3 (by decide) zf_Own_9 rfl d_Own_take_2 ?_
    refine xg_Chart E hC hR 2 (by decide) zf_Own_15 rfl d_Own_take_5 ?_
    refine lv_acmpR_ne (tgt := 15) hx hb d_Own_take_8 (by decide) (fun h9 => ?_) (fun h9 => absurd h9 (fun e9 => absurd (hR.md_inj (by decide) (by decide) e9) (by decide)))
    refine lv_iconst (v := 0) hx hb d_Own_take_15 (by decide) ?_
    refine lv_istore_n (lv' := [(3, .int 0), (0, .ref (ad 3 8)), (1, .ref (ad 11 (4 * c + b))), (2, .ref q)]) hx hb d_Own_take_16 rfl hl (by decide) rfl (fun ls hl => ?_)
    refine lv_aload_n hx hb d_Own_take_17 rfl (lv_at hl 3 rfl) ?_
    refine xg_Msg E hC hR hq hz 0 (by decide) zf_Own_21 rfl d_Own_take_18 ?_
    refine xc_R (av := [.ref (eA 0 7)]) (xrunU (As := []) (rest := []) E hA hC hR hS (c_ord_Kind l D dA eA ad A N g M as sp (by decide)) (va_recvE hC.2.1 (by decide) hS) gu_Own_27 hC.2.2.2.2.2.2.2.1.2 (by decide +kernel) ⟨rfl, rfl⟩ ⟨Nat.le_of_ble_eq_true rfl, Nat.le_of_ble_eq_true rfl⟩ rfl (lv_sub hl [] rfl) rfl (Nat.le_of_ble_eq_true rfl) ⟨Nat.le_of_ble_eq_true rfl, Nat.le_of_ble_eq_true rfl⟩ d_Own_take_21) ?_
    refine lv_lookup (off := 157) (tgt := 181) hx hb d_Own_take_24 (by decide) (by decide) (by decide) ?_
    refine lv_aload_n hx hb d_Own_take_181 rfl (lv_at hl 3 rfl) ?_
    refine xg_Msg E hC hR hq hz 0 (by decide) zf_Own_21 rfl d_Own_take_182 ?_
    refine x_gets (eA := eA) hC.2.1 E hS 7 (by decide) zf_Own_74 d_Own_take_185 ?_
    refine lv_acmpR_ne (tgt := 195) hx hb d_Own_take_188 (by decide) (fun h10 => absurd (rfl) h10) (fun h10 => ?_)
    refine lv_aload_n hx hb d_Own_take_191 rfl (lv_at hl 2 rfl) ?_
    refine xc_v (av := [.ref (ad 11 (4 * c + b))]) (xrunV (As := []) (rest := []) E hA hC hR hS (c_Line_release l D dA eA ad A N g M as sp c b hc hN4 hb4) (x_recv hC hR (s0 := 11) (i0 := 4 * c + b) (show vl N 11 (4 * c + b) from (show 4 * c + b < 4 * N by omega)) rfl rfl) ck_Own_77 ⟨rfl, rfl⟩ ⟨Nat.le_of_ble_eq_true rfl, Nat.le_of_ble_eq_true rfl⟩ rfl (lv_sub hl [] rfl) rfl (Nat.le_of_ble_eq_true rfl) ⟨Nat.le_of_ble_eq_true rfl, Nat.le_of_ble_eq_true rfl⟩ d_Own_take_192) hS (fun H locs nw1 sp1 hR hS => ?_)
    refine lv_iconst (v := 1) hx hb d_Own_take_195 (by decide) ?_
    refine W.widen (k := 2) (n := 16) (by decide) (by decide) ?_
    rw [if_pos rfl, if_pos rfl, if_pos rfl]
    have eM : M = M ++ s_acQ g 7 c b aq := by simp [s_acQ]
    have eG : up2 g 8 (4 * c + b) (nI 0) = s_tkG g 7 c b v nb := by rw [s_tkG, if_pos rfl]; rfl
    rw [eG, eM] at hR
    exact x_iret (nw := nw1) E hR hS rfl rfl d_Own_take_196
set_option maxHeartbeats 4000000 in
set_option maxRecDepth 100000 in
theorem c_Fet_take (l : Launch) (D : va_G) (dA : Nat → ClassId) (eA ad : Nat → Nat → Nat) (A : Nat → Prop) (N : Nat) (g : PS) (M : List Msg) (as sp : List Nat) (c b : Nat) (hc : c < N) (hN4 : N ≤ 4) (hb4 : b < 4) (st kd j q fr : Nat) (v : Int32) (nb aq : Nat) (hst : g 8 (4 * c + b) = nI st) (hq : as[j]? = some q) (hz : M[j]? = some (kd, fr, c, b, v, nb, aq)) (ha : kd = 4 ∨ kd = 5 ∨ kd = 6 → ∃ a, a < 4 ∧ aq = a + 1) (hnb : st = 3 → kd = 8 → nb = 0) (hok : (st, kd) ∈ okF) : Met l y_Fet_take (k_Fet_take :: wz) (rml 4 2 16) (va_Pc [.ref (ad 3 st), .ref (ad 11 (4 * c + b)), .ref q] (PX D dA eA ad A N g M as sp)) (XQi D dA eA ad A N (if s_stalls g (kd, fr, c, b, v, nb, aq) = 0 then 1 else 0) (if s_stalls g (kd, fr, c, b, v, nb, aq) = 0 then s_tkG g kd c b v nb else g) (if s_stalls g (kd, fr, c, b, v, nb, aq) = 0 then M ++ s_acQ g kd c b aq else M) as) 2 16 A := by
  refine x_entry (by decide) (Nat.le_of_ble_eq_true rfl) ?_
  intro p e s m below meth c0 E hA hC hR ls hl
  have hx := E.1
  have hb := E.2.1
  have hS : va_S A s.heap s.heap [] := va_S.rf
  replace hl : lv_has ls 3 [(0, .ref (ad 3 st)), (1, .ref (ad 11 (4 * c + b))), (2, .ref q)] := hl
  have hc4 : ¬ c = 4 := by omega
  simp only [okF, List.mem_cons, Prod.mk.injEq, List.not_mem_nil, or_false] at hok
  rcases hok with ⟨rfl, rfl⟩ | ⟨rfl, rfl⟩
  · have hs9 : s_stalls g (8, fr, c, b, v, nb, aq) = 0 := by simp [s_stalls, hc4]
    rw [hs9]
    have hg8 : g 8 (4 * c + b) = 3 := hst
    refine lv_aload_n hx hb d_Fet_take_0 rfl (lv_at hl 2 rfl) ?_
    refine xg_Msg E hC hR hq hz 0 (by decide) zf_Fet_7 rfl d_Fet_take_1 ?_
    refine x_gets (eA := eA) hC.2.1 E hS 8 (by decide) zf_Fet_13 d_Fet_take_4 ?_
    refine lv_acmpR_eq (tgt := 12) hx hb d_Fet_take_7 (by decide) (fun h1 => ?_) (fun h1 => absurd (rfl) h1)
    refine lv_aload_n hx hb d_Fet_take_12 rfl (lv_at hl 1 rfl) ?_
    refine lv_aload_n hx hb d_Fet_take_13 rfl (lv_at hl 2 rfl) ?_
    refine xg_Msg E hC hR hq hz 4 (by decide) zf_Fet_18 rfl d_Fet_take_14 ?_
    refine xp_Line_word E hC hR hS (show vl N 11 (4 * c + b) from (show 4 * c + b < 4 * N by omega)) zf_Fet_22 d_Fet_take_17 (fun H locs hR hS => ?_)
    refine lv_aload_n hx hb d_Fet_take_20 rfl (lv_at hl 1 rfl) ?_
    refine lv_aload_n hx hb d_Fet_take_21 rfl (lv_at hl 1 rfl) ?_
    refine xg_Line E hC hR (show vl N 11 (4 * c + b) from (show 4 * c + b < 4 * N by omega)) 3 (by decide) zf_Fet_25 rfl d_Fet_take_22 ?_
    refine xg_Chart E hC hR 1 (by decide) zf_Fet_29 rfl d_Fet_take_25 ?_
    refine xp_Line_mode E hC hR hS (show vl N 11 (4 * c + b) from (show 4 * c + b < 4 * N by omega)) (q := 1) (by omega) zf_Fet_35 d_Fet_take_28 (fun H locs hR hS => ?_)
    refine lv_iconst (v := 1) hx hb d_Fet_take_31 (by decide) ?_
    refine W.widen (k := 2) (n := 16) (by decide) (by decide) ?_
    rw [if_pos rfl, if_pos rfl, if_pos rfl]
    have eM : M = M ++ s_acQ g 8 c b aq := by simp [s_acQ]
    obtain rfl := hnb rfl rfl
    have eG : up2 (up2 g 9 (4 * c + b) v) 8 (4 * c + b) (nI 1) = s_tkG g 8 c b v 0 := by rw [s_tkG, if_neg (by decide), s_acG, if_pos rfl, if_pos hg8, up2_same (show up2 g 9 (4 * c + b) v 10 (4 * c + b) = g 10 (4 * c + b) + nI 0 by rw [nl_0, Int32.add_zero]; rfl)]; rfl
    rw [eG, eM] at hR
    exact x_iret (nw := []) E (by rw [List.append_nil]; exact hR) hS rfl rfl d_Fet_take_32
  · obtain ⟨a, ha4, rfl⟩ := ha (by decide)
    have hs9 : s_stalls g (6, fr, c, b, v, nb, a + 1) = 1 := by
      simp only [s_stalls]
      rw [hst, if_neg hc4]
      decide
    rw [hs9]
    have hg8 : g 8 (4 * c + b) = 3 := hst
    refine lv_aload_n hx hb d_Fet_take_0 rfl (lv_at hl 2 rfl) ?_
    refine xg_Msg E hC hR hq hz 0 (by decide) zf_Fet_7 rfl d_Fet_take_1 ?_
    refine x_gets (eA := eA) hC.2.1 E hS 8 (by decide) zf_Fet_13 d_Fet_take_4 ?_
    refine lv_acmpR_eq (tgt := 12) hx hb d_Fet_take_7 (by decide) (fun h2 => absurd h2 (fun e9 => absurd (hC.2.1.2 6 8 (by decide) (by decide) e9) (by decide))) (fun h2 => ?_)
    refine lv_iconst (v := 0) hx hb d_Fet_take_10 (by decide) ?_
    refine W.widen (k := 2) (n := 16) (by decide) (by decide) ?_
    rw [if_neg (by decide), if_neg (by decide), if_neg (by decide)]
    exact x_iret (nw := []) E (by rw [List.append_nil]; exact hR) hS rfl rfl d_Fet_take_11
set_option maxHeartbeats 4000000 in
set_option maxRecDepth 100000 in
theorem c_Gai_take (l : Launch) (D : va_G) (dA : Nat → ClassId) (eA ad : Nat → Nat → Nat) (A : Nat → Prop) (N : Nat) (g : PS) (M : List Msg) (as sp : List Nat) (c b : Nat) (hc : c < N) (hN4 : N ≤ 4) (hb4 : b < 4) (st kd j q fr : Nat) (v : Int32) (nb aq : Nat) (hst : g 8 (4 * c + b) = nI st) (hq : as[j]? = some q) (hz : M[j]? = some (kd, fr, c, b, v, nb, aq)) (ha : kd = 4 ∨ kd = 5 ∨ kd = 6 → ∃ a, a < 4 ∧ aq = a + 1) (hnb : st = 3 → kd = 8 → nb = 0) (hok : (st, kd) ∈ okG) : Met l y_Gai_take (k_Gai_take :: wz) (rml 4 2 16) (va_Pc [.ref (ad 3 st), .ref (ad 11 (4 * c + b)), .ref q] (PX D dA eA ad A N g M as sp)) (XQi D dA eA ad A N (if s_stalls g (kd, fr, c, b, v, nb, aq) = 0 then 1 else 0) (if s_stalls g (kd, fr, c, b, v, nb, aq) = 0 then s_tkG g kd c b v nb else g) (if s_stalls g (kd, fr, c, b, v, nb, aq) = 0 then M ++ s_acQ g kd c b aq else M) as) 2 16 A := by
  refine x_entry (by decide) (Nat.le_of_ble_eq_true rfl) ?_
  intro p e s m below meth c0 E hA hC hR ls hl
  have hx := E.1
  have hb := E.2.1
  have hS : va_S A s.heap s.heap [] := va_S.rf
  replace hl : lv_has ls 3 [(0, .ref (ad 3 st)), (1, .ref (ad 11 (4 * c + b))), (2, .ref q)] := hl
  have hc4 : ¬ c = 4 := by omega
  simp only [okG, List.mem_cons, Prod.mk.injEq, List.not_mem_nil, or_false] at hok
  rcases hok with ⟨rfl, rfl⟩ | ⟨rfl, rfl⟩ | ⟨rfl, rfl⟩ | ⟨rfl, rfl⟩ | ⟨rfl, rfl⟩ | ⟨rfl, rfl⟩ | ⟨rfl, rfl⟩ | ⟨rfl, rfl⟩ | ⟨rfl, rfl⟩ | ⟨rfl, rfl⟩ | ⟨rfl, rfl⟩ | ⟨rfl, rfl⟩ | ⟨rfl, rfl⟩ | ⟨rfl, rfl⟩ | ⟨rfl, rfl⟩
  · have hs9 : s_stalls g (8, fr, c, b, v, nb, aq) = 0 := by simp [s_stalls, hc4]
    rw [hs9]
    have hg8 : g 8 (4 * c + b) = 4 := hst
    refine lv_aload_n hx hb d_Gai_take_0 rfl (lv_at hl 2 rfl) ?_
    refine xg_Msg E hC hR hq hz 0 (by decide) zf_Gai_13 rfl d_Gai_take_1 ?_
    refine xc_R (av := [.ref (eA 0 8)]) (xrunU (As := []) (rest := []) E hA hC hR hS (c_ord_Kind l D dA eA ad A N g M as sp (by decide)) (va_recvE hC.2.1 (by decide) hS) gu_Gai_19 hC.2.2.2.2.2.2.2.1.2 (by decide +kernel) ⟨rfl, rfl⟩ ⟨Nat.le_of_ble_eq_true rfl, Nat.le_of_ble_eq_true rfl⟩ rfl (lv_sub hl [] rfl) rfl (Nat.le_of_ble_eq_true rfl) ⟨Nat.le_of_ble_eq_true rfl, Nat.le_of_ble_eq_true rfl⟩ d_Gai_take_4) ?_
    refine lv_tableIn (off := 29) (tgt := 36) hx hb d_Gai_take_7 (by decide) (by decide) (by decide) (by decide) ?_
    refine lv_aload_n hx hb d_Gai_take_36 rfl (lv_at hl 1 rfl) ?_
    refine lv_aload_n hx hb d_Gai_take_37 rfl (lv_at hl 2 rfl) ?_
    refine xg_Msg E hC hR hq hz 4 (by decide) zf_Gai_25 rfl d_Gai_take_38 ?_
    refine xp_Line_word E hC hR hS (show vl N 11 (4 * c + b) from (show 4 * c + b < 4 * N by omega)) zf_Gai_29 d_Gai_take_41 (fun H locs hR hS => ?_)
    refine lv_aload_n hx hb d_Gai_take_44 rfl (lv_at hl 1 rfl) ?_
    refine lv_dup hx hb d_Gai_take_45 rfl ?_
    refine xg_Line E hC hR (show vl N 11 (4 * c + b) from (show 4 * c + b < 4 * N by omega)) 6 (by decide) zf_Gai_32 rfl d_Gai_take_46 ?_
    refine wn_eq (y := g 10 (4 * c + b)) (by simp [up2, upd, snd]) ?_
    refine lv_aload_n hx hb d_Gai_take_49 rfl (lv_at hl 2 rfl) ?_
    refine xg_Msg E hC hR hq hz 5 (by decide) zf_Gai_35 rfl d_Gai_take_50 ?_
    refine lv_iadd hx hb d_Gai_take_53 ?_
    refine xp_Line_count E hC hR hS (show vl N 11 (4 * c + b) from (show 4 * c + b < 4 * N by omega)) zf_Gai_32 d_Gai_take_54 (fun H locs hR hS => ?_)
    refine lv_aload_n hx hb d_Gai_take_57 rfl (lv_at hl 1 rfl) ?_
    refine lv_aload_n hx hb d_Gai_take_58 rfl (lv_at hl 1 rfl) ?_
    refine xg_Line E hC hR (show vl N 11 (4 * c + b) from (show 4 * c + b < 4 * N by omega)) 6 (by decide) zf_Gai_32 rfl d_Gai_take_59 ?_
    refine wn_eq (y := (g 10 (4 * c + b)) + (nI nb)) (by simp [up2, upd, snd]) ?_
    refine lv_if_ne (tgt := 75) hx hb d_Gai_take_62 (by decide) (fun h1 => ?_) (fun h1 => ?_)
    · refine lv_aload_n hx hb d_Gai_take_75 rfl (lv_at hl 0 rfl) ?_
      refine x_get (s0 := 3) (i0 := 4) (ci := 7) (C := R_Gai) (T := F_Gai) (Nn := 3) (v := .int 0) E hC hR (show vl N 3 4 from (by decide : 4 < 11)) rfl rfl i_Gai 1 (by decide) zf_Gai_48 (gai_same (E.2.2.2.2.1 _ zF_Gai_holds)) rfl d_Gai_take_76 ?_
      refine lv_if_eq (tgt := 92) hx hb d_Gai_take_79 (by decide) (fun h2 => ?_) (fun h2 => absurd (by decide) h2)
      refine lv_aload_n hx hb d_Gai_take_92 rfl (lv_at hl 1 rfl) ?_
      refine xg_Line E hC hR (show vl N 11 (4 * c + b) from (show 4 * c + b < 4 * N by omega)) 3 (by decide) zf_Gai_38 rfl d_Gai_take_93 ?_
      refine xg_Chart E hC hR 5 (by decide) zf_Gai_54 rfl d_Gai_take_96 ?_
      refine xp_Line_mode E hC hR hS (show vl N 11 (4 * c + b) from (show 4 * c + b < 4 * N by omega)) (q := 5) (by omega) zf_Gai_57 d_Gai_take_99 (fun H locs hR hS => ?_)
      refine lv_iconst (v := 1) hx hb d_Gai_take_102 (by decide) ?_
      refine W.widen (k := 2) (n := 16) (by decide) (by decide) ?_
      rw [if_pos rfl, if_pos rfl, if_pos rfl]
      have eM : M = M ++ s_acQ g 8 c b aq := by simp [s_acQ]
      have eG : up2 (up2 (up2 g 9 (4 * c + b) v) 10 (4 * c + b) ((g 10 (4 * c + b)) + (nI nb))) 8 (4 * c + b) (nI 5) = s_tkG g 8 c b v nb := by simp [s_tkG, s_acG, hg8, nl_0, nl_1, nl_2, nl_3, nl_4, nl_5, nl_6, nl_7, nl_8, nl_9, nl_10, h1, h2]
      rw [eG, eM] at hR
      exact x_iret (nw := []) E (by rw [List.append_nil]; exact hR) hS rfl rfl d_Gai_take_103
    · refine lv_aload_n hx hb d_Gai_take_65 rfl (lv_at hl 1 rfl) ?_
      refine xg_Line E hC hR (show vl N 11 (4 * c + b) from (show 4 * c + b < 4 * N by omega)) 3 (by decide) zf_Gai_38 rfl d_Gai_take_66 ?_
      refine xg_Chart E hC hR 2 (by decide) zf_Gai_42 rfl d_Gai_take_69 ?_
      refine lv_goto (tgt := 99) hx hb d_Gai_take_72 (by decide) ?_
      refine xp_Line_mode E hC hR hS (show vl N 11 (4 * c + b) from (show 4 * c + b < 4 * N by omega)) (q := 2) (by omega) zf_Gai_57 d_Gai_take_99 (fun H locs hR hS => ?_)
      refine lv_iconst (v := 1) hx hb d_Gai_take_102 (by decide) ?_
      refine W.widen (k := 2) (n := 16) (by decide) (by decide) ?_
      rw [if_pos rfl, if_pos rfl, if_pos rfl]
      have eM : M = M ++ s_acQ g 8 c b aq := by simp [s_acQ]
      have eG : up2 (up2 (up2 g 9 (4 * c + b) v) 10 (4 * c + b) ((g 10 (4 * c + b)) + (nI nb))) 8 (4 * c + b) (nI 2) = s_tkG g 8 c b v nb := by simp [s_tkG, s_acG, hg8, nl_0, nl_1, nl_2, nl_3, nl_4, nl_5, nl_6, nl_7, nl_8, nl_9, nl_10, h1]
      rw [eG, eM] at hR
      exact x_iret (nw := []) E (by rw [List.append_nil]; exact hR) hS rfl rfl d_Gai_take_103
  · have hs9 : s_stalls g (9, fr, c, b, v, nb, aq) = 0 := by simp [s_stalls, hc4]
    rw [hs9]
    have hg8 : g 8 (4 * c + b) = 4 := hst
    refine lv_aload_n hx hb d_Gai_take_0 rfl (lv_at hl 2 rfl) ?_
    refine xg_Msg E hC hR hq hz 0 (by decide) zf_Gai_13 rfl d_Gai_take_1 ?_
    refine xc_R (av := [.ref (eA 0 9)]) (xrunU (As := []) (rest := []) E hA hC hR hS (c_ord_Kind l D dA eA ad A N g M as sp (by decide)) (va_recvE hC.2.1 (by decide) hS) gu_Gai_19 hC.2.2.2.2.2.2.2.1.2 (by decide +kernel) ⟨rfl, rfl⟩ ⟨Nat.le_of_ble_eq_true rfl, Nat.le_of_ble_eq_true rfl⟩ rfl (lv_sub hl [] rfl) rfl (Nat.le_of_ble_eq_true rfl) ⟨Nat.le_of_ble_eq_true rfl, Nat.le_of_ble_eq_true rfl⟩ d_Gai_take_4) ?_
    refine lv_tableIn (off := 97) (tgt := 104) hx hb d_Gai_take_7 (by decide) (by decide) (by decide) (by decide) ?_
    refine lv_aload_n hx hb d_Gai_take_104 rfl (lv_at hl 1 rfl) ?_
    refine lv_dup hx hb d_Gai_take_105 rfl ?_
    refine xg_Line E hC hR (show vl N 11 (4 * c + b) from (show 4 * c + b < 4 * N by omega)) 6 (by decide) zf_Gai_32 rfl d_Gai_take_106 ?_
    refine lv_iconst (v := 1) hx hb d_Gai_take_109 (by decide) ?_
    refine lv_isub hx hb d_Gai_take_110 ?_
    refine xp_Line_count E hC hR hS (show vl N 11 (4 * c + b) from (show 4 * c + b < 4 * N by omega)) zf_Gai_32 d_Gai_take_111 (fun H locs hR hS => ?_)
    refine lv_aload_n hx hb d_Gai_take_114 rfl (lv_at hl 0 rfl) ?_
    refine x_get (s0 := 3) (i0 := 4) (ci := 7) (C := R_Gai) (T := F_Gai) (Nn := 3) (v := .int 0) E hC hR (show vl N 3 4 from (by decide : 4 < 11)) rfl rfl i_Gai 2 (by decide) zf_Gai_7 (fun _ h => h) rfl d_Gai_take_115 ?_
    refine lv_if_eq (tgt := 139) hx hb d_Gai_take_118 (by decide) (fun h3 => ?_) (fun h3 => absurd (by decide) h3)
    refine lv_iconst (v := 1) hx hb d_Gai_take_139 (by decide) ?_
    refine W.widen (k := 2) (n := 16) (by decide) (by decide) ?_
    rw [if_pos rfl, if_pos rfl, if_pos rfl]
    have eM : M = M ++ s_acQ g 9 c b aq := by simp [s_acQ]
    have eG : up2 g 10 (4 * c + b) ((g 10 (4 * c + b)) - 1) = s_tkG g 9 c b v nb := by rw [s_tkG, if_neg (by decide), s_acG, if_neg (by decide), if_pos rfl, if_neg (by rw [hg8]; decide), if_neg (by rw [hg8]; decide)]; exact (up2_same rfl).symm
    rw [eG, eM] at hR
    exact x_iret (nw := []) E (by rw [List.append_nil]; exact hR) hS rfl rfl d_Gai_take_140
  · obtain ⟨a, ha4, rfl⟩ := ha (by decide)
    have hs9 : s_stalls g (4, fr, c, b, v, nb, a + 1) = 1 := by
      simp only [s_stalls]
      rw [hst, if_neg hc4]
      decide
    rw [hs9]
    have hg8 : g 8 (4 * c + b) = 4 := hst
    refine lv_aload_n hx hb d_Gai_take_0 rfl (lv_at hl 2 rfl) ?_
    refine xg_Msg E hC hR hq hz 0 (by decide) zf_Gai_13 rfl d_Gai_take_1 ?_
    refine xc_R (av := [.ref (eA 0 4)]) (xrunU (As := []) (rest := []) E hA hC hR hS (c_ord_Kind l D dA eA ad A N g M as sp (by decide)) (va_recvE hC.2.1 (by decide) hS) gu_Gai_19 hC.2.2.2.2.2.2.2.1.2 (by decide +kernel) ⟨rfl, rfl⟩ ⟨Nat.le_of_ble_eq_true rfl, Nat.le_of_ble_eq_true rfl⟩ rfl (lv_sub hl [] rfl) rfl (Nat.le_of_ble_eq_true rfl) ⟨Nat.le_of_ble_eq_true rfl, Nat.le_of_ble_eq_true rfl⟩ d_Gai_take_4) ?_
    refine lv_tableOut (tgt := 159) hx hb d_Gai_take_7 (by decide) (by decide) ?_
    refine lv_iconst (v := 0) hx hb d_Gai_take_159 (by decide) ?_
    refine W.widen (k := 2) (n := 16) (by decide) (by decide) ?_
    rw [if_neg (by decide), if_neg (by decide), if_neg (by decide)]
    exact x_iret (nw := []) E (by rw [List.append_nil]; exact hR) hS rfl rfl d_Gai_take_160
  · obtain ⟨a, ha4, rfl⟩ := ha (by decide)
    have hs9 : s_stalls g (5, fr, c, b, v, nb, a + 1) = 1 := by
      simp only [s_stalls]
      rw [hst, if_neg hc4]
      decide
    rw [hs9]
    have hg8 : g 8 (4 * c + b) = 4 := hst
    refine lv_aload_n hx hb d_Gai_take_0 rfl (lv_at hl 2 rfl) ?_
    refine xg_Msg E hC hR hq hz 0 (by decide) zf_Gai_13 rfl d_Gai_take_1 ?_
    refine xc_R (av := [.ref (eA 0 5)]) (xrunU (As := []) (rest := []) E hA hC hR hS (c_ord_Kind l D dA eA ad A N g M as sp (by decide)) (va_recvE hC.2.1 (by decide) hS) gu_Gai_19 hC.2.2.2.2.2.2.2.1.2 (by decide +kernel) ⟨rfl, rfl⟩ ⟨Nat.le_of_ble_eq_true rfl, Nat.le_of_ble_eq_true rfl⟩ rfl (lv_sub hl [] rfl) rfl (Nat.le_of_ble_eq_true rfl) ⟨Nat.le_of_ble_eq_true rfl, Nat.le_of_ble_eq_true rfl⟩ d_Gai_take_4) ?_
    refine lv_tableOut (tgt := 159) hx hb d_Gai_take_7 (by decide) (by decide) ?_
    refine lv_iconst (v := 0) hx hb d_Gai_take_159 (by decide) ?_
    refine W.widen (k := 2) (n := 16) (by decide) (by decide) ?_
    rw [if_neg (by decide), if_neg (by decide), if_neg (by decide)]
    exact x_iret (nw := []) E (by rw [List.append_nil]; exact hR) hS rfl rfl d_Gai_take_160
  · have hs9 : s_stalls g (9, fr, c, b, v, nb, aq) = 0 := by simp [s_stalls, hc4]
    rw [hs9]
    have hg8 : g 8 (4 * c + b) = 5 := hst
    refine lv_aload_n hx hb d_Gai_take_0 rfl (lv_at hl 2 rfl) ?_
    refine xg_Msg E hC hR hq hz 0 (by decide) zf_Gai_13 rfl d_Gai_take_1 ?_
    refine xc_R (av := [.ref (eA 0 9)]) (xrunU (As := []) (rest := []) E hA hC hR hS (c_ord_Kind l D dA eA ad A N g M as sp (by decide)) (va_recvE hC.2.1 (by decide) hS) gu_Gai_19 hC.2.2.2.2.2.2.2.1.2 (by decide +kernel) ⟨rfl, rfl⟩ ⟨Nat.le_of_ble_eq_true rfl, Nat.le_of_ble_eq_true rfl⟩ rfl (lv_sub hl [] rfl) rfl (Nat.le_of_ble_eq_true rfl) ⟨Nat.le_of_ble_eq_true rfl, Nat.le_of_ble_eq_true rfl⟩ d_Gai_take_4) ?_
    refine lv_tableIn (off := 97) (tgt := 104) hx hb d_Gai_take_7 (by decide) (by decide) (by decide) (by decide) ?_
    refine lv_aload_n hx hb d_Gai_take_104 rfl (lv_at hl 1 rfl) ?_
    refine lv_dup hx hb d_Gai_take_105 rfl ?_
    refine xg_Line E hC hR (show vl N 11 (4 * c + b) from (show 4 * c + b < 4 * N by omega)) 6 (by decide) zf_Gai_32 rfl d_Gai_take_106 ?_
    refine lv_iconst (v := 1) hx hb d_Gai_take_109 (by decide) ?_
    refine lv_isub hx hb d_Gai_take_110 ?_
    refine xp_Line_count E hC hR hS (show vl N 11 (4 * c + b) from (show 4 * c + b < 4 * N by omega)) zf_Gai_32 d_Gai_take_111 (fun H locs hR hS => ?_)
    refine lv_aload_n hx hb d_Gai_take_114 rfl (lv_at hl 0 rfl) ?_
    refine x_get (s0 := 3) (i0 := 5) (ci := 7) (C := R_Gai) (T := F_Gai) (Nn := 3) (v := .int 1) E hC hR (show vl N 3 5 from (by decide : 5 < 11)) rfl rfl i_Gai 2 (by decide) zf_Gai_7 (fun _ h => h) rfl d_Gai_take_115 ?_
    refine lv_if_eq (tgt := 139) hx hb d_Gai_take_118 (by decide) (fun h4 => absurd h4 (by decide)) (fun h4 => ?_)
    refine lv_aload_n hx hb d_Gai_take_121 rfl (lv_at hl 1 rfl) ?_
    refine xg_Line E hC hR (show vl N 11 (4 * c + b) from (show 4 * c + b < 4 * N by omega)) 6 (by decide) zf_Gai_32 rfl d_Gai_take_122 ?_
    refine wn_eq (y := (g 10 (4 * c + b)) - 1) (by simp [up2, upd, snd]) ?_
    refine lv_if_ne (tgt := 139) hx hb d_Gai_take_125 (by decide) (fun h5 => ?_) (fun h5 => ?_)
    · refine lv_iconst (v := 1) hx hb d_Gai_take_139 (by decide) ?_
      refine W.widen (k := 2) (n := 16) (by decide) (by decide) ?_
      rw [if_pos rfl, if_pos rfl, if_pos rfl]
      have eM : M = M ++ s_acQ g 9 c b aq := by simp [s_acQ]
      have eG : up2 g 10 (4 * c + b) ((g 10 (4 * c + b)) - 1) = s_tkG g 9 c b v nb := by rw [s_tkG, if_neg (by decide), s_acG, if_neg (by decide), if_pos rfl, if_pos hg8, if_neg h5]; exact (up2_same rfl).symm
      rw [eG, eM] at hR
      exact x_iret (nw := []) E (by rw [List.append_nil]; exact hR) hS rfl rfl d_Gai_take_140
    · refine lv_aload_n hx hb d_Gai_take_128 rfl (lv_at hl 1 rfl) ?_
      refine lv_aload_n hx hb d_Gai_take_129 rfl (lv_at hl 1 rfl) ?_
      refine xg_Line E hC hR (show vl N 11 (4 * c + b) from (show 4 * c + b < 4 * N by omega)) 3 (by decide) zf_Gai_38 rfl d_Gai_take_130 ?_
      refine xg_Chart E hC hR 2 (by decide) zf_Gai_42 rfl d_Gai_take_133 ?_
      refine xp_Line_mode E hC hR hS (show vl N 11 (4 * c + b) from (show 4 * c + b < 4 * N by omega)) (q := 2) (by omega) zf_Gai_57 d_Gai_take_136 (fun H locs hR hS => ?_)
      refine lv_iconst (v := 1) hx hb d_Gai_take_139 (by decide) ?_
      refine W.widen (k := 2) (n := 16) (by decide) (by decide) ?_
      rw [if_pos rfl, if_pos rfl, if_pos rfl]
      have eM : M = M ++ s_acQ g 9 c b aq := by simp [s_acQ]
      have eG : up2 (up2 g 10 (4 * c + b) ((g 10 (4 * c + b)) - 1)) 8 (4 * c + b) (nI 2) = s_tkG g 9 c b v nb := by rw [s_tkG, if_neg (by decide), s_acG, if_neg (by decide), if_pos rfl, if_pos hg8, if_pos h5]; rfl
      rw [eG, eM] at hR
      exact x_iret (nw := []) E (by rw [List.append_nil]; exact hR) hS rfl rfl d_Gai_take_140
  · obtain ⟨a, ha4, rfl⟩ := ha (by decide)
    have hs9 : s_stalls g (4, fr, c, b, v, nb, a + 1) = 1 := by
      simp only [s_stalls]
      rw [hst, if_neg hc4]
      decide
    rw [hs9]
    have hg8 : g 8 (4 * c + b) = 5 := hst
    refine lv_aload_n hx hb d_Gai_take_0 rfl (lv_at hl 2 rfl) ?_
    refine xg_Msg E hC hR hq hz 0 (by decide) zf_Gai_13 rfl d_Gai_take_1 ?_
    refine xc_R (av := [.ref (eA 0 4)]) (xrunU (As := []) (rest := []) E hA hC hR hS (c_ord_Kind l D dA eA ad A N g M as sp (by decide)) (va_recvE hC.2.1 (by decide) hS) gu_Gai_19 hC.2.2.2.2.2.2.2.1.2 (by decide +kernel) ⟨rfl, rfl⟩ ⟨Nat.le_of_ble_eq_true rfl, Nat.le_of_ble_eq_true rfl⟩ rfl (lv_sub hl [] rfl) rfl (Nat.le_of_ble_eq_true rfl) ⟨Nat.le_of_ble_eq_true rfl, Nat.le_of_ble_eq_true rfl⟩ d_Gai_take_4) ?_
    refine lv_tableOut (tgt := 159) hx hb d_Gai_take_7 (by decide) (by decide) ?_
    refine lv_iconst (v := 0) hx hb d_Gai_take_159 (by decide) ?_
    refine W.widen (k := 2) (n := 16) (by decide) (by decide) ?_
    rw [if_neg (by decide), if_neg (by decide), if_neg (by decide)]
    exact x_iret (nw := []) E (by rw [List.append_nil]; exact hR) hS rfl rfl d_Gai_take_160
  · obtain ⟨a, ha4, rfl⟩ := ha (by decide)
    have hs9 : s_stalls g (5, fr, c, b, v, nb, a + 1) = 1 := by
      simp only [s_stalls]
      rw [hst, if_neg hc4]
      decide
    rw [hs9]
    have hg8 : g 8 (4 * c + b) = 5 := hst
    refine lv_aload_n hx hb d_Gai_take_0 rfl (lv_at hl 2 rfl) ?_
    refine xg_Msg E hC hR hq hz 0 (by decide) zf_Gai_13 rfl d_Gai_take_1 ?_
    refine xc_R (av := [.ref (eA 0 5)]) (xrunU (As := []) (rest := []) E hA hC hR hS (c_ord_Kind l D dA eA ad A N g M as sp (by decide)) (va_recvE hC.2.1 (by decide) hS) gu_Gai_19 hC.2.2.2.2.2.2.2.1.2 (by decide +kernel) ⟨rfl, rfl⟩ ⟨Nat.le_of_ble_eq_true rfl, Nat.le_of_ble_eq_true rfl⟩ rfl (lv_sub hl [] rfl) rfl (Nat.le_of_ble_eq_true rfl) ⟨Nat.le_of_ble_eq_true rfl, Nat.le_of_ble_eq_true rfl⟩ d_Gai_take_4) ?_
    refine lv_tableOut (tgt := 159) hx hb d_Gai_take_7 (by decide) (by decide) ?_
    refine lv_iconst (v := 0) hx hb d_Gai_take_159 (by decide) ?_
    refine W.widen (k := 2) (n := 16) (by decide) (by decide) ?_
    rw [if_neg (by decide), if_neg (by decide), if_neg (by decide)]
    exact x_iret (nw := []) E (by rw [List.append_nil]; exact hR) hS rfl rfl d_Gai_take_160
  · have hs9 : s_stalls g (8, fr, c, b, v, nb, aq) = 0 := by simp [s_stalls, hc4]
    rw [hs9]
    have hg8 : g 8 (4 * c + b) = 6 := hst
    refine lv_aload_n hx hb d_Gai_take_0 rfl (lv_at hl 2 rfl) ?_
    refine xg_Msg E hC hR hq hz 0 (by decide) zf_Gai_13 rfl d_Gai_take_1 ?_
    refine xc_R (av := [.ref (eA 0 8)]) (xrunU (As := []) (rest := []) E hA hC hR hS (c_ord_Kind l D dA eA ad A N g M as sp (by decide)) (va_recvE hC.2.1 (by decide) hS) gu_Gai_19 hC.2.2.2.2.2.2.2.1.2 (by decide +kernel) ⟨rfl, rfl⟩ ⟨Nat.le_of_ble_eq_true rfl, Nat.le_of_ble_eq_true rfl⟩ rfl (lv_sub hl [] rfl) rfl (Nat.le_of_ble_eq_true rfl) ⟨Nat.le_of_ble_eq_true rfl, Nat.le_of_ble_eq_true rfl⟩ d_Gai_take_4) ?_
    refine lv_tableIn (off := 29) (tgt := 36) hx hb d_Gai_take_7 (by decide) (by decide) (by decide) (by decide) ?_
    refine lv_aload_n hx hb d_Gai_take_36 rfl (lv_at hl 1 rfl) ?_
    refine lv_aload_n hx hb d_Gai_take_37 rfl (lv_at hl 2 rfl) ?_
    refine xg_Msg E hC hR hq hz 4 (by decide) zf_Gai_25 rfl d_Gai_take_38 ?_
    refine xp_Line_word E hC hR hS (show vl N 11 (4 * c + b) from (show 4 * c + b < 4 * N by omega)) zf_Gai_29 d_Gai_take_41 (fun H locs hR hS => ?_)
    refine lv_aload_n hx hb d_Gai_take_44 rfl (lv_at hl 1 rfl) ?_
    refine lv_dup hx hb d_Gai_take_45 rfl ?_
    refine xg_Line E hC hR (show vl N 11 (4 * c + b) from (show 4 * c + b < 4 * N by omega)) 6 (by decide) zf_Gai_32 rfl d_Gai_take_46 ?_
    refine wn_eq (y := g 10 (4 * c + b)) (by simp [up2, upd, snd]) ?_
    refine lv_aload_n hx hb d_Gai_take_49 rfl (lv_at hl 2 rfl) ?_
    refine xg_Msg E hC hR hq hz 5 (by decide) zf_Gai_35 rfl d_Gai_take_50 ?_
    refine lv_iadd hx hb d_Gai_take_53 ?_
    refine xp_Line_count E hC hR hS (show vl N 11 (4 * c + b) from (show 4 * c + b < 4 * N by omega)) zf_Gai_32 d_Gai_take_54 (fun H locs hR hS => ?_)
    refine lv_aload_n hx hb d_Gai_take_57 rfl (lv_at hl 1 rfl) ?_
    refine lv_aload_n hx hb d_Gai_take_58 rfl (lv_at hl 1 rfl) ?_
    refine xg_Line E hC hR (show vl N 11 (4 * c + b) from (show 4 * c + b < 4 * N by omega)) 6 (by decide) zf_Gai_32 rfl d_Gai_take_59 ?_
    refine wn_eq (y := (g 10 (4 * c + b)) + (nI nb)) (by simp [up2, upd, snd]) ?_
    refine lv_if_ne (tgt := 75) hx hb d_Gai_take_62 (by decide) (fun h6 => ?_) (fun h6 => ?_)
    · refine lv_aload_n hx hb d_Gai_take_75 rfl (lv_at hl 0 rfl) ?_
      refine x_get (s0 := 3) (i0 := 6) (ci := 7) (C := R_Gai) (T := F_Gai) (Nn := 3) (v := .int 1) E hC hR (show vl N 3 6 from (by decide : 6 < 11)) rfl rfl i_Gai 1 (by decide) zf_Gai_48 (gai_same (E.2.2.2.2.1 _ zF_Gai_holds)) rfl d_Gai_take_76 ?_
      refine lv_if_eq (tgt := 92) hx hb d_Gai_take_79 (by decide) (fun h7 => absurd h7 (by decide)) (fun h7 => ?_)
      refine lv_aload_n hx hb d_Gai_take_82 rfl (lv_at hl 1 rfl) ?_
      refine xg_Line E hC hR (show vl N 11 (4 * c + b) from (show 4 * c + b < 4 * N by omega)) 3 (by decide) zf_Gai_38 rfl d_Gai_take_83 ?_
      refine xg_Chart E hC hR 7 (by decide) zf_Gai_51 rfl d_Gai_take_86 ?_
      refine lv_goto (tgt := 99) hx hb d_Gai_take_89 (by decide) ?_
      refine xp_Line_mode E hC hR hS (show vl N 11 (4 * c + b) from (show 4 * c + b < 4 * N by omega)) (q := 7) (by omega) zf_Gai_57 d_Gai_take_99 (fun H locs hR hS => ?_)
      refine lv_iconst (v := 1) hx hb d_Gai_take_102 (by decide) ?_
      refine W.widen (k := 2) (n := 16) (by decide) (by decide) ?_
      rw [if_pos rfl, if_pos rfl, if_pos rfl]
      have eM : M = M ++ s_acQ g 8 c b aq := by simp [s_acQ]
      have eG : up2 (up2 (up2 g 9 (4 * c + b) v) 10 (4 * c + b) ((g 10 (4 * c + b)) + (nI nb))) 8 (4 * c + b) (nI 7) = s_tkG g 8 c b v nb := by simp [s_tkG, s_acG, hg8, nl_0, nl_1, nl_2, nl_3, nl_4, nl_5, nl_6, nl_7, nl_8, nl_9, nl_10, h6, h7]
      rw [eG, eM] at hR
      exact x_iret (nw := []) E (by rw [List.append_nil]; exact hR) hS rfl rfl d_Gai_take_103
    · refine lv_aload_n hx hb d_Gai_take_65 rfl (lv_at hl 1 rfl) ?_
      refine xg_Line E hC hR (show vl N 11 (4 * c + b) from (show 4 * c + b < 4 * N by omega)) 3 (by decide) zf_Gai_38 rfl d_Gai_take_66 ?_
      refine xg_Chart E hC hR 2 (by decide) zf_Gai_42 rfl d_Gai_take_69 ?_
      refine lv_goto (tgt := 99) hx hb d_Gai_take_72 (by decide) ?_
      refine xp_Line_mode E hC hR hS (show vl N 11 (4 * c + b) from (show 4 * c + b < 4 * N by omega)) (q := 2) (by omega) zf_Gai_57 d_Gai_take_99 (fun H locs hR hS => ?_)
      refine lv_iconst (v := 1) hx hb d_Gai_take_102 (by decide) ?_
      refine W.widen (k := 2) (n := 16) (by decide) (by decide) ?_
      rw [if_pos rfl, if_pos rfl, if_pos rfl]
      have eM : M = M ++ s_acQ g 8 c b aq := by simp [s_acQ]
      have eG : up2 (up2 (up2 g 9 (4 * c + b) v) 10 (4 * c + b) ((g 10 (4 * c + b)) + (nI nb))) 8 (4 * c + b) (nI 2) = s_tkG g 8 c b v nb := by simp [s_tkG, s_acG, hg8, nl_0, nl_1, nl_2, nl_3, nl_4, nl_5, nl_6, nl_7, nl_8, nl_9, nl_10, h6]
      rw [eG, eM] at hR
      exact x_iret (nw := []) E (by rw [List.append_nil]; exact hR) hS rfl rfl d_Gai_take_103
  · have hs9 : s_stalls g (9, fr, c, b, v, nb, aq) = 0 := by simp [s_stalls, hc4]
    rw [hs9]
    have hg8 : g 8 (4 * c + b) = 6 := hst
    refine lv_aload_n hx hb d_Gai_take_0 rfl (lv_at hl 2 rfl) ?_
    refine xg_Msg E hC hR hq hz 0 (by decide) zf_Gai_13 rfl d_Gai_take_1 ?_
    refine xc_R (av := [.ref (eA 0 9)]) (xrunU (As := []) (rest := []) E hA hC hR hS (c_ord_Kind l D dA eA ad A N g M as sp (by decide)) (va_recvE hC.2.1 (by decide) hS) gu_Gai_19 hC.2.2.2.2.2.2.2.1.2 (by decide +kernel) ⟨rfl, rfl⟩ ⟨Nat.le_of_ble_eq_true rfl, Nat.le_of_ble_eq_true rfl⟩ rfl (lv_sub hl [] rfl) rfl (Nat.le_of_ble_eq_true rfl) ⟨Nat.le_of_ble_eq_true rfl, Nat.le_of_ble_eq_true rfl⟩ d_Gai_take_4) ?_
    refine lv_tableIn (off := 97) (tgt := 104) hx hb d_Gai_take_7 (by decide) (by decide) (by decide) (by decide) ?_
    refine lv_aload_n hx hb d_Gai_take_104 rfl (lv_at hl 1 rfl) ?_
    refine lv_dup hx hb d_Gai_take_105 rfl ?_
    refine xg_Line E hC hR (show vl N 11 (4 * c + b) from (show 4 * c + b < 4 * N by omega)) 6 (by decide) zf_Gai_32 rfl d_Gai_take_106 ?_
    refine lv_iconst (v := 1) hx hb d_Gai_take_109 (by decide) ?_
    refine lv_isub hx hb d_Gai_take_110 ?_
    refine xp_Line_count E hC hR hS (show vl N 11 (4 * c + b) from (show 4 * c + b < 4 * N by omega)) zf_Gai_32 d_Gai_take_111 (fun H locs hR hS => ?_)
    refine lv_aload_n hx hb d_Gai_take_114 rfl (lv_at hl 0 rfl) ?_
    refine x_get (s0 := 3) (i0 := 6) (ci := 7) (C := R_Gai) (T := F_Gai) (Nn := 3) (v := .int 0) E hC hR (show vl N 3 6 from (by decide : 6 < 11)) rfl rfl i_Gai 2 (by decide) zf_Gai_7 (fun _ h => h) rfl d_Gai_take_115 ?_
    refine lv_if_eq (tgt := 139) hx hb d_Gai_take_118 (by decide) (fun h8 => ?_) (fun h8 => absurd (by decide) h8)
    refine lv_iconst (v := 1) hx hb d_Gai_take_139 (by decide) ?_
    refine W.widen (k := 2) (n := 16) (by decide) (by decide) ?_
    rw [if_pos rfl, if_pos rfl, if_pos rfl]
    have eM : M = M ++ s_acQ g 9 c b aq := by simp [s_acQ]
    have eG : up2 g 10 (4 * c + b) ((g 10 (4 * c + b)) - 1) = s_tkG g 9 c b v nb := by rw [s_tkG, if_neg (by decide), s_acG, if_neg (by decide), if_pos rfl, if_neg (by rw [hg8]; decide), if_neg (by rw [hg8]; decide)]; exact (up2_same rfl).symm
    rw [eG, eM] at hR
    exact x_iret (nw := []) E (by rw [List.append_nil]; exact hR) hS rfl rfl d_Gai_take_140
  · obtain ⟨a, ha4, rfl⟩ := ha (by decide)
    have hs9 : s_stalls g (6, fr, c, b, v, nb, a + 1) = 0 := by
      simp only [s_stalls]
      rw [hst, if_neg hc4]
      decide
    rw [hs9]
    have hg8 : g 8 (4 * c + b) = 6 := hst
    refine lv_aload_n hx hb d_Gai_take_0 rfl (lv_at hl 2 rfl) ?_
    refine xg_Msg E hC hR hq hz 0 (by decide) zf_Gai_13 rfl d_Gai_take_1 ?_
    refine xc_R (av := [.ref (eA 0 6)]) (xrunU (As := []) (rest := []) E hA hC hR hS (c_ord_Kind l D dA eA ad A N g M as sp (by decide)) (va_recvE hC.2.1 (by decide) hS) gu_Gai_19 hC.2.2.2.2.2.2.2.1.2 (by decide +kernel) ⟨rfl, rfl⟩ ⟨Nat.le_of_ble_eq_true rfl, Nat.le_of_ble_eq_true rfl⟩ rfl (lv_sub hl [] rfl) rfl (Nat.le_of_ble_eq_true rfl) ⟨Nat.le_of_ble_eq_true rfl, Nat.le_of_ble_eq_true rfl⟩ d_Gai_take_4) ?_
    refine lv_tableIn (off := 134) (tgt := 141) hx hb d_Gai_take_7 (by decide) (by decide) (by decide) (by decide) ?_
    refine lv_aload_n hx hb d_Gai_take_141 rfl (lv_at hl 1 rfl) ?_
    refine lv_aload_n hx hb d_Gai_take_142 rfl (lv_at hl 2 rfl) ?_
    refine xc_v (av := [.ref (ad 11 (4 * c + b)), .ref q]) (xrunV (As := [.ref q]) (rest := []) E hA hC hR hS (c_Line_answer l D dA eA ad A N g M as sp c b hc hN4 hb4 j q 6 fr c b v nb a hq hz) (x_recv hC hR (s0 := 11) (i0 := 4 * c + b) (show vl N 11 (4 * c + b) from (show 4 * c + b < 4 * N by omega)) rfl rfl) ck_Gai_60 ⟨rfl, rfl⟩ ⟨Nat.le_of_ble_eq_true rfl, Nat.le_of_ble_eq_true rfl⟩ rfl (lv_sub hl [] rfl) rfl (Nat.le_of_ble_eq_true rfl) ⟨Nat.le_of_ble_eq_true rfl, Nat.le_of_ble_eq_true rfl⟩ d_Gai_take_143) hS (fun H locs nw1 sp1 hR hS => ?_)
    refine W.widen (k := 1) (n := 8) (by decide) (by decide) ?_
    refine lv_aload_n hx hb d_Gai_take_146 rfl (lv_at hl 1 rfl) ?_
    refine lv_aload_n hx hb d_Gai_take_147 rfl (lv_at hl 1 rfl) ?_
    refine xg_Line E hC hR (show vl N 11 (4 * c + b) from (show 4 * c + b < 4 * N by omega)) 3 (by decide) zf_Gai_38 rfl d_Gai_take_148 ?_
    refine xg_Chart E hC hR 4 (by decide) zf_Gai_64 rfl d_Gai_take_151 ?_
    refine xp_Line_mode E hC hR hS (show vl N 11 (4 * c + b) from (show 4 * c + b < 4 * N by omega)) (q := 4) (by omega) zf_Gai_57 d_Gai_take_154 (fun H locs hR hS => ?_)
    refine lv_iconst (v := 1) hx hb d_Gai_take_157 (by decide) ?_
    refine W.widen (k := 2) (n := 16) (by decide) (by decide) ?_
    rw [if_pos rfl, if_pos rfl, if_pos rfl]
    have eM : M ++ [(9, c, a, b, 0, 0, 0)] = M ++ s_acQ g 6 c b (a + 1) := by simp [s_acQ]
    have eG : up2 (snd g) 8 (4 * c + b) (nI 4) = s_tkG g 6 c b v nb := by simp [s_tkG, s_acG, hg8, nl_0, nl_1, nl_2, nl_3, nl_4, nl_5, nl_6, nl_7, nl_8, nl_9, nl_10]
    rw [eG, eM] at hR
    exact x_iret (nw := nw1) E hR hS rfl rfl d_Gai_take_158
  · obtain ⟨a, ha4, rfl⟩ := ha (by decide)
    have hs9 : s_stalls g (4, fr, c, b, v, nb, a + 1) = 1 := by
      simp only [s_stalls]
      rw [hst, if_neg hc4]
      decide
    rw [hs9]
    have hg8 : g 8 (4 * c + b) = 6 := hst
    refine lv_aload_n hx hb d_Gai_take_0 rfl (lv_at hl 2 rfl) ?_
    refine xg_Msg E hC hR hq hz 0 (by decide) zf_Gai_13 rfl d_Gai_take_1 ?_
    refine xc_R (av := [.ref (eA 0 4)]) (xrunU (As := []) (rest := []) E hA hC hR hS (c_ord_Kind l D dA eA ad A N g M as sp (by decide)) (va_recvE hC.2.1 (by decide) hS) gu_Gai_19 hC.2.2.2.2.2.2.2.1.2 (by decide +kernel) ⟨rfl, rfl⟩ ⟨Nat.le_of_ble_eq_true rfl, Nat.le_of_ble_eq_true rfl⟩ rfl (lv_sub hl [] rfl) rfl (Nat.le_of_ble_eq_true rfl) ⟨Nat.le_of_ble_eq_true rfl, Nat.le_of_ble_eq_true rfl⟩ d_Gai_take_4) ?_
    refine lv_tableOut (tgt := 159) hx hb d_Gai_take_7 (by decide) (by decide) ?_
    refine lv_iconst (v := 0) hx hb d_Gai_take_159 (by decide) ?_
    refine W.widen (k := 2) (n := 16) (by decide) (by decide) ?_
    rw [if_neg (by decide), if_neg (by decide), if_neg (by decide)]
    exact x_iret (nw := []) E (by rw [List.append_nil]; exact hR) hS rfl rfl d_Gai_take_160
  · obtain ⟨a, ha4, rfl⟩ := ha (by decide)
    have hs9 : s_stalls g (5, fr, c, b, v, nb, a + 1) = 1 := by
      simp only [s_stalls]
      rw [hst, if_neg hc4]
      decide
    rw [hs9]
    have hg8 : g 8 (4 * c + b) = 6 := hst
    refine lv_aload_n hx hb d_Gai_take_0 rfl (lv_at hl 2 rfl) ?_
    refine xg_Msg E hC hR hq hz 0 (by decide) zf_Gai_13 rfl d_Gai_take_1 ?_
    refine xc_R (av := [.ref (eA 0 5)]) (xrunU (As := []) (rest := []) E hA hC hR hS (c_ord_Kind l D dA eA ad A N g M as sp (by decide)) (va_recvE hC.2.1 (by decide) hS) gu_Gai_19 hC.2.2.2.2.2.2.2.1.2 (by decide +kernel) ⟨rfl, rfl⟩ ⟨Nat.le_of_ble_eq_true rfl, Nat.le_of_ble_eq_true rfl⟩ rfl (lv_sub hl [] rfl) rfl (Nat.le_of_ble_eq_true rfl) ⟨Nat.le_of_ble_eq_true rfl, Nat.le_of_ble_eq_true rfl⟩ d_Gai_take_4) ?_
    refine lv_tableOut (tgt := 159) hx hb d_Gai_take_7 (by decide) (by decide) ?_
    refine lv_iconst (v := 0) hx hb d_Gai_take_159 (by decide) ?_
    refine W.widen (k := 2) (n := 16) (by decide) (by decide) ?_
    rw [if_neg (by decide), if_neg (by decide), if_neg (by decide)]
    exact x_iret (nw := []) E (by rw [List.append_nil]; exact hR) hS rfl rfl d_Gai_take_160
  · have hs9 : s_stalls g (9, fr, c, b, v, nb, aq) = 0 := by simp [s_stalls, hc4]
    rw [hs9]
    have hg8 : g 8 (4 * c + b) = 7 := hst
    refine lv_aload_n hx hb d_Gai_take_0 rfl (lv_at hl 2 rfl) ?_
    refine xg_Msg E hC hR hq hz 0 (by decide) zf_Gai_13 rfl d_Gai_take_1 ?_
    refine xc_R (av := [.ref (eA 0 9)]) (xrunU (As := []) (rest := []) E hA hC hR hS (c_ord_Kind l D dA eA ad A N g M as sp (by decide)) (va_recvE hC.2.1 (by decide) hS) gu_Gai_19 hC.2.2.2.2.2.2.2.1.2 (by decide +kernel) ⟨rfl, rfl⟩ ⟨Nat.le_of_ble_eq_true rfl, Nat.le_of_ble_eq_true rfl⟩ rfl (lv_sub hl [] rfl) rfl (Nat.le_of_ble_eq_true rfl) ⟨Nat.le_of_ble_eq_true rfl, Nat.le_of_ble_eq_true rfl⟩ d_Gai_take_4) ?_
    refine lv_tableIn (off := 97) (tgt := 104) hx hb d_Gai_take_7 (by decide) (by decide) (by decide) (by decide) ?_
    refine lv_aload_n hx hb d_Gai_take_104 rfl (lv_at hl 1 rfl) ?_
    refine lv_dup hx hb d_Gai_take_105 rfl ?_
    refine xg_Line E hC hR (show vl N 11 (4 * c + b) from (show 4 * c + b < 4 * N by omega)) 6 (by decide) zf_Gai_32 rfl d_Gai_take_106 ?_
    refine lv_iconst (v := 1) hx hb d_Gai_take_109 (by decide) ?_
    refine lv_isub hx hb d_Gai_take_110 ?_
    refine xp_Line_count E hC hR hS (show vl N 11 (4 * c + b) from (show 4 * c + b < 4 * N by omega)) zf_Gai_32 d_Gai_take_111 (fun H locs hR hS => ?_)
    refine lv_aload_n hx hb d_Gai_take_114 rfl (lv_at hl 0 rfl) ?_
    refine x_get (s0 := 3) (i0 := 7) (ci := 7) (C := R_Gai) (T := F_Gai) (Nn := 3) (v := .int 1) E hC hR (show vl N 3 7 from (by decide : 7 < 11)) rfl rfl i_Gai 2 (by decide) zf_Gai_7 (fun _ h => h) rfl d_Gai_take_115 ?_
    refine lv_if_eq (tgt := 139) hx hb d_Gai_take_118 (by decide) (fun h9 => absurd h9 (by decide)) (fun h9 => ?_)
    refine lv_aload_n hx hb d_Gai_take_121 rfl (lv_at hl 1 rfl) ?_
    refine xg_Line E hC hR (show vl N 11 (4 * c + b) from (show 4 * c + b < 4 * N by omega)) 6 (by decide) zf_Gai_32 rfl d_Gai_take_122 ?_
    refine wn_eq (y := (g 10 (4 * c + b)) - 1) (by simp [up2, upd, snd]) ?_
    refine lv_if_ne (tgt := 139) hx hb d_Gai_take_125 (by decide) (fun h10 => ?_) (fun h10 => ?_)
    · refine lv_iconst (v := 1) hx hb d_Gai_take_139 (by decide) ?_
      refine W.widen (k := 2) (n := 16) (by decide) (by decide) ?_
      rw [if_pos rfl, if_pos rfl, if_pos rfl]
      have eM : M = M ++ s_acQ g 9 c b aq := by simp [s_acQ]
      have eG : up2 g 10 (4 * c + b) ((g 10 (4 * c + b)) - 1) = s_tkG g 9 c b v nb := by rw [s_tkG, if_neg (by decide), s_acG, if_neg (by decide), if_pos rfl, if_neg (by rw [hg8]; decide), if_pos hg8, if_neg h10]; exact (up2_same rfl).symm
      rw [eG, eM] at hR
      exact x_iret (nw := []) E (by rw [List.append_nil]; exact hR) hS rfl rfl d_Gai_take_140
    · refine lv_aload_n hx hb d_Gai_take_128 rfl (lv_at hl 1 rfl) ?_
      refine lv_aload_n hx hb d_Gai_take_129 rfl (lv_at hl 1 rfl) ?_
      refine xg_Line E hC hR (show vl N 11 (4 * c + b) from (show 4 * c + b < 4 * N by omega)) 3 (by decide) zf_Gai_38 rfl d_Gai_take_130 ?_
      refine xg_Chart E hC hR 2 (by decide) zf_Gai_42 rfl d_Gai_take_133 ?_
      refine xp_Line_mode E hC hR hS (show vl N 11 (4 * c + b) from (show 4 * c + b < 4 * N by omega)) (q := 2) (by omega) zf_Gai_57 d_Gai_take_136 (fun H locs hR hS => ?_)
      refine lv_iconst (v := 1) hx hb d_Gai_take_139 (by decide) ?_
      refine W.widen (k := 2) (n := 16) (by decide) (by decide) ?_
      rw [if_pos rfl, if_pos rfl, if_pos rfl]
      have eM : M = M ++ s_acQ g 9 c b aq := by simp [s_acQ]
      have eG : up2 (up2 g 10 (4 * c + b) ((g 10 (4 * c + b)) - 1)) 8 (4 * c + b) (nI 2) = s_tkG g 9 c b v nb := by rw [s_tkG, if_neg (by decide), s_acG, if_neg (by decide), if_pos rfl, if_neg (by rw [hg8]; decide), if_pos hg8, if_pos h10]; rfl
      rw [eG, eM] at hR
      exact x_iret (nw := []) E (by rw [List.append_nil]; exact hR) hS rfl rfl d_Gai_take_140
  · obtain ⟨a, ha4, rfl⟩ := ha (by decide)
    have hs9 : s_stalls g (4, fr, c, b, v, nb, a + 1) = 1 := by
      simp only [s_stalls]
      rw [hst, if_neg hc4]
      decide
    rw [hs9]
    have hg8 : g 8 (4 * c + b) = 7 := hst
    refine lv_aload_n hx hb d_Gai_take_0 rfl (lv_at hl 2 rfl) ?_
    refine xg_Msg E hC hR hq hz 0 (by decide) zf_Gai_13 rfl d_Gai_take_1 ?_
    refine xc_R (av := [.ref (eA 0 4)]) (xrunU (As := []) (rest := []) E hA hC hR hS (c_ord_Kind l D dA eA ad A N g M as sp (by decide)) (va_recvE hC.2.1 (by decide) hS) gu_Gai_19 hC.2.2.2.2.2.2.2.1.2 (by decide +kernel) ⟨rfl, rfl⟩ ⟨Nat.le_of_ble_eq_true rfl, Nat.le_of_ble_eq_true rfl⟩ rfl (lv_sub hl [] rfl) rfl (Nat.le_of_ble_eq_true rfl) ⟨Nat.le_of_ble_eq_true rfl, Nat.le_of_ble_eq_true rfl⟩ d_Gai_take_4) ?_
    refine lv_tableOut (tgt := 159) hx hb d_Gai_take_7 (by decide) (by decide) ?_
    refine lv_iconst (v := 0) hx hb d_Gai_take_159 (by decide) ?_
    refine W.widen (k := 2) (n := 16) (by decide) (by decide) ?_
    rw [if_neg (by decide), if_neg (by decide), if_neg (by decide)]
    exact x_iret (nw := []) E (by rw [List.append_nil]; exact hR) hS rfl rfl d_Gai_take_160
  · obtain ⟨a, ha4, rfl⟩ := ha (by decide)
    have hs9 : s_stalls g (5, fr, c, b, v, nb, a + 1) = 1 := by
      simp only [s_stalls]
      rw [hst, if_neg hc4]
      decide
    rw [hs9]
    have hg8 : g 8 (4 * c + b) = 7 := hst
    refine lv_aload_n hx hb d_Gai_take_0 rfl (lv_at hl 2 rfl) ?_
    refine xg_Msg E hC hR hq hz 0 (by decide) zf_Gai_13 rfl d_Gai_take_1 ?_
    refine xc_R (av := [.ref (eA 0 5)]) (xrunU (As := []) (rest := []) E hA hC hR hS (c_ord_Kind l D dA eA ad A N g M as sp (by decide)) (va_recvE hC.2.1 (by decide) hS) gu_Gai_19 hC.2.2.2.2.2.2.2.1.2 (by decide +kernel) ⟨rfl, rfl⟩ ⟨Nat.le_of_ble_eq_true rfl, Nat.le_of_ble_eq_true rfl⟩ rfl (lv_sub hl [] rfl) rfl (Nat.le_of_ble_eq_true rfl) ⟨Nat.le_of_ble_eq_true rfl, Nat.le_of_ble_eq_true rfl⟩ d_Gai_take_4) ?_
    refine lv_tableOut (tgt := 159) hx hb d_Gai_take_7 (by decide) (by decide) ?_
    refine lv_iconst (v := 0) hx hb d_Gai_take_159 (by decide) ?_
    refine W.widen (k := 2) (n := 16) (by decide) (by decide) ?_
    rw [if_neg (by decide), if_neg (by decide), if_neg (by decide)]
    exact x_iret (nw := []) E (by rw [List.append_nil]; exact hR) hS rfl rfl d_Gai_take_160
set_option maxHeartbeats 4000000 in
set_option maxRecDepth 100000 in
theorem c_Line_take (l : Launch) (D : va_G) (dA : Nat → ClassId) (eA ad : Nat → Nat → Nat) (A : Nat → Prop) (N : Nat) (g : PS) (M : List Msg) (as sp : List Nat) (c b : Nat) (hc : c < N) (hN4 : N ≤ 4) (hb4 : b < 4) (st kd j q fr : Nat) (v : Int32) (nb aq : Nat) (hst : g 8 (4 * c + b) = nI st) (hq : as[j]? = some q) (hz : M[j]? = some (kd, fr, c, b, v, nb, aq)) (ha : kd = 4 ∨ kd = 5 ∨ kd = 6 → ∃ a, a < 4 ∧ aq = a + 1) (hnb : st = 3 → kd = 8 → nb = 0) (hok : (st, kd) ∈ okL) : Met l y_Line_take (k_Line_take :: wz) (rml 5 2 16) (va_Pc [.ref (ad 11 (4 * c + b)), .ref q] (PX D dA eA ad A N g M as sp)) (XQi D dA eA ad A N (if s_stalls g (kd, fr, c, b, v, nb, aq) = 0 then 1 else 0) (if s_stalls g (kd, fr, c, b, v, nb, aq) = 0 then s_tkG g kd c b v nb else g) (if s_stalls g (kd, fr, c, b, v, nb, aq) = 0 then M ++ s_acQ g kd c b aq else M) as) 2 16 A := by
  refine x_entry (by decide) (Nat.le_of_ble_eq_true rfl) ?_
  intro p e s m below meth c0 E hA hC hR ls hl
  have hx := E.1
  have hb := E.2.1
  have hS : va_S A s.heap s.heap [] := va_S.rf
  replace hl : lv_has ls 2 [(0, .ref (ad 11 (4 * c + b))), (1, .ref q)] := hl
  simp only [okL, okE, okS, okO, okF, okG, List.cons_append, List.nil_append, List.mem_cons, Prod.mk.injEq, List.not_mem_nil, or_false] at hok
  rcases hok with ⟨rfl, rfl⟩ | ⟨rfl, rfl⟩ | ⟨rfl, rfl⟩ | ⟨rfl, rfl⟩ | ⟨rfl, rfl⟩ | ⟨rfl, rfl⟩ | ⟨rfl, rfl⟩ | ⟨rfl, rfl⟩ | ⟨rfl, rfl⟩ | ⟨rfl, rfl⟩ | ⟨rfl, rfl⟩ | ⟨rfl, rfl⟩ | ⟨rfl, rfl⟩ | ⟨rfl, rfl⟩ | ⟨rfl, rfl⟩ | ⟨rfl, rfl⟩ | ⟨rfl, rfl⟩ | ⟨rfl, rfl⟩ | ⟨rfl, rfl⟩ | ⟨rfl, rfl⟩ | ⟨rfl, rfl⟩ | ⟨rfl, rfl⟩ | ⟨rfl, rfl⟩ | ⟨rfl, rfl⟩ | ⟨rfl, rfl⟩ | ⟨rfl, rfl⟩
  · refine lv_aload_n hx hb d_Line_take_0 rfl (lv_at hl 0 rfl) ?_
    refine xg_Line E hC hR (show vl N 11 (4 * c + b) from (show 4 * c + b < 4 * N by omega)) 4 (by decide) zf_Line_32 rfl d_Line_take_1 ?_
    refine wr_eq (y := ad 3 10) (congrArg (ad 3) (by rw [show g 8 (4 * c + b) = nI 10 from hst]; exact nI_clamp (by omega))) ?_
    refine lv_aload_n hx hb d_Line_take_4 rfl (lv_at hl 0 rfl) ?_
    refine lv_aload_n hx hb d_Line_take_5 rfl (lv_at hl 1 rfl) ?_
    refine xc_i (av := [.ref (ad 3 10), .ref (ad 11 (4 * c + b)), .ref q]) (xrunU (n := 2) (As := [.ref (ad 11 (4 * c + b)), .ref q]) (rest := []) E hA hC hR hS (c_Emp_take l D dA eA ad A N g M as sp c b hc hN4 hb4 10 7 j q fr v nb aq hst hq hz ha hnb (by decide)) (x_recv hC hR (s0 := 3) (i0 := 10) (show 10 < 11 by omega) rfl rfl) gm_Emp hC.2.2.2.2.2.2.2.1.1 (by decide +kernel) ⟨rfl, rfl⟩ ⟨Nat.le_of_ble_eq_true rfl, Nat.le_of_ble_eq_true rfl⟩ rfl (lv_sub hl [] rfl) rfl (Nat.le_of_ble_eq_true rfl) ⟨Nat.le_of_ble_eq_true rfl, Nat.le_of_ble_eq_true rfl⟩ d_Line_take_6) hS (fun H locs nw1 sp1 hR hS => ?_)
    refine W.widen (k := 2) (n := 16) (by decide) (by decide) ?_
    exact x_iret (nw := nw1) E hR hS (by split <;> rfl) rfl d_Line_take_9
  · refine lv_aload_n hx hb d_Line_take_0 rfl (lv_at hl 0 rfl) ?_
    refine xg_Line E hC hR (show vl N 11 (4 * c + b) from (show 4 * c + b < 4 * N by omega)) 4 (by decide) zf_Line_32 rfl d_Line_take_1 ?_
    refine wr_eq (y := ad 3 1) (congrArg (ad 3) (by rw [show g 8 (4 * c + b) = nI 1 from hst]; exact nI_clamp (by omega))) ?_
    refine lv_aload_n hx hb d_Line_take_4 rfl (lv_at hl 0 rfl) ?_
    refine lv_aload_n hx hb d_Line_take_5 rfl (lv_at hl 1 rfl) ?_
    refine xc_i (av := [.ref (ad 3 1), .ref (ad 11 (4 * c + b)), .ref q]) (xrunU (n := 2) (As := [.ref (ad 11 (4 * c + b)), .ref q]) (rest := []) E hA hC hR hS (c_Sha_take l D dA eA ad A N g M as sp c b hc hN4 hb4 1 6 j q fr v nb aq hst hq hz ha hnb (by decide)) (x_recv hC hR (s0 := 3) (i0 := 1) (show 1 < 11 by omega) rfl rfl) gm_Sha hC.2.2.2.2.2.2.2.1.1 (by decide +kernel) ⟨rfl, rfl⟩ ⟨Nat.le_of_ble_eq_true rfl, Nat.le_of_ble_eq_true rfl⟩ rfl (lv_sub hl [] rfl) rfl (Nat.le_of_ble_eq_true rfl) ⟨Nat.le_of_ble_eq_true rfl, Nat.le_of_ble_eq_true rfl⟩ d_Line_take_6) hS (fun H locs nw1 sp1 hR hS => ?_)
    refine W.widen (k := 2) (n := 16) (by decide) (by decide) ?_
    exact x_iret (nw := nw1) E hR hS (by split <;> rfl) rfl d_Line_take_9
  · refine lv_aload_n hx hb d_Line_take_0 rfl (lv_at hl 0 rfl) ?_
    refine xg_Line E hC hR (show vl N 11 (4 * c + b) from (show 4 * c + b < 4 * N by omega)) 4 (by decide) zf_Line_32 rfl d_Line_take_1 ?_
    refine wr_eq (y := ad 3 9) (congrArg (ad 3) (by rw [show g 8 (4 * c + b) = nI 9 from hst]; exact nI_clamp (by omega))) ?_
    refine lv_aload_n hx hb d_Line_take_4 rfl (lv_at hl 0 rfl) ?_
    refine lv_aload_n hx hb d_Line_take_5 rfl (lv_at hl 1 rfl) ?_
    refine xc_i (av := [.ref (ad 3 9), .ref (ad 11 (4 * c + b)), .ref q]) (xrunU (n := 2) (As := [.ref (ad 11 (4 * c + b)), .ref q]) (rest := []) E hA hC hR hS (c_Sha_take l D dA eA ad A N g M as sp c b hc hN4 hb4 9 6 j q fr v nb aq hst hq hz ha hnb (by decide)) (x_recv hC hR (s0 := 3) (i0 := 9) (show 9 < 11 by omega) rfl rfl) gm_Sha hC.2.2.2.2.2.2.2.1.1 (by decide +kernel) ⟨rfl, rfl⟩ ⟨Nat.le_of_ble_eq_true rfl, Nat.le_of_ble_eq_true rfl⟩ rfl (lv_sub hl [] rfl) rfl (Nat.le_of_ble_eq_true rfl) ⟨Nat.le_of_ble_eq_true rfl, Nat.le_of_ble_eq_true rfl⟩ d_Line_take_6) hS (fun H locs nw1 sp1 hR hS => ?_)
    refine W.widen (k := 2) (n := 16) (by decide) (by decide) ?_
    exact x_iret (nw := nw1) E hR hS (by split <;> rfl) rfl d_Line_take_9
  · refine lv_aload_n hx hb d_Line_take_0 rfl (lv_at hl 0 rfl) ?_
    refine xg_Line E hC hR (show vl N 11 (4 * c + b) from (show 4 * c + b < 4 * N by omega)) 4 (by decide) zf_Line_32 rfl d_Line_take_1 ?_
    refine wr_eq (y := ad 3 9) (congrArg (ad 3) (by rw [show g 8 (4 * c + b) = nI 9 from hst]; exact nI_clamp (by omega))) ?_
    refine lv_aload_n hx hb d_Line_take_4 rfl (lv_at hl 0 rfl) ?_
    refine lv_aload_n hx hb d_Line_take_5 rfl (lv_at hl 1 rfl) ?_
    refine xc_i (av := [.ref (ad 3 9), .ref (ad 11 (4 * c + b)), .ref q]) (xrunU (n := 2) (As := [.ref (ad 11 (4 * c + b)), .ref q]) (rest := []) E hA hC hR hS (c_Sha_take l D dA eA ad A N g M as sp c b hc hN4 hb4 9 7 j q fr v nb aq hst hq hz ha hnb (by decide)) (x_recv hC hR (s0 := 3) (i0 := 9) (show 9 < 11 by omega) rfl rfl) gm_Sha hC.2.2.2.2.2.2.2.1.1 (by decide +kernel) ⟨rfl, rfl⟩ ⟨Nat.le_of_ble_eq_true rfl, Nat.le_of_ble_eq_true rfl⟩ rfl (lv_sub hl [] rfl) rfl (Nat.le_of_ble_eq_true rfl) ⟨Nat.le_of_ble_eq_true rfl, Nat.le_of_ble_eq_true rfl⟩ d_Line_take_6) hS (fun H locs nw1 sp1 hR hS => ?_)
    refine W.widen (k := 2) (n := 16) (by decide) (by decide) ?_
    exact x_iret (nw := nw1) E hR hS (by split <;> rfl) rfl d_Line_take_9
  · refine lv_aload_n hx hb d_Line_take_0 rfl (lv_at hl 0 rfl) ?_
    refine xg_Line E hC hR (show vl N 11 (4 * c + b) from (show 4 * c + b < 4 * N by omega)) 4 (by decide) zf_Line_32 rfl d_Line_take_1 ?_
    refine wr_eq (y := ad 3 2) (congrArg (ad 3) (by rw [show g 8 (4 * c + b) = nI 2 from hst]; exact nI_clamp (by omega))) ?_
    refine lv_aload_n hx hb d_Line_take_4 rfl (lv_at hl 0 rfl) ?_
    refine lv_aload_n hx hb d_Line_take_5 rfl (lv_at hl 1 rfl) ?_
    refine xc_i (av := [.ref (ad 3 2), .ref (ad 11 (4 * c + b)), .ref q]) (xrunU (n := 2) (As := [.ref (ad 11 (4 * c + b)), .ref q]) (rest := []) E hA hC hR hS (c_Own_take l D dA eA ad A N g M as sp c b hc hN4 hb4 2 4 j q fr v nb aq hst hq hz ha hnb (by decide)) (x_recv hC hR (s0 := 3) (i0 := 2) (show 2 < 11 by omega) rfl rfl) gm_Own hC.2.2.2.2.2.2.2.1.1 (by decide +kernel) ⟨rfl, rfl⟩ ⟨Nat.le_of_ble_eq_true rfl, Nat.le_of_ble_eq_true rfl⟩ rfl (lv_sub hl [] rfl) rfl (Nat.le_of_ble_eq_true rfl) ⟨Nat.le_of_ble_eq_true rfl, Nat.le_of_ble_eq_true rfl⟩ d_Line_take_6) hS (fun H locs nw1 sp1 hR hS => ?_)
    refine W.widen (k := 2) (n := 16) (by decide) (by decide) ?_
    exact x_iret (nw := nw1) E hR hS (by split <;> rfl) rfl d_Line_take_9
  · refine lv_aload_n hx hb d_Line_take_0 rfl (lv_at hl 0 rfl) ?_
    refine xg_Line E hC hR (show vl N 11 (4 * c + b) from (show 4 * c + b < 4 * N by omega)) 4 (by decide) zf_Line_32 rfl d_Line_take_1 ?_
    refine wr_eq (y := ad 3 2) (congrArg (ad 3) (by rw [show g 8 (4 * c + b) = nI 2 from hst]; exact nI_clamp (by omega))) ?_
    refine lv_aload_n hx hb d_Line_take_4 rfl (lv_at hl 0 rfl) ?_
    refine lv_aload_n hx hb d_Line_take_5 rfl (lv_at hl 1 rfl) ?_
    refine xc_i (av := [.ref (ad 3 2), .ref (ad 11 (4 * c + b)), .ref q]) (xrunU (n := 2) (As := [.ref (ad 11 (4 * c + b)), .ref q]) (rest := []) E hA hC hR hS (c_Own_take l D dA eA ad A N g M as sp c b hc hN4 hb4 2 5 j q fr v nb aq hst hq hz ha hnb (by decide)) (x_recv hC hR (s0 := 3) (i0 := 2) (show 2 < 11 by omega) rfl rfl) gm_Own hC.2.2.2.2.2.2.2.1.1 (by decide +kernel) ⟨rfl, rfl⟩ ⟨Nat.le_of_ble_eq_true rfl, Nat.le_of_ble_eq_true rfl⟩ rfl (lv_sub hl [] rfl) rfl (Nat.le_of_ble_eq_true rfl) ⟨Nat.le_of_ble_eq_true rfl, Nat.le_of_ble_eq_true rfl⟩ d_Line_take_6) hS (fun H locs nw1 sp1 hR hS => ?_)
    refine W.widen (k := 2) (n := 16) (by decide) (by decide) ?_
    exact x_iret (nw := nw1) E hR hS (by split <;> rfl) rfl d_Line_take_9
  · refine lv_aload_n hx hb d_Line_take_0 rfl (lv_at hl 0 rfl) ?_
    refine xg_Line E hC hR (show vl N 11 (4 * c + b) from (show 4 * c + b < 4 * N by omega)) 4 (by decide) zf_Line_32 rfl d_Line_take_1 ?_
    refine wr_eq (y := ad 3 8) (congrArg (ad 3) (by rw [show g 8 (4 * c + b) = nI 8 from hst]; exact nI_clamp (by omega))) ?_
    refine lv_aload_n hx hb d_Line_take_4 rfl (lv_at hl 0 rfl) ?_
    refine lv_aload_n hx hb d_Line_take_5 rfl (lv_at hl 1 rfl) ?_
    refine xc_i (av := [.ref (ad 3 8), .ref (ad 11 (4 * c + b)), .ref q]) (xrunU (n := 2) (As := [.ref (ad 11 (4 * c + b)), .ref q]) (rest := []) E hA hC hR hS (c_Own_take l D dA eA ad A N g M as sp c b hc hN4 hb4 8 4 j q fr v nb aq hst hq hz ha hnb (by decide)) (x_recv hC hR (s0 := 3) (i0 := 8) (show 8 < 11 by omega) rfl rfl) gm_Own hC.2.2.2.2.2.2.2.1.1 (by decide +kernel) ⟨rfl, rfl⟩ ⟨Nat.le_of_ble_eq_true rfl, Nat.le_of_ble_eq_true rfl⟩ rfl (lv_sub hl [] rfl) rfl (Nat.le_of_ble_eq_true rfl) ⟨Nat.le_of_ble_eq_true rfl, Nat.le_of_ble_eq_true rfl⟩ d_Line_take_6) hS (fun H locs nw1 sp1 hR hS => ?_)
    refine W.widen (k := 2) (n := 16) (by decide) (by decide) ?_
    exact x_iret (nw := nw1) E hR hS (by split <;> rfl) rfl d_Line_take_9
  · refine lv_aload_n hx hb d_Line_take_0 rfl (lv_at hl 0 rfl) ?_
    refine xg_Line E hC hR (show vl N 11 (4 * c + b) from (show 4 * c + b < 4 * N by omega)) 4 (by decide) zf_Line_32 rfl d_Line_take_1 ?_
    refine wr_eq (y := ad 3 8) (congrArg (ad 3) (by rw [show g 8 (4 * c + b) = nI 8 from hst]; exact nI_clamp (by omega))) ?_
    refine lv_aload_n hx hb d_Line_take_4 rfl (lv_at hl 0 rfl) ?_
    refine lv_aload_n hx hb d_Line_take_5 rfl (lv_at hl 1 rfl) ?_
    refine xc_i (av := [.ref (ad 3 8), .ref (ad 11 (4 * c + b)), .ref q]) (xrunU (n := 2) (As := [.ref (ad 11 (4 * c + b)), .ref q]) (rest := []) E hA hC hR hS (c_Own_take l D dA eA ad A N g M as sp c b hc hN4 hb4 8 5 j q fr v nb aq hst hq hz ha hnb (by decide)) (x_recv hC hR (s0 := 3) (i0 := 8) (show 8 < 11 by omega) rfl rfl) gm_Own hC.2.2.2.2.2.2.2.1.1 (by decide +kernel) ⟨rfl, rfl⟩ ⟨Nat.le_of_ble_eq_true rfl, Nat.le_of_ble_eq_true rfl⟩ rfl (lv_sub hl [] rfl) rfl (Nat.le_of_ble_eq_true rfl) ⟨Nat.le_of_ble_eq_true rfl, Nat.le_of_ble_eq_true rfl⟩ d_Line_take_6) hS (fun H locs nw1 sp1 hR hS => ?_)
    refine W.widen (k := 2) (n := 16) (by decide) (by decide) ?_
    exact x_iret (nw := nw1) E hR hS (by split <;> rfl) rfl d_Line_take_9
  · refine lv_aload_n hx hb d_Line_take_0 rfl (lv_at hl 0 rfl) ?_
    refine xg_Line E hC hR (show vl N 11 (4 * c + b) from (show 4 * c + b < 4 * N by omega)) 4 (by decide) zf_Line_32 rfl d_Line_take_1 ?_
    refine wr_eq (y := ad 3 8) (congrArg (ad 3) (by rw [show g 8 (4 * c + b) = nI 8 from hst]; exact nI_clamp (by omega))) ?_
    refine lv_aload_n hx hb d_Line_take_4 rfl (lv_at hl 0 rfl) ?_
    refine lv_aload_n hx hb d_Line_take_5 rfl (lv_at hl 1 rfl) ?_
    refine xc_i (av := [.ref (ad 3 8), .ref (ad 11 (4 * c + b)), .ref q]) (xrunU (n := 2) (As := [.ref (ad 11 (4 * c + b)), .ref q]) (rest := []) E hA hC hR hS (c_Own_take l D dA eA ad A N g M as sp c b hc hN4 hb4 8 7 j q fr v nb aq hst hq hz ha hnb (by decide)) (x_recv hC hR (s0 := 3) (i0 := 8) (show 8 < 11 by omega) rfl rfl) gm_Own hC.2.2.2.2.2.2.2.1.1 (by decide +kernel) ⟨rfl, rfl⟩ ⟨Nat.le_of_ble_eq_true rfl, Nat.le_of_ble_eq_true rfl⟩ rfl (lv_sub hl [] rfl) rfl (Nat.le_of_ble_eq_true rfl) ⟨Nat.le_of_ble_eq_true rfl, Nat.le_of_ble_eq_true rfl⟩ d_Line_take_6) hS (fun H locs nw1 sp1 hR hS => ?_)
    refine W.widen (k := 2) (n := 16) (by decide) (by decide) ?_
    exact x_iret (nw := nw1) E hR hS (by split <;> rfl) rfl d_Line_take_9
  · refine lv_aload_n hx hb d_Line_take_0 rfl (lv_at hl 0 rfl) ?_
    refine xg_Line E hC hR (show vl N 11 (4 * c + b) from (show 4 * c + b < 4 * N by omega)) 4 (by decide) zf_Line_32 rfl d_Line_take_1 ?_
    refine wr_eq (y := ad 3 3) (congrArg (ad 3) (by rw [show g 8 (4 * c + b) = nI 3 from hst]; exact nI_clamp (by omega))) ?_
    refine lv_aload_n hx hb d_Line_take_4 rfl (lv_at hl 0 rfl) ?_
    refine lv_aload_n hx hb d_Line_take_5 rfl (lv_at hl 1 rfl) ?_
    refine xc_i (av := [.ref (ad 3 3), .ref (ad 11 (4 * c + b)), .ref q]) (xrunU (n := 2) (As := [.ref (ad 11 (4 * c + b)), .ref q]) (rest := []) E hA hC hR hS (c_Fet_take l D dA eA ad A N g M as sp c b hc hN4 hb4 3 8 j q fr v nb aq hst hq hz ha hnb (by decide)) (x_recv hC hR (s0 := 3) (i0 := 3) (show 3 < 11 by omega) rfl rfl) gm_Fet hC.2.2.2.2.2.2.2.1.1 (by decide +kernel) ⟨rfl, rfl⟩ ⟨Nat.le_of_ble_eq_true rfl, Nat.le_of_ble_eq_true rfl⟩ rfl (lv_sub hl [] rfl) rfl (Nat.le_of_ble_eq_true rfl) ⟨Nat.le_of_ble_eq_true rfl, Nat.le_of_ble_eq_true rfl⟩ d_Line_take_6) hS (fun H locs nw1 sp1 hR hS => ?_)
    refine W.widen (k := 2) (n := 16) (by decide) (by decide) ?_
    exact x_iret (nw := nw1) E hR hS (by split <;> rfl) rfl d_Line_take_9
  · refine lv_aload_n hx hb d_Line_take_0 rfl (lv_at hl 0 rfl) ?_
    refine xg_Line E hC hR (show vl N 11 (4 * c + b) from (show 4 * c + b < 4 * N by omega)) 4 (by decide) zf_Line_32 rfl d_Line_take_1 ?_
    refine wr_eq (y := ad 3 3) (congrArg (ad 3) (by rw [show g 8 (4 * c + b) = nI 3 from hst]; exact nI_clamp (by omega))) ?_
    refine lv_aload_n hx hb d_Line_take_4 rfl (lv_at hl 0 rfl) ?_
    refine lv_aload_n hx hb d_Line_take_5 rfl (lv_at hl 1 rfl) ?_
    refine xc_i (av := [.ref (ad 3 3), .ref (ad 11 (4 * c + b)), .ref q]) (xrunU (n := 2) (As := [.ref (ad 11 (4 * c + b)), .ref q]) (rest := []) E hA hC hR hS (c_Fet_take l D dA eA ad A N g M as sp c b hc hN4 hb4 3 6 j q fr v nb aq hst hq hz ha hnb (by decide)) (x_recv hC hR (s0 := 3) (i0 := 3) (show 3 < 11 by omega) rfl rfl) gm_Fet hC.2.2.2.2.2.2.2.1.1 (by decide +kernel) ⟨rfl, rfl⟩ ⟨Nat.le_of_ble_eq_true rfl, Nat.le_of_ble_eq_true rfl⟩ rfl (lv_sub hl [] rfl) rfl (Nat.le_of_ble_eq_true rfl) ⟨Nat.le_of_ble_eq_true rfl, Nat.le_of_ble_eq_true rfl⟩ d_Line_take_6) hS (fun H locs nw1 sp1 hR hS => ?_)
    refine W.widen (k := 2) (n := 16) (by decide) (by decide) ?_
    exact x_iret (nw := nw1) E hR hS (by split <;> rfl) rfl d_Line_take_9
  · refine lv_aload_n hx hb d_Line_take_0 rfl (lv_at hl 0 rfl) ?_
    refine xg_Line E hC hR (show vl N 11 (4 * c + b) from (show 4 * c + b < 4 * N by omega)) 4 (by decide) zf_Line_32 rfl d_Line_take_1 ?_
    refine wr_eq (y := ad 3 4) (congrArg (ad 3) (by rw [show g 8 (4 * c + b) = nI 4 from hst]; exact nI_clamp (by omega))) ?_
    refine lv_aload_n hx hb d_Line_take_4 rfl (lv_at hl 0 rfl) ?_
    refine lv_aload_n hx hb d_Line_take_5 rfl (lv_at hl 1 rfl) ?_
    refine xc_i (av := [.ref (ad 3 4), .ref (ad 11 (4 * c + b)), .ref q]) (xrunU (n := 2) (As := [.ref (ad 11 (4 * c + b)), .ref q]) (rest := []) E hA hC hR hS (c_Gai_take l D dA eA ad A N g M as sp c b hc hN4 hb4 4 8 j q fr v nb aq hst hq hz ha hnb (by decide)) (x_recv hC hR (s0 := 3) (i0 := 4) (show 4 < 11 by omega) rfl rfl) gm_Gai hC.2.2.2.2.2.2.2.1.1 (by decide +kernel) ⟨rfl, rfl⟩ ⟨Nat.le_of_ble_eq_true rfl, Nat.le_of_ble_eq_true rfl⟩ rfl (lv_sub hl [] rfl) rfl (Nat.le_of_ble_eq_true rfl) ⟨Nat.le_of_ble_eq_true rfl, Nat.le_of_ble_eq_true rfl⟩ d_Line_take_6) hS (fun H locs nw1 sp1 hR hS => ?_)
    refine W.widen (k := 2) (n := 16) (by decide) (by decide) ?_
    exact x_iret (nw := nw1) E hR hS (by split <;> rfl) rfl d_Line_take_9
  · refine lv_aload_n hx hb d_Line_take_0 rfl (lv_at hl 0 rfl) ?_
    refine xg_Line E hC hR (show vl N 11 (4 * c + b) from (show 4 * c + b < 4 * N by omega)) 4 (by decide) zf_Line_32 rfl d_Line_take_1 ?_
    refine wr_eq (y := ad 3 4) (congrArg (ad 3) (by rw [show g 8 (4 * c + b) = nI 4 from hst]; exact nI_clamp (by omega))) ?_
    refine lv_aload_n hx hb d_Line_take_4 rfl (lv_at hl 0 rfl) ?_
    refine lv_aload_n hx hb d_Line_take_5 rfl (lv_at hl 1 rfl) ?_
    refine xc_i (av := [.ref (ad 3 4), .ref (ad 11 (4 * c + b)), .ref q]) (xrunU (n := 2) (As := [.ref (ad 11 (4 * c + b)), .ref q]) (rest := []) E hA hC hR hS (c_Gai_take l D dA eA ad A N g M as sp c b hc hN4 hb4 4 9 j q fr v nb aq hst hq hz ha hnb (by decide)) (x_recv hC hR (s0 := 3) (i0 := 4) (show 4 < 11 by omega) rfl rfl) gm_Gai hC.2.2.2.2.2.2.2.1.1 (by decide +kernel) ⟨rfl, rfl⟩ ⟨Nat.le_of_ble_eq_true rfl, Nat.le_of_ble_eq_true rfl⟩ rfl (lv_sub hl [] rfl) rfl (Nat.le_of_ble_eq_true rfl) ⟨Nat.le_of_ble_eq_true rfl, Nat.le_of_ble_eq_true rfl⟩ d_Line_take_6) hS (fun H locs nw1 sp1 hR hS => ?_)
    refine W.widen (k := 2) (n := 16) (by decide) (by decide) ?_
    exact x_iret (nw := nw1) E hR hS (by split <;> rfl) rfl d_Line_take_9
  · refine lv_aload_n hx hb d_Line_take_0 rfl (lv_at hl 0 rfl) ?_
    refine xg_Line E hC hR (show vl N 11 (4 * c + b) from (show 4 * c + b < 4 * N by omega)) 4 (by decide) zf_Line_32 rfl d_Line_take_1 ?_
    refine wr_eq (y := ad 3 4) (congrArg (ad 3) (by rw [show g 8 (4 * c + b) = nI 4 from hst]; exact nI_clamp (by omega))) ?_
    refine lv_aload_n hx hb d_Line_take_4 rfl (lv_at hl 0 rfl) ?_
    refine lv_aload_n hx hb d_Line_take_5 rfl (lv_at hl 1 rfl) ?_
    refine xc_i (av := [.ref (ad 3 4), .ref (ad 11 (4 * c + b)), .ref q]) (xrunU (n := 2) (As := [.ref (ad 11 (4 * c + b)), .ref q]) (rest := []) E hA hC hR hS (c_Gai_take l D dA eA ad A N g M as sp c b hc hN4 hb4 4 4 j q fr v nb aq hst hq hz ha hnb (by decide)) (x_recv hC hR (s0 := 3) (i0 := 4) (show 4 < 11 by omega) rfl rfl) gm_Gai hC.2.2.2.2.2.2.2.1.1 (by decide +kernel) ⟨rfl, rfl⟩ ⟨Nat.le_of_ble_eq_true rfl, Nat.le_of_ble_eq_true rfl⟩ rfl (lv_sub hl [] rfl) rfl (Nat.le_of_ble_eq_true rfl) ⟨Nat.le_of_ble_eq_true rfl, Nat.le_of_ble_eq_true rfl⟩ d_Line_take_6) hS (fun H locs nw1 sp1 hR hS => ?_)
    refine W.widen (k := 2) (n := 16) (by decide) (by decide) ?_
    exact x_iret (nw := nw1) E hR hS (by split <;> rfl) rfl d_Line_take_9
  · refine lv_aload_n hx hb d_Line_take_0 rfl (lv_at hl 0 rfl) ?_
    refine xg_Line E hC hR (show vl N 11 (4 * c + b) from (show 4 * c + b < 4 * N by omega)) 4 (by decide) zf_Line_32 rfl d_Line_take_1 ?_
    refine wr_eq (y := ad 3 4) (congrArg (ad 3) (by rw [show g 8 (4 * c + b) = nI 4 from hst]; exact nI_clamp (by omega))) ?_
    refine lv_aload_n hx hb d_Line_take_4 rfl (lv_at hl 0 rfl) ?_
    refine lv_aload_n hx hb d_Line_take_5 rfl (lv_at hl 1 rfl) ?_
    refine xc_i (av := [.ref (ad 3 4), .ref (ad 11 (4 * c + b)), .ref q]) (xrunU (n := 2) (As := [.ref (ad 11 (4 * c + b)), .ref q]) (rest := []) E hA hC hR hS (c_Gai_take l D dA eA ad A N g M as sp c b hc hN4 hb4 4 5 j q fr v nb aq hst hq hz ha hnb (by decide)) (x_recv hC hR (s0 := 3) (i0 := 4) (show 4 < 11 by omega) rfl rfl) gm_Gai hC.2.2.2.2.2.2.2.1.1 (by decide +kernel) ⟨rfl, rfl⟩ ⟨Nat.le_of_ble_eq_true rfl, Nat.le_of_ble_eq_true rfl⟩ rfl (lv_sub hl [] rfl) rfl (Nat.le_of_ble_eq_true rfl) ⟨Nat.le_of_ble_eq_true rfl, Nat.le_of_ble_eq_true rfl⟩ d_Line_take_6) hS (fun H locs nw1 sp1 hR hS => ?_)
    refine W.widen (k := 2) (n := 16) (by decide) (by decide) ?_
    exact x_iret (nw := nw1) E hR hS (by split <;> rfl) rfl d_Line_take_9
  · refine lv_aload_n hx hb d_Line_take_0 rfl (lv_at hl 0 rfl) ?_
    refine xg_Line E hC hR (show vl N 11 (4 * c + b) from (show 4 * c + b < 4 * N by omega)) 4 (by decide) zf_Line_32 rfl d_Line_take_1 ?_
    refine wr_eq (y := ad 3 5) (congrArg (ad 3) (by rw [show g 8 (4 * c + b) = nI 5 from hst]; exact nI_clamp (by omega))) ?_
    refine lv_aload_n hx hb d_Line_take_4 rfl (lv_at hl 0 rfl) ?_
    refine lv_aload_n hx hb d_Line_take_5 rfl (lv_at hl 1 rfl) ?_
    refine xc_i (av := [.ref (ad 3 5), .ref (ad 11 (4 * c + b)), .ref q]) (xrunU (n := 2) (As := [.ref (ad 11 (4 * c + b)), .ref q]) (rest := []) E hA hC hR hS (c_Gai_take l D dA eA ad A N g M as sp c b hc hN4 hb4 5 9 j q fr v nb aq hst hq hz ha hnb (by decide)) (x_recv hC hR (s0 := 3) (i0 := 5) (show 5 < 11 by omega) rfl rfl) gm_Gai hC.2.2.2.2.2.2.2.1.1 (by decide +kernel) ⟨rfl, rfl⟩ ⟨Nat.le_of_ble_eq_true rfl, Nat.le_of_ble_eq_true rfl⟩ rfl (lv_sub hl [] rfl) rfl (Nat.le_of_ble_eq_true rfl) ⟨Nat.le_of_ble_eq_true rfl, Nat.le_of_ble_eq_true rfl⟩ d_Line_take_6) hS (fun H locs nw1 sp1 hR hS => ?_)
    refine W.widen (k := 2) (n := 16) (by decide) (by decide) ?_
    exact x_iret (nw := nw1) E hR hS (by split <;> rfl) rfl d_Line_take_9
  · refine lv_aload_n hx hb d_Line_take_0 rfl (lv_at hl 0 rfl) ?_
    refine xg_Line E hC hR (show vl N 11 (4 * c + b) from (show 4 * c + b < 4 * N by omega)) 4 (by decide) zf_Line_32 rfl d_Line_take_1 ?_
    refine wr_eq (y := ad 3 5) (congrArg (ad 3) (by rw [show g 8 (4 * c + b) = nI 5 from hst]; exact nI_clamp (by omega))) ?_
    refine lv_aload_n hx hb d_Line_take_4 rfl (lv_at hl 0 rfl) ?_
    refine lv_aload_n hx hb d_Line_take_5 rfl (lv_at hl 1 rfl) ?_
    refine xc_i (av := [.ref (ad 3 5), .ref (ad 11 (4 * c + b)), .ref q]) (xrunU (n := 2) (As := [.ref (ad 11 (4 * c + b)), .ref q]) (rest := []) E hA hC hR hS (c_Gai_take l D dA eA ad A N g M as sp c b hc hN4 hb4 5 4 j q fr v nb aq hst hq hz ha hnb (by decide)) (x_recv hC hR (s0 := 3) (i0 := 5) (show 5 < 11 by omega) rfl rfl) gm_Gai hC.2.2.2.2.2.2.2.1.1 (by decide +kernel) ⟨rfl, rfl⟩ ⟨Nat.le_of_ble_eq_true rfl, Nat.le_of_ble_eq_true rfl⟩ rfl (lv_sub hl [] rfl) rfl (Nat.le_of_ble_eq_true rfl) ⟨Nat.le_of_ble_eq_true rfl, Nat.le_of_ble_eq_true rfl⟩ d_Line_take_6) hS (fun H locs nw1 sp1 hR hS => ?_)
    refine W.widen (k := 2) (n := 16) (by decide) (by decide) ?_
    exact x_iret (nw := nw1) E hR hS (by split <;> rfl) rfl d_Line_take_9
  · refine lv_aload_n hx hb d_Line_take_0 rfl (lv_at hl 0 rfl) ?_
    refine xg_Line E hC hR (show vl N 11 (4 * c + b) from (show 4 * c + b < 4 * N by omega)) 4 (by decide) zf_Line_32 rfl d_Line_take_1 ?_
    refine wr_eq (y := ad 3 5) (congrArg (ad 3) (by rw [show g 8 (4 * c + b) = nI 5 from hst]; exact nI_clamp (by omega))) ?_
    refine lv_aload_n hx hb d_Line_take_4 rfl (lv_at hl 0 rfl) ?_
    refine lv_aload_n hx hb d_Line_take_5 rfl (lv_at hl 1 rfl) ?_
    refine xc_i (av := [.ref (ad 3 5), .ref (ad 11 (4 * c + b)), .ref q]) (xrunU (n := 2) (As := [.ref (ad 11 (4 * c + b)), .ref q]) (rest := []) E hA hC hR hS (c_Gai_take l D dA eA ad A N g M as sp c b hc hN4 hb4 5 5 j q fr v nb aq hst hq hz ha hnb (by decide)) (x_recv hC hR (s0 := 3) (i0 := 5) (show 5 < 11 by omega) rfl rfl) gm_Gai hC.2.2.2.2.2.2.2.1.1 (by decide +kernel) ⟨rfl, rfl⟩ ⟨Nat.le_of_ble_eq_true rfl, Nat.le_of_ble_eq_true rfl⟩ rfl (lv_sub hl [] rfl) rfl (Nat.le_of_ble_eq_true rfl) ⟨Nat.le_of_ble_eq_true rfl, Nat.le_of_ble_eq_true rfl⟩ d_Line_take_6) hS (fun H locs nw1 sp1 hR hS => ?_)
    refine W.widen (k := 2) (n := 16) (by decide) (by decide) ?_
    exact x_iret (nw := nw1) E hR hS (by split <;> rfl) rfl d_Line_take_9
  · refine lv_aload_n hx hb d_Line_take_0 rfl (lv_at hl 0 rfl) ?_
    refine xg_Line E hC hR (show vl N 11 (4 * c + b) from (show 4 * c + b < 4 * N by omega)) 4 (by decide) zf_Line_32 rfl d_Line_take_1 ?_
    refine wr_eq (y := ad 3 6) (congrArg (ad 3) (by rw [show g 8 (4 * c + b) = nI 6 from hst]; exact nI_clamp (by omega))) ?_
    refine lv_aload_n hx hb d_Line_take_4 rfl (lv_at hl 0 rfl) ?_
    refine lv_aload_n hx hb d_Line_take_5 rfl (lv_at hl 1 rfl) ?_
    refine xc_i (av := [.ref (ad 3 6), .ref (ad 11 (4 * c + b)), .ref q]) (xrunU (n := 2) (As := [.ref (ad 11 (4 * c + b)), .ref q]) (rest := []) E hA hC hR hS (c_Gai_take l D dA eA ad A N g M as sp c b hc hN4 hb4 6 8 j q fr v nb aq hst hq hz ha hnb (by decide)) (x_recv hC hR (s0 := 3) (i0 := 6) (show 6 < 11 by omega) rfl rfl) gm_Gai hC.2.2.2.2.2.2.2.1.1 (by decide +kernel) ⟨rfl, rfl⟩ ⟨Nat.le_of_ble_eq_true rfl, Nat.le_of_ble_eq_true rfl⟩ rfl (lv_sub hl [] rfl) rfl (Nat.le_of_ble_eq_true rfl) ⟨Nat.le_of_ble_eq_true rfl, Nat.le_of_ble_eq_true rfl⟩ d_Line_take_6) hS (fun H locs nw1 sp1 hR hS => ?_)
    refine W.widen (k := 2) (n := 16) (by decide) (by decide) ?_
    exact x_iret (nw := nw1) E hR hS (by split <;> rfl) rfl d_Line_take_9
  · refine lv_aload_n hx hb d_Line_take_0 rfl (lv_at hl 0 rfl) ?_
    refine xg_Line E hC hR (show vl N 11 (4 * c + b) from (show 4 * c + b < 4 * N by omega)) 4 (by decide) zf_Line_32 rfl d_Line_take_1 ?_
    refine wr_eq (y := ad 3 6) (congrArg (ad 3) (by rw [show g 8 (4 * c + b) = nI 6 from hst]; exact nI_clamp (by omega))) ?_
    refine lv_aload_n hx hb d_Line_take_4 rfl (lv_at hl 0 rfl) ?_
    refine lv_aload_n hx hb d_Line_take_5 rfl (lv_at hl 1 rfl) ?_
    refine xc_i (av := [.ref (ad 3 6), .ref (ad 11 (4 * c + b)), .ref q]) (xrunU (n := 2) (As := [.ref (ad 11 (4 * c + b)), .ref q]) (rest := []) E hA hC hR hS (c_Gai_take l D dA eA ad A N g M as sp c b hc hN4 hb4 6 9 j q fr v nb aq hst hq hz ha hnb (by decide)) (x_recv hC hR (s0 := 3) (i0 := 6) (show 6 < 11 by omega) rfl rfl) gm_Gai hC.2.2.2.2.2.2.2.1.1 (by decide +kernel) ⟨rfl, rfl⟩ ⟨Nat.le_of_ble_eq_true rfl, Nat.le_of_ble_eq_true rfl⟩ rfl (lv_sub hl [] rfl) rfl (Nat.le_of_ble_eq_true rfl) ⟨Nat.le_of_ble_eq_true rfl, Nat.le_of_ble_eq_true rfl⟩ d_Line_take_6) hS (fun H locs nw1 sp1 hR hS => ?_)
    refine W.widen (k := 2) (n := 16) (by decide) (by decide) ?_
    exact x_iret (nw := nw1) E hR hS (by split <;> rfl) rfl d_Line_take_9
  · refine lv_aload_n hx hb d_Line_take_0 rfl (lv_at hl 0 rfl) ?_
    refine xg_Line E hC hR (show vl N 11 (4 * c + b) from (show 4 * c + b < 4 * N by omega)) 4 (by decide) zf_Line_32 rfl d_Line_take_1 ?_
    refine wr_eq (y := ad 3 6) (congrArg (ad 3) (by rw [show g 8 (4 * c + b) = nI 6 from hst]; exact nI_clamp (by omega))) ?_
    refine lv_aload_n hx hb d_Line_take_4 rfl (lv_at hl 0 rfl) ?_
    refine lv_aload_n hx hb d_Line_take_5 rfl (lv_at hl 1 rfl) ?_
    refine xc_i (av := [.ref (ad 3 6), .ref (ad 11 (4 * c + b)), .ref q]) (xrunU (n := 2) (As := [.ref (ad 11 (4 * c + b)), .ref q]) (rest := []) E hA hC hR hS (c_Gai_take l D dA eA ad A N g M as sp c b hc hN4 hb4 6 6 j q fr v nb aq hst hq hz ha hnb (by decide)) (x_recv hC hR (s0 := 3) (i0 := 6) (show 6 < 11 by omega) rfl rfl) gm_Gai hC.2.2.2.2.2.2.2.1.1 (by decide +kernel) ⟨rfl, rfl⟩ ⟨Nat.le_of_ble_eq_true rfl, Nat.le_of_ble_eq_true rfl⟩ rfl (lv_sub hl [] rfl) rfl (Nat.le_of_ble_eq_true rfl) ⟨Nat.le_of_ble_eq_true rfl, Nat.le_of_ble_eq_true rfl⟩ d_Line_take_6) hS (fun H locs nw1 sp1 hR hS => ?_)
    refine W.widen (k := 2) (n := 16) (by decide) (by decide) ?_
    exact x_iret (nw := nw1) E hR hS (by split <;> rfl) rfl d_Line_take_9
  · refine lv_aload_n hx hb d_Line_take_0 rfl (lv_at hl 0 rfl) ?_
    refine xg_Line E hC hR (show vl N 11 (4 * c + b) from (show 4 * c + b < 4 * N by omega)) 4 (by decide) zf_Line_32 rfl d_Line_take_1 ?_
    refine wr_eq (y := ad 3 6) (congrArg (ad 3) (by rw [show g 8 (4 * c + b) = nI 6 from hst]; exact nI_clamp (by omega))) ?_
    refine lv_aload_n hx hb d_Line_take_4 rfl (lv_at hl 0 rfl) ?_
    refine lv_aload_n hx hb d_Line_take_5 rfl (lv_at hl 1 rfl) ?_
    refine xc_i (av := [.ref (ad 3 6), .ref (ad 11 (4 * c + b)), .ref q]) (xrunU (n := 2) (As := [.ref (ad 11 (4 * c + b)), .ref q]) (rest := []) E hA hC hR hS (c_Gai_take l D dA eA ad A N g M as sp c b hc hN4 hb4 6 4 j q fr v nb aq hst hq hz ha hnb (by decide)) (x_recv hC hR (s0 := 3) (i0 := 6) (show 6 < 11 by omega) rfl rfl) gm_Gai hC.2.2.2.2.2.2.2.1.1 (by decide +kernel) ⟨rfl, rfl⟩ ⟨Nat.le_of_ble_eq_true rfl, Nat.le_of_ble_eq_true rfl⟩ rfl (lv_sub hl [] rfl) rfl (Nat.le_of_ble_eq_true rfl) ⟨Nat.le_of_ble_eq_true rfl, Nat.le_of_ble_eq_true rfl⟩ d_Line_take_6) hS (fun H locs nw1 sp1 hR hS => ?_)
    refine W.widen (k := 2) (n := 16) (by decide) (by decide) ?_
    exact x_iret (nw := nw1) E hR hS (by split <;> rfl) rfl d_Line_take_9
  · refine lv_aload_n hx hb d_Line_take_0 rfl (lv_at hl 0 rfl) ?_
    refine xg_Line E hC hR (show vl N 11 (4 * c + b) from (show 4 * c + b < 4 * N by omega)) 4 (by decide) zf_Line_32 rfl d_Line_take_1 ?_
    refine wr_eq (y := ad 3 6) (congrArg (ad 3) (by rw [show g 8 (4 * c + b) = nI 6 from hst]; exact nI_clamp (by omega))) ?_
    refine lv_aload_n hx hb d_Line_take_4 rfl (lv_at hl 0 rfl) ?_
    refine lv_aload_n hx hb d_Line_take_5 rfl (lv_at hl 1 rfl) ?_
    refine xc_i (av := [.ref (ad 3 6), .ref (ad 11 (4 * c + b)), .ref q]) (xrunU (n := 2) (As := [.ref (ad 11 (4 * c + b)), .ref q]) (rest := []) E hA hC hR hS (c_Gai_take l D dA eA ad A N g M as sp c b hc hN4 hb4 6 5 j q fr v nb aq hst hq hz ha hnb (by decide)) (x_recv hC hR (s0 := 3) (i0 := 6) (show 6 < 11 by omega) rfl rfl) gm_Gai hC.2.2.2.2.2.2.2.1.1 (by decide +kernel) ⟨rfl, rfl⟩ ⟨Nat.le_of_ble_eq_true rfl, Nat.le_of_ble_eq_true rfl⟩ rfl (lv_sub hl [] rfl) rfl (Nat.le_of_ble_eq_true rfl) ⟨Nat.le_of_ble_eq_true rfl, Nat.le_of_ble_eq_true rfl⟩ d_Line_take_6) hS (fun H locs nw1 sp1 hR hS => ?_)
    refine W.widen (k := 2) (n := 16) (by decide) (by decide) ?_
    exact x_iret (nw := nw1) E hR hS (by split <;> rfl) rfl d_Line_take_9
  · refine lv_aload_n hx hb d_Line_take_0 rfl (lv_at hl 0 rfl) ?_
    refine xg_Line E hC hR (show vl N 11 (4 * c + b) from (show 4 * c + b < 4 * N by omega)) 4 (by decide) zf_Line_32 rfl d_Line_take_1 ?_
    refine wr_eq (y := ad 3 7) (congrArg (ad 3) (by rw [show g 8 (4 * c + b) = nI 7 from hst]; exact nI_clamp (by omega))) ?_
    refine lv_aload_n hx hb d_Line_take_4 rfl (lv_at hl 0 rfl) ?_
    refine lv_aload_n hx hb d_Line_take_5 rfl (lv_at hl 1 rfl) ?_
    refine xc_i (av := [.ref (ad 3 7), .ref (ad 11 (4 * c + b)), .ref q]) (xrunU (n := 2) (As := [.ref (ad 11 (4 * c + b)), .ref q]) (rest := []) E hA hC hR hS (c_Gai_take l D dA eA ad A N g M as sp c b hc hN4 hb4 7 9 j q fr v nb aq hst hq hz ha hnb (by decide)) (x_recv hC hR (s0 := 3) (i0 := 7) (show 7 < 11 by omega) rfl rfl) gm_Gai hC.2.2.2.2.2.2.2.1.1 (by decide +kernel) ⟨rfl, rfl⟩ ⟨Nat.le_of_ble_eq_true rfl, Nat.le_of_ble_eq_true rfl⟩ rfl (lv_sub hl [] rfl) rfl (Nat.le_of_ble_eq_true rfl) ⟨Nat.le_of_ble_eq_true rfl, Nat.le_of_ble_eq_true rfl⟩ d_Line_take_6) hS (fun H locs nw1 sp1 hR hS => ?_)
    refine W.widen (k := 2) (n := 16) (by decide) (by decide) ?_
    exact x_iret (nw := nw1) E hR hS (by split <;> rfl) rfl d_Line_take_9
  · refine lv_aload_n hx hb d_Line_take_0 rfl (lv_at hl 0 rfl) ?_
    refine xg_Line E hC hR (show vl N 11 (4 * c + b) from (show 4 * c + b < 4 * N by omega)) 4 (by decide) zf_Line_32 rfl d_Line_take_1 ?_
    refine wr_eq (y := ad 3 7) (congrArg (ad 3) (by rw [show g 8 (4 * c + b) = nI 7 from hst]; exact nI_clamp (by omega))) ?_
    refine lv_aload_n hx hb d_Line_take_4 rfl (lv_at hl 0 rfl) ?_
    refine lv_aload_n hx hb d_Line_take_5 rfl (lv_at hl 1 rfl) ?_
    refine xc_i (av := [.ref (ad 3 7), .ref (ad 11 (4 * c + b)), .ref q]) (xrunU (n := 2) (As := [.ref (ad 11 (4 * c + b)), .ref q]) (rest := []) E hA hC hR hS (c_Gai_take l D dA eA ad A N g M as sp c b hc hN4 hb4 7 4 j q fr v nb aq hst hq hz ha hnb (by decide)) (x_recv hC hR (s0 := 3) (i0 := 7) (show 7 < 11 by omega) rfl rfl) gm_Gai hC.2.2.2.2.2.2.2.1.1 (by decide +kernel) ⟨rfl, rfl⟩ ⟨Nat.le_of_ble_eq_true rfl, Nat.le_of_ble_eq_true rfl⟩ rfl (lv_sub hl [] rfl) rfl (Nat.le_of_ble_eq_true rfl) ⟨Nat.le_of_ble_eq_true rfl, Nat.le_of_ble_eq_true rfl⟩ d_Line_take_6) hS (fun H locs nw1 sp1 hR hS => ?_)
    refine W.widen (k := 2) (n := 16) (by decide) (by decide) ?_
    exact x_iret (nw := nw1) E hR hS (by split <;> rfl) rfl d_Line_take_9
  · refine lv_aload_n hx hb d_Line_take_0 rfl (lv_at hl 0 rfl) ?_
    refine xg_Line E hC hR (show vl N 11 (4 * c + b) from (show 4 * c + b < 4 * N by omega)) 4 (by decide) zf_Line_32 rfl d_Line_take_1 ?_
    refine wr_eq (y := ad 3 7) (congrArg (ad 3) (by rw [show g 8 (4 * c + b) = nI 7 from hst]; exact nI_clamp (by omega))) ?_
    refine lv_aload_n hx hb d_Line_take_4 rfl (lv_at hl 0 rfl) ?_
    refine lv_aload_n hx hb d_Line_take_5 rfl (lv_at hl 1 rfl) ?_
    refine xc_i (av := [.ref (ad 3 7), .ref (ad 11 (4 * c + b)), .ref q]) (xrunU (n := 2) (As := [.ref (ad 11 (4 * c + b)), .ref q]) (rest := []) E hA hC hR hS (c_Gai_take l D dA eA ad A N g M as sp c b hc hN4 hb4 7 5 j q fr v nb aq hst hq hz ha hnb (by decide)) (x_recv hC hR (s0 := 3) (i0 := 7) (show 7 < 11 by omega) rfl rfl) gm_Gai hC.2.2.2.2.2.2.2.1.1 (by decide +kernel) ⟨rfl, rfl⟩ ⟨Nat.le_of_ble_eq_true rfl, Nat.le_of_ble_eq_true rfl⟩ rfl (lv_sub hl [] rfl) rfl (Nat.le_of_ble_eq_true rfl) ⟨Nat.le_of_ble_eq_true rfl, Nat.le_of_ble_eq_true rfl⟩ d_Line_take_6) hS (fun H locs nw1 sp1 hR hS => ?_)
    refine W.widen (k := 2) (n := 16) (by decide) (by decide) ?_
    exact x_iret (nw := nw1) E hR hS (by split <;> rfl) rfl d_Line_take_9
