theorem c_Net_init (l : Launch) (q : Nat) : Met l y_Net_init (k_Net_init :: wz) (rml 1 0 0) (fun v _ => v = ([.ref q] : List Value).toArray) (va_Sv (fun _ => True)) 0 0 (fun _ => False) := by
  refine st_entry (by decide) (Nat.le_of_ble_eq_true rfl) ?_
  intro p e s m below meth c0 E ls hl
  have hx := E.1
  have hb := E.2.1
  replace hl : lv_has ls 1 [(0, .ref q)] := hl
  refine lv_aload_n hx hb d_Net_init_0 rfl (lv_at hl 0 rfl) ?_
  refine W.objInit hx hb E.2.2.2.1 (E.2.2.2.2.1 _ zm_Net_3) (E.2.2.2.2.1 _ zi_Obj_init) (E.2.2.2.2.1 _ zk_Obj_init) rfl (by rw [E.2.2.1]; exact hl.1) rfl d_Net_init_1 (Nat.le_of_ble_eq_true rfl) (Nat.le_of_ble_eq_true rfl) ?_
  refine W.eq (g2 := F0 m 4 ls []) rfl ?_
  exact W.vret hx hb E.2.2.2.2.2.1 (fun t ht _ => ⟨rfl, trivial, ht⟩) (fun q h => by cases h) d_Net_init_4 E.2.2.2.2.2.2
set_option maxHeartbeats 4000000 in
set_option maxRecDepth 100000 in
theorem c_Mode_init_Emp (l : Launch) (D : va_G) (dA : Nat → ClassId) (eA : Nat → Nat → Nat) (A : Nat → Prop) (P : PM) (s0 i0 q : Nat) (cd hd : Int32) (h0 : P s0 i0 = some (q, .inr (3, [.int 0, .int 0]))) (hh : hd = 0 ∨ hd = 1) : Met l y_Mode_init (k_Mode_init :: wz) (rml 1 0 0) (va_Pc [.ref q, .int cd, .int hd] (PL D dA eA A P)) (LQv D A (pset P s0 i0 (q, .inr (3, [.int cd, .int hd])))) 0 0 A := by
  refine l_entry (by decide) (Nat.le_of_ble_eq_true rfl) ?_
  intro p e s m below meth c0 E hin hA hC hR ls hl
  have hx := E.1
  have hb := E.2.1
  have hS : va_S A s.heap s.heap [] := va_S.rf
  replace hl : lv_has ls 3 [(0, .ref q), (1, .int cd), (2, .int hd)] := hl
  refine lv_aload_n hx hb d_Mode_init_0 rfl (lv_at hl 0 rfl) ?_
  refine W.objInit hx hb E.2.2.2.1 (E.2.2.2.2.1 _ zm_Mode_1) (E.2.2.2.2.1 _ zi_Obj_init) (E.2.2.2.2.1 _ zk_Obj_init) rfl (by rw [E.2.2.1]; exact hl.1) rfl d_Mode_init_1 (Nat.le_of_ble_eq_true rfl) (Nat.le_of_ble_eq_true rfl) ?_
  refine W.eq (g2 := F0 m 4 ls []) rfl ?_
  refine lv_aload_n hx hb d_Mode_init_4 rfl (lv_at hl 0 rfl) ?_
  refine lv_iload_n hx hb d_Mode_init_5 rfl (lv_at hl 1 rfl) ?_
  refine l_putF (ci := 3) (C := R_Emp) (T := F_Emp) (Nn := 2) (v := .int cd) (fs' := [.int cd, .int 0]) E hC.1 hR hS (h0) rfl i_Emp t_Emp t_Emp_ok n_Emp 0 (by decide) zf_Mode_7 rfl hin rfl rfl rfl (Nat.le_of_ble_eq_true rfl) rfl d_Mode_init_6 (fun H locs hR hS => ?_)
  refine lv_aload_n hx hb d_Mode_init_9 rfl (lv_at hl 0 rfl) ?_
  refine lv_iload_n hx hb d_Mode_init_10 rfl (lv_at hl 2 rfl) ?_
  refine l_putF (ci := 3) (C := R_Emp) (T := F_Emp) (Nn := 2) (v := .int hd) (fs' := [.int cd, .int hd]) E hC.1 hR hS (pset_self _ _ _ _) rfl i_Emp t_Emp t_Emp_ok n_Emp 1 (by decide) zf_Mode_13 rfl hin rfl (by rcases hh with rfl | rfl <;> rfl) (by rcases hh with rfl | rfl <;> rfl) (Nat.le_of_ble_eq_true rfl) rfl d_Mode_init_11 (fun H locs hR hS => ?_)
  rw [pset_pset] at hR
  exact l_vret E hR hS d_Mode_init_14
set_option maxHeartbeats 4000000 in
set_option maxRecDepth 100000 in
theorem c_Mode_init_Sha (l : Launch) (D : va_G) (dA : Nat → ClassId) (eA : Nat → Nat → Nat) (A : Nat → Prop) (P : PM) (s0 i0 q : Nat) (cd hd : Int32) (h0 : P s0 i0 = some (q, .inr (4, [.int 0, .int 0]))) (hh : hd = 0 ∨ hd = 1) : Met l y_Mode_init (k_Mode_init :: wz) (rml 1 0 0) (va_Pc [.ref q, .int cd, .int hd] (PL D dA eA A P)) (LQv D A (pset P s0 i0 (q, .inr (4, [.int cd, .int hd])))) 0 0 A := by
  refine l_entry (by decide) (Nat.le_of_ble_eq_true rfl) ?_
  intro p e s m below meth c0 E hin hA hC hR ls hl
  have hx := E.1
  have hb := E.2.1
  have hS : va_S A s.heap s.heap [] := va_S.rf
  replace hl : lv_has ls 3 [(0, .ref q), (1, .int cd), (2, .int hd)] := hl
  refine lv_aload_n hx hb d_Mode_init_0 rfl (lv_at hl 0 rfl) ?_
  refine W.objInit hx hb E.2.2.2.1 (E.2.2.2.2.1 _ zm_Mode_1) (E.2.2.2.2.1 _ zi_Obj_init) (E.2.2.2.2.1 _ zk_Obj_init) rfl (by rw [E.2.2.1]; exact hl.1) rfl d_Mode_init_1 (Nat.le_of_ble_eq_true rfl) (Nat.le_of_ble_eq_true rfl) ?_
  refine W.eq (g2 := F0 m 4 ls []) rfl ?_
  refine lv_aload_n hx hb d_Mode_init_4 rfl (lv_at hl 0 rfl) ?_
  refine lv_iload_n hx hb d_Mode_init_5 rfl (lv_at hl 1 rfl) ?_
  refine l_putF (ci := 4) (C := R_Sha) (T := F_Sha) (Nn := 2) (v := .int cd) (fs' := [.int cd, .int 0]) E hC.1 hR hS (h0) rfl i_Sha t_Sha t_Sha_ok n_Sha 0 (by decide) zf_Mode_7 rfl hin rfl rfl rfl (Nat.le_of_ble_eq_true rfl) rfl d_Mode_init_6 (fun H locs hR hS => ?_)
  refine lv_aload_n hx hb d_Mode_init_9 rfl (lv_at hl 0 rfl) ?_
  refine lv_iload_n hx hb d_Mode_init_10 rfl (lv_at hl 2 rfl) ?_
  refine l_putF (ci := 4) (C := R_Sha) (T := F_Sha) (Nn := 2) (v := .int hd) (fs' := [.int cd, .int hd]) E hC.1 hR hS (pset_self _ _ _ _) rfl i_Sha t_Sha t_Sha_ok n_Sha 1 (by decide) zf_Mode_13 rfl hin rfl (by rcases hh with rfl | rfl <;> rfl) (by rcases hh with rfl | rfl <;> rfl) (Nat.le_of_ble_eq_true rfl) rfl d_Mode_init_11 (fun H locs hR hS => ?_)
  rw [pset_pset] at hR
  exact l_vret E hR hS d_Mode_init_14
set_option maxHeartbeats 4000000 in
set_option maxRecDepth 100000 in
theorem c_Mode_init_Own (l : Launch) (D : va_G) (dA : Nat → ClassId) (eA : Nat → Nat → Nat) (A : Nat → Prop) (P : PM) (s0 i0 q : Nat) (cd hd : Int32) (h0 : P s0 i0 = some (q, .inr (5, [.int 0, .int 0]))) (hh : hd = 0 ∨ hd = 1) : Met l y_Mode_init (k_Mode_init :: wz) (rml 1 0 0) (va_Pc [.ref q, .int cd, .int hd] (PL D dA eA A P)) (LQv D A (pset P s0 i0 (q, .inr (5, [.int cd, .int hd])))) 0 0 A := by
  refine l_entry (by decide) (Nat.le_of_ble_eq_true rfl) ?_
  intro p e s m below meth c0 E hin hA hC hR ls hl
  have hx := E.1
  have hb := E.2.1
  have hS : va_S A s.heap s.heap [] := va_S.rf
  replace hl : lv_has ls 3 [(0, .ref q), (1, .int cd), (2, .int hd)] := hl
  refine lv_aload_n hx hb d_Mode_init_0 rfl (lv_at hl 0 rfl) ?_
  refine W.objInit hx hb E.2.2.2.1 (E.2.2.2.2.1 _ zm_Mode_1) (E.2.2.2.2.1 _ zi_Obj_init) (E.2.2.2.2.1 _ zk_Obj_init) rfl (by rw [E.2.2.1]; exact hl.1) rfl d_Mode_init_1 (Nat.le_of_ble_eq_true rfl) (Nat.le_of_ble_eq_true rfl) ?_
  refine W.eq (g2 := F0 m 4 ls []) rfl ?_
  refine lv_aload_n hx hb d_Mode_init_4 rfl (lv_at hl 0 rfl) ?_
  refine lv_iload_n hx hb d_Mode_init_5 rfl (lv_at hl 1 rfl) ?_
  refine l_putF (ci := 5) (C := R_Own) (T := F_Own) (Nn := 2) (v := .int cd) (fs' := [.int cd, .int 0]) E hC.1 hR hS (h0) rfl i_Own t_Own t_Own_ok n_Own 0 (by decide) zf_Mode_7 rfl hin rfl rfl rfl (Nat.le_of_ble_eq_true rfl) rfl d_Mode_init_6 (fun H locs hR hS => ?_)
  refine lv_aload_n hx hb d_Mode_init_9 rfl (lv_at hl 0 rfl) ?_
  refine lv_iload_n hx hb d_Mode_init_10 rfl (lv_at hl 2 rfl) ?_
  refine l_putF (ci := 5) (C := R_Own) (T := F_Own) (Nn := 2) (v := .int hd) (fs' := [.int cd, .int hd]) E hC.1 hR hS (pset_self _ _ _ _) rfl i_Own t_Own t_Own_ok n_Own 1 (by decide) zf_Mode_13 rfl hin rfl (by rcases hh with rfl | rfl <;> rfl) (by rcases hh with rfl | rfl <;> rfl) (Nat.le_of_ble_eq_true rfl) rfl d_Mode_init_11 (fun H locs hR hS => ?_)
  rw [pset_pset] at hR
  exact l_vret E hR hS d_Mode_init_14
set_option maxHeartbeats 4000000 in
set_option maxRecDepth 100000 in
theorem c_Mode_init_Fet (l : Launch) (D : va_G) (dA : Nat → ClassId) (eA : Nat → Nat → Nat) (A : Nat → Prop) (P : PM) (s0 i0 q : Nat) (cd hd : Int32) (h0 : P s0 i0 = some (q, .inr (6, [.int 0, .int 0]))) (hh : hd = 0 ∨ hd = 1) : Met l y_Mode_init (k_Mode_init :: wz) (rml 1 0 0) (va_Pc [.ref q, .int cd, .int hd] (PL D dA eA A P)) (LQv D A (pset P s0 i0 (q, .inr (6, [.int cd, .int hd])))) 0 0 A := by
  refine l_entry (by decide) (Nat.le_of_ble_eq_true rfl) ?_
  intro p e s m below meth c0 E hin hA hC hR ls hl
  have hx := E.1
  have hb := E.2.1
  have hS : va_S A s.heap s.heap [] := va_S.rf
  replace hl : lv_has ls 3 [(0, .ref q), (1, .int cd), (2, .int hd)] := hl
  refine lv_aload_n hx hb d_Mode_init_0 rfl (lv_at hl 0 rfl) ?_
  refine W.objInit hx hb E.2.2.2.1 (E.2.2.2.2.1 _ zm_Mode_1) (E.2.2.2.2.1 _ zi_Obj_init) (E.2.2.2.2.1 _ zk_Obj_init) rfl (by rw [E.2.2.1]; exact hl.1) rfl d_Mode_init_1 (Nat.le_of_ble_eq_true rfl) (Nat.le_of_ble_eq_true rfl) ?_
  refine W.eq (g2 := F0 m 4 ls []) rfl ?_
  refine lv_aload_n hx hb d_Mode_init_4 rfl (lv_at hl 0 rfl) ?_
  refine lv_iload_n hx hb d_Mode_init_5 rfl (lv_at hl 1 rfl) ?_
  refine l_putF (ci := 6) (C := R_Fet) (T := F_Fet) (Nn := 2) (v := .int cd) (fs' := [.int cd, .int 0]) E hC.1 hR hS (h0) rfl i_Fet t_Fet t_Fet_ok n_Fet 0 (by decide) zf_Mode_7 rfl hin rfl rfl rfl (Nat.le_of_ble_eq_true rfl) rfl d_Mode_init_6 (fun H locs hR hS => ?_)
  refine lv_aload_n hx hb d_Mode_init_9 rfl (lv_at hl 0 rfl) ?_
  refine lv_iload_n hx hb d_Mode_init_10 rfl (lv_at hl 2 rfl) ?_
  refine l_putF (ci := 6) (C := R_Fet) (T := F_Fet) (Nn := 2) (v := .int hd) (fs' := [.int cd, .int hd]) E hC.1 hR hS (pset_self _ _ _ _) rfl i_Fet t_Fet t_Fet_ok n_Fet 1 (by decide) zf_Mode_13 rfl hin rfl (by rcases hh with rfl | rfl <;> rfl) (by rcases hh with rfl | rfl <;> rfl) (Nat.le_of_ble_eq_true rfl) rfl d_Mode_init_11 (fun H locs hR hS => ?_)
  rw [pset_pset] at hR
  exact l_vret E hR hS d_Mode_init_14
set_option maxHeartbeats 4000000 in
set_option maxRecDepth 100000 in
theorem c_Mode_init_Gai (l : Launch) (D : va_G) (dA : Nat → ClassId) (eA : Nat → Nat → Nat) (A : Nat → Prop) (P : PM) (s0 i0 q : Nat) (cd hd : Int32) (h0 : P s0 i0 = some (q, .inr (7, [.int 0, .int 0, .int 0]))) (hh : hd = 0 ∨ hd = 1) : Met l y_Mode_init (k_Mode_init :: wz) (rml 1 0 0) (va_Pc [.ref q, .int cd, .int hd] (PL D dA eA A P)) (LQv D A (pset P s0 i0 (q, .inr (7, [.int cd, .int hd, .int 0])))) 0 0 A := by
  refine l_entry (by decide) (Nat.le_of_ble_eq_true rfl) ?_
  intro p e s m below meth c0 E hin hA hC hR ls hl
  have hx := E.1
  have hb := E.2.1
  have hS : va_S A s.heap s.heap [] := va_S.rf
  replace hl : lv_has ls 3 [(0, .ref q), (1, .int cd), (2, .int hd)] := hl
  refine lv_aload_n hx hb d_Mode_init_0 rfl (lv_at hl 0 rfl) ?_
  refine W.objInit hx hb E.2.2.2.1 (E.2.2.2.2.1 _ zm_Mode_1) (E.2.2.2.2.1 _ zi_Obj_init) (E.2.2.2.2.1 _ zk_Obj_init) rfl (by rw [E.2.2.1]; exact hl.1) rfl d_Mode_init_1 (Nat.le_of_ble_eq_true rfl) (Nat.le_of_ble_eq_true rfl) ?_
  refine W.eq (g2 := F0 m 4 ls []) rfl ?_
  refine lv_aload_n hx hb d_Mode_init_4 rfl (lv_at hl 0 rfl) ?_
  refine lv_iload_n hx hb d_Mode_init_5 rfl (lv_at hl 1 rfl) ?_
  refine l_putF (ci := 7) (C := R_Gai) (T := F_Gai) (Nn := 3) (v := .int cd) (fs' := [.int cd, .int 0, .int 0]) E hC.1 hR hS (h0) rfl i_Gai t_Gai t_Gai_ok n_Gai 0 (by decide) zf_Mode_7 rfl hin rfl rfl rfl (Nat.le_of_ble_eq_true rfl) rfl d_Mode_init_6 (fun H locs hR hS => ?_)
  refine lv_aload_n hx hb d_Mode_init_9 rfl (lv_at hl 0 rfl) ?_
  refine lv_iload_n hx hb d_Mode_init_10 rfl (lv_at hl 2 rfl) ?_
  refine l_putF (ci := 7) (C := R_Gai) (T := F_Gai) (Nn := 3) (v := .int hd) (fs' := [.int cd, .int hd, .int 0]) E hC.1 hR hS (pset_self _ _ _ _) rfl i_Gai t_Gai t_Gai_ok n_Gai 1 (by decide) zf_Mode_13 rfl hin rfl (by rcases hh with rfl | rfl <;> rfl) (by rcases hh with rfl | rfl <;> rfl) (Nat.le_of_ble_eq_true rfl) rfl d_Mode_init_11 (fun H locs hR hS => ?_)
  rw [pset_pset] at hR
  exact l_vret E hR hS d_Mode_init_14
set_option maxHeartbeats 4000000 in
set_option maxRecDepth 100000 in
theorem c_Emp_init (l : Launch) (D : va_G) (dA : Nat → ClassId) (eA : Nat → Nat → Nat) (A : Nat → Prop) (P : PM) (s0 i0 q : Nat) (cd : Int32) (h0 : P s0 i0 = some (q, .inr (3, [.int 0, .int 0]))) : Met l y_Emp_init (k_Emp_init :: wz) (rml 2 0 0) (va_Pc [.ref q, .int cd] (PL D dA eA A P)) (LQv D A (pset P s0 i0 (q, .inr (3, [.int cd, .int 0])))) 0 0 A := by
  refine l_entry (by decide) (Nat.le_of_ble_eq_true rfl) ?_
  intro p e s m below meth c0 E hin hA hC hR ls hl
  have hx := E.1
  have hb := E.2.1
  have hS : va_S A s.heap s.heap [] := va_S.rf
  replace hl : lv_has ls 2 [(0, .ref q), (1, .int cd)] := hl
  refine lv_aload_n hx hb d_Emp_init_0 rfl (lv_at hl 0 rfl) ?_
  refine lv_iload_n hx hb d_Emp_init_1 rfl (lv_at hl 1 rfl) ?_
  refine lv_iconst (v := 0) hx hb d_Emp_init_2 (by decide) ?_
  refine lc_v (av := [.ref q, .int cd, .int 0]) (l_runI (n := 2) (As := [.int cd, .int 0]) (rest := []) E hA hC hR hS (c_Mode_init_Emp l D dA eA A P s0 i0 q cd 0 (h0) (Or.inl rfl)) zk_Mode_init zn_Mode zm_Emp_1 zi_Mode_init rfl (by decide +kernel) ⟨rfl, rfl⟩ ⟨Nat.le_of_ble_eq_true rfl, Nat.le_of_ble_eq_true rfl⟩ rfl (lv_sub hl [] rfl) rfl (Nat.le_of_ble_eq_true rfl) ⟨Nat.le_of_ble_eq_true rfl, Nat.le_of_ble_eq_true rfl⟩ d_Emp_init_3) hS (fun H locs hR hS => ?_)
  exact l_vret E hR hS d_Emp_init_6
set_option maxHeartbeats 4000000 in
set_option maxRecDepth 100000 in
theorem c_Sha_init (l : Launch) (D : va_G) (dA : Nat → ClassId) (eA : Nat → Nat → Nat) (A : Nat → Prop) (P : PM) (s0 i0 q : Nat) (cd : Int32) (h0 : P s0 i0 = some (q, .inr (4, [.int 0, .int 0]))) : Met l y_Sha_init (k_Sha_init :: wz) (rml 2 0 0) (va_Pc [.ref q, .int cd] (PL D dA eA A P)) (LQv D A (pset P s0 i0 (q, .inr (4, [.int cd, .int 1])))) 0 0 A := by
  refine l_entry (by decide) (Nat.le_of_ble_eq_true rfl) ?_
  intro p e s m below meth c0 E hin hA hC hR ls hl
  have hx := E.1
  have hb := E.2.1
  have hS : va_S A s.heap s.heap [] := va_S.rf
  replace hl : lv_has ls 2 [(0, .ref q), (1, .int cd)] := hl
  refine lv_aload_n hx hb d_Sha_init_0 rfl (lv_at hl 0 rfl) ?_
  refine lv_iload_n hx hb d_Sha_init_1 rfl (lv_at hl 1 rfl) ?_
  refine lv_iconst (v := 1) hx hb d_Sha_init_2 (by decide) ?_
  refine lc_v (av := [.ref q, .int cd, .int 1]) (l_runI (n := 2) (As := [.int cd, .int 1]) (rest := []) E hA hC hR hS (c_Mode_init_Sha l D dA eA A P s0 i0 q cd 1 (h0) (Or.inr rfl)) zk_Mode_init zn_Mode zm_Sha_1 zi_Mode_init rfl (by decide +kernel) ⟨rfl, rfl⟩ ⟨Nat.le_of_ble_eq_true rfl, Nat.le_of_ble_eq_true rfl⟩ rfl (lv_sub hl [] rfl) rfl (Nat.le_of_ble_eq_true rfl) ⟨Nat.le_of_ble_eq_true rfl, Nat.le_of_ble_eq_true rfl⟩ d_Sha_init_3) hS (fun H locs hR hS => ?_)
  exact l_vret E hR hS d_Sha_init_6
set_option maxHeartbeats 4000000 in
set_option maxRecDepth 100000 in
theorem c_Own_init (l : Launch) (D : va_G) (dA : Nat → ClassId) (eA : Nat → Nat → Nat) (A : Nat → Prop) (P : PM) (s0 i0 q : Nat) (cd : Int32) (h0 : P s0 i0 = some (q, .inr (5, [.int 0, .int 0]))) : Met l y_Own_init (k_Own_init :: wz) (rml 2 0 0) (va_Pc [.ref q, .int cd] (PL D dA eA A P)) (LQv D A (pset P s0 i0 (q, .inr (5, [.int cd, .int 1])))) 0 0 A := by
  refine l_entry (by decide) (Nat.le_of_ble_eq_true rfl) ?_
  intro p e s m below meth c0 E hin hA hC hR ls hl
  have hx := E.1
  have hb := E.2.1
  have hS : va_S A s.heap s.heap [] := va_S.rf
  replace hl : lv_has ls 2 [(0, .ref q), (1, .int cd)] := hl
  refine lv_aload_n hx hb d_Own_init_0 rfl (lv_at hl 0 rfl) ?_
  refine lv_iload_n hx hb d_Own_init_1 rfl (lv_at hl 1 rfl) ?_
  refine lv_iconst (v := 1) hx hb d_Own_init_2 (by decide) ?_
  refine lc_v (av := [.ref q, .int cd, .int 1]) (l_runI (n := 2) (As := [.int cd, .int 1]) (rest := []) E hA hC hR hS (c_Mode_init_Own l D dA eA A P s0 i0 q cd 1 (h0) (Or.inr rfl)) zk_Mode_init zn_Mode zm_Own_3 zi_Mode_init rfl (by decide +kernel) ⟨rfl, rfl⟩ ⟨Nat.le_of_ble_eq_true rfl, Nat.le_of_ble_eq_true rfl⟩ rfl (lv_sub hl [] rfl) rfl (Nat.le_of_ble_eq_true rfl) ⟨Nat.le_of_ble_eq_true rfl, Nat.le_of_ble_eq_true rfl⟩ d_Own_init_3) hS (fun H locs hR hS => ?_)
  exact l_vret E hR hS d_Own_init_6
set_option maxHeartbeats 4000000 in
set_option maxRecDepth 100000 in
theorem c_Fet_init (l : Launch) (D : va_G) (dA : Nat → ClassId) (eA : Nat → Nat → Nat) (A : Nat → Prop) (P : PM) (s0 i0 q : Nat) (h0 : P s0 i0 = some (q, .inr (6, [.int 0, .int 0]))) : Met l y_Fet_init (k_Fet_init :: wz) (rml 2 0 0) (va_Pc [.ref q] (PL D dA eA A P)) (LQv D A (pset P s0 i0 (q, .inr (6, [.int 3, .int 0])))) 0 0 A := by
  refine l_entry (by decide) (Nat.le_of_ble_eq_true rfl) ?_
  intro p e s m below meth c0 E hin hA hC hR ls hl
  have hx := E.1
  have hb := E.2.1
  have hS : va_S A s.heap s.heap [] := va_S.rf
  replace hl : lv_has ls 1 [(0, .ref q)] := hl
  refine lv_aload_n hx hb d_Fet_init_0 rfl (lv_at hl 0 rfl) ?_
  refine lv_iconst (v := 3) hx hb d_Fet_init_1 (by decide) ?_
  refine lv_iconst (v := 0) hx hb d_Fet_init_2 (by decide) ?_
  refine lc_v (av := [.ref q, .int 3, .int 0]) (l_runI (n := 2) (As := [.int 3, .int 0]) (rest := []) E hA hC hR hS (c_Mode_init_Fet l D dA eA A P s0 i0 q 3 0 (h0) (Or.inl rfl)) zk_Mode_init zn_Mode zm_Fet_1 zi_Mode_init rfl (by decide +kernel) ⟨rfl, rfl⟩ ⟨Nat.le_of_ble_eq_true rfl, Nat.le_of_ble_eq_true rfl⟩ rfl (lv_sub hl [] rfl) rfl (Nat.le_of_ble_eq_true rfl) ⟨Nat.le_of_ble_eq_true rfl, Nat.le_of_ble_eq_true rfl⟩ d_Fet_init_3) hS (fun H locs hR hS => ?_)
  exact l_vret E hR hS d_Fet_init_6
set_option maxHeartbeats 4000000 in
set_option maxRecDepth 100000 in
theorem c_Gai_init (l : Launch) (D : va_G) (dA : Nat → ClassId) (eA : Nat → Nat → Nat) (A : Nat → Prop) (P : PM) (s0 i0 q : Nat) (cd hd ct : Int32) (hh : hd = 0 ∨ hd = 1) (hc : ct = 0 ∨ ct = 1) (h0 : P s0 i0 = some (q, .inr (7, [.int 0, .int 0, .int 0]))) : Met l y_Gai_init (k_Gai_init :: wz) (rml 2 0 0) (va_Pc [.ref q, .int cd, .int hd, .int ct] (PL D dA eA A P)) (LQv D A (pset P s0 i0 (q, .inr (7, [.int cd, .int hd, .int ct])))) 0 0 A := by
  refine l_entry (by decide) (Nat.le_of_ble_eq_true rfl) ?_
  intro p e s m below meth c0 E hin hA hC hR ls hl
  have hx := E.1
  have hb := E.2.1
  have hS : va_S A s.heap s.heap [] := va_S.rf
  replace hl : lv_has ls 4 [(0, .ref q), (1, .int cd), (2, .int hd), (3, .int ct)] := hl
  refine lv_aload_n hx hb d_Gai_init_0 rfl (lv_at hl 0 rfl) ?_
  refine lv_iload_n hx hb d_Gai_init_1 rfl (lv_at hl 1 rfl) ?_
  refine lv_iload_n hx hb d_Gai_init_2 rfl (lv_at hl 2 rfl) ?_
  refine lc_v (av := [.ref q, .int cd, .int hd]) (l_runI (n := 2) (As := [.int cd, .int hd]) (rest := []) E hA hC hR hS (c_Mode_init_Gai l D dA eA A P s0 i0 q cd hd (h0) hh) zk_Mode_init zn_Mode zm_Gai_1 zi_Mode_init rfl (by decide +kernel) ⟨rfl, rfl⟩ ⟨Nat.le_of_ble_eq_true rfl, Nat.le_of_ble_eq_true rfl⟩ rfl (lv_sub hl [] rfl) rfl (Nat.le_of_ble_eq_true rfl) ⟨Nat.le_of_ble_eq_true rfl, Nat.le_of_ble_eq_true rfl⟩ d_Gai_init_3) hS (fun H locs hR hS => ?_)
  refine lv_aload_n hx hb d_Gai_init_6 rfl (lv_at hl 0 rfl) ?_
  refine lv_iload_n hx hb d_Gai_init_7 rfl (lv_at hl 3 rfl) ?_
  refine l_putF (ci := 7) (C := R_Gai) (T := F_Gai) (Nn := 3) (v := .int ct) (fs' := [.int cd, .int hd, .int ct]) E hC.1 hR hS (pset_self _ _ _ _) rfl i_Gai t_Gai t_Gai_ok n_Gai 2 (by decide) zf_Gai_7 rfl hin rfl (by rcases hc with rfl | rfl <;> rfl) (by rcases hc with rfl | rfl <;> rfl) (Nat.le_of_ble_eq_true rfl) rfl d_Gai_init_8 (fun H locs hR hS => ?_)
  rw [pset_pset] at hR
  exact l_vret E hR hS d_Gai_init_11
/-- the chart at q with its modes at md -/
def PCh (P : PM) (q : Nat) (md : Nat → Nat) : PM := fun s i => if s = 3 ∧ i < 11 then some (md i, mdc i) else if s = 2 ∧ i = 0 then some (q, .inr (2, [.ref (md 0), .ref (md 1), .ref (md 2), .ref (md 3), .ref (md 4), .ref (md 5), .ref (md 6), .ref (md 7), .ref (md 8), .ref (md 9), .ref (md 10)])) else P s i
set_option maxHeartbeats 4000000 in
set_option maxRecDepth 100000 in
theorem c_Chart_init (l : Launch) (D : va_G) (dA : Nat → ClassId) (eA : Nat → Nat → Nat) (A : Nat → Prop) (P : PM) (q : Nat) (h0 : P 2 0 = some (q, .inr (2, [.null, .null, .null, .null, .null, .null, .null, .null, .null, .null, .null]))) : Met l y_Chart_init (k_Chart_init :: wz) (rml 3 11 26) (va_Pc [.ref q] (PL D dA eA A P)) (va_Qv (fun (_ : Nat → Nat) => True) (fun md t => LW D A (PCh P q md) t.heap) A) 11 26 A := by
  refine l_entry (by decide) (Nat.le_of_ble_eq_true rfl) ?_
  intro p e s m below meth c0 E hin hA hC hR ls hl
  have hx := E.1
  have hb := E.2.1
  have hS : va_S A s.heap s.heap [] := va_S.rf
  replace hl : lv_has ls 1 [(0, .ref q)] := hl
  refine lv_aload_n hx hb d_Chart_init_0 rfl (lv_at hl 0 rfl) ?_
  refine W.objInit hx hb E.2.2.2.1 (E.2.2.2.2.1 _ zm_Chart_1) (E.2.2.2.2.1 _ zi_Obj_init) (E.2.2.2.2.1 _ zk_Obj_init) rfl (by rw [E.2.2.1]; exact hl.1) rfl d_Chart_init_1 (Nat.le_of_ble_eq_true rfl) (Nat.le_of_ble_eq_true rfl) ?_
  refine W.eq (g2 := F0 m 4 ls []) rfl ?_
  refine lv_aload_n hx hb d_Chart_init_4 rfl (lv_at hl 0 rfl) ?_
  refine l_new 3 0 (ci := 3) (C := R_Emp) (T := F_Emp) (Nn := 2) (fs := [.int 0, .int 0]) E hC.1 hR hS hA rfl i_Emp t_Emp t_Emp_ok zc_Chart_7 zI_Emp zn_Emp (by intro j hj; match j, hj with | 0, _ => rfl | 1, _ => rfl) (Nat.le_of_ble_eq_true rfl) (Nat.le_of_ble_eq_true rfl) d_Chart_init_5 (fun q5 H hR hS => ?_)
  refine W.widen (k := 1) (n := 2) (by decide) (by decide) ?_
  refine lv_dup hx hb d_Chart_init_8 rfl ?_
  refine lv_iconst (v := 0) hx hb d_Chart_init_9 (by decide) ?_
  refine lc_v (av := [.ref q5, .int 0]) (l_runI (n := 1) (As := [.int 0]) (rest := [.ref q5, .ref q]) E hA hC hR hS (c_Emp_init l D dA eA A (pset P 3 0 (q5, .inr (3, [.int 0, .int 0]))) 3 0 q5 0 (pset_self _ _ _ _)) zk_Emp_init zn_Emp zm_Chart_9 zi_Emp_init rfl (by decide +kernel) ⟨rfl, rfl⟩ ⟨Nat.le_of_ble_eq_true rfl, Nat.le_of_ble_eq_true rfl⟩ rfl (lv_sub hl [] rfl) rfl (Nat.le_of_ble_eq_true rfl) ⟨Nat.le_of_ble_eq_true rfl, Nat.le_of_ble_eq_true rfl⟩ d_Chart_init_10) hS (fun H locs hR hS => ?_)
  rw [pset_pset] at hR
  refine l_putF (ci := 2) (C := R_Chart) (T := F_Chart) (Nn := 11) (v := .ref q5) (fs' := [.ref q5, .null, .null, .null, .null, .null, .null, .null, .null, .null, .null]) E hC.1 hR hS ((pset_ne _ _ (by omega)).trans (h0)) rfl i_Chart t_Chart t_Chart_ok n_Chart 0 (by decide) zf_Chart_12 rfl hin rfl rfl rfl (Nat.le_of_ble_eq_true rfl) rfl d_Chart_init_13 (fun H locs hR hS => ?_)
  refine lv_aload_n hx hb d_Chart_init_16 rfl (lv_at hl 0 rfl) ?_
  refine l_new 3 1 (ci := 4) (C := R_Sha) (T := F_Sha) (Nn := 2) (fs := [.int 0, .int 0]) E hC.1 hR hS hA rfl i_Sha t_Sha t_Sha_ok zc_Chart_18 zI_Sha zn_Sha (by intro j hj; match j, hj with | 0, _ => rfl | 1, _ => rfl) (Nat.le_of_ble_eq_true rfl) (Nat.le_of_ble_eq_true rfl) d_Chart_init_17 (fun q17 H hR hS => ?_)
  refine W.widen (k := 2) (n := 4) (by decide) (by decide) ?_
  refine lv_dup hx hb d_Chart_init_20 rfl ?_
  refine lv_iconst (v := 1) hx hb d_Chart_init_21 (by decide) ?_
  refine lc_v (av := [.ref q17, .int 1]) (l_runI (n := 1) (As := [.int 1]) (rest := [.ref q17, .ref q]) E hA hC hR hS (c_Sha_init l D dA eA A (pset (pset (pset P 3 0 (q5, .inr (3, [.int 0, .int 0]))) 2 0 (q, .inr (2, [.ref q5, .null, .null, .null, .null, .null, .null, .null, .null, .null, .null]))) 3 1 (q17, .inr (4, [.int 0, .int 0]))) 3 1 q17 1 (pset_self _ _ _ _)) zk_Sha_init zn_Sha zm_Chart_20 zi_Sha_init rfl (by decide +kernel) ⟨rfl, rfl⟩ ⟨Nat.le_of_ble_eq_true rfl, Nat.le_of_ble_eq_true rfl⟩ rfl (lv_sub hl [] rfl) rfl (Nat.le_of_ble_eq_true rfl) ⟨Nat.le_of_ble_eq_true rfl, Nat.le_of_ble_eq_true rfl⟩ d_Chart_init_22) hS (fun H locs hR hS => ?_)
  rw [pset_pset] at hR
  refine l_putF (ci := 2) (C := R_Chart) (T := F_Chart) (Nn := 11) (v := .ref q17) (fs' := [.ref q5, .ref q17, .null, .null, .null, .null, .null, .null, .null, .null, .null]) E hC.1 hR hS ((pset_ne _ _ (by omega)).trans (pset_self _ _ _ _)) rfl i_Chart t_Chart t_Chart_ok n_Chart 1 (by decide) zf_Chart_21 rfl hin rfl rfl rfl (Nat.le_of_ble_eq_true rfl) rfl d_Chart_init_25 (fun H locs hR hS => ?_)
  refine lv_aload_n hx hb d_Chart_init_28 rfl (lv_at hl 0 rfl) ?_
  refine l_new 3 2 (ci := 5) (C := R_Own) (T := F_Own) (Nn := 2) (fs := [.int 0, .int 0]) E hC.1 hR hS hA rfl i_Own t_Own t_Own_ok zc_Chart_24 zI_Own zn_Own (by intro j hj; match j, hj with | 0, _ => rfl | 1, _ => rfl) (Nat.le_of_ble_eq_true rfl) (Nat.le_of_ble_eq_true rfl) d_Chart_init_29 (fun q29 H hR hS => ?_)
  refine W.widen (k := 3) (n := 6) (by decide) (by decide) ?_
  refine lv_dup hx hb d_Chart_init_32 rfl ?_
  refine lv_iconst (v := 2) hx hb d_Chart_init_33 (by decide) ?_
  refine lc_v (av := [.ref q29, .int 2]) (l_runI (n := 1) (As := [.int 2]) (rest := [.ref q29, .ref q]) E hA hC hR hS (c_Own_init l D dA eA A (pset (pset (pset (pset (pset P 3 0 (q5, .inr (3, [.int 0, .int 0]))) 2 0 (q, .inr (2, [.ref q5, .null, .null, .null, .null, .null, .null, .null, .null, .null, .null]))) 3 1 (q17, .inr (4, [.int 1, .int 1]))) 2 0 (q, .inr (2, [.ref q5, .ref q17, .null, .null, .null, .null, .null, .null, .null, .null, .null]))) 3 2 (q29, .inr (5, [.int 0, .int 0]))) 3 2 q29 2 (pset_self _ _ _ _)) zk_Own_init zn_Own zm_Chart_26 zi_Own_init rfl (by decide +kernel) ⟨rfl, rfl⟩ ⟨Nat.le_of_ble_eq_true rfl, Nat.le_of_ble_eq_true rfl⟩ rfl (lv_sub hl [] rfl) rfl (Nat.le_of_ble_eq_true rfl) ⟨Nat.le_of_ble_eq_true rfl, Nat.le_of_ble_eq_true rfl⟩ d_Chart_init_34) hS (fun H locs hR hS => ?_)
  rw [pset_pset] at hR
  refine l_putF (ci := 2) (C := R_Chart) (T := F_Chart) (Nn := 11) (v := .ref q29) (fs' := [.ref q5, .ref q17, .ref q29, .null, .null, .null, .null, .null, .null, .null, .null]) E hC.1 hR hS ((pset_ne _ _ (by omega)).trans (pset_self _ _ _ _)) rfl i_Chart t_Chart t_Chart_ok n_Chart 2 (by decide) zf_Chart_27 rfl hin rfl rfl rfl (Nat.le_of_ble_eq_true rfl) rfl d_Chart_init_37 (fun H locs hR hS => ?_)
  refine lv_aload_n hx hb d_Chart_init_40 rfl (lv_at hl 0 rfl) ?_
  refine l_new 3 3 (ci := 6) (C := R_Fet) (T := F_Fet) (Nn := 2) (fs := [.int 0, .int 0]) E hC.1 hR hS hA rfl i_Fet t_Fet t_Fet_ok zc_Chart_30 zI_Fet zn_Fet (by intro j hj; match j, hj with | 0, _ => rfl | 1, _ => rfl) (Nat.le_of_ble_eq_true rfl) (Nat.le_of_ble_eq_true rfl) d_Chart_init_41 (fun q41 H hR hS => ?_)
  refine W.widen (k := 4) (n := 8) (by decide) (by decide) ?_
  refine lv_dup hx hb d_Chart_init_44 rfl ?_
  refine lc_v (av := [.ref q41]) (l_runI (n := 0) (As := []) (rest := [.ref q41, .ref q]) E hA hC hR hS (c_Fet_init l D dA eA A (pset (pset (pset (pset (pset (pset (pset P 3 0 (q5, .inr (3, [.int 0, .int 0]))) 2 0 (q, .inr (2, [.ref q5, .null, .null, .null, .null, .null, .null, .null, .null, .null, .null]))) 3 1 (q17, .inr (4, [.int 1, .int 1]))) 2 0 (q, .inr (2, [.ref q5, .ref q17, .null, .null, .null, .null, .null, .null, .null, .null, .null]))) 3 2 (q29, .inr (5, [.int 2, .int 1]))) 2 0 (q, .inr (2, [.ref q5, .ref q17, .ref q29, .null, .null, .null, .null, .null, .null, .null, .null]))) 3 3 (q41, .inr (6, [.int 0, .int 0]))) 3 3 q41  (pset_self _ _ _ _)) zk_Fet_init zn_Fet zm_Chart_32 zi_Fet_init rfl (by decide +kernel) ⟨rfl, rfl⟩ ⟨Nat.le_of_ble_eq_true rfl, Nat.le_of_ble_eq_true rfl⟩ rfl (lv_sub hl [] rfl) rfl (Nat.le_of_ble_eq_true rfl) ⟨Nat.le_of_ble_eq_true rfl, Nat.le_of_ble_eq_true rfl⟩ d_Chart_init_45) hS (fun H locs hR hS => ?_)
  rw [pset_pset] at hR
  refine l_putF (ci := 2) (C := R_Chart) (T := F_Chart) (Nn := 11) (v := .ref q41) (fs' := [.ref q5, .ref q17, .ref q29, .ref q41, .null, .null, .null, .null, .null, .null, .null]) E hC.1 hR hS ((pset_ne _ _ (by omega)).trans (pset_self _ _ _ _)) rfl i_Chart t_Chart t_Chart_ok n_Chart 3 (by decide) zf_Chart_33 rfl hin rfl rfl rfl (Nat.le_of_ble_eq_true rfl) rfl d_Chart_init_48 (fun H locs hR hS => ?_)
  refine lv_aload_n hx hb d_Chart_init_51 rfl (lv_at hl 0 rfl) ?_
  refine l_new 3 4 (ci := 7) (C := R_Gai) (T := F_Gai) (Nn := 3) (fs := [.int 0, .int 0, .int 0]) E hC.1 hR hS hA rfl i_Gai t_Gai t_Gai_ok zc_Chart_36 zI_Gai zn_Gai (by intro j hj; match j, hj with | 0, _ => rfl | 1, _ => rfl | 2, _ => rfl) (Nat.le_of_ble_eq_true rfl) (Nat.le_of_ble_eq_true rfl) d_Chart_init_52 (fun q52 H hR hS => ?_)
  refine W.widen (k := 5) (n := 11) (by decide) (by decide) ?_
  refine lv_dup hx hb d_Chart_init_55 rfl ?_
  refine lv_iconst (v := 4) hx hb d_Chart_init_56 (by decide) ?_
  refine lv_iconst (v := 0) hx hb d_Chart_init_57 (by decide) ?_
  refine lv_iconst (v := 0) hx hb d_Chart_init_58 (by decide) ?_
  refine lc_v (av := [.ref q52, .int 4, .int 0, .int 0]) (l_runI (n := 3) (As := [.int 4, .int 0, .int 0]) (rest := [.ref q52, .ref q]) E hA hC hR hS (c_Gai_init l D dA eA A (pset (pset (pset (pset (pset (pset (pset (pset (pset P 3 0 (q5, .inr (3, [.int 0, .int 0]))) 2 0 (q, .inr (2, [.ref q5, .null, .null, .null, .null, .null, .null, .null, .null, .null, .null]))) 3 1 (q17, .inr (4, [.int 1, .int 1]))) 2 0 (q, .inr (2, [.ref q5, .ref q17, .null, .null, .null, .null, .null, .null, .null, .null, .null]))) 3 2 (q29, .inr (5, [.int 2, .int 1]))) 2 0 (q, .inr (2, [.ref q5, .ref q17, .ref q29, .null, .null, .null, .null, .null, .null, .null, .null]))) 3 3 (q41, .inr (6, [.int 3, .int 0]))) 2 0 (q, .inr (2, [.ref q5, .ref q17, .ref q29, .ref q41, .null, .null, .null, .null, .null, .null, .null]))) 3 4 (q52, .inr (7, [.int 0, .int 0, .int 0]))) 3 4 q52 4 0 0 (Or.inl rfl) (Or.inl rfl) (pset_self _ _ _ _)) zk_Gai_init zn_Gai zm_Chart_38 zi_Gai_init rfl (by decide +kernel) ⟨rfl, rfl⟩ ⟨Nat.le_of_ble_eq_true rfl, Nat.le_of_ble_eq_true rfl⟩ rfl (lv_sub hl [] rfl) rfl (Nat.le_of_ble_eq_true rfl) ⟨Nat.le_of_ble_eq_true rfl, Nat.le_of_ble_eq_true rfl⟩ d_Chart_init_59) hS (fun H locs hR hS => ?_)
  rw [pset_pset] at hR
  refine l_putF (ci := 2) (C := R_Chart) (T := F_Chart) (Nn := 11) (v := .ref q52) (fs' := [.ref q5, .ref q17, .ref q29, .ref q41, .ref q52, .null, .null, .null, .null, .null, .null]) E hC.1 hR hS ((pset_ne _ _ (by omega)).trans (pset_self _ _ _ _)) rfl i_Chart t_Chart t_Chart_ok n_Chart 4 (by decide) zf_Chart_41 rfl hin rfl rfl rfl (Nat.le_of_ble_eq_true rfl) rfl d_Chart_init_62 (fun H locs hR hS => ?_)
  refine lv_aload_n hx hb d_Chart_init_65 rfl (lv_at hl 0 rfl) ?_
  refine l_new 3 5 (ci := 7) (C := R_Gai) (T := F_Gai) (Nn := 3) (fs := [.int 0, .int 0, .int 0]) E hC.1 hR hS hA rfl i_Gai t_Gai t_Gai_ok zc_Chart_36 zI_Gai zn_Gai (by intro j hj; match j, hj with | 0, _ => rfl | 1, _ => rfl | 2, _ => rfl) (Nat.le_of_ble_eq_true rfl) (Nat.le_of_ble_eq_true rfl) d_Chart_init_66 (fun q66 H hR hS => ?_)
  refine W.widen (k := 6) (n := 14) (by decide) (by decide) ?_
  refine lv_dup hx hb d_Chart_init_69 rfl ?_
  refine lv_iconst (v := 5) hx hb d_Chart_init_70 (by decide) ?_
  refine lv_iconst (v := 0) hx hb d_Chart_init_71 (by decide) ?_
  refine lv_iconst (v := 1) hx hb d_Chart_init_72 (by decide) ?_
  refine lc_v (av := [.ref q66, .int 5, .int 0, .int 1]) (l_runI (n := 3) (As := [.int 5, .int 0, .int 1]) (rest := [.ref q66, .ref q]) E hA hC hR hS (c_Gai_init l D dA eA A (pset (pset (pset (pset (pset (pset (pset (pset (pset (pset (pset P 3 0 (q5, .inr (3, [.int 0, .int 0]))) 2 0 (q, .inr (2, [.ref q5, .null, .null, .null, .null, .null, .null, .null, .null, .null, .null]))) 3 1 (q17, .inr (4, [.int 1, .int 1]))) 2 0 (q, .inr (2, [.ref q5, .ref q17, .null, .null, .null, .null, .null, .null, .null, .null, .null]))) 3 2 (q29, .inr (5, [.int 2, .int 1]))) 2 0 (q, .inr (2, [.ref q5, .ref q17, .ref q29, .null, .null, .null, .null, .null, .null, .null, .null]))) 3 3 (q41, .inr (6, [.int 3, .int 0]))) 2 0 (q, .inr (2, [.ref q5, .ref q17, .ref q29, .ref q41, .null, .null, .null, .null, .null, .null, .null]))) 3 4 (q52, .inr (7, [.int 4, .int 0, .int 0]))) 2 0 (q, .inr (2, [.ref q5, .ref q17, .ref q29, .ref q41, .ref q52, .null, .null, .null, .null, .null, .null]))) 3 5 (q66, .inr (7, [.int 0, .int 0, .int 0]))) 3 5 q66 5 0 1 (Or.inl rfl) (Or.inr rfl) (pset_self _ _ _ _)) zk_Gai_init zn_Gai zm_Chart_38 zi_Gai_init rfl (by decide +kernel) ⟨rfl, rfl⟩ ⟨Nat.le_of_ble_eq_true rfl, Nat.le_of_ble_eq_true rfl⟩ rfl (lv_sub hl [] rfl) rfl (Nat.le_of_ble_eq_true rfl) ⟨Nat.le_of_ble_eq_true rfl, Nat.le_of_ble_eq_true rfl⟩ d_Chart_init_73) hS (fun H locs hR hS => ?_)
  rw [pset_pset] at hR
  refine l_putF (ci := 2) (C := R_Chart) (T := F_Chart) (Nn := 11) (v := .ref q66) (fs' := [.ref q5, .ref q17, .ref q29, .ref q41, .ref q52, .ref q66, .null, .null, .null, .null, .null]) E hC.1 hR hS ((pset_ne _ _ (by omega)).trans (pset_self _ _ _ _)) rfl i_Chart t_Chart t_Chart_ok n_Chart 5 (by decide) zf_Chart_44 rfl hin rfl rfl rfl (Nat.le_of_ble_eq_true rfl) rfl d_Chart_init_76 (fun H locs hR hS => ?_)
  refine lv_aload_n hx hb d_Chart_init_79 rfl (lv_at hl 0 rfl) ?_
  refine l_new 3 6 (ci := 7) (C := R_Gai) (T := F_Gai) (Nn := 3) (fs := [.int 0, .int 0, .int 0]) E hC.1 hR hS hA rfl i_Gai t_Gai t_Gai_ok zc_Chart_36 zI_Gai zn_Gai (by intro j hj; match j, hj with | 0, _ => rfl | 1, _ => rfl | 2, _ => rfl) (Nat.le_of_ble_eq_true rfl) (Nat.le_of_ble_eq_true rfl) d_Chart_init_80 (fun q80 H hR hS => ?_)
  refine W.widen (k := 7) (n := 17) (by decide) (by decide) ?_
  refine lv_dup hx hb d_Chart_init_83 rfl ?_
  refine lv_bipush (v := 6) hx hb d_Chart_init_84 (by decide) ?_
  refine lv_iconst (v := 1) hx hb d_Chart_init_86 (by decide) ?_
  refine lv_iconst (v := 0) hx hb d_Chart_init_87 (by decide) ?_
  refine lc_v (av := [.ref q80, .int 6, .int 1, .int 0]) (l_runI (n := 3) (As := [.int 6, .int 1, .int 0]) (rest := [.ref q80, .ref q]) E hA hC hR hS (c_Gai_init l D dA eA A (pset (pset (pset (pset (pset (pset (pset (pset (pset (pset (pset (pset (pset P 3 0 (q5, .inr (3, [.int 0, .int 0]))) 2 0 (q, .inr (2, [.ref q5, .null, .null, .null, .null, .null, .null, .null, .null, .null, .null]))) 3 1 (q17, .inr (4, [.int 1, .int 1]))) 2 0 (q, .inr (2, [.ref q5, .ref q17, .null, .null, .null, .null, .null, .null, .null, .null, .null]))) 3 2 (q29, .inr (5, [.int 2, .int 1]))) 2 0 (q, .inr (2, [.ref q5, .ref q17, .ref q29, .null, .null, .null, .null, .null, .null, .null, .null]))) 3 3 (q41, .inr (6, [.int 3, .int 0]))) 2 0 (q, .inr (2, [.ref q5, .ref q17, .ref q29, .ref q41, .null, .null, .null, .null, .null, .null, .null]))) 3 4 (q52, .inr (7, [.int 4, .int 0, .int 0]))) 2 0 (q, .inr (2, [.ref q5, .ref q17, .ref q29, .ref q41, .ref q52, .null, .null, .null, .null, .null, .null]))) 3 5 (q66, .inr (7, [.int 5, .int 0, .int 1]))) 2 0 (q, .inr (2, [.ref q5, .ref q17, .ref q29, .ref q41, .ref q52, .ref q66, .null, .null, .null, .null, .null]))) 3 6 (q80, .inr (7, [.int 0, .int 0, .int 0]))) 3 6 q80 6 1 0 (Or.inr rfl) (Or.inl rfl) (pset_self _ _ _ _)) zk_Gai_init zn_Gai zm_Chart_38 zi_Gai_init rfl (by decide +kernel) ⟨rfl, rfl⟩ ⟨Nat.le_of_ble_eq_true rfl, Nat.le_of_ble_eq_true rfl⟩ rfl (lv_sub hl [] rfl) rfl (Nat.le_of_ble_eq_true rfl) ⟨Nat.le_of_ble_eq_true rfl, Nat.le_of_ble_eq_true rfl⟩ d_Chart_init_88) hS (fun H locs hR hS => ?_)
  rw [pset_pset] at hR
  refine l_putF (ci := 2) (C := R_Chart) (T := F_Chart) (Nn := 11) (v := .ref q80) (fs' := [.ref q5, .ref q17, .ref q29, .ref q41, .ref q52, .ref q66, .ref q80, .null, .null, .null, .null]) E hC.1 hR hS ((pset_ne _ _ (by omega)).trans (pset_self _ _ _ _)) rfl i_Chart t_Chart t_Chart_ok n_Chart 6 (by decide) zf_Chart_47 rfl hin rfl rfl rfl (Nat.le_of_ble_eq_true rfl) rfl d_Chart_init_91 (fun H locs hR hS => ?_)
  refine lv_aload_n hx hb d_Chart_init_94 rfl (lv_at hl 0 rfl) ?_
  refine l_new 3 7 (ci := 7) (C := R_Gai) (T := F_Gai) (Nn := 3) (fs := [.int 0, .int 0, .int 0]) E hC.1 hR hS hA rfl i_Gai t_Gai t_Gai_ok zc_Chart_36 zI_Gai zn_Gai (by intro j hj; match j, hj with | 0, _ => rfl | 1, _ => rfl | 2, _ => rfl) (Nat.le_of_ble_eq_true rfl) (Nat.le_of_ble_eq_true rfl) d_Chart_init_95 (fun q95 H hR hS => ?_)
  refine W.widen (k := 8) (n := 20) (by decide) (by decide) ?_
  refine lv_dup hx hb d_Chart_init_98 rfl ?_
  refine lv_bipush (v := 7) hx hb d_Chart_init_99 (by decide) ?_
  refine lv_iconst (v := 1) hx hb d_Chart_init_101 (by decide) ?_
  refine lv_iconst (v := 1) hx hb d_Chart_init_102 (by decide) ?_
  refine lc_v (av := [.ref q95, .int 7, .int 1, .int 1]) (l_runI (n := 3) (As := [.int 7, .int 1, .int 1]) (rest := [.ref q95, .ref q]) E hA hC hR hS (c_Gai_init l D dA eA A (pset (pset (pset (pset (pset (pset (pset (pset (pset (pset (pset (pset (pset (pset (pset P 3 0 (q5, .inr (3, [.int 0, .int 0]))) 2 0 (q, .inr (2, [.ref q5, .null, .null, .null, .null, .null, .null, .null, .null, .null, .null]))) 3 1 (q17, .inr (4, [.int 1, .int 1]))) 2 0 (q, .inr (2, [.ref q5, .ref q17, .null, .null, .null, .null, .null, .null, .null, .null, .null]))) 3 2 (q29, .inr (5, [.int 2, .int 1]))) 2 0 (q, .inr (2, [.ref q5, .ref q17, .ref q29, .null, .null, .null, .null, .null, .null, .null, .null]))) 3 3 (q41, .inr (6, [.int 3, .int 0]))) 2 0 (q, .inr (2, [.ref q5, .ref q17, .ref q29, .ref q41, .null, .null, .null, .null, .null, .null, .null]))) 3 4 (q52, .inr (7, [.int 4, .int 0, .int 0]))) 2 0 (q, .inr (2, [.ref q5, .ref q17, .ref q29, .ref q41, .ref q52, .null, .null, .null, .null, .null, .null]))) 3 5 (q66, .inr (7, [.int 5, .int 0, .int 1]))) 2 0 (q, .inr (2, [.ref q5, .ref q17, .ref q29, .ref q41, .ref q52, .ref q66, .null, .null, .null, .null, .null]))) 3 6 (q80, .inr (7, [.int 6, .int 1, .int 0]))) 2 0 (q, .inr (2, [.ref q5, .ref q17, .ref q29, .ref q41, .ref q52, .ref q66, .ref q80, .null, .null, .null, .null]))) 3 7 (q95, .inr (7, [.int 0, .int 0, .int 0]))) 3 7 q95 7 1 1 (Or.inr rfl) (Or.inr rfl) (pset_self _ _ _ _)) zk_Gai_init zn_Gai zm_Chart_38 zi_Gai_init rfl (by decide +kernel) ⟨rfl, rfl⟩ ⟨Nat.le_of_ble_eq_true rfl, Nat.le_of_ble_eq_true rfl⟩ rfl (lv_sub hl [] rfl) rfl (Nat.le_of_ble_eq_true rfl) ⟨Nat.le_of_ble_eq_true rfl, Nat.le_of_ble_eq_true rfl⟩ d_Chart_init_103) hS (fun H locs hR hS => ?_)
  rw [pset_pset] at hR
  refine l_putF (ci := 2) (C := R_Chart) (T := F_Chart) (Nn := 11) (v := .ref q95) (fs' := [.ref q5, .ref q17, .ref q29, .ref q41, .ref q52, .ref q66, .ref q80, .ref q95, .null, .null, .null]) E hC.1 hR hS ((pset_ne _ _ (by omega)).trans (pset_self _ _ _ _)) rfl i_Chart t_Chart t_Chart_ok n_Chart 7 (by decide) zf_Chart_50 rfl hin rfl rfl rfl (Nat.le_of_ble_eq_true rfl) rfl d_Chart_init_106 (fun H locs hR hS => ?_)
  refine lv_aload_n hx hb d_Chart_init_109 rfl (lv_at hl 0 rfl) ?_
  refine l_new 3 8 (ci := 5) (C := R_Own) (T := F_Own) (Nn := 2) (fs := [.int 0, .int 0]) E hC.1 hR hS hA rfl i_Own t_Own t_Own_ok zc_Chart_24 zI_Own zn_Own (by intro j hj; match j, hj with | 0, _ => rfl | 1, _ => rfl) (Nat.le_of_ble_eq_true rfl) (Nat.le_of_ble_eq_true rfl) d_Chart_init_110 (fun q110 H hR hS => ?_)
  refine W.widen (k := 9) (n := 22) (by decide) (by decide) ?_
  refine lv_dup hx hb d_Chart_init_113 rfl ?_
  refine lv_bipush (v := 8) hx hb d_Chart_init_114 (by decide) ?_
  refine lc_v (av := [.ref q110, .int 8]) (l_runI (n := 1) (As := [.int 8]) (rest := [.ref q110, .ref q]) E hA hC hR hS (c_Own_init l D dA eA A (pset (pset (pset (pset (pset (pset (pset (pset (pset (pset (pset (pset (pset (pset (pset (pset (pset P 3 0 (q5, .inr (3, [.int 0, .int 0]))) 2 0 (q, .inr (2, [.ref q5, .null, .null, .null, .null, .null, .null, .null, .null, .null, .null]))) 3 1 (q17, .inr (4, [.int 1, .int 1]))) 2 0 (q, .inr (2, [.ref q5, .ref q17, .null, .null, .null, .null, .null, .null, .null, .null, .null]))) 3 2 (q29, .inr (5, [.int 2, .int 1]))) 2 0 (q, .inr (2, [.ref q5, .ref q17, .ref q29, .null, .null, .null, .null, .null, .null, .null, .null]))) 3 3 (q41, .inr (6, [.int 3, .int 0]))) 2 0 (q, .inr (2, [.ref q5, .ref q17, .ref q29, .ref q41, .null, .null, .null, .null, .null, .null, .null]))) 3 4 (q52, .inr (7, [.int 4, .int 0, .int 0]))) 2 0 (q, .inr (2, [.ref q5, .ref q17, .ref q29, .ref q41, .ref q52, .null, .null, .null, .null, .null, .null]))) 3 5 (q66, .inr (7, [.int 5, .int 0, .int 1]))) 2 0 (q, .inr (2, [.ref q5, .ref q17, .ref q29, .ref q41, .ref q52, .ref q66, .null, .null, .null, .null, .null]))) 3 6 (q80, .inr (7, [.int 6, .int 1, .int 0]))) 2 0 (q, .inr (2, [.ref q5, .ref q17, .ref q29, .ref q41, .ref q52, .ref q66, .ref q80, .null, .null, .null, .null]))) 3 7 (q95, .inr (7, [.int 7, .int 1, .int 1]))) 2 0 (q, .inr (2, [.ref q5, .ref q17, .ref q29, .ref q41, .ref q52, .ref q66, .ref q80, .ref q95, .null, .null, .null]))) 3 8 (q110, .inr (5, [.int 0, .int 0]))) 3 8 q110 8 (pset_self _ _ _ _)) zk_Own_init zn_Own zm_Chart_26 zi_Own_init rfl (by decide +kernel) ⟨rfl, rfl⟩ ⟨Nat.le_of_ble_eq_true rfl, Nat.le_of_ble_eq_true rfl⟩ rfl (lv_sub hl [] rfl) rfl (Nat.le_of_ble_eq_true rfl) ⟨Nat.le_of_ble_eq_true rfl, Nat.le_of_ble_eq_true rfl⟩ d_Chart_init_116) hS (fun H locs hR hS => ?_)
  rw [pset_pset] at hR
  refine l_putF (ci := 2) (C := R_Chart) (T := F_Chart) (Nn := 11) (v := .ref q110) (fs' := [.ref q5, .ref q17, .ref q29, .ref q41, .ref q52, .ref q66, .ref q80, .ref q95, .ref q110, .null, .null]) E hC.1 hR hS ((pset_ne _ _ (by omega)).trans (pset_self _ _ _ _)) rfl i_Chart t_Chart t_Chart_ok n_Chart 8 (by decide) zf_Chart_53 rfl hin rfl rfl rfl (Nat.le_of_ble_eq_true rfl) rfl d_Chart_init_119 (fun H locs hR hS => ?_)
  refine lv_aload_n hx hb d_Chart_init_122 rfl (lv_at hl 0 rfl) ?_
  refine l_new 3 9 (ci := 4) (C := R_Sha) (T := F_Sha) (Nn := 2) (fs := [.int 0, .int 0]) E hC.1 hR hS hA rfl i_Sha t_Sha t_Sha_ok zc_Chart_18 zI_Sha zn_Sha (by intro j hj; match j, hj with | 0, _ => rfl | 1, _ => rfl) (Nat.le_of_ble_eq_true rfl) (Nat.le_of_ble_eq_true rfl) d_Chart_init_123 (fun q123 H hR hS => ?_)
  refine W.widen (k := 10) (n := 24) (by decide) (by decide) ?_
  refine lv_dup hx hb d_Chart_init_126 rfl ?_
  refine lv_bipush (v := 9) hx hb d_Chart_init_127 (by decide) ?_
  refine lc_v (av := [.ref q123, .int 9]) (l_runI (n := 1) (As := [.int 9]) (rest := [.ref q123, .ref q]) E hA hC hR hS (c_Sha_init l D dA eA A (pset (pset (pset (pset (pset (pset (pset (pset (pset (pset (pset (pset (pset (pset (pset (pset (pset (pset (pset P 3 0 (q5, .inr (3, [.int 0, .int 0]))) 2 0 (q, .inr (2, [.ref q5, .null, .null, .null, .null, .null, .null, .null, .null, .null, .null]))) 3 1 (q17, .inr (4, [.int 1, .int 1]))) 2 0 (q, .inr (2, [.ref q5, .ref q17, .null, .null, .null, .null, .null, .null, .null, .null, .null]))) 3 2 (q29, .inr (5, [.int 2, .int 1]))) 2 0 (q, .inr (2, [.ref q5, .ref q17, .ref q29, .null, .null, .null, .null, .null, .null, .null, .null]))) 3 3 (q41, .inr (6, [.int 3, .int 0]))) 2 0 (q, .inr (2, [.ref q5, .ref q17, .ref q29, .ref q41, .null, .null, .null, .null, .null, .null, .null]))) 3 4 (q52, .inr (7, [.int 4, .int 0, .int 0]))) 2 0 (q, .inr (2, [.ref q5, .ref q17, .ref q29, .ref q41, .ref q52, .null, .null, .null, .null, .null, .null]))) 3 5 (q66, .inr (7, [.int 5, .int 0, .int 1]))) 2 0 (q, .inr (2, [.ref q5, .ref q17, .ref q29, .ref q41, .ref q52, .ref q66, .null, .null, .null, .null, .null]))) 3 6 (q80, .inr (7, [.int 6, .int 1, .int 0]))) 2 0 (q, .inr (2, [.ref q5, .ref q17, .ref q29, .ref q41, .ref q52, .ref q66, .ref q80, .null, .null, .null, .null]))) 3 7 (q95, .inr (7, [.int 7, .int 1, .int 1]))) 2 0 (q, .inr (2, [.ref q5, .ref q17, .ref q29, .ref q41, .ref q52, .ref q66, .ref q80, .ref q95, .null, .null, .null]))) 3 8 (q110, .inr (5, [.int 8, .int 1]))) 2 0 (q, .inr (2, [.ref q5, .ref q17, .ref q29, .ref q41, .ref q52, .ref q66, .ref q80, .ref q95, .ref q110, .null, .null]))) 3 9 (q123, .inr (4, [.int 0, .int 0]))) 3 9 q123 9 (pset_self _ _ _ _)) zk_Sha_init zn_Sha zm_Chart_20 zi_Sha_init rfl (by decide +kernel) ⟨rfl, rfl⟩ ⟨Nat.le_of_ble_eq_true rfl, Nat.le_of_ble_eq_true rfl⟩ rfl (lv_sub hl [] rfl) rfl (Nat.le_of_ble_eq_true rfl) ⟨Nat.le_of_ble_eq_true rfl, Nat.le_of_ble_eq_true rfl⟩ d_Chart_init_129) hS (fun H locs hR hS => ?_)
  rw [pset_pset] at hR
  refine l_putF (ci := 2) (C := R_Chart) (T := F_Chart) (Nn := 11) (v := .ref q123) (fs' := [.ref q5, .ref q17, .ref q29, .ref q41, .ref q52, .ref q66, .ref q80, .ref q95, .ref q110, .ref q123, .null]) E hC.1 hR hS ((pset_ne _ _ (by omega)).trans (pset_self _ _ _ _)) rfl i_Chart t_Chart t_Chart_ok n_Chart 9 (by decide) zf_Chart_56 rfl hin rfl rfl rfl (Nat.le_of_ble_eq_true rfl) rfl d_Chart_init_132 (fun H locs hR hS => ?_)
  refine lv_aload_n hx hb d_Chart_init_135 rfl (lv_at hl 0 rfl) ?_
  refine l_new 3 10 (ci := 3) (C := R_Emp) (T := F_Emp) (Nn := 2) (fs := [.int 0, .int 0]) E hC.1 hR hS hA rfl i_Emp t_Emp t_Emp_ok zc_Chart_7 zI_Emp zn_Emp (by intro j hj; match j, hj with | 0, _ => rfl | 1, _ => rfl) (Nat.le_of_ble_eq_true rfl) (Nat.le_of_ble_eq_true rfl) d_Chart_init_136 (fun q136 H hR hS => ?_)
  refine W.widen (k := 11) (n := 26) (by decide) (by decide) ?_
  refine lv_dup hx hb d_Chart_init_139 rfl ?_
  refine lv_bipush (v := 10) hx hb d_Chart_init_140 (by decide) ?_
  refine lc_v (av := [.ref q136, .int 10]) (l_runI (n := 1) (As := [.int 10]) (rest := [.ref q136, .ref q]) E hA hC hR hS (c_Emp_init l D dA eA A (pset (pset (pset (pset (pset (pset (pset (pset (pset (pset (pset (pset (pset (pset (pset (pset (pset (pset (pset (pset (pset P 3 0 (q5, .inr (3, [.int 0, .int 0]))) 2 0 (q, .inr (2, [.ref q5, .null, .null, .null, .null, .null, .null, .null, .null, .null, .null]))) 3 1 (q17, .inr (4, [.int 1, .int 1]))) 2 0 (q, .inr (2, [.ref q5, .ref q17, .null, .null, .null, .null, .null, .null, .null, .null, .null]))) 3 2 (q29, .inr (5, [.int 2, .int 1]))) 2 0 (q, .inr (2, [.ref q5, .ref q17, .ref q29, .null, .null, .null, .null, .null, .null, .null, .null]))) 3 3 (q41, .inr (6, [.int 3, .int 0]))) 2 0 (q, .inr (2, [.ref q5, .ref q17, .ref q29, .ref q41, .null, .null, .null, .null, .null, .null, .null]))) 3 4 (q52, .inr (7, [.int 4, .int 0, .int 0]))) 2 0 (q, .inr (2, [.ref q5, .ref q17, .ref q29, .ref q41, .ref q52, .null, .null, .null, .null, .null, .null]))) 3 5 (q66, .inr (7, [.int 5, .int 0, .int 1]))) 2 0 (q, .inr (2, [.ref q5, .ref q17, .ref q29, .ref q41, .ref q52, .ref q66, .null, .null, .null, .null, .null]))) 3 6 (q80, .inr (7, [.int 6, .int 1, .int 0]))) 2 0 (q, .inr (2, [.ref q5, .ref q17, .ref q29, .ref q41, .ref q52, .ref q66, .ref q80, .null, .null, .null, .null]))) 3 7 (q95, .inr (7, [.int 7, .int 1, .int 1]))) 2 0 (q, .inr (2, [.ref q5, .ref q17, .ref q29, .ref q41, .ref q52, .ref q66, .ref q80, .ref q95, .null, .null, .null]))) 3 8 (q110, .inr (5, [.int 8, .int 1]))) 2 0 (q, .inr (2, [.ref q5, .ref q17, .ref q29, .ref q41, .ref q52, .ref q66, .ref q80, .ref q95, .ref q110, .null, .null]))) 3 9 (q123, .inr (4, [.int 9, .int 1]))) 2 0 (q, .inr (2, [.ref q5, .ref q17, .ref q29, .ref q41, .ref q52, .ref q66, .ref q80, .ref q95, .ref q110, .ref q123, .null]))) 3 10 (q136, .inr (3, [.int 0, .int 0]))) 3 10 q136 10 (pset_self _ _ _ _)) zk_Emp_init zn_Emp zm_Chart_9 zi_Emp_init rfl (by decide +kernel) ⟨rfl, rfl⟩ ⟨Nat.le_of_ble_eq_true rfl, Nat.le_of_ble_eq_true rfl⟩ rfl (lv_sub hl [] rfl) rfl (Nat.le_of_ble_eq_true rfl) ⟨Nat.le_of_ble_eq_true rfl, Nat.le_of_ble_eq_true rfl⟩ d_Chart_init_142) hS (fun H locs hR hS => ?_)
  rw [pset_pset] at hR
  refine l_putF (ci := 2) (C := R_Chart) (T := F_Chart) (Nn := 11) (v := .ref q136) (fs' := [.ref q5, .ref q17, .ref q29, .ref q41, .ref q52, .ref q66, .ref q80, .ref q95, .ref q110, .ref q123, .ref q136]) E hC.1 hR hS ((pset_ne _ _ (by omega)).trans (pset_self _ _ _ _)) rfl i_Chart t_Chart t_Chart_ok n_Chart 10 (by decide) zf_Chart_59 rfl hin rfl rfl rfl (Nat.le_of_ble_eq_true rfl) rfl d_Chart_init_145 (fun H locs hR hS => ?_)
  replace hR : LW D A (PCh P q (fun i => match i with | 0 => q5 | 1 => q17 | 2 => q29 | 3 => q41 | 4 => q52 | 5 => q66 | 6 => q80 | 7 => q95 | 8 => q110 | 9 => q123 | 10 => q136 | _ => 0)) H := by
    refine hR.sub (fun s9 i9 x9 h9 => ?_)
    unfold PCh at h9
    split at h9
    · next e9 =>
      obtain ⟨rfl, hi9⟩ := e9
      rw [← h9]
      match i9, hi9 with
      | 0, _ => rfl
      | 1, _ => rfl
      | 2, _ => rfl
      | 3, _ => rfl
      | 4, _ => rfl
      | 5, _ => rfl
      | 6, _ => rfl
      | 7, _ => rfl
      | 8, _ => rfl
      | 9, _ => rfl
      | 10, _ => rfl
    · split at h9
      · next e9 =>
        obtain ⟨rfl, rfl⟩ := e9
        rw [← h9]
        rfl
      · next e8 e9 =>
        rw [pset_ne _ _ (by omega), pset_ne _ _ (by omega), pset_ne _ _ (by omega), pset_ne _ _ (by omega), pset_ne _ _ (by omega), pset_ne _ _ (by omega), pset_ne _ _ (by omega), pset_ne _ _ (by omega), pset_ne _ _ (by omega), pset_ne _ _ (by omega), pset_ne _ _ (by omega), pset_ne _ _ (by omega), pset_ne _ _ (by omega), pset_ne _ _ (by omega), pset_ne _ _ (by omega), pset_ne _ _ (by omega), pset_ne _ _ (by omega), pset_ne _ _ (by omega), pset_ne _ _ (by omega), pset_ne _ _ (by omega), pset_ne _ _ (by omega), pset_ne _ _ (by omega)]
        exact h9
  exact W.vret E.1 E.2.1 E.2.2.2.2.2.1 (fun t ht _ => ⟨⟨(fun i => match i with | 0 => q5 | 1 => q17 | 2 => q29 | 3 => q41 | 4 => q52 | 5 => q66 | 6 => q80 | 7 => q95 | 8 => q110 | 9 => q123 | 10 => q136 | _ => 0), rfl, trivial, show LW D A (PCh P q (fun i => match i with | 0 => q5 | 1 => q17 | 2 => q29 | 3 => q41 | 4 => q52 | 5 => q66 | 6 => q80 | 7 => q95 | 8 => q110 | 9 => q123 | 10 => q136 | _ => 0)) t.heap by rw [ht]; exact hR⟩, hS.F ht⟩) hS.2.2 d_Chart_init_148 E.2.2.2.2.2.2
set_option maxHeartbeats 4000000 in
set_option maxRecDepth 100000 in
theorem c_Core_init (l : Launch) (D : va_G) (dA : Nat → ClassId) (eA : Nat → Nat → Nat) (A : Nat → Prop) (P : PM) (i q : Nat) (h0 : P 8 i = some (q, .inr (8, [.null, .null, .int 0, .int 0, .int 0, .int 0]))) : Met l y_Core_init (k_Core_init :: wz) (rml 1 2 32) (va_Pc [.ref q] (PL D dA eA A P)) (va_Qv (fun (_ : Nat × Nat) => True) (fun u t => LW D A (pset (pset (pset P 9 i (u.1, .inl (dA 2, 16, .inl (fun _ => 0)))) 10 i (u.2, .inl (dA 0, 16, .inl (fun _ => 0)))) 8 i (q, .inr (8, [.ref u.1, .ref u.2, .int 0, .int 0, .int 0, .int 0]))) t.heap) A) 2 32 A := by
  refine l_entry (by decide) (Nat.le_of_ble_eq_true rfl) ?_
  intro p e s m below meth c0 E hin hA hC hR ls hl
  have hx := E.1
  have hb := E.2.1
  have hS : va_S A s.heap s.heap [] := va_S.rf
  replace hl : lv_has ls 1 [(0, .ref q)] := hl
  refine lv_aload_n hx hb d_Core_init_0 rfl (lv_at hl 0 rfl) ?_
  refine W.objInit hx hb E.2.2.2.1 (E.2.2.2.2.1 _ zm_Core_1) (E.2.2.2.2.1 _ zi_Obj_init) (E.2.2.2.2.1 _ zk_Obj_init) rfl (by rw [E.2.2.1]; exact hl.1) rfl d_Core_init_1 (Nat.le_of_ble_eq_true rfl) (Nat.le_of_ble_eq_true rfl) ?_
  refine W.eq (g2 := F0 m 4 ls []) rfl ?_
  refine lv_aload_n hx hb d_Core_init_4 rfl (lv_at hl 0 rfl) ?_
  refine lv_bipush (v := 16) hx hb d_Core_init_5 (by decide) ?_
  refine l_newbyte 9 i (N := 16) E hC.1 hR hS hA (by decide) (Nat.le_of_ble_eq_true rfl) (Nat.le_of_ble_eq_true rfl) d_Core_init_7 (fun q7 H hR hS => ?_)
  refine W.widen (k := 1) (n := 16) (by decide) (by decide) ?_
  refine l_putF (ci := 8) (C := R_Core) (T := F_Core) (Nn := 6) (v := .ref q7) (fs' := [.ref q7, .null, .int 0, .int 0, .int 0, .int 0]) E hC.1 hR hS ((pset_ne _ _ (by omega)).trans (h0)) rfl i_Core t_Core t_Core_ok n_Core 0 (by decide) zf_Core_7 rfl hin rfl rfl rfl (Nat.le_of_ble_eq_true rfl) rfl d_Core_init_9 (fun H locs hR hS => ?_)
  refine lv_aload_n hx hb d_Core_init_12 rfl (lv_at hl 0 rfl) ?_
  refine lv_bipush (v := 16) hx hb d_Core_init_13 (by decide) ?_
  refine l_newint 10 i (N := 16) E hC.1 hR hS hA (by decide) (Nat.le_of_ble_eq_true rfl) (Nat.le_of_ble_eq_true rfl) d_Core_init_15 (fun q15 H hR hS => ?_)
  refine W.widen (k := 2) (n := 32) (by decide) (by decide) ?_
  refine l_putF (ci := 8) (C := R_Core) (T := F_Core) (Nn := 6) (v := .ref q15) (fs' := [.ref q7, .ref q15, .int 0, .int 0, .int 0, .int 0]) E hC.1 hR hS ((pset_ne _ _ (by omega)).trans (pset_self _ _ _ _)) rfl i_Core t_Core t_Core_ok n_Core 1 (by decide) zf_Core_13 rfl hin rfl rfl rfl (Nat.le_of_ble_eq_true rfl) rfl d_Core_init_17 (fun H locs hR hS => ?_)
  replace hR : LW D A (pset (pset (pset P 9 i (q7, .inl (dA 2, 16, .inl (fun _ => 0)))) 10 i (q15, .inl (dA 0, 16, .inl (fun _ => 0)))) 8 i (q, .inr (8, [.ref q7, .ref q15, .int 0, .int 0, .int 0, .int 0]))) H := by
    refine hR.sub (fun s9 i9 x9 h9 => ?_)
    rw [← h9]
    by_cases e8 : s9 = 8 ∧ i9 = i
    · obtain ⟨rfl, rfl⟩ := e8; simp [pset]
    · rw [pset_ne _ _ e8, pset_ne _ _ e8]
      by_cases e10 : s9 = 10 ∧ i9 = i
      · obtain ⟨rfl, rfl⟩ := e10; simp [pset]
      · rw [pset_ne _ _ e10, pset_ne _ _ e10, pset_ne _ _ e8]
  exact W.vret E.1 E.2.1 E.2.2.2.2.2.1 (fun t ht _ => ⟨⟨(q7, q15), rfl, trivial, show LW D A (pset (pset (pset P 9 i (q7, .inl (dA 2, 16, .inl (fun _ => 0)))) 10 i (q15, .inl (dA 0, 16, .inl (fun _ => 0)))) 8 i (q, .inr (8, [.ref q7, .ref q15, .int 0, .int 0, .int 0, .int 0]))) t.heap by rw [ht]; exact hR⟩, hS.F ht⟩) hS.2.2 d_Core_init_20 E.2.2.2.2.2.2
set_option maxHeartbeats 4000000 in
set_option maxRecDepth 100000 in
theorem c_Line_init (l : Launch) (D : va_G) (dA : Nat → ClassId) (eA : Nat → Nat → Nat) (A : Nat → Prop) (P : PM) (i q cc bb nt ch m0 : Nat) (cs : List Value) (h0 : P 11 i = some (q, .inr (9, [.int 0, .int 0, .null, .null, .null, .int 0, .int 0, .int 0]))) (hch : P 2 0 = some (ch, .inr (2, .ref m0 :: cs))) : Met l y_Line_init (k_Line_init :: wz) (rml 1 0 0) (va_Pc [.ref q, .int (nI cc), .int (nI bb), .ref nt, .ref ch] (PL D dA eA A P)) (LQv D A (pset P 11 i (q, .inr (9, [.int (nI cc), .int (nI bb), .ref nt, .ref ch, .ref m0, .int 0, .int 0, .int 0])))) 0 0 A := by
  refine l_entry (by decide) (Nat.le_of_ble_eq_true rfl) ?_
  intro p e s m below meth c0 E hin hA hC hR ls hl
  have hx := E.1
  have hb := E.2.1
  have hS : va_S A s.heap s.heap [] := va_S.rf
  replace hl : lv_has ls 5 [(0, .ref q), (1, .int (nI cc)), (2, .int (nI bb)), (3, .ref nt), (4, .ref ch)] := hl
  refine lv_aload_n hx hb d_Line_init_0 rfl (lv_at hl 0 rfl) ?_
  refine W.objInit hx hb E.2.2.2.1 (E.2.2.2.2.1 _ zm_Line_3) (E.2.2.2.2.1 _ zi_Obj_init) (E.2.2.2.2.1 _ zk_Obj_init) rfl (by rw [E.2.2.1]; exact hl.1) rfl d_Line_init_1 (Nat.le_of_ble_eq_true rfl) (Nat.le_of_ble_eq_true rfl) ?_
  refine W.eq (g2 := F0 m 4 ls []) rfl ?_
  refine lv_aload_n hx hb d_Line_init_4 rfl (lv_at hl 0 rfl) ?_
  refine lv_iload_n hx hb d_Line_init_5 rfl (lv_at hl 1 rfl) ?_
  refine l_putF (ci := 9) (C := R_Line) (T := F_Line) (Nn := 8) (v := .int (nI cc)) (fs' := [.int (nI cc), .int 0, .null, .null, .null, .int 0, .int 0, .int 0]) E hC.1 hR hS (h0) rfl i_Line t_Line t_Line_ok n_Line 0 (by decide) zf_Line_9 rfl hin rfl rfl rfl (Nat.le_of_ble_eq_true rfl) rfl d_Line_init_6 (fun H locs hR hS => ?_)
  refine lv_aload_n hx hb d_Line_init_9 rfl (lv_at hl 0 rfl) ?_
  refine lv_iload_n hx hb d_Line_init_10 rfl (lv_at hl 2 rfl) ?_
  refine l_putF (ci := 9) (C := R_Line) (T := F_Line) (Nn := 8) (v := .int (nI bb)) (fs' := [.int (nI cc), .int (nI bb), .null, .null, .null, .int 0, .int 0, .int 0]) E hC.1 hR hS (pset_self _ _ _ _) rfl i_Line t_Line t_Line_ok n_Line 1 (by decide) zf_Line_15 rfl hin rfl rfl rfl (Nat.le_of_ble_eq_true rfl) rfl d_Line_init_11 (fun H locs hR hS => ?_)
  rw [pset_pset] at hR
  refine lv_aload_n hx hb d_Line_init_14 rfl (lv_at hl 0 rfl) ?_
  refine lv_aload_n hx hb d_Line_init_15 rfl (lv_at hl 3 rfl) ?_
  refine l_putF (ci := 9) (C := R_Line) (T := F_Line) (Nn := 8) (v := .ref nt) (fs' := [.int (nI cc), .int (nI bb), .ref nt, .null, .null, .int 0, .int 0, .int 0]) E hC.1 hR hS (pset_self _ _ _ _) rfl i_Line t_Line t_Line_ok n_Line 2 (by decide) zf_Line_18 rfl hin rfl rfl rfl (Nat.le_of_ble_eq_true rfl) rfl d_Line_init_16 (fun H locs hR hS => ?_)
  rw [pset_pset] at hR
  refine lv_aload_n hx hb d_Line_init_19 rfl (lv_at hl 0 rfl) ?_
  refine lv_aload hx hb d_Line_init_20 (lv_at hl 4 rfl) ?_
  refine l_putF (ci := 9) (C := R_Line) (T := F_Line) (Nn := 8) (v := .ref ch) (fs' := [.int (nI cc), .int (nI bb), .ref nt, .ref ch, .null, .int 0, .int 0, .int 0]) E hC.1 hR hS (pset_self _ _ _ _) rfl i_Line t_Line t_Line_ok n_Line 3 (by decide) zf_Line_22 rfl hin rfl rfl rfl (Nat.le_of_ble_eq_true rfl) rfl d_Line_init_22 (fun H locs hR hS => ?_)
  rw [pset_pset] at hR
  refine lv_aload_n hx hb d_Line_init_25 rfl (lv_at hl 0 rfl) ?_
  refine lv_aload hx hb d_Line_init_26 (lv_at hl 4 rfl) ?_
  refine l_get (ci := 2) (C := R_Chart) (T := F_Chart) (Nn := 11) (v := .ref m0) E hC.1 hR ((pset_ne _ _ (by omega)).trans (hch)) rfl i_Chart 0 (by decide) zf_Line_26 (fun _ h => h) rfl d_Line_init_28 ?_
  refine l_put (ci := 9) (C := R_Line) (T := F_Line) (Nn := 8) (v := .ref m0) (fs' := [.int (nI cc), .int (nI bb), .ref nt, .ref ch, .ref m0, .int 0, .int 0, .int 0]) E hC.1 hR hS (pset_self _ _ _ _) rfl i_Line t_Line t_Line_ok n_Line 4 (by decide) zf_Line_32 rfl rfl rfl (Nat.le_of_ble_eq_true rfl) rfl d_Line_init_31 (fun H locs hR hS => ?_)
  rw [pset_pset] at hR
  exact l_vret E hR hS d_Line_init_34
set_option maxHeartbeats 4000000 in
set_option maxRecDepth 100000 in
theorem c_Home_init (l : Launch) (D : va_G) (dA : Nat → ClassId) (eA : Nat → Nat → Nat) (A : Nat → Prop) (P : PM) (i q bb nt : Nat) (h0 : P 12 i = some (q, .inr (10, [.int 0, .null, .null, .int 0, .int 0, .int 0]))) : Met l y_Home_init (k_Home_init :: wz) (rml 1 0 0) (va_Pc [.ref q, .int (nI bb), .ref nt] (PL D dA eA A P)) (LQv D A (pset P 12 i (q, .inr (10, [.int (nI bb), .ref nt, .ref (eA 1 0), .int (-1), .int 0, .int 0])))) 0 0 A := by
  refine l_entry (by decide) (Nat.le_of_ble_eq_true rfl) ?_
  intro p e s m below meth c0 E hin hA hC hR ls hl
  have hx := E.1
  have hb := E.2.1
  have hS : va_S A s.heap s.heap [] := va_S.rf
  replace hl : lv_has ls 3 [(0, .ref q), (1, .int (nI bb)), (2, .ref nt)] := hl
  refine lv_aload_n hx hb d_Home_init_0 rfl (lv_at hl 0 rfl) ?_
  refine W.objInit hx hb E.2.2.2.1 (E.2.2.2.2.1 _ zm_Home_3) (E.2.2.2.2.1 _ zi_Obj_init) (E.2.2.2.2.1 _ zk_Obj_init) rfl (by rw [E.2.2.1]; exact hl.1) rfl d_Home_init_1 (Nat.le_of_ble_eq_true rfl) (Nat.le_of_ble_eq_true rfl) ?_
  refine W.eq (g2 := F0 m 4 ls []) rfl ?_
  refine lv_aload_n hx hb d_Home_init_4 rfl (lv_at hl 0 rfl) ?_
  refine x_gets (eA := eA) hC.2.2.1 E hS 0 (by decide) zf_Home_9 d_Home_init_5 ?_
  refine l_put (ci := 10) (C := R_Home) (T := F_Home) (Nn := 6) (v := .ref (eA 1 0)) (fs' := [.int 0, .null, .ref (eA 1 0), .int 0, .int 0, .int 0]) E hC.1 hR hS (h0) rfl i_Home t_Home t_Home_ok n_Home 2 (by decide) zf_Home_15 rfl rfl rfl (Nat.le_of_ble_eq_true rfl) rfl d_Home_init_8 (fun H locs hR hS => ?_)
  refine lv_aload_n hx hb d_Home_init_11 rfl (lv_at hl 0 rfl) ?_
  refine lv_iconst (v := (-1)) hx hb d_Home_init_12 (by decide) ?_
  refine l_put (ci := 10) (C := R_Home) (T := F_Home) (Nn := 6) (v := .int (-1)) (fs' := [.int 0, .null, .ref (eA 1 0), .int (-1), .int 0, .int 0]) E hC.1 hR hS (pset_self _ _ _ _) rfl i_Home t_Home t_Home_ok n_Home 3 (by decide) zf_Home_20 rfl rfl rfl (Nat.le_of_ble_eq_true rfl) rfl d_Home_init_13 (fun H locs hR hS => ?_)
  rw [pset_pset] at hR
  refine lv_aload_n hx hb d_Home_init_16 rfl (lv_at hl 0 rfl) ?_
  refine lv_iload_n hx hb d_Home_init_17 rfl (lv_at hl 1 rfl) ?_
  refine l_putF (ci := 10) (C := R_Home) (T := F_Home) (Nn := 6) (v := .int (nI bb)) (fs' := [.int (nI bb), .null, .ref (eA 1 0), .int (-1), .int 0, .int 0]) E hC.1 hR hS (pset_self _ _ _ _) rfl i_Home t_Home t_Home_ok n_Home 0 (by decide) zf_Home_23 rfl hin rfl rfl rfl (Nat.le_of_ble_eq_true rfl) rfl d_Home_init_18 (fun H locs hR hS => ?_)
  rw [pset_pset] at hR
  refine lv_aload_n hx hb d_Home_init_21 rfl (lv_at hl 0 rfl) ?_
  refine lv_aload_n hx hb d_Home_init_22 rfl (lv_at hl 2 rfl) ?_
  refine l_putF (ci := 10) (C := R_Home) (T := F_Home) (Nn := 6) (v := .ref nt) (fs' := [.int (nI bb), .ref nt, .ref (eA 1 0), .int (-1), .int 0, .int 0]) E hC.1 hR hS (pset_self _ _ _ _) rfl i_Home t_Home t_Home_ok n_Home 1 (by decide) zf_Home_26 rfl hin rfl rfl rfl (Nat.le_of_ble_eq_true rfl) rfl d_Home_init_23 (fun H locs hR hS => ?_)
  rw [pset_pset] at hR
  exact l_vret E hR hS d_Home_init_26
