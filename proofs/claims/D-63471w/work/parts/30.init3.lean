theorem pset_in (P : PM) (c : Nat) (x y z w : Nat × va_E) : pset (pset (pset (pset P 8 c x) 9 c y) 10 c z) 8 c w = pset (pset (pset P 9 c y) 10 c z) 8 c w := by
  funext s i
  by_cases h : s = 8 ∧ i = c
  · rw [pset, if_pos h, pset, if_pos h]
  · rw [pset_ne _ _ h, pset_ne _ _ h]
    unfold pset
    simp only [h, if_false]
set_option maxHeartbeats 4000000 in
set_option maxRecDepth 100000 in
theorem c_HD_init (l : Launch) (D : va_G) (dA : Nat → ClassId) (eA : Nat → Nat → Nat) (A : Nat → Prop) (tv o : Nat) (x y : Int32) (N : Nat) (hN2 : 2 ≤ N) (hN4 : N ≤ 4) (hNx : s_clC x = nI N) : Met l y_HD_init (k_HD_init :: wz) (rml 4 49 376) (va_Pc [.ref o, .int x, .int y] (PV D dA eA A (pset (fun _ _ => none) 0 0 (o, .inr (0, [.int 0, .int 0, .null, .null, .null, .null, .null, .null, .int 0]))) tv)) (va_Qv (fun (ad : Nat → Nat → Nat) => ad 0 0 = o) (fun ad t => RX D dA eA ad A N (s_init x y) [] [] [] t.heap) A) 49 376 A := by
  refine Met.ofW (cc := b_HD_init) (maxL := 5) (ret := none) (by decide) rfl ?_
  intro p e s m args below meth c0 s₁ B hml hv
  obtain ⟨rfl, ⟨hA, hC, hR⟩, hV⟩ := hv
  have E := Cx.of B hml
  have hin : meth.name = "<init>" := (name_of_methodNamed B.named B.method).1
  have hx := E.1
  have hb := E.2.1
  have hS : va_S A s.heap s.heap [] := va_S.rf
  have hl := lv_entry ([.ref o, .int x, .int y] : List Value) (n := 5) (Nat.le_of_ble_eq_true rfl)
  rw [lg_entry_eq]
  generalize (lg_sl [.ref o, .int x, .int y] ++ List.replicate (5 - (lg_sl [.ref o, .int x, .int y]).length) Slot.unset).toArray = ls at hl ⊢
  replace hl : lv_has ls 5 [(0, .ref o), (1, .int x), (2, .int y)] := hl
  have lines : ∀ nc, nc < N → (∀ (ad : Nat → Nat → Nat) H locs ls, ad 0 0 = o → LW D A (PH dA eA ad N (nc + 1) (4 * (nc + 1)) 4 (s_init x y)) H → va_S A s.heap H locs → lv_has ls 5 [(3, .int (nI nc)), (0, .ref o), (1, .int x), (2, .int y)] → W p l e (rml 4 49 376) s m ([.ref o, .int x, .int y] : List Value).toArray below meth c0 H locs (21 + 7 * (nc + 1)) (96 + 70 * (nc + 1)) (MQ below (va_Qv (fun (ad : Nat → Nat → Nat) => ad 0 0 = o) (fun ad t => RX D dA eA ad A N (s_init x y) [] [] [] t.heap) A) ([.ref o, .int x, .int y] : List Value).toArray s 49 376 A) (F0 m 182 ls [])) → ∀ (r bb : Nat), bb + r = 4 → ∀ (ad : Nat → Nat → Nat) H locs ls, ad 0 0 = o → LW D A (PH dA eA ad N (nc + 1) (4 * nc + bb) 4 (s_init x y)) H → va_S A s.heap H locs → lv_has ls 5 [(4, .int (nI bb)), (3, .int (nI nc)), (0, .ref o), (1, .int x), (2, .int y)] → W p l e (rml 4 49 376) s m ([.ref o, .int x, .int y] : List Value).toArray below meth c0 H locs (24 + 7 * nc + bb) (134 + 70 * nc + 8 * bb) (MQ below (va_Qv (fun (ad : Nat → Nat → Nat) => ad 0 0 = o) (fun ad t => RX D dA eA ad A N (s_init x y) [] [] [] t.heap) A) ([.ref o, .int x, .int y] : List Value).toArray s 49 376 A) (F0 m 141 ls []) := by
    intro nc hnc next r
    induction r with
    | zero =>
      intro bb hbr ad H locs ls had hR hS hl
      obtain rfl : bb = 4 := by omega
      have hb_0 : PH dA eA ad N (nc + 1) (4 * nc + 4) 4 (s_init x y) 0 0 = some (o, .inr (0, [.int (nI N), .int (s_clM y), .ref (ad 4 0), .ref (ad 1 0), .ref (ad 2 0), .ref (ad 5 0), .ref (ad 6 0), .ref (ad 7 0), .int 0])) := by rw [← had]; rfl
      have hb_5 : PH dA eA ad N (nc + 1) (4 * nc + 4) 4 (s_init x y) 5 0 = some (ad 5 0, .inl (dA 4, rfa 4 (fun j => if j < nc + 1 then some (ad 8 j) else none))) := rfl
      have hb_6 : PH dA eA ad N (nc + 1) (4 * nc + 4) 4 (s_init x y) 6 0 = some (ad 6 0, .inl (dA 5, rfa 16 (fun j => if j < 4 * nc + 4 then some (ad 11 j) else none))) := rfl
      have hb_7 : PH dA eA ad N (nc + 1) (4 * nc + 4) 4 (s_init x y) 7 0 = some (ad 7 0, .inl (dA 6, rfa 4 (fun j => if j < 4 then some (ad 12 j) else none))) := rfl
      have hb_2 : PH dA eA ad N (nc + 1) (4 * nc + 4) 4 (s_init x y) 2 0 = some (ad 2 0, .inr (2, [.ref (ad 3 0), .ref (ad 3 1), .ref (ad 3 2), .ref (ad 3 3), .ref (ad 3 4), .ref (ad 3 5), .ref (ad 3 6), .ref (ad 3 7), .ref (ad 3 8), .ref (ad 3 9), .ref (ad 3 10)])) := rfl
      refine lv_iload hx hb d_HD_init_141 (lv_at hl 0 rfl) ?_
      refine lv_iconst (v := 4) hx hb d_HD_init_143 (by decide) ?_
      refine lv_icmp_ge (tgt := 182) hx hb d_HD_init_144 (by decide) (fun h1 => ?_) (fun h1 => absurd (by decide) h1)
      refine W.widen (k := 21 + 7 * (nc + 1)) (n := 96 + 70 * (nc + 1)) (by omega) (by omega) ?_
      exact next ad H locs ls had (by rw [show 4 * (nc + 1) = 4 * nc + 4 by omega]; exact hR) hS (lv_sub hl [1, 2, 3, 4] rfl)
    | succ r ih =>
      intro bb hbr ad H locs ls had hR hS hl
      have hb_0 : PH dA eA ad N (nc + 1) (4 * nc + bb) 4 (s_init x y) 0 0 = some (o, .inr (0, [.int (nI N), .int (s_clM y), .ref (ad 4 0), .ref (ad 1 0), .ref (ad 2 0), .ref (ad 5 0), .ref (ad 6 0), .ref (ad 7 0), .int 0])) := by rw [← had]; rfl
      have hb_5 : PH dA eA ad N (nc + 1) (4 * nc + bb) 4 (s_init x y) 5 0 = some (ad 5 0, .inl (dA 4, rfa 4 (fun j => if j < nc + 1 then some (ad 8 j) else none))) := rfl
      have hb_6 : PH dA eA ad N (nc + 1) (4 * nc + bb) 4 (s_init x y) 6 0 = some (ad 6 0, .inl (dA 5, rfa 16 (fun j => if j < 4 * nc + bb then some (ad 11 j) else none))) := rfl
      have hb_7 : PH dA eA ad N (nc + 1) (4 * nc + bb) 4 (s_init x y) 7 0 = some (ad 7 0, .inl (dA 6, rfa 4 (fun j => if j < 4 then some (ad 12 j) else none))) := rfl
      have hb_2 : PH dA eA ad N (nc + 1) (4 * nc + bb) 4 (s_init x y) 2 0 = some (ad 2 0, .inr (2, [.ref (ad 3 0), .ref (ad 3 1), .ref (ad 3 2), .ref (ad 3 3), .ref (ad 3 4), .ref (ad 3 5), .ref (ad 3 6), .ref (ad 3 7), .ref (ad 3 8), .ref (ad 3 9), .ref (ad 3 10)])) := rfl
      refine lv_iload hx hb d_HD_init_141 (lv_at hl 0 rfl) ?_
      refine lv_iconst (v := 4) hx hb d_HD_init_143 (by decide) ?_
      refine lv_icmp_ge (tgt := 182) hx hb d_HD_init_144 (by decide) (fun h2 => absurd h2 (nI_ge (a := bb) (b := 4) (by omega) (by omega))) (fun h2 => ?_)
      refine lv_aload_n hx hb d_HD_init_147 rfl (lv_at hl 2 rfl) ?_
      refine l_get (ci := 0) (C := R_HD) (T := F_HD) (Nn := 9) (v := .ref (ad 6 0)) E hC.1 hR (hb_0) rfl i_HD 6 (by decide) zf_HD_41 (fun _ h => h) rfl d_HD_init_148 ?_
      refine lv_iconst (v := 4) hx hb d_HD_init_151 (by decide) ?_
      refine lv_iload_n hx hb d_HD_init_152 rfl (lv_at hl 1 rfl) ?_
      refine wn_mul hx hb (a := 4) (b := nc) d_HD_init_153 ?_
      refine lv_iload hx hb d_HD_init_154 (lv_at hl 0 rfl) ?_
      refine wn_add hx hb (a := 4 * nc) (b := bb) d_HD_init_156 ?_
      refine l_new 11 (4 * nc + bb) (ci := 9) (C := R_Line) (T := F_Line) (Nn := 8) (fs := [.int 0, .int 0, .null, .null, .null, .int 0, .int 0, .int 0]) E hC.1 hR hS hA rfl i_Line t_Line t_Line_ok zc_HD_39 zI_Line zn_Line (by intro j hj; match j, hj with | 0, _ => rfl | 1, _ => rfl | 2, _ => rfl | 3, _ => rfl | 4, _ => rfl | 5, _ => rfl | 6, _ => rfl | 7, _ => rfl) (show 24 + 7 * nc + bb + 0 + 1 ≤ 49 by omega) (show 134 + 70 * nc + 8 * bb + 0 + 8 ≤ 376 by omega) d_HD_init_157 (fun q157 H hR hS => ?_)
      refine W.widen (k := 24 + 7 * nc + bb + 1) (n := 134 + 70 * nc + 8 * bb + 8) (by omega) (by omega) ?_
      refine lv_dup hx hb d_HD_init_160 rfl ?_
      refine lv_iload_n hx hb d_HD_init_161 rfl (lv_at hl 1 rfl) ?_
      refine lv_iload hx hb d_HD_init_162 (lv_at hl 0 rfl) ?_
      refine lv_aload_n hx hb d_HD_init_164 rfl (lv_at hl 2 rfl) ?_
      refine l_get (ci := 0) (C := R_HD) (T := F_HD) (Nn := 9) (v := .ref (ad 1 0)) E hC.1 hR ((pset_ne _ _ (by omega)).trans (hb_0)) rfl i_HD 3 (by decide) zf_HD_22 (fun _ h => h) rfl d_HD_init_165 ?_
      refine lv_aload_n hx hb d_HD_init_168 rfl (lv_at hl 2 rfl) ?_
      refine l_get (ci := 0) (C := R_HD) (T := F_HD) (Nn := 9) (v := .ref (ad 2 0)) E hC.1 hR ((pset_ne _ _ (by omega)).trans (hb_0)) rfl i_HD 4 (by decide) zf_HD_29 (fun _ h => h) rfl d_HD_init_169 ?_
      refine lc_v (av := [.ref q157, .int (nI nc), .int (nI bb), .ref (ad 1 0), .ref (ad 2 0)]) (l_runI (n := 4) (As := [.int (nI nc), .int (nI bb), .ref (ad 1 0), .ref (ad 2 0)]) (rest := [.ref q157, .int (nI (4 * nc + bb)), .ref (ad 6 0)]) E hA hC hR hS (c_Line_init l D dA eA A (pset (PH dA eA ad N (nc + 1) (4 * nc + bb) 4 (s_init x y)) 11 (4 * nc + bb) (q157, .inr (9, [.int 0, .int 0, .null, .null, .null, .int 0, .int 0, .int 0]))) (4 * nc + bb) q157 nc bb (ad 1 0) (ad 2 0) (ad 3 0) [.ref (ad 3 1), .ref (ad 3 2), .ref (ad 3 3), .ref (ad 3 4), .ref (ad 3 5), .ref (ad 3 6), .ref (ad 3 7), .ref (ad 3 8), .ref (ad 3 9), .ref (ad 3 10)] (pset_self _ _ _ _) ((pset_ne _ _ (by omega)).trans (hb_2))) zk_Line_init zn_Line zm_HD_71 zi_Line_init rfl (by decide +kernel) ⟨rfl, rfl⟩ ⟨Nat.le_of_ble_eq_true rfl, Nat.le_of_ble_eq_true rfl⟩ rfl (lv_sub hl [] rfl) rfl (Nat.le_of_ble_eq_true rfl) ⟨show 24 + 7 * nc + bb + 1 + 0 ≤ 49 by omega, show 134 + 70 * nc + 8 * bb + 8 + 0 ≤ 376 by omega⟩ d_HD_init_172) hS (fun H locs hR hS => ?_)
      rw [pset_pset] at hR
      refine l_ast E hC.1 hR hS 5 (ci := 9) (j := 4 * nc + bb) ((pset_ne _ _ (by omega)).trans (hb_6)) rfl (pset_self _ _ _ _) rfl (by omega) (by decide) d_HD_init_175 (fun H locs hR hS => ?_)
      refine lv_iinc (v := nI (bb + 1)) (lv' := [(4, .int (nI (bb + 1))), (3, .int (nI nc)), (0, .ref o), (1, .int x), (2, .int y)]) hx hb d_HD_init_176 hl (k := 0) rfl (nI_1 _) (by decide) rfl (fun ls hl => ?_)
      refine lv_goto (tgt := 141) hx hb d_HD_init_179 (by decide) ?_
      refine W.widen (k := 24 + 7 * nc + (bb + 1)) (n := 134 + 70 * nc + 8 * (bb + 1)) (by omega) (by omega) ?_
      exact ih (bb + 1) (by omega) _ H locs ls (by simp [ad2, had]) (ph_line (by omega) hR) hS (lv_sub hl [0, 1, 2, 3, 4] rfl)
  have cores : ∀ (r nc : Nat), nc + r = N → ∀ (ad : Nat → Nat → Nat) H locs ls, ad 0 0 = o → LW D A (PH dA eA ad N nc (4 * nc) 4 (s_init x y)) H → va_S A s.heap H locs → lv_has ls 5 [(3, .int (nI nc)), (0, .ref o), (1, .int x), (2, .int y)] → W p l e (rml 4 49 376) s m ([.ref o, .int x, .int y] : List Value).toArray below meth c0 H locs (21 + 7 * nc) (96 + 70 * nc) (MQ below (va_Qv (fun (ad : Nat → Nat → Nat) => ad 0 0 = o) (fun ad t => RX D dA eA ad A N (s_init x y) [] [] [] t.heap) A) ([.ref o, .int x, .int y] : List Value).toArray s 49 376 A) (F0 m 117 ls []) := by
    intro r
    induction r with
    | zero =>
      intro nc hcr ad H locs ls had hR hS hl
      have hcN : nc = N := by omega
      have hb_0 : PH dA eA ad N nc (4 * nc) 4 (s_init x y) 0 0 = some (o, .inr (0, [.int (nI N), .int (s_clM y), .ref (ad 4 0), .ref (ad 1 0), .ref (ad 2 0), .ref (ad 5 0), .ref (ad 6 0), .ref (ad 7 0), .int 0])) := by rw [← had]; rfl
      have hb_5 : PH dA eA ad N nc (4 * nc) 4 (s_init x y) 5 0 = some (ad 5 0, .inl (dA 4, rfa 4 (fun j => if j < nc then some (ad 8 j) else none))) := rfl
      have hb_6 : PH dA eA ad N nc (4 * nc) 4 (s_init x y) 6 0 = some (ad 6 0, .inl (dA 5, rfa 16 (fun j => if j < 4 * nc then some (ad 11 j) else none))) := rfl
      have hb_7 : PH dA eA ad N nc (4 * nc) 4 (s_init x y) 7 0 = some (ad 7 0, .inl (dA 6, rfa 4 (fun j => if j < 4 then some (ad 12 j) else none))) := rfl
      have hb_2 : PH dA eA ad N nc (4 * nc) 4 (s_init x y) 2 0 = some (ad 2 0, .inr (2, [.ref (ad 3 0), .ref (ad 3 1), .ref (ad 3 2), .ref (ad 3 3), .ref (ad 3 4), .ref (ad 3 5), .ref (ad 3 6), .ref (ad 3 7), .ref (ad 3 8), .ref (ad 3 9), .ref (ad 3 10)])) := rfl
      refine lv_iload_n hx hb d_HD_init_117 rfl (lv_at hl 0 rfl) ?_
      refine lv_aload_n hx hb d_HD_init_118 rfl (lv_at hl 1 rfl) ?_
      refine l_get (ci := 0) (C := R_HD) (T := F_HD) (Nn := 9) (v := .int (nI N)) E hC.1 hR (hb_0) rfl i_HD 0 (by decide) zf_HD_60 (fun _ h => h) rfl d_HD_init_119 ?_
      refine lv_icmp_ge (tgt := 188) hx hb d_HD_init_122 (by decide) (fun h3 => ?_) (fun h3 => absurd (nI_le (a := N) (b := nc) (by omega) (by omega)) h3)
      refine W.widen (k := 49) (n := 376) (by omega) (by omega) ?_
      exact W.vret E.1 E.2.1 E.2.2.2.2.2.1 (fun t ht _ => ⟨⟨ad, rfl, had, show RX D dA eA ad A _ (s_init x y) [] [] [] t.heap by rw [ht]; have hR2 := hR; rw [hcN] at hR2; exact ph_all hR2⟩, hS.F ht⟩) hS.2.2 d_HD_init_188 E.2.2.2.2.2.2
    | succ r ih =>
      intro nc hcr ad H locs ls had hR hS hl
      have hb_0 : PH dA eA ad N nc (4 * nc) 4 (s_init x y) 0 0 = some (o, .inr (0, [.int (nI N), .int (s_clM y), .ref (ad 4 0), .ref (ad 1 0), .ref (ad 2 0), .ref (ad 5 0), .ref (ad 6 0), .ref (ad 7 0), .int 0])) := by rw [← had]; rfl
      have hb_5 : PH dA eA ad N nc (4 * nc) 4 (s_init x y) 5 0 = some (ad 5 0, .inl (dA 4, rfa 4 (fun j => if j < nc then some (ad 8 j) else none))) := rfl
      have hb_6 : PH dA eA ad N nc (4 * nc) 4 (s_init x y) 6 0 = some (ad 6 0, .inl (dA 5, rfa 16 (fun j => if j < 4 * nc then some (ad 11 j) else none))) := rfl
      have hb_7 : PH dA eA ad N nc (4 * nc) 4 (s_init x y) 7 0 = some (ad 7 0, .inl (dA 6, rfa 4 (fun j => if j < 4 then some (ad 12 j) else none))) := rfl
      have hb_2 : PH dA eA ad N nc (4 * nc) 4 (s_init x y) 2 0 = some (ad 2 0, .inr (2, [.ref (ad 3 0), .ref (ad 3 1), .ref (ad 3 2), .ref (ad 3 3), .ref (ad 3 4), .ref (ad 3 5), .ref (ad 3 6), .ref (ad 3 7), .ref (ad 3 8), .ref (ad 3 9), .ref (ad 3 10)])) := rfl
      refine lv_iload_n hx hb d_HD_init_117 rfl (lv_at hl 0 rfl) ?_
      refine lv_aload_n hx hb d_HD_init_118 rfl (lv_at hl 1 rfl) ?_
      refine l_get (ci := 0) (C := R_HD) (T := F_HD) (Nn := 9) (v := .int (nI N)) E hC.1 hR (hb_0) rfl i_HD 0 (by decide) zf_HD_60 (fun _ h => h) rfl d_HD_init_119 ?_
      refine lv_icmp_ge (tgt := 188) hx hb d_HD_init_122 (by decide) (fun h4 => absurd h4 (nI_ge (a := nc) (b := N) (by omega) (by omega))) (fun h4 => ?_)
      refine lv_aload_n hx hb d_HD_init_125 rfl (lv_at hl 1 rfl) ?_
      refine l_get (ci := 0) (C := R_HD) (T := F_HD) (Nn := 9) (v := .ref (ad 5 0)) E hC.1 hR (hb_0) rfl i_HD 5 (by decide) zf_HD_35 (fun _ h => h) rfl d_HD_init_126 ?_
      refine lv_iload_n hx hb d_HD_init_129 rfl (lv_at hl 0 rfl) ?_
      refine l_new 8 nc (ci := 8) (C := R_Core) (T := F_Core) (Nn := 6) (fs := [.null, .null, .int 0, .int 0, .int 0, .int 0]) E hC.1 hR hS hA rfl i_Core t_Core t_Core_ok zc_HD_33 zI_Core zn_Core (by intro j hj; match j, hj with | 0, _ => rfl | 1, _ => rfl | 2, _ => rfl | 3, _ => rfl | 4, _ => rfl | 5, _ => rfl) (show 21 + 7 * nc + 0 + 1 ≤ 49 by omega) (show 96 + 70 * nc + 0 + 6 ≤ 376 by omega) d_HD_init_130 (fun q130 H hR hS => ?_)
      refine W.widen (k := 21 + 7 * nc + 1) (n := 96 + 70 * nc + 6) (by omega) (by omega) ?_
      refine lv_dup hx hb d_HD_init_133 rfl ?_
      refine lc_x (S := Nat × Nat) (PP := fun u9 => pset (pset (pset (pset (PH dA eA ad N nc (4 * nc) 4 (s_init x y)) 8 nc (q130, .inr (8, [.null, .null, .int 0, .int 0, .int 0, .int 0]))) 9 nc (u9.1, .inl (dA 2, 16, .inl (fun _ => 0)))) 10 nc (u9.2, .inl (dA 0, 16, .inl (fun _ => 0)))) 8 nc (q130, .inr (8, [.ref u9.1, .ref u9.2, .int 0, .int 0, .int 0, .int 0]))) (av := [.ref q130]) (l_runN (n := 0) (As := []) (rest := [.ref q130, .int (nI nc), .ref (ad 5 0)]) E hA hC hR hS (c_Core_init l D dA eA A (pset (PH dA eA ad N nc (4 * nc) 4 (s_init x y)) 8 nc (q130, .inr (8, [.null, .null, .int 0, .int 0, .int 0, .int 0]))) nc q130 (pset_self _ _ _ _)) zk_Core_init zn_Core hC.2.2.2.2.2.1.2.2.1 zi_Core_init rfl (by decide +kernel) ⟨rfl, rfl⟩ ⟨Nat.le_of_ble_eq_true rfl, Nat.le_of_ble_eq_true rfl⟩ rfl (lv_sub hl [] rfl) rfl (Nat.le_of_ble_eq_true rfl) ⟨show 21 + 7 * nc + 1 + 2 ≤ 49 by omega, show 96 + 70 * nc + 6 + 32 ≤ 376 by omega⟩ d_HD_init_134) hS (fun u9 H locs hR hS => ?_)
      refine W.widen (k := 21 + 7 * nc + 3) (n := 96 + 70 * nc + 38) (by omega) (by omega) ?_
      obtain ⟨q9, q10⟩ := u9
      replace hR : LW D A (pset (pset (pset (pset (PH dA eA ad N nc (4 * nc) 4 (s_init x y)) 8 nc (q130, .inr (8, [.null, .null, .int 0, .int 0, .int 0, .int 0]))) 9 nc (q9, .inl (dA 2, 16, .inl (fun _ => 0)))) 10 nc (q10, .inl (dA 0, 16, .inl (fun _ => 0)))) 8 nc (q130, .inr (8, [.ref q9, .ref q10, .int 0, .int 0, .int 0, .int 0]))) H := hR
      rw [pset_in] at hR
      refine l_ast E hC.1 hR hS 4 (ci := 8) (j := nc) ((pset_ne _ _ (by omega)).trans ((pset_ne _ _ (by omega)).trans ((pset_ne _ _ (by omega)).trans (hb_5)))) rfl (pset_self _ _ _ _) rfl (by omega) (by decide) d_HD_init_137 (fun H locs hR hS => ?_)
      refine lv_iconst (v := 0) hx hb d_HD_init_138 (by decide) ?_
      refine lv_istore (lv' := [(4, .int 0), (3, .int (nI nc)), (0, .ref o), (1, .int x), (2, .int y)]) hx hb d_HD_init_139 hl (by decide) rfl (fun ls hl => ?_)
      refine W.widen (k := 24 + 7 * nc + 0) (n := 134 + 70 * nc + 8 * 0) (by omega) (by omega) ?_
      refine lines nc (by omega) (fun ad H locs ls had hR hS hl => ?_) 4 0 rfl _ H locs ls (by simp [ad2, had]) (ph_core hR) hS (lv_sub hl [0, 1, 2, 3, 4] rfl)
      refine lv_iinc (v := nI (nc + 1)) (lv' := [(3, .int (nI (nc + 1))), (0, .ref o), (1, .int x), (2, .int y)]) hx hb d_HD_init_182 hl (k := 0) rfl (nI_1 _) (by decide) rfl (fun ls hl => ?_)
      refine lv_goto (tgt := 117) hx hb d_HD_init_185 (by decide) ?_
      exact ih (nc + 1) (by omega) ad H locs ls had hR hS (lv_sub hl [0, 1, 2, 3] rfl)
  have homes : ∀ (r nh : Nat), nh + r = 4 → ∀ (ad : Nat → Nat → Nat) H locs ls, ad 0 0 = o → LW D A (PH dA eA ad N 0 0 nh (s_init x y)) H → va_S A s.heap H locs → lv_has ls 5 [(3, .int (nI nh)), (0, .ref o), (1, .int x), (2, .int y)] → W p l e (rml 4 49 376) s m ([.ref o, .int x, .int y] : List Value).toArray below meth c0 H locs (17 + nh) (72 + 6 * nh) (MQ below (va_Qv (fun (ad : Nat → Nat → Nat) => ad 0 0 = o) (fun ad t => RX D dA eA ad A N (s_init x y) [] [] [] t.heap) A) ([.ref o, .int x, .int y] : List Value).toArray s 49 376 A) (F0 m 86 ls []) := by
    intro r
    induction r with
    | zero =>
      intro nh hhr ad H locs ls had hR hS hl
      obtain rfl : nh = 4 := by omega
      have hb_0 : PH dA eA ad N 0 0 4 (s_init x y) 0 0 = some (o, .inr (0, [.int (nI N), .int (s_clM y), .ref (ad 4 0), .ref (ad 1 0), .ref (ad 2 0), .ref (ad 5 0), .ref (ad 6 0), .ref (ad 7 0), .int 0])) := by rw [← had]; rfl
      have hb_5 : PH dA eA ad N 0 0 4 (s_init x y) 5 0 = some (ad 5 0, .inl (dA 4, rfa 4 (fun j => if j < 0 then some (ad 8 j) else none))) := rfl
      have hb_6 : PH dA eA ad N 0 0 4 (s_init x y) 6 0 = some (ad 6 0, .inl (dA 5, rfa 16 (fun j => if j < 0 then some (ad 11 j) else none))) := rfl
      have hb_7 : PH dA eA ad N 0 0 4 (s_init x y) 7 0 = some (ad 7 0, .inl (dA 6, rfa 4 (fun j => if j < 4 then some (ad 12 j) else none))) := rfl
      have hb_2 : PH dA eA ad N 0 0 4 (s_init x y) 2 0 = some (ad 2 0, .inr (2, [.ref (ad 3 0), .ref (ad 3 1), .ref (ad 3 2), .ref (ad 3 3), .ref (ad 3 4), .ref (ad 3 5), .ref (ad 3 6), .ref (ad 3 7), .ref (ad 3 8), .ref (ad 3 9), .ref (ad 3 10)])) := rfl
      refine lv_iload_n hx hb d_HD_init_86 rfl (lv_at hl 0 rfl) ?_
      refine lv_iconst (v := 4) hx hb d_HD_init_87 (by decide) ?_
      refine lv_icmp_ge (tgt := 115) hx hb d_HD_init_88 (by decide) (fun h5 => ?_) (fun h5 => absurd (by decide) h5)
      refine lv_iconst (v := 0) hx hb d_HD_init_115 (by decide) ?_
      refine lv_istore_n (lv' := [(3, .int 0), (0, .ref o), (1, .int x), (2, .int y)]) hx hb d_HD_init_116 rfl hl (by decide) rfl (fun ls hl => ?_)
      refine W.widen (k := 21 + 7 * 0) (n := 96 + 70 * 0) (by omega) (by omega) ?_
      exact cores N 0 (by omega) ad H locs ls had hR hS (lv_sub hl [0, 1, 2, 3] rfl)
    | succ r ih =>
      intro nh hhr ad H locs ls had hR hS hl
      have hb_0 : PH dA eA ad N 0 0 nh (s_init x y) 0 0 = some (o, .inr (0, [.int (nI N), .int (s_clM y), .ref (ad 4 0), .ref (ad 1 0), .ref (ad 2 0), .ref (ad 5 0), .ref (ad 6 0), .ref (ad 7 0), .int 0])) := by rw [← had]; rfl
      have hb_5 : PH dA eA ad N 0 0 nh (s_init x y) 5 0 = some (ad 5 0, .inl (dA 4, rfa 4 (fun j => if j < 0 then some (ad 8 j) else none))) := rfl
      have hb_6 : PH dA eA ad N 0 0 nh (s_init x y) 6 0 = some (ad 6 0, .inl (dA 5, rfa 16 (fun j => if j < 0 then some (ad 11 j) else none))) := rfl
      have hb_7 : PH dA eA ad N 0 0 nh (s_init x y) 7 0 = some (ad 7 0, .inl (dA 6, rfa 4 (fun j => if j < nh then some (ad 12 j) else none))) := rfl
      have hb_2 : PH dA eA ad N 0 0 nh (s_init x y) 2 0 = some (ad 2 0, .inr (2, [.ref (ad 3 0), .ref (ad 3 1), .ref (ad 3 2), .ref (ad 3 3), .ref (ad 3 4), .ref (ad 3 5), .ref (ad 3 6), .ref (ad 3 7), .ref (ad 3 8), .ref (ad 3 9), .ref (ad 3 10)])) := rfl
      refine lv_iload_n hx hb d_HD_init_86 rfl (lv_at hl 0 rfl) ?_
      refine lv_iconst (v := 4) hx hb d_HD_init_87 (by decide) ?_
      refine lv_icmp_ge (tgt := 115) hx hb d_HD_init_88 (by decide) (fun h6 => absurd h6 (nI_ge (a := nh) (b := 4) (by omega) (by omega))) (fun h6 => ?_)
      refine lv_aload_n hx hb d_HD_init_91 rfl (lv_at hl 1 rfl) ?_
      refine l_get (ci := 0) (C := R_HD) (T := F_HD) (Nn := 9) (v := .ref (ad 7 0)) E hC.1 hR (hb_0) rfl i_HD 7 (by decide) zf_HD_47 (fun _ h => h) rfl d_HD_init_92 ?_
      refine lv_iload_n hx hb d_HD_init_95 rfl (lv_at hl 0 rfl) ?_
      refine l_new 12 nh (ci := 10) (C := R_Home) (T := F_Home) (Nn := 6) (fs := [.int 0, .null, .null, .int 0, .int 0, .int 0]) E hC.1 hR hS hA rfl i_Home t_Home t_Home_ok zc_HD_45 zI_Home zn_Home (by intro j hj; match j, hj with | 0, _ => rfl | 1, _ => rfl | 2, _ => rfl | 3, _ => rfl | 4, _ => rfl | 5, _ => rfl) (show 17 + nh + 0 + 1 ≤ 49 by omega) (show 72 + 6 * nh + 0 + 6 ≤ 376 by omega) d_HD_init_96 (fun q96 H hR hS => ?_)
      refine W.widen (k := 17 + nh + 1) (n := 72 + 6 * nh + 6) (by omega) (by omega) ?_
      refine lv_dup hx hb d_HD_init_99 rfl ?_
      refine lv_iload_n hx hb d_HD_init_100 rfl (lv_at hl 0 rfl) ?_
      refine lv_aload_n hx hb d_HD_init_101 rfl (lv_at hl 1 rfl) ?_
      refine l_get (ci := 0) (C := R_HD) (T := F_HD) (Nn := 9) (v := .ref (ad 1 0)) E hC.1 hR ((pset_ne _ _ (by omega)).trans (hb_0)) rfl i_HD 3 (by decide) zf_HD_22 (fun _ h => h) rfl d_HD_init_102 ?_
      refine lc_v (av := [.ref q96, .int (nI nh), .ref (ad 1 0)]) (l_runI (n := 2) (As := [.int (nI nh), .ref (ad 1 0)]) (rest := [.ref q96, .int (nI nh), .ref (ad 7 0)]) E hA hC hR hS (c_Home_init l D dA eA A (pset (PH dA eA ad N 0 0 nh (s_init x y)) 12 nh (q96, .inr (10, [.int 0, .null, .null, .int 0, .int 0, .int 0]))) nh q96 nh (ad 1 0) (pset_self _ _ _ _)) zk_Home_init zn_Home zm_HD_67 zi_Home_init rfl (by decide +kernel) ⟨rfl, rfl⟩ ⟨Nat.le_of_ble_eq_true rfl, Nat.le_of_ble_eq_true rfl⟩ rfl (lv_sub hl [] rfl) rfl (Nat.le_of_ble_eq_true rfl) ⟨show 17 + nh + 1 + 0 ≤ 49 by omega, show 72 + 6 * nh + 6 + 0 ≤ 376 by omega⟩ d_HD_init_105) hS (fun H locs hR hS => ?_)
      rw [pset_pset] at hR
      refine l_ast E hC.1 hR hS 6 (ci := 10) (j := nh) ((pset_ne _ _ (by omega)).trans (hb_7)) rfl (pset_self _ _ _ _) rfl (by omega) (by decide) d_HD_init_108 (fun H locs hR hS => ?_)
      refine lv_iinc (v := nI (nh + 1)) (lv' := [(3, .int (nI (nh + 1))), (0, .ref o), (1, .int x), (2, .int y)]) hx hb d_HD_init_109 hl (k := 0) rfl (nI_1 _) (by decide) rfl (fun ls hl => ?_)
      refine lv_goto (tgt := 86) hx hb d_HD_init_112 (by decide) ?_
      refine W.widen (k := 17 + (nh + 1)) (n := 72 + 6 * (nh + 1)) (by omega) (by omega) ?_
      exact ih (nh + 1) (by omega) _ H locs ls (by simp [ad2, had]) (ph_home (by omega) hR) hS (lv_sub hl [0, 1, 2, 3] rfl)
  refine lv_aload_n hx hb d_HD_init_0 rfl (lv_at hl 0 rfl) ?_
  refine W.objInit hx hb E.2.2.2.1 (E.2.2.2.2.1 _ zm_HD_1) (E.2.2.2.2.1 _ zi_Obj_init) (E.2.2.2.2.1 _ zk_Obj_init) rfl (by rw [E.2.2.1]; exact hl.1) rfl d_HD_init_1 (Nat.le_of_ble_eq_true rfl) (Nat.le_of_ble_eq_true rfl) ?_
  refine W.eq (g2 := F0 m 4 ls []) rfl ?_
  refine lv_aload_n hx hb d_HD_init_4 rfl (lv_at hl 0 rfl) ?_
  refine va_callr (rest := [.ref o]) (a := ([] : List Value).toArray) (va_runS (As := []) (rest := [.ref o]) ⟨E.1, E.2.1, E.2.2.1, E.2.2.2.1, E.2.2.2.2.1⟩ (c_Op_values l D dA eA A (pset (fun _ _ => none) 0 0 (o, .inr (0, [.int 0, .int 0, .null, .null, .null, .null, .null, .null, .int 0]))) tv) (va_cwS 0 E.2.2.2.2.1 ck_HD_7.1 rfl rfl rfl ck_HD_7.2 ⟨Nat.le_of_ble_eq_true rfl, Nat.le_of_ble_eq_true rfl⟩) ⟨pv_blind, fun U hU hW => ⟨rfl, pl_at hA hC hR hS hU hW, hV.call hS hU hW⟩⟩ rfl rfl hl.1 rfl (lv_room (Nat.le_of_ble_eq_true rfl)) d_HD_init_5 ⟨Nat.le_of_ble_eq_true rfl, Nat.le_of_ble_eq_true rfl⟩) hS (fun _ _ h => h) (fun _ h => h) (fun _ q5 t9 H locs ht9 _ _ hR _ _ hS => ?_)
  rw [ht9] at hR
  refine W.widen (k := 1) (n := 6) (by decide) (by decide) ?_
  refine l_putF (ci := 0) (C := R_HD) (T := F_HD) (Nn := 9) (v := .ref q5) (fs' := [.int 0, .int 0, .ref q5, .null, .null, .null, .null, .null, .int 0]) E hC.1 hR hS ((pset_ne _ _ (by omega)).trans (pset_self _ _ _ _)) rfl i_HD t_HD t_HD_ok n_HD 2 (by decide) zf_HD_13 rfl hin rfl rfl rfl (Nat.le_of_ble_eq_true rfl) rfl d_HD_init_8 (fun H locs hR hS => ?_)
  refine lv_aload_n hx hb d_HD_init_11 rfl (lv_at hl 0 rfl) ?_
  refine l_new 1 0 (ci := 1) (C := R_Net) (T := F_Net) (Nn := 5) (fs := [.null, .null, .null, .int 0, .int 0]) E hC.1 hR hS hA rfl i_Net t_Net t_Net_ok zc_HD_19 zI_Net zn_Net (by intro j hj; match j, hj with | 0, _ => rfl | 1, _ => rfl | 2, _ => rfl | 3, _ => rfl | 4, _ => rfl) (Nat.le_of_ble_eq_true rfl) (Nat.le_of_ble_eq_true rfl) d_HD_init_12 (fun q12 H hR hS => ?_)
  refine W.widen (k := 2) (n := 11) (by decide) (by decide) ?_
  refine lv_dup hx hb d_HD_init_15 rfl ?_
  refine va_csv (rest := [.ref q12, .ref o]) (a := ([.ref q12] : List Value).toArray) (va_Run.run (va_runIN (As := []) (rest := [.ref q12, .ref o]) ⟨E.1, E.2.1, E.2.2.1, E.2.2.2.1, E.2.2.2.2.1⟩ (c_Net_init l q12) ⟨va_cnB 0 E.2.2.2.2.1 (gdI zk_Net_init) rfl rfl rfl hC.2.2.2.2.2.1.1 (E.2.2.2.2.1 _ zn_Net) (by decide +kernel) ⟨Nat.le_of_ble_eq_true rfl, Nat.le_of_ble_eq_true rfl⟩, rfl, E.2.2.2.2.1 _ zi_Net_init⟩ preEq rfl rfl hl.1 rfl (lv_room (Nat.le_of_ble_eq_true rfl)) d_HD_init_16 ⟨Nat.le_of_ble_eq_true rfl, Nat.le_of_ble_eq_true rfl⟩)) (fun _ => ?_)
  refine l_putF (ci := 0) (C := R_HD) (T := F_HD) (Nn := 9) (v := .ref q12) (fs' := [.int 0, .int 0, .ref q5, .ref q12, .null, .null, .null, .null, .int 0]) E hC.1 hR hS ((pset_ne _ _ (by omega)).trans (pset_self _ _ _ _)) rfl i_HD t_HD t_HD_ok n_HD 3 (by decide) zf_HD_22 rfl hin rfl rfl rfl (Nat.le_of_ble_eq_true rfl) rfl d_HD_init_19 (fun H locs hR hS => ?_)
  refine lv_aload_n hx hb d_HD_init_22 rfl (lv_at hl 0 rfl) ?_
  refine l_new 2 0 (ci := 2) (C := R_Chart) (T := F_Chart) (Nn := 11) (fs := [.null, .null, .null, .null, .null, .null, .null, .null, .null, .null, .null]) E hC.1 hR hS hA rfl i_Chart t_Chart t_Chart_ok zc_HD_26 zI_Chart zn_Chart (by intro j hj; match j, hj with | 0, _ => rfl | 1, _ => rfl | 2, _ => rfl | 3, _ => rfl | 4, _ => rfl | 5, _ => rfl | 6, _ => rfl | 7, _ => rfl | 8, _ => rfl | 9, _ => rfl | 10, _ => rfl) (Nat.le_of_ble_eq_true rfl) (Nat.le_of_ble_eq_true rfl) d_HD_init_23 (fun q23 H hR hS => ?_)
  refine W.widen (k := 3) (n := 22) (by decide) (by decide) ?_
  refine lv_dup hx hb d_HD_init_26 rfl ?_
  refine lc_x (PP := fun md => PCh (pset (pset (pset (pset (pset (pset (fun _ _ => none) 0 0 (o, .inr (0, [.int 0, .int 0, .null, .null, .null, .null, .null, .null, .int 0]))) 4 0 (q5, .inl (dA 3, rfa 6 (fun j => some (eA 2 j))))) 0 0 (o, .inr (0, [.int 0, .int 0, .ref q5, .null, .null, .null, .null, .null, .int 0]))) 1 0 (q12, .inr (1, [.null, .null, .null, .int 0, .int 0]))) 0 0 (o, .inr (0, [.int 0, .int 0, .ref q5, .ref q12, .null, .null, .null, .null, .int 0]))) 2 0 (q23, .inr (2, [.null, .null, .null, .null, .null, .null, .null, .null, .null, .null, .null]))) q23 md) (av := [.ref q23]) (l_runN (n := 0) (As := []) (rest := [.ref q23, .ref o]) E hA hC hR hS (c_Chart_init l D dA eA A (pset (pset (pset (pset (pset (pset (fun _ _ => none) 0 0 (o, .inr (0, [.int 0, .int 0, .null, .null, .null, .null, .null, .null, .int 0]))) 4 0 (q5, .inl (dA 3, rfa 6 (fun j => some (eA 2 j))))) 0 0 (o, .inr (0, [.int 0, .int 0, .ref q5, .null, .null, .null, .null, .null, .int 0]))) 1 0 (q12, .inr (1, [.null, .null, .null, .int 0, .int 0]))) 0 0 (o, .inr (0, [.int 0, .int 0, .ref q5, .ref q12, .null, .null, .null, .null, .int 0]))) 2 0 (q23, .inr (2, [.null, .null, .null, .null, .null, .null, .null, .null, .null, .null, .null]))) q23 (pset_self _ _ _ _)) zk_Chart_init zn_Chart hC.2.2.2.2.2.1.2.1 zi_Chart_init rfl (by decide +kernel) ⟨rfl, rfl⟩ ⟨Nat.le_of_ble_eq_true rfl, Nat.le_of_ble_eq_true rfl⟩ rfl (lv_sub hl [] rfl) rfl (Nat.le_of_ble_eq_true rfl) ⟨Nat.le_of_ble_eq_true rfl, Nat.le_of_ble_eq_true rfl⟩ d_HD_init_27) hS (fun md H locs hR hS => ?_)
  refine W.widen (k := 14) (n := 48) (by decide) (by decide) ?_
  obtain ⟨P1, hP1⟩ : ∃ P1 : PM, P1 = PCh (pset (pset (pset (pset (pset (pset (fun _ _ => none) 0 0 (o, .inr (0, [.int 0, .int 0, .null, .null, .null, .null, .null, .null, .int 0]))) 4 0 (q5, .inl (dA 3, rfa 6 (fun j => some (eA 2 j))))) 0 0 (o, .inr (0, [.int 0, .int 0, .ref q5, .null, .null, .null, .null, .null, .int 0]))) 1 0 (q12, .inr (1, [.null, .null, .null, .int 0, .int 0]))) 0 0 (o, .inr (0, [.int 0, .int 0, .ref q5, .ref q12, .null, .null, .null, .null, .int 0]))) 2 0 (q23, .inr (2, [.null, .null, .null, .null, .null, .null, .null, .null, .null, .null, .null]))) q23 md := ⟨_, rfl⟩
  replace hR : LW D A P1 H := by rw [hP1]; exact hR
  have hb_1 : P1 1 0 = some (q12, .inr (1, [.null, .null, .null, .int 0, .int 0])) := by rw [hP1]; rfl
  have hb_0 : P1 0 0 = some (o, .inr (0, [.int 0, .int 0, .ref q5, .ref q12, .null, .null, .null, .null, .int 0])) := by rw [hP1]; rfl
  have hb_4 : P1 4 0 = some (q5, .inl (dA 3, rfa 6 (fun j => some (eA 2 j)))) := by rw [hP1]; rfl
  have hb_2 : P1 2 0 = some (q23, .inr (2, [.ref (md 0), .ref (md 1), .ref (md 2), .ref (md 3), .ref (md 4), .ref (md 5), .ref (md 6), .ref (md 7), .ref (md 8), .ref (md 9), .ref (md 10)])) := by rw [hP1]; rfl
  have hb_3 : ∀ i, i < 11 → P1 3 i = some (md i, mdc i) := by intro i hi; rw [hP1, PCh, if_pos ⟨rfl, hi⟩]
  refine l_putF (ci := 0) (C := R_HD) (T := F_HD) (Nn := 9) (v := .ref q23) (fs' := [.int 0, .int 0, .ref q5, .ref q12, .ref q23, .null, .null, .null, .int 0]) E hC.1 hR hS (hb_0) rfl i_HD t_HD t_HD_ok n_HD 4 (by decide) zf_HD_29 rfl hin rfl rfl rfl (Nat.le_of_ble_eq_true rfl) rfl d_HD_init_30 (fun H locs hR hS => ?_)
  refine lv_aload_n hx hb d_HD_init_33 rfl (lv_at hl 0 rfl) ?_
  refine lv_iconst (v := 4) hx hb d_HD_init_34 (by decide) ?_
  refine l_anew 5 0 4 (N := 4) E hC.1 hR hS hA rfl hV.2.2.1 zc_HD_33 (by decide) (Nat.le_of_ble_eq_true rfl) (Nat.le_of_ble_eq_true rfl) d_HD_init_35 (fun q35 H hR hS => ?_)
  refine W.widen (k := 15) (n := 52) (by decide) (by decide) ?_
  refine l_putF (ci := 0) (C := R_HD) (T := F_HD) (Nn := 9) (v := .ref q35) (fs' := [.int 0, .int 0, .ref q5, .ref q12, .ref q23, .ref q35, .null, .null, .int 0]) E hC.1 hR hS ((pset_ne _ _ (by omega)).trans (pset_self _ _ _ _)) rfl i_HD t_HD t_HD_ok n_HD 5 (by decide) zf_HD_35 rfl hin rfl rfl rfl (Nat.le_of_ble_eq_true rfl) rfl d_HD_init_38 (fun H locs hR hS => ?_)
  refine lv_aload_n hx hb d_HD_init_41 rfl (lv_at hl 0 rfl) ?_
  refine lv_bipush (v := 16) hx hb d_HD_init_42 (by decide) ?_
  refine l_anew 6 0 5 (N := 16) E hC.1 hR hS hA rfl hV.2.2.2.1 zc_HD_39 (by decide) (Nat.le_of_ble_eq_true rfl) (Nat.le_of_ble_eq_true rfl) d_HD_init_44 (fun q44 H hR hS => ?_)
  refine W.widen (k := 16) (n := 68) (by decide) (by decide) ?_
  refine l_putF (ci := 0) (C := R_HD) (T := F_HD) (Nn := 9) (v := .ref q44) (fs' := [.int 0, .int 0, .ref q5, .ref q12, .ref q23, .ref q35, .ref q44, .null, .int 0]) E hC.1 hR hS ((pset_ne _ _ (by omega)).trans (pset_self _ _ _ _)) rfl i_HD t_HD t_HD_ok n_HD 6 (by decide) zf_HD_41 rfl hin rfl rfl rfl (Nat.le_of_ble_eq_true rfl) rfl d_HD_init_47 (fun H locs hR hS => ?_)
  refine lv_aload_n hx hb d_HD_init_50 rfl (lv_at hl 0 rfl) ?_
  refine lv_iconst (v := 4) hx hb d_HD_init_51 (by decide) ?_
  refine l_anew 7 0 6 (N := 4) E hC.1 hR hS hA rfl hV.2.2.2.2 zc_HD_45 (by decide) (Nat.le_of_ble_eq_true rfl) (Nat.le_of_ble_eq_true rfl) d_HD_init_52 (fun q52 H hR hS => ?_)
  refine W.widen (k := 17) (n := 72) (by decide) (by decide) ?_
  refine l_putF (ci := 0) (C := R_HD) (T := F_HD) (Nn := 9) (v := .ref q52) (fs' := [.int 0, .int 0, .ref q5, .ref q12, .ref q23, .ref q35, .ref q44, .ref q52, .int 0]) E hC.1 hR hS ((pset_ne _ _ (by omega)).trans (pset_self _ _ _ _)) rfl i_HD t_HD t_HD_ok n_HD 7 (by decide) zf_HD_47 rfl hin rfl rfl rfl (Nat.le_of_ble_eq_true rfl) rfl d_HD_init_55 (fun H locs hR hS => ?_)
  refine lv_aload_n hx hb d_HD_init_58 rfl (lv_at hl 0 rfl) ?_
  refine lv_iconst (v := 2) hx hb d_HD_init_59 (by decide) ?_
  refine lv_iconst (v := 4) hx hb d_HD_init_60 (by decide) ?_
  refine lv_iload_n hx hb d_HD_init_61 rfl (lv_at hl 1 rfl) ?_
  refine va_mmin hx hb (by rw [E.2.2.1]; exact hl.1.symm) E.2.2.2.1 (E.2.2.2.2.1 _ zm_HD_51) (E.2.2.2.2.1 _ zS_Math_min) (E.2.2.2.2.1 _ zn_Math) (E.2.2.2.2.1 _ zk_Math_min) (Nat.le_of_ble_eq_true rfl) (Nat.le_of_ble_eq_true rfl) (Nat.le_of_ble_eq_true rfl) (Nat.le_of_ble_eq_true rfl) d_HD_init_62 ?_
  refine va_mmax hx hb (by rw [E.2.2.1]; exact hl.1.symm) E.2.2.2.1 (E.2.2.2.2.1 _ zm_HD_57) (E.2.2.2.2.1 _ zS_Math_max) (E.2.2.2.2.1 _ zn_Math) (E.2.2.2.2.1 _ zk_Math_max) (Nat.le_of_ble_eq_true rfl) (Nat.le_of_ble_eq_true rfl) (Nat.le_of_ble_eq_true rfl) (Nat.le_of_ble_eq_true rfl) d_HD_init_65 ?_
  refine wn_eq (y := nI N) (by rw [← hNx]; exact clC_mm x) ?_
  refine l_putF (ci := 0) (C := R_HD) (T := F_HD) (Nn := 9) (v := .int (nI N)) (fs' := [.int (nI N), .int 0, .ref q5, .ref q12, .ref q23, .ref q35, .ref q44, .ref q52, .int 0]) E hC.1 hR hS (pset_self _ _ _ _) rfl i_HD t_HD t_HD_ok n_HD 0 (by decide) zf_HD_60 rfl hin rfl rfl rfl (Nat.le_of_ble_eq_true rfl) rfl d_HD_init_68 (fun H locs hR hS => ?_)
  rw [pset_pset] at hR
  refine lv_aload_n hx hb d_HD_init_71 rfl (lv_at hl 0 rfl) ?_
  refine lv_iconst (v := 1) hx hb d_HD_init_72 (by decide) ?_
  refine lv_iconst (v := 3) hx hb d_HD_init_73 (by decide) ?_
  refine lv_iload_n hx hb d_HD_init_74 rfl (lv_at hl 2 rfl) ?_
  refine va_mmin hx hb (by rw [E.2.2.1]; exact hl.1.symm) E.2.2.2.1 (E.2.2.2.2.1 _ zm_HD_51) (E.2.2.2.2.1 _ zS_Math_min) (E.2.2.2.2.1 _ zn_Math) (E.2.2.2.2.1 _ zk_Math_min) (Nat.le_of_ble_eq_true rfl) (Nat.le_of_ble_eq_true rfl) (Nat.le_of_ble_eq_true rfl) (Nat.le_of_ble_eq_true rfl) d_HD_init_75 ?_
  refine va_mmax hx hb (by rw [E.2.2.1]; exact hl.1.symm) E.2.2.2.1 (E.2.2.2.2.1 _ zm_HD_57) (E.2.2.2.2.1 _ zS_Math_max) (E.2.2.2.2.1 _ zn_Math) (E.2.2.2.2.1 _ zk_Math_max) (Nat.le_of_ble_eq_true rfl) (Nat.le_of_ble_eq_true rfl) (Nat.le_of_ble_eq_true rfl) (Nat.le_of_ble_eq_true rfl) d_HD_init_78 ?_
  refine wn_eq (y := s_clM y) (clM_mm y) ?_
  refine l_putF (ci := 0) (C := R_HD) (T := F_HD) (Nn := 9) (v := .int (s_clM y)) (fs' := [.int (nI N), .int (s_clM y), .ref q5, .ref q12, .ref q23, .ref q35, .ref q44, .ref q52, .int 0]) E hC.1 hR hS (pset_self _ _ _ _) rfl i_HD t_HD t_HD_ok n_HD 1 (by decide) zf_HD_64 rfl hin rfl rfl rfl (Nat.le_of_ble_eq_true rfl) rfl d_HD_init_81 (fun H locs hR hS => ?_)
  rw [pset_pset] at hR
  refine lv_iconst (v := 0) hx hb d_HD_init_84 (by decide) ?_
  refine lv_istore_n (lv' := [(3, .int 0), (0, .ref o), (1, .int x), (2, .int y)]) hx hb d_HD_init_85 rfl hl (by decide) rfl (fun ls hl => ?_)
  refine W.widen (k := 17 + 0) (n := 72 + 6 * 0) (by decide) (by decide) ?_
  refine homes 4 0 rfl (fun s i => match s with | 0 => o | 1 => q12 | 2 => q23 | 3 => md i | 4 => q5 | 5 => q35 | 6 => q44 | 7 => q52 | _ => 0) H locs ls rfl (hR.sub (fun s9 i9 x9 h9 => ?_)) hS (lv_sub hl [0, 1, 2, 3] rfl)
  unfold PH at h9
  split at h9
  · next hv9 =>
    have hs9 := vp_13 hv9
    rw [← h9]
    rcases (show s9 = 0 ∨ s9 = 1 ∨ s9 = 2 ∨ s9 = 3 ∨ s9 = 4 ∨ s9 = 5 ∨ s9 = 6 ∨ s9 = 7 ∨ s9 = 8 ∨ s9 = 9 ∨ s9 = 10 ∨ s9 = 11 ∨ s9 = 12 by omega) with rfl | rfl | rfl | rfl | rfl | rfl | rfl | rfl | rfl | rfl | rfl | rfl | rfl
    · obtain rfl : i9 = 0 := eq_of_beq hv9
      exact (pset_self _ _ _ _).trans rfl
    · obtain rfl : i9 = 0 := eq_of_beq hv9
      exact ((pset_ne _ _ (by omega)).trans ((pset_ne _ _ (by omega)).trans ((pset_ne _ _ (by omega)).trans ((pset_ne _ _ (by omega)).trans ((pset_ne _ _ (by omega)).trans ((pset_ne _ _ (by omega)).trans ((pset_ne _ _ (by omega)).trans (hb_1)))))))).trans rfl
    · obtain rfl : i9 = 0 := eq_of_beq hv9
      exact ((pset_ne _ _ (by omega)).trans ((pset_ne _ _ (by omega)).trans ((pset_ne _ _ (by omega)).trans ((pset_ne _ _ (by omega)).trans ((pset_ne _ _ (by omega)).trans ((pset_ne _ _ (by omega)).trans ((pset_ne _ _ (by omega)).trans (hb_2)))))))).trans rfl
    · have hi9 : i9 < 11 := of_decide_eq_true hv9
      exact ((pset_ne _ _ (by omega)).trans ((pset_ne _ _ (by omega)).trans ((pset_ne _ _ (by omega)).trans ((pset_ne _ _ (by omega)).trans ((pset_ne _ _ (by omega)).trans ((pset_ne _ _ (by omega)).trans ((pset_ne _ _ (by omega)).trans (hb_3 i9 hi9)))))))).trans rfl
    · obtain rfl : i9 = 0 := eq_of_beq hv9
      exact ((pset_ne _ _ (by omega)).trans ((pset_ne _ _ (by omega)).trans ((pset_ne _ _ (by omega)).trans ((pset_ne _ _ (by omega)).trans ((pset_ne _ _ (by omega)).trans ((pset_ne _ _ (by omega)).trans ((pset_ne _ _ (by omega)).trans (hb_4)))))))).trans rfl
    · obtain rfl : i9 = 0 := eq_of_beq hv9
      exact ((pset_ne _ _ (by omega)).trans ((pset_ne _ _ (by omega)).trans ((pset_ne _ _ (by omega)).trans ((pset_ne _ _ (by omega)).trans ((pset_ne _ _ (by omega)).trans (pset_self _ _ _ _)))))).trans rfl
    · obtain rfl : i9 = 0 := eq_of_beq hv9
      exact ((pset_ne _ _ (by omega)).trans ((pset_ne _ _ (by omega)).trans ((pset_ne _ _ (by omega)).trans (pset_self _ _ _ _)))).trans rfl
    · obtain rfl : i9 = 0 := eq_of_beq hv9
      exact ((pset_ne _ _ (by omega)).trans (pset_self _ _ _ _)).trans rfl
    · exact absurd (show i9 < 0 from of_decide_eq_true hv9) (Nat.not_lt_zero _)
    · exact absurd (show i9 < 0 from of_decide_eq_true hv9) (Nat.not_lt_zero _)
    · exact absurd (show i9 < 0 from of_decide_eq_true hv9) (Nat.not_lt_zero _)
    · exact absurd (show i9 < 0 from of_decide_eq_true hv9) (Nat.not_lt_zero _)
    · exact absurd (show i9 < 0 from of_decide_eq_true hv9) (Nat.not_lt_zero _)
  · cases h9
