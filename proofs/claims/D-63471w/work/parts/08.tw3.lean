theorem rq_neg {q : Nat} (hq : q < 2 ^ 31) : rq q < 0 ↔ q = 0 := by
  cases q with
  | zero => rw [rq_0]; decide
  | succ q =>
    rw [rq_s]
    constructor
    · intro h; exact absurd h (nI_pos (by omega))
    · intro h; exact absurd h (by omega)
/-- the message arrays, with the places from k to i moved down by one -/
def s_shift (K : PS) (k i : Nat) : PS := fun f j => if f < 7 ∧ k ≤ j ∧ j < i then K f (j + 1) else K f j
theorem s_shift_0 {K : PS} {k : Nat} : s_shift K k k = K := by
  funext f j
  rw [s_shift, if_neg (by omega)]
theorem s_shift_up {K : PS} {k i : Nat} (hki : k ≤ i) : s_shift K k (i + 1) = up2 (up2 (up2 (up2 (up2 (up2 (up2 (s_shift K k i) 0 i (s_shift K k i 0 (i + 1))) 1 i (s_shift K k i 1 (i + 1))) 2 i (s_shift K k i 2 (i + 1))) 3 i (s_shift K k i 3 (i + 1))) 4 i (s_shift K k i 4 (i + 1))) 5 i (s_shift K k i 5 (i + 1))) 6 i (s_shift K k i 6 (i + 1)) := by
  funext f j
  by_cases hj : j = i
  · subst hj
    have h9 : ¬ (k ≤ j + 1 ∧ j + 1 < j) := by omega
    match f with
    | 0 | 1 | 2 | 3 | 4 | 5 | 6 => simp [up2, upd, s_shift, hki, h9]
    | f + 7 =>
      have h7 : ¬ f + 7 < 7 := by omega
      simp [up2, s_shift, h7]
  · have h1 : (j < i + 1) = (j < i) := by
      apply propext
      omega
    match f with
    | 0 | 1 | 2 | 3 | 4 | 5 | 6 => simp [up2, upd, s_shift, hj, h1]
    | f + 7 =>
      have h7 : ¬ f + 7 < 7 := by omega
      simp [up2, s_shift, h7]
theorem mk_erase {K : PS} {M : List Msg} {k : Nat} (hk : MK K M) (hkM : k < M.length) : MK (s_shift K k (M.length - 1)) (M.eraseIdx k) := by
  refine ⟨by rw [List.length_eraseIdx, if_pos hkM]; have := hk.1; omega, fun i q hq => ?_⟩
  rw [List.getElem?_eraseIdx] at hq
  by_cases hi : i < k
  · rw [if_pos hi] at hq
    have h1 : ¬ (k ≤ i ∧ i < M.length - 1) := by omega
    simpa [s_shift, h1] using hk.2 i q hq
  · rw [if_neg hi] at hq
    have hl := (List.getElem?_eq_some_iff.mp hq).1
    have h1 : k ≤ i ∧ i < M.length - 1 := by omega
    simpa [s_shift, h1] using hk.2 (i + 1) q hq
theorem any_take_f {M : List Msg} {k : Nat} {q : Msg} (h : ∀ j, j < k → ∀ z, M[j]? = some z → same q z = false) : (M.take k).any (same q) = false := by
  rw [List.any_eq_false]
  intro z hz
  obtain ⟨j, hj⟩ := List.getElem?_of_mem hz
  have hl : j < (M.take k).length := (List.getElem?_eq_some_iff.mp hj).1
  rw [List.length_take] at hl
  rw [List.getElem?_take, if_pos (by omega)] at hj
  rw [h j (by omega) z hj]
  decide
theorem any_take_t {M : List Msg} {k i : Nat} {q z : Msg} (h : M[i]? = some z) (hi : i < k) (hs : same q z = true) : (M.take k).any (same q) = true := by
  rw [List.any_eq_true]
  exact ⟨z, List.mem_of_getElem? (i := i) (by rw [List.getElem?_take, if_pos hi]; exact h), hs⟩
set_option maxHeartbeats 4000000 in
set_option maxRecDepth 100000 in
theorem c_Tw_replace (l : Launch) (D : va_G) (dA : Nat → ClassId) (ad : Nat → Nat) (A : Nat → Prop) (g : PS) (M : List Msg) (c v : Nat) (hc : c < 4) (hv : s_vic g c 4 = v + 1) (hv4 : v < 4) (hM : M.length < 64) : Met l y_Tw_replace (k_Tw_replace :: wz) (rml 1 0 0) (va_Pc [.ref (ad 0), .int (nI c)] (PT D dA ad A g M)) (TQi D dA ad A (3) (s_replG g c v) (M ++ [s_replQ g c v])) 0 0 A := by
  refine tw_entry (by decide) (Nat.le_of_ble_eq_true rfl) ?_
  intro p e s m below meth c0 E hK hT ls hl
  have hT0 := hT
  obtain ⟨K, hT, hk⟩ := hT
  have hx := E.1
  have hb := E.2.1
  have hS : va_S A s.heap s.heap [] := va_S.rf
  replace hl : lv_has ls 5 [(0, .ref (ad 0)), (1, .int (nI c))] := hl
  refine lv_iconst (v := (-1)) hx hb d_Tw_replace_0 (by decide) ?_
  refine lv_istore_n (lv' := [(2, .int (-1)), (0, .ref (ad 0)), (1, .int (nI c))]) hx hb d_Tw_replace_1 rfl hl (by decide) rfl (fun ls hl => ?_)
  refine lv_iconst (v := 0) hx hb d_Tw_replace_2 (by decide) ?_
  refine lv_istore_n (lv' := [(3, .int 0), (2, .int (-1)), (0, .ref (ad 0)), (1, .int (nI c))]) hx hb d_Tw_replace_3 rfl hl (by decide) rfl (fun ls hl => ?_)
  have loop : ∀ (r b : Nat), b + r = 4 → ∀ ls, lv_has ls 5 [(3, .int (nI b)), (2, .int (rq (s_vic g c b))), (0, .ref (ad 0)), (1, .int (nI c))] → W p l e (rml 1 0 0) s m ([.ref (ad 0), .int (nI c)] : List Value).toArray below meth c0 s.heap [] 0 0 (MQ below (TQi D dA ad A (3) (s_replG g c v) (M ++ [s_replQ g c v])) ([.ref (ad 0), .int (nI c)] : List Value).toArray s 0 0 A) (F0 m 4 ls []) := by
    intro r
    induction r with
    | zero =>
      intro b hbr ls hl
      obtain rfl : b = 4 := by omega
      rw [hv, rq_s] at hl
      refine lv_iload_n hx hb d_Tw_replace_4 rfl (lv_at hl 0 rfl) ?_
      refine lv_iconst (v := 4) hx hb d_Tw_replace_5 (by decide) ?_
      refine lv_icmp_ge (tgt := 58) hx hb d_Tw_replace_6 (by decide) (fun h1 => ?_) (fun h1 => absurd (by decide) h1)
      refine lv_iconst (v := 4) hx hb d_Tw_replace_58 (by decide) ?_
      refine lv_iload_n hx hb d_Tw_replace_59 rfl (lv_at hl 3 rfl) ?_
      refine wn_mul hx hb (a := 4) (b := c) d_Tw_replace_60 ?_
      refine lv_iload_n hx hb d_Tw_replace_61 rfl (lv_at hl 1 rfl) ?_
      refine wn_add hx hb (a := 4 * c) (b := v) d_Tw_replace_62 ?_
      refine lv_istore_n (lv' := [(3, .int (nI (4 * c + v))), (2, .int (nI v)), (0, .ref (ad 0)), (1, .int (nI c))]) hx hb d_Tw_replace_63 rfl hl (by decide) rfl (fun ls hl => ?_)
      refine lv_aload_n hx hb d_Tw_replace_64 rfl (lv_at hl 2 rfl) ?_
      refine tg_8 E hK hT d_Tw_replace_65 ?_
      refine lv_iload_n hx hb d_Tw_replace_68 rfl (lv_at hl 0 rfl) ?_
      refine tl_8 E hK hT (j := 4 * c + v) (by omega) d_Tw_replace_69 ?_
      refine lv_iconst (v := 1) hx hb d_Tw_replace_70 (by decide) ?_
      refine lv_icmp_ne (tgt := 78) hx hb d_Tw_replace_71 (by decide) (fun h2 => ?_) (fun h2 => ?_)
      · refine lv_iconst (v := 0) hx hb d_Tw_replace_78 (by decide) ?_
        refine lv_istore (lv' := [(4, .int 0), (3, .int (nI (4 * c + v))), (2, .int (nI v)), (0, .ref (ad 0)), (1, .int (nI c))]) hx hb d_Tw_replace_79 hl (by decide) rfl (fun ls hl => ?_)
        refine lv_aload_n hx hb d_Tw_replace_81 rfl (lv_at hl 3 rfl) ?_
        refine lv_iload hx hb d_Tw_replace_82 (lv_at hl 0 rfl) ?_
        refine lv_if_eq (tgt := 91) hx hb d_Tw_replace_84 (by decide) (fun h3 => ?_) (fun h3 => absurd (by decide) h3)
        refine lv_iconst (v := 3) hx hb d_Tw_replace_91 (by decide) ?_
        refine lv_iload_n hx hb d_Tw_replace_92 rfl (lv_at hl 4 rfl) ?_
        refine lv_iconst (v := 4) hx hb d_Tw_replace_93 (by decide) ?_
        refine lv_iload_n hx hb d_Tw_replace_94 rfl (lv_at hl 2 rfl) ?_
        refine lv_iload hx hb d_Tw_replace_95 (lv_at hl 0 rfl) ?_
        refine lv_if_eq (tgt := 104) hx hb d_Tw_replace_97 (by decide) (fun h4 => ?_) (fun h4 => absurd (by decide) h4)
        refine lv_aload_n hx hb d_Tw_replace_104 rfl (lv_at hl 3 rfl) ?_
        refine tg_9 E hK hT d_Tw_replace_105 ?_
        refine lv_iload_n hx hb d_Tw_replace_108 rfl (lv_at hl 1 rfl) ?_
        refine tl_9 E hK hT (j := 4 * c + v) (by omega) d_Tw_replace_109 ?_
        refine lv_iconst (v := 0) hx hb d_Tw_replace_110 (by decide) ?_
        refine lv_iconst (v := (-1)) hx hb d_Tw_replace_111 (by decide) ?_
        refine t_callv (As := [.int 3, .int (nI c), .int 4, .int (nI v), .int (g 9 (4 * c + v)), .int 0, .int (-1)]) (rest := []) E hK ⟨K, hT, hk⟩ hS (c_Tw_send l D dA ad A g M 3 (nI c) 4 (nI v) (g 9 (4 * c + v)) 0 (-1) (3, c, 4, v, g 9 (4 * c + v), 0, 0) ⟨rfl, rfl, rfl, rfl, rfl, rfl, rq_0.symm⟩ (by first | omega | (simp; omega))) ck_Tw_97 ⟨rfl, rfl⟩ ⟨Nat.le_of_ble_eq_true rfl, Nat.le_of_ble_eq_true rfl⟩ rfl (lv_sub hl [] rfl) rfl (Nat.le_of_ble_eq_true rfl) ⟨Nat.zero_le _, Nat.zero_le _⟩ d_Tw_replace_112 (fun H locs hT hS => ?_)
        obtain ⟨K, hT, hk⟩ := hT
        refine lv_aload_n hx hb d_Tw_replace_115 rfl (lv_at hl 3 rfl) ?_
        refine tg_8 E hK hT d_Tw_replace_116 ?_
        refine lv_iload_n hx hb d_Tw_replace_119 rfl (lv_at hl 1 rfl) ?_
        refine lv_iload hx hb d_Tw_replace_120 (lv_at hl 0 rfl) ?_
        refine lv_if_eq (tgt := 130) hx hb d_Tw_replace_122 (by decide) (fun h5 => ?_) (fun h5 => absurd (by decide) h5)
        refine lv_bipush (v := 8) hx hb d_Tw_replace_130 (by decide) ?_
        refine ts_8 E hK hT hS (j := 4 * c + v) (by omega) d_Tw_replace_132 (fun H locs hT hS => ?_)
        refine lv_aload_n hx hb d_Tw_replace_133 rfl (lv_at hl 3 rfl) ?_
        refine tg_7 E hK hT d_Tw_replace_134 ?_
        refine lv_iload_n hx hb d_Tw_replace_137 rfl (lv_at hl 4 rfl) ?_
        refine lv_iconst (v := 2) hx hb d_Tw_replace_138 (by decide) ?_
        refine ts_7 E hK hT hS (j := c) (by omega) d_Tw_replace_139 (fun H locs hT hS => ?_)
        refine lv_iconst (v := 3) hx hb d_Tw_replace_140 (by decide) ?_
        have eG : s_replG g c v = up2 (up2 (snd g) 8 (4 * c + v) 8) 7 c 2 := by simp [s_replG, h1, h2, h3, h4, h5]
        have eM : M ++ [s_replQ g c v] = M ++ [(3, c, 4, v, g 9 (4 * c + v), 0, 0)] := by simp [s_replQ, h1, h2, h3, h4, h5]
        rw [eG, eM]
        exact t_iret E ⟨K, hT, hk⟩ hS rfl rfl d_Tw_replace_141
      · refine lv_iconst (v := 1) hx hb d_Tw_replace_74 (by decide) ?_
        refine lv_goto (tgt := 79) hx hb d_Tw_replace_75 (by decide) ?_
        refine lv_istore (lv' := [(4, .int 1), (3, .int (nI (4 * c + v))), (2, .int (nI v)), (0, .ref (ad 0)), (1, .int (nI c))]) hx hb d_Tw_replace_79 hl (by decide) rfl (fun ls hl => ?_)
        refine lv_aload_n hx hb d_Tw_replace_81 rfl (lv_at hl 3 rfl) ?_
        refine lv_iload hx hb d_Tw_replace_82 (lv_at hl 0 rfl) ?_
        refine lv_if_eq (tgt := 91) hx hb d_Tw_replace_84 (by decide) (fun h6 => absurd h6 (by decide)) (fun h6 => ?_)
        refine lv_iconst (v := 2) hx hb d_Tw_replace_87 (by decide) ?_
        refine lv_goto (tgt := 92) hx hb d_Tw_replace_88 (by decide) ?_
        refine lv_iload_n hx hb d_Tw_replace_92 rfl (lv_at hl 4 rfl) ?_
        refine lv_iconst (v := 4) hx hb d_Tw_replace_93 (by decide) ?_
        refine lv_iload_n hx hb d_Tw_replace_94 rfl (lv_at hl 2 rfl) ?_
        refine lv_iload hx hb d_Tw_replace_95 (lv_at hl 0 rfl) ?_
        refine lv_if_eq (tgt := 104) hx hb d_Tw_replace_97 (by decide) (fun h7 => absurd h7 (by decide)) (fun h7 => ?_)
        refine lv_iconst (v := 0) hx hb d_Tw_replace_100 (by decide) ?_
        refine lv_goto (tgt := 110) hx hb d_Tw_replace_101 (by decide) ?_
        refine lv_iconst (v := 0) hx hb d_Tw_replace_110 (by decide) ?_
        refine lv_iconst (v := (-1)) hx hb d_Tw_replace_111 (by decide) ?_
        refine t_callv (As := [.int 2, .int (nI c), .int 4, .int (nI v), .int 0, .int 0, .int (-1)]) (rest := []) E hK ⟨K, hT, hk⟩ hS (c_Tw_send l D dA ad A g M 2 (nI c) 4 (nI v) 0 0 (-1) (2, c, 4, v, 0, 0, 0) ⟨rfl, rfl, rfl, rfl, rfl, rfl, rq_0.symm⟩ (by first | omega | (simp; omega))) ck_Tw_97 ⟨rfl, rfl⟩ ⟨Nat.le_of_ble_eq_true rfl, Nat.le_of_ble_eq_true rfl⟩ rfl (lv_sub hl [] rfl) rfl (Nat.le_of_ble_eq_true rfl) ⟨Nat.zero_le _, Nat.zero_le _⟩ d_Tw_replace_112 (fun H locs hT hS => ?_)
        obtain ⟨K, hT, hk⟩ := hT
        refine lv_aload_n hx hb d_Tw_replace_115 rfl (lv_at hl 3 rfl) ?_
        refine tg_8 E hK hT d_Tw_replace_116 ?_
        refine lv_iload_n hx hb d_Tw_replace_119 rfl (lv_at hl 1 rfl) ?_
        refine lv_iload hx hb d_Tw_replace_120 (lv_at hl 0 rfl) ?_
        refine lv_if_eq (tgt := 130) hx hb d_Tw_replace_122 (by decide) (fun h8 => absurd h8 (by decide)) (fun h8 => ?_)
        refine lv_bipush (v := 9) hx hb d_Tw_replace_125 (by decide) ?_
        refine lv_goto (tgt := 132) hx hb d_Tw_replace_127 (by decide) ?_
        refine ts_8 E hK hT hS (j := 4 * c + v) (by omega) d_Tw_replace_132 (fun H locs hT hS => ?_)
        refine lv_aload_n hx hb d_Tw_replace_133 rfl (lv_at hl 3 rfl) ?_
        refine tg_7 E hK hT d_Tw_replace_134 ?_
        refine lv_iload_n hx hb d_Tw_replace_137 rfl (lv_at hl 4 rfl) ?_
        refine lv_iconst (v := 2) hx hb d_Tw_replace_138 (by decide) ?_
        refine ts_7 E hK hT hS (j := c) (by omega) d_Tw_replace_139 (fun H locs hT hS => ?_)
        refine lv_iconst (v := 3) hx hb d_Tw_replace_140 (by decide) ?_
        have eG : s_replG g c v = up2 (up2 (snd g) 8 (4 * c + v) 9) 7 c 2 := by simp [s_replG, h1, h2, h6, h7, h8]
        have eM : M ++ [s_replQ g c v] = M ++ [(2, c, 4, v, 0, 0, 0)] := by simp [s_replQ, h1, h2, h6, h7, h8]
        rw [eG, eM]
        exact t_iret E ⟨K, hT, hk⟩ hS rfl rfl d_Tw_replace_141
    | succ r ih =>
      intro b hbr ls hl
      have hvb := s_vic_le g c b
      refine lv_iload_n hx hb d_Tw_replace_4 rfl (lv_at hl 0 rfl) ?_
      refine lv_iconst (v := 4) hx hb d_Tw_replace_5 (by decide) ?_
      refine lv_icmp_ge (tgt := 58) hx hb d_Tw_replace_6 (by decide) (fun h9 => absurd h9 (nI_ge (a := b) (b := 4) (by omega) (by omega))) (fun h9 => ?_)
      refine lv_iconst (v := 4) hx hb d_Tw_replace_9 (by decide) ?_
      refine lv_iload_n hx hb d_Tw_replace_10 rfl (lv_at hl 3 rfl) ?_
      refine wn_mul hx hb (a := 4) (b := c) d_Tw_replace_11 ?_
      refine lv_iload_n hx hb d_Tw_replace_12 rfl (lv_at hl 0 rfl) ?_
      refine wn_add hx hb (a := 4 * c) (b := b) d_Tw_replace_13 ?_
      refine lv_istore (lv' := [(4, .int (nI (4 * c + b))), (3, .int (nI b)), (2, .int (rq (s_vic g c b))), (0, .ref (ad 0)), (1, .int (nI c))]) hx hb d_Tw_replace_14 hl (by decide) rfl (fun ls hl => ?_)
      refine lv_aload_n hx hb d_Tw_replace_16 rfl (lv_at hl 3 rfl) ?_
      refine tg_8 E hK hT d_Tw_replace_17 ?_
      refine lv_iload hx hb d_Tw_replace_20 (lv_at hl 0 rfl) ?_
      refine tl_8 E hK hT (j := 4 * c + b) (by omega) d_Tw_replace_22 ?_
      refine lv_if_eq (tgt := 52) hx hb d_Tw_replace_23 (by decide) (fun h10 => ?_) (fun h10 => ?_)
      · refine lv_iinc (v := nI (b + 1)) (lv' := [(3, .int (nI (b + 1))), (4, .int (nI (4 * c + b))), (2, .int (rq (s_vic g c b))), (0, .ref (ad 0)), (1, .int (nI c))]) hx hb d_Tw_replace_52 hl (k := 1) rfl (nI_1 _) (by decide) rfl (fun ls hl => ?_)
        refine lv_goto (tgt := 4) hx hb d_Tw_replace_55 (by decide) ?_
        have e9 : s_vic g c (b + 1) = s_vic g c b := by simp [s_vic, h9, h10]
        exact ih (b + 1) (by omega) ls (by rw [e9]; exact lv_sub hl [0, 2, 3, 4] rfl)
      · refine lv_iload_n hx hb d_Tw_replace_26 rfl (lv_at hl 2 rfl) ?_
        refine lv_if_lt (tgt := 50) hx hb d_Tw_replace_27 (by decide) (fun h11 => ?_) (fun h11 => ?_)
        · replace h11 := (rq_neg (by omega)).mp h11
          refine lv_iload_n hx hb d_Tw_replace_50 rfl (lv_at hl 1 rfl) ?_
          refine lv_istore_n (lv' := [(2, .int (nI b)), (4, .int (nI (4 * c + b))), (3, .int (nI b)), (0, .ref (ad 0)), (1, .int (nI c))]) hx hb d_Tw_replace_51 rfl hl (by decide) rfl (fun ls hl => ?_)
          refine lv_iinc (v := nI (b + 1)) (lv' := [(3, .int (nI (b + 1))), (2, .int (nI b)), (4, .int (nI (4 * c + b))), (0, .ref (ad 0)), (1, .int (nI c))]) hx hb d_Tw_replace_52 hl (k := 2) rfl (nI_1 _) (by decide) rfl (fun ls hl => ?_)
          refine lv_goto (tgt := 4) hx hb d_Tw_replace_55 (by decide) ?_
          have e9 : s_vic g c (b + 1) = b + 1 := by simp [s_vic, h9, h10, h11]
          exact ih (b + 1) (by omega) ls (by rw [e9, rq_s]; exact lv_sub hl [0, 1, 3, 4] rfl)
        · replace h11 := (not_congr (rq_neg (by omega))).mp h11
          obtain ⟨w, hw⟩ : ∃ w, s_vic g c b = w + 1 := ⟨s_vic g c b - 1, by omega⟩
          refine lv_aload_n hx hb d_Tw_replace_30 rfl (lv_at hl 3 rfl) ?_
          refine tg_11 E hK hT d_Tw_replace_31 ?_
          refine lv_iload hx hb d_Tw_replace_34 (lv_at hl 0 rfl) ?_
          refine tl_11 E hK hT (j := 4 * c + b) (by omega) d_Tw_replace_36 ?_
          refine lv_aload_n hx hb d_Tw_replace_37 rfl (lv_at hl 3 rfl) ?_
          refine tg_11 E hK hT d_Tw_replace_38 ?_
          refine lv_iconst (v := 4) hx hb d_Tw_replace_41 (by decide) ?_
          refine lv_iload_n hx hb d_Tw_replace_42 rfl (lv_at hl 4 rfl) ?_
          refine wn_mul hx hb (a := 4) (b := c) d_Tw_replace_43 ?_
          refine lv_iload_n hx hb d_Tw_replace_44 rfl (lv_at hl 2 rfl) ?_
          refine wn_eq (y := nI w) (by rw [hw, rq_s]) ?_
          refine wn_add hx hb (a := 4 * c) (b := w) d_Tw_replace_45 ?_
          refine tl_11 E hK hT (j := 4 * c + w) (by omega) d_Tw_replace_46 ?_
          refine lv_icmp_ge (tgt := 52) hx hb d_Tw_replace_47 (by decide) (fun h12 => ?_) (fun h12 => ?_)
          · refine lv_iinc (v := nI (b + 1)) (lv' := [(3, .int (nI (b + 1))), (4, .int (nI (4 * c + b))), (2, .int (rq (s_vic g c b))), (0, .ref (ad 0)), (1, .int (nI c))]) hx hb d_Tw_replace_52 hl (k := 1) rfl (nI_1 _) (by decide) rfl (fun ls hl => ?_)
            refine lv_goto (tgt := 4) hx hb d_Tw_replace_55 (by decide) ?_
            have e9 : s_vic g c (b + 1) = s_vic g c b := by simp [s_vic, h9, h10, h11, h12, hw]
            exact ih (b + 1) (by omega) ls (by rw [e9]; exact lv_sub hl [0, 2, 3, 4] rfl)
          · refine lv_iload_n hx hb d_Tw_replace_50 rfl (lv_at hl 1 rfl) ?_
            refine lv_istore_n (lv' := [(2, .int (nI b)), (4, .int (nI (4 * c + b))), (3, .int (nI b)), (0, .ref (ad 0)), (1, .int (nI c))]) hx hb d_Tw_replace_51 rfl hl (by decide) rfl (fun ls hl => ?_)
            refine lv_iinc (v := nI (b + 1)) (lv' := [(3, .int (nI (b + 1))), (2, .int (nI b)), (4, .int (nI (4 * c + b))), (0, .ref (ad 0)), (1, .int (nI c))]) hx hb d_Tw_replace_52 hl (k := 2) rfl (nI_1 _) (by decide) rfl (fun ls hl => ?_)
            refine lv_goto (tgt := 4) hx hb d_Tw_replace_55 (by decide) ?_
            have e9 : s_vic g c (b + 1) = b + 1 := by simp [s_vic, h9, h10, h11, h12, hw]
            exact ih (b + 1) (by omega) ls (by rw [e9, rq_s]; exact lv_sub hl [0, 1, 3, 4] rfl)
  exact loop 4 0 rfl ls (by rw [show rq (s_vic g c 0) = -1 from rq_0]; exact lv_sub hl [0, 1, 2, 3] rfl)
set_option maxHeartbeats 4000000 in
set_option maxRecDepth 100000 in
theorem c_Tw_remove (l : Launch) (D : va_G) (dA : Nat → ClassId) (ad : Nat → Nat) (A : Nat → Prop) (g : PS) (M : List Msg) (k : Nat) (hkM : k < M.length) : Met l y_Tw_remove (k_Tw_remove :: wz) (rml 0 0 0) (va_Pc [.ref (ad 0), .int (nI k)] (PT D dA ad A g M)) (TQv D dA ad A (g) (M.eraseIdx k)) 0 0 A := by
  refine tw_entry (by decide) (Nat.le_of_ble_eq_true rfl) ?_
  intro p e s m below meth c0 E hK hT ls hl
  have hT0 := hT
  obtain ⟨K, hT, hk⟩ := hT
  have hx := E.1
  have hb := E.2.1
  have hS : va_S A s.heap s.heap [] := va_S.rf
  obtain ⟨K0, hK0⟩ : ∃ z, z = K := ⟨_, rfl⟩
  rw [← hK0] at hT hk
  have hML := hk.1
  replace hl : lv_has ls 3 [(0, .ref (ad 0)), (1, .int (nI k))] := hl
  refine lv_aload_n hx hb d_Tw_remove_0 rfl (lv_at hl 0 rfl) ?_
  refine lv_dup hx hb d_Tw_remove_1 rfl ?_
  refine tg_17 E hK hT d_Tw_remove_2 ?_
  refine lv_iconst (v := 1) hx hb d_Tw_remove_5 (by decide) ?_
  refine lv_isub hx hb d_Tw_remove_6 ?_
  refine wn_eq (y := nI (M.length - 1)) (pk_sub (a := M.length) (b := 1) (by omega)) ?_
  refine tp_17 E hK hT hS (q := M.length - 1) d_Tw_remove_7 (fun H locs hT hS => ?_)
  refine lv_iload_n hx hb d_Tw_remove_10 rfl (lv_at hl 1 rfl) ?_
  refine lv_istore_n (lv' := [(2, .int (nI k)), (0, .ref (ad 0)), (1, .int (nI k))]) hx hb d_Tw_remove_11 rfl hl (by decide) rfl (fun ls hl => ?_)
  have loop : ∀ (r i : Nat), k ≤ i → i + r = M.length - 1 → ∀ H locs, RK D dA ad A g (s_shift K0 k i) (M.length - 1) H → va_S A s.heap H locs → ∀ ls, lv_has ls 3 [(2, .int (nI i)), (0, .ref (ad 0)), (1, .int (nI k))] → W p l e (rml 0 0 0) s m ([.ref (ad 0), .int (nI k)] : List Value).toArray below meth c0 H locs 0 0 (MQ below (TQv D dA ad A (g) (M.eraseIdx k)) ([.ref (ad 0), .int (nI k)] : List Value).toArray s 0 0 A) (F0 m 12 ls []) := by
    intro r
    induction r with
    | zero =>
      intro i hki hir H locs hT hS ls hl
      refine lv_iload_n hx hb d_Tw_remove_12 rfl (lv_at hl 0 rfl) ?_
      refine lv_aload_n hx hb d_Tw_remove_13 rfl (lv_at hl 1 rfl) ?_
      refine tg_17 E hK hT d_Tw_remove_14 ?_
      refine lv_icmp_ge (tgt := 124) hx hb d_Tw_remove_17 (by decide) (fun h1 => ?_) (fun h1 => absurd (nI_le (a := M.length - 1) (b := i) (by omega) (by omega)) h1)
      obtain rfl : i = M.length - 1 := by omega
      have eL : (M.eraseIdx k).length = M.length - 1 := by rw [List.length_eraseIdx, if_pos hkM]
      exact t_vret E ⟨_, by rw [eL]; exact hT, mk_erase hk hkM⟩ hS d_Tw_remove_124
    | succ r ih =>
      intro i hki hir H locs hT hS ls hl
      refine lv_iload_n hx hb d_Tw_remove_12 rfl (lv_at hl 0 rfl) ?_
      refine lv_aload_n hx hb d_Tw_remove_13 rfl (lv_at hl 1 rfl) ?_
      refine tg_17 E hK hT d_Tw_remove_14 ?_
      refine lv_icmp_ge (tgt := 124) hx hb d_Tw_remove_17 (by decide) (fun h2 => absurd h2 (nI_ge (a := i) (b := M.length - 1) (by omega) (by omega))) (fun h2 => ?_)
      refine lv_aload_n hx hb d_Tw_remove_20 rfl (lv_at hl 1 rfl) ?_
      refine tg_20 E hK hT d_Tw_remove_21 ?_
      refine lv_iload_n hx hb d_Tw_remove_24 rfl (lv_at hl 0 rfl) ?_
      refine lv_aload_n hx hb d_Tw_remove_25 rfl (lv_at hl 1 rfl) ?_
      refine tg_20 E hK hT d_Tw_remove_26 ?_
      refine lv_iload_n hx hb d_Tw_remove_29 rfl (lv_at hl 0 rfl) ?_
      refine lv_iconst (v := 1) hx hb d_Tw_remove_30 (by decide) ?_
      refine wn_add hx hb (a := i) (b := 1) d_Tw_remove_31 ?_
      refine tl_20 E hK hT (j := i + 1) (by omega) d_Tw_remove_32 ?_
      refine ts_20 E hK hT hS (j := i) (by omega) d_Tw_remove_33 (fun H locs hT hS => ?_)
      refine lv_aload_n hx hb d_Tw_remove_34 rfl (lv_at hl 1 rfl) ?_
      refine tg_21 E hK hT d_Tw_remove_35 ?_
      refine lv_iload_n hx hb d_Tw_remove_38 rfl (lv_at hl 0 rfl) ?_
      refine lv_aload_n hx hb d_Tw_remove_39 rfl (lv_at hl 1 rfl) ?_
      refine tg_21 E hK hT d_Tw_remove_40 ?_
      refine lv_iload_n hx hb d_Tw_remove_43 rfl (lv_at hl 0 rfl) ?_
      refine lv_iconst (v := 1) hx hb d_Tw_remove_44 (by decide) ?_
      refine wn_add hx hb (a := i) (b := 1) d_Tw_remove_45 ?_
      refine tl_21 E hK hT (j := i + 1) (by omega) d_Tw_remove_46 ?_
      refine wn_eq (y := (s_shift K0 k i) 1 (i + 1)) (by simp [up2, upd, s_shift]) ?_
      refine ts_21 E hK hT hS (j := i) (by omega) d_Tw_remove_47 (fun H locs hT hS => ?_)
      refine lv_aload_n hx hb d_Tw_remove_48 rfl (lv_at hl 1 rfl) ?_
      refine tg_22 E hK hT d_Tw_remove_49 ?_
      refine lv_iload_n hx hb d_Tw_remove_52 rfl (lv_at hl 0 rfl) ?_
      refine lv_aload_n hx hb d_Tw_remove_53 rfl (lv_at hl 1 rfl) ?_
      refine tg_22 E hK hT d_Tw_remove_54 ?_
      refine lv_iload_n hx hb d_Tw_remove_57 rfl (lv_at hl 0 rfl) ?_
      refine lv_iconst (v := 1) hx hb d_Tw_remove_58 (by decide) ?_
      refine wn_add hx hb (a := i) (b := 1) d_Tw_remove_59 ?_
      refine tl_22 E hK hT (j := i + 1) (by omega) d_Tw_remove_60 ?_
      refine wn_eq (y := (s_shift K0 k i) 2 (i + 1)) (by simp [up2, upd, s_shift]) ?_
      refine ts_22 E hK hT hS (j := i) (by omega) d_Tw_remove_61 (fun H locs hT hS => ?_)
      refine lv_aload_n hx hb d_Tw_remove_62 rfl (lv_at hl 1 rfl) ?_
      refine tg_23 E hK hT d_Tw_remove_63 ?_
      refine lv_iload_n hx hb d_Tw_remove_66 rfl (lv_at hl 0 rfl) ?_
      refine lv_aload_n hx hb d_Tw_remove_67 rfl (lv_at hl 1 rfl) ?_
      refine tg_23 E hK hT d_Tw_remove_68 ?_
      refine lv_iload_n hx hb d_Tw_remove_71 rfl (lv_at hl 0 rfl) ?_
      refine lv_iconst (v := 1) hx hb d_Tw_remove_72 (by decide) ?_
      refine wn_add hx hb (a := i) (b := 1) d_Tw_remove_73 ?_
      refine tl_23 E hK hT (j := i + 1) (by omega) d_Tw_remove_74 ?_
      refine wn_eq (y := (s_shift K0 k i) 3 (i + 1)) (by simp [up2, upd, s_shift]) ?_
      refine ts_23 E hK hT hS (j := i) (by omega) d_Tw_remove_75 (fun H locs hT hS => ?_)
      refine lv_aload_n hx hb d_Tw_remove_76 rfl (lv_at hl 1 rfl) ?_
      refine tg_24 E hK hT d_Tw_remove_77 ?_
      refine lv_iload_n hx hb d_Tw_remove_80 rfl (lv_at hl 0 rfl) ?_
      refine lv_aload_n hx hb d_Tw_remove_81 rfl (lv_at hl 1 rfl) ?_
      refine tg_24 E hK hT d_Tw_remove_82 ?_
      refine lv_iload_n hx hb d_Tw_remove_85 rfl (lv_at hl 0 rfl) ?_
      refine lv_iconst (v := 1) hx hb d_Tw_remove_86 (by decide) ?_
      refine wn_add hx hb (a := i) (b := 1) d_Tw_remove_87 ?_
      refine tl_24 E hK hT (j := i + 1) (by omega) d_Tw_remove_88 ?_
      refine wn_eq (y := (s_shift K0 k i) 4 (i + 1)) (by simp [up2, upd, s_shift]) ?_
      refine ts_24 E hK hT hS (j := i) (by omega) d_Tw_remove_89 (fun H locs hT hS => ?_)
      refine lv_aload_n hx hb d_Tw_remove_90 rfl (lv_at hl 1 rfl) ?_
      refine tg_25 E hK hT d_Tw_remove_91 ?_
      refine lv_iload_n hx hb d_Tw_remove_94 rfl (lv_at hl 0 rfl) ?_
      refine lv_aload_n hx hb d_Tw_remove_95 rfl (lv_at hl 1 rfl) ?_
      refine tg_25 E hK hT d_Tw_remove_96 ?_
      refine lv_iload_n hx hb d_Tw_remove_99 rfl (lv_at hl 0 rfl) ?_
      refine lv_iconst (v := 1) hx hb d_Tw_remove_100 (by decide) ?_
      refine wn_add hx hb (a := i) (b := 1) d_Tw_remove_101 ?_
      refine tl_25 E hK hT (j := i + 1) (by omega) d_Tw_remove_102 ?_
      refine wn_eq (y := (s_shift K0 k i) 5 (i + 1)) (by simp [up2, upd, s_shift]) ?_
      refine ts_25 E hK hT hS (j := i) (by omega) d_Tw_remove_103 (fun H locs hT hS => ?_)
      refine lv_aload_n hx hb d_Tw_remove_104 rfl (lv_at hl 1 rfl) ?_
      refine tg_26 E hK hT d_Tw_remove_105 ?_
      refine lv_iload_n hx hb d_Tw_remove_108 rfl (lv_at hl 0 rfl) ?_
      refine lv_aload_n hx hb d_Tw_remove_109 rfl (lv_at hl 1 rfl) ?_
      refine tg_26 E hK hT d_Tw_remove_110 ?_
      refine lv_iload_n hx hb d_Tw_remove_113 rfl (lv_at hl 0 rfl) ?_
      refine lv_iconst (v := 1) hx hb d_Tw_remove_114 (by decide) ?_
      refine wn_add hx hb (a := i) (b := 1) d_Tw_remove_115 ?_
      refine tl_26 E hK hT (j := i + 1) (by omega) d_Tw_remove_116 ?_
      refine wn_eq (y := (s_shift K0 k i) 6 (i + 1)) (by simp [up2, upd, s_shift]) ?_
      refine ts_26 E hK hT hS (j := i) (by omega) d_Tw_remove_117 (fun H locs hT hS => ?_)
      refine lv_iinc (v := nI (i + 1)) (lv' := [(2, .int (nI (i + 1))), (0, .ref (ad 0)), (1, .int (nI k))]) hx hb d_Tw_remove_118 hl (k := 0) rfl (nI_1 _) (by decide) rfl (fun ls hl => ?_)
      refine lv_goto (tgt := 12) hx hb d_Tw_remove_121 (by decide) ?_
      have e9 : s_shift K0 k (i + 1) = up2 (up2 (up2 (up2 (up2 (up2 (up2 (s_shift K0 k i) 0 i ((s_shift K0 k i) 0 (i + 1))) 1 i ((s_shift K0 k i) 1 (i + 1))) 2 i ((s_shift K0 k i) 2 (i + 1))) 3 i ((s_shift K0 k i) 3 (i + 1))) 4 i ((s_shift K0 k i) 4 (i + 1))) 5 i ((s_shift K0 k i) 5 (i + 1))) 6 i ((s_shift K0 k i) 6 (i + 1)) := s_shift_up hki
      rw [← e9] at hT
      exact ih (i + 1) (by omega) (by omega) H locs hT hS ls (lv_sub hl [0, 1, 2] rfl)
  exact loop (M.length - 1 - k) k (Nat.le_refl k) (by omega) H locs (by rw [s_shift_0]; exact hT) hS ls (lv_sub hl [0, 1, 2] rfl)
set_option maxHeartbeats 4000000 in
set_option maxRecDepth 100000 in
theorem c_Tw_behind (l : Launch) (D : va_G) (dA : Nat → ClassId) (ad : Nat → Nat) (A : Nat → Prop) (g : PS) (M : List Msg) (k kd fr t b : Nat) (v : Int32) (nb aq : Nat) (hq : M[k]? = some (kd, fr, t, b, v, nb, aq)) (hkd : kd < 10) (ht : t < 5) (hb4 : b < 4) (hW : ∀ (i : Nat) (z : Msg), M[i]? = some z → z.1 < 10 ∧ z.2.2.1 < 5 ∧ z.2.2.2.1 < 4) : Met l y_Tw_behind (k_Tw_behind :: wz) (rml 0 0 0) (va_Pc [.ref (ad 0), .int (nI k)] (PT D dA ad A g M)) (QcRead (s_behind M k (kd, fr, t, b, v, nb, aq))) 0 0 (fun _ => False) := by
  refine tw_entry (by decide) (Nat.le_of_ble_eq_true rfl) ?_
  intro p e s m below meth c0 E hK hT ls hl
  have hT0 := hT
  obtain ⟨K, hT, hk⟩ := hT
  have hx := E.1
  have hb := E.2.1
  have fq := hk.2 k _ hq
  have hkl : k < 64 := Nat.lt_of_lt_of_le (List.getElem?_eq_some_iff.mp hq).1 hk.1
  replace hl : lv_has ls 3 [(0, .ref (ad 0)), (1, .int (nI k))] := hl
  refine lv_iconst (v := 0) hx hb d_Tw_behind_0 (by decide) ?_
  refine lv_istore_n (lv' := [(2, .int 0), (0, .ref (ad 0)), (1, .int (nI k))]) hx hb d_Tw_behind_1 rfl hl (by decide) rfl (fun ls hl => ?_)
  have loop : ∀ (r i : Nat), i + r = k → (∀ j, j < i → ∀ z, M[j]? = some z → same (kd, fr, t, b, v, nb, aq) z = false) → ∀ ls, lv_has ls 3 [(2, .int (nI i)), (0, .ref (ad 0)), (1, .int (nI k))] → W p l e (rml 0 0 0) s m ([.ref (ad 0), .int (nI k)] : List Value).toArray below meth c0 s.heap [] 0 0 (MQ below (QcRead (s_behind M k (kd, fr, t, b, v, nb, aq))) ([.ref (ad 0), .int (nI k)] : List Value).toArray s 0 0 (fun _ => False)) (F0 m 2 ls []) := by
    intro r
    induction r with
    | zero =>
      intro i hir hno ls hl
      obtain rfl : i = k := by omega
      refine lv_iload_n hx hb d_Tw_behind_2 rfl (lv_at hl 0 rfl) ?_
      refine lv_iload_n hx hb d_Tw_behind_3 rfl (lv_at hl 2 rfl) ?_
      refine lv_icmp_ge (tgt := 91) hx hb d_Tw_behind_4 (by decide) (fun h1 => ?_) (fun h1 => absurd (nI_le (a := i) (b := i) (by omega) (by omega)) h1)
      refine lv_iconst (v := 0) hx hb d_Tw_behind_91 (by decide) ?_
      exact t_read E rfl (by rw [s_behind, if_neg (by rw [any_take_f hno]; decide)]) d_Tw_behind_92
    | succ r ih =>
      intro i hir hno ls hl
      have hkM := (List.getElem?_eq_some_iff.mp hq).1
      obtain ⟨z, hzi⟩ : ∃ z, M[i]? = some z := ⟨M[i]'(by omega), List.getElem?_eq_getElem _⟩
      have fz := hk.2 i z hzi
      obtain ⟨w1, w2, w3⟩ := hW i z hzi
      refine lv_iload_n hx hb d_Tw_behind_2 rfl (lv_at hl 0 rfl) ?_
      refine lv_iload_n hx hb d_Tw_behind_3 rfl (lv_at hl 2 rfl) ?_
      refine lv_icmp_ge (tgt := 91) hx hb d_Tw_behind_4 (by decide) (fun h2 => absurd h2 (nI_ge (a := i) (b := k) (by omega) (by omega))) (fun h2 => ?_)
      refine lv_aload_n hx hb d_Tw_behind_7 rfl (lv_at hl 1 rfl) ?_
      refine tg_20 E hK hT d_Tw_behind_8 ?_
      refine lv_iload_n hx hb d_Tw_behind_11 rfl (lv_at hl 0 rfl) ?_
      refine tl_20 E hK hT (j := i) (by omega) d_Tw_behind_12 ?_
      refine wn_eq (y := nI z.1) fz.1 ?_
      refine lv_iconst (v := 4) hx hb d_Tw_behind_13 (by decide) ?_
      refine lv_icmp_lt (tgt := 85) hx hb d_Tw_behind_14 (by decide) (fun h3 => ?_) (fun h3 => ?_)
      · replace h3 := (nI_ltI (a := z.1) (b := 4) (by omega) (by omega)).mp h3
        refine lv_iinc (v := nI (i + 1)) (lv' := [(2, .int (nI (i + 1))), (0, .ref (ad 0)), (1, .int (nI k))]) hx hb d_Tw_behind_85 hl (k := 0) rfl (nI_1 _) (by decide) rfl (fun ls hl => ?_)
        refine lv_goto (tgt := 2) hx hb d_Tw_behind_88 (by decide) ?_
        exact ih (i + 1) (by omega) (fun j hj => by
          rcases Nat.lt_succ_iff_lt_or_eq.mp hj with hj | rfl
          · exact hno j hj
          · intro z hz; rw [hzi] at hz; cases hz; simp [same, fw]; omega) ls (lv_sub hl [0, 1, 2] rfl)
      · replace h3 := (not_congr (nI_ltI (a := z.1) (b := 4) (by omega) (by omega))).mp h3
        refine lv_aload_n hx hb d_Tw_behind_17 rfl (lv_at hl 1 rfl) ?_
        refine tg_20 E hK hT d_Tw_behind_18 ?_
        refine lv_iload_n hx hb d_Tw_behind_21 rfl (lv_at hl 0 rfl) ?_
        refine tl_20 E hK hT (j := i) (by omega) d_Tw_behind_22 ?_
        refine wn_eq (y := nI z.1) fz.1 ?_
        refine lv_bipush (v := 7) hx hb d_Tw_behind_23 (by decide) ?_
        refine lv_icmp_gt (tgt := 85) hx hb d_Tw_behind_25 (by decide) (fun h4 => ?_) (fun h4 => ?_)
        · replace h4 := (nI_ltI (a := 7) (b := z.1) (by omega) (by omega)).mp h4
          refine lv_iinc (v := nI (i + 1)) (lv' := [(2, .int (nI (i + 1))), (0, .ref (ad 0)), (1, .int (nI k))]) hx hb d_Tw_behind_85 hl (k := 0) rfl (nI_1 _) (by decide) rfl (fun ls hl => ?_)
          refine lv_goto (tgt := 2) hx hb d_Tw_behind_88 (by decide) ?_
          exact ih (i + 1) (by omega) (fun j hj => by
            rcases Nat.lt_succ_iff_lt_or_eq.mp hj with hj | rfl
            · exact hno j hj
            · intro z hz; rw [hzi] at hz; cases hz; simp [same, fw]; omega) ls (lv_sub hl [0, 1, 2] rfl)
        · replace h4 := (not_congr (nI_ltI (a := 7) (b := z.1) (by omega) (by omega))).mp h4
          refine lv_aload_n hx hb d_Tw_behind_28 rfl (lv_at hl 1 rfl) ?_
          refine tg_23 E hK hT d_Tw_behind_29 ?_
          refine lv_iload_n hx hb d_Tw_behind_32 rfl (lv_at hl 0 rfl) ?_
          refine tl_23 E hK hT (j := i) (by omega) d_Tw_behind_33 ?_
          refine wn_eq (y := nI z.2.2.2.1) fz.2.2.2.1 ?_
          refine lv_aload_n hx hb d_Tw_behind_34 rfl (lv_at hl 1 rfl) ?_
          refine tg_23 E hK hT d_Tw_behind_35 ?_
          refine lv_iload_n hx hb d_Tw_behind_38 rfl (lv_at hl 2 rfl) ?_
          refine tl_23 E hK hT (j := k) (by omega) d_Tw_behind_39 ?_
          refine wn_eq (y := nI b) fq.2.2.2.1 ?_
          refine lv_icmp_ne (tgt := 85) hx hb d_Tw_behind_40 (by decide) (fun h5 => ?_) (fun h5 => ?_)
          · replace h5 := (not_congr (nI_eq (a := z.2.2.2.1) (b := b) (by omega) (by omega))).mp h5
            refine lv_iinc (v := nI (i + 1)) (lv' := [(2, .int (nI (i + 1))), (0, .ref (ad 0)), (1, .int (nI k))]) hx hb d_Tw_behind_85 hl (k := 0) rfl (nI_1 _) (by decide) rfl (fun ls hl => ?_)
            refine lv_goto (tgt := 2) hx hb d_Tw_behind_88 (by decide) ?_
            exact ih (i + 1) (by omega) (fun j hj => by
              rcases Nat.lt_succ_iff_lt_or_eq.mp hj with hj | rfl
              · exact hno j hj
              · intro z hz; rw [hzi] at hz; cases hz; simp [same, fw]; omega) ls (lv_sub hl [0, 1, 2] rfl)
          · replace h5 := (nI_eq (a := z.2.2.2.1) (b := b) (by omega) (by omega)).mp h5
            refine lv_aload_n hx hb d_Tw_behind_43 rfl (lv_at hl 1 rfl) ?_
            refine tg_22 E hK hT d_Tw_behind_44 ?_
            refine lv_iload_n hx hb d_Tw_behind_47 rfl (lv_at hl 0 rfl) ?_
            refine tl_22 E hK hT (j := i) (by omega) d_Tw_behind_48 ?_
            refine wn_eq (y := nI z.2.2.1) fz.2.2.1 ?_
            refine lv_aload_n hx hb d_Tw_behind_49 rfl (lv_at hl 1 rfl) ?_
            refine tg_22 E hK hT d_Tw_behind_50 ?_
            refine lv_iload_n hx hb d_Tw_behind_53 rfl (lv_at hl 2 rfl) ?_
            refine tl_22 E hK hT (j := k) (by omega) d_Tw_behind_54 ?_
            refine wn_eq (y := nI t) fq.2.2.1 ?_
            refine lv_icmp_ne (tgt := 85) hx hb d_Tw_behind_55 (by decide) (fun h6 => ?_) (fun h6 => ?_)
            · replace h6 := (not_congr (nI_eq (a := z.2.2.1) (b := t) (by omega) (by omega))).mp h6
              refine lv_iinc (v := nI (i + 1)) (lv' := [(2, .int (nI (i + 1))), (0, .ref (ad 0)), (1, .int (nI k))]) hx hb d_Tw_behind_85 hl (k := 0) rfl (nI_1 _) (by decide) rfl (fun ls hl => ?_)
              refine lv_goto (tgt := 2) hx hb d_Tw_behind_88 (by decide) ?_
              exact ih (i + 1) (by omega) (fun j hj => by
                rcases Nat.lt_succ_iff_lt_or_eq.mp hj with hj | rfl
                · exact hno j hj
                · intro z hz; rw [hzi] at hz; cases hz; simp [same, fw]; omega) ls (lv_sub hl [0, 1, 2] rfl)
            · replace h6 := (nI_eq (a := z.2.2.1) (b := t) (by omega) (by omega)).mp h6
              refine lv_aload_n hx hb d_Tw_behind_58 rfl (lv_at hl 1 rfl) ?_
              refine tg_20 E hK hT d_Tw_behind_59 ?_
              refine lv_iload_n hx hb d_Tw_behind_62 rfl (lv_at hl 2 rfl) ?_
              refine tl_20 E hK hT (j := k) (by omega) d_Tw_behind_63 ?_
              refine wn_eq (y := nI kd) fq.1 ?_
              refine lv_iconst (v := 4) hx hb d_Tw_behind_64 (by decide) ?_
              refine lv_icmp_lt (tgt := 83) hx hb d_Tw_behind_65 (by decide) (fun h7 => ?_) (fun h7 => ?_)
              · replace h7 := (nI_ltI (a := kd) (b := 4) (by omega) (by omega)).mp h7
                refine lv_iconst (v := 0) hx hb d_Tw_behind_83 (by decide) ?_
                exact t_read E rfl (by rw [s_behind, if_pos (any_take_t hzi (by omega) (by simp [same, fw]; omega))]; simp [fw]; omega) d_Tw_behind_84
              · replace h7 := (not_congr (nI_ltI (a := kd) (b := 4) (by omega) (by omega))).mp h7
                refine lv_aload_n hx hb d_Tw_behind_68 rfl (lv_at hl 1 rfl) ?_
                refine tg_20 E hK hT d_Tw_behind_69 ?_
                refine lv_iload_n hx hb d_Tw_behind_72 rfl (lv_at hl 2 rfl) ?_
                refine tl_20 E hK hT (j := k) (by omega) d_Tw_behind_73 ?_
                refine wn_eq (y := nI kd) fq.1 ?_
                refine lv_bipush (v := 7) hx hb d_Tw_behind_74 (by decide) ?_
                refine lv_icmp_gt (tgt := 83) hx hb d_Tw_behind_76 (by decide) (fun h8 => ?_) (fun h8 => ?_)
                · replace h8 := (nI_ltI (a := 7) (b := kd) (by omega) (by omega)).mp h8
                  refine lv_iconst (v := 0) hx hb d_Tw_behind_83 (by decide) ?_
                  exact t_read E rfl (by rw [s_behind, if_pos (any_take_t hzi (by omega) (by simp [same, fw]; omega))]; simp [fw]; omega) d_Tw_behind_84
                · replace h8 := (not_congr (nI_ltI (a := 7) (b := kd) (by omega) (by omega))).mp h8
                  refine lv_iconst (v := 1) hx hb d_Tw_behind_79 (by decide) ?_
                  refine lv_goto (tgt := 84) hx hb d_Tw_behind_80 (by decide) ?_
                  exact t_read E rfl (by rw [s_behind, if_pos (any_take_t hzi (by omega) (by simp [same, fw]; omega))]; simp [fw]; omega) d_Tw_behind_84
  exact loop k 0 (by omega) (fun j hj => absurd hj (Nat.not_lt_zero j)) ls (lv_sub hl [0, 1, 2] rfl)
set_option maxHeartbeats 4000000 in
set_option maxRecDepth 100000 in
theorem c_Tw_stalls (l : Launch) (D : va_G) (dA : Nat → ClassId) (ad : Nat → Nat) (A : Nat → Prop) (g : PS) (M : List Msg) (k kd fr t b : Nat) (v : Int32) (nb aq : Nat) (hq : M[k]? = some (kd, fr, t, b, v, nb, aq)) (hkd : kd < 10) (ht : t < 5) (hb4 : b < 4) : Met l y_Tw_stalls (k_Tw_stalls :: wz) (rml 0 0 0) (va_Pc [.ref (ad 0), .int (nI k)] (PT D dA ad A g M)) (QcRead (s_stalls g (kd, fr, t, b, v, nb, aq))) 0 0 (fun _ => False) := by
  refine tw_entry (by decide) (Nat.le_of_ble_eq_true rfl) ?_
  intro p e s m below meth c0 E hK hT ls hl
  have hT0 := hT
  obtain ⟨K, hT, hk⟩ := hT
  have hx := E.1
  have hb := E.2.1
  have fq := hk.2 k _ hq
  have hkl : k < 64 := Nat.lt_of_lt_of_le (List.getElem?_eq_some_iff.mp hq).1 hk.1
  replace hl : lv_has ls 3 [(0, .ref (ad 0)), (1, .int (nI k))] := hl
  refine lv_aload_n hx hb d_Tw_stalls_0 rfl (lv_at hl 0 rfl) ?_
  refine tg_22 E hK hT d_Tw_stalls_1 ?_
  refine lv_iload_n hx hb d_Tw_stalls_4 rfl (lv_at hl 1 rfl) ?_
  refine tl_22 E hK hT (j := k) (by omega) d_Tw_stalls_5 ?_
  refine wn_eq (y := nI t) fq.2.2.1 ?_
  refine lv_iconst (v := 4) hx hb d_Tw_stalls_6 (by decide) ?_
  refine lv_icmp_ne (tgt := 41) hx hb d_Tw_stalls_7 (by decide) (fun h1 => ?_) (fun h1 => ?_)
  · replace h1 := (not_congr (nI_eq (a := t) (b := 4) (by omega) (by omega))).mp h1
    refine lv_aload_n hx hb d_Tw_stalls_41 rfl (lv_at hl 0 rfl) ?_
    refine tg_8 E hK hT d_Tw_stalls_42 ?_
    refine lv_iconst (v := 4) hx hb d_Tw_stalls_45 (by decide) ?_
    refine lv_aload_n hx hb d_Tw_stalls_46 rfl (lv_at hl 0 rfl) ?_
    refine tg_22 E hK hT d_Tw_stalls_47 ?_
    refine lv_iload_n hx hb d_Tw_stalls_50 rfl (lv_at hl 1 rfl) ?_
    refine tl_22 E hK hT (j := k) (by omega) d_Tw_stalls_51 ?_
    refine wn_eq (y := nI t) fq.2.2.1 ?_
    refine wn_mul hx hb (a := 4) (b := t) d_Tw_stalls_52 ?_
    refine lv_aload_n hx hb d_Tw_stalls_53 rfl (lv_at hl 0 rfl) ?_
    refine tg_23 E hK hT d_Tw_stalls_54 ?_
    refine lv_iload_n hx hb d_Tw_stalls_57 rfl (lv_at hl 1 rfl) ?_
    refine tl_23 E hK hT (j := k) (by omega) d_Tw_stalls_58 ?_
    refine wn_eq (y := nI b) fq.2.2.2.1 ?_
    refine wn_add hx hb (a := 4 * t) (b := b) d_Tw_stalls_59 ?_
    refine tl_8 E hK hT (j := 4 * t + b) (by omega) d_Tw_stalls_60 ?_
    refine lv_istore_n (lv' := [(2, .int (g 8 (4 * t + b))), (0, .ref (ad 0)), (1, .int (nI k))]) hx hb d_Tw_stalls_61 rfl hl (by decide) rfl (fun ls hl => ?_)
    refine lv_aload_n hx hb d_Tw_stalls_62 rfl (lv_at hl 1 rfl) ?_
    refine tg_20 E hK hT d_Tw_stalls_63 ?_
    refine lv_iload_n hx hb d_Tw_stalls_66 rfl (lv_at hl 2 rfl) ?_
    refine tl_20 E hK hT (j := k) (by omega) d_Tw_stalls_67 ?_
    refine wn_eq (y := nI kd) fq.1 ?_
    refine lv_bipush (v := 6) hx hb d_Tw_stalls_68 (by decide) ?_
    refine lv_icmp_ne (tgt := 78) hx hb d_Tw_stalls_70 (by decide) (fun h2 => ?_) (fun h2 => ?_)
    · replace h2 := (not_congr (nI_eq (a := kd) (b := 6) (by omega) (by omega))).mp h2
      refine lv_aload_n hx hb d_Tw_stalls_78 rfl (lv_at hl 1 rfl) ?_
      refine tg_20 E hK hT d_Tw_stalls_79 ?_
      refine lv_iload_n hx hb d_Tw_stalls_82 rfl (lv_at hl 2 rfl) ?_
      refine tl_20 E hK hT (j := k) (by omega) d_Tw_stalls_83 ?_
      refine wn_eq (y := nI kd) fq.1 ?_
      refine lv_iconst (v := 4) hx hb d_Tw_stalls_84 (by decide) ?_
      refine lv_icmp_eq (tgt := 98) hx hb d_Tw_stalls_85 (by decide) (fun h3 => ?_) (fun h3 => ?_)
      · replace h3 := (nI_eq (a := kd) (b := 4) (by omega) (by omega)).mp h3
        refine lv_iload_n hx hb d_Tw_stalls_98 rfl (lv_at hl 0 rfl) ?_
        refine lv_iconst (v := 4) hx hb d_Tw_stalls_99 (by decide) ?_
        refine lv_icmp_lt (tgt := 113) hx hb d_Tw_stalls_100 (by decide) (fun h4 => ?_) (fun h4 => ?_)
        · refine lv_iconst (v := 0) hx hb d_Tw_stalls_113 (by decide) ?_
          exact t_read E rfl (by simp [s_stalls, h1, h2, h3, h4]) d_Tw_stalls_114
        · refine lv_iload_n hx hb d_Tw_stalls_103 rfl (lv_at hl 0 rfl) ?_
          refine lv_bipush (v := 7) hx hb d_Tw_stalls_104 (by decide) ?_
          refine lv_icmp_gt (tgt := 113) hx hb d_Tw_stalls_106 (by decide) (fun h5 => ?_) (fun h5 => ?_)
          · refine lv_iconst (v := 0) hx hb d_Tw_stalls_113 (by decide) ?_
            exact t_read E rfl (by simp [s_stalls, h1, h2, h3, h4, h5]) d_Tw_stalls_114
          · refine lv_iconst (v := 1) hx hb d_Tw_stalls_109 (by decide) ?_
            refine lv_goto (tgt := 114) hx hb d_Tw_stalls_110 (by decide) ?_
            exact t_read E rfl (by simp [s_stalls, h1, h2, h3, h4, h5]) d_Tw_stalls_114
      · replace h3 := (not_congr (nI_eq (a := kd) (b := 4) (by omega) (by omega))).mp h3
        refine lv_aload_n hx hb d_Tw_stalls_88 rfl (lv_at hl 1 rfl) ?_
        refine tg_20 E hK hT d_Tw_stalls_89 ?_
        refine lv_iload_n hx hb d_Tw_stalls_92 rfl (lv_at hl 2 rfl) ?_
        refine tl_20 E hK hT (j := k) (by omega) d_Tw_stalls_93 ?_
        refine wn_eq (y := nI kd) fq.1 ?_
        refine lv_iconst (v := 5) hx hb d_Tw_stalls_94 (by decide) ?_
        refine lv_icmp_ne (tgt := 113) hx hb d_Tw_stalls_95 (by decide) (fun h6 => ?_) (fun h6 => ?_)
        · replace h6 := (not_congr (nI_eq (a := kd) (b := 5) (by omega) (by omega))).mp h6
          refine lv_iconst (v := 0) hx hb d_Tw_stalls_113 (by decide) ?_
          exact t_read E rfl (by simp [s_stalls, h1, h2, h3, h6]) d_Tw_stalls_114
        · replace h6 := (nI_eq (a := kd) (b := 5) (by omega) (by omega)).mp h6
          refine lv_iload_n hx hb d_Tw_stalls_98 rfl (lv_at hl 0 rfl) ?_
          refine lv_iconst (v := 4) hx hb d_Tw_stalls_99 (by decide) ?_
          refine lv_icmp_lt (tgt := 113) hx hb d_Tw_stalls_100 (by decide) (fun h7 => ?_) (fun h7 => ?_)
          · refine lv_iconst (v := 0) hx hb d_Tw_stalls_113 (by decide) ?_
            exact t_read E rfl (by simp [s_stalls, h1, h2, h3, h6, h7]) d_Tw_stalls_114
          · refine lv_iload_n hx hb d_Tw_stalls_103 rfl (lv_at hl 0 rfl) ?_
            refine lv_bipush (v := 7) hx hb d_Tw_stalls_104 (by decide) ?_
            refine lv_icmp_gt (tgt := 113) hx hb d_Tw_stalls_106 (by decide) (fun h8 => ?_) (fun h8 => ?_)
            · refine lv_iconst (v := 0) hx hb d_Tw_stalls_113 (by decide) ?_
              exact t_read E rfl (by simp [s_stalls, h1, h2, h3, h6, h7, h8]) d_Tw_stalls_114
            · refine lv_iconst (v := 1) hx hb d_Tw_stalls_109 (by decide) ?_
              refine lv_goto (tgt := 114) hx hb d_Tw_stalls_110 (by decide) ?_
              exact t_read E rfl (by simp [s_stalls, h1, h2, h3, h6, h7, h8]) d_Tw_stalls_114
    · replace h2 := (nI_eq (a := kd) (b := 6) (by omega) (by omega)).mp h2
      refine lv_iload_n hx hb d_Tw_stalls_73 rfl (lv_at hl 0 rfl) ?_
      refine lv_iconst (v := 3) hx hb d_Tw_stalls_74 (by decide) ?_
      refine lv_icmp_eq (tgt := 109) hx hb d_Tw_stalls_75 (by decide) (fun h9 => ?_) (fun h9 => ?_)
      · refine lv_iconst (v := 1) hx hb d_Tw_stalls_109 (by decide) ?_
        refine lv_goto (tgt := 114) hx hb d_Tw_stalls_110 (by decide) ?_
        exact t_read E rfl (by simp [s_stalls, h1, h2, h9]) d_Tw_stalls_114
      · refine lv_aload_n hx hb d_Tw_stalls_78 rfl (lv_at hl 1 rfl) ?_
        refine tg_20 E hK hT d_Tw_stalls_79 ?_
        refine lv_iload_n hx hb d_Tw_stalls_82 rfl (lv_at hl 2 rfl) ?_
        refine tl_20 E hK hT (j := k) (by omega) d_Tw_stalls_83 ?_
        refine wn_eq (y := nI kd) fq.1 ?_
        refine lv_iconst (v := 4) hx hb d_Tw_stalls_84 (by decide) ?_
        refine lv_icmp_eq (tgt := 98) hx hb d_Tw_stalls_85 (by decide) (fun h10 => absurd h10 (by rw [h2]; decide)) (fun h10 => ?_)
        refine lv_aload_n hx hb d_Tw_stalls_88 rfl (lv_at hl 1 rfl) ?_
        refine tg_20 E hK hT d_Tw_stalls_89 ?_
        refine lv_iload_n hx hb d_Tw_stalls_92 rfl (lv_at hl 2 rfl) ?_
        refine tl_20 E hK hT (j := k) (by omega) d_Tw_stalls_93 ?_
        refine wn_eq (y := nI kd) fq.1 ?_
        refine lv_iconst (v := 5) hx hb d_Tw_stalls_94 (by decide) ?_
        refine lv_icmp_ne (tgt := 113) hx hb d_Tw_stalls_95 (by decide) (fun h11 => ?_) (fun h11 => absurd h11 (by rw [h2]; decide))
        refine lv_iconst (v := 0) hx hb d_Tw_stalls_113 (by decide) ?_
        exact t_read E rfl (by simp [s_stalls, h1, h2, h9, h10, h11]) d_Tw_stalls_114
  · replace h1 := (nI_eq (a := t) (b := 4) (by omega) (by omega)).mp h1
    refine lv_aload_n hx hb d_Tw_stalls_10 rfl (lv_at hl 0 rfl) ?_
    refine tg_20 E hK hT d_Tw_stalls_11 ?_
    refine lv_iload_n hx hb d_Tw_stalls_14 rfl (lv_at hl 1 rfl) ?_
    refine tl_20 E hK hT (j := k) (by omega) d_Tw_stalls_15 ?_
    refine wn_eq (y := nI kd) fq.1 ?_
    refine lv_iconst (v := 1) hx hb d_Tw_stalls_16 (by decide) ?_
    refine lv_icmp_gt (tgt := 39) hx hb d_Tw_stalls_17 (by decide) (fun h12 => ?_) (fun h12 => ?_)
    · replace h12 := (nI_ltI (a := 1) (b := kd) (by omega) (by omega)).mp h12
      refine lv_iconst (v := 0) hx hb d_Tw_stalls_39 (by decide) ?_
      exact t_read E rfl (by simp [s_stalls, h1, h12]) d_Tw_stalls_40
    · replace h12 := (not_congr (nI_ltI (a := 1) (b := kd) (by omega) (by omega))).mp h12
      refine lv_aload_n hx hb d_Tw_stalls_20 rfl (lv_at hl 0 rfl) ?_
      refine tg_14 E hK hT d_Tw_stalls_21 ?_
      refine lv_aload_n hx hb d_Tw_stalls_24 rfl (lv_at hl 0 rfl) ?_
      refine tg_23 E hK hT d_Tw_stalls_25 ?_
      refine lv_iload_n hx hb d_Tw_stalls_28 rfl (lv_at hl 1 rfl) ?_
      refine tl_23 E hK hT (j := k) (by omega) d_Tw_stalls_29 ?_
      refine wn_eq (y := nI b) fq.2.2.2.1 ?_
      refine tl_14 E hK hT (j := b) (by omega) d_Tw_stalls_30 ?_
      refine lv_iconst (v := 3) hx hb d_Tw_stalls_31 (by decide) ?_
      refine lv_icmp_ne (tgt := 39) hx hb d_Tw_stalls_32 (by decide) (fun h13 => ?_) (fun h13 => ?_)
      · refine lv_iconst (v := 0) hx hb d_Tw_stalls_39 (by decide) ?_
        exact t_read E rfl (by simp [s_stalls, h1, h12, h13]) d_Tw_stalls_40
      · refine lv_iconst (v := 1) hx hb d_Tw_stalls_35 (by decide) ?_
        refine lv_goto (tgt := 40) hx hb d_Tw_stalls_36 (by decide) ?_
        exact t_read E rfl (by simp [s_stalls, h1, h12, h13]) d_Tw_stalls_40
set_option maxHeartbeats 4000000 in
set_option maxRecDepth 100000 in
theorem c_Tw_gets (l : Launch) (D : va_G) (dA : Nat → ClassId) (ad : Nat → Nat) (A : Nat → Prop) (g : PS) (M : List Msg) (r b : Nat) (hr : r < 4) (hb4 : b < 4) (ho : g 14 b = 2 → ∃ o, o < 4 ∧ g 15 b = nI o) (hM : M.length < 64) : Met l y_Tw_gets (k_Tw_gets :: wz) (rml 2 0 0) (va_Pc [.ref (ad 0), .int (nI r), .int (nI b)] (PT D dA ad A g M)) (TQv D dA ad A (s_getsG g r b) (M ++ [s_getsQ g r b])) 0 0 A := by
  refine tw_entry (by decide) (Nat.le_of_ble_eq_true rfl) ?_
  intro p e s m below meth c0 E hK hT ls hl
  have hT0 := hT
  obtain ⟨K, hT, hk⟩ := hT
  have hx := E.1
  have hb := E.2.1
  have hS : va_S A s.heap s.heap [] := va_S.rf
  replace hl : lv_has ls 3 [(0, .ref (ad 0)), (1, .int (nI r)), (2, .int (nI b))] := hl
  refine lv_aload_n hx hb d_Tw_gets_0 rfl (lv_at hl 0 rfl) ?_
  refine tg_14 E hK hT d_Tw_gets_1 ?_
  refine lv_iload_n hx hb d_Tw_gets_4 rfl (lv_at hl 2 rfl) ?_
  refine tl_14 E hK hT (j := b) (by omega) d_Tw_gets_5 ?_
  refine lv_iconst (v := 2) hx hb d_Tw_gets_6 (by decide) ?_
  refine lv_icmp_ne (tgt := 59) hx hb d_Tw_gets_7 (by decide) (fun h1 => ?_) (fun h1 => ?_)
  · refine lv_aload_n hx hb d_Tw_gets_59 rfl (lv_at hl 0 rfl) ?_
    refine lv_iconst (v := 4) hx hb d_Tw_gets_60 (by decide) ?_
    refine lv_iload_n hx hb d_Tw_gets_61 rfl (lv_at hl 1 rfl) ?_
    refine lv_iload_n hx hb d_Tw_gets_62 rfl (lv_at hl 2 rfl) ?_
    refine lv_aload_n hx hb d_Tw_gets_63 rfl (lv_at hl 0 rfl) ?_
    refine tg_13 E hK hT d_Tw_gets_64 ?_
    refine lv_iload_n hx hb d_Tw_gets_67 rfl (lv_at hl 2 rfl) ?_
    refine tl_13 E hK hT (j := b) (by omega) d_Tw_gets_68 ?_
    refine lv_iconst (v := 0) hx hb d_Tw_gets_69 (by decide) ?_
    refine t_callv (As := [.int 4, .int (nI r), .int (nI b), .int (g 13 b), .int 0]) (rest := []) E hK ⟨K, hT, hk⟩ hS (c_Tw_data l D dA ad A g M 4 r b (g 13 b) 0 (by first | omega | (simp; omega))) ck_Tw_147 ⟨rfl, rfl⟩ ⟨Nat.le_of_ble_eq_true rfl, Nat.le_of_ble_eq_true rfl⟩ rfl (lv_sub hl [] rfl) rfl (Nat.le_of_ble_eq_true rfl) ⟨Nat.zero_le _, Nat.zero_le _⟩ d_Tw_gets_70 (fun H locs hT hS => ?_)
    obtain ⟨K, hT, hk⟩ := hT
    refine lv_aload_n hx hb d_Tw_gets_73 rfl (lv_at hl 0 rfl) ?_
    refine tg_14 E hK hT d_Tw_gets_74 ?_
    refine lv_iload_n hx hb d_Tw_gets_77 rfl (lv_at hl 2 rfl) ?_
    refine lv_iconst (v := 1) hx hb d_Tw_gets_78 (by decide) ?_
    refine ts_14 E hK hT hS (j := b) (by omega) d_Tw_gets_79 (fun H locs hT hS => ?_)
    refine lv_aload_n hx hb d_Tw_gets_80 rfl (lv_at hl 0 rfl) ?_
    refine tg_16 E hK hT d_Tw_gets_81 ?_
    refine lv_iconst (v := 4) hx hb d_Tw_gets_84 (by decide) ?_
    refine lv_iload_n hx hb d_Tw_gets_85 rfl (lv_at hl 2 rfl) ?_
    refine wn_mul hx hb (a := 4) (b := b) d_Tw_gets_86 ?_
    refine lv_iload_n hx hb d_Tw_gets_87 rfl (lv_at hl 1 rfl) ?_
    refine wn_add hx hb (a := 4 * b) (b := r) d_Tw_gets_88 ?_
    refine lv_iconst (v := 1) hx hb d_Tw_gets_89 (by decide) ?_
    refine ts_16 E hK hT hS (j := 4 * b + r) (by decide) (by omega) d_Tw_gets_90 (fun H locs hT hS => ?_)
    have eG : s_getsG g r b = up2 (up2 (snd g) 14 b 1) 16 (4 * b + r) 1 := by simp [s_getsG, h1]
    have eM : M ++ [s_getsQ g r b] = M ++ [(8, 4, r, b, g 13 b, 0, 0)] := by simp [s_getsQ, h1]
    rw [eG, eM]
    exact t_vret E ⟨K, hT, hk⟩ hS d_Tw_gets_91
  · obtain ⟨o, ho4, ho5⟩ := ho h1
    have ho6 : (g 15 b).toNatClampNeg = o := by rw [ho5]; exact nI_clamp (by omega)
    refine lv_aload_n hx hb d_Tw_gets_10 rfl (lv_at hl 0 rfl) ?_
    refine lv_iconst (v := 4) hx hb d_Tw_gets_11 (by decide) ?_
    refine lv_iconst (v := 4) hx hb d_Tw_gets_12 (by decide) ?_
    refine lv_aload_n hx hb d_Tw_gets_13 rfl (lv_at hl 0 rfl) ?_
    refine tg_15 E hK hT d_Tw_gets_14 ?_
    refine lv_iload_n hx hb d_Tw_gets_17 rfl (lv_at hl 2 rfl) ?_
    refine tl_15 E hK hT (j := b) (by omega) d_Tw_gets_18 ?_
    refine wn_eq (y := nI o) ho5 ?_
    refine lv_iload_n hx hb d_Tw_gets_19 rfl (lv_at hl 2 rfl) ?_
    refine lv_iconst (v := 0) hx hb d_Tw_gets_20 (by decide) ?_
    refine lv_iconst (v := 0) hx hb d_Tw_gets_21 (by decide) ?_
    refine lv_iload_n hx hb d_Tw_gets_22 rfl (lv_at hl 1 rfl) ?_
    refine t_callv (As := [.int 4, .int 4, .int (nI o), .int (nI b), .int 0, .int 0, .int (nI r)]) (rest := []) E hK ⟨K, hT, hk⟩ hS (c_Tw_send l D dA ad A g M 4 4 (nI o) (nI b) 0 0 (nI r) (4, 4, o, b, 0, 0, r + 1) ⟨rfl, rfl, rfl, rfl, rfl, rfl, (rq_s r).symm⟩ (by first | omega | (simp; omega))) ck_Tw_97 ⟨rfl, rfl⟩ ⟨Nat.le_of_ble_eq_true rfl, Nat.le_of_ble_eq_true rfl⟩ rfl (lv_sub hl [] rfl) rfl (Nat.le_of_ble_eq_true rfl) ⟨Nat.zero_le _, Nat.zero_le _⟩ d_Tw_gets_23 (fun H locs hT hS => ?_)
    obtain ⟨K, hT, hk⟩ := hT
    refine lv_aload_n hx hb d_Tw_gets_26 rfl (lv_at hl 0 rfl) ?_
    refine tg_16 E hK hT d_Tw_gets_27 ?_
    refine lv_iconst (v := 4) hx hb d_Tw_gets_30 (by decide) ?_
    refine lv_iload_n hx hb d_Tw_gets_31 rfl (lv_at hl 2 rfl) ?_
    refine wn_mul hx hb (a := 4) (b := b) d_Tw_gets_32 ?_
    refine lv_aload_n hx hb d_Tw_gets_33 rfl (lv_at hl 0 rfl) ?_
    refine tg_15 E hK hT d_Tw_gets_34 ?_
    refine lv_iload_n hx hb d_Tw_gets_37 rfl (lv_at hl 2 rfl) ?_
    refine tl_15 E hK hT (j := b) (by omega) d_Tw_gets_38 ?_
    refine wn_eq (y := g 15 b) (by simp [up2, upd, snd]) ?_
    refine wn_eq (y := nI o) ho5 ?_
    refine wn_add hx hb (a := 4 * b) (b := o) d_Tw_gets_39 ?_
    refine lv_iconst (v := 1) hx hb d_Tw_gets_40 (by decide) ?_
    refine ts_16 E hK hT hS (j := 4 * b + o) (by decide) (by omega) d_Tw_gets_41 (fun H locs hT hS => ?_)
    refine lv_aload_n hx hb d_Tw_gets_42 rfl (lv_at hl 0 rfl) ?_
    refine tg_15 E hK hT d_Tw_gets_43 ?_
    refine lv_iload_n hx hb d_Tw_gets_46 rfl (lv_at hl 2 rfl) ?_
    refine lv_iconst (v := (-1)) hx hb d_Tw_gets_47 (by decide) ?_
    refine ts_15 E hK hT hS (j := b) (by omega) d_Tw_gets_48 (fun H locs hT hS => ?_)
    refine lv_aload_n hx hb d_Tw_gets_49 rfl (lv_at hl 0 rfl) ?_
    refine tg_14 E hK hT d_Tw_gets_50 ?_
    refine lv_iload_n hx hb d_Tw_gets_53 rfl (lv_at hl 2 rfl) ?_
    refine lv_iconst (v := 3) hx hb d_Tw_gets_54 (by decide) ?_
    refine ts_14 E hK hT hS (j := b) (by omega) d_Tw_gets_55 (fun H locs hT hS => ?_)
    refine lv_goto (tgt := 80) hx hb d_Tw_gets_56 (by decide) ?_
    refine lv_aload_n hx hb d_Tw_gets_80 rfl (lv_at hl 0 rfl) ?_
    refine tg_16 E hK hT d_Tw_gets_81 ?_
    refine lv_iconst (v := 4) hx hb d_Tw_gets_84 (by decide) ?_
    refine lv_iload_n hx hb d_Tw_gets_85 rfl (lv_at hl 2 rfl) ?_
    refine wn_mul hx hb (a := 4) (b := b) d_Tw_gets_86 ?_
    refine lv_iload_n hx hb d_Tw_gets_87 rfl (lv_at hl 1 rfl) ?_
    refine wn_add hx hb (a := 4 * b) (b := r) d_Tw_gets_88 ?_
    refine lv_iconst (v := 1) hx hb d_Tw_gets_89 (by decide) ?_
    refine ts_16 E hK hT hS (j := 4 * b + r) (by decide) (by omega) d_Tw_gets_90 (fun H locs hT hS => ?_)
    have eG : s_getsG g r b = up2 (up2 (up2 (up2 (snd g) 16 (4 * b + o) 1) 15 b (-1)) 14 b 3) 16 (4 * b + r) 1 := by simp [s_getsG, h1, ho6]
    have eM : M ++ [s_getsQ g r b] = M ++ [(4, 4, o, b, 0, 0, r + 1)] := by simp [s_getsQ, h1, ho6]
    rw [eG, eM]
    exact t_vret E ⟨K, hT, hk⟩ hS d_Tw_gets_91
set_option maxHeartbeats 4000000 in
set_option maxRecDepth 100000 in
theorem c_Tw_getm (l : Launch) (D : va_G) (dA : Nat → ClassId) (ad : Nat → Nat) (A : Nat → Prop) (g : PS) (M : List Msg) (r b : Nat) (hr : r < 4) (hb4 : b < 4) (ho : g 14 b = 2 → ∃ o, o < 4 ∧ g 15 b = nI o) (hM : M.length < 60) : Met l y_Tw_getm (k_Tw_getm :: wz) (rml 2 0 0) (va_Pc [.ref (ad 0), .int (nI r), .int (nI b)] (PT D dA ad A g M)) (TQv D dA ad A (s_getmG g r b) (M ++ s_getmQ g r b)) 0 0 A := by
  refine tw_entry (by decide) (Nat.le_of_ble_eq_true rfl) ?_
  intro p e s m below meth c0 E hK hT ls hl
  have hT0 := hT
  obtain ⟨K, hT, hk⟩ := hT
  have hx := E.1
  have hb := E.2.1
  have hS : va_S A s.heap s.heap [] := va_S.rf
  replace hl : lv_has ls 4 [(0, .ref (ad 0)), (1, .int (nI r)), (2, .int (nI b))] := hl
  refine lv_aload_n hx hb d_Tw_getm_0 rfl (lv_at hl 0 rfl) ?_
  refine tg_14 E hK hT d_Tw_getm_1 ?_
  refine lv_iload_n hx hb d_Tw_getm_4 rfl (lv_at hl 2 rfl) ?_
  refine tl_14 E hK hT (j := b) (by omega) d_Tw_getm_5 ?_
  refine lv_iconst (v := 2) hx hb d_Tw_getm_6 (by decide) ?_
  refine lv_icmp_ne (tgt := 29) hx hb d_Tw_getm_7 (by decide) (fun h1 => ?_) (fun h1 => ?_)
  · refine lv_aload_n hx hb d_Tw_getm_29 rfl (lv_at hl 0 rfl) ?_
    refine lv_iconst (v := 4) hx hb d_Tw_getm_30 (by decide) ?_
    refine lv_iload_n hx hb d_Tw_getm_31 rfl (lv_at hl 1 rfl) ?_
    refine lv_iload_n hx hb d_Tw_getm_32 rfl (lv_at hl 2 rfl) ?_
    refine lv_aload_n hx hb d_Tw_getm_33 rfl (lv_at hl 0 rfl) ?_
    refine tg_13 E hK hT d_Tw_getm_34 ?_
    refine lv_iload_n hx hb d_Tw_getm_37 rfl (lv_at hl 2 rfl) ?_
    refine tl_13 E hK hT (j := b) (by omega) d_Tw_getm_38 ?_
    refine lv_aload_n hx hb d_Tw_getm_39 rfl (lv_at hl 0 rfl) ?_
    refine lv_iload_n hx hb d_Tw_getm_40 rfl (lv_at hl 2 rfl) ?_
    refine lv_iload_n hx hb d_Tw_getm_41 rfl (lv_at hl 1 rfl) ?_
    refine t_callR (As := [.int (nI b), .int (nI r)]) (rest := [.int (g 13 b), .int (nI b), .int (nI r), .int 4, .ref (ad 0)]) E hK ⟨K, hT, hk⟩ (c_Tw_sharers l D dA ad A g M b (nI r) (r + 1) hb4 (by omega) (rq_s r).symm) ck_Tw_157 ⟨rfl, rfl⟩ ⟨Nat.le_of_ble_eq_true rfl, Nat.le_of_ble_eq_true rfl⟩ rfl (lv_sub hl [] rfl) rfl (Nat.le_of_ble_eq_true rfl) ⟨Nat.zero_le _, Nat.zero_le _⟩ d_Tw_getm_42 ?_
    refine t_callv (As := [.int 4, .int (nI r), .int (nI b), .int (g 13 b), .int (nI (s_shr g b (r + 1) 4))]) (rest := []) E hK ⟨K, hT, hk⟩ hS (c_Tw_data l D dA ad A g M 4 r b (g 13 b) (s_shr g b (r + 1) 4) (by first | omega | (simp; omega))) ck_Tw_147 ⟨rfl, rfl⟩ ⟨Nat.le_of_ble_eq_true rfl, Nat.le_of_ble_eq_true rfl⟩ rfl (lv_sub hl [] rfl) rfl (Nat.le_of_ble_eq_true rfl) ⟨Nat.zero_le _, Nat.zero_le _⟩ d_Tw_getm_45 (fun H locs hT hS => ?_)
    obtain ⟨K, hT, hk⟩ := hT
    refine lv_iconst (v := 0) hx hb d_Tw_getm_48 (by decide) ?_
    refine lv_istore_n (lv' := [(3, .int 0), (0, .ref (ad 0)), (1, .int (nI r)), (2, .int (nI b))]) hx hb d_Tw_getm_49 rfl hl (by decide) rfl (fun ls hl => ?_)
    have loop : ∀ (n c : Nat), c + n = 4 → ∀ H locs K, RK D dA ad A (s_invG (snd g) b r c) K (M ++ [(8, 4, r, b, g 13 b, s_shr g b (r + 1) 4, 0)] ++ s_invs g b r c).length H → MK K (M ++ [(8, 4, r, b, g 13 b, s_shr g b (r + 1) 4, 0)] ++ s_invs g b r c) → va_S A s.heap H locs → ∀ ls, lv_has ls 4 [(3, .int (nI c)), (0, .ref (ad 0)), (1, .int (nI r)), (2, .int (nI b))] → W p l e (rml 2 0 0) s m ([.ref (ad 0), .int (nI r), .int (nI b)] : List Value).toArray below meth c0 H locs 0 0 (MQ below (TQv D dA ad A (s_getmG g r b) (M ++ s_getmQ g r b)) ([.ref (ad 0), .int (nI r), .int (nI b)] : List Value).toArray s 0 0 A) (F0 m 50 ls []) := by
      intro n
      induction n with
      | zero =>
        intro c hcn H locs K hT hk hS ls hl
        obtain rfl : c = 4 := by omega
        refine lv_iload_n hx hb d_Tw_getm_50 rfl (lv_at hl 0 rfl) ?_
        refine lv_iconst (v := 4) hx hb d_Tw_getm_51 (by decide) ?_
        refine lv_icmp_ge (tgt := 102) hx hb d_Tw_getm_52 (by decide) (fun h2 => ?_) (fun h2 => absurd (by decide) h2)
        refine lv_aload_n hx hb d_Tw_getm_102 rfl (lv_at hl 1 rfl) ?_
        refine tg_15 E hK hT d_Tw_getm_103 ?_
        refine lv_iload_n hx hb d_Tw_getm_106 rfl (lv_at hl 3 rfl) ?_
        refine lv_iload_n hx hb d_Tw_getm_107 rfl (lv_at hl 2 rfl) ?_
        refine ts_15 E hK hT hS (j := b) (by omega) d_Tw_getm_108 (fun H locs hT hS => ?_)
        refine lv_aload_n hx hb d_Tw_getm_109 rfl (lv_at hl 1 rfl) ?_
        refine tg_14 E hK hT d_Tw_getm_110 ?_
        refine lv_iload_n hx hb d_Tw_getm_113 rfl (lv_at hl 3 rfl) ?_
        refine lv_iconst (v := 2) hx hb d_Tw_getm_114 (by decide) ?_
        refine ts_14 E hK hT hS (j := b) (by omega) d_Tw_getm_115 (fun H locs hT hS => ?_)
        have eG : s_getmG g r b = up2 (up2 (s_invG (snd g) b r 4) 15 b (nI r)) 14 b 2 := by simp [s_getmG, h1, h2]
        have eM : M ++ s_getmQ g r b = M ++ [(8, 4, r, b, g 13 b, s_shr g b (r + 1) 4, 0)] ++ s_invs g b r 4 := by simp [s_getmQ, h1, h2]
        rw [eG, eM]
        exact t_vret E ⟨K, hT, hk⟩ hS d_Tw_getm_116
      | succ n ih =>
        intro c hcn H locs K hT hk hS ls hl
        have hil := s_invs_len g b r c
        refine lv_iload_n hx hb d_Tw_getm_50 rfl (lv_at hl 0 rfl) ?_
        refine lv_iconst (v := 4) hx hb d_Tw_getm_51 (by decide) ?_
        refine lv_icmp_ge (tgt := 102) hx hb d_Tw_getm_52 (by decide) (fun h3 => absurd h3 (nI_ge (a := c) (b := 4) (by omega) (by omega))) (fun h3 => ?_)
        refine lv_aload_n hx hb d_Tw_getm_55 rfl (lv_at hl 1 rfl) ?_
        refine tg_16 E hK hT d_Tw_getm_56 ?_
        refine lv_iconst (v := 4) hx hb d_Tw_getm_59 (by decide) ?_
        refine lv_iload_n hx hb d_Tw_getm_60 rfl (lv_at hl 3 rfl) ?_
        refine wn_mul hx hb (a := 4) (b := b) d_Tw_getm_61 ?_
        refine lv_iload_n hx hb d_Tw_getm_62 rfl (lv_at hl 0 rfl) ?_
        refine wn_add hx hb (a := 4 * b) (b := c) d_Tw_getm_63 ?_
        refine tl_16 E hK hT (j := 4 * b + c) (by omega) d_Tw_getm_64 ?_
        refine wn_eq (y := g 16 (4 * b + c)) ((s_invG_16 (snd g) b r c c (Nat.le_refl c)).trans rfl) ?_
        refine lv_if_eq (tgt := 85) hx hb d_Tw_getm_65 (by decide) (fun h4 => ?_) (fun h4 => ?_)
        · refine lv_aload_n hx hb d_Tw_getm_85 rfl (lv_at hl 1 rfl) ?_
          refine tg_16 E hK hT d_Tw_getm_86 ?_
          refine lv_iconst (v := 4) hx hb d_Tw_getm_89 (by decide) ?_
          refine lv_iload_n hx hb d_Tw_getm_90 rfl (lv_at hl 3 rfl) ?_
          refine wn_mul hx hb (a := 4) (b := b) d_Tw_getm_91 ?_
          refine lv_iload_n hx hb d_Tw_getm_92 rfl (lv_at hl 0 rfl) ?_
          refine wn_add hx hb (a := 4 * b) (b := c) d_Tw_getm_93 ?_
          refine lv_iconst (v := 0) hx hb d_Tw_getm_94 (by decide) ?_
          refine ts_16 E hK hT hS (j := 4 * b + c) (by decide) (by omega) d_Tw_getm_95 (fun H locs hT hS => ?_)
          refine lv_iinc (v := nI (c + 1)) (lv' := [(3, .int (nI (c + 1))), (0, .ref (ad 0)), (1, .int (nI r)), (2, .int (nI b))]) hx hb d_Tw_getm_96 hl (k := 0) rfl (nI_1 _) (by decide) rfl (fun ls hl => ?_)
          refine lv_goto (tgt := 50) hx hb d_Tw_getm_99 (by decide) ?_
          have hs9 : snd g 16 (4 * b + c) = g 16 (4 * b + c) := rfl
          have e9 : s_invG (snd g) b r (c + 1) = up2 (s_invG (snd g) b r c) 16 (4 * b + c) 0 := by rw [s_invG, hs9, if_pos h4]
          have e8 : M ++ [(8, 4, r, b, g 13 b, s_shr g b (r + 1) 4, 0)] ++ s_invs g b r (c + 1) = M ++ [(8, 4, r, b, g 13 b, s_shr g b (r + 1) 4, 0)] ++ s_invs g b r c := by rw [s_invs, if_pos h4]
          rw [← e9, ← e8] at hT
          rw [← e8] at hk
          exact ih (c + 1) (by omega) H locs K hT hk hS ls (lv_sub hl [0, 1, 2, 3] rfl)
        · refine lv_iload_n hx hb d_Tw_getm_68 rfl (lv_at hl 0 rfl) ?_
          refine lv_iload_n hx hb d_Tw_getm_69 rfl (lv_at hl 2 rfl) ?_
          refine lv_icmp_eq (tgt := 85) hx hb d_Tw_getm_70 (by decide) (fun h5 => ?_) (fun h5 => ?_)
          · replace h5 := (nI_eq (a := c) (b := r) (by omega) (by omega)).mp h5
            refine lv_aload_n hx hb d_Tw_getm_85 rfl (lv_at hl 1 rfl) ?_
            refine tg_16 E hK hT d_Tw_getm_86 ?_
            refine lv_iconst (v := 4) hx hb d_Tw_getm_89 (by decide) ?_
            refine lv_iload_n hx hb d_Tw_getm_90 rfl (lv_at hl 3 rfl) ?_
            refine wn_mul hx hb (a := 4) (b := b) d_Tw_getm_91 ?_
            refine lv_iload_n hx hb d_Tw_getm_92 rfl (lv_at hl 0 rfl) ?_
            refine wn_add hx hb (a := 4 * b) (b := c) d_Tw_getm_93 ?_
            refine lv_iconst (v := 0) hx hb d_Tw_getm_94 (by decide) ?_
            refine ts_16 E hK hT hS (j := 4 * b + c) (by decide) (by omega) d_Tw_getm_95 (fun H locs hT hS => ?_)
            refine lv_iinc (v := nI (c + 1)) (lv' := [(3, .int (nI (c + 1))), (0, .ref (ad 0)), (1, .int (nI r)), (2, .int (nI b))]) hx hb d_Tw_getm_96 hl (k := 0) rfl (nI_1 _) (by decide) rfl (fun ls hl => ?_)
            refine lv_goto (tgt := 50) hx hb d_Tw_getm_99 (by decide) ?_
            have hs9 : snd g 16 (4 * b + c) = g 16 (4 * b + c) := rfl
            have e9 : s_invG (snd g) b r (c + 1) = up2 (s_invG (snd g) b r c) 16 (4 * b + c) 0 := by rw [s_invG, hs9, if_neg h4, if_pos h5]
            have e8 : M ++ [(8, 4, r, b, g 13 b, s_shr g b (r + 1) 4, 0)] ++ s_invs g b r (c + 1) = M ++ [(8, 4, r, b, g 13 b, s_shr g b (r + 1) 4, 0)] ++ s_invs g b r c := by rw [s_invs, if_neg h4, if_pos h5]
            rw [← e9, ← e8] at hT
            rw [← e8] at hk
            exact ih (c + 1) (by omega) H locs K hT hk hS ls (lv_sub hl [0, 1, 2, 3] rfl)
          · replace h5 := (not_congr (nI_eq (a := c) (b := r) (by omega) (by omega))).mp h5
            refine lv_aload_n hx hb d_Tw_getm_73 rfl (lv_at hl 1 rfl) ?_
            refine lv_bipush (v := 6) hx hb d_Tw_getm_74 (by decide) ?_
            refine lv_iconst (v := 4) hx hb d_Tw_getm_76 (by decide) ?_
            refine lv_iload_n hx hb d_Tw_getm_77 rfl (lv_at hl 0 rfl) ?_
            refine lv_iload_n hx hb d_Tw_getm_78 rfl (lv_at hl 3 rfl) ?_
            refine lv_iconst (v := 0) hx hb d_Tw_getm_79 (by decide) ?_
            refine lv_iconst (v := 0) hx hb d_Tw_getm_80 (by decide) ?_
            refine lv_iload_n hx hb d_Tw_getm_81 rfl (lv_at hl 2 rfl) ?_
            refine t_callv (As := [.int 6, .int 4, .int (nI c), .int (nI b), .int 0, .int 0, .int (nI r)]) (rest := []) E hK ⟨K, hT, hk⟩ hS (c_Tw_send l D dA ad A (s_invG (snd g) b r c) (M ++ [(8, 4, r, b, g 13 b, s_shr g b (r + 1) 4, 0)] ++ s_invs g b r c) 6 4 (nI c) (nI b) 0 0 (nI r) (6, 4, c, b, 0, 0, r + 1) ⟨rfl, rfl, rfl, rfl, rfl, rfl, (rq_s r).symm⟩ (by simp; omega)) ck_Tw_97 ⟨rfl, rfl⟩ ⟨Nat.le_of_ble_eq_true rfl, Nat.le_of_ble_eq_true rfl⟩ rfl (lv_sub hl [] rfl) rfl (Nat.le_of_ble_eq_true rfl) ⟨Nat.zero_le _, Nat.zero_le _⟩ d_Tw_getm_82 (fun H locs hT hS => ?_)
            obtain ⟨K, hT, hk⟩ := hT
            refine lv_aload_n hx hb d_Tw_getm_85 rfl (lv_at hl 1 rfl) ?_
            refine tg_16 E hK hT d_Tw_getm_86 ?_
            refine lv_iconst (v := 4) hx hb d_Tw_getm_89 (by decide) ?_
            refine lv_iload_n hx hb d_Tw_getm_90 rfl (lv_at hl 3 rfl) ?_
            refine wn_mul hx hb (a := 4) (b := b) d_Tw_getm_91 ?_
            refine lv_iload_n hx hb d_Tw_getm_92 rfl (lv_at hl 0 rfl) ?_
            refine wn_add hx hb (a := 4 * b) (b := c) d_Tw_getm_93 ?_
            refine lv_iconst (v := 0) hx hb d_Tw_getm_94 (by decide) ?_
            refine ts_16 E hK hT hS (j := 4 * b + c) (by decide) (by omega) d_Tw_getm_95 (fun H locs hT hS => ?_)
            refine lv_iinc (v := nI (c + 1)) (lv' := [(3, .int (nI (c + 1))), (0, .ref (ad 0)), (1, .int (nI r)), (2, .int (nI b))]) hx hb d_Tw_getm_96 hl (k := 0) rfl (nI_1 _) (by decide) rfl (fun ls hl => ?_)
            refine lv_goto (tgt := 50) hx hb d_Tw_getm_99 (by decide) ?_
            have hs9 : snd g 16 (4 * b + c) = g 16 (4 * b + c) := rfl
            have e9 : s_invG (snd g) b r (c + 1) = up2 (snd (s_invG (snd g) b r c)) 16 (4 * b + c) 0 := by rw [s_invG, hs9, if_neg h4, if_neg h5]
            have e8 : M ++ [(8, 4, r, b, g 13 b, s_shr g b (r + 1) 4, 0)] ++ s_invs g b r (c + 1) = M ++ [(8, 4, r, b, g 13 b, s_shr g b (r + 1) 4, 0)] ++ s_invs g b r c ++ [(6, 4, c, b, 0, 0, r + 1)] := by rw [s_invs, if_neg h4, if_neg h5]; simp
            rw [← e9, ← e8] at hT
            rw [← e8] at hk
            exact ih (c + 1) (by omega) H locs K hT hk hS ls (lv_sub hl [0, 1, 2, 3] rfl)
    exact loop 4 0 rfl H locs K (by rw [s_invs, List.append_nil]; exact hT) (by rw [s_invs, List.append_nil]; exact hk) hS ls (lv_sub hl [0, 1, 2, 3] rfl)
  · obtain ⟨o, ho4, ho5⟩ := ho h1
    have ho6 : (g 15 b).toNatClampNeg = o := by rw [ho5]; exact nI_clamp (by omega)
    refine lv_aload_n hx hb d_Tw_getm_10 rfl (lv_at hl 0 rfl) ?_
    refine lv_iconst (v := 5) hx hb d_Tw_getm_11 (by decide) ?_
    refine lv_iconst (v := 4) hx hb d_Tw_getm_12 (by decide) ?_
    refine lv_aload_n hx hb d_Tw_getm_13 rfl (lv_at hl 0 rfl) ?_
    refine tg_15 E hK hT d_Tw_getm_14 ?_
    refine lv_iload_n hx hb d_Tw_getm_17 rfl (lv_at hl 2 rfl) ?_
    refine tl_15 E hK hT (j := b) (by omega) d_Tw_getm_18 ?_
    refine wn_eq (y := nI o) ho5 ?_
    refine lv_iload_n hx hb d_Tw_getm_19 rfl (lv_at hl 2 rfl) ?_
    refine lv_iconst (v := 0) hx hb d_Tw_getm_20 (by decide) ?_
    refine lv_iconst (v := 0) hx hb d_Tw_getm_21 (by decide) ?_
    refine lv_iload_n hx hb d_Tw_getm_22 rfl (lv_at hl 1 rfl) ?_
    refine t_callv (As := [.int 5, .int 4, .int (nI o), .int (nI b), .int 0, .int 0, .int (nI r)]) (rest := []) E hK ⟨K, hT, hk⟩ hS (c_Tw_send l D dA ad A g M 5 4 (nI o) (nI b) 0 0 (nI r) (5, 4, o, b, 0, 0, r + 1) ⟨rfl, rfl, rfl, rfl, rfl, rfl, (rq_s r).symm⟩ (by first | omega | (simp; omega))) ck_Tw_97 ⟨rfl, rfl⟩ ⟨Nat.le_of_ble_eq_true rfl, Nat.le_of_ble_eq_true rfl⟩ rfl (lv_sub hl [] rfl) rfl (Nat.le_of_ble_eq_true rfl) ⟨Nat.zero_le _, Nat.zero_le _⟩ d_Tw_getm_23 (fun H locs hT hS => ?_)
    obtain ⟨K, hT, hk⟩ := hT
    refine lv_goto (tgt := 102) hx hb d_Tw_getm_26 (by decide) ?_
    refine lv_aload_n hx hb d_Tw_getm_102 rfl (lv_at hl 0 rfl) ?_
    refine tg_15 E hK hT d_Tw_getm_103 ?_
    refine lv_iload_n hx hb d_Tw_getm_106 rfl (lv_at hl 2 rfl) ?_
    refine lv_iload_n hx hb d_Tw_getm_107 rfl (lv_at hl 1 rfl) ?_
    refine ts_15 E hK hT hS (j := b) (by omega) d_Tw_getm_108 (fun H locs hT hS => ?_)
    refine lv_aload_n hx hb d_Tw_getm_109 rfl (lv_at hl 0 rfl) ?_
    refine tg_14 E hK hT d_Tw_getm_110 ?_
    refine lv_iload_n hx hb d_Tw_getm_113 rfl (lv_at hl 2 rfl) ?_
    refine lv_iconst (v := 2) hx hb d_Tw_getm_114 (by decide) ?_
    refine ts_14 E hK hT hS (j := b) (by omega) d_Tw_getm_115 (fun H locs hT hS => ?_)
    have eG : s_getmG g r b = up2 (up2 (snd g) 15 b (nI r)) 14 b 2 := by simp [s_getmG, h1, ho6]
    have eM : M ++ s_getmQ g r b = M ++ [(5, 4, o, b, 0, 0, r + 1)] := by simp [s_getmQ, h1, ho6]
    rw [eG, eM]
    exact t_vret E ⟨K, hT, hk⟩ hS d_Tw_getm_116
set_option maxHeartbeats 4000000 in
set_option maxRecDepth 100000 in
theorem c_Tw_atHome (l : Launch) (D : va_G) (dA : Nat → ClassId) (ad : Nat → Nat) (A : Nat → Prop) (g : PS) (M : List Msg) (kd r b : Nat) (v : Int32) (hkd : kd < 10) (hr : r < 4) (hb4 : b < 4) (ho : g 14 b = 2 → ∃ o, o < 4 ∧ g 15 b = nI o) (hM : M.length < 60) : Met l y_Tw_atHome (k_Tw_atHome :: wz) (rml 3 0 0) (va_Pc [.ref (ad 0), .int (nI kd), .int (nI r), .int (nI b), .int v] (PT D dA ad A g M)) (TQv D dA ad A (s_ahG g kd r b v) (M ++ s_ahQ g kd r b)) 0 0 A := by
  refine tw_entry (by decide) (Nat.le_of_ble_eq_true rfl) ?_
  intro p e s m below meth c0 E hK hT ls hl
  have hT0 := hT
  obtain ⟨K, hT, hk⟩ := hT
  have hx := E.1
  have hb := E.2.1
  have hS : va_S A s.heap s.heap [] := va_S.rf
  have hsl := s_shr_le g b 0 4
  have hsm := s_shr_le (up2 g 16 (4 * b + r) 0) b 0 4
  replace hl : lv_has ls 6 [(0, .ref (ad 0)), (1, .int (nI kd)), (2, .int (nI r)), (3, .int (nI b)), (4, .int v)] := hl
  refine lv_iload_n hx hb d_Tw_atHome_0 rfl (lv_at hl 1 rfl) ?_
  refine lv_if_ne (tgt := 13) hx hb d_Tw_atHome_1 (by decide) (fun h1 => ?_) (fun h1 => ?_)
  · replace h1 := (not_congr (nI_eq (a := kd) (b := 0) (by omega) (by omega))).mp h1
    refine lv_iload_n hx hb d_Tw_atHome_13 rfl (lv_at hl 1 rfl) ?_
    refine lv_iconst (v := 1) hx hb d_Tw_atHome_14 (by decide) ?_
    refine lv_icmp_ne (tgt := 27) hx hb d_Tw_atHome_15 (by decide) (fun h2 => ?_) (fun h2 => ?_)
    · replace h2 := (not_congr (nI_eq (a := kd) (b := 1) (by omega) (by omega))).mp h2
      refine lv_iload_n hx hb d_Tw_atHome_27 rfl (lv_at hl 1 rfl) ?_
      refine lv_bipush (v := 8) hx hb d_Tw_atHome_28 (by decide) ?_
      refine lv_icmp_ne (tgt := 64) hx hb d_Tw_atHome_30 (by decide) (fun h3 => ?_) (fun h3 => ?_)
      · replace h3 := (not_congr (nI_eq (a := kd) (b := 8) (by omega) (by omega))).mp h3
        refine lv_iload_n hx hb d_Tw_atHome_64 rfl (lv_at hl 1 rfl) ?_
        refine lv_iconst (v := 3) hx hb d_Tw_atHome_65 (by decide) ?_
        refine lv_icmp_ne (tgt := 93) hx hb d_Tw_atHome_66 (by decide) (fun h4 => ?_) (fun h4 => ?_)
        · replace h4 := (not_congr (nI_eq (a := kd) (b := 3) (by omega) (by omega))).mp h4
          refine lv_iconst (v := 0) hx hb d_Tw_atHome_93 (by decide) ?_
          refine lv_istore (lv' := [(5, .int 0), (0, .ref (ad 0)), (1, .int (nI kd)), (2, .int (nI r)), (3, .int (nI b)), (4, .int v)]) hx hb d_Tw_atHome_94 hl (by decide) rfl (fun ls hl => ?_)
          refine lv_iload hx hb d_Tw_atHome_96 (lv_at hl 0 rfl) ?_
          refine lv_if_eq (tgt := 126) hx hb d_Tw_atHome_98 (by decide) (fun h5 => ?_) (fun h5 => absurd (by decide) h5)
          refine lv_aload_n hx hb d_Tw_atHome_126 rfl (lv_at hl 1 rfl) ?_
          refine tg_16 E hK hT d_Tw_atHome_127 ?_
          refine lv_iconst (v := 4) hx hb d_Tw_atHome_130 (by decide) ?_
          refine lv_iload_n hx hb d_Tw_atHome_131 rfl (lv_at hl 4 rfl) ?_
          refine wn_mul hx hb (a := 4) (b := b) d_Tw_atHome_132 ?_
          refine lv_iload_n hx hb d_Tw_atHome_133 rfl (lv_at hl 3 rfl) ?_
          refine wn_add hx hb (a := 4 * b) (b := r) d_Tw_atHome_134 ?_
          refine lv_iconst (v := 0) hx hb d_Tw_atHome_135 (by decide) ?_
          refine ts_16 E hK hT hS (j := 4 * b + r) (by decide) (by omega) d_Tw_atHome_136 (fun H locs hT hS => ?_)
          refine lv_aload_n hx hb d_Tw_atHome_137 rfl (lv_at hl 1 rfl) ?_
          refine tg_14 E hK hT d_Tw_atHome_138 ?_
          refine lv_iload_n hx hb d_Tw_atHome_141 rfl (lv_at hl 4 rfl) ?_
          refine lv_aload_n hx hb d_Tw_atHome_142 rfl (lv_at hl 1 rfl) ?_
          refine tg_14 E hK hT d_Tw_atHome_143 ?_
          refine lv_iload_n hx hb d_Tw_atHome_146 rfl (lv_at hl 4 rfl) ?_
          refine tl_14 E hK hT (j := b) (by omega) d_Tw_atHome_147 ?_
          refine wn_eq (y := g 14 b) (by simp [up2, upd, snd]) ?_
          refine lv_iconst (v := 1) hx hb d_Tw_atHome_148 (by decide) ?_
          refine lv_icmp_ne (tgt := 165) hx hb d_Tw_atHome_149 (by decide) (fun h6 => ?_) (fun h6 => ?_)
          · refine lv_aload_n hx hb d_Tw_atHome_165 rfl (lv_at hl 1 rfl) ?_
            refine tg_14 E hK hT d_Tw_atHome_166 ?_
            refine lv_iload_n hx hb d_Tw_atHome_169 rfl (lv_at hl 4 rfl) ?_
            refine tl_14 E hK hT (j := b) (by omega) d_Tw_atHome_170 ?_
            refine wn_eq (y := g 14 b) (by simp [up2, upd, snd]) ?_
            refine ts_14 E hK hT hS (j := b) (by omega) d_Tw_atHome_171 (fun H locs hT hS => ?_)
            refine lv_aload_n hx hb d_Tw_atHome_172 rfl (lv_at hl 1 rfl) ?_
            refine lv_bipush (v := 7) hx hb d_Tw_atHome_173 (by decide) ?_
            refine lv_iconst (v := 4) hx hb d_Tw_atHome_175 (by decide) ?_
            refine lv_iload_n hx hb d_Tw_atHome_176 rfl (lv_at hl 3 rfl) ?_
            refine lv_iload_n hx hb d_Tw_atHome_177 rfl (lv_at hl 4 rfl) ?_
            refine lv_iconst (v := 0) hx hb d_Tw_atHome_178 (by decide) ?_
            refine lv_iconst (v := 0) hx hb d_Tw_atHome_179 (by decide) ?_
            refine lv_iconst (v := (-1)) hx hb d_Tw_atHome_180 (by decide) ?_
            refine t_callv (As := [.int 7, .int 4, .int (nI r), .int (nI b), .int 0, .int 0, .int (-1)]) (rest := []) E hK ⟨K, hT, hk⟩ hS (c_Tw_send l D dA ad A (up2 (up2 g 16 (4 * b + r) 0) 14 b (g 14 b)) M 7 4 (nI r) (nI b) 0 0 (-1) (7, 4, r, b, 0, 0, 0) ⟨rfl, rfl, rfl, rfl, rfl, rfl, rq_0.symm⟩ (by first | omega | (simp; omega))) ck_Tw_97 ⟨rfl, rfl⟩ ⟨Nat.le_of_ble_eq_true rfl, Nat.le_of_ble_eq_true rfl⟩ rfl (lv_sub hl [] rfl) rfl (Nat.le_of_ble_eq_true rfl) ⟨Nat.zero_le _, Nat.zero_le _⟩ d_Tw_atHome_181 (fun H locs hT hS => ?_)
            obtain ⟨K, hT, hk⟩ := hT
            have eG : s_ahG g kd r b v = snd (up2 (up2 g 16 (4 * b + r) 0) 14 b (g 14 b)) := by simp [s_ahG, h1, h2, h3, h4, h5, h6]
            have eM : M ++ s_ahQ g kd r b = M ++ [(7, 4, r, b, 0, 0, 0)] := by simp [s_ahQ, h1, h2, h3, h4, h5, h6]
            rw [eG, eM]
            exact t_vret E ⟨K, hT, hk⟩ hS d_Tw_atHome_184
          · refine lv_aload_n hx hb d_Tw_atHome_152 rfl (lv_at hl 1 rfl) ?_
            refine lv_iload_n hx hb d_Tw_atHome_153 rfl (lv_at hl 4 rfl) ?_
            refine lv_iconst (v := (-1)) hx hb d_Tw_atHome_154 (by decide) ?_
            refine t_callR (As := [.int (nI b), .int (-1)]) (rest := [.int (nI b), .ref (ad 14)]) E hK ⟨K, hT, hk⟩ (c_Tw_sharers l D dA ad A (up2 g 16 (4 * b + r) 0) M b (-1) 0 hb4 (by omega) rq_0.symm) ck_Tw_157 ⟨rfl, rfl⟩ ⟨Nat.le_of_ble_eq_true rfl, Nat.le_of_ble_eq_true rfl⟩ rfl (lv_sub hl [] rfl) rfl (Nat.le_of_ble_eq_true rfl) ⟨Nat.zero_le _, Nat.zero_le _⟩ d_Tw_atHome_155 ?_
            refine lv_if_ne (tgt := 165) hx hb d_Tw_atHome_158 (by decide) (fun h7 => ?_) (fun h7 => ?_)
            · replace h7 := (not_congr (nI_eq (a := s_shr (up2 g 16 (4 * b + r) 0) b 0 4) (b := 0) (by omega) (by omega))).mp h7
              refine lv_aload_n hx hb d_Tw_atHome_165 rfl (lv_at hl 1 rfl) ?_
              refine tg_14 E hK hT d_Tw_atHome_166 ?_
              refine lv_iload_n hx hb d_Tw_atHome_169 rfl (lv_at hl 4 rfl) ?_
              refine tl_14 E hK hT (j := b) (by omega) d_Tw_atHome_170 ?_
              refine wn_eq (y := g 14 b) (by simp [up2, upd, snd]) ?_
              refine ts_14 E hK hT hS (j := b) (by omega) d_Tw_atHome_171 (fun H locs hT hS => ?_)
              refine lv_aload_n hx hb d_Tw_atHome_172 rfl (lv_at hl 1 rfl) ?_
              refine lv_bipush (v := 7) hx hb d_Tw_atHome_173 (by decide) ?_
              refine lv_iconst (v := 4) hx hb d_Tw_atHome_175 (by decide) ?_
              refine lv_iload_n hx hb d_Tw_atHome_176 rfl (lv_at hl 3 rfl) ?_
              refine lv_iload_n hx hb d_Tw_atHome_177 rfl (lv_at hl 4 rfl) ?_
              refine lv_iconst (v := 0) hx hb d_Tw_atHome_178 (by decide) ?_
              refine lv_iconst (v := 0) hx hb d_Tw_atHome_179 (by decide) ?_
              refine lv_iconst (v := (-1)) hx hb d_Tw_atHome_180 (by decide) ?_
              refine t_callv (As := [.int 7, .int 4, .int (nI r), .int (nI b), .int 0, .int 0, .int (-1)]) (rest := []) E hK ⟨K, hT, hk⟩ hS (c_Tw_send l D dA ad A (up2 (up2 g 16 (4 * b + r) 0) 14 b (g 14 b)) M 7 4 (nI r) (nI b) 0 0 (-1) (7, 4, r, b, 0, 0, 0) ⟨rfl, rfl, rfl, rfl, rfl, rfl, rq_0.symm⟩ (by first | omega | (simp; omega))) ck_Tw_97 ⟨rfl, rfl⟩ ⟨Nat.le_of_ble_eq_true rfl, Nat.le_of_ble_eq_true rfl⟩ rfl (lv_sub hl [] rfl) rfl (Nat.le_of_ble_eq_true rfl) ⟨Nat.zero_le _, Nat.zero_le _⟩ d_Tw_atHome_181 (fun H locs hT hS => ?_)
              obtain ⟨K, hT, hk⟩ := hT
              have eG : s_ahG g kd r b v = snd (up2 (up2 g 16 (4 * b + r) 0) 14 b (g 14 b)) := by simp [s_ahG, h1, h2, h3, h4, h5, h6, h7]
              have eM : M ++ s_ahQ g kd r b = M ++ [(7, 4, r, b, 0, 0, 0)] := by simp [s_ahQ, h1, h2, h3, h4, h5, h6, h7]
              rw [eG, eM]
              exact t_vret E ⟨K, hT, hk⟩ hS d_Tw_atHome_184
            · replace h7 := (nI_eq (a := s_shr (up2 g 16 (4 * b + r) 0) b 0 4) (b := 0) (by omega) (by omega)).mp h7
              refine lv_iconst (v := 0) hx hb d_Tw_atHome_161 (by decide) ?_
              refine lv_goto (tgt := 171) hx hb d_Tw_atHome_162 (by decide) ?_
              refine ts_14 E hK hT hS (j := b) (by omega) d_Tw_atHome_171 (fun H locs hT hS => ?_)
              refine lv_aload_n hx hb d_Tw_atHome_172 rfl (lv_at hl 1 rfl) ?_
              refine lv_bipush (v := 7) hx hb d_Tw_atHome_173 (by decide) ?_
              refine lv_iconst (v := 4) hx hb d_Tw_atHome_175 (by decide) ?_
              refine lv_iload_n hx hb d_Tw_atHome_176 rfl (lv_at hl 3 rfl) ?_
              refine lv_iload_n hx hb d_Tw_atHome_177 rfl (lv_at hl 4 rfl) ?_
              refine lv_iconst (v := 0) hx hb d_Tw_atHome_178 (by decide) ?_
              refine lv_iconst (v := 0) hx hb d_Tw_atHome_179 (by decide) ?_
              refine lv_iconst (v := (-1)) hx hb d_Tw_atHome_180 (by decide) ?_
              refine t_callv (As := [.int 7, .int 4, .int (nI r), .int (nI b), .int 0, .int 0, .int (-1)]) (rest := []) E hK ⟨K, hT, hk⟩ hS (c_Tw_send l D dA ad A (up2 (up2 g 16 (4 * b + r) 0) 14 b 0) M 7 4 (nI r) (nI b) 0 0 (-1) (7, 4, r, b, 0, 0, 0) ⟨rfl, rfl, rfl, rfl, rfl, rfl, rq_0.symm⟩ (by first | omega | (simp; omega))) ck_Tw_97 ⟨rfl, rfl⟩ ⟨Nat.le_of_ble_eq_true rfl, Nat.le_of_ble_eq_true rfl⟩ rfl (lv_sub hl [] rfl) rfl (Nat.le_of_ble_eq_true rfl) ⟨Nat.zero_le _, Nat.zero_le _⟩ d_Tw_atHome_181 (fun H locs hT hS => ?_)
              obtain ⟨K, hT, hk⟩ := hT
              have eG : s_ahG g kd r b v = snd (up2 (up2 g 16 (4 * b + r) 0) 14 b 0) := by simp [s_ahG, h1, h2, h3, h4, h5, h6, h7]
              have eM : M ++ s_ahQ g kd r b = M ++ [(7, 4, r, b, 0, 0, 0)] := by simp [s_ahQ, h1, h2, h3, h4, h5, h6, h7]
              rw [eG, eM]
              exact t_vret E ⟨K, hT, hk⟩ hS d_Tw_atHome_184
        · replace h4 := (nI_eq (a := kd) (b := 3) (by omega) (by omega)).mp h4
          refine lv_aload_n hx hb d_Tw_atHome_69 rfl (lv_at hl 0 rfl) ?_
          refine tg_14 E hK hT d_Tw_atHome_70 ?_
          refine lv_iload_n hx hb d_Tw_atHome_73 rfl (lv_at hl 3 rfl) ?_
          refine tl_14 E hK hT (j := b) (by omega) d_Tw_atHome_74 ?_
          refine lv_iconst (v := 2) hx hb d_Tw_atHome_75 (by decide) ?_
          refine lv_icmp_ne (tgt := 93) hx hb d_Tw_atHome_76 (by decide) (fun h8 => ?_) (fun h8 => ?_)
          · refine lv_iconst (v := 0) hx hb d_Tw_atHome_93 (by decide) ?_
            refine lv_istore (lv' := [(5, .int 0), (0, .ref (ad 0)), (1, .int (nI kd)), (2, .int (nI r)), (3, .int (nI b)), (4, .int v)]) hx hb d_Tw_atHome_94 hl (by decide) rfl (fun ls hl => ?_)
            refine lv_iload hx hb d_Tw_atHome_96 (lv_at hl 0 rfl) ?_
            refine lv_if_eq (tgt := 126) hx hb d_Tw_atHome_98 (by decide) (fun h9 => ?_) (fun h9 => absurd (by decide) h9)
            refine lv_aload_n hx hb d_Tw_atHome_126 rfl (lv_at hl 1 rfl) ?_
            refine tg_16 E hK hT d_Tw_atHome_127 ?_
            refine lv_iconst (v := 4) hx hb d_Tw_atHome_130 (by decide) ?_
            refine lv_iload_n hx hb d_Tw_atHome_131 rfl (lv_at hl 4 rfl) ?_
            refine wn_mul hx hb (a := 4) (b := b) d_Tw_atHome_132 ?_
            refine lv_iload_n hx hb d_Tw_atHome_133 rfl (lv_at hl 3 rfl) ?_
            refine wn_add hx hb (a := 4 * b) (b := r) d_Tw_atHome_134 ?_
            refine lv_iconst (v := 0) hx hb d_Tw_atHome_135 (by decide) ?_
            refine ts_16 E hK hT hS (j := 4 * b + r) (by decide) (by omega) d_Tw_atHome_136 (fun H locs hT hS => ?_)
            refine lv_aload_n hx hb d_Tw_atHome_137 rfl (lv_at hl 1 rfl) ?_
            refine tg_14 E hK hT d_Tw_atHome_138 ?_
            refine lv_iload_n hx hb d_Tw_atHome_141 rfl (lv_at hl 4 rfl) ?_
            refine lv_aload_n hx hb d_Tw_atHome_142 rfl (lv_at hl 1 rfl) ?_
            refine tg_14 E hK hT d_Tw_atHome_143 ?_
            refine lv_iload_n hx hb d_Tw_atHome_146 rfl (lv_at hl 4 rfl) ?_
            refine tl_14 E hK hT (j := b) (by omega) d_Tw_atHome_147 ?_
            refine wn_eq (y := g 14 b) (by simp [up2, upd, snd]) ?_
            refine lv_iconst (v := 1) hx hb d_Tw_atHome_148 (by decide) ?_
            refine lv_icmp_ne (tgt := 165) hx hb d_Tw_atHome_149 (by decide) (fun h10 => ?_) (fun h10 => ?_)
            · refine lv_aload_n hx hb d_Tw_atHome_165 rfl (lv_at hl 1 rfl) ?_
              refine tg_14 E hK hT d_Tw_atHome_166 ?_
              refine lv_iload_n hx hb d_Tw_atHome_169 rfl (lv_at hl 4 rfl) ?_
              refine tl_14 E hK hT (j := b) (by omega) d_Tw_atHome_170 ?_
              refine wn_eq (y := g 14 b) (by simp [up2, upd, snd]) ?_
              refine ts_14 E hK hT hS (j := b) (by omega) d_Tw_atHome_171 (fun H locs hT hS => ?_)
              refine lv_aload_n hx hb d_Tw_atHome_172 rfl (lv_at hl 1 rfl) ?_
              refine lv_bipush (v := 7) hx hb d_Tw_atHome_173 (by decide) ?_
              refine lv_iconst (v := 4) hx hb d_Tw_atHome_175 (by decide) ?_
              refine lv_iload_n hx hb d_Tw_atHome_176 rfl (lv_at hl 3 rfl) ?_
              refine lv_iload_n hx hb d_Tw_atHome_177 rfl (lv_at hl 4 rfl) ?_
              refine lv_iconst (v := 0) hx hb d_Tw_atHome_178 (by decide) ?_
              refine lv_iconst (v := 0) hx hb d_Tw_atHome_179 (by decide) ?_
              refine lv_iconst (v := (-1)) hx hb d_Tw_atHome_180 (by decide) ?_
              refine t_callv (As := [.int 7, .int 4, .int (nI r), .int (nI b), .int 0, .int 0, .int (-1)]) (rest := []) E hK ⟨K, hT, hk⟩ hS (c_Tw_send l D dA ad A (up2 (up2 g 16 (4 * b + r) 0) 14 b (g 14 b)) M 7 4 (nI r) (nI b) 0 0 (-1) (7, 4, r, b, 0, 0, 0) ⟨rfl, rfl, rfl, rfl, rfl, rfl, rq_0.symm⟩ (by first | omega | (simp; omega))) ck_Tw_97 ⟨rfl, rfl⟩ ⟨Nat.le_of_ble_eq_true rfl, Nat.le_of_ble_eq_true rfl⟩ rfl (lv_sub hl [] rfl) rfl (Nat.le_of_ble_eq_true rfl) ⟨Nat.zero_le _, Nat.zero_le _⟩ d_Tw_atHome_181 (fun H locs hT hS => ?_)
              obtain ⟨K, hT, hk⟩ := hT
              have eG : s_ahG g kd r b v = snd (up2 (up2 g 16 (4 * b + r) 0) 14 b (g 14 b)) := by simp [s_ahG, h1, h2, h3, h4, h8, h9, h10]
              have eM : M ++ s_ahQ g kd r b = M ++ [(7, 4, r, b, 0, 0, 0)] := by simp [s_ahQ, h1, h2, h3, h4, h8, h9, h10]
              rw [eG, eM]
              exact t_vret E ⟨K, hT, hk⟩ hS d_Tw_atHome_184
            · refine lv_aload_n hx hb d_Tw_atHome_152 rfl (lv_at hl 1 rfl) ?_
              refine lv_iload_n hx hb d_Tw_atHome_153 rfl (lv_at hl 4 rfl) ?_
              refine lv_iconst (v := (-1)) hx hb d_Tw_atHome_154 (by decide) ?_
              refine t_callR (As := [.int (nI b), .int (-1)]) (rest := [.int (nI b), .ref (ad 14)]) E hK ⟨K, hT, hk⟩ (c_Tw_sharers l D dA ad A (up2 g 16 (4 * b + r) 0) M b (-1) 0 hb4 (by omega) rq_0.symm) ck_Tw_157 ⟨rfl, rfl⟩ ⟨Nat.le_of_ble_eq_true rfl, Nat.le_of_ble_eq_true rfl⟩ rfl (lv_sub hl [] rfl) rfl (Nat.le_of_ble_eq_true rfl) ⟨Nat.zero_le _, Nat.zero_le _⟩ d_Tw_atHome_155 ?_
              refine lv_if_ne (tgt := 165) hx hb d_Tw_atHome_158 (by decide) (fun h11 => ?_) (fun h11 => ?_)
              · replace h11 := (not_congr (nI_eq (a := s_shr (up2 g 16 (4 * b + r) 0) b 0 4) (b := 0) (by omega) (by omega))).mp h11
                refine lv_aload_n hx hb d_Tw_atHome_165 rfl (lv_at hl 1 rfl) ?_
                refine tg_14 E hK hT d_Tw_atHome_166 ?_
                refine lv_iload_n hx hb d_Tw_atHome_169 rfl (lv_at hl 4 rfl) ?_
                refine tl_14 E hK hT (j := b) (by omega) d_Tw_atHome_170 ?_
                refine wn_eq (y := g 14 b) (by simp [up2, upd, snd]) ?_
                refine ts_14 E hK hT hS (j := b) (by omega) d_Tw_atHome_171 (fun H locs hT hS => ?_)
                refine lv_aload_n hx hb d_Tw_atHome_172 rfl (lv_at hl 1 rfl) ?_
                refine lv_bipush (v := 7) hx hb d_Tw_atHome_173 (by decide) ?_
                refine lv_iconst (v := 4) hx hb d_Tw_atHome_175 (by decide) ?_
                refine lv_iload_n hx hb d_Tw_atHome_176 rfl (lv_at hl 3 rfl) ?_
                refine lv_iload_n hx hb d_Tw_atHome_177 rfl (lv_at hl 4 rfl) ?_
                refine lv_iconst (v := 0) hx hb d_Tw_atHome_178 (by decide) ?_
                refine lv_iconst (v := 0) hx hb d_Tw_atHome_179 (by decide) ?_
                refine lv_iconst (v := (-1)) hx hb d_Tw_atHome_180 (by decide) ?_
                refine t_callv (As := [.int 7, .int 4, .int (nI r), .int (nI b), .int 0, .int 0, .int (-1)]) (rest := []) E hK ⟨K, hT, hk⟩ hS (c_Tw_send l D dA ad A (up2 (up2 g 16 (4 * b + r) 0) 14 b (g 14 b)) M 7 4 (nI r) (nI b) 0 0 (-1) (7, 4, r, b, 0, 0, 0) ⟨rfl, rfl, rfl, rfl, rfl, rfl, rq_0.symm⟩ (by first | omega | (simp; omega))) ck_Tw_97 ⟨rfl, rfl⟩ ⟨Nat.le_of_ble_eq_true rfl, Nat.le_of_ble_eq_true rfl⟩ rfl (lv_sub hl [] rfl) rfl (Nat.le_of_ble_eq_true rfl) ⟨Nat.zero_le _, Nat.zero_le _⟩ d_Tw_atHome_181 (fun H locs hT hS => ?_)
                obtain ⟨K, hT, hk⟩ := hT
                have eG : s_ahG g kd r b v = snd (up2 (up2 g 16 (4 * b + r) 0) 14 b (g 14 b)) := by simp [s_ahG, h1, h2, h3, h4, h8, h9, h10, h11]
                have eM : M ++ s_ahQ g kd r b = M ++ [(7, 4, r, b, 0, 0, 0)] := by simp [s_ahQ, h1, h2, h3, h4, h8, h9, h10, h11]
                rw [eG, eM]
                exact t_vret E ⟨K, hT, hk⟩ hS d_Tw_atHome_184
              · replace h11 := (nI_eq (a := s_shr (up2 g 16 (4 * b + r) 0) b 0 4) (b := 0) (by omega) (by omega)).mp h11
                refine lv_iconst (v := 0) hx hb d_Tw_atHome_161 (by decide) ?_
                refine lv_goto (tgt := 171) hx hb d_Tw_atHome_162 (by decide) ?_
                refine ts_14 E hK hT hS (j := b) (by omega) d_Tw_atHome_171 (fun H locs hT hS => ?_)
                refine lv_aload_n hx hb d_Tw_atHome_172 rfl (lv_at hl 1 rfl) ?_
                refine lv_bipush (v := 7) hx hb d_Tw_atHome_173 (by decide) ?_
                refine lv_iconst (v := 4) hx hb d_Tw_atHome_175 (by decide) ?_
                refine lv_iload_n hx hb d_Tw_atHome_176 rfl (lv_at hl 3 rfl) ?_
                refine lv_iload_n hx hb d_Tw_atHome_177 rfl (lv_at hl 4 rfl) ?_
                refine lv_iconst (v := 0) hx hb d_Tw_atHome_178 (by decide) ?_
                refine lv_iconst (v := 0) hx hb d_Tw_atHome_179 (by decide) ?_
                refine lv_iconst (v := (-1)) hx hb d_Tw_atHome_180 (by decide) ?_
                refine t_callv (As := [.int 7, .int 4, .int (nI r), .int (nI b), .int 0, .int 0, .int (-1)]) (rest := []) E hK ⟨K, hT, hk⟩ hS (c_Tw_send l D dA ad A (up2 (up2 g 16 (4 * b + r) 0) 14 b 0) M 7 4 (nI r) (nI b) 0 0 (-1) (7, 4, r, b, 0, 0, 0) ⟨rfl, rfl, rfl, rfl, rfl, rfl, rq_0.symm⟩ (by first | omega | (simp; omega))) ck_Tw_97 ⟨rfl, rfl⟩ ⟨Nat.le_of_ble_eq_true rfl, Nat.le_of_ble_eq_true rfl⟩ rfl (lv_sub hl [] rfl) rfl (Nat.le_of_ble_eq_true rfl) ⟨Nat.zero_le _, Nat.zero_le _⟩ d_Tw_atHome_181 (fun H locs hT hS => ?_)
                obtain ⟨K, hT, hk⟩ := hT
                have eG : s_ahG g kd r b v = snd (up2 (up2 g 16 (4 * b + r) 0) 14 b 0) := by simp [s_ahG, h1, h2, h3, h4, h8, h9, h10, h11]
                have eM : M ++ s_ahQ g kd r b = M ++ [(7, 4, r, b, 0, 0, 0)] := by simp [s_ahQ, h1, h2, h3, h4, h8, h9, h10, h11]
                rw [eG, eM]
                exact t_vret E ⟨K, hT, hk⟩ hS d_Tw_atHome_184
          · refine lv_aload_n hx hb d_Tw_atHome_79 rfl (lv_at hl 0 rfl) ?_
            refine tg_15 E hK hT d_Tw_atHome_80 ?_
            refine lv_iload_n hx hb d_Tw_atHome_83 rfl (lv_at hl 3 rfl) ?_
            refine tl_15 E hK hT (j := b) (by omega) d_Tw_atHome_84 ?_
            refine lv_iload_n hx hb d_Tw_atHome_85 rfl (lv_at hl 2 rfl) ?_
            refine lv_icmp_ne (tgt := 93) hx hb d_Tw_atHome_86 (by decide) (fun h12 => ?_) (fun h12 => ?_)
            · refine lv_iconst (v := 0) hx hb d_Tw_atHome_93 (by decide) ?_
              refine lv_istore (lv' := [(5, .int 0), (0, .ref (ad 0)), (1, .int (nI kd)), (2, .int (nI r)), (3, .int (nI b)), (4, .int v)]) hx hb d_Tw_atHome_94 hl (by decide) rfl (fun ls hl => ?_)
              refine lv_iload hx hb d_Tw_atHome_96 (lv_at hl 0 rfl) ?_
              refine lv_if_eq (tgt := 126) hx hb d_Tw_atHome_98 (by decide) (fun h13 => ?_) (fun h13 => absurd (by decide) h13)
              refine lv_aload_n hx hb d_Tw_atHome_126 rfl (lv_at hl 1 rfl) ?_
              refine tg_16 E hK hT d_Tw_atHome_127 ?_
              refine lv_iconst (v := 4) hx hb d_Tw_atHome_130 (by decide) ?_
              refine lv_iload_n hx hb d_Tw_atHome_131 rfl (lv_at hl 4 rfl) ?_
              refine wn_mul hx hb (a := 4) (b := b) d_Tw_atHome_132 ?_
              refine lv_iload_n hx hb d_Tw_atHome_133 rfl (lv_at hl 3 rfl) ?_
              refine wn_add hx hb (a := 4 * b) (b := r) d_Tw_atHome_134 ?_
              refine lv_iconst (v := 0) hx hb d_Tw_atHome_135 (by decide) ?_
              refine ts_16 E hK hT hS (j := 4 * b + r) (by decide) (by omega) d_Tw_atHome_136 (fun H locs hT hS => ?_)
              refine lv_aload_n hx hb d_Tw_atHome_137 rfl (lv_at hl 1 rfl) ?_
              refine tg_14 E hK hT d_Tw_atHome_138 ?_
              refine lv_iload_n hx hb d_Tw_atHome_141 rfl (lv_at hl 4 rfl) ?_
              refine lv_aload_n hx hb d_Tw_atHome_142 rfl (lv_at hl 1 rfl) ?_
              refine tg_14 E hK hT d_Tw_atHome_143 ?_
              refine lv_iload_n hx hb d_Tw_atHome_146 rfl (lv_at hl 4 rfl) ?_
              refine tl_14 E hK hT (j := b) (by omega) d_Tw_atHome_147 ?_
              refine wn_eq (y := g 14 b) (by simp [up2, upd, snd]) ?_
              refine lv_iconst (v := 1) hx hb d_Tw_atHome_148 (by decide) ?_
              refine lv_icmp_ne (tgt := 165) hx hb d_Tw_atHome_149 (by decide) (fun h14 => ?_) (fun h14 => absurd h14 (by rw [h8]; decide))
              refine lv_aload_n hx hb d_Tw_atHome_165 rfl (lv_at hl 1 rfl) ?_
              refine tg_14 E hK hT d_Tw_atHome_166 ?_
              refine lv_iload_n hx hb d_Tw_atHome_169 rfl (lv_at hl 4 rfl) ?_
              refine tl_14 E hK hT (j := b) (by omega) d_Tw_atHome_170 ?_
              refine wn_eq (y := g 14 b) (by simp [up2, upd, snd]) ?_
              refine ts_14 E hK hT hS (j := b) (by omega) d_Tw_atHome_171 (fun H locs hT hS => ?_)
              refine lv_aload_n hx hb d_Tw_atHome_172 rfl (lv_at hl 1 rfl) ?_
              refine lv_bipush (v := 7) hx hb d_Tw_atHome_173 (by decide) ?_
              refine lv_iconst (v := 4) hx hb d_Tw_atHome_175 (by decide) ?_
              refine lv_iload_n hx hb d_Tw_atHome_176 rfl (lv_at hl 3 rfl) ?_
              refine lv_iload_n hx hb d_Tw_atHome_177 rfl (lv_at hl 4 rfl) ?_
              refine lv_iconst (v := 0) hx hb d_Tw_atHome_178 (by decide) ?_
              refine lv_iconst (v := 0) hx hb d_Tw_atHome_179 (by decide) ?_
              refine lv_iconst (v := (-1)) hx hb d_Tw_atHome_180 (by decide) ?_
              refine t_callv (As := [.int 7, .int 4, .int (nI r), .int (nI b), .int 0, .int 0, .int (-1)]) (rest := []) E hK ⟨K, hT, hk⟩ hS (c_Tw_send l D dA ad A (up2 (up2 g 16 (4 * b + r) 0) 14 b (g 14 b)) M 7 4 (nI r) (nI b) 0 0 (-1) (7, 4, r, b, 0, 0, 0) ⟨rfl, rfl, rfl, rfl, rfl, rfl, rq_0.symm⟩ (by first | omega | (simp; omega))) ck_Tw_97 ⟨rfl, rfl⟩ ⟨Nat.le_of_ble_eq_true rfl, Nat.le_of_ble_eq_true rfl⟩ rfl (lv_sub hl [] rfl) rfl (Nat.le_of_ble_eq_true rfl) ⟨Nat.zero_le _, Nat.zero_le _⟩ d_Tw_atHome_181 (fun H locs hT hS => ?_)
              obtain ⟨K, hT, hk⟩ := hT
              have eG : s_ahG g kd r b v = snd (up2 (up2 g 16 (4 * b + r) 0) 14 b (g 14 b)) := by simp [s_ahG, h1, h2, h3, h4, h8, h12, h13, h14]
              have eM : M ++ s_ahQ g kd r b = M ++ [(7, 4, r, b, 0, 0, 0)] := by simp [s_ahQ, h1, h2, h3, h4, h8, h12, h13, h14]
              rw [eG, eM]
              exact t_vret E ⟨K, hT, hk⟩ hS d_Tw_atHome_184
            · refine lv_iconst (v := 1) hx hb d_Tw_atHome_89 (by decide) ?_
              refine lv_goto (tgt := 94) hx hb d_Tw_atHome_90 (by decide) ?_
              refine lv_istore (lv' := [(5, .int 1), (0, .ref (ad 0)), (1, .int (nI kd)), (2, .int (nI r)), (3, .int (nI b)), (4, .int v)]) hx hb d_Tw_atHome_94 hl (by decide) rfl (fun ls hl => ?_)
              refine lv_iload hx hb d_Tw_atHome_96 (lv_at hl 0 rfl) ?_
              refine lv_if_eq (tgt := 126) hx hb d_Tw_atHome_98 (by decide) (fun h15 => absurd h15 (by decide)) (fun h15 => ?_)
              refine lv_aload_n hx hb d_Tw_atHome_101 rfl (lv_at hl 1 rfl) ?_
              refine tg_13 E hK hT d_Tw_atHome_102 ?_
              refine lv_iload_n hx hb d_Tw_atHome_105 rfl (lv_at hl 4 rfl) ?_
              refine lv_iload hx hb d_Tw_atHome_106 (lv_at hl 5 rfl) ?_
              refine ts_13 E hK hT hS (j := b) (by omega) d_Tw_atHome_108 (fun H locs hT hS => ?_)
              refine lv_aload_n hx hb d_Tw_atHome_109 rfl (lv_at hl 1 rfl) ?_
              refine tg_15 E hK hT d_Tw_atHome_110 ?_
              refine lv_iload_n hx hb d_Tw_atHome_113 rfl (lv_at hl 4 rfl) ?_
              refine lv_iconst (v := (-1)) hx hb d_Tw_atHome_114 (by decide) ?_
              refine ts_15 E hK hT hS (j := b) (by omega) d_Tw_atHome_115 (fun H locs hT hS => ?_)
              refine lv_aload_n hx hb d_Tw_atHome_116 rfl (lv_at hl 1 rfl) ?_
              refine tg_14 E hK hT d_Tw_atHome_117 ?_
              refine lv_iload_n hx hb d_Tw_atHome_120 rfl (lv_at hl 4 rfl) ?_
              refine lv_iconst (v := 0) hx hb d_Tw_atHome_121 (by decide) ?_
              refine ts_14 E hK hT hS (j := b) (by omega) d_Tw_atHome_122 (fun H locs hT hS => ?_)
              refine lv_goto (tgt := 172) hx hb d_Tw_atHome_123 (by decide) ?_
              refine lv_aload_n hx hb d_Tw_atHome_172 rfl (lv_at hl 1 rfl) ?_
              refine lv_bipush (v := 7) hx hb d_Tw_atHome_173 (by decide) ?_
              refine lv_iconst (v := 4) hx hb d_Tw_atHome_175 (by decide) ?_
              refine lv_iload_n hx hb d_Tw_atHome_176 rfl (lv_at hl 3 rfl) ?_
              refine lv_iload_n hx hb d_Tw_atHome_177 rfl (lv_at hl 4 rfl) ?_
              refine lv_iconst (v := 0) hx hb d_Tw_atHome_178 (by decide) ?_
              refine lv_iconst (v := 0) hx hb d_Tw_atHome_179 (by decide) ?_
              refine lv_iconst (v := (-1)) hx hb d_Tw_atHome_180 (by decide) ?_
              refine t_callv (As := [.int 7, .int 4, .int (nI r), .int (nI b), .int 0, .int 0, .int (-1)]) (rest := []) E hK ⟨K, hT, hk⟩ hS (c_Tw_send l D dA ad A (up2 (up2 (up2 g 13 b v) 15 b (-1)) 14 b 0) M 7 4 (nI r) (nI b) 0 0 (-1) (7, 4, r, b, 0, 0, 0) ⟨rfl, rfl, rfl, rfl, rfl, rfl, rq_0.symm⟩ (by first | omega | (simp; omega))) ck_Tw_97 ⟨rfl, rfl⟩ ⟨Nat.le_of_ble_eq_true rfl, Nat.le_of_ble_eq_true rfl⟩ rfl (lv_sub hl [] rfl) rfl (Nat.le_of_ble_eq_true rfl) ⟨Nat.zero_le _, Nat.zero_le _⟩ d_Tw_atHome_181 (fun H locs hT hS => ?_)
              obtain ⟨K, hT, hk⟩ := hT
              have eG : s_ahG g kd r b v = snd (up2 (up2 (up2 g 13 b v) 15 b (-1)) 14 b 0) := by simp [s_ahG, h1, h2, h3, h4, h8, h12, h15]
              have eM : M ++ s_ahQ g kd r b = M ++ [(7, 4, r, b, 0, 0, 0)] := by simp [s_ahQ, h1, h2, h3, h4, h8, h12, h15]
              rw [eG, eM]
              exact t_vret E ⟨K, hT, hk⟩ hS d_Tw_atHome_184
      · replace h3 := (nI_eq (a := kd) (b := 8) (by omega) (by omega)).mp h3
        refine lv_aload_n hx hb d_Tw_atHome_33 rfl (lv_at hl 0 rfl) ?_
        refine tg_13 E hK hT d_Tw_atHome_34 ?_
        refine lv_iload_n hx hb d_Tw_atHome_37 rfl (lv_at hl 3 rfl) ?_
        refine lv_iload hx hb d_Tw_atHome_38 (lv_at hl 4 rfl) ?_
        refine ts_13 E hK hT hS (j := b) (by omega) d_Tw_atHome_40 (fun H locs hT hS => ?_)
        refine lv_aload_n hx hb d_Tw_atHome_41 rfl (lv_at hl 0 rfl) ?_
        refine tg_14 E hK hT d_Tw_atHome_42 ?_
        refine lv_iload_n hx hb d_Tw_atHome_45 rfl (lv_at hl 3 rfl) ?_
        refine lv_aload_n hx hb d_Tw_atHome_46 rfl (lv_at hl 0 rfl) ?_
        refine lv_iload_n hx hb d_Tw_atHome_47 rfl (lv_at hl 3 rfl) ?_
        refine lv_iconst (v := (-1)) hx hb d_Tw_atHome_48 (by decide) ?_
        refine t_callR (As := [.int (nI b), .int (-1)]) (rest := [.int (nI b), .ref (ad 14)]) E hK ⟨K, hT, hk⟩ (c_Tw_sharers l D dA ad A (up2 g 13 b v) M b (-1) 0 hb4 (by omega) rq_0.symm) ck_Tw_157 ⟨rfl, rfl⟩ ⟨Nat.le_of_ble_eq_true rfl, Nat.le_of_ble_eq_true rfl⟩ rfl (lv_sub hl [] rfl) rfl (Nat.le_of_ble_eq_true rfl) ⟨Nat.zero_le _, Nat.zero_le _⟩ d_Tw_atHome_49 ?_
        refine wn_eq (y := nI (s_shr g b 0 4)) (congrArg nI (s_shr_c (g := up2 g 13 b v) (g' := g) rfl b 0 4)) ?_
        refine lv_if_ne (tgt := 59) hx hb d_Tw_atHome_52 (by decide) (fun h16 => ?_) (fun h16 => ?_)
        · replace h16 := (not_congr (nI_eq (a := s_shr g b 0 4) (b := 0) (by omega) (by omega))).mp h16
          refine lv_iconst (v := 1) hx hb d_Tw_atHome_59 (by decide) ?_
          refine ts_14 E hK hT hS (j := b) (by omega) d_Tw_atHome_60 (fun H locs hT hS => ?_)
          refine lv_goto (tgt := 184) hx hb d_Tw_atHome_61 (by decide) ?_
          have eG : s_ahG g kd r b v = up2 (up2 g 13 b v) 14 b 1 := by simp [s_ahG, h1, h2, h3, h16]
          have eM : M ++ s_ahQ g kd r b = M := by simp [s_ahQ, h1, h2, h3, h16]
          rw [eG, eM]
          exact t_vret E ⟨K, hT, hk⟩ hS d_Tw_atHome_184
        · replace h16 := (nI_eq (a := s_shr g b 0 4) (b := 0) (by omega) (by omega)).mp h16
          refine lv_iconst (v := 0) hx hb d_Tw_atHome_55 (by decide) ?_
          refine lv_goto (tgt := 60) hx hb d_Tw_atHome_56 (by decide) ?_
          refine ts_14 E hK hT hS (j := b) (by omega) d_Tw_atHome_60 (fun H locs hT hS => ?_)
          refine lv_goto (tgt := 184) hx hb d_Tw_atHome_61 (by decide) ?_
          have eG : s_ahG g kd r b v = up2 (up2 g 13 b v) 14 b 0 := by simp [s_ahG, h1, h2, h3, h16]
          have eM : M ++ s_ahQ g kd r b = M := by simp [s_ahQ, h1, h2, h3, h16]
          rw [eG, eM]
          exact t_vret E ⟨K, hT, hk⟩ hS d_Tw_atHome_184
    · replace h2 := (nI_eq (a := kd) (b := 1) (by omega) (by omega)).mp h2
      refine lv_aload_n hx hb d_Tw_atHome_18 rfl (lv_at hl 0 rfl) ?_
      refine lv_iload_n hx hb d_Tw_atHome_19 rfl (lv_at hl 2 rfl) ?_
      refine lv_iload_n hx hb d_Tw_atHome_20 rfl (lv_at hl 3 rfl) ?_
      refine t_callv (As := [.int (nI r), .int (nI b)]) (rest := []) E hK ⟨K, hT, hk⟩ hS (c_Tw_getm l D dA ad A g M r b hr hb4 ho (by omega)) ck_Tw_154 ⟨rfl, rfl⟩ ⟨Nat.le_of_ble_eq_true rfl, Nat.le_of_ble_eq_true rfl⟩ rfl (lv_sub hl [] rfl) rfl (Nat.le_of_ble_eq_true rfl) ⟨Nat.zero_le _, Nat.zero_le _⟩ d_Tw_atHome_21 (fun H locs hT hS => ?_)
      obtain ⟨K, hT, hk⟩ := hT
      refine lv_goto (tgt := 184) hx hb d_Tw_atHome_24 (by decide) ?_
      have eG : s_ahG g kd r b v = s_getmG g r b := by simp [s_ahG, h1, h2]
      have eM : M ++ s_ahQ g kd r b = M ++ s_getmQ g r b := by simp [s_ahQ, h1, h2]
      rw [eG, eM]
      exact t_vret E ⟨K, hT, hk⟩ hS d_Tw_atHome_184
  · replace h1 := (nI_eq (a := kd) (b := 0) (by omega) (by omega)).mp h1
    refine lv_aload_n hx hb d_Tw_atHome_4 rfl (lv_at hl 0 rfl) ?_
    refine lv_iload_n hx hb d_Tw_atHome_5 rfl (lv_at hl 2 rfl) ?_
    refine lv_iload_n hx hb d_Tw_atHome_6 rfl (lv_at hl 3 rfl) ?_
    refine t_callv (As := [.int (nI r), .int (nI b)]) (rest := []) E hK ⟨K, hT, hk⟩ hS (c_Tw_gets l D dA ad A g M r b hr hb4 ho (by omega)) ck_Tw_151 ⟨rfl, rfl⟩ ⟨Nat.le_of_ble_eq_true rfl, Nat.le_of_ble_eq_true rfl⟩ rfl (lv_sub hl [] rfl) rfl (Nat.le_of_ble_eq_true rfl) ⟨Nat.zero_le _, Nat.zero_le _⟩ d_Tw_atHome_7 (fun H locs hT hS => ?_)
    obtain ⟨K, hT, hk⟩ := hT
    refine lv_goto (tgt := 184) hx hb d_Tw_atHome_10 (by decide) ?_
    have eG : s_ahG g kd r b v = s_getsG g r b := by simp [s_ahG, h1]
    have eM : M ++ s_ahQ g kd r b = M ++ [s_getsQ g r b] := by simp [s_ahQ, h1]
    rw [eG, eM]
    exact t_vret E ⟨K, hT, hk⟩ hS d_Tw_atHome_184
set_option maxHeartbeats 4000000 in
set_option maxRecDepth 100000 in
theorem c_Tw_atCore (l : Launch) (D : va_G) (dA : Nat → ClassId) (ad : Nat → Nat) (A : Nat → Prop) (g : PS) (M : List Msg) (kd c b : Nat) (v : Int32) (nb aq : Nat) (hkd : kd < 10) (hc : c < 4) (hb4 : b < 4) (ha : kd = 4 ∨ kd = 5 ∨ kd = 6 → ∃ a, a < 4 ∧ aq = a + 1) (hM : M.length < 60) : Met l y_Tw_atCore (k_Tw_atCore :: wz) (rml 2 0 0) (va_Pc [.ref (ad 0), .int (nI kd), .int (nI c), .int (nI b), .int v, .int (nI nb), .int (rq aq)] (PT D dA ad A g M)) (TQv D dA ad A (s_acG g kd c b v nb) (M ++ s_acQ g kd c b aq)) 0 0 A := by
  refine tw_entry (by decide) (Nat.le_of_ble_eq_true rfl) ?_
  intro p e s m below meth c0 E hK hT ls hl
  have hT0 := hT
  obtain ⟨K, hT, hk⟩ := hT
  have hx := E.1
  have hb := E.2.1
  have hS : va_S A s.heap s.heap [] := va_S.rf
  replace hl : lv_has ls 10 [(0, .ref (ad 0)), (1, .int (nI kd)), (2, .int (nI c)), (3, .int (nI b)), (4, .int v), (5, .int (nI nb)), (6, .int (rq aq))] := hl
  refine lv_iconst (v := 4) hx hb d_Tw_atCore_0 (by decide) ?_
  refine lv_iload_n hx hb d_Tw_atCore_1 rfl (lv_at hl 2 rfl) ?_
  refine wn_mul hx hb (a := 4) (b := c) d_Tw_atCore_2 ?_
  refine lv_iload_n hx hb d_Tw_atCore_3 rfl (lv_at hl 3 rfl) ?_
  refine wn_add hx hb (a := 4 * c) (b := b) d_Tw_atCore_4 ?_
  refine lv_istore (lv' := [(7, .int (nI (4 * c + b))), (0, .ref (ad 0)), (1, .int (nI kd)), (2, .int (nI c)), (3, .int (nI b)), (4, .int v), (5, .int (nI nb)), (6, .int (rq aq))]) hx hb d_Tw_atCore_5 hl (by decide) rfl (fun ls hl => ?_)
  refine lv_aload_n hx hb d_Tw_atCore_7 rfl (lv_at hl 1 rfl) ?_
  refine tg_8 E hK hT d_Tw_atCore_8 ?_
  refine lv_iload hx hb d_Tw_atCore_11 (lv_at hl 0 rfl) ?_
  refine tl_8 E hK hT (j := 4 * c + b) (by omega) d_Tw_atCore_13 ?_
  refine lv_istore (lv' := [(8, .int (g 8 (4 * c + b))), (7, .int (nI (4 * c + b))), (0, .ref (ad 0)), (1, .int (nI kd)), (2, .int (nI c)), (3, .int (nI b)), (4, .int v), (5, .int (nI nb)), (6, .int (rq aq))]) hx hb d_Tw_atCore_14 hl (by decide) rfl (fun ls hl => ?_)
  refine lv_iload_n hx hb d_Tw_atCore_16 rfl (lv_at hl 3 rfl) ?_
  refine lv_bipush (v := 8) hx hb d_Tw_atCore_17 (by decide) ?_
  refine lv_icmp_ne (tgt := 99) hx hb d_Tw_atCore_19 (by decide) (fun h1 => ?_) (fun h1 => ?_)
  · replace h1 := (not_congr (nI_eq (a := kd) (b := 8) (by omega) (by omega))).mp h1
    refine lv_iload_n hx hb d_Tw_atCore_99 rfl (lv_at hl 3 rfl) ?_
    refine lv_bipush (v := 9) hx hb d_Tw_atCore_100 (by decide) ?_
    refine lv_icmp_ne (tgt := 155) hx hb d_Tw_atCore_102 (by decide) (fun h2 => ?_) (fun h2 => ?_)
    · replace h2 := (not_congr (nI_eq (a := kd) (b := 9) (by omega) (by omega))).mp h2
      refine lv_iload_n hx hb d_Tw_atCore_155 rfl (lv_at hl 3 rfl) ?_
      refine lv_bipush (v := 6) hx hb d_Tw_atCore_156 (by decide) ?_
      refine lv_icmp_ne (tgt := 207) hx hb d_Tw_atCore_158 (by decide) (fun h3 => ?_) (fun h3 => ?_)
      · replace h3 := (not_congr (nI_eq (a := kd) (b := 6) (by omega) (by omega))).mp h3
        refine lv_iload_n hx hb d_Tw_atCore_207 rfl (lv_at hl 3 rfl) ?_
        refine lv_iconst (v := 4) hx hb d_Tw_atCore_208 (by decide) ?_
        refine lv_icmp_ne (tgt := 265) hx hb d_Tw_atCore_209 (by decide) (fun h4 => ?_) (fun h4 => ?_)
        · replace h4 := (not_congr (nI_eq (a := kd) (b := 4) (by omega) (by omega))).mp h4
          refine lv_iload_n hx hb d_Tw_atCore_265 rfl (lv_at hl 3 rfl) ?_
          refine lv_iconst (v := 5) hx hb d_Tw_atCore_266 (by decide) ?_
          refine lv_icmp_ne (tgt := 308) hx hb d_Tw_atCore_267 (by decide) (fun h5 => ?_) (fun h5 => ?_)
          · replace h5 := (not_congr (nI_eq (a := kd) (b := 5) (by omega) (by omega))).mp h5
            refine lv_aload_n hx hb d_Tw_atCore_308 rfl (lv_at hl 2 rfl) ?_
            refine tg_8 E hK hT d_Tw_atCore_309 ?_
            refine lv_iload hx hb d_Tw_atCore_312 (lv_at hl 1 rfl) ?_
            refine lv_iconst (v := 0) hx hb d_Tw_atCore_314 (by decide) ?_
            refine ts_8 E hK hT hS (j := 4 * c + b) (by omega) d_Tw_atCore_315 (fun H locs hT hS => ?_)
            refine lv_aload_n hx hb d_Tw_atCore_316 rfl (lv_at hl 2 rfl) ?_
            refine tg_7 E hK hT d_Tw_atCore_317 ?_
            refine lv_iload_n hx hb d_Tw_atCore_320 rfl (lv_at hl 4 rfl) ?_
            refine lv_iconst (v := 0) hx hb d_Tw_atCore_321 (by decide) ?_
            refine ts_7 E hK hT hS (j := c) (by omega) d_Tw_atCore_322 (fun H locs hT hS => ?_)
            have eG : s_acG g kd c b v nb = up2 (up2 g 8 (4 * c + b) 0) 7 c 0 := by simp [s_acG, h1, h2, h3, h4, h5]
            have eM : M ++ s_acQ g kd c b aq = M := by simp [s_acQ, h1, h2, h3, h4, h5]
            rw [eG, eM]
            exact t_vret E ⟨K, hT, hk⟩ hS d_Tw_atCore_323
          · replace h5 := (nI_eq (a := kd) (b := 5) (by omega) (by omega)).mp h5
            obtain ⟨a, ha4, rfl⟩ := ha (by omega)
            rw [rq_s] at hl
            refine lv_aload_n hx hb d_Tw_atCore_270 rfl (lv_at hl 2 rfl) ?_
            refine lv_iload_n hx hb d_Tw_atCore_271 rfl (lv_at hl 4 rfl) ?_
            refine lv_iload hx hb d_Tw_atCore_272 (lv_at hl 8 rfl) ?_
            refine lv_iload_n hx hb d_Tw_atCore_274 rfl (lv_at hl 5 rfl) ?_
            refine lv_aload_n hx hb d_Tw_atCore_275 rfl (lv_at hl 2 rfl) ?_
            refine tg_9 E hK hT d_Tw_atCore_276 ?_
            refine lv_iload hx hb d_Tw_atCore_279 (lv_at hl 1 rfl) ?_
            refine tl_9 E hK hT (j := 4 * c + b) (by omega) d_Tw_atCore_281 ?_
            refine lv_iconst (v := 0) hx hb d_Tw_atCore_282 (by decide) ?_
            refine t_callv (As := [.int (nI c), .int (nI a), .int (nI b), .int (g 9 (4 * c + b)), .int 0]) (rest := []) E hK ⟨K, hT, hk⟩ hS (c_Tw_data l D dA ad A g M c a b (g 9 (4 * c + b)) 0 (by first | omega | (simp; omega))) ck_Tw_147 ⟨rfl, rfl⟩ ⟨Nat.le_of_ble_eq_true rfl, Nat.le_of_ble_eq_true rfl⟩ rfl (lv_sub hl [] rfl) rfl (Nat.le_of_ble_eq_true rfl) ⟨Nat.zero_le _, Nat.zero_le _⟩ d_Tw_atCore_283 (fun H locs hT hS => ?_)
            obtain ⟨K, hT, hk⟩ := hT
            refine lv_aload_n hx hb d_Tw_atCore_286 rfl (lv_at hl 2 rfl) ?_
            refine tg_8 E hK hT d_Tw_atCore_287 ?_
            refine lv_iload hx hb d_Tw_atCore_290 (lv_at hl 1 rfl) ?_
            refine lv_iload hx hb d_Tw_atCore_292 (lv_at hl 0 rfl) ?_
            refine lv_iconst (v := 2) hx hb d_Tw_atCore_294 (by decide) ?_
            refine lv_icmp_ne (tgt := 302) hx hb d_Tw_atCore_295 (by decide) (fun h6 => ?_) (fun h6 => ?_)
            · refine lv_bipush (v := 10) hx hb d_Tw_atCore_302 (by decide) ?_
              refine ts_8 E hK hT hS (j := 4 * c + b) (by omega) d_Tw_atCore_304 (fun H locs hT hS => ?_)
              refine lv_goto (tgt := 323) hx hb d_Tw_atCore_305 (by decide) ?_
              have eG : s_acG g kd c b v nb = up2 (snd g) 8 (4 * c + b) 10 := by simp [s_acG, h1, h2, h3, h4, h5, h6]
              have eM : M ++ s_acQ g kd c b (a + 1) = M ++ [(8, c, a, b, g 9 (4 * c + b), 0, 0)] := by simp [s_acQ, h1, h2, h3, h4, h5, h6]
              rw [eG, eM]
              exact t_vret E ⟨K, hT, hk⟩ hS d_Tw_atCore_323
            · refine lv_iconst (v := 0) hx hb d_Tw_atCore_298 (by decide) ?_
              refine lv_goto (tgt := 304) hx hb d_Tw_atCore_299 (by decide) ?_
              refine ts_8 E hK hT hS (j := 4 * c + b) (by omega) d_Tw_atCore_304 (fun H locs hT hS => ?_)
              refine lv_goto (tgt := 323) hx hb d_Tw_atCore_305 (by decide) ?_
              have eG : s_acG g kd c b v nb = up2 (snd g) 8 (4 * c + b) 0 := by simp [s_acG, h1, h2, h3, h4, h5, h6]
              have eM : M ++ s_acQ g kd c b (a + 1) = M ++ [(8, c, a, b, g 9 (4 * c + b), 0, 0)] := by simp [s_acQ, h1, h2, h3, h4, h5, h6]
              rw [eG, eM]
              exact t_vret E ⟨K, hT, hk⟩ hS d_Tw_atCore_323
        · replace h4 := (nI_eq (a := kd) (b := 4) (by omega) (by omega)).mp h4
          obtain ⟨a, ha4, rfl⟩ := ha (by omega)
          rw [rq_s] at hl
          refine lv_aload_n hx hb d_Tw_atCore_212 rfl (lv_at hl 2 rfl) ?_
          refine lv_iload_n hx hb d_Tw_atCore_213 rfl (lv_at hl 4 rfl) ?_
          refine lv_iload hx hb d_Tw_atCore_214 (lv_at hl 8 rfl) ?_
          refine lv_iload_n hx hb d_Tw_atCore_216 rfl (lv_at hl 5 rfl) ?_
          refine lv_aload_n hx hb d_Tw_atCore_217 rfl (lv_at hl 2 rfl) ?_
          refine tg_9 E hK hT d_Tw_atCore_218 ?_
          refine lv_iload hx hb d_Tw_atCore_221 (lv_at hl 1 rfl) ?_
          refine tl_9 E hK hT (j := 4 * c + b) (by omega) d_Tw_atCore_223 ?_
          refine lv_iconst (v := 0) hx hb d_Tw_atCore_224 (by decide) ?_
          refine t_callv (As := [.int (nI c), .int (nI a), .int (nI b), .int (g 9 (4 * c + b)), .int 0]) (rest := []) E hK ⟨K, hT, hk⟩ hS (c_Tw_data l D dA ad A g M c a b (g 9 (4 * c + b)) 0 (by first | omega | (simp; omega))) ck_Tw_147 ⟨rfl, rfl⟩ ⟨Nat.le_of_ble_eq_true rfl, Nat.le_of_ble_eq_true rfl⟩ rfl (lv_sub hl [] rfl) rfl (Nat.le_of_ble_eq_true rfl) ⟨Nat.zero_le _, Nat.zero_le _⟩ d_Tw_atCore_225 (fun H locs hT hS => ?_)
          obtain ⟨K, hT, hk⟩ := hT
          refine lv_aload_n hx hb d_Tw_atCore_228 rfl (lv_at hl 2 rfl) ?_
          refine lv_iload_n hx hb d_Tw_atCore_229 rfl (lv_at hl 4 rfl) ?_
          refine lv_iconst (v := 4) hx hb d_Tw_atCore_230 (by decide) ?_
          refine lv_iload_n hx hb d_Tw_atCore_231 rfl (lv_at hl 5 rfl) ?_
          refine lv_aload_n hx hb d_Tw_atCore_232 rfl (lv_at hl 2 rfl) ?_
          refine tg_9 E hK hT d_Tw_atCore_233 ?_
          refine lv_iload hx hb d_Tw_atCore_236 (lv_at hl 1 rfl) ?_
          refine tl_9 E hK hT (j := 4 * c + b) (by omega) d_Tw_atCore_238 ?_
          refine wn_eq (y := g 9 (4 * c + b)) (by simp [up2, upd, snd]) ?_
          refine lv_iconst (v := 0) hx hb d_Tw_atCore_239 (by decide) ?_
          refine t_callv (As := [.int (nI c), .int 4, .int (nI b), .int (g 9 (4 * c + b)), .int 0]) (rest := []) E hK ⟨K, hT, hk⟩ hS (c_Tw_data l D dA ad A (snd g) (M ++ [(8, c, a, b, g 9 (4 * c + b), 0, 0)]) c 4 b (g 9 (4 * c + b)) 0 (by first | omega | (simp; omega))) ck_Tw_147 ⟨rfl, rfl⟩ ⟨Nat.le_of_ble_eq_true rfl, Nat.le_of_ble_eq_true rfl⟩ rfl (lv_sub hl [] rfl) rfl (Nat.le_of_ble_eq_true rfl) ⟨Nat.zero_le _, Nat.zero_le _⟩ d_Tw_atCore_240 (fun H locs hT hS => ?_)
          obtain ⟨K, hT, hk⟩ := hT
          refine lv_aload_n hx hb d_Tw_atCore_243 rfl (lv_at hl 2 rfl) ?_
          refine tg_8 E hK hT d_Tw_atCore_244 ?_
          refine lv_iload hx hb d_Tw_atCore_247 (lv_at hl 1 rfl) ?_
          refine lv_iload hx hb d_Tw_atCore_249 (lv_at hl 0 rfl) ?_
          refine lv_iconst (v := 2) hx hb d_Tw_atCore_251 (by decide) ?_
          refine lv_icmp_ne (tgt := 259) hx hb d_Tw_atCore_252 (by decide) (fun h7 => ?_) (fun h7 => ?_)
          · refine lv_bipush (v := 9) hx hb d_Tw_atCore_259 (by decide) ?_
            refine ts_8 E hK hT hS (j := 4 * c + b) (by omega) d_Tw_atCore_261 (fun H locs hT hS => ?_)
            refine lv_goto (tgt := 323) hx hb d_Tw_atCore_262 (by decide) ?_
            have eG : s_acG g kd c b v nb = up2 (snd (snd g)) 8 (4 * c + b) 9 := by simp [s_acG, h1, h2, h3, h4, h7]
            have eM : M ++ s_acQ g kd c b (a + 1) = M ++ [(8, c, a, b, g 9 (4 * c + b), 0, 0)] ++ [(8, c, 4, b, g 9 (4 * c + b), 0, 0)] := by simp [s_acQ, h1, h2, h3, h4, h7]
            rw [eG, eM]
            exact t_vret E ⟨K, hT, hk⟩ hS d_Tw_atCore_323
          · refine lv_iconst (v := 1) hx hb d_Tw_atCore_255 (by decide) ?_
            refine lv_goto (tgt := 261) hx hb d_Tw_atCore_256 (by decide) ?_
            refine ts_8 E hK hT hS (j := 4 * c + b) (by omega) d_Tw_atCore_261 (fun H locs hT hS => ?_)
            refine lv_goto (tgt := 323) hx hb d_Tw_atCore_262 (by decide) ?_
            have eG : s_acG g kd c b v nb = up2 (snd (snd g)) 8 (4 * c + b) 1 := by simp [s_acG, h1, h2, h3, h4, h7]
            have eM : M ++ s_acQ g kd c b (a + 1) = M ++ [(8, c, a, b, g 9 (4 * c + b), 0, 0)] ++ [(8, c, 4, b, g 9 (4 * c + b), 0, 0)] := by simp [s_acQ, h1, h2, h3, h4, h7]
            rw [eG, eM]
            exact t_vret E ⟨K, hT, hk⟩ hS d_Tw_atCore_323
      · replace h3 := (nI_eq (a := kd) (b := 6) (by omega) (by omega)).mp h3
        obtain ⟨a, ha4, rfl⟩ := ha (by omega)
        rw [rq_s] at hl
        refine lv_aload_n hx hb d_Tw_atCore_161 rfl (lv_at hl 2 rfl) ?_
        refine lv_bipush (v := 9) hx hb d_Tw_atCore_162 (by decide) ?_
        refine lv_iload_n hx hb d_Tw_atCore_164 rfl (lv_at hl 4 rfl) ?_
        refine lv_iload hx hb d_Tw_atCore_165 (lv_at hl 8 rfl) ?_
        refine lv_iload_n hx hb d_Tw_atCore_167 rfl (lv_at hl 5 rfl) ?_
        refine lv_iconst (v := 0) hx hb d_Tw_atCore_168 (by decide) ?_
        refine lv_iconst (v := 0) hx hb d_Tw_atCore_169 (by decide) ?_
        refine lv_iconst (v := (-1)) hx hb d_Tw_atCore_170 (by decide) ?_
        refine t_callv (As := [.int 9, .int (nI c), .int (nI a), .int (nI b), .int 0, .int 0, .int (-1)]) (rest := []) E hK ⟨K, hT, hk⟩ hS (c_Tw_send l D dA ad A g M 9 (nI c) (nI a) (nI b) 0 0 (-1) (9, c, a, b, 0, 0, 0) ⟨rfl, rfl, rfl, rfl, rfl, rfl, rq_0.symm⟩ (by first | omega | (simp; omega))) ck_Tw_97 ⟨rfl, rfl⟩ ⟨Nat.le_of_ble_eq_true rfl, Nat.le_of_ble_eq_true rfl⟩ rfl (lv_sub hl [] rfl) rfl (Nat.le_of_ble_eq_true rfl) ⟨Nat.zero_le _, Nat.zero_le _⟩ d_Tw_atCore_171 (fun H locs hT hS => ?_)
        obtain ⟨K, hT, hk⟩ := hT
        refine lv_aload_n hx hb d_Tw_atCore_174 rfl (lv_at hl 2 rfl) ?_
        refine tg_8 E hK hT d_Tw_atCore_175 ?_
        refine lv_iload hx hb d_Tw_atCore_178 (lv_at hl 1 rfl) ?_
        refine lv_iload hx hb d_Tw_atCore_180 (lv_at hl 0 rfl) ?_
        refine lv_iconst (v := 1) hx hb d_Tw_atCore_182 (by decide) ?_
        refine lv_icmp_ne (tgt := 190) hx hb d_Tw_atCore_183 (by decide) (fun h8 => ?_) (fun h8 => ?_)
        · refine lv_iload hx hb d_Tw_atCore_190 (lv_at hl 0 rfl) ?_
          refine lv_bipush (v := 6) hx hb d_Tw_atCore_192 (by decide) ?_
          refine lv_icmp_ne (tgt := 201) hx hb d_Tw_atCore_194 (by decide) (fun h9 => ?_) (fun h9 => ?_)
          · refine lv_bipush (v := 10) hx hb d_Tw_atCore_201 (by decide) ?_
            refine ts_8 E hK hT hS (j := 4 * c + b) (by omega) d_Tw_atCore_203 (fun H locs hT hS => ?_)
            refine lv_goto (tgt := 323) hx hb d_Tw_atCore_204 (by decide) ?_
            have eG : s_acG g kd c b v nb = up2 (snd g) 8 (4 * c + b) 10 := by simp [s_acG, h1, h2, h3, h8, h9]
            have eM : M ++ s_acQ g kd c b (a + 1) = M ++ [(9, c, a, b, 0, 0, 0)] := by simp [s_acQ, h1, h2, h3, h8, h9]
            rw [eG, eM]
            exact t_vret E ⟨K, hT, hk⟩ hS d_Tw_atCore_323
          · refine lv_iconst (v := 4) hx hb d_Tw_atCore_197 (by decide) ?_
            refine lv_goto (tgt := 203) hx hb d_Tw_atCore_198 (by decide) ?_
            refine ts_8 E hK hT hS (j := 4 * c + b) (by omega) d_Tw_atCore_203 (fun H locs hT hS => ?_)
            refine lv_goto (tgt := 323) hx hb d_Tw_atCore_204 (by decide) ?_
            have eG : s_acG g kd c b v nb = up2 (snd g) 8 (4 * c + b) 4 := by simp [s_acG, h1, h2, h3, h8, h9]
            have eM : M ++ s_acQ g kd c b (a + 1) = M ++ [(9, c, a, b, 0, 0, 0)] := by simp [s_acQ, h1, h2, h3, h8, h9]
            rw [eG, eM]
            exact t_vret E ⟨K, hT, hk⟩ hS d_Tw_atCore_323
        · refine lv_iconst (v := 0) hx hb d_Tw_atCore_186 (by decide) ?_
          refine lv_goto (tgt := 203) hx hb d_Tw_atCore_187 (by decide) ?_
          refine ts_8 E hK hT hS (j := 4 * c + b) (by omega) d_Tw_atCore_203 (fun H locs hT hS => ?_)
          refine lv_goto (tgt := 323) hx hb d_Tw_atCore_204 (by decide) ?_
          have eG : s_acG g kd c b v nb = up2 (snd g) 8 (4 * c + b) 0 := by simp [s_acG, h1, h2, h3, h8]
          have eM : M ++ s_acQ g kd c b (a + 1) = M ++ [(9, c, a, b, 0, 0, 0)] := by simp [s_acQ, h1, h2, h3, h8]
          rw [eG, eM]
          exact t_vret E ⟨K, hT, hk⟩ hS d_Tw_atCore_323
    · replace h2 := (nI_eq (a := kd) (b := 9) (by omega) (by omega)).mp h2
      refine lv_aload_n hx hb d_Tw_atCore_105 rfl (lv_at hl 2 rfl) ?_
      refine tg_10 E hK hT d_Tw_atCore_106 ?_
      refine lv_iload hx hb d_Tw_atCore_109 (lv_at hl 1 rfl) ?_
      refine lv_dup2_11 hx hb d_Tw_atCore_111 rfl rfl ?_
      refine tl_10 E hK hT (j := 4 * c + b) (by omega) d_Tw_atCore_112 ?_
      refine lv_iconst (v := 1) hx hb d_Tw_atCore_113 (by decide) ?_
      refine lv_isub hx hb d_Tw_atCore_114 ?_
      refine ts_10 E hK hT hS (j := 4 * c + b) (by omega) d_Tw_atCore_115 (fun H locs hT hS => ?_)
      refine lv_aload_n hx hb d_Tw_atCore_116 rfl (lv_at hl 2 rfl) ?_
      refine tg_8 E hK hT d_Tw_atCore_117 ?_
      refine lv_iload hx hb d_Tw_atCore_120 (lv_at hl 1 rfl) ?_
      refine lv_iload hx hb d_Tw_atCore_122 (lv_at hl 0 rfl) ?_
      refine lv_iconst (v := 5) hx hb d_Tw_atCore_124 (by decide) ?_
      refine lv_icmp_eq (tgt := 135) hx hb d_Tw_atCore_125 (by decide) (fun h10 => ?_) (fun h10 => ?_)
      · refine lv_aload_n hx hb d_Tw_atCore_135 rfl (lv_at hl 2 rfl) ?_
        refine tg_10 E hK hT d_Tw_atCore_136 ?_
        refine lv_iload hx hb d_Tw_atCore_139 (lv_at hl 1 rfl) ?_
        refine tl_10 E hK hT (j := 4 * c + b) (by omega) d_Tw_atCore_141 ?_
        refine wn_eq (y := (g 10 (4 * c + b)) - 1) (by simp [up2, upd, snd]) ?_
        refine lv_if_ne (tgt := 149) hx hb d_Tw_atCore_142 (by decide) (fun h11 => ?_) (fun h11 => ?_)
        · refine lv_iload hx hb d_Tw_atCore_149 (lv_at hl 0 rfl) ?_
          refine ts_8 E hK hT hS (j := 4 * c + b) (by omega) d_Tw_atCore_151 (fun H locs hT hS => ?_)
          refine lv_goto (tgt := 323) hx hb d_Tw_atCore_152 (by decide) ?_
          have eG : s_acG g kd c b v nb = up2 (up2 g 10 (4 * c + b) ((g 10 (4 * c + b)) - 1)) 8 (4 * c + b) (g 8 (4 * c + b)) := by simp [s_acG, h1, h2, h10, h11]
          have eM : M ++ s_acQ g kd c b aq = M := by simp [s_acQ, h1, h2, h10, h11]
          rw [eG, eM]
          exact t_vret E ⟨K, hT, hk⟩ hS d_Tw_atCore_323
        · refine lv_iconst (v := 2) hx hb d_Tw_atCore_145 (by decide) ?_
          refine lv_goto (tgt := 151) hx hb d_Tw_atCore_146 (by decide) ?_
          refine ts_8 E hK hT hS (j := 4 * c + b) (by omega) d_Tw_atCore_151 (fun H locs hT hS => ?_)
          refine lv_goto (tgt := 323) hx hb d_Tw_atCore_152 (by decide) ?_
          have eG : s_acG g kd c b v nb = up2 (up2 g 10 (4 * c + b) ((g 10 (4 * c + b)) - 1)) 8 (4 * c + b) 2 := by simp [s_acG, h1, h2, h10, h11]
          have eM : M ++ s_acQ g kd c b aq = M := by simp [s_acQ, h1, h2, h10, h11]
          rw [eG, eM]
          exact t_vret E ⟨K, hT, hk⟩ hS d_Tw_atCore_323
      · refine lv_iload hx hb d_Tw_atCore_128 (lv_at hl 0 rfl) ?_
        refine lv_bipush (v := 7) hx hb d_Tw_atCore_130 (by decide) ?_
        refine lv_icmp_ne (tgt := 149) hx hb d_Tw_atCore_132 (by decide) (fun h12 => ?_) (fun h12 => ?_)
        · refine lv_iload hx hb d_Tw_atCore_149 (lv_at hl 0 rfl) ?_
          refine ts_8 E hK hT hS (j := 4 * c + b) (by omega) d_Tw_atCore_151 (fun H locs hT hS => ?_)
          refine lv_goto (tgt := 323) hx hb d_Tw_atCore_152 (by decide) ?_
          have eG : s_acG g kd c b v nb = up2 (up2 g 10 (4 * c + b) ((g 10 (4 * c + b)) - 1)) 8 (4 * c + b) (g 8 (4 * c + b)) := by simp [s_acG, h1, h2, h10, h12]
          have eM : M ++ s_acQ g kd c b aq = M := by simp [s_acQ, h1, h2, h10, h12]
          rw [eG, eM]
          exact t_vret E ⟨K, hT, hk⟩ hS d_Tw_atCore_323
        · refine lv_aload_n hx hb d_Tw_atCore_135 rfl (lv_at hl 2 rfl) ?_
          refine tg_10 E hK hT d_Tw_atCore_136 ?_
          refine lv_iload hx hb d_Tw_atCore_139 (lv_at hl 1 rfl) ?_
          refine tl_10 E hK hT (j := 4 * c + b) (by omega) d_Tw_atCore_141 ?_
          refine wn_eq (y := (g 10 (4 * c + b)) - 1) (by simp [up2, upd, snd]) ?_
          refine lv_if_ne (tgt := 149) hx hb d_Tw_atCore_142 (by decide) (fun h13 => ?_) (fun h13 => ?_)
          · refine lv_iload hx hb d_Tw_atCore_149 (lv_at hl 0 rfl) ?_
            refine ts_8 E hK hT hS (j := 4 * c + b) (by omega) d_Tw_atCore_151 (fun H locs hT hS => ?_)
            refine lv_goto (tgt := 323) hx hb d_Tw_atCore_152 (by decide) ?_
            have eG : s_acG g kd c b v nb = up2 (up2 g 10 (4 * c + b) ((g 10 (4 * c + b)) - 1)) 8 (4 * c + b) (g 8 (4 * c + b)) := by simp [s_acG, h1, h2, h10, h12, h13]
            have eM : M ++ s_acQ g kd c b aq = M := by simp [s_acQ, h1, h2, h10, h12, h13]
            rw [eG, eM]
            exact t_vret E ⟨K, hT, hk⟩ hS d_Tw_atCore_323
          · refine lv_iconst (v := 2) hx hb d_Tw_atCore_145 (by decide) ?_
            refine lv_goto (tgt := 151) hx hb d_Tw_atCore_146 (by decide) ?_
            refine ts_8 E hK hT hS (j := 4 * c + b) (by omega) d_Tw_atCore_151 (fun H locs hT hS => ?_)
            refine lv_goto (tgt := 323) hx hb d_Tw_atCore_152 (by decide) ?_
            have eG : s_acG g kd c b v nb = up2 (up2 g 10 (4 * c + b) ((g 10 (4 * c + b)) - 1)) 8 (4 * c + b) 2 := by simp [s_acG, h1, h2, h10, h12, h13]
            have eM : M ++ s_acQ g kd c b aq = M := by simp [s_acQ, h1, h2, h10, h12, h13]
            rw [eG, eM]
            exact t_vret E ⟨K, hT, hk⟩ hS d_Tw_atCore_323
  · replace h1 := (nI_eq (a := kd) (b := 8) (by omega) (by omega)).mp h1
    refine lv_aload_n hx hb d_Tw_atCore_22 rfl (lv_at hl 2 rfl) ?_
    refine tg_9 E hK hT d_Tw_atCore_23 ?_
    refine lv_iload hx hb d_Tw_atCore_26 (lv_at hl 1 rfl) ?_
    refine lv_iload hx hb d_Tw_atCore_28 (lv_at hl 6 rfl) ?_
    refine ts_9 E hK hT hS (j := 4 * c + b) (by omega) d_Tw_atCore_30 (fun H locs hT hS => ?_)
    refine lv_aload_n hx hb d_Tw_atCore_31 rfl (lv_at hl 2 rfl) ?_
    refine tg_10 E hK hT d_Tw_atCore_32 ?_
    refine lv_iload hx hb d_Tw_atCore_35 (lv_at hl 1 rfl) ?_
    refine lv_aload_n hx hb d_Tw_atCore_37 rfl (lv_at hl 2 rfl) ?_
    refine tg_10 E hK hT d_Tw_atCore_38 ?_
    refine lv_iload hx hb d_Tw_atCore_41 (lv_at hl 1 rfl) ?_
    refine tl_10 E hK hT (j := 4 * c + b) (by omega) d_Tw_atCore_43 ?_
    refine wn_eq (y := g 10 (4 * c + b)) (by simp [up2, upd, snd]) ?_
    refine lv_iload hx hb d_Tw_atCore_44 (lv_at hl 7 rfl) ?_
    refine lv_iadd hx hb d_Tw_atCore_46 ?_
    refine ts_10 E hK hT hS (j := 4 * c + b) (by omega) d_Tw_atCore_47 (fun H locs hT hS => ?_)
    refine lv_iload hx hb d_Tw_atCore_48 (lv_at hl 0 rfl) ?_
    refine lv_bipush (v := 6) hx hb d_Tw_atCore_50 (by decide) ?_
    refine lv_icmp_ne (tgt := 60) hx hb d_Tw_atCore_52 (by decide) (fun h14 => ?_) (fun h14 => ?_)
    · refine lv_iconst (v := 5) hx hb d_Tw_atCore_60 (by decide) ?_
      refine lv_istore (lv' := [(9, .int 5), (8, .int (g 8 (4 * c + b))), (7, .int (nI (4 * c + b))), (0, .ref (ad 0)), (1, .int (nI kd)), (2, .int (nI c)), (3, .int (nI b)), (4, .int v), (5, .int (nI nb)), (6, .int (rq aq))]) hx hb d_Tw_atCore_61 hl (by decide) rfl (fun ls hl => ?_)
      refine lv_aload_n hx hb d_Tw_atCore_63 rfl (lv_at hl 3 rfl) ?_
      refine tg_8 E hK hT d_Tw_atCore_64 ?_
      refine lv_iload hx hb d_Tw_atCore_67 (lv_at hl 2 rfl) ?_
      refine lv_iload hx hb d_Tw_atCore_69 (lv_at hl 1 rfl) ?_
      refine lv_iconst (v := 3) hx hb d_Tw_atCore_71 (by decide) ?_
      refine lv_icmp_ne (tgt := 79) hx hb d_Tw_atCore_72 (by decide) (fun h15 => ?_) (fun h15 => ?_)
      · refine lv_aload_n hx hb d_Tw_atCore_79 rfl (lv_at hl 3 rfl) ?_
        refine tg_10 E hK hT d_Tw_atCore_80 ?_
        refine lv_iload hx hb d_Tw_atCore_83 (lv_at hl 2 rfl) ?_
        refine tl_10 E hK hT (j := 4 * c + b) (by omega) d_Tw_atCore_85 ?_
        refine wn_eq (y := (g 10 (4 * c + b)) + (nI nb)) (by simp [up2, upd, snd]) ?_
        refine lv_if_ne (tgt := 93) hx hb d_Tw_atCore_86 (by decide) (fun h16 => ?_) (fun h16 => ?_)
        · refine lv_iload hx hb d_Tw_atCore_93 (lv_at hl 0 rfl) ?_
          refine ts_8 E hK hT hS (j := 4 * c + b) (by omega) d_Tw_atCore_95 (fun H locs hT hS => ?_)
          refine lv_goto (tgt := 323) hx hb d_Tw_atCore_96 (by decide) ?_
          have eG : s_acG g kd c b v nb = up2 (up2 (up2 g 9 (4 * c + b) v) 10 (4 * c + b) ((g 10 (4 * c + b)) + (nI nb))) 8 (4 * c + b) 5 := by simp [s_acG, h1, h14, h15, h16]
          have eM : M ++ s_acQ g kd c b aq = M := by simp [s_acQ, h1, h14, h15, h16]
          rw [eG, eM]
          exact t_vret E ⟨K, hT, hk⟩ hS d_Tw_atCore_323
        · refine lv_iconst (v := 2) hx hb d_Tw_atCore_89 (by decide) ?_
          refine lv_goto (tgt := 95) hx hb d_Tw_atCore_90 (by decide) ?_
          refine ts_8 E hK hT hS (j := 4 * c + b) (by omega) d_Tw_atCore_95 (fun H locs hT hS => ?_)
          refine lv_goto (tgt := 323) hx hb d_Tw_atCore_96 (by decide) ?_
          have eG : s_acG g kd c b v nb = up2 (up2 (up2 g 9 (4 * c + b) v) 10 (4 * c + b) ((g 10 (4 * c + b)) + (nI nb))) 8 (4 * c + b) 2 := by simp [s_acG, h1, h14, h15, h16]
          have eM : M ++ s_acQ g kd c b aq = M := by simp [s_acQ, h1, h14, h15, h16]
          rw [eG, eM]
          exact t_vret E ⟨K, hT, hk⟩ hS d_Tw_atCore_323
      · refine lv_iconst (v := 1) hx hb d_Tw_atCore_75 (by decide) ?_
        refine lv_goto (tgt := 95) hx hb d_Tw_atCore_76 (by decide) ?_
        refine ts_8 E hK hT hS (j := 4 * c + b) (by omega) d_Tw_atCore_95 (fun H locs hT hS => ?_)
        refine lv_goto (tgt := 323) hx hb d_Tw_atCore_96 (by decide) ?_
        have eG : s_acG g kd c b v nb = up2 (up2 (up2 g 9 (4 * c + b) v) 10 (4 * c + b) ((g 10 (4 * c + b)) + (nI nb))) 8 (4 * c + b) 1 := by simp [s_acG, h1, h14, h15]
        have eM : M ++ s_acQ g kd c b aq = M := by simp [s_acQ, h1, h14, h15]
        rw [eG, eM]
        exact t_vret E ⟨K, hT, hk⟩ hS d_Tw_atCore_323
    · refine lv_bipush (v := 7) hx hb d_Tw_atCore_55 (by decide) ?_
      refine lv_goto (tgt := 61) hx hb d_Tw_atCore_57 (by decide) ?_
      refine lv_istore (lv' := [(9, .int 7), (8, .int (g 8 (4 * c + b))), (7, .int (nI (4 * c + b))), (0, .ref (ad 0)), (1, .int (nI kd)), (2, .int (nI c)), (3, .int (nI b)), (4, .int v), (5, .int (nI nb)), (6, .int (rq aq))]) hx hb d_Tw_atCore_61 hl (by decide) rfl (fun ls hl => ?_)
      refine lv_aload_n hx hb d_Tw_atCore_63 rfl (lv_at hl 3 rfl) ?_
      refine tg_8 E hK hT d_Tw_atCore_64 ?_
      refine lv_iload hx hb d_Tw_atCore_67 (lv_at hl 2 rfl) ?_
      refine lv_iload hx hb d_Tw_atCore_69 (lv_at hl 1 rfl) ?_
      refine lv_iconst (v := 3) hx hb d_Tw_atCore_71 (by decide) ?_
      refine lv_icmp_ne (tgt := 79) hx hb d_Tw_atCore_72 (by decide) (fun h17 => ?_) (fun h17 => absurd h17 (by rw [h14]; decide))
      refine lv_aload_n hx hb d_Tw_atCore_79 rfl (lv_at hl 3 rfl) ?_
      refine tg_10 E hK hT d_Tw_atCore_80 ?_
      refine lv_iload hx hb d_Tw_atCore_83 (lv_at hl 2 rfl) ?_
      refine tl_10 E hK hT (j := 4 * c + b) (by omega) d_Tw_atCore_85 ?_
      refine wn_eq (y := (g 10 (4 * c + b)) + (nI nb)) (by simp [up2, upd, snd]) ?_
      refine lv_if_ne (tgt := 93) hx hb d_Tw_atCore_86 (by decide) (fun h18 => ?_) (fun h18 => ?_)
      · refine lv_iload hx hb d_Tw_atCore_93 (lv_at hl 0 rfl) ?_
        refine ts_8 E hK hT hS (j := 4 * c + b) (by omega) d_Tw_atCore_95 (fun H locs hT hS => ?_)
        refine lv_goto (tgt := 323) hx hb d_Tw_atCore_96 (by decide) ?_
        have eG : s_acG g kd c b v nb = up2 (up2 (up2 g 9 (4 * c + b) v) 10 (4 * c + b) ((g 10 (4 * c + b)) + (nI nb))) 8 (4 * c + b) 7 := by simp [s_acG, h1, h14, h17, h18]
        have eM : M ++ s_acQ g kd c b aq = M := by simp [s_acQ, h1, h14, h17, h18]
        rw [eG, eM]
        exact t_vret E ⟨K, hT, hk⟩ hS d_Tw_atCore_323
      · refine lv_iconst (v := 2) hx hb d_Tw_atCore_89 (by decide) ?_
        refine lv_goto (tgt := 95) hx hb d_Tw_atCore_90 (by decide) ?_
        refine ts_8 E hK hT hS (j := 4 * c + b) (by omega) d_Tw_atCore_95 (fun H locs hT hS => ?_)
        refine lv_goto (tgt := 323) hx hb d_Tw_atCore_96 (by decide) ?_
        have eG : s_acG g kd c b v nb = up2 (up2 (up2 g 9 (4 * c + b) v) 10 (4 * c + b) ((g 10 (4 * c + b)) + (nI nb))) 8 (4 * c + b) 2 := by simp [s_acG, h1, h14, h17, h18]
        have eM : M ++ s_acQ g kd c b aq = M := by simp [s_acQ, h1, h14, h17, h18]
        rw [eG, eM]
        exact t_vret E ⟨K, hT, hk⟩ hS d_Tw_atCore_323
set_option maxHeartbeats 4000000 in
set_option maxRecDepth 100000 in
theorem c_Tw_finish (l : Launch) (D : va_G) (dA : Nat → ClassId) (ad : Nat → Nat) (A : Nat → Prop) (g : PS) (M : List Msg) (c b : Nat) (hc : c < 4) (hb4 : b < 4) (hw : g 7 c = 1 → ∃ pl xb, pl < 16 ∧ xb < 4 ∧ g 6 c = nI pl ∧ g 4 (16 * c + pl) = nI xb) : Met l y_Tw_finish (k_Tw_finish :: wz) (rml 1 0 0) (va_Pc [.ref (ad 0), .int (nI c), .int (nI b)] (PT D dA ad A g M)) (TQv D dA ad A (s_fin g c b) (M)) 0 0 A := by
  refine tw_entry (by decide) (Nat.le_of_ble_eq_true rfl) ?_
  intro p e s m below meth c0 E hK hT ls hl
  have hT0 := hT
  obtain ⟨K, hT, hk⟩ := hT
  have hx := E.1
  have hb := E.2.1
  have hS : va_S A s.heap s.heap [] := va_S.rf
  replace hl : lv_has ls 5 [(0, .ref (ad 0)), (1, .int (nI c)), (2, .int (nI b))] := hl
  refine lv_aload_n hx hb d_Tw_finish_0 rfl (lv_at hl 0 rfl) ?_
  refine tg_7 E hK hT d_Tw_finish_1 ?_
  refine lv_iload_n hx hb d_Tw_finish_4 rfl (lv_at hl 1 rfl) ?_
  refine tl_7 E hK hT (j := c) (by omega) d_Tw_finish_5 ?_
  refine lv_iconst (v := 1) hx hb d_Tw_finish_6 (by decide) ?_
  refine lv_icmp_eq (tgt := 11) hx hb d_Tw_finish_7 (by decide) (fun h1 => ?_) (fun h1 => ?_)
  · obtain ⟨pl, xb, hpl, hxb, h6, h4⟩ := hw h1
    have hcl : (g 6 c).toNatClampNeg = pl := by rw [h6]; exact nI_clamp (by omega)
    refine lv_bipush (v := 16) hx hb d_Tw_finish_11 (by decide) ?_
    refine lv_iload_n hx hb d_Tw_finish_13 rfl (lv_at hl 1 rfl) ?_
    refine wn_mul hx hb (a := 16) (b := c) d_Tw_finish_14 ?_
    refine lv_aload_n hx hb d_Tw_finish_15 rfl (lv_at hl 0 rfl) ?_
    refine tg_6 E hK hT d_Tw_finish_16 ?_
    refine lv_iload_n hx hb d_Tw_finish_19 rfl (lv_at hl 1 rfl) ?_
    refine tl_6 E hK hT (j := c) (by omega) d_Tw_finish_20 ?_
    refine wn_eq (y := nI pl) h6 ?_
    refine wn_add hx hb (a := 16 * c) (b := pl) d_Tw_finish_21 ?_
    refine lv_istore_n (lv' := [(3, .int (nI (16 * c + pl))), (0, .ref (ad 0)), (1, .int (nI c)), (2, .int (nI b))]) hx hb d_Tw_finish_22 rfl hl (by decide) rfl (fun ls hl => ?_)
    refine lv_aload_n hx hb d_Tw_finish_23 rfl (lv_at hl 1 rfl) ?_
    refine tg_8 E hK hT d_Tw_finish_24 ?_
    refine lv_iconst (v := 4) hx hb d_Tw_finish_27 (by decide) ?_
    refine lv_iload_n hx hb d_Tw_finish_28 rfl (lv_at hl 2 rfl) ?_
    refine wn_mul hx hb (a := 4) (b := c) d_Tw_finish_29 ?_
    refine lv_iload_n hx hb d_Tw_finish_30 rfl (lv_at hl 3 rfl) ?_
    refine wn_add hx hb (a := 4 * c) (b := b) d_Tw_finish_31 ?_
    refine tl_8 E hK hT (j := 4 * c + b) (by omega) d_Tw_finish_32 ?_
    refine lv_istore (lv' := [(4, .int (g 8 (4 * c + b))), (3, .int (nI (16 * c + pl))), (0, .ref (ad 0)), (1, .int (nI c)), (2, .int (nI b))]) hx hb d_Tw_finish_33 hl (by decide) rfl (fun ls hl => ?_)
    refine lv_aload_n hx hb d_Tw_finish_35 rfl (lv_at hl 2 rfl) ?_
    refine tg_4 E hK hT d_Tw_finish_36 ?_
    refine lv_iload_n hx hb d_Tw_finish_39 rfl (lv_at hl 1 rfl) ?_
    refine tl_4 E hK hT (j := 16 * c + pl) (by omega) d_Tw_finish_40 ?_
    refine wn_eq (y := nI xb) h4 ?_
    refine lv_iload_n hx hb d_Tw_finish_41 rfl (lv_at hl 4 rfl) ?_
    refine lv_icmp_ne (tgt := 78) hx hb d_Tw_finish_42 (by decide) (fun h2 => ?_) (fun h2 => ?_)
    · replace h2 := (not_congr (nI_eq (a := xb) (b := b) (by omega) (by omega))).mp h2
      have h4b : ¬ g 4 (16 * c + pl) = nI b := by rw [h4]; exact nI_neF h2 (by omega) (by omega)
      have eG : s_fin g c b = g := by simp [s_fin, h1, hcl, h4b]
      rw [eG]
      exact t_vret E ⟨K, hT, hk⟩ hS d_Tw_finish_78
    · replace h2 := (nI_eq (a := xb) (b := b) (by omega) (by omega)).mp h2
      have h4b : g 4 (16 * c + pl) = nI b := by rw [h4, h2]
      refine lv_iload hx hb d_Tw_finish_45 (lv_at hl 0 rfl) ?_
      refine lv_iconst (v := 2) hx hb d_Tw_finish_47 (by decide) ?_
      refine lv_icmp_eq (tgt := 66) hx hb d_Tw_finish_48 (by decide) (fun h3 => ?_) (fun h3 => ?_)
      · refine lv_aload_n hx hb d_Tw_finish_66 rfl (lv_at hl 2 rfl) ?_
        refine tg_7 E hK hT d_Tw_finish_67 ?_
        refine lv_iload_n hx hb d_Tw_finish_70 rfl (lv_at hl 3 rfl) ?_
        refine lv_iconst (v := 0) hx hb d_Tw_finish_71 (by decide) ?_
        refine ts_7 E hK hT hS (j := c) (by omega) d_Tw_finish_72 (fun H locs hT hS => ?_)
        refine lv_aload_n hx hb d_Tw_finish_73 rfl (lv_at hl 2 rfl) ?_
        refine lv_iload_n hx hb d_Tw_finish_74 rfl (lv_at hl 3 rfl) ?_
        refine t_callv (As := [.int (nI c)]) (rest := []) E hK ⟨K, hT, hk⟩ hS (c_Tw_perform l D dA ad A (up2 g 7 c 0) M c pl b hc hpl hb4 h6 h4b) ck_Tw_111 ⟨rfl, rfl⟩ ⟨Nat.le_of_ble_eq_true rfl, Nat.le_of_ble_eq_true rfl⟩ rfl (lv_sub hl [] rfl) rfl (Nat.le_of_ble_eq_true rfl) ⟨Nat.zero_le _, Nat.zero_le _⟩ d_Tw_finish_75 (fun H locs hT hS => ?_)
        obtain ⟨K, hT, hk⟩ := hT
        have eG : s_fin g c b = s_perform (up2 g 7 c 0) c pl b := by simp [s_fin, h1, hcl, h4b, h3]
        rw [eG]
        exact t_vret E ⟨K, hT, hk⟩ hS d_Tw_finish_78
      · refine lv_iload hx hb d_Tw_finish_51 (lv_at hl 0 rfl) ?_
        refine lv_iconst (v := 1) hx hb d_Tw_finish_53 (by decide) ?_
        refine lv_icmp_ne (tgt := 78) hx hb d_Tw_finish_54 (by decide) (fun h4 => ?_) (fun h4 => ?_)
        · have eG : s_fin g c b = g := by simp [s_fin, h1, hcl, h4b, h3, h4]
          rw [eG]
          exact t_vret E ⟨K, hT, hk⟩ hS d_Tw_finish_78
        · refine lv_aload_n hx hb d_Tw_finish_57 rfl (lv_at hl 2 rfl) ?_
          refine tg_3 E hK hT d_Tw_finish_58 ?_
          refine lv_iload_n hx hb d_Tw_finish_61 rfl (lv_at hl 1 rfl) ?_
          refine tl_3 E hK hT (j := 16 * c + pl) (by omega) d_Tw_finish_62 ?_
          refine lv_if_ne (tgt := 78) hx hb d_Tw_finish_63 (by decide) (fun h5 => ?_) (fun h5 => ?_)
          · have eG : s_fin g c b = g := by simp [s_fin, h1, hcl, h4b, h3, h4, h5]
            rw [eG]
            exact t_vret E ⟨K, hT, hk⟩ hS d_Tw_finish_78
          · refine lv_aload_n hx hb d_Tw_finish_66 rfl (lv_at hl 2 rfl) ?_
            refine tg_7 E hK hT d_Tw_finish_67 ?_
            refine lv_iload_n hx hb d_Tw_finish_70 rfl (lv_at hl 3 rfl) ?_
            refine lv_iconst (v := 0) hx hb d_Tw_finish_71 (by decide) ?_
            refine ts_7 E hK hT hS (j := c) (by omega) d_Tw_finish_72 (fun H locs hT hS => ?_)
            refine lv_aload_n hx hb d_Tw_finish_73 rfl (lv_at hl 2 rfl) ?_
            refine lv_iload_n hx hb d_Tw_finish_74 rfl (lv_at hl 3 rfl) ?_
            refine t_callv (As := [.int (nI c)]) (rest := []) E hK ⟨K, hT, hk⟩ hS (c_Tw_perform l D dA ad A (up2 g 7 c 0) M c pl b hc hpl hb4 h6 h4b) ck_Tw_111 ⟨rfl, rfl⟩ ⟨Nat.le_of_ble_eq_true rfl, Nat.le_of_ble_eq_true rfl⟩ rfl (lv_sub hl [] rfl) rfl (Nat.le_of_ble_eq_true rfl) ⟨Nat.zero_le _, Nat.zero_le _⟩ d_Tw_finish_75 (fun H locs hT hS => ?_)
            obtain ⟨K, hT, hk⟩ := hT
            have eG : s_fin g c b = s_perform (up2 g 7 c 0) c pl b := by simp [s_fin, h1, hcl, h4b, h3, h4, h5]
            rw [eG]
            exact t_vret E ⟨K, hT, hk⟩ hS d_Tw_finish_78
  · have eG : s_fin g c b = g := by simp [s_fin, h1]
    rw [eG]
    exact t_vret E ⟨K, hT, hk⟩ hS d_Tw_finish_10
