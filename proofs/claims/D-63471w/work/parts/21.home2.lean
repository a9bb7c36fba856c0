theorem ck_Home_45 : CallK R_Home 45 R_Home y_Home_shares b_Home_shares 2 (some FieldType.boolean) 1 := ⟨gdV zm_Home_45 zi_Home_shares zs_Home_Home_shares zn_Home zk_Home_shares, by decide +kernel⟩
theorem ck_Home_77 : CallK R_Home 77 R_Net y_Net_sendFor b_Net_sendFor 5 none 4 := ⟨gdV zm_Home_77 zi_Net_sendFor zs_Net_Net_sendFor zn_Net zk_Net_sendFor, by decide +kernel⟩
theorem ck_Home_86 : CallK R_Home 86 R_Net y_Net_sendWord b_Net_sendWord 6 none 5 := ⟨gdV zm_Home_86 zi_Net_sendWord zs_Net_Net_sendWord zn_Net zk_Net_sendWord, by decide +kernel⟩
theorem ck_Home_49 : CallK R_Home 49 R_Home y_Home_gives b_Home_gives 5 (some FieldType.boolean) 1 := ⟨gdV zm_Home_49 zi_Home_gives zs_Home_Home_gives zn_Home zk_Home_gives, by decide +kernel⟩
theorem ck_Home_93 : CallK R_Home 93 R_Net y_Net_send b_Net_send 6 (some (FieldType.object "HomeDirectory$Message")) 4 := ⟨gdV zm_Home_93 zi_Net_send zs_Net_Net_send zn_Net zk_Net_send, by decide +kernel⟩
theorem ck_Home_97 : CallKS R_Home 97 y_Int_bitCount b_Int_bitCount 1 (some FieldType.int) 1 := ⟨gdS zm_Home_97 zS_Int_bitCount zn_Int zk_Int_bitCount, by decide +kernel⟩
theorem ck_Home_109 : CallKS R_Home 109 y_Int_numberOfTrailingZeros b_Int_numberOfTrailingZeros 2 (some FieldType.int) 1 := ⟨gdS zm_Home_109 zS_Int_numberOfTrailingZeros zn_Int zk_Int_numberOfTrailingZeros, by decide +kernel⟩
theorem ck_Home_64 : CallK R_Home 64 R_Home y_Home_takesBack b_Home_takesBack 3 none 2 := ⟨gdV zm_Home_64 zi_Home_takesBack zs_Home_Home_takesBack zn_Home zk_Home_takesBack, by decide +kernel⟩
theorem s_invs_c {g g' : PS} (h : g 16 = g' 16) (b r : Nat) : ∀ n, s_invs g b r n = s_invs g' b r n
  | 0 => rfl
  | c + 1 => by
    have ih := s_invs_c h b r c
    unfold s_invs
    rw [h, ih]
theorem gu_Home_39 : GoodIn wz (va_wsU R_Home 39 R_Kind "java/lang/Enum" ⟨"HomeDirectory$Kind", "ordinal", "()I"⟩ y_Enum_ordinal (k_Enum_ordinal :: wz)) := gdU zm_Home_39 zM_Kind_ordinal zs_Kind_Enum_ordinal_v zi_Enum_ordinal zn_Enum zk_Enum_ordinal
def sndn (g : PS) : Nat → PS
  | 0 => g
  | n + 1 => snd (sndn g n)
def clr (g : PS) (b : Nat) : Nat → PS
  | 0 => g
  | c + 1 => up2 (clr g b c) 16 (4 * b + c) 0
theorem up2_cm (g : PS) {k k' j j' : Nat} (v v' : Int32) (h : k ≠ k') : up2 (up2 g k j v) k' j' v' = up2 (up2 g k' j' v') k j v := by
  funext a c
  by_cases h1 : a = k
  · subst h1
    have : a ≠ k' := h
    simp [up2, this]
  · by_cases h2 : a = k'
    · subst h2
      simp [up2, Ne.symm h]
    · simp [up2, h1, h2]
theorem up2_id (g : PS) (k j : Nat) : up2 g k j (g k j) = g := by
  funext a c
  by_cases h1 : a = k
  · subst h1
    by_cases h2 : c = j
    · subst h2; simp [up2, upd]
    · simp [up2, upd, h2]
  · simp [up2, h1]
theorem up2_2 (g : PS) (k j : Nat) (v w : Int32) : up2 (up2 g k j v) k j w = up2 g k j w := by
  funext a c
  by_cases h1 : a = k
  · subst h1
    by_cases h2 : c = j
    · subst h2; simp [up2, upd]
    · simp [up2, upd, h2]
  · simp [up2, h1]
theorem up2_cj (g : PS) {k j j' : Nat} (v : Int32) : up2 (up2 g k j v) k j' v = up2 (up2 g k j' v) k j v := by
  funext a c
  by_cases h1 : a = k
  · subst h1
    by_cases h2 : c = j <;> by_cases h3 : c = j' <;> simp [up2, upd, h2, h3]
  · simp [up2, h1]
theorem up2_cj' (g : PS) {k j j' : Nat} (v w : Int32) (h : j ≠ j') : up2 (up2 g k j v) k j' w = up2 (up2 g k j' w) k j v := by
  funext a c
  by_cases h1 : a = k
  · subst h1
    by_cases h2 : c = j
    · subst h2
      simp [up2, upd, h]
    · by_cases h3 : c = j'
      · subst h3; simp [up2, upd, h2]
      · simp [up2, upd, h2, h3]
  · simp [up2, h1]
theorem snd_up (g : PS) {k j : Nat} (v : Int32) (h : k ≠ 18) : snd (up2 g k j v) = up2 (snd g) k j v := by
  rw [snd, snd, up2_k g v (Ne.symm h), up2_cm g v _ h]
theorem snd_clr (g : PS) (b : Nat) : ∀ n, snd (clr g b n) = clr (snd g) b n
  | 0 => rfl
  | n + 1 => by rw [clr, snd_up _ _ (by decide), snd_clr g b n]; rfl
theorem clr_k (g : PS) (b : Nat) {k : Nat} (h : k ≠ 16) : ∀ n, clr g b n k = g k
  | 0 => rfl
  | n + 1 => by rw [clr, up2_k _ _ h]; exact clr_k g b h n
theorem clr_o (g : PS) {b i : Nat} (h : i ≠ b) : s_set (clr g b 4) i 4 = s_set g i 4 := by
  simp only [clr]
  rw [set_o (r := 3) (by omega) h, set_o (r := 2) (by omega) h, set_o (r := 1) (by omega) h, set_o (r := 0) (by omega) h]
theorem clr_0 (g : PS) (b : Nat) : s_set (clr g b 4) b 4 = 0 := by simp [s_set, clr, up2, upd]
theorem inv_eq (g : PS) (b r : Nat) : ∀ n, s_invG g b r n = clr (sndn g (s_invs g b r n).length) b n
  | 0 => rfl
  | n + 1 => by
    have ih := inv_eq g b r n
    unfold s_invG s_invs
    by_cases h0 : g 16 (4 * b + n) = 0
    · rw [if_pos h0, if_pos h0, ih]; rfl
    · rw [if_neg h0, if_neg h0]
      by_cases h1 : n = r
      · rw [if_pos h1, if_pos h1, ih]; rfl
      · rw [if_neg h1, if_neg h1, ih, snd_clr, List.length_append]; rfl
/-- what is left of the other sharers' mask, the last n cores -/
def s_rm (g : PS) (b r : Nat) : Nat → Nat
  | 0 => 0
  | n + 1 => (if g 16 (4 * b + (3 - n)) = 0 then 0 else if 3 - n = r then 0 else 2 ^ (3 - n)) + s_rm g b r n
theorem rm_4 {g : PS} {b r : Nat} (hr : r < 4) : s_set (up2 g 16 (4 * b + r) 0) b 4 = s_rm g b r 4 := by
  rcases (show r = 0 ∨ r = 1 ∨ r = 2 ∨ r = 3 by omega) with rfl | rfl | rfl | rfl <;> by_cases h0 : g 16 (4 * b) = 0 <;> by_cases h1 : g 16 (4 * b + 1) = 0 <;> by_cases h2 : g 16 (4 * b + 2) = 0 <;> by_cases h3 : g 16 (4 * b + 3) = 0 <;> simp [s_set, s_rm, up2, upd, h0, h1, h2, h3]
theorem bc_eq {g : PS} {b r : Nat} (hr : r < 4) : s_bc (nI (s_rm g b r 4)) = nI (s_shr g b (r + 1) 4) := by
  rcases (show r = 0 ∨ r = 1 ∨ r = 2 ∨ r = 3 by omega) with rfl | rfl | rfl | rfl <;> by_cases h0 : g 16 (4 * b) = 0 <;> by_cases h1 : g 16 (4 * b + 1) = 0 <;> by_cases h2 : g 16 (4 * b + 2) = 0 <;> by_cases h3 : g 16 (4 * b + 3) = 0 <;> simp [s_rm, s_shr, h0, h1, h2, h3] <;> decide
theorem rm_no {g : PS} {b r n : Nat} (h : g 16 (4 * b + (3 - n)) = 0 ∨ 3 - n = r) : s_rm g b r (n + 1) = s_rm g b r n := by
  rcases h with h | h
  · simp [s_rm, h]
  · simp [s_rm, h]
theorem bit_v {P Q : Prop} [Decidable P] [Decidable Q] (n : Nat) : (if P then 0 else if Q then 0 else n) = 0 ∨ (if P then 0 else if Q then 0 else n) = n := by
  by_cases hP : P
  · exact Or.inl (if_pos hP)
  · by_cases hQ : Q
    · exact Or.inl (by rw [if_neg hP, if_pos hQ])
    · exact Or.inr (by rw [if_neg hP, if_neg hQ])
theorem rm_step {g : PS} {b r n : Nat} (hn : n < 4) (h : ¬ g 16 (4 * b + (3 - n)) = 0) (h2 : ¬ 3 - n = r) : (nI (s_rm g b r (n + 1)) ^^^ (-1)) &&& (nI (s_rm g b r (n + 1)) - 1) = nI (2 ^ (3 - n) - 1) ∧ nI (s_rm g b r (n + 1)) &&& (nI (s_rm g b r (n + 1)) - 1) = nI (s_rm g b r n) ∧ ¬ nI (s_rm g b r (n + 1)) = 0 := by
  have v0 := bit_v (P := g 16 (4 * b + (3 - 0)) = 0) (Q := 3 - 0 = r) (2 ^ (3 - 0))
  have v1 := bit_v (P := g 16 (4 * b + (3 - 1)) = 0) (Q := 3 - 1 = r) (2 ^ (3 - 1))
  have v2 := bit_v (P := g 16 (4 * b + (3 - 2)) = 0) (Q := 3 - 2 = r) (2 ^ (3 - 2))
  rcases (show n = 0 ∨ n = 1 ∨ n = 2 ∨ n = 3 by omega) with rfl | rfl | rfl | rfl
  · simp only [s_rm, if_neg h, if_neg h2]
    decide
  · simp only [s_rm, if_neg h, if_neg h2]
    rcases v0 with v0 | v0 <;> rw [v0] <;> decide
  · simp only [s_rm, if_neg h, if_neg h2]
    rcases v0 with v0 | v0 <;> rcases v1 with v1 | v1 <;> rw [v0, v1] <;> decide
  · simp only [s_rm, if_neg h, if_neg h2]
    rcases v0 with v0 | v0 <;> rcases v1 with v1 | v1 <;> rcases v2 with v2 | v2 <;> rw [v0, v1, v2] <;> decide
theorem tz_c : ∀ {c : Nat}, c < 4 → s_tz (nI (2 ^ c - 1)) = nI c ∧ (nI (2 ^ c - 1) = 0 ∨ nI (2 ^ c - 1) = 1 ∨ nI (2 ^ c - 1) = 3 ∨ nI (2 ^ c - 1) = 7) := by
  intro c hc
  rcases (show c = 0 ∨ c = 1 ∨ c = 2 ∨ c = 3 by omega) with rfl | rfl | rfl | rfl <;> decide
set_option maxHeartbeats 4000000 in
set_option maxRecDepth 100000 in
theorem c_Home_shares (l : Launch) (D : va_G) (dA : Nat → ClassId) (eA ad : Nat → Nat → Nat) (A : Nat → Prop) (N : Nat) (g : PS) (M : List Msg) (as sp : List Nat) (b : Nat) (hb4 : b < 4) (st : Nat) (hst4 : st < 4) (hst : g 14 b = nI st) (r : Nat) (hr : r < 4) (ho : st = 2 → ∃ o, o < 4 ∧ g 15 b = nI o) : Met l y_Home_shares (k_Home_shares :: wz) (rml 4 1 8) (va_Pc [.ref (ad 12 b), .int (nI r)] (PX D dA eA ad A N g M as sp)) (XQi D dA eA ad A N (if st = 3 then 0 else 1) (if st = 3 then g else s_getsG g r b) (if st = 3 then M else M ++ [s_getsQ g r b]) as) 1 8 A := by
  refine x_entry (by decide) (Nat.le_of_ble_eq_true rfl) ?_
  intro p e s m below meth c0 E hA hC hR ls hl
  have hx := E.1
  have hb := E.2.1
  have hS : va_S A s.heap s.heap [] := va_S.rf
  replace hl : lv_has ls 2 [(0, .ref (ad 12 b)), (1, .int (nI r))] := hl
  refine lv_aload_n hx hb d_Home_shares_0 rfl (lv_at hl 0 rfl) ?_
  refine xg_Home E hC hR (show vl N 12 b from hb4) 2 (by decide) zf_Home_15 rfl d_Home_shares_1 ?_
  refine wr_eq (y := eA 1 st) (congrArg (eA 1) (by rw [show g 14 b = nI st from hst]; exact nI_clamp (by omega))) ?_
  refine x_gets (eA := eA) hC.2.2.1 E hS 3 (by decide) zf_Home_68 d_Home_shares_4 ?_
  refine lv_acmpR_ne (tgt := 12) hx hb d_Home_shares_7 (by decide) (fun h1 => ?_) (fun h1 => ?_)
  · replace h1 : ¬ st = 3 := fun e9 => h1 (by rw [e9])
    refine lv_aload_n hx hb d_Home_shares_12 rfl (lv_at hl 0 rfl) ?_
    refine lv_dup hx hb d_Home_shares_13 rfl ?_
    refine xg_Home E hC hR (show vl N 12 b from hb4) 4 (by decide) zf_Home_58 rfl d_Home_shares_14 ?_
    refine lv_iconst (v := 1) hx hb d_Home_shares_17 (by decide) ?_
    refine lv_iload_n hx hb d_Home_shares_18 rfl (lv_at hl 1 rfl) ?_
    refine lv_ishl hx hb d_Home_shares_19 ?_
    refine lv_ior hx hb d_Home_shares_20 ?_
    refine xp_Home_sharers E hC hR hS (show vl N 12 b from hb4) (g' := up2 g 16 (4 * b + r) 1) (fun k h => up2_k _ _ h) (fun j _ hj => set_o (by omega) hj) (set_or (by omega)).symm zf_Home_58 d_Home_shares_21 (fun H locs hR hS => ?_)
    refine lv_aload_n hx hb d_Home_shares_24 rfl (lv_at hl 0 rfl) ?_
    refine xg_Home E hC hR (show vl N 12 b from hb4) 2 (by decide) zf_Home_15 rfl d_Home_shares_25 ?_
    refine wr_eq (y := eA 1 st) (congrArg (eA 1) (by rw [show (up2 g 16 (4 * b + r) 1) 14 b = nI st from (by simp [up2, upd, snd, hst])]; exact nI_clamp (by omega))) ?_
    refine x_gets (eA := eA) hC.2.2.1 E hS 2 (by decide) zf_Home_71 d_Home_shares_28 ?_
    refine lv_acmpR_ne (tgt := 83) hx hb d_Home_shares_31 (by decide) (fun h2 => ?_) (fun h2 => ?_)
    · replace h2 : ¬ st = 2 := fun e9 => h2 (by rw [e9])
      refine lv_aload_n hx hb d_Home_shares_83 rfl (lv_at hl 0 rfl) ?_
      refine xg_Home E hC hR (show vl N 12 b from hb4) 1 (by decide) zf_Home_26 rfl d_Home_shares_84 ?_
      refine x_gets (eA := eA) hC.2.1 E hS 8 (by decide) zf_Home_83 d_Home_shares_87 ?_
      refine lv_iconst (v := 4) hx hb d_Home_shares_90 (by decide) ?_
      refine lv_iload_n hx hb d_Home_shares_91 rfl (lv_at hl 1 rfl) ?_
      refine lv_aload_n hx hb d_Home_shares_92 rfl (lv_at hl 0 rfl) ?_
      refine xg_Home E hC hR (show vl N 12 b from hb4) 0 (by decide) zf_Home_23 rfl d_Home_shares_93 ?_
      refine lv_aload_n hx hb d_Home_shares_96 rfl (lv_at hl 0 rfl) ?_
      refine xg_Home E hC hR (show vl N 12 b from hb4) 5 (by decide) zf_Home_55 rfl d_Home_shares_97 ?_
      refine wn_eq (y := g 13 b) (by simp [up2, upd, snd]) ?_
      refine xc_v (av := [.ref (ad 1 0), .ref (eA 0 8), .int 4, .int (nI r), .int (nI b), .int (g 13 b)]) (xrunV (As := [.ref (eA 0 8), .int 4, .int (nI r), .int (nI b), .int (g 13 b)]) (rest := []) E hA hC hR hS (c_Net_sendWord l D dA eA ad A N (up2 g 16 (4 * b + r) 1) M as sp 8 4 r b (g 13 b)) (x_recv hC hR (s0 := 1) (i0 := 0) (show vl N 1 0 from rfl) rfl rfl) ck_Home_86 ⟨rfl, rfl⟩ ⟨Nat.le_of_ble_eq_true rfl, Nat.le_of_ble_eq_true rfl⟩ rfl (lv_sub hl [] rfl) rfl (Nat.le_of_ble_eq_true rfl) ⟨Nat.le_of_ble_eq_true rfl, Nat.le_of_ble_eq_true rfl⟩ d_Home_shares_100) hS (fun H locs nw1 sp1 hR hS => ?_)
      refine W.widen (k := 1) (n := 8) (by decide) (by decide) ?_
      refine lv_aload_n hx hb d_Home_shares_103 rfl (lv_at hl 0 rfl) ?_
      refine x_gets (eA := eA) hC.2.2.1 E hS 1 (by decide) zf_Home_61 d_Home_shares_104 ?_
      refine xp_Home_state E hC hR hS (show vl N 12 b from hb4) (q := 1) (by decide) zf_Home_15 d_Home_shares_107 (fun H locs hR hS => ?_)
      refine lv_iconst (v := 1) hx hb d_Home_shares_110 (by decide) ?_
      rw [if_neg h1, if_neg h1, if_neg h1]
      have h14 : ¬ g 14 b = 2 := by rw [hst]; exact nI_neF (b := 2) h2 (by omega) (by omega)
      have eG : up2 (snd (up2 g 16 (4 * b + r) 1)) 14 b (nI 1) = s_getsG g r b := by
        rw [s_getsG, if_neg h14, snd_up _ _ (by decide), up2_cm (k := 16) (k' := 14) _ _ _ (by decide)]; rfl
      have eQ : M ++ [(8, 4, r, b, g 13 b, 0, 0)] = M ++ [s_getsQ g r b] := by rw [s_getsQ, if_neg h14]
      rw [eG, eQ] at hR
      exact x_iret (nw := nw1) E hR hS rfl rfl d_Home_shares_111
    · replace h2 : st = 2 := hC.2.2.1.2 st 2 (by omega) (by decide) h2
      obtain ⟨o, ho4, ho5⟩ := ho h2
      have ho6 : (g 15 b).toNatClampNeg = o := by rw [ho5]; exact nI_clamp (by omega)
      refine lv_aload_n hx hb d_Home_shares_34 rfl (lv_at hl 0 rfl) ?_
      refine xg_Home E hC hR (show vl N 12 b from hb4) 1 (by decide) zf_Home_26 rfl d_Home_shares_35 ?_
      refine x_gets (eA := eA) hC.2.1 E hS 4 (by decide) zf_Home_74 d_Home_shares_38 ?_
      refine lv_aload_n hx hb d_Home_shares_41 rfl (lv_at hl 0 rfl) ?_
      refine xg_Home E hC hR (show vl N 12 b from hb4) 3 (by decide) zf_Home_20 rfl d_Home_shares_42 ?_
      refine wn_eq (y := g 15 b) (by simp [up2, upd, snd]) ?_
      refine wn_eq (y := nI o) ho5 ?_
      refine lv_aload_n hx hb d_Home_shares_45 rfl (lv_at hl 0 rfl) ?_
      refine xg_Home E hC hR (show vl N 12 b from hb4) 0 (by decide) zf_Home_23 rfl d_Home_shares_46 ?_
      refine lv_iload_n hx hb d_Home_shares_49 rfl (lv_at hl 1 rfl) ?_
      refine xc_v (av := [.ref (ad 1 0), .ref (eA 0 4), .int (nI o), .int (nI b), .int (nI r)]) (xrunV (As := [.ref (eA 0 4), .int (nI o), .int (nI b), .int (nI r)]) (rest := []) E hA hC hR hS (c_Net_sendFor l D dA eA ad A N (up2 g 16 (4 * b + r) 1) M as sp 4 o b r) (x_recv hC hR (s0 := 1) (i0 := 0) (show vl N 1 0 from rfl) rfl rfl) ck_Home_77 ⟨rfl, rfl⟩ ⟨Nat.le_of_ble_eq_true rfl, Nat.le_of_ble_eq_true rfl⟩ rfl (lv_sub hl [] rfl) rfl (Nat.le_of_ble_eq_true rfl) ⟨Nat.le_of_ble_eq_true rfl, Nat.le_of_ble_eq_true rfl⟩ d_Home_shares_50) hS (fun H locs nw1 sp1 hR hS => ?_)
      refine W.widen (k := 1) (n := 8) (by decide) (by decide) ?_
      refine lv_aload_n hx hb d_Home_shares_53 rfl (lv_at hl 0 rfl) ?_
      refine lv_dup hx hb d_Home_shares_54 rfl ?_
      refine xg_Home E hC hR (show vl N 12 b from hb4) 4 (by decide) zf_Home_58 rfl d_Home_shares_55 ?_
      refine lv_iconst (v := 1) hx hb d_Home_shares_58 (by decide) ?_
      refine lv_aload_n hx hb d_Home_shares_59 rfl (lv_at hl 0 rfl) ?_
      refine xg_Home E hC hR (show vl N 12 b from hb4) 3 (by decide) zf_Home_20 rfl d_Home_shares_60 ?_
      refine wn_eq (y := g 15 b) (by simp [up2, upd, snd]) ?_
      refine wn_eq (y := nI o) ho5 ?_
      refine lv_ishl hx hb d_Home_shares_63 ?_
      refine lv_ior hx hb d_Home_shares_64 ?_
      refine xp_Home_sharers E hC hR hS (show vl N 12 b from hb4) (g' := up2 (snd (up2 g 16 (4 * b + r) 1)) 16 (4 * b + o) 1) (fun k h => up2_k _ _ h) (fun j _ hj => set_o (by omega) hj) (set_or (by omega)).symm zf_Home_58 d_Home_shares_65 (fun H locs hR hS => ?_)
      refine lv_aload_n hx hb d_Home_shares_68 rfl (lv_at hl 0 rfl) ?_
      refine lv_iconst (v := (-1)) hx hb d_Home_shares_69 (by decide) ?_
      refine xp_Home_owner E hC hR hS (show vl N 12 b from hb4) zf_Home_20 d_Home_shares_70 (fun H locs hR hS => ?_)
      refine lv_aload_n hx hb d_Home_shares_73 rfl (lv_at hl 0 rfl) ?_
      refine x_gets (eA := eA) hC.2.2.1 E hS 3 (by decide) zf_Home_68 d_Home_shares_74 ?_
      refine xp_Home_state E hC hR hS (show vl N 12 b from hb4) (q := 3) (by decide) zf_Home_15 d_Home_shares_77 (fun H locs hR hS => ?_)
      refine lv_goto (tgt := 110) hx hb d_Home_shares_80 (by decide) ?_
      refine lv_iconst (v := 1) hx hb d_Home_shares_110 (by decide) ?_
      rw [if_neg h1, if_neg h1, if_neg h1]
      have h14 : g 14 b = 2 := by rw [hst, h2]; rfl
      have eG : up2 (up2 (up2 (snd (up2 g 16 (4 * b + r) 1)) 16 (4 * b + o) 1) 15 b (-1)) 14 b (nI 3) = s_getsG g r b := by
        rw [s_getsG, if_pos h14, ho6, snd_up _ _ (by decide), up2_cj, up2_cm (k := 16) (k' := 15) _ _ _ (by decide), up2_cm (k := 16) (k' := 14) _ _ _ (by decide)]; rfl
      have eQ : M ++ [(4, 4, o, b, 0, 0, r + 1)] = M ++ [s_getsQ g r b] := by rw [s_getsQ, if_pos h14, ho6]
      rw [eG, eQ] at hR
      exact x_iret (nw := nw1) E hR hS rfl rfl d_Home_shares_111
  · replace h1 : st = 3 := hC.2.2.1.2 st 3 (by omega) (by decide) h1
    refine lv_iconst (v := 0) hx hb d_Home_shares_10 (by decide) ?_
    rw [if_pos h1, if_pos h1, if_pos h1]
    refine W.widen (k := 1) (n := 8) (by decide) (by decide) ?_
    exact x_iret (nw := []) E (by rw [List.append_nil]; exact hR) hS rfl rfl d_Home_shares_11
set_option maxHeartbeats 4000000 in
set_option maxRecDepth 100000 in
theorem c_Home_takesBack (l : Launch) (D : va_G) (dA : Nat → ClassId) (eA ad : Nat → Nat → Nat) (A : Nat → Prop) (N : Nat) (g : PS) (M : List Msg) (as sp : List Nat) (b : Nat) (hb4 : b < 4) (st : Nat) (hst4 : st < 4) (hst : g 14 b = nI st) (r kd : Nat) (hr : r < 4) (hkd : kd = 2 ∨ kd = 3) (j q fr t : Nat) (v : Int32) (nb aq : Nat) (hq : as[j]? = some q) (hz : M[j]? = some (kd, fr, t, b, v, nb, aq)) (hom : g 15 b = nI r → st = 2) : Met l y_Home_takesBack (k_Home_takesBack :: wz) (rml 3 1 8) (va_Pc [.ref (ad 12 b), .int (nI r), .ref q] (PX D dA eA ad A N g M as sp)) (XQv D dA eA ad A N (s_ahG g kd r b v) (M ++ s_ahQ g kd r b) as) 1 8 A := by
  refine x_entry (by decide) (Nat.le_of_ble_eq_true rfl) ?_
  intro p e s m below meth c0 E hA hC hR ls hl
  have hx := E.1
  have hb := E.2.1
  have hS : va_S A s.heap s.heap [] := va_S.rf
  replace hl : lv_has ls 3 [(0, .ref (ad 12 b)), (1, .int (nI r)), (2, .ref q)] := hl
  have hs16 := set_16 (up2 g 16 (4 * b + r) 0) b
  refine lv_aload_n hx hb d_Home_takesBack_0 rfl (lv_at hl 2 rfl) ?_
  refine xg_Msg E hC hR hq hz 0 (by decide) zf_Home_35 rfl d_Home_takesBack_1 ?_
  refine x_gets (eA := eA) hC.2.1 E hS 3 (by decide) zf_Home_112 d_Home_takesBack_4 ?_
  refine lv_acmpR_ne (tgt := 41) hx hb d_Home_takesBack_7 (by decide) (fun h1 => ?_) (fun h1 => ?_)
  · replace h1 : kd = 2 := by
      rcases hkd with e9 | e9
      · exact e9
      · exact absurd (by rw [e9]) h1
    refine lv_aload_n hx hb d_Home_takesBack_41 rfl (lv_at hl 0 rfl) ?_
    refine lv_dup hx hb d_Home_takesBack_42 rfl ?_
    refine xg_Home E hC hR (show vl N 12 b from hb4) 4 (by decide) zf_Home_58 rfl d_Home_takesBack_43 ?_
    refine lv_iconst (v := 1) hx hb d_Home_takesBack_46 (by decide) ?_
    refine lv_iload_n hx hb d_Home_takesBack_47 rfl (lv_at hl 1 rfl) ?_
    refine lv_ishl hx hb d_Home_takesBack_48 ?_
    refine lv_iconst (v := (-1)) hx hb d_Home_takesBack_49 (by decide) ?_
    refine lv_ixor hx hb d_Home_takesBack_50 ?_
    refine lv_iand hx hb d_Home_takesBack_51 ?_
    refine xp_Home_sharers E hC hR hS (show vl N 12 b from hb4) (g' := up2 g 16 (4 * b + r) 0) (fun k h => up2_k _ _ h) (fun j _ hj => set_o (by omega) hj) (set_andn (by omega)).symm zf_Home_58 d_Home_takesBack_52 (fun H locs hR hS => ?_)
    refine lv_aload_n hx hb d_Home_takesBack_55 rfl (lv_at hl 0 rfl) ?_
    refine xg_Home E hC hR (show vl N 12 b from hb4) 2 (by decide) zf_Home_15 rfl d_Home_takesBack_56 ?_
    refine wr_eq (y := eA 1 st) (congrArg (eA 1) (by rw [show (up2 g 16 (4 * b + r) 0) 14 b = nI st from (by simp [up2, upd, snd, hst])]; exact nI_clamp (by omega))) ?_
    refine x_gets (eA := eA) hC.2.2.1 E hS 1 (by decide) zf_Home_61 d_Home_takesBack_59 ?_
    refine lv_acmpR_ne (tgt := 79) hx hb d_Home_takesBack_62 (by decide) (fun h2 => ?_) (fun h2 => ?_)
    · replace h2 : ¬ st = 1 := fun e9 => h2 (by rw [e9])
      refine lv_aload_n hx hb d_Home_takesBack_79 rfl (lv_at hl 0 rfl) ?_
      refine xg_Home E hC hR (show vl N 12 b from hb4) 1 (by decide) zf_Home_26 rfl d_Home_takesBack_80 ?_
      refine x_gets (eA := eA) hC.2.1 E hS 7 (by decide) zf_Home_115 d_Home_takesBack_83 ?_
      refine lv_iconst (v := 4) hx hb d_Home_takesBack_86 (by decide) ?_
      refine lv_iload_n hx hb d_Home_takesBack_87 rfl (lv_at hl 1 rfl) ?_
      refine lv_aload_n hx hb d_Home_takesBack_88 rfl (lv_at hl 0 rfl) ?_
      refine xg_Home E hC hR (show vl N 12 b from hb4) 0 (by decide) zf_Home_23 rfl d_Home_takesBack_89 ?_
      have hlen0 := hR.len
      refine xc_r (av := [.ref (ad 1 0), .ref (eA 0 7), .int 4, .int (nI r), .int (nI b)]) (xrunV (As := [.ref (eA 0 7), .int 4, .int (nI r), .int (nI b)]) (rest := []) E hA hC hR hS (c_Net_send l D dA eA ad A N (up2 g 16 (4 * b + r) 0) M as sp 7 4 r b) (x_recv hC hR (s0 := 1) (i0 := 0) (show vl N 1 0 from rfl) rfl rfl) ck_Home_93 ⟨rfl, rfl⟩ ⟨Nat.le_of_ble_eq_true rfl, Nat.le_of_ble_eq_true rfl⟩ rfl (lv_sub hl [] rfl) rfl (Nat.le_of_ble_eq_true rfl) ⟨Nat.le_of_ble_eq_true rfl, Nat.le_of_ble_eq_true rfl⟩ d_Home_takesBack_92) hS (fun H locs q1 sp1 hR hS => ?_)
      refine W.widen (k := 1) (n := 8) (by decide) (by decide) ?_
      refine lv_pop hx hb d_Home_takesBack_95 rfl ?_
      have eM : M ++ [(7, 4, r, b, 0, 0, 0)] = M ++ s_ahQ g kd r b := by rw [s_ahQ, if_neg (by omega), if_neg (by omega), if_neg (by omega)]
      have eG : snd (up2 g 16 (4 * b + r) 0) = s_ahG g kd r b v := by
        rw [s_ahG, if_neg (by omega), if_neg (by omega), if_neg (by omega)]
        rw [if_neg (fun e9 => absurd e9.1 (by omega))]
        have h14 : ¬ g 14 b = 1 := by rw [hst]; exact nI_neF (b := 1) h2 (by omega) (by omega)
        rw [if_neg h14, show g 14 b = up2 g 16 (4 * b + r) 0 14 b from rfl, up2_id]
      rw [eG, eM] at hR
      exact x_vret (nw := [q1]) E hR hS d_Home_takesBack_96
    · replace h2 : st = 1 := hC.2.2.1.2 st 1 (by omega) (by decide) h2
      refine lv_aload_n hx hb d_Home_takesBack_65 rfl (lv_at hl 0 rfl) ?_
      refine xg_Home E hC hR (show vl N 12 b from hb4) 4 (by decide) zf_Home_58 rfl d_Home_takesBack_66 ?_
      refine lv_if_ne (tgt := 79) hx hb d_Home_takesBack_69 (by decide) (fun h3 => ?_) (fun h3 => ?_)
      · replace h3 := (not_congr (nI_eq (a := s_set (up2 g 16 (4 * b + r) 0) b 4) (b := 0) (by omega) (by omega))).mp h3
        refine lv_aload_n hx hb d_Home_takesBack_79 rfl (lv_at hl 0 rfl) ?_
        refine xg_Home E hC hR (show vl N 12 b from hb4) 1 (by decide) zf_Home_26 rfl d_Home_takesBack_80 ?_
        refine x_gets (eA := eA) hC.2.1 E hS 7 (by decide) zf_Home_115 d_Home_takesBack_83 ?_
        refine lv_iconst (v := 4) hx hb d_Home_takesBack_86 (by decide) ?_
        refine lv_iload_n hx hb d_Home_takesBack_87 rfl (lv_at hl 1 rfl) ?_
        refine lv_aload_n hx hb d_Home_takesBack_88 rfl (lv_at hl 0 rfl) ?_
        refine xg_Home E hC hR (show vl N 12 b from hb4) 0 (by decide) zf_Home_23 rfl d_Home_takesBack_89 ?_
        have hlen0 := hR.len
        refine xc_r (av := [.ref (ad 1 0), .ref (eA 0 7), .int 4, .int (nI r), .int (nI b)]) (xrunV (As := [.ref (eA 0 7), .int 4, .int (nI r), .int (nI b)]) (rest := []) E hA hC hR hS (c_Net_send l D dA eA ad A N (up2 g 16 (4 * b + r) 0) M as sp 7 4 r b) (x_recv hC hR (s0 := 1) (i0 := 0) (show vl N 1 0 from rfl) rfl rfl) ck_Home_93 ⟨rfl, rfl⟩ ⟨Nat.le_of_ble_eq_true rfl, Nat.le_of_ble_eq_true rfl⟩ rfl (lv_sub hl [] rfl) rfl (Nat.le_of_ble_eq_true rfl) ⟨Nat.le_of_ble_eq_true rfl, Nat.le_of_ble_eq_true rfl⟩ d_Home_takesBack_92) hS (fun H locs q1 sp1 hR hS => ?_)
        refine W.widen (k := 1) (n := 8) (by decide) (by decide) ?_
        refine lv_pop hx hb d_Home_takesBack_95 rfl ?_
        have eM : M ++ [(7, 4, r, b, 0, 0, 0)] = M ++ s_ahQ g kd r b := by rw [s_ahQ, if_neg (by omega), if_neg (by omega), if_neg (by omega)]
        have eG : snd (up2 g 16 (4 * b + r) 0) = s_ahG g kd r b v := by
          rw [s_ahG, if_neg (by omega), if_neg (by omega), if_neg (by omega)]
          rw [if_neg (fun e9 => absurd e9.1 (by omega))]
          have h14 : g 14 b = 1 := by rw [hst, h2]; rfl
          rw [if_pos h14]
          rw [if_neg (fun e9 => h3 (set_0.mpr e9))]
          rw [show g 14 b = up2 g 16 (4 * b + r) 0 14 b from rfl, up2_id]
        rw [eG, eM] at hR
        exact x_vret (nw := [q1]) E hR hS d_Home_takesBack_96
      · replace h3 := (nI_eq (a := s_set (up2 g 16 (4 * b + r) 0) b 4) (b := 0) (by omega) (by omega)).mp h3
        refine lv_aload_n hx hb d_Home_takesBack_72 rfl (lv_at hl 0 rfl) ?_
        refine x_gets (eA := eA) hC.2.2.1 E hS 0 (by decide) zf_Home_9 d_Home_takesBack_73 ?_
        refine xp_Home_state E hC hR hS (show vl N 12 b from hb4) (q := 0) (by decide) zf_Home_15 d_Home_takesBack_76 (fun H locs hR hS => ?_)
        refine lv_aload_n hx hb d_Home_takesBack_79 rfl (lv_at hl 0 rfl) ?_
        refine xg_Home E hC hR (show vl N 12 b from hb4) 1 (by decide) zf_Home_26 rfl d_Home_takesBack_80 ?_
        refine x_gets (eA := eA) hC.2.1 E hS 7 (by decide) zf_Home_115 d_Home_takesBack_83 ?_
        refine lv_iconst (v := 4) hx hb d_Home_takesBack_86 (by decide) ?_
        refine lv_iload_n hx hb d_Home_takesBack_87 rfl (lv_at hl 1 rfl) ?_
        refine lv_aload_n hx hb d_Home_takesBack_88 rfl (lv_at hl 0 rfl) ?_
        refine xg_Home E hC hR (show vl N 12 b from hb4) 0 (by decide) zf_Home_23 rfl d_Home_takesBack_89 ?_
        have hlen0 := hR.len
        refine xc_r (av := [.ref (ad 1 0), .ref (eA 0 7), .int 4, .int (nI r), .int (nI b)]) (xrunV (As := [.ref (eA 0 7), .int 4, .int (nI r), .int (nI b)]) (rest := []) E hA hC hR hS (c_Net_send l D dA eA ad A N (up2 (up2 g 16 (4 * b + r) 0) 14 b (nI 0)) M as sp 7 4 r b) (x_recv hC hR (s0 := 1) (i0 := 0) (show vl N 1 0 from rfl) rfl rfl) ck_Home_93 ⟨rfl, rfl⟩ ⟨Nat.le_of_ble_eq_true rfl, Nat.le_of_ble_eq_true rfl⟩ rfl (lv_sub hl [] rfl) rfl (Nat.le_of_ble_eq_true rfl) ⟨Nat.le_of_ble_eq_true rfl, Nat.le_of_ble_eq_true rfl⟩ d_Home_takesBack_92) hS (fun H locs q1 sp1 hR hS => ?_)
        refine W.widen (k := 1) (n := 8) (by decide) (by decide) ?_
        refine lv_pop hx hb d_Home_takesBack_95 rfl ?_
        have eM : M ++ [(7, 4, r, b, 0, 0, 0)] = M ++ s_ahQ g kd r b := by rw [s_ahQ, if_neg (by omega), if_neg (by omega), if_neg (by omega)]
        have eG : snd (up2 (up2 g 16 (4 * b + r) 0) 14 b (nI 0)) = s_ahG g kd r b v := by
          rw [s_ahG, if_neg (by omega), if_neg (by omega), if_neg (by omega)]
          rw [if_neg (fun e9 => absurd e9.1 (by omega))]
          have h14 : g 14 b = 1 := by rw [hst, h2]; rfl
          rw [if_pos h14]
          rw [if_pos (set_0.mp h3)]; rfl
        rw [eG, eM] at hR
        exact x_vret (nw := [q1]) E hR hS d_Home_takesBack_96
  · replace h1 : kd = 3 := hC.2.1.2 kd 3 (show kd < 10 by omega) (by decide) h1
    refine lv_aload_n hx hb d_Home_takesBack_10 rfl (lv_at hl 0 rfl) ?_
    refine xg_Home E hC hR (show vl N 12 b from hb4) 3 (by decide) zf_Home_20 rfl d_Home_takesBack_11 ?_
    refine lv_iload_n hx hb d_Home_takesBack_14 rfl (lv_at hl 1 rfl) ?_
    refine lv_icmp_ne (tgt := 41) hx hb d_Home_takesBack_15 (by decide) (fun h4 => ?_) (fun h4 => ?_)
    · refine lv_aload_n hx hb d_Home_takesBack_41 rfl (lv_at hl 0 rfl) ?_
      refine lv_dup hx hb d_Home_takesBack_42 rfl ?_
      refine xg_Home E hC hR (show vl N 12 b from hb4) 4 (by decide) zf_Home_58 rfl d_Home_takesBack_43 ?_
      refine lv_iconst (v := 1) hx hb d_Home_takesBack_46 (by decide) ?_
      refine lv_iload_n hx hb d_Home_takesBack_47 rfl (lv_at hl 1 rfl) ?_
      refine lv_ishl hx hb d_Home_takesBack_48 ?_
      refine lv_iconst (v := (-1)) hx hb d_Home_takesBack_49 (by decide) ?_
      refine lv_ixor hx hb d_Home_takesBack_50 ?_
      refine lv_iand hx hb d_Home_takesBack_51 ?_
      refine xp_Home_sharers E hC hR hS (show vl N 12 b from hb4) (g' := up2 g 16 (4 * b + r) 0) (fun k h => up2_k _ _ h) (fun j _ hj => set_o (by omega) hj) (set_andn (by omega)).symm zf_Home_58 d_Home_takesBack_52 (fun H locs hR hS => ?_)
      refine lv_aload_n hx hb d_Home_takesBack_55 rfl (lv_at hl 0 rfl) ?_
      refine xg_Home E hC hR (show vl N 12 b from hb4) 2 (by decide) zf_Home_15 rfl d_Home_takesBack_56 ?_
      refine wr_eq (y := eA 1 st) (congrArg (eA 1) (by rw [show (up2 g 16 (4 * b + r) 0) 14 b = nI st from (by simp [up2, upd, snd, hst])]; exact nI_clamp (by omega))) ?_
      refine x_gets (eA := eA) hC.2.2.1 E hS 1 (by decide) zf_Home_61 d_Home_takesBack_59 ?_
      refine lv_acmpR_ne (tgt := 79) hx hb d_Home_takesBack_62 (by decide) (fun h5 => ?_) (fun h5 => ?_)
      · replace h5 : ¬ st = 1 := fun e9 => h5 (by rw [e9])
        refine lv_aload_n hx hb d_Home_takesBack_79 rfl (lv_at hl 0 rfl) ?_
        refine xg_Home E hC hR (show vl N 12 b from hb4) 1 (by decide) zf_Home_26 rfl d_Home_takesBack_80 ?_
        refine x_gets (eA := eA) hC.2.1 E hS 7 (by decide) zf_Home_115 d_Home_takesBack_83 ?_
        refine lv_iconst (v := 4) hx hb d_Home_takesBack_86 (by decide) ?_
        refine lv_iload_n hx hb d_Home_takesBack_87 rfl (lv_at hl 1 rfl) ?_
        refine lv_aload_n hx hb d_Home_takesBack_88 rfl (lv_at hl 0 rfl) ?_
        refine xg_Home E hC hR (show vl N 12 b from hb4) 0 (by decide) zf_Home_23 rfl d_Home_takesBack_89 ?_
        have hlen0 := hR.len
        refine xc_r (av := [.ref (ad 1 0), .ref (eA 0 7), .int 4, .int (nI r), .int (nI b)]) (xrunV (As := [.ref (eA 0 7), .int 4, .int (nI r), .int (nI b)]) (rest := []) E hA hC hR hS (c_Net_send l D dA eA ad A N (up2 g 16 (4 * b + r) 0) M as sp 7 4 r b) (x_recv hC hR (s0 := 1) (i0 := 0) (show vl N 1 0 from rfl) rfl rfl) ck_Home_93 ⟨rfl, rfl⟩ ⟨Nat.le_of_ble_eq_true rfl, Nat.le_of_ble_eq_true rfl⟩ rfl (lv_sub hl [] rfl) rfl (Nat.le_of_ble_eq_true rfl) ⟨Nat.le_of_ble_eq_true rfl, Nat.le_of_ble_eq_true rfl⟩ d_Home_takesBack_92) hS (fun H locs q1 sp1 hR hS => ?_)
        refine W.widen (k := 1) (n := 8) (by decide) (by decide) ?_
        refine lv_pop hx hb d_Home_takesBack_95 rfl ?_
        have eM : M ++ [(7, 4, r, b, 0, 0, 0)] = M ++ s_ahQ g kd r b := by rw [s_ahQ, if_neg (by omega), if_neg (by omega), if_neg (by omega)]
        have eG : snd (up2 g 16 (4 * b + r) 0) = s_ahG g kd r b v := by
          rw [s_ahG, if_neg (by omega), if_neg (by omega), if_neg (by omega)]
          rw [if_neg (fun e9 => h4 e9.2.2)]
          have h14 : ¬ g 14 b = 1 := by rw [hst]; exact nI_neF (b := 1) h5 (by omega) (by omega)
          rw [if_neg h14, show g 14 b = up2 g 16 (4 * b + r) 0 14 b from rfl, up2_id]
        rw [eG, eM] at hR
        exact x_vret (nw := [q1]) E hR hS d_Home_takesBack_96
      · replace h5 : st = 1 := hC.2.2.1.2 st 1 (by omega) (by decide) h5
        refine lv_aload_n hx hb d_Home_takesBack_65 rfl (lv_at hl 0 rfl) ?_
        refine xg_Home E hC hR (show vl N 12 b from hb4) 4 (by decide) zf_Home_58 rfl d_Home_takesBack_66 ?_
        refine lv_if_ne (tgt := 79) hx hb d_Home_takesBack_69 (by decide) (fun h6 => ?_) (fun h6 => ?_)
        · replace h6 := (not_congr (nI_eq (a := s_set (up2 g 16 (4 * b + r) 0) b 4) (b := 0) (by omega) (by omega))).mp h6
          refine lv_aload_n hx hb d_Home_takesBack_79 rfl (lv_at hl 0 rfl) ?_
          refine xg_Home E hC hR (show vl N 12 b from hb4) 1 (by decide) zf_Home_26 rfl d_Home_takesBack_80 ?_
          refine x_gets (eA := eA) hC.2.1 E hS 7 (by decide) zf_Home_115 d_Home_takesBack_83 ?_
          refine lv_iconst (v := 4) hx hb d_Home_takesBack_86 (by decide) ?_
          refine lv_iload_n hx hb d_Home_takesBack_87 rfl (lv_at hl 1 rfl) ?_
          refine lv_aload_n hx hb d_Home_takesBack_88 rfl (lv_at hl 0 rfl) ?_
          refine xg_Home E hC hR (show vl N 12 b from hb4) 0 (by decide) zf_Home_23 rfl d_Home_takesBack_89 ?_
          have hlen0 := hR.len
          refine xc_r (av := [.ref (ad 1 0), .ref (eA 0 7), .int 4, .int (nI r), .int (nI b)]) (xrunV (As := [.ref (eA 0 7), .int 4, .int (nI r), .int (nI b)]) (rest := []) E hA hC hR hS (c_Net_send l D dA eA ad A N (up2 g 16 (4 * b + r) 0) M as sp 7 4 r b) (x_recv hC hR (s0 := 1) (i0 := 0) (show vl N 1 0 from rfl) rfl rfl) ck_Home_93 ⟨rfl, rfl⟩ ⟨Nat.le_of_ble_eq_true rfl, Nat.le_of_ble_eq_true rfl⟩ rfl (lv_sub hl [] rfl) rfl (Nat.le_of_ble_eq_true rfl) ⟨Nat.le_of_ble_eq_true rfl, Nat.le_of_ble_eq_true rfl⟩ d_Home_takesBack_92) hS (fun H locs q1 sp1 hR hS => ?_)
          refine W.widen (k := 1) (n := 8) (by decide) (by decide) ?_
          refine lv_pop hx hb d_Home_takesBack_95 rfl ?_
          have eM : M ++ [(7, 4, r, b, 0, 0, 0)] = M ++ s_ahQ g kd r b := by rw [s_ahQ, if_neg (by omega), if_neg (by omega), if_neg (by omega)]
          have eG : snd (up2 g 16 (4 * b + r) 0) = s_ahG g kd r b v := by
            rw [s_ahG, if_neg (by omega), if_neg (by omega), if_neg (by omega)]
            rw [if_neg (fun e9 => h4 e9.2.2)]
            have h14 : g 14 b = 1 := by rw [hst, h5]; rfl
            rw [if_pos h14]
            rw [if_neg (fun e9 => h6 (set_0.mpr e9))]
            rw [show g 14 b = up2 g 16 (4 * b + r) 0 14 b from rfl, up2_id]
          rw [eG, eM] at hR
          exact x_vret (nw := [q1]) E hR hS d_Home_takesBack_96
        · replace h6 := (nI_eq (a := s_set (up2 g 16 (4 * b + r) 0) b 4) (b := 0) (by omega) (by omega)).mp h6
          refine lv_aload_n hx hb d_Home_takesBack_72 rfl (lv_at hl 0 rfl) ?_
          refine x_gets (eA := eA) hC.2.2.1 E hS 0 (by decide) zf_Home_9 d_Home_takesBack_73 ?_
          refine xp_Home_state E hC hR hS (show vl N 12 b from hb4) (q := 0) (by decide) zf_Home_15 d_Home_takesBack_76 (fun H locs hR hS => ?_)
          refine lv_aload_n hx hb d_Home_takesBack_79 rfl (lv_at hl 0 rfl) ?_
          refine xg_Home E hC hR (show vl N 12 b from hb4) 1 (by decide) zf_Home_26 rfl d_Home_takesBack_80 ?_
          refine x_gets (eA := eA) hC.2.1 E hS 7 (by decide) zf_Home_115 d_Home_takesBack_83 ?_
          refine lv_iconst (v := 4) hx hb d_Home_takesBack_86 (by decide) ?_
          refine lv_iload_n hx hb d_Home_takesBack_87 rfl (lv_at hl 1 rfl) ?_
          refine lv_aload_n hx hb d_Home_takesBack_88 rfl (lv_at hl 0 rfl) ?_
          refine xg_Home E hC hR (show vl N 12 b from hb4) 0 (by decide) zf_Home_23 rfl d_Home_takesBack_89 ?_
          have hlen0 := hR.len
          refine xc_r (av := [.ref (ad 1 0), .ref (eA 0 7), .int 4, .int (nI r), .int (nI b)]) (xrunV (As := [.ref (eA 0 7), .int 4, .int (nI r), .int (nI b)]) (rest := []) E hA hC hR hS (c_Net_send l D dA eA ad A N (up2 (up2 g 16 (4 * b + r) 0) 14 b (nI 0)) M as sp 7 4 r b) (x_recv hC hR (s0 := 1) (i0 := 0) (show vl N 1 0 from rfl) rfl rfl) ck_Home_93 ⟨rfl, rfl⟩ ⟨Nat.le_of_ble_eq_true rfl, Nat.le_of_ble_eq_true rfl⟩ rfl (lv_sub hl [] rfl) rfl (Nat.le_of_ble_eq_true rfl) ⟨Nat.le_of_ble_eq_true rfl, Nat.le_of_ble_eq_true rfl⟩ d_Home_takesBack_92) hS (fun H locs q1 sp1 hR hS => ?_)
          refine W.widen (k := 1) (n := 8) (by decide) (by decide) ?_
          refine lv_pop hx hb d_Home_takesBack_95 rfl ?_
          have eM : M ++ [(7, 4, r, b, 0, 0, 0)] = M ++ s_ahQ g kd r b := by rw [s_ahQ, if_neg (by omega), if_neg (by omega), if_neg (by omega)]
          have eG : snd (up2 (up2 g 16 (4 * b + r) 0) 14 b (nI 0)) = s_ahG g kd r b v := by
            rw [s_ahG, if_neg (by omega), if_neg (by omega), if_neg (by omega)]
            rw [if_neg (fun e9 => h4 e9.2.2)]
            have h14 : g 14 b = 1 := by rw [hst, h5]; rfl
            rw [if_pos h14]
            rw [if_pos (set_0.mp h6)]; rfl
          rw [eG, eM] at hR
          exact x_vret (nw := [q1]) E hR hS d_Home_takesBack_96
    · refine lv_aload_n hx hb d_Home_takesBack_18 rfl (lv_at hl 0 rfl) ?_
      refine lv_aload_n hx hb d_Home_takesBack_19 rfl (lv_at hl 2 rfl) ?_
      refine xg_Msg E hC hR hq hz 4 (by decide) zf_Home_52 rfl d_Home_takesBack_20 ?_
      refine xp_Home_memory E hC hR hS (show vl N 12 b from hb4) zf_Home_55 d_Home_takesBack_23 (fun H locs hR hS => ?_)
      refine lv_aload_n hx hb d_Home_takesBack_26 rfl (lv_at hl 0 rfl) ?_
      refine lv_iconst (v := (-1)) hx hb d_Home_takesBack_27 (by decide) ?_
      refine xp_Home_owner E hC hR hS (show vl N 12 b from hb4) zf_Home_20 d_Home_takesBack_28 (fun H locs hR hS => ?_)
      refine lv_aload_n hx hb d_Home_takesBack_31 rfl (lv_at hl 0 rfl) ?_
      refine x_gets (eA := eA) hC.2.2.1 E hS 0 (by decide) zf_Home_9 d_Home_takesBack_32 ?_
      refine xp_Home_state E hC hR hS (show vl N 12 b from hb4) (q := 0) (by decide) zf_Home_15 d_Home_takesBack_35 (fun H locs hR hS => ?_)
      refine lv_goto (tgt := 79) hx hb d_Home_takesBack_38 (by decide) ?_
      refine lv_aload_n hx hb d_Home_takesBack_79 rfl (lv_at hl 0 rfl) ?_
      refine xg_Home E hC hR (show vl N 12 b from hb4) 1 (by decide) zf_Home_26 rfl d_Home_takesBack_80 ?_
      refine x_gets (eA := eA) hC.2.1 E hS 7 (by decide) zf_Home_115 d_Home_takesBack_83 ?_
      refine lv_iconst (v := 4) hx hb d_Home_takesBack_86 (by decide) ?_
      refine lv_iload_n hx hb d_Home_takesBack_87 rfl (lv_at hl 1 rfl) ?_
      refine lv_aload_n hx hb d_Home_takesBack_88 rfl (lv_at hl 0 rfl) ?_
      refine xg_Home E hC hR (show vl N 12 b from hb4) 0 (by decide) zf_Home_23 rfl d_Home_takesBack_89 ?_
      have hlen0 := hR.len
      refine xc_r (av := [.ref (ad 1 0), .ref (eA 0 7), .int 4, .int (nI r), .int (nI b)]) (xrunV (As := [.ref (eA 0 7), .int 4, .int (nI r), .int (nI b)]) (rest := []) E hA hC hR hS (c_Net_send l D dA eA ad A N (up2 (up2 (up2 g 13 b v) 15 b (-1)) 14 b (nI 0)) M as sp 7 4 r b) (x_recv hC hR (s0 := 1) (i0 := 0) (show vl N 1 0 from rfl) rfl rfl) ck_Home_93 ⟨rfl, rfl⟩ ⟨Nat.le_of_ble_eq_true rfl, Nat.le_of_ble_eq_true rfl⟩ rfl (lv_sub hl [] rfl) rfl (Nat.le_of_ble_eq_true rfl) ⟨Nat.le_of_ble_eq_true rfl, Nat.le_of_ble_eq_true rfl⟩ d_Home_takesBack_92) hS (fun H locs q1 sp1 hR hS => ?_)
      refine W.widen (k := 1) (n := 8) (by decide) (by decide) ?_
      refine lv_pop hx hb d_Home_takesBack_95 rfl ?_
      have eM : M ++ [(7, 4, r, b, 0, 0, 0)] = M ++ s_ahQ g kd r b := by rw [s_ahQ, if_neg (by omega), if_neg (by omega), if_neg (by omega)]
      have eG : snd (up2 (up2 (up2 g 13 b v) 15 b (-1)) 14 b (nI 0)) = s_ahG g kd r b v := by
        rw [s_ahG, if_neg (by omega), if_neg (by omega), if_neg (by omega)]
        rw [if_pos ⟨h1, by rw [hst, hom h4]; rfl, h4⟩]; rfl
      rw [eG, eM] at hR
      exact x_vret (nw := [q1]) E hR hS d_Home_takesBack_96
set_option maxHeartbeats 4000000 in
set_option maxRecDepth 100000 in
theorem c_Home_gives (l : Launch) (D : va_G) (dA : Nat → ClassId) (eA ad : Nat → Nat → Nat) (A : Nat → Prop) (N : Nat) (g : PS) (M : List Msg) (as sp : List Nat) (b : Nat) (hb4 : b < 4) (st : Nat) (hst4 : st < 4) (hst : g 14 b = nI st) (r : Nat) (hr : r < 4) (ho : st = 2 → ∃ o, o < 4 ∧ g 15 b = nI o) : Met l y_Home_gives (k_Home_gives :: wz) (rml 4 5 40) (va_Pc [.ref (ad 12 b), .int (nI r)] (PX D dA eA ad A N g M as sp)) (XQi D dA eA ad A N (if st = 3 then 0 else 1) (if st = 3 then g else s_getmG g r b) (if st = 3 then M else M ++ s_getmQ g r b) as) 5 40 A := by
  refine x_entry (by decide) (Nat.le_of_ble_eq_true rfl) ?_
  intro p e s m below meth c0 E hA hC hR ls hl
  have hx := E.1
  have hb := E.2.1
  have hS : va_S A s.heap s.heap [] := va_S.rf
  replace hl : lv_has ls 5 [(0, .ref (ad 12 b)), (1, .int (nI r))] := hl
  refine lv_aload_n hx hb d_Home_gives_0 rfl (lv_at hl 0 rfl) ?_
  refine xg_Home E hC hR (show vl N 12 b from hb4) 2 (by decide) zf_Home_15 rfl d_Home_gives_1 ?_
  refine wr_eq (y := eA 1 st) (congrArg (eA 1) (by rw [show g 14 b = nI st from hst]; exact nI_clamp (by omega))) ?_
  refine x_gets (eA := eA) hC.2.2.1 E hS 3 (by decide) zf_Home_68 d_Home_gives_4 ?_
  refine lv_acmpR_ne (tgt := 12) hx hb d_Home_gives_7 (by decide) (fun h1 => ?_) (fun h1 => ?_)
  · replace h1 : ¬ st = 3 := fun e9 => h1 (by rw [e9])
    refine lv_aload_n hx hb d_Home_gives_12 rfl (lv_at hl 0 rfl) ?_
    refine xg_Home E hC hR (show vl N 12 b from hb4) 2 (by decide) zf_Home_15 rfl d_Home_gives_13 ?_
    refine wr_eq (y := eA 1 st) (congrArg (eA 1) (by rw [show g 14 b = nI st from hst]; exact nI_clamp (by omega))) ?_
    refine x_gets (eA := eA) hC.2.2.1 E hS 2 (by decide) zf_Home_71 d_Home_gives_16 ?_
    refine lv_acmpR_ne (tgt := 44) hx hb d_Home_gives_19 (by decide) (fun h2 => ?_) (fun h2 => ?_)
    · replace h2 : ¬ st = 2 := fun e9 => h2 (by rw [e9])
      refine lv_aload_n hx hb d_Home_gives_44 rfl (lv_at hl 0 rfl) ?_
      refine xg_Home E hC hR (show vl N 12 b from hb4) 4 (by decide) zf_Home_58 rfl d_Home_gives_45 ?_
      refine lv_iconst (v := 1) hx hb d_Home_gives_48 (by decide) ?_
      refine lv_iload_n hx hb d_Home_gives_49 rfl (lv_at hl 1 rfl) ?_
      refine lv_ishl hx hb d_Home_gives_50 ?_
      refine lv_iconst (v := (-1)) hx hb d_Home_gives_51 (by decide) ?_
      refine lv_ixor hx hb d_Home_gives_52 ?_
      refine lv_iand hx hb d_Home_gives_53 ?_
      refine wn_eq (y := nI (s_rm g b r 4)) (by rw [set_andn (by omega), rm_4 (by omega)]) ?_
      refine lv_istore_n (lv' := [(2, .int (nI (s_rm g b r 4))), (0, .ref (ad 12 b)), (1, .int (nI r))]) hx hb d_Home_gives_54 rfl hl (by decide) rfl (fun ls hl => ?_)
      refine lv_aload_n hx hb d_Home_gives_55 rfl (lv_at hl 1 rfl) ?_
      refine xg_Home E hC hR (show vl N 12 b from hb4) 1 (by decide) zf_Home_26 rfl d_Home_gives_56 ?_
      refine x_gets (eA := eA) hC.2.1 E hS 8 (by decide) zf_Home_83 d_Home_gives_59 ?_
      refine lv_iconst (v := 4) hx hb d_Home_gives_62 (by decide) ?_
      refine lv_iload_n hx hb d_Home_gives_63 rfl (lv_at hl 2 rfl) ?_
      refine lv_aload_n hx hb d_Home_gives_64 rfl (lv_at hl 1 rfl) ?_
      refine xg_Home E hC hR (show vl N 12 b from hb4) 0 (by decide) zf_Home_23 rfl d_Home_gives_65 ?_
      have hlen0 := hR.len
      refine xc_r (av := [.ref (ad 1 0), .ref (eA 0 8), .int 4, .int (nI r), .int (nI b)]) (xrunV (As := [.ref (eA 0 8), .int 4, .int (nI r), .int (nI b)]) (rest := []) E hA hC hR hS (c_Net_send l D dA eA ad A N g M as sp 8 4 r b) (x_recv hC hR (s0 := 1) (i0 := 0) (show vl N 1 0 from rfl) rfl rfl) ck_Home_93 ⟨rfl, rfl⟩ ⟨Nat.le_of_ble_eq_true rfl, Nat.le_of_ble_eq_true rfl⟩ rfl (lv_sub hl [] rfl) rfl (Nat.le_of_ble_eq_true rfl) ⟨Nat.le_of_ble_eq_true rfl, Nat.le_of_ble_eq_true rfl⟩ d_Home_gives_68) hS (fun H locs q1 sp1 hR hS => ?_)
      refine W.widen (k := 1) (n := 8) (by decide) (by decide) ?_
      refine lv_astore_n (lv' := [(3, .ref q1), (2, .int (nI (s_rm g b r 4))), (0, .ref (ad 12 b)), (1, .int (nI r))]) hx hb d_Home_gives_71 rfl hl (by decide) rfl (fun ls hl => ?_)
      refine lv_aload_n hx hb d_Home_gives_72 rfl (lv_at hl 0 rfl) ?_
      refine lv_aload_n hx hb d_Home_gives_73 rfl (lv_at hl 2 rfl) ?_
      refine xg_Home E hC hR (show vl N 12 b from hb4) 5 (by decide) zf_Home_55 rfl d_Home_gives_74 ?_
      refine wn_eq (y := g 13 b) (by simp [up2, upd, snd]) ?_
      have hqa4 : (as ++ [q1])[M.length]? = some q1 := by rw [← hlen0]; simp
      have hza4 : (M ++ [(8, 4, r, b, 0, 0, 0)])[M.length]? = some (8, 4, r, b, 0, 0, 0) := by simp
      refine xp_Msg (z' := (8, 4, r, b, g 13 b, 0, 0)) E hC hR hS hqa4 hza4 4 (by decide) zf_Home_52 rfl rfl rfl d_Home_gives_77 (fun H locs hR hS => ?_)
      have eM4 : (M ++ [(8, 4, r, b, 0, 0, 0)] : List Msg).set M.length (8, 4, r, b, g 13 b, 0, 0) = M ++ [(8, 4, r, b, g 13 b, 0, 0)] := by simp
      rw [eM4] at hR
      refine lv_aload_n hx hb d_Home_gives_80 rfl (lv_at hl 0 rfl) ?_
      refine lv_iload_n hx hb d_Home_gives_81 rfl (lv_at hl 1 rfl) ?_
      refine s_callR (As := [.int (nI (s_rm g b r 4))]) (rest := [.ref q1]) E (c_Int_bitCount l (nI (s_rm g b r 4))) ck_Home_97 ⟨rfl, rfl⟩ ⟨Nat.le_of_ble_eq_true rfl, Nat.le_of_ble_eq_true rfl⟩ rfl (lv_sub hl [] rfl) rfl (Nat.le_of_ble_eq_true rfl) ⟨Nat.le_of_ble_eq_true rfl, Nat.le_of_ble_eq_true rfl⟩ d_Home_gives_82 ?_
      refine wn_eq (y := nI (s_shr g b (r + 1) 4)) (bc_eq (by omega)) ?_
      have hqa5 : (as ++ [q1])[M.length]? = some q1 := by rw [← hlen0]; simp
      have hza5 : (M ++ [(8, 4, r, b, g 13 b, 0, 0)])[M.length]? = some (8, 4, r, b, g 13 b, 0, 0) := by simp
      refine xp_Msg (z' := (8, 4, r, b, g 13 b, s_shr g b (r + 1) 4, 0)) E hC hR hS hqa5 hza5 5 (by decide) zf_Home_103 rfl rfl rfl d_Home_gives_85 (fun H locs hR hS => ?_)
      have eM5 : (M ++ [(8, 4, r, b, g 13 b, 0, 0)] : List Msg).set M.length (8, 4, r, b, g 13 b, s_shr g b (r + 1) 4, 0) = M ++ [(8, 4, r, b, g 13 b, s_shr g b (r + 1) 4, 0)] := by simp
      rw [eM5] at hR
      refine lv_iload_n hx hb d_Home_gives_88 rfl (lv_at hl 1 rfl) ?_
      refine lv_istore (lv' := [(4, .int (nI (s_rm g b r 4))), (3, .ref q1), (2, .int (nI (s_rm g b r 4))), (0, .ref (ad 12 b)), (1, .int (nI r))]) hx hb d_Home_gives_89 hl (by decide) rfl (fun ls hl => ?_)
      have loop : ∀ (n c : Nat), c + n = 4 → ∀ (H : Heap) (locs : List Loc) (nw sp1 : List Nat), RX D dA eA ad A N (sndn (snd g) (s_invs g b r c).length) (M ++ [(8, 4, r, b, g 13 b, s_shr g b (r + 1) 4, 0)] ++ s_invs g b r c) (as ++ nw) sp1 H → va_S A s.heap H locs → ∀ ls, lv_has ls 5 [(4, .int (nI (s_rm g b r n))), (0, .ref (ad 12 b)), (1, .int (nI r))] → W p l e (rml 4 5 40) s m ([.ref (ad 12 b), .int (nI r)] : List Value).toArray below meth c0 H locs (1 + c) (8 + 8 * c) (MQ below (XQi D dA eA ad A N (if st = 3 then 0 else 1) (if st = 3 then g else s_getmG g r b) (if st = 3 then M else M ++ s_getmQ g r b) as) ([.ref (ad 12 b), .int (nI r)] : List Value).toArray s 5 40 A) (F0 m 91 ls []) := by
        intro n
        induction n with
        | zero =>
          intro c hcn H locs nw sp1 hR hS ls hl
          obtain rfl : c = 4 := by omega
          refine lv_iload hx hb d_Home_gives_91 (lv_at hl 0 rfl) ?_
          refine lv_if_eq (tgt := 128) hx hb d_Home_gives_93 (by decide) (fun h3 => ?_) (fun h3 => absurd (rfl) h3)
          refine lv_aload_n hx hb d_Home_gives_128 rfl (lv_at hl 1 rfl) ?_
          refine lv_iconst (v := 0) hx hb d_Home_gives_129 (by decide) ?_
          refine xp_Home_sharers E hC hR hS (show vl N 12 b from hb4) (g' := clr (sndn (snd g) (s_invs g b r 4).length) b 4) (fun k h => clr_k _ _ h 4) (fun j _ hj => clr_o _ hj) (by rw [clr_0]; rfl) zf_Home_58 d_Home_gives_130 (fun H locs hR hS => ?_)
          refine lv_aload_n hx hb d_Home_gives_133 rfl (lv_at hl 1 rfl) ?_
          refine lv_iload_n hx hb d_Home_gives_134 rfl (lv_at hl 2 rfl) ?_
          refine xp_Home_owner E hC hR hS (show vl N 12 b from hb4) zf_Home_20 d_Home_gives_135 (fun H locs hR hS => ?_)
          refine lv_aload_n hx hb d_Home_gives_138 rfl (lv_at hl 1 rfl) ?_
          refine x_gets (eA := eA) hC.2.2.1 E hS 2 (by decide) zf_Home_71 d_Home_gives_139 ?_
          refine xp_Home_state E hC hR hS (show vl N 12 b from hb4) (q := 2) (by decide) zf_Home_15 d_Home_gives_142 (fun H locs hR hS => ?_)
          refine lv_iconst (v := 1) hx hb d_Home_gives_145 (by decide) ?_
          rw [if_neg h1, if_neg h1, if_neg h1]
          refine W.widen (k := 5) (n := 40) (by omega) (by omega) ?_
          have h14 : ¬ g 14 b = 2 := by rw [hst]; exact nI_neF (b := 2) h2 (by omega) (by omega)
          have eG : up2 (up2 (clr (sndn (snd g) (s_invs g b r 4).length) b 4) 15 b (nI r)) 14 b (nI 2) = s_getmG g r b := by rw [s_getmG, if_neg h14, inv_eq, show s_invs (snd g) b r 4 = s_invs g b r 4 from s_invs_c rfl b r 4]; rfl
          have eQ : M ++ [(8, 4, r, b, g 13 b, s_shr g b (r + 1) 4, 0)] ++ s_invs g b r 4 = M ++ s_getmQ g r b := by rw [s_getmQ, if_neg h14]; simp
          rw [eG, eQ] at hR
          exact x_iret (nw := nw) E hR hS rfl rfl d_Home_gives_146
        | succ n ih =>
          intro c hcn H locs nw sp1 hR hS ls hl
          have hc3 : c = 3 - n := by omega
          by_cases h0 : g 16 (4 * b + c) = 0
          · refine W.widen (k := 1 + (c + 1)) (n := 8 + 8 * (c + 1)) (by omega) (by omega) ?_
            have e9 : s_invs g b r (c + 1) = s_invs g b r c := by rw [s_invs, if_pos h0]
            rw [rm_no (Or.inl (by rw [← hc3]; exact h0))] at hl
            exact ih (c + 1) (by omega) H locs nw sp1 (by rw [e9]; exact hR) hS ls hl
          · by_cases h1 : c = r
            · refine W.widen (k := 1 + (c + 1)) (n := 8 + 8 * (c + 1)) (by omega) (by omega) ?_
              have e9 : s_invs g b r (c + 1) = s_invs g b r c := by rw [s_invs, if_neg h0, if_pos h1]
              rw [rm_no (Or.inr (by omega))] at hl
              exact ih (c + 1) (by omega) H locs nw sp1 (by rw [e9]; exact hR) hS ls hl
            · obtain ⟨hs1, hs2, hs3⟩ := rm_step (g := g) (b := b) (r := r) (n := n) (by omega) (by rw [← hc3]; exact h0) (by omega)
              refine lv_iload hx hb d_Home_gives_91 (lv_at hl 0 rfl) ?_
              refine lv_if_eq (tgt := 128) hx hb d_Home_gives_93 (by decide) (fun h4 => absurd h4 (hs3)) (fun h4 => ?_)
              refine lv_aload_n hx hb d_Home_gives_96 rfl (lv_at hl 1 rfl) ?_
              refine xg_Home E hC hR (show vl N 12 b from hb4) 1 (by decide) zf_Home_26 rfl d_Home_gives_97 ?_
              refine x_gets (eA := eA) hC.2.1 E hS 6 (by decide) zf_Home_106 d_Home_gives_100 ?_
              refine lv_iload hx hb d_Home_gives_103 (lv_at hl 0 rfl) ?_
              refine s_callR (As := [.int (nI (s_rm g b r (n + 1)))]) (rest := [.ref (eA 0 6), .ref (ad 1 0)]) E (c_Int_ntz l (nI (s_rm g b r (n + 1))) (nI (2 ^ (3 - n) - 1)) hs1 (tz_c (by omega)).2) ck_Home_109 ⟨rfl, rfl⟩ ⟨Nat.le_of_ble_eq_true rfl, Nat.le_of_ble_eq_true rfl⟩ rfl (lv_sub hl [] rfl) rfl (Nat.le_of_ble_eq_true rfl) ⟨(show 1 + c ≤ 5 by omega), (show 8 + 8 * c ≤ 40 by omega)⟩ d_Home_gives_105 ?_
              refine wn_eq (y := nI (3 - n)) (tz_c (by omega)).1 ?_
              refine lv_aload_n hx hb d_Home_gives_108 rfl (lv_at hl 1 rfl) ?_
              refine xg_Home E hC hR (show vl N 12 b from hb4) 0 (by decide) zf_Home_23 rfl d_Home_gives_109 ?_
              refine lv_iload_n hx hb d_Home_gives_112 rfl (lv_at hl 2 rfl) ?_
              refine xc_v (av := [.ref (ad 1 0), .ref (eA 0 6), .int (nI (3 - n)), .int (nI b), .int (nI r)]) (xrunV (As := [.ref (eA 0 6), .int (nI (3 - n)), .int (nI b), .int (nI r)]) (rest := []) E hA hC hR hS (c_Net_sendFor l D dA eA ad A N (sndn (snd g) (s_invs g b r c).length) (M ++ [(8, 4, r, b, g 13 b, s_shr g b (r + 1) 4, 0)] ++ s_invs g b r c) (as ++ nw) sp1 6 (3 - n) b r) (x_recv hC hR (s0 := 1) (i0 := 0) (show vl N 1 0 from rfl) rfl rfl) ck_Home_77 ⟨rfl, rfl⟩ ⟨Nat.le_of_ble_eq_true rfl, Nat.le_of_ble_eq_true rfl⟩ rfl (lv_sub hl [] rfl) rfl (Nat.le_of_ble_eq_true rfl) ⟨(show 1 + c + 1 ≤ 5 by omega), (show 8 + 8 * c + 8 ≤ 40 by omega)⟩ d_Home_gives_113) hS (fun H locs nw2 sp2 hR hS => ?_)
              refine lv_iload hx hb d_Home_gives_116 (lv_at hl 0 rfl) ?_
              refine lv_iload hx hb d_Home_gives_118 (lv_at hl 0 rfl) ?_
              refine lv_iconst (v := 1) hx hb d_Home_gives_120 (by decide) ?_
              refine lv_isub hx hb d_Home_gives_121 ?_
              refine lv_iand hx hb d_Home_gives_122 ?_
              refine wn_eq (y := nI (s_rm g b r n)) hs2 ?_
              refine lv_istore (lv' := [(4, .int (nI (s_rm g b r n))), (0, .ref (ad 12 b)), (1, .int (nI r))]) hx hb d_Home_gives_123 hl (by decide) rfl (fun ls hl => ?_)
              refine lv_goto (tgt := 91) hx hb d_Home_gives_125 (by decide) ?_
              refine W.widen (k := 1 + (c + 1)) (n := 8 + 8 * (c + 1)) (by omega) (by omega) ?_
              have e9 : s_invs g b r (c + 1) = s_invs g b r c ++ [(6, 4, c, b, 0, 0, r + 1)] := by rw [s_invs, if_neg h0, if_neg h1]
              refine ih (c + 1) (by omega) H locs (nw ++ nw2) sp2 ?_ hS ls (lv_sub hl [0, 1, 2] rfl)
              rw [e9, List.length_append, ← List.append_assoc, ← List.append_assoc, hc3]
              rw [hc3] at hR
              exact hR
      refine loop 4 0 rfl H locs [q1] sp1 ?_ hS ls (lv_sub hl [0, 3, 4] rfl)
      rw [s_invs, List.append_nil]
      exact hR
    · replace h2 : st = 2 := hC.2.2.1.2 st 2 (by omega) (by decide) h2
      obtain ⟨o, ho4, ho5⟩ := ho h2
      have ho6 : (g 15 b).toNatClampNeg = o := by rw [ho5]; exact nI_clamp (by omega)
      refine lv_aload_n hx hb d_Home_gives_22 rfl (lv_at hl 0 rfl) ?_
      refine xg_Home E hC hR (show vl N 12 b from hb4) 1 (by decide) zf_Home_26 rfl d_Home_gives_23 ?_
      refine x_gets (eA := eA) hC.2.1 E hS 5 (by decide) zf_Home_90 d_Home_gives_26 ?_
      refine lv_aload_n hx hb d_Home_gives_29 rfl (lv_at hl 0 rfl) ?_
      refine xg_Home E hC hR (show vl N 12 b from hb4) 3 (by decide) zf_Home_20 rfl d_Home_gives_30 ?_
      refine wn_eq (y := nI o) ho5 ?_
      refine lv_aload_n hx hb d_Home_gives_33 rfl (lv_at hl 0 rfl) ?_
      refine xg_Home E hC hR (show vl N 12 b from hb4) 0 (by decide) zf_Home_23 rfl d_Home_gives_34 ?_
      refine lv_iload_n hx hb d_Home_gives_37 rfl (lv_at hl 1 rfl) ?_
      refine xc_v (av := [.ref (ad 1 0), .ref (eA 0 5), .int (nI o), .int (nI b), .int (nI r)]) (xrunV (As := [.ref (eA 0 5), .int (nI o), .int (nI b), .int (nI r)]) (rest := []) E hA hC hR hS (c_Net_sendFor l D dA eA ad A N g M as sp 5 o b r) (x_recv hC hR (s0 := 1) (i0 := 0) (show vl N 1 0 from rfl) rfl rfl) ck_Home_77 ⟨rfl, rfl⟩ ⟨Nat.le_of_ble_eq_true rfl, Nat.le_of_ble_eq_true rfl⟩ rfl (lv_sub hl [] rfl) rfl (Nat.le_of_ble_eq_true rfl) ⟨Nat.le_of_ble_eq_true rfl, Nat.le_of_ble_eq_true rfl⟩ d_Home_gives_38) hS (fun H locs nw1 sp1 hR hS => ?_)
      refine W.widen (k := 1) (n := 8) (by decide) (by decide) ?_
      refine lv_goto (tgt := 133) hx hb d_Home_gives_41 (by decide) ?_
      refine lv_aload_n hx hb d_Home_gives_133 rfl (lv_at hl 0 rfl) ?_
      refine lv_iload_n hx hb d_Home_gives_134 rfl (lv_at hl 1 rfl) ?_
      refine xp_Home_owner E hC hR hS (show vl N 12 b from hb4) zf_Home_20 d_Home_gives_135 (fun H locs hR hS => ?_)
      refine lv_aload_n hx hb d_Home_gives_138 rfl (lv_at hl 0 rfl) ?_
      refine x_gets (eA := eA) hC.2.2.1 E hS 2 (by decide) zf_Home_71 d_Home_gives_139 ?_
      refine xp_Home_state E hC hR hS (show vl N 12 b from hb4) (q := 2) (by decide) zf_Home_15 d_Home_gives_142 (fun H locs hR hS => ?_)
      refine lv_iconst (v := 1) hx hb d_Home_gives_145 (by decide) ?_
      rw [if_neg h1, if_neg h1, if_neg h1]
      refine W.widen (k := 5) (n := 40) (by decide) (by decide) ?_
      have h14 : g 14 b = 2 := by rw [hst, h2]; rfl
      have eG : up2 (up2 (snd g) 15 b (nI r)) 14 b (nI 2) = s_getmG g r b := by rw [s_getmG, if_pos h14]; rfl
      have eQ : M ++ [(5, 4, o, b, 0, 0, r + 1)] = M ++ s_getmQ g r b := by rw [s_getmQ, if_pos h14, ho6]
      rw [eG, eQ] at hR
      exact x_iret (nw := nw1) E hR hS rfl rfl d_Home_gives_146
  · replace h1 : st = 3 := hC.2.2.1.2 st 3 (by omega) (by decide) h1
    refine lv_iconst (v := 0) hx hb d_Home_gives_10 (by decide) ?_
    rw [if_pos h1, if_pos h1, if_pos h1]
    refine W.widen (k := 5) (n := 40) (by decide) (by decide) ?_
    exact x_iret (nw := []) E (by rw [List.append_nil]; exact hR) hS rfl rfl d_Home_gives_11
set_option maxHeartbeats 4000000 in
set_option maxRecDepth 100000 in
theorem c_Home_take (l : Launch) (D : va_G) (dA : Nat → ClassId) (eA ad : Nat → Nat → Nat) (A : Nat → Prop) (N : Nat) (g : PS) (M : List Msg) (as sp : List Nat) (b : Nat) (hb4 : b < 4) (st : Nat) (hst4 : st < 4) (hst : g 14 b = nI st) (kd j q fr t : Nat) (v : Int32) (nb aq : Nat) (hkd : kd = 0 ∨ kd = 1 ∨ kd = 2 ∨ kd = 3 ∨ kd = 8) (hfr : fr < 4) (hq : as[j]? = some q) (hz : M[j]? = some (kd, fr, t, b, v, nb, aq)) (ho : st = 2 → ∃ o, o < 4 ∧ g 15 b = nI o) (hom : g 15 b = nI fr → st = 2) : Met l y_Home_take (k_Home_take :: wz) (rml 5 5 40) (va_Pc [.ref (ad 12 b), .ref q] (PX D dA eA ad A N g M as sp)) (XQi D dA eA ad A N (if s_stalls g (kd, fr, 4, b, v, nb, aq) = 0 then 1 else 0) (if s_stalls g (kd, fr, 4, b, v, nb, aq) = 0 then s_ahG g kd fr b v else g) (if s_stalls g (kd, fr, 4, b, v, nb, aq) = 0 then M ++ s_ahQ g kd fr b else M) as) 5 40 A := by
  refine x_entry (by decide) (Nat.le_of_ble_eq_true rfl) ?_
  intro p e s m below meth c0 E hA hC hR ls hl
  have hx := E.1
  have hb := E.2.1
  have hS : va_S A s.heap s.heap [] := va_S.rf
  replace hl : lv_has ls 3 [(0, .ref (ad 12 b)), (1, .ref q)] := hl
  have hs3 : g 14 b = 3 ↔ st = 3 := by rw [hst]; exact nI_eq (b := 3) (by omega) (by omega)
  have hs16 := set_16 g b
  rcases hkd with rfl | rfl | rfl | rfl | rfl
  · have hst9 : s_stalls g (0, fr, 4, b, v, nb, aq) = if st = 3 then 1 else 0 := by simp [s_stalls, hs3]
    refine lv_aload_n hx hb d_Home_take_0 rfl (lv_at hl 1 rfl) ?_
    refine xg_Msg E hC hR hq hz 1 (by decide) zf_Home_30 rfl d_Home_take_1 ?_
    refine lv_istore_n (lv' := [(2, .int (nI fr)), (0, .ref (ad 12 b)), (1, .ref q)]) hx hb d_Home_take_4 rfl hl (by decide) rfl (fun ls hl => ?_)
    refine lv_aload_n hx hb d_Home_take_5 rfl (lv_at hl 2 rfl) ?_
    refine xg_Msg E hC hR hq hz 0 (by decide) zf_Home_35 rfl d_Home_take_6 ?_
    refine xc_R (av := [.ref (eA 0 0)]) (xrunU (As := []) (rest := []) E hA hC hR hS (c_ord_Kind l D dA eA ad A N g M as sp (by decide)) (va_recvE hC.2.1 (by decide) hS) gu_Home_39 hC.2.2.2.2.2.2.2.1.2 (by decide +kernel) ⟨rfl, rfl⟩ ⟨Nat.le_of_ble_eq_true rfl, Nat.le_of_ble_eq_true rfl⟩ rfl (lv_sub hl [] rfl) rfl (Nat.le_of_ble_eq_true rfl) ⟨Nat.le_of_ble_eq_true rfl, Nat.le_of_ble_eq_true rfl⟩ d_Home_take_9) ?_
    refine lv_lookup (off := 36) (tgt := 48) hx hb d_Home_take_12 (by decide) (by decide) (by decide) ?_
    refine lv_aload_n hx hb d_Home_take_48 rfl (lv_at hl 1 rfl) ?_
    refine lv_iload_n hx hb d_Home_take_49 rfl (lv_at hl 0 rfl) ?_
    refine xc_i (av := [.ref (ad 12 b), .int (nI fr)]) (xrunV (As := [.int (nI fr)]) (rest := []) E hA hC hR hS (c_Home_shares l D dA eA ad A N g M as sp b hb4 st hst4 hst fr hfr ho) (x_recv hC hR (s0 := 12) (i0 := b) (show vl N 12 b from hb4) rfl rfl) ck_Home_45 ⟨rfl, rfl⟩ ⟨Nat.le_of_ble_eq_true rfl, Nat.le_of_ble_eq_true rfl⟩ rfl (lv_sub hl [] rfl) rfl (Nat.le_of_ble_eq_true rfl) ⟨Nat.le_of_ble_eq_true rfl, Nat.le_of_ble_eq_true rfl⟩ d_Home_take_50) hS (fun H locs nw1 sp1 hR hS => ?_)
    refine W.widen (k := 1) (n := 8) (by decide) (by decide) ?_
    refine W.widen (k := 5) (n := 40) (by decide) (by decide) ?_
    rw [hst9]
    by_cases h3 : st = 3
    · rw [if_pos h3, if_pos h3] at hR
      simp only [if_pos h3]
      exact x_iret (nw := nw1) E hR hS rfl rfl d_Home_take_53
    · rw [if_neg h3, if_neg h3] at hR
      simp only [if_neg h3]
      exact x_iret (nw := nw1) E hR hS rfl rfl d_Home_take_53
  · have hst9 : s_stalls g (1, fr, 4, b, v, nb, aq) = if st = 3 then 1 else 0 := by simp [s_stalls, hs3]
    refine lv_aload_n hx hb d_Home_take_0 rfl (lv_at hl 1 rfl) ?_
    refine xg_Msg E hC hR hq hz 1 (by decide) zf_Home_30 rfl d_Home_take_1 ?_
    refine lv_istore_n (lv' := [(2, .int (nI fr)), (0, .ref (ad 12 b)), (1, .ref q)]) hx hb d_Home_take_4 rfl hl (by decide) rfl (fun ls hl => ?_)
    refine lv_aload_n hx hb d_Home_take_5 rfl (lv_at hl 2 rfl) ?_
    refine xg_Msg E hC hR hq hz 0 (by decide) zf_Home_35 rfl d_Home_take_6 ?_
    refine xc_R (av := [.ref (eA 0 1)]) (xrunU (As := []) (rest := []) E hA hC hR hS (c_ord_Kind l D dA eA ad A N g M as sp (by decide)) (va_recvE hC.2.1 (by decide) hS) gu_Home_39 hC.2.2.2.2.2.2.2.1.2 (by decide +kernel) ⟨rfl, rfl⟩ ⟨Nat.le_of_ble_eq_true rfl, Nat.le_of_ble_eq_true rfl⟩ rfl (lv_sub hl [] rfl) rfl (Nat.le_of_ble_eq_true rfl) ⟨Nat.le_of_ble_eq_true rfl, Nat.le_of_ble_eq_true rfl⟩ d_Home_take_9) ?_
    refine lv_lookup (off := 42) (tgt := 54) hx hb d_Home_take_12 (by decide) (by decide) (by decide) ?_
    refine lv_aload_n hx hb d_Home_take_54 rfl (lv_at hl 1 rfl) ?_
    refine lv_iload_n hx hb d_Home_take_55 rfl (lv_at hl 0 rfl) ?_
    refine xc_i (av := [.ref (ad 12 b), .int (nI fr)]) (xrunV (As := [.int (nI fr)]) (rest := []) E hA hC hR hS (c_Home_gives l D dA eA ad A N g M as sp b hb4 st hst4 hst fr hfr ho) (x_recv hC hR (s0 := 12) (i0 := b) (show vl N 12 b from hb4) rfl rfl) ck_Home_49 ⟨rfl, rfl⟩ ⟨Nat.le_of_ble_eq_true rfl, Nat.le_of_ble_eq_true rfl⟩ rfl (lv_sub hl [] rfl) rfl (Nat.le_of_ble_eq_true rfl) ⟨Nat.le_of_ble_eq_true rfl, Nat.le_of_ble_eq_true rfl⟩ d_Home_take_56) hS (fun H locs nw1 sp1 hR hS => ?_)
    refine W.widen (k := 5) (n := 40) (by decide) (by decide) ?_
    rw [hst9]
    by_cases h3 : st = 3
    · rw [if_pos h3, if_pos h3] at hR
      simp only [if_pos h3]
      exact x_iret (nw := nw1) E hR hS rfl rfl d_Home_take_59
    · rw [if_neg h3, if_neg h3] at hR
      simp only [if_neg h3]
      exact x_iret (nw := nw1) E hR hS rfl rfl d_Home_take_59
  · have hst9 : s_stalls g (2, fr, 4, b, v, nb, aq) = 0 := by simp [s_stalls]
    refine lv_aload_n hx hb d_Home_take_0 rfl (lv_at hl 1 rfl) ?_
    refine xg_Msg E hC hR hq hz 1 (by decide) zf_Home_30 rfl d_Home_take_1 ?_
    refine lv_istore_n (lv' := [(2, .int (nI fr)), (0, .ref (ad 12 b)), (1, .ref q)]) hx hb d_Home_take_4 rfl hl (by decide) rfl (fun ls hl => ?_)
    refine lv_aload_n hx hb d_Home_take_5 rfl (lv_at hl 2 rfl) ?_
    refine xg_Msg E hC hR hq hz 0 (by decide) zf_Home_35 rfl d_Home_take_6 ?_
    refine xc_R (av := [.ref (eA 0 2)]) (xrunU (As := []) (rest := []) E hA hC hR hS (c_ord_Kind l D dA eA ad A N g M as sp (by decide)) (va_recvE hC.2.1 (by decide) hS) gu_Home_39 hC.2.2.2.2.2.2.2.1.2 (by decide +kernel) ⟨rfl, rfl⟩ ⟨Nat.le_of_ble_eq_true rfl, Nat.le_of_ble_eq_true rfl⟩ rfl (lv_sub hl [] rfl) rfl (Nat.le_of_ble_eq_true rfl) ⟨Nat.le_of_ble_eq_true rfl, Nat.le_of_ble_eq_true rfl⟩ d_Home_take_9) ?_
    refine lv_lookup (off := 78) (tgt := 90) hx hb d_Home_take_12 (by decide) (by decide) (by decide) ?_
    refine lv_aload_n hx hb d_Home_take_90 rfl (lv_at hl 1 rfl) ?_
    refine lv_iload_n hx hb d_Home_take_91 rfl (lv_at hl 0 rfl) ?_
    refine lv_aload_n hx hb d_Home_take_92 rfl (lv_at hl 2 rfl) ?_
    refine xc_v (av := [.ref (ad 12 b), .int (nI fr), .ref q]) (xrunV (As := [.int (nI fr), .ref q]) (rest := []) E hA hC hR hS (c_Home_takesBack l D dA eA ad A N g M as sp b hb4 st hst4 hst fr 2 hfr (by decide) j q fr t v nb aq hq hz hom) (x_recv hC hR (s0 := 12) (i0 := b) (show vl N 12 b from hb4) rfl rfl) ck_Home_64 ⟨rfl, rfl⟩ ⟨Nat.le_of_ble_eq_true rfl, Nat.le_of_ble_eq_true rfl⟩ rfl (lv_sub hl [] rfl) rfl (Nat.le_of_ble_eq_true rfl) ⟨Nat.le_of_ble_eq_true rfl, Nat.le_of_ble_eq_true rfl⟩ d_Home_take_93) hS (fun H locs nw1 sp1 hR hS => ?_)
    refine W.widen (k := 1) (n := 8) (by decide) (by decide) ?_
    refine lv_iconst (v := 1) hx hb d_Home_take_96 (by decide) ?_
    refine W.widen (k := 5) (n := 40) (by decide) (by decide) ?_
    rw [hst9, if_pos rfl, if_pos rfl, if_pos rfl]
    exact x_iret (nw := nw1) E hR hS rfl rfl d_Home_take_97
  · have hst9 : s_stalls g (3, fr, 4, b, v, nb, aq) = 0 := by simp [s_stalls]
    refine lv_aload_n hx hb d_Home_take_0 rfl (lv_at hl 1 rfl) ?_
    refine xg_Msg E hC hR hq hz 1 (by decide) zf_Home_30 rfl d_Home_take_1 ?_
    refine lv_istore_n (lv' := [(2, .int (nI fr)), (0, .ref (ad 12 b)), (1, .ref q)]) hx hb d_Home_take_4 rfl hl (by decide) rfl (fun ls hl => ?_)
    refine lv_aload_n hx hb d_Home_take_5 rfl (lv_at hl 2 rfl) ?_
    refine xg_Msg E hC hR hq hz 0 (by decide) zf_Home_35 rfl d_Home_take_6 ?_
    refine xc_R (av := [.ref (eA 0 3)]) (xrunU (As := []) (rest := []) E hA hC hR hS (c_ord_Kind l D dA eA ad A N g M as sp (by decide)) (va_recvE hC.2.1 (by decide) hS) gu_Home_39 hC.2.2.2.2.2.2.2.1.2 (by decide +kernel) ⟨rfl, rfl⟩ ⟨Nat.le_of_ble_eq_true rfl, Nat.le_of_ble_eq_true rfl⟩ rfl (lv_sub hl [] rfl) rfl (Nat.le_of_ble_eq_true rfl) ⟨Nat.le_of_ble_eq_true rfl, Nat.le_of_ble_eq_true rfl⟩ d_Home_take_9) ?_
    refine lv_lookup (off := 78) (tgt := 90) hx hb d_Home_take_12 (by decide) (by decide) (by decide) ?_
    refine lv_aload_n hx hb d_Home_take_90 rfl (lv_at hl 1 rfl) ?_
    refine lv_iload_n hx hb d_Home_take_91 rfl (lv_at hl 0 rfl) ?_
    refine lv_aload_n hx hb d_Home_take_92 rfl (lv_at hl 2 rfl) ?_
    refine xc_v (av := [.ref (ad 12 b), .int (nI fr), .ref q]) (xrunV (As := [.int (nI fr), .ref q]) (rest := []) E hA hC hR hS (c_Home_takesBack l D dA eA ad A N g M as sp b hb4 st hst4 hst fr 3 hfr (by decide) j q fr t v nb aq hq hz hom) (x_recv hC hR (s0 := 12) (i0 := b) (show vl N 12 b from hb4) rfl rfl) ck_Home_64 ⟨rfl, rfl⟩ ⟨Nat.le_of_ble_eq_true rfl, Nat.le_of_ble_eq_true rfl⟩ rfl (lv_sub hl [] rfl) rfl (Nat.le_of_ble_eq_true rfl) ⟨Nat.le_of_ble_eq_true rfl, Nat.le_of_ble_eq_true rfl⟩ d_Home_take_93) hS (fun H locs nw1 sp1 hR hS => ?_)
    refine W.widen (k := 1) (n := 8) (by decide) (by decide) ?_
    refine lv_iconst (v := 1) hx hb d_Home_take_96 (by decide) ?_
    refine W.widen (k := 5) (n := 40) (by decide) (by decide) ?_
    rw [hst9, if_pos rfl, if_pos rfl, if_pos rfl]
    exact x_iret (nw := nw1) E hR hS rfl rfl d_Home_take_97
  · have hst9 : s_stalls g (8, fr, 4, b, v, nb, aq) = 0 := by simp [s_stalls]
    refine lv_aload_n hx hb d_Home_take_0 rfl (lv_at hl 1 rfl) ?_
    refine xg_Msg E hC hR hq hz 1 (by decide) zf_Home_30 rfl d_Home_take_1 ?_
    refine lv_istore_n (lv' := [(2, .int (nI fr)), (0, .ref (ad 12 b)), (1, .ref q)]) hx hb d_Home_take_4 rfl hl (by decide) rfl (fun ls hl => ?_)
    refine lv_aload_n hx hb d_Home_take_5 rfl (lv_at hl 2 rfl) ?_
    refine xg_Msg E hC hR hq hz 0 (by decide) zf_Home_35 rfl d_Home_take_6 ?_
    refine xc_R (av := [.ref (eA 0 8)]) (xrunU (As := []) (rest := []) E hA hC hR hS (c_ord_Kind l D dA eA ad A N g M as sp (by decide)) (va_recvE hC.2.1 (by decide) hS) gu_Home_39 hC.2.2.2.2.2.2.2.1.2 (by decide +kernel) ⟨rfl, rfl⟩ ⟨Nat.le_of_ble_eq_true rfl, Nat.le_of_ble_eq_true rfl⟩ rfl (lv_sub hl [] rfl) rfl (Nat.le_of_ble_eq_true rfl) ⟨Nat.le_of_ble_eq_true rfl, Nat.le_of_ble_eq_true rfl⟩ d_Home_take_9) ?_
    refine lv_lookup (off := 48) (tgt := 60) hx hb d_Home_take_12 (by decide) (by decide) (by decide) ?_
    refine lv_aload_n hx hb d_Home_take_60 rfl (lv_at hl 1 rfl) ?_
    refine lv_aload_n hx hb d_Home_take_61 rfl (lv_at hl 2 rfl) ?_
    refine xg_Msg E hC hR hq hz 4 (by decide) zf_Home_52 rfl d_Home_take_62 ?_
    refine xp_Home_memory E hC hR hS (show vl N 12 b from hb4) zf_Home_55 d_Home_take_65 (fun H locs hR hS => ?_)
    refine lv_aload_n hx hb d_Home_take_68 rfl (lv_at hl 1 rfl) ?_
    refine lv_aload_n hx hb d_Home_take_69 rfl (lv_at hl 1 rfl) ?_
    refine xg_Home E hC hR (show vl N 12 b from hb4) 4 (by decide) zf_Home_58 rfl d_Home_take_70 ?_
    refine wn_eq (y := nI (s_set g b 4)) (congrArg nI (s_set_c (g := up2 g 13 b v) (g' := g) rfl b 4)) ?_
    refine lv_if_ne (tgt := 82) hx hb d_Home_take_73 (by decide) (fun h1 => ?_) (fun h1 => ?_)
    · replace h1 := (not_congr (nI_eq (a := s_set g b 4) (b := 0) (by omega) (by omega))).mp h1
      refine x_gets (eA := eA) hC.2.2.1 E hS 1 (by decide) zf_Home_61 d_Home_take_82 ?_
      refine xp_Home_state E hC hR hS (show vl N 12 b from hb4) (q := 1) (by decide) zf_Home_15 d_Home_take_85 (fun H locs hR hS => ?_)
      refine lv_iconst (v := 1) hx hb d_Home_take_88 (by decide) ?_
      refine W.widen (k := 5) (n := 40) (by decide) (by decide) ?_
      rw [hst9, if_pos rfl, if_pos rfl, if_pos rfl]
      have eG : up2 (up2 g 13 b v) 14 b (nI 1) = s_ahG g 8 fr b v := by
        rw [s_ahG, if_neg (by decide), if_neg (by decide), if_pos rfl, if_neg (fun e9 => h1 (set_0.mpr e9))]; rfl
      have eM : M = M ++ s_ahQ g 8 fr b := by simp [s_ahQ]
      rw [eG] at hR
      rw [← eM]
      exact x_iret (nw := []) E (by rw [List.append_nil]; exact hR) hS rfl rfl d_Home_take_89
    · replace h1 := (nI_eq (a := s_set g b 4) (b := 0) (by omega) (by omega)).mp h1
      refine x_gets (eA := eA) hC.2.2.1 E hS 0 (by decide) zf_Home_9 d_Home_take_76 ?_
      refine lv_goto (tgt := 85) hx hb d_Home_take_79 (by decide) ?_
      refine xp_Home_state E hC hR hS (show vl N 12 b from hb4) (q := 0) (by decide) zf_Home_15 d_Home_take_85 (fun H locs hR hS => ?_)
      refine lv_iconst (v := 1) hx hb d_Home_take_88 (by decide) ?_
      refine W.widen (k := 5) (n := 40) (by decide) (by decide) ?_
      rw [hst9, if_pos rfl, if_pos rfl, if_pos rfl]
      have eG : up2 (up2 g 13 b v) 14 b (nI 0) = s_ahG g 8 fr b v := by
        rw [s_ahG, if_neg (by decide), if_neg (by decide), if_pos rfl, if_pos (set_0.mp h1)]; rfl
      have eM : M = M ++ s_ahQ g 8 fr b := by simp [s_ahQ]
      rw [eG] at hR
      rw [← eM]
      exact x_iret (nw := []) E (by rw [List.append_nil]; exact hR) hS rfl rfl d_Home_take_89
