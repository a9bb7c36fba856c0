/-! THE CLAIM OUT OF ONE WALK OF THE LAW'S BODY. Your part is whole_start (and what it stands on); all else here is the same for every law, but numbers. -/
def lw_P (b : Addr) (xs : List Int32) (args : Array Value) (s : State) : Prop := args = #[.ref b] ∧ s.IntsAt b xs ∧ xs.length ≤ 2050 ∧ (Jvm.Cond.and given_1 narrow_1).before args s = true
def lw_Q (_ : Array Value) (s : State) (o : Outcome) (t : State) : Prop := o = .returned (some (.int 1)) ∧ Framed s o t [] 600000 7302250
def lw_Z (below : List Frame) (a : Array Value) (s : State) : State → Prop := fun t => ∃ o, t.status = .running ∧ Ended t below o ∧ lw_Q a s o t
/-- the law's own end, with 1 on the stack, nothing written that was there before, its room as the claim has it -/
theorem lw_ret {p : Program} {l : Launch} {e : Env} {s : State} {m : MethodId} {below : List Frame} {meth : Method} {c : Code} {b : Nat} (hx : p.tables.exec = Jvm.exec) (hb : c.code = code) (hr : meth.sig.returnType = ret) (hlocks : meth.locks = false) {pc : Nat} {H : Heap} {ls : Array Slot} (hdg : decode code pc = .ok (.ireturn, 1)) : W p l e room_1 s m #[Value.ref b] below meth c H [] 600000 7302250 (lw_Z below #[Value.ref b] s) (F0 m pc ls [.int 1]) := by
  intro T hT X
  obtain ⟨fs, hret, hrun, hended, hW, hframe⟩ := X.leave (v := some (.int 1)) (hlocks := hlocks) (fun h => by rw [hr] at h; cases h)
  have hmeth' : T.vm.method? m = some meth := X.method'
  refine ⟨T.setFrames fs, ?_, .returned (some (.int 1)), hrun, hended, rfl, ⟨_, rfl⟩, hW, hframe⟩
  jvm_step X.here [X.here.top, hx, hb, hdg, hmeth', hr, ret, narrow_b1]
  (try refine ⟨rfl, ?_⟩); (try refine ⟨rfl, ?_⟩)
  first | (intro acts; rw [hret _ acts rfl rfl rfl]) | rw [hret _ _ rfl rfl rfl]
  exact Steps.refl _
/-- what holds at the law's entry: the machine, the code, the tables' words (any of lw_tbl by 'hts w (by decide +kernel)'), the script of L ints xs at the cell b, what the Statement gives of the start (any of its parts by flat_of_before) -/
def lw_At (p : Program) (s : State) (m : MethodId) (meth : Method) (c : Code) (b L : Nat) (xs : Nat → Int32) : Prop :=
  p.tables.exec = Jvm.exec ∧ c.code = code ∧ meth.sig.returnType = ret ∧ c.maxLocals = 4 ∧ s.vm.findClass R_law = some m.cls ∧ (∀ w ∈ lw_tbl, w.before #[Value.ref b] s = true) ∧ va_X b L xs s s.heap ∧ b < s.heap.size ∧ meth.locks = false ∧ (Jvm.Cond.and given_1 narrow_1).before #[Value.ref b] s = true
theorem ge14 {v : Int32} (h : nI 14 ≤ v) : 13 < v.toInt := by
  rw [Int32.le_iff_toInt_le] at h
  have e9 : (nI 14).toInt = 14 := by decide
  rw [e9] at h
  omega
theorem nI_4 (n : Nat) : nI n + 4 = nI (n + 4) := nI_add n 4
theorem lg_gt {L i : Nat} (hL : L ≤ 2050) (hi : i ≤ 4000) : nI L - 4 < nI i ↔ L < i + 4 := by
  have e : nI L - 4 = Int32.ofInt ((L : Int) - 4) := by rw [ofi_nat, Int32.ofInt_sub]; rfl
  rw [e, ofi_nat i, Int32.lt_iff_toInt_lt, Int32.toInt_ofInt_of_le (by omega) (by omega), Int32.toInt_ofInt_of_le (by omega) (by omega)]
  omega
set_option maxHeartbeats 8000000 in
set_option maxRecDepth 100000 in
theorem law_loop {p : Program} {e : Env} {s : State} {m : MethodId} {below : List Frame} {meth : Method} {c : Code} (l : Launch) {b L : Nat} {xs : Nat → Int32} (hLL : L ≤ 2050) (E : Cx p s m #[Value.ref b] meth c code R_law 4 ret) {D : va_G} {dA : Nat → ClassId} {eA ad : Nat → Nat → Nat} {adT : Nat → Nat} {N : Nat} (hC : CX D dA eA (A0 s) s) (hX : va_X b L xs s s.heap) (hbl : b < s.heap.size) : ∀ (k i : Nat), k ≤ 520 → L < i + 4 * k + 4 → i ≤ 2060 → ∀ (g : PS) (M : List Msg) (as sp : List Nat) (H : Heap) (locs : List Loc) (ls : Array Slot), Inv N g M → LX D dA eA ad adT s N g M as sp g M H locs → lv_has ls 4 [(3, .int (nI i)), (0, .ref b), (1, .ref (ad 0 0)), (2, .ref (adT 0))] → W p l e room_1 s m #[Value.ref b] below meth c H locs (3000 - 5 * k) (30000 - 40 * k) (lw_Z below #[Value.ref b] s) (F0 m 38 ls []) := by
  have hx := E.1
  have hb := E.2.1
  have hbA : ¬ A0 s b := Nat.not_le.mpr hbl
  intro k
  induction k with
  | zero =>
    intro i hk hik hi g M as sp H locs ls hI hL hl
    refine lv_iload_n hx hb d_law_38 rfl (lv_at hl 0 rfl) ?_
    refine lv_aload_n hx hb d_law_39 rfl (lv_at hl 1 rfl) ?_
    refine va_slen hx hb hX hbl hbA hL.1 d_law_40 ?_
    refine lv_iconst (v := 4) hx hb d_law_41 (by decide) ?_
    refine lv_isub hx hb d_law_42 ?_
    refine lv_icmp_gt (tgt := 482) hx hb d_law_43 (by decide) (fun h1 => ?_) (fun h1 => absurd ((lg_gt hLL (by omega)).mpr (by omega)) h1)
    refine va_forget (fun q hq => hL.1.2.2 q hq) ?_
    refine W.widen (k := 600000) (n := 7302250) (by omega) (by omega) ?_
    refine lv_iconst (v := 1) hx hb d_law_482 (by decide) ?_
    exact lw_ret hx hb E.2.2.2.2.2.1 E.2.2.2.2.2.2 d_law_483
  | succ k ih =>
    intro i hk hik hi g M as sp H locs ls hI hL hl
    have hN := hI.1.1
    have hN4 := hI.1.2.2.1
    obtain ⟨R, hR0, hR1, hR3⟩ := hI.1.2.2.2.1
    obtain ⟨tw1, tw2, tw3, tw4, tw5⟩ := inv_tw hI
    have hlen := inv_len hI
    obtain ⟨-, -, -, okw, -, okz, -⟩ := inv_okStep hI
    have okk : ∀ b, b < 4 → ∃ st, st < 4 ∧ g 14 b = nI st := fun b hb => by obtain ⟨st, q1, q2, -⟩ := bx_kept hN4 (hI.2.2.2.1 b hb); exact ⟨st, q1, q2⟩
    have oko : ∀ b, b < 4 → ¬ g 14 b = 2 → g 15 b = -1 := fun b hb q => by obtain ⟨st, q1, q2, q3, q4⟩ := bx_kept hN4 (hI.2.2.2.1 b hb); exact q4 (fun e => q (by rw [q2, e]; rfl))
    have okl : ∀ c b, c < N → b < 4 → ∃ st, st < 11 ∧ g 8 (4 * c + b) = nI st := fun c b hc hb => ⟨_, (bx_line (hI.2.2.2.1 b hb) hc).1, (bx_line (hI.2.2.2.1 b hb) hc).2.1⟩
    have okm : ∀ (i : Nat) (z : Msg), M[i]? = some z → z.1 < 10 := fun i z hz => (hI.2.2.1 z (List.mem_of_getElem? hz)).1
    have okml : M.length < 1000 := by omega
    by_cases hgo : L < i + 4
    · have hgo1 := hgo
      refine lv_iload_n hx hb d_law_38 rfl (lv_at hl 0 rfl) ?_
      refine lv_aload_n hx hb d_law_39 rfl (lv_at hl 1 rfl) ?_
      refine va_slen hx hb hX hbl hbA hL.1 d_law_40 ?_
      refine lv_iconst (v := 4) hx hb d_law_41 (by decide) ?_
      refine lv_isub hx hb d_law_42 ?_
      refine lv_icmp_gt (tgt := 482) hx hb d_law_43 (by decide) (fun h2 => ?_) (fun h2 => absurd ((lg_gt hLL (by omega)).mpr hgo) h2)
      refine va_forget (fun q hq => hL.1.2.2 q hq) ?_
      refine W.widen (k := 600000) (n := 7302250) (by omega) (by omega) ?_
      refine lv_iconst (v := 1) hx hb d_law_482 (by decide) ?_
      exact lw_ret hx hb E.2.2.2.2.2.1 E.2.2.2.2.2.2 d_law_483
    · have hgo1 := hgo
      refine lv_iload_n hx hb d_law_38 rfl (lv_at hl 0 rfl) ?_
      refine lv_aload_n hx hb d_law_39 rfl (lv_at hl 1 rfl) ?_
      refine va_slen hx hb hX hbl hbA hL.1 d_law_40 ?_
      refine lv_iconst (v := 4) hx hb d_law_41 (by decide) ?_
      refine lv_isub hx hb d_law_42 ?_
      refine lv_icmp_gt (tgt := 482) hx hb d_law_43 (by decide) (fun h3 => absurd h3 (fun q9 => hgo ((lg_gt hLL (by omega)).mp q9))) (fun h3 => ?_)
      refine lv_aload_n hx hb d_law_46 rfl (lv_at hl 1 rfl) ?_
      refine lv_iload_n hx hb d_law_47 rfl (lv_at hl 0 rfl) ?_
      refine va_sld hx hb hX hbl hbA hL.1 (vp_in_nI (show i < L by omega) (by omega)) d_law_48 ?_
      rw [nI_clamp (show i < 2 ^ 31 by omega)]
      refine lv_bipush (v := 15) hx hb d_law_49 (by decide) ?_
      refine lv_iand hx hb d_law_51 ?_
      by_cases hy0 : (xs i) &&& 15 < 0
      · refine lv_tableOut (tgt := 476) hx hb d_law_52 (Or.inl (by rw [Int32.lt_iff_toInt_lt] at hy0; exact hy0)) (by decide) ?_
        refine lv_iinc (v := nI (i + 4)) (lv' := [(3, .int (nI (i + 4))), (0, .ref b), (1, .ref (ad 0 0)), (2, .ref (adT 0))]) hx hb d_law_476 hl (k := 0) rfl (nI_4 _) (by decide) rfl (fun ls hl => ?_)
        refine lv_goto (tgt := 38) hx hb d_law_479 (by decide) ?_
        refine W.widen (k := 3000 - 5 * k) (n := 30000 - 40 * k) (by omega) (by omega) ?_
        exact ih (i + 4) (by omega) (by omega) (by omega) _ _ _ _ H locs ls (hI) hL (lv_sub hl [0, 1, 2, 3] rfl)
      · by_cases hy13 : nI 14 ≤ (xs i) &&& 15
        · refine lv_tableOut (tgt := 476) hx hb d_law_52 (Or.inr (ge14 hy13)) (by decide) ?_
          refine lv_iinc (v := nI (i + 4)) (lv' := [(3, .int (nI (i + 4))), (0, .ref b), (1, .ref (ad 0 0)), (2, .ref (adT 0))]) hx hb d_law_476 hl (k := 0) rfl (nI_4 _) (by decide) rfl (fun ls hl => ?_)
          refine lv_goto (tgt := 38) hx hb d_law_479 (by decide) ?_
          refine W.widen (k := 3000 - 5 * k) (n := 30000 - 40 * k) (by omega) (by omega) ?_
          exact ih (i + 4) (by omega) (by omega) (by omega) _ _ _ _ H locs ls (hI) hL (lv_sub hl [0, 1, 2, 3] rfl)
        · obtain ⟨w, hw14, ew⟩ := ix_of (by omega) hy0 hy13
          rw [ew]
          rcases (show w = 0 ∨ w = 1 ∨ w = 2 ∨ w = 3 ∨ w = 4 ∨ w = 5 ∨ w = 6 ∨ w = 7 ∨ w = 8 ∨ w = 9 ∨ w = 10 ∨ w = 11 ∨ w = 12 ∨ w = 13 by omega) with rfl | rfl | rfl | rfl | rfl | rfl | rfl | rfl | rfl | rfl | rfl | rfl | rfl | rfl
          · refine lv_tableIn (off := 72) (tgt := 124) hx hb d_law_52 (by decide) (by decide) (by decide) (by decide) ?_
            refine lv_aload_n hx hb d_law_124 rfl (lv_at hl 2 rfl) ?_
            refine lv_aload_n hx hb d_law_125 rfl (lv_at hl 1 rfl) ?_
            refine lv_iload_n hx hb d_law_126 rfl (lv_at hl 0 rfl) ?_
            refine lv_iconst (v := 1) hx hb d_law_127 (by decide) ?_
            refine wn_add hx hb (a := i) (b := 1) d_law_128 ?_
            refine va_sld hx hb hX hbl hbA hL.1 (vp_in_nI (show i + 1 < L by omega) (by omega)) d_law_129 ?_
            rw [nI_clamp (show i + 1 < 2 ^ 31 by omega)]
            refine lv_aload_n hx hb d_law_130 rfl (lv_at hl 1 rfl) ?_
            refine lv_iload_n hx hb d_law_131 rfl (lv_at hl 0 rfl) ?_
            refine lv_iconst (v := 2) hx hb d_law_132 (by decide) ?_
            refine wn_add hx hb (a := i) (b := 2) d_law_133 ?_
            refine va_sld hx hb hX hbl hbA hL.1 (vp_in_nI (show i + 2 < L by omega) (by omega)) d_law_134 ?_
            rw [nI_clamp (show i + 2 < 2 ^ 31 by omega)]
            refine lv_aload_n hx hb d_law_135 rfl (lv_at hl 1 rfl) ?_
            refine lv_iload_n hx hb d_law_136 rfl (lv_at hl 0 rfl) ?_
            refine lv_iconst (v := 3) hx hb d_law_137 (by decide) ?_
            refine wn_add hx hb (a := i) (b := 3) d_law_138 ?_
            refine va_sld hx hb hX hbl hbA hL.1 (vp_in_nI (show i + 3 < L by omega) (by omega)) d_law_139 ?_
            rw [nI_clamp (show i + 3 < 2 ^ 31 by omega)]
            refine lw_xi (As := [.int (xs (i + 1)), .int (xs (i + 2)), .int (xs (i + 3))]) (rest := []) E hC hL (c_HD_code l D dA eA ad (A1 s adT) N g M as sp (xs (i + 1)) (xs (i + 2)) (xs (i + 3)) hN hN4 okz) ck_law_21 ⟨rfl, rfl⟩ ⟨Nat.le_of_ble_eq_true rfl, Nat.le_of_ble_eq_true rfl⟩ rfl (lv_sub hl [] rfl) rfl (Nat.le_of_ble_eq_true rfl) ⟨show 3000 - 5 * (k + 1) + 0 ≤ 600000 by omega, show 30000 - 40 * (k + 1) + 0 ≤ 7302250 by omega⟩ d_law_140 (fun H locs as1 sp1 hL => ?_)
            refine lv_aload_n hx hb d_law_143 rfl (lv_at hl 3 rfl) ?_
            refine lv_aload_n hx hb d_law_144 rfl (lv_at hl 1 rfl) ?_
            refine lv_iload_n hx hb d_law_145 rfl (lv_at hl 0 rfl) ?_
            refine lv_iconst (v := 1) hx hb d_law_146 (by decide) ?_
            refine wn_add hx hb (a := i) (b := 1) d_law_147 ?_
            refine va_sld hx hb hX hbl hbA hL.1 (vp_in_nI (show i + 1 < L by omega) (by omega)) d_law_148 ?_
            rw [nI_clamp (show i + 1 < 2 ^ 31 by omega)]
            refine lv_aload_n hx hb d_law_149 rfl (lv_at hl 1 rfl) ?_
            refine lv_iload_n hx hb d_law_150 rfl (lv_at hl 0 rfl) ?_
            refine lv_iconst (v := 2) hx hb d_law_151 (by decide) ?_
            refine wn_add hx hb (a := i) (b := 2) d_law_152 ?_
            refine va_sld hx hb hX hbl hbA hL.1 (vp_in_nI (show i + 2 < L by omega) (by omega)) d_law_153 ?_
            rw [nI_clamp (show i + 2 < 2 ^ 31 by omega)]
            refine lv_aload_n hx hb d_law_154 rfl (lv_at hl 1 rfl) ?_
            refine lv_iload_n hx hb d_law_155 rfl (lv_at hl 0 rfl) ?_
            refine lv_iconst (v := 3) hx hb d_law_156 (by decide) ?_
            refine wn_add hx hb (a := i) (b := 3) d_law_157 ?_
            refine va_sld hx hb hX hbl hbA hL.1 (vp_in_nI (show i + 3 < L by omega) (by omega)) d_law_158 ?_
            rw [nI_clamp (show i + 3 < 2 ^ 31 by omega)]
            refine lw_ti (As := [.int (xs (i + 1)), .int (xs (i + 2)), .int (xs (i + 3))]) (rest := [.int ((s_code g (xs (i + 1)) (xs (i + 2)) (xs (i + 3))).1)]) E hC hL (c_Tw_code l D dA adT (twA adT) g M (xs (i + 1)) (xs (i + 2)) (xs (i + 3)) N hN hN4 okz) ck_law_25 ⟨rfl, rfl⟩ ⟨Nat.le_of_ble_eq_true rfl, Nat.le_of_ble_eq_true rfl⟩ rfl (lv_sub hl [] rfl) rfl (Nat.le_of_ble_eq_true rfl) ⟨show 3000 - 5 * (k + 1) + 0 ≤ 600000 by omega, show 30000 - 40 * (k + 1) + 0 ≤ 7302250 by omega⟩ d_law_159 (fun H locs hL => ?_)
            refine lv_icmp_eq (tgt := 476) hx hb d_law_162 (by decide) (fun h4 => ?_) (fun h4 => absurd (rfl) h4)
            refine lv_iinc (v := nI (i + 4)) (lv' := [(3, .int (nI (i + 4))), (0, .ref b), (1, .ref (ad 0 0)), (2, .ref (adT 0))]) hx hb d_law_476 hl (k := 0) rfl (nI_4 _) (by decide) rfl (fun ls hl => ?_)
            refine lv_goto (tgt := 38) hx hb d_law_479 (by decide) ?_
            refine W.widen (k := 3000 - 5 * k) (n := 30000 - 40 * k) (by omega) (by omega) ?_
            exact ih (i + 4) (by omega) (by omega) (by omega) _ _ _ _ H locs ls (inv_code hI (xs (i + 1)) (xs (i + 2)) (xs (i + 3))) hL (lv_sub hl [0, 1, 2, 3] rfl)
          · refine lv_tableIn (off := 115) (tgt := 167) hx hb d_law_52 (by decide) (by decide) (by decide) (by decide) ?_
            refine lv_aload_n hx hb d_law_167 rfl (lv_at hl 2 rfl) ?_
            refine lv_aload_n hx hb d_law_168 rfl (lv_at hl 1 rfl) ?_
            refine lv_iload_n hx hb d_law_169 rfl (lv_at hl 0 rfl) ?_
            refine lv_iconst (v := 1) hx hb d_law_170 (by decide) ?_
            refine wn_add hx hb (a := i) (b := 1) d_law_171 ?_
            refine va_sld hx hb hX hbl hbA hL.1 (vp_in_nI (show i + 1 < L by omega) (by omega)) d_law_172 ?_
            rw [nI_clamp (show i + 1 < 2 ^ 31 by omega)]
            refine lv_aload_n hx hb d_law_173 rfl (lv_at hl 1 rfl) ?_
            refine lv_iload_n hx hb d_law_174 rfl (lv_at hl 0 rfl) ?_
            refine lv_iconst (v := 2) hx hb d_law_175 (by decide) ?_
            refine wn_add hx hb (a := i) (b := 2) d_law_176 ?_
            refine va_sld hx hb hX hbl hbA hL.1 (vp_in_nI (show i + 2 < L by omega) (by omega)) d_law_177 ?_
            rw [nI_clamp (show i + 2 < 2 ^ 31 by omega)]
            refine lw_xi (As := [.int (xs (i + 1)), .int (xs (i + 2))]) (rest := []) E hC hL (c_HD_go l D dA eA ad (A1 s adT) N g M as sp (xs (i + 1)) (xs (i + 2)) hN hN4 okw) ck_law_26 ⟨rfl, rfl⟩ ⟨Nat.le_of_ble_eq_true rfl, Nat.le_of_ble_eq_true rfl⟩ rfl (lv_sub hl [] rfl) rfl (Nat.le_of_ble_eq_true rfl) ⟨show 3000 - 5 * (k + 1) + 0 ≤ 600000 by omega, show 30000 - 40 * (k + 1) + 0 ≤ 7302250 by omega⟩ d_law_178 (fun H locs as1 sp1 hL => ?_)
            refine lv_aload_n hx hb d_law_181 rfl (lv_at hl 3 rfl) ?_
            refine lv_aload_n hx hb d_law_182 rfl (lv_at hl 1 rfl) ?_
            refine lv_iload_n hx hb d_law_183 rfl (lv_at hl 0 rfl) ?_
            refine lv_iconst (v := 1) hx hb d_law_184 (by decide) ?_
            refine wn_add hx hb (a := i) (b := 1) d_law_185 ?_
            refine va_sld hx hb hX hbl hbA hL.1 (vp_in_nI (show i + 1 < L by omega) (by omega)) d_law_186 ?_
            rw [nI_clamp (show i + 1 < 2 ^ 31 by omega)]
            refine lv_aload_n hx hb d_law_187 rfl (lv_at hl 1 rfl) ?_
            refine lv_iload_n hx hb d_law_188 rfl (lv_at hl 0 rfl) ?_
            refine lv_iconst (v := 2) hx hb d_law_189 (by decide) ?_
            refine wn_add hx hb (a := i) (b := 2) d_law_190 ?_
            refine va_sld hx hb hX hbl hbA hL.1 (vp_in_nI (show i + 2 < L by omega) (by omega)) d_law_191 ?_
            rw [nI_clamp (show i + 2 < 2 ^ 31 by omega)]
            refine lw_ti (As := [.int (xs (i + 1)), .int (xs (i + 2))]) (rest := [.int ((s_go g (xs (i + 1)) (xs (i + 2))).1)]) E hC hL (c_Tw_go l D dA adT (twA adT) g M (xs (i + 1)) (xs (i + 2)) N hN hN4) ck_law_30 ⟨rfl, rfl⟩ ⟨Nat.le_of_ble_eq_true rfl, Nat.le_of_ble_eq_true rfl⟩ rfl (lv_sub hl [] rfl) rfl (Nat.le_of_ble_eq_true rfl) ⟨show 3000 - 5 * (k + 1) + 0 ≤ 600000 by omega, show 30000 - 40 * (k + 1) + 0 ≤ 7302250 by omega⟩ d_law_192 (fun H locs hL => ?_)
            refine lv_icmp_eq (tgt := 476) hx hb d_law_195 (by decide) (fun h5 => ?_) (fun h5 => absurd (rfl) h5)
            refine lv_iinc (v := nI (i + 4)) (lv' := [(3, .int (nI (i + 4))), (0, .ref b), (1, .ref (ad 0 0)), (2, .ref (adT 0))]) hx hb d_law_476 hl (k := 0) rfl (nI_4 _) (by decide) rfl (fun ls hl => ?_)
            refine lv_goto (tgt := 38) hx hb d_law_479 (by decide) ?_
            refine W.widen (k := 3000 - 5 * k) (n := 30000 - 40 * k) (by omega) (by omega) ?_
            exact ih (i + 4) (by omega) (by omega) (by omega) _ _ _ _ H locs ls (inv_go hI (xs (i + 1)) (xs (i + 2))) hL (lv_sub hl [0, 1, 2, 3] rfl)
          · refine lv_tableIn (off := 148) (tgt := 200) hx hb d_law_52 (by decide) (by decide) (by decide) (by decide) ?_
            refine lv_aload_n hx hb d_law_200 rfl (lv_at hl 2 rfl) ?_
            refine lv_aload_n hx hb d_law_201 rfl (lv_at hl 1 rfl) ?_
            refine lv_iload_n hx hb d_law_202 rfl (lv_at hl 0 rfl) ?_
            refine lv_iconst (v := 1) hx hb d_law_203 (by decide) ?_
            refine wn_add hx hb (a := i) (b := 1) d_law_204 ?_
            refine va_sld hx hb hX hbl hbA hL.1 (vp_in_nI (show i + 1 < L by omega) (by omega)) d_law_205 ?_
            rw [nI_clamp (show i + 1 < 2 ^ 31 by omega)]
            refine lw_xi (As := [.int (xs (i + 1))]) (rest := []) E hC hL (c_HD_step l D dA eA ad (A1 s adT) N g M as sp (xs (i + 1)) (inv_okStep hI)) ck_law_31 ⟨rfl, rfl⟩ ⟨Nat.le_of_ble_eq_true rfl, Nat.le_of_ble_eq_true rfl⟩ rfl (lv_sub hl [] rfl) rfl (Nat.le_of_ble_eq_true rfl) ⟨show 3000 - 5 * (k + 1) + 1 ≤ 600000 by omega, show 30000 - 40 * (k + 1) + 8 ≤ 7302250 by omega⟩ d_law_206 (fun H locs as1 sp1 hL => ?_)
            refine lv_aload_n hx hb d_law_209 rfl (lv_at hl 3 rfl) ?_
            refine lv_aload_n hx hb d_law_210 rfl (lv_at hl 1 rfl) ?_
            refine lv_iload_n hx hb d_law_211 rfl (lv_at hl 0 rfl) ?_
            refine lv_iconst (v := 1) hx hb d_law_212 (by decide) ?_
            refine wn_add hx hb (a := i) (b := 1) d_law_213 ?_
            refine va_sld hx hb hX hbl hbA hL.1 (vp_in_nI (show i + 1 < L by omega) (by omega)) d_law_214 ?_
            rw [nI_clamp (show i + 1 < 2 ^ 31 by omega)]
            refine lw_ti (As := [.int (xs (i + 1))]) (rest := [.int ((s_step g (xs (i + 1))).1)]) E hC hL (c_Tw_step l D dA adT (twA adT) g M (xs (i + 1)) N hN hN4 R hR0 hR1 hR3 tw1 tw2 tw3 (by omega)) ck_law_35 ⟨rfl, rfl⟩ ⟨Nat.le_of_ble_eq_true rfl, Nat.le_of_ble_eq_true rfl⟩ rfl (lv_sub hl [] rfl) rfl (Nat.le_of_ble_eq_true rfl) ⟨show 3000 - 5 * (k + 1) + 1 + 0 ≤ 600000 by omega, show 30000 - 40 * (k + 1) + 8 + 0 ≤ 7302250 by omega⟩ d_law_215 (fun H locs hL => ?_)
            refine lv_icmp_eq (tgt := 476) hx hb d_law_218 (by decide) (fun h6 => ?_) (fun h6 => absurd (rfl) h6)
            refine lv_iinc (v := nI (i + 4)) (lv' := [(3, .int (nI (i + 4))), (0, .ref b), (1, .ref (ad 0 0)), (2, .ref (adT 0))]) hx hb d_law_476 hl (k := 0) rfl (nI_4 _) (by decide) rfl (fun ls hl => ?_)
            refine lv_goto (tgt := 38) hx hb d_law_479 (by decide) ?_
            refine W.widen (k := 3000 - 5 * k) (n := 30000 - 40 * k) (by omega) (by omega) ?_
            exact ih (i + 4) (by omega) (by omega) (by omega) _ _ _ _ H locs ls (inv_step hI (xs (i + 1))) hL (lv_sub hl [0, 1, 2, 3] rfl)
          · refine lv_tableIn (off := 171) (tgt := 223) hx hb d_law_52 (by decide) (by decide) (by decide) (by decide) ?_
            refine lv_aload_n hx hb d_law_223 rfl (lv_at hl 2 rfl) ?_
            refine lv_aload_n hx hb d_law_224 rfl (lv_at hl 1 rfl) ?_
            refine lv_iload_n hx hb d_law_225 rfl (lv_at hl 0 rfl) ?_
            refine lv_iconst (v := 1) hx hb d_law_226 (by decide) ?_
            refine wn_add hx hb (a := i) (b := 1) d_law_227 ?_
            refine va_sld hx hb hX hbl hbA hL.1 (vp_in_nI (show i + 1 < L by omega) (by omega)) d_law_228 ?_
            rw [nI_clamp (show i + 1 < 2 ^ 31 by omega)]
            refine lw_xi (As := [.int (xs (i + 1))]) (rest := []) E hC hL (c_HD_deliver l D dA eA ad (A1 s adT) N g M as sp (xs (i + 1)) (inv_okDel hI)) ck_law_36 ⟨rfl, rfl⟩ ⟨Nat.le_of_ble_eq_true rfl, Nat.le_of_ble_eq_true rfl⟩ rfl (lv_sub hl [] rfl) rfl (Nat.le_of_ble_eq_true rfl) ⟨show 3000 - 5 * (k + 1) + 5 ≤ 600000 by omega, show 30000 - 40 * (k + 1) + 40 ≤ 7302250 by omega⟩ d_law_229 (fun H locs as1 sp1 hL => ?_)
            refine lv_aload_n hx hb d_law_232 rfl (lv_at hl 3 rfl) ?_
            refine lv_aload_n hx hb d_law_233 rfl (lv_at hl 1 rfl) ?_
            refine lv_iload_n hx hb d_law_234 rfl (lv_at hl 0 rfl) ?_
            refine lv_iconst (v := 1) hx hb d_law_235 (by decide) ?_
            refine wn_add hx hb (a := i) (b := 1) d_law_236 ?_
            refine va_sld hx hb hX hbl hbA hL.1 (vp_in_nI (show i + 1 < L by omega) (by omega)) d_law_237 ?_
            rw [nI_clamp (show i + 1 < 2 ^ 31 by omega)]
            refine lw_ti (As := [.int (xs (i + 1))]) (rest := [.int ((s_deliver g M (xs (i + 1))).1)]) E hC hL (c_Tw_deliver l D dA adT (twA adT) g M (xs (i + 1)) (wz_wf hN4 hI.2.2.1) tw4 tw5 (by omega)) ck_law_39 ⟨rfl, rfl⟩ ⟨Nat.le_of_ble_eq_true rfl, Nat.le_of_ble_eq_true rfl⟩ rfl (lv_sub hl [] rfl) rfl (Nat.le_of_ble_eq_true rfl) ⟨show 3000 - 5 * (k + 1) + 5 + 0 ≤ 600000 by omega, show 30000 - 40 * (k + 1) + 40 + 0 ≤ 7302250 by omega⟩ d_law_238 (fun H locs hL => ?_)
            refine lv_icmp_eq (tgt := 476) hx hb d_law_241 (by decide) (fun h7 => ?_) (fun h7 => absurd (rfl) h7)
            refine lv_iinc (v := nI (i + 4)) (lv' := [(3, .int (nI (i + 4))), (0, .ref b), (1, .ref (ad 0 0)), (2, .ref (adT 0))]) hx hb d_law_476 hl (k := 0) rfl (nI_4 _) (by decide) rfl (fun ls hl => ?_)
            refine lv_goto (tgt := 38) hx hb d_law_479 (by decide) ?_
            refine W.widen (k := 3000 - 5 * k) (n := 30000 - 40 * k) (by omega) (by omega) ?_
            exact ih (i + 4) (by omega) (by omega) (by omega) _ _ _ _ H locs ls (inv_deliver hI (xs (i + 1))) hL (lv_sub hl [0, 1, 2, 3] rfl)
          · refine lv_tableIn (off := 194) (tgt := 246) hx hb d_law_52 (by decide) (by decide) (by decide) (by decide) ?_
            refine lv_aload_n hx hb d_law_246 rfl (lv_at hl 2 rfl) ?_
            refine lw_xr (As := []) (rest := []) E hC hL (c_HD_messages l D dA eA ad (A1 s adT) N g M as sp  ) ck_law_40 ⟨rfl, rfl⟩ ⟨Nat.le_of_ble_eq_true rfl, Nat.le_of_ble_eq_true rfl⟩ rfl (lv_sub hl [] rfl) rfl (Nat.le_of_ble_eq_true rfl) ⟨show 3000 - 5 * (k + 1) + 0 ≤ 600000 by omega, show 30000 - 40 * (k + 1) + 0 ≤ 7302250 by omega⟩ d_law_247 ?_
            refine lv_aload_n hx hb d_law_250 rfl (lv_at hl 3 rfl) ?_
            refine lw_tr (As := []) (rest := [.int (nI M.length)]) E hC hL (c_Tw_messages l D dA adT (twA adT) g M  ) ck_law_44 ⟨rfl, rfl⟩ ⟨Nat.le_of_ble_eq_true rfl, Nat.le_of_ble_eq_true rfl⟩ rfl (lv_sub hl [] rfl) rfl (Nat.le_of_ble_eq_true rfl) ⟨show 3000 - 5 * (k + 1) + 0 ≤ 600000 by omega, show 30000 - 40 * (k + 1) + 0 ≤ 7302250 by omega⟩ d_law_251 ?_
            refine lv_icmp_eq (tgt := 476) hx hb d_law_254 (by decide) (fun h8 => ?_) (fun h8 => absurd (rfl) h8)
            refine lv_iinc (v := nI (i + 4)) (lv' := [(3, .int (nI (i + 4))), (0, .ref b), (1, .ref (ad 0 0)), (2, .ref (adT 0))]) hx hb d_law_476 hl (k := 0) rfl (nI_4 _) (by decide) rfl (fun ls hl => ?_)
            refine lv_goto (tgt := 38) hx hb d_law_479 (by decide) ?_
            refine W.widen (k := 3000 - 5 * k) (n := 30000 - 40 * k) (by omega) (by omega) ?_
            exact ih (i + 4) (by omega) (by omega) (by omega) _ _ _ _ H locs ls (hI) hL (lv_sub hl [0, 1, 2, 3] rfl)
          · refine lv_tableIn (off := 207) (tgt := 259) hx hb d_law_52 (by decide) (by decide) (by decide) (by decide) ?_
            refine lv_aload_n hx hb d_law_259 rfl (lv_at hl 2 rfl) ?_
            refine lv_aload_n hx hb d_law_260 rfl (lv_at hl 1 rfl) ?_
            refine lv_iload_n hx hb d_law_261 rfl (lv_at hl 0 rfl) ?_
            refine lv_iconst (v := 1) hx hb d_law_262 (by decide) ?_
            refine wn_add hx hb (a := i) (b := 1) d_law_263 ?_
            refine va_sld hx hb hX hbl hbA hL.1 (vp_in_nI (show i + 1 < L by omega) (by omega)) d_law_264 ?_
            rw [nI_clamp (show i + 1 < 2 ^ 31 by omega)]
            refine lv_aload_n hx hb d_law_265 rfl (lv_at hl 1 rfl) ?_
            refine lv_iload_n hx hb d_law_266 rfl (lv_at hl 0 rfl) ?_
            refine lv_iconst (v := 2) hx hb d_law_267 (by decide) ?_
            refine wn_add hx hb (a := i) (b := 2) d_law_268 ?_
            refine va_sld hx hb hX hbl hbA hL.1 (vp_in_nI (show i + 2 < L by omega) (by omega)) d_law_269 ?_
            rw [nI_clamp (show i + 2 < 2 ^ 31 by omega)]
            refine lw_xr (As := [.int (xs (i + 1)), .int (xs (i + 2))]) (rest := []) E hC hL (c_HD_message l D dA eA ad (A1 s adT) N g M as sp (xs (i + 1)) (xs (i + 2)) okm okml) ck_law_45 ⟨rfl, rfl⟩ ⟨Nat.le_of_ble_eq_true rfl, Nat.le_of_ble_eq_true rfl⟩ rfl (lv_sub hl [] rfl) rfl (Nat.le_of_ble_eq_true rfl) ⟨show 3000 - 5 * (k + 1) + 0 ≤ 600000 by omega, show 30000 - 40 * (k + 1) + 0 ≤ 7302250 by omega⟩ d_law_270 ?_
            refine lv_aload_n hx hb d_law_273 rfl (lv_at hl 3 rfl) ?_
            refine lv_aload_n hx hb d_law_274 rfl (lv_at hl 1 rfl) ?_
            refine lv_iload_n hx hb d_law_275 rfl (lv_at hl 0 rfl) ?_
            refine lv_iconst (v := 1) hx hb d_law_276 (by decide) ?_
            refine wn_add hx hb (a := i) (b := 1) d_law_277 ?_
            refine va_sld hx hb hX hbl hbA hL.1 (vp_in_nI (show i + 1 < L by omega) (by omega)) d_law_278 ?_
            rw [nI_clamp (show i + 1 < 2 ^ 31 by omega)]
            refine lv_aload_n hx hb d_law_279 rfl (lv_at hl 1 rfl) ?_
            refine lv_iload_n hx hb d_law_280 rfl (lv_at hl 0 rfl) ?_
            refine lv_iconst (v := 2) hx hb d_law_281 (by decide) ?_
            refine wn_add hx hb (a := i) (b := 2) d_law_282 ?_
            refine va_sld hx hb hX hbl hbA hL.1 (vp_in_nI (show i + 2 < L by omega) (by omega)) d_law_283 ?_
            rw [nI_clamp (show i + 2 < 2 ^ 31 by omega)]
            refine lw_tr (As := [.int (xs (i + 1)), .int (xs (i + 2))]) (rest := [.int (s_message M (xs (i + 1)) (xs (i + 2)))]) E hC hL (c_Tw_message l D dA adT (twA adT) g M (xs (i + 1)) (xs (i + 2)) ) ck_law_49 ⟨rfl, rfl⟩ ⟨Nat.le_of_ble_eq_true rfl, Nat.le_of_ble_eq_true rfl⟩ rfl (lv_sub hl [] rfl) rfl (Nat.le_of_ble_eq_true rfl) ⟨show 3000 - 5 * (k + 1) + 0 ≤ 600000 by omega, show 30000 - 40 * (k + 1) + 0 ≤ 7302250 by omega⟩ d_law_284 ?_
            refine lv_icmp_eq (tgt := 476) hx hb d_law_287 (by decide) (fun h9 => ?_) (fun h9 => absurd (rfl) h9)
            refine lv_iinc (v := nI (i + 4)) (lv' := [(3, .int (nI (i + 4))), (0, .ref b), (1, .ref (ad 0 0)), (2, .ref (adT 0))]) hx hb d_law_476 hl (k := 0) rfl (nI_4 _) (by decide) rfl (fun ls hl => ?_)
            refine lv_goto (tgt := 38) hx hb d_law_479 (by decide) ?_
            refine W.widen (k := 3000 - 5 * k) (n := 30000 - 40 * k) (by omega) (by omega) ?_
            exact ih (i + 4) (by omega) (by omega) (by omega) _ _ _ _ H locs ls (hI) hL (lv_sub hl [0, 1, 2, 3] rfl)
          · refine lv_tableIn (off := 240) (tgt := 292) hx hb d_law_52 (by decide) (by decide) (by decide) (by decide) ?_
            refine lv_aload_n hx hb d_law_292 rfl (lv_at hl 2 rfl) ?_
            refine lv_aload_n hx hb d_law_293 rfl (lv_at hl 1 rfl) ?_
            refine lv_iload_n hx hb d_law_294 rfl (lv_at hl 0 rfl) ?_
            refine lv_iconst (v := 1) hx hb d_law_295 (by decide) ?_
            refine wn_add hx hb (a := i) (b := 1) d_law_296 ?_
            refine va_sld hx hb hX hbl hbA hL.1 (vp_in_nI (show i + 1 < L by omega) (by omega)) d_law_297 ?_
            rw [nI_clamp (show i + 1 < 2 ^ 31 by omega)]
            refine lv_aload_n hx hb d_law_298 rfl (lv_at hl 1 rfl) ?_
            refine lv_iload_n hx hb d_law_299 rfl (lv_at hl 0 rfl) ?_
            refine lv_iconst (v := 2) hx hb d_law_300 (by decide) ?_
            refine wn_add hx hb (a := i) (b := 2) d_law_301 ?_
            refine va_sld hx hb hX hbl hbA hL.1 (vp_in_nI (show i + 2 < L by omega) (by omega)) d_law_302 ?_
            rw [nI_clamp (show i + 2 < 2 ^ 31 by omega)]
            refine lw_xr (As := [.int (xs (i + 1)), .int (xs (i + 2))]) (rest := []) E hC hL (c_HD_line l D dA eA ad (A1 s adT) N g M as sp (xs (i + 1)) (xs (i + 2)) hN hN4 okl) ck_law_50 ⟨rfl, rfl⟩ ⟨Nat.le_of_ble_eq_true rfl, Nat.le_of_ble_eq_true rfl⟩ rfl (lv_sub hl [] rfl) rfl (Nat.le_of_ble_eq_true rfl) ⟨show 3000 - 5 * (k + 1) + 0 ≤ 600000 by omega, show 30000 - 40 * (k + 1) + 0 ≤ 7302250 by omega⟩ d_law_303 ?_
            refine lv_aload_n hx hb d_law_306 rfl (lv_at hl 3 rfl) ?_
            refine lv_aload_n hx hb d_law_307 rfl (lv_at hl 1 rfl) ?_
            refine lv_iload_n hx hb d_law_308 rfl (lv_at hl 0 rfl) ?_
            refine lv_iconst (v := 1) hx hb d_law_309 (by decide) ?_
            refine wn_add hx hb (a := i) (b := 1) d_law_310 ?_
            refine va_sld hx hb hX hbl hbA hL.1 (vp_in_nI (show i + 1 < L by omega) (by omega)) d_law_311 ?_
            rw [nI_clamp (show i + 1 < 2 ^ 31 by omega)]
            refine lv_aload_n hx hb d_law_312 rfl (lv_at hl 1 rfl) ?_
            refine lv_iload_n hx hb d_law_313 rfl (lv_at hl 0 rfl) ?_
            refine lv_iconst (v := 2) hx hb d_law_314 (by decide) ?_
            refine wn_add hx hb (a := i) (b := 2) d_law_315 ?_
            refine va_sld hx hb hX hbl hbA hL.1 (vp_in_nI (show i + 2 < L by omega) (by omega)) d_law_316 ?_
            rw [nI_clamp (show i + 2 < 2 ^ 31 by omega)]
            refine lw_tr (As := [.int (xs (i + 1)), .int (xs (i + 2))]) (rest := [.int (s_line g (xs (i + 1)) (xs (i + 2)))]) E hC hL (c_Tw_line l D dA adT (twA adT) g M (xs (i + 1)) (xs (i + 2)) N hN hN4) ck_law_53 ⟨rfl, rfl⟩ ⟨Nat.le_of_ble_eq_true rfl, Nat.le_of_ble_eq_true rfl⟩ rfl (lv_sub hl [] rfl) rfl (Nat.le_of_ble_eq_true rfl) ⟨show 3000 - 5 * (k + 1) + 0 ≤ 600000 by omega, show 30000 - 40 * (k + 1) + 0 ≤ 7302250 by omega⟩ d_law_317 ?_
            refine lv_icmp_eq (tgt := 476) hx hb d_law_320 (by decide) (fun h10 => ?_) (fun h10 => absurd (rfl) h10)
            refine lv_iinc (v := nI (i + 4)) (lv' := [(3, .int (nI (i + 4))), (0, .ref b), (1, .ref (ad 0 0)), (2, .ref (adT 0))]) hx hb d_law_476 hl (k := 0) rfl (nI_4 _) (by decide) rfl (fun ls hl => ?_)
            refine lv_goto (tgt := 38) hx hb d_law_479 (by decide) ?_
            refine W.widen (k := 3000 - 5 * k) (n := 30000 - 40 * k) (by omega) (by omega) ?_
            exact ih (i + 4) (by omega) (by omega) (by omega) _ _ _ _ H locs ls (hI) hL (lv_sub hl [0, 1, 2, 3] rfl)
          · refine lv_tableIn (off := 273) (tgt := 325) hx hb d_law_52 (by decide) (by decide) (by decide) (by decide) ?_
            refine lv_aload_n hx hb d_law_325 rfl (lv_at hl 2 rfl) ?_
            refine lv_aload_n hx hb d_law_326 rfl (lv_at hl 1 rfl) ?_
            refine lv_iload_n hx hb d_law_327 rfl (lv_at hl 0 rfl) ?_
            refine lv_iconst (v := 1) hx hb d_law_328 (by decide) ?_
            refine wn_add hx hb (a := i) (b := 1) d_law_329 ?_
            refine va_sld hx hb hX hbl hbA hL.1 (vp_in_nI (show i + 1 < L by omega) (by omega)) d_law_330 ?_
            rw [nI_clamp (show i + 1 < 2 ^ 31 by omega)]
            refine lv_aload_n hx hb d_law_331 rfl (lv_at hl 1 rfl) ?_
            refine lv_iload_n hx hb d_law_332 rfl (lv_at hl 0 rfl) ?_
            refine lv_iconst (v := 2) hx hb d_law_333 (by decide) ?_
            refine wn_add hx hb (a := i) (b := 2) d_law_334 ?_
            refine va_sld hx hb hX hbl hbA hL.1 (vp_in_nI (show i + 2 < L by omega) (by omega)) d_law_335 ?_
            rw [nI_clamp (show i + 2 < 2 ^ 31 by omega)]
            refine lw_xr (As := [.int (xs (i + 1)), .int (xs (i + 2))]) (rest := []) E hC hL (c_HD_word l D dA eA ad (A1 s adT) N g M as sp (xs (i + 1)) (xs (i + 2)) hN hN4 okl) ck_law_54 ⟨rfl, rfl⟩ ⟨Nat.le_of_ble_eq_true rfl, Nat.le_of_ble_eq_true rfl⟩ rfl (lv_sub hl [] rfl) rfl (Nat.le_of_ble_eq_true rfl) ⟨show 3000 - 5 * (k + 1) + 0 ≤ 600000 by omega, show 30000 - 40 * (k + 1) + 0 ≤ 7302250 by omega⟩ d_law_336 ?_
            refine lv_aload_n hx hb d_law_339 rfl (lv_at hl 3 rfl) ?_
            refine lv_aload_n hx hb d_law_340 rfl (lv_at hl 1 rfl) ?_
            refine lv_iload_n hx hb d_law_341 rfl (lv_at hl 0 rfl) ?_
            refine lv_iconst (v := 1) hx hb d_law_342 (by decide) ?_
            refine wn_add hx hb (a := i) (b := 1) d_law_343 ?_
            refine va_sld hx hb hX hbl hbA hL.1 (vp_in_nI (show i + 1 < L by omega) (by omega)) d_law_344 ?_
            rw [nI_clamp (show i + 1 < 2 ^ 31 by omega)]
            refine lv_aload_n hx hb d_law_345 rfl (lv_at hl 1 rfl) ?_
            refine lv_iload_n hx hb d_law_346 rfl (lv_at hl 0 rfl) ?_
            refine lv_iconst (v := 2) hx hb d_law_347 (by decide) ?_
            refine wn_add hx hb (a := i) (b := 2) d_law_348 ?_
            refine va_sld hx hb hX hbl hbA hL.1 (vp_in_nI (show i + 2 < L by omega) (by omega)) d_law_349 ?_
            rw [nI_clamp (show i + 2 < 2 ^ 31 by omega)]
            refine lw_tr (As := [.int (xs (i + 1)), .int (xs (i + 2))]) (rest := [.int (s_word g (xs (i + 1)) (xs (i + 2)))]) E hC hL (c_Tw_word l D dA adT (twA adT) g M (xs (i + 1)) (xs (i + 2)) N hN hN4) ck_law_57 ⟨rfl, rfl⟩ ⟨Nat.le_of_ble_eq_true rfl, Nat.le_of_ble_eq_true rfl⟩ rfl (lv_sub hl [] rfl) rfl (Nat.le_of_ble_eq_true rfl) ⟨show 3000 - 5 * (k + 1) + 0 ≤ 600000 by omega, show 30000 - 40 * (k + 1) + 0 ≤ 7302250 by omega⟩ d_law_350 ?_
            refine lv_icmp_eq (tgt := 476) hx hb d_law_353 (by decide) (fun h11 => ?_) (fun h11 => absurd (rfl) h11)
            refine lv_iinc (v := nI (i + 4)) (lv' := [(3, .int (nI (i + 4))), (0, .ref b), (1, .ref (ad 0 0)), (2, .ref (adT 0))]) hx hb d_law_476 hl (k := 0) rfl (nI_4 _) (by decide) rfl (fun ls hl => ?_)
            refine lv_goto (tgt := 38) hx hb d_law_479 (by decide) ?_
            refine W.widen (k := 3000 - 5 * k) (n := 30000 - 40 * k) (by omega) (by omega) ?_
            exact ih (i + 4) (by omega) (by omega) (by omega) _ _ _ _ H locs ls (hI) hL (lv_sub hl [0, 1, 2, 3] rfl)
          · refine lv_tableIn (off := 306) (tgt := 358) hx hb d_law_52 (by decide) (by decide) (by decide) (by decide) ?_
            refine lv_aload_n hx hb d_law_358 rfl (lv_at hl 2 rfl) ?_
            refine lv_aload_n hx hb d_law_359 rfl (lv_at hl 1 rfl) ?_
            refine lv_iload_n hx hb d_law_360 rfl (lv_at hl 0 rfl) ?_
            refine lv_iconst (v := 1) hx hb d_law_361 (by decide) ?_
            refine wn_add hx hb (a := i) (b := 1) d_law_362 ?_
            refine va_sld hx hb hX hbl hbA hL.1 (vp_in_nI (show i + 1 < L by omega) (by omega)) d_law_363 ?_
            rw [nI_clamp (show i + 1 < 2 ^ 31 by omega)]
            refine lw_xr (As := [.int (xs (i + 1))]) (rest := []) E hC hL (c_HD_home l D dA eA ad (A1 s adT) N g M as sp (xs (i + 1)) okk oko) ck_law_58 ⟨rfl, rfl⟩ ⟨Nat.le_of_ble_eq_true rfl, Nat.le_of_ble_eq_true rfl⟩ rfl (lv_sub hl [] rfl) rfl (Nat.le_of_ble_eq_true rfl) ⟨show 3000 - 5 * (k + 1) + 0 ≤ 600000 by omega, show 30000 - 40 * (k + 1) + 0 ≤ 7302250 by omega⟩ d_law_364 ?_
            refine lv_aload_n hx hb d_law_367 rfl (lv_at hl 3 rfl) ?_
            refine lv_aload_n hx hb d_law_368 rfl (lv_at hl 1 rfl) ?_
            refine lv_iload_n hx hb d_law_369 rfl (lv_at hl 0 rfl) ?_
            refine lv_iconst (v := 1) hx hb d_law_370 (by decide) ?_
            refine wn_add hx hb (a := i) (b := 1) d_law_371 ?_
            refine va_sld hx hb hX hbl hbA hL.1 (vp_in_nI (show i + 1 < L by omega) (by omega)) d_law_372 ?_
            rw [nI_clamp (show i + 1 < 2 ^ 31 by omega)]
            refine lw_tr (As := [.int (xs (i + 1))]) (rest := [.int (s_home g (xs (i + 1)))]) E hC hL (c_Tw_home l D dA adT (twA adT) g M (xs (i + 1)) ) ck_law_61 ⟨rfl, rfl⟩ ⟨Nat.le_of_ble_eq_true rfl, Nat.le_of_ble_eq_true rfl⟩ rfl (lv_sub hl [] rfl) rfl (Nat.le_of_ble_eq_true rfl) ⟨show 3000 - 5 * (k + 1) + 0 ≤ 600000 by omega, show 30000 - 40 * (k + 1) + 0 ≤ 7302250 by omega⟩ d_law_373 ?_
            refine lv_icmp_eq (tgt := 476) hx hb d_law_376 (by decide) (fun h12 => ?_) (fun h12 => absurd (rfl) h12)
            refine lv_iinc (v := nI (i + 4)) (lv' := [(3, .int (nI (i + 4))), (0, .ref b), (1, .ref (ad 0 0)), (2, .ref (adT 0))]) hx hb d_law_476 hl (k := 0) rfl (nI_4 _) (by decide) rfl (fun ls hl => ?_)
            refine lv_goto (tgt := 38) hx hb d_law_479 (by decide) ?_
            refine W.widen (k := 3000 - 5 * k) (n := 30000 - 40 * k) (by omega) (by omega) ?_
            exact ih (i + 4) (by omega) (by omega) (by omega) _ _ _ _ H locs ls (hI) hL (lv_sub hl [0, 1, 2, 3] rfl)
          · refine lv_tableIn (off := 329) (tgt := 381) hx hb d_law_52 (by decide) (by decide) (by decide) (by decide) ?_
            refine lv_aload_n hx hb d_law_381 rfl (lv_at hl 2 rfl) ?_
            refine lv_aload_n hx hb d_law_382 rfl (lv_at hl 1 rfl) ?_
            refine lv_iload_n hx hb d_law_383 rfl (lv_at hl 0 rfl) ?_
            refine lv_iconst (v := 1) hx hb d_law_384 (by decide) ?_
            refine wn_add hx hb (a := i) (b := 1) d_law_385 ?_
            refine va_sld hx hb hX hbl hbA hL.1 (vp_in_nI (show i + 1 < L by omega) (by omega)) d_law_386 ?_
            rw [nI_clamp (show i + 1 < 2 ^ 31 by omega)]
            refine lw_xr (As := [.int (xs (i + 1))]) (rest := []) E hC hL (c_HD_memory l D dA eA ad (A1 s adT) N g M as sp (xs (i + 1)) ) ck_law_62 ⟨rfl, rfl⟩ ⟨Nat.le_of_ble_eq_true rfl, Nat.le_of_ble_eq_true rfl⟩ rfl (lv_sub hl [] rfl) rfl (Nat.le_of_ble_eq_true rfl) ⟨show 3000 - 5 * (k + 1) + 0 ≤ 600000 by omega, show 30000 - 40 * (k + 1) + 0 ≤ 7302250 by omega⟩ d_law_387 ?_
            refine lv_aload_n hx hb d_law_390 rfl (lv_at hl 3 rfl) ?_
            refine lv_aload_n hx hb d_law_391 rfl (lv_at hl 1 rfl) ?_
            refine lv_iload_n hx hb d_law_392 rfl (lv_at hl 0 rfl) ?_
            refine lv_iconst (v := 1) hx hb d_law_393 (by decide) ?_
            refine wn_add hx hb (a := i) (b := 1) d_law_394 ?_
            refine va_sld hx hb hX hbl hbA hL.1 (vp_in_nI (show i + 1 < L by omega) (by omega)) d_law_395 ?_
            rw [nI_clamp (show i + 1 < 2 ^ 31 by omega)]
            refine lw_tr (As := [.int (xs (i + 1))]) (rest := [.int (s_memory g (xs (i + 1)))]) E hC hL (c_Tw_memory l D dA adT (twA adT) g M (xs (i + 1)) ) ck_law_65 ⟨rfl, rfl⟩ ⟨Nat.le_of_ble_eq_true rfl, Nat.le_of_ble_eq_true rfl⟩ rfl (lv_sub hl [] rfl) rfl (Nat.le_of_ble_eq_true rfl) ⟨show 3000 - 5 * (k + 1) + 0 ≤ 600000 by omega, show 30000 - 40 * (k + 1) + 0 ≤ 7302250 by omega⟩ d_law_396 ?_
            refine lv_icmp_eq (tgt := 476) hx hb d_law_399 (by decide) (fun h13 => ?_) (fun h13 => absurd (rfl) h13)
            refine lv_iinc (v := nI (i + 4)) (lv' := [(3, .int (nI (i + 4))), (0, .ref b), (1, .ref (ad 0 0)), (2, .ref (adT 0))]) hx hb d_law_476 hl (k := 0) rfl (nI_4 _) (by decide) rfl (fun ls hl => ?_)
            refine lv_goto (tgt := 38) hx hb d_law_479 (by decide) ?_
            refine W.widen (k := 3000 - 5 * k) (n := 30000 - 40 * k) (by omega) (by omega) ?_
            exact ih (i + 4) (by omega) (by omega) (by omega) _ _ _ _ H locs ls (hI) hL (lv_sub hl [0, 1, 2, 3] rfl)
          · refine lv_tableIn (off := 352) (tgt := 404) hx hb d_law_52 (by decide) (by decide) (by decide) (by decide) ?_
            refine lv_aload_n hx hb d_law_404 rfl (lv_at hl 2 rfl) ?_
            refine lv_aload_n hx hb d_law_405 rfl (lv_at hl 1 rfl) ?_
            refine lv_iload_n hx hb d_law_406 rfl (lv_at hl 0 rfl) ?_
            refine lv_iconst (v := 1) hx hb d_law_407 (by decide) ?_
            refine wn_add hx hb (a := i) (b := 1) d_law_408 ?_
            refine va_sld hx hb hX hbl hbA hL.1 (vp_in_nI (show i + 1 < L by omega) (by omega)) d_law_409 ?_
            rw [nI_clamp (show i + 1 < 2 ^ 31 by omega)]
            refine lw_xr (As := [.int (xs (i + 1))]) (rest := []) E hC hL (c_HD_accumulator l D dA eA ad (A1 s adT) N g M as sp (xs (i + 1)) hN hN4) ck_law_66 ⟨rfl, rfl⟩ ⟨Nat.le_of_ble_eq_true rfl, Nat.le_of_ble_eq_true rfl⟩ rfl (lv_sub hl [] rfl) rfl (Nat.le_of_ble_eq_true rfl) ⟨show 3000 - 5 * (k + 1) + 0 ≤ 600000 by omega, show 30000 - 40 * (k + 1) + 0 ≤ 7302250 by omega⟩ d_law_410 ?_
            refine lv_aload_n hx hb d_law_413 rfl (lv_at hl 3 rfl) ?_
            refine lv_aload_n hx hb d_law_414 rfl (lv_at hl 1 rfl) ?_
            refine lv_iload_n hx hb d_law_415 rfl (lv_at hl 0 rfl) ?_
            refine lv_iconst (v := 1) hx hb d_law_416 (by decide) ?_
            refine wn_add hx hb (a := i) (b := 1) d_law_417 ?_
            refine va_sld hx hb hX hbl hbA hL.1 (vp_in_nI (show i + 1 < L by omega) (by omega)) d_law_418 ?_
            rw [nI_clamp (show i + 1 < 2 ^ 31 by omega)]
            refine lw_tr (As := [.int (xs (i + 1))]) (rest := [.int (s_accum g (xs (i + 1)))]) E hC hL (c_Tw_accumulator l D dA adT (twA adT) g M (xs (i + 1)) N hN hN4) ck_law_69 ⟨rfl, rfl⟩ ⟨Nat.le_of_ble_eq_true rfl, Nat.le_of_ble_eq_true rfl⟩ rfl (lv_sub hl [] rfl) rfl (Nat.le_of_ble_eq_true rfl) ⟨show 3000 - 5 * (k + 1) + 0 ≤ 600000 by omega, show 30000 - 40 * (k + 1) + 0 ≤ 7302250 by omega⟩ d_law_419 ?_
            refine lv_icmp_eq (tgt := 476) hx hb d_law_422 (by decide) (fun h14 => ?_) (fun h14 => absurd (rfl) h14)
            refine lv_iinc (v := nI (i + 4)) (lv' := [(3, .int (nI (i + 4))), (0, .ref b), (1, .ref (ad 0 0)), (2, .ref (adT 0))]) hx hb d_law_476 hl (k := 0) rfl (nI_4 _) (by decide) rfl (fun ls hl => ?_)
            refine lv_goto (tgt := 38) hx hb d_law_479 (by decide) ?_
            refine W.widen (k := 3000 - 5 * k) (n := 30000 - 40 * k) (by omega) (by omega) ?_
            exact ih (i + 4) (by omega) (by omega) (by omega) _ _ _ _ H locs ls (hI) hL (lv_sub hl [0, 1, 2, 3] rfl)
          · refine lv_tableIn (off := 375) (tgt := 427) hx hb d_law_52 (by decide) (by decide) (by decide) (by decide) ?_
            refine lv_aload_n hx hb d_law_427 rfl (lv_at hl 2 rfl) ?_
            refine lv_aload_n hx hb d_law_428 rfl (lv_at hl 1 rfl) ?_
            refine lv_iload_n hx hb d_law_429 rfl (lv_at hl 0 rfl) ?_
            refine lv_iconst (v := 1) hx hb d_law_430 (by decide) ?_
            refine wn_add hx hb (a := i) (b := 1) d_law_431 ?_
            refine va_sld hx hb hX hbl hbA hL.1 (vp_in_nI (show i + 1 < L by omega) (by omega)) d_law_432 ?_
            rw [nI_clamp (show i + 1 < 2 ^ 31 by omega)]
            refine lw_xr (As := [.int (xs (i + 1))]) (rest := []) E hC hL (c_HD_place l D dA eA ad (A1 s adT) N g M as sp (xs (i + 1)) hN hN4) ck_law_70 ⟨rfl, rfl⟩ ⟨Nat.le_of_ble_eq_true rfl, Nat.le_of_ble_eq_true rfl⟩ rfl (lv_sub hl [] rfl) rfl (Nat.le_of_ble_eq_true rfl) ⟨show 3000 - 5 * (k + 1) + 0 ≤ 600000 by omega, show 30000 - 40 * (k + 1) + 0 ≤ 7302250 by omega⟩ d_law_433 ?_
            refine lv_aload_n hx hb d_law_436 rfl (lv_at hl 3 rfl) ?_
            refine lv_aload_n hx hb d_law_437 rfl (lv_at hl 1 rfl) ?_
            refine lv_iload_n hx hb d_law_438 rfl (lv_at hl 0 rfl) ?_
            refine lv_iconst (v := 1) hx hb d_law_439 (by decide) ?_
            refine wn_add hx hb (a := i) (b := 1) d_law_440 ?_
            refine va_sld hx hb hX hbl hbA hL.1 (vp_in_nI (show i + 1 < L by omega) (by omega)) d_law_441 ?_
            rw [nI_clamp (show i + 1 < 2 ^ 31 by omega)]
            refine lw_tr (As := [.int (xs (i + 1))]) (rest := [.int (s_place g (xs (i + 1)))]) E hC hL (c_Tw_place l D dA adT (twA adT) g M (xs (i + 1)) N hN hN4) ck_law_73 ⟨rfl, rfl⟩ ⟨Nat.le_of_ble_eq_true rfl, Nat.le_of_ble_eq_true rfl⟩ rfl (lv_sub hl [] rfl) rfl (Nat.le_of_ble_eq_true rfl) ⟨show 3000 - 5 * (k + 1) + 0 ≤ 600000 by omega, show 30000 - 40 * (k + 1) + 0 ≤ 7302250 by omega⟩ d_law_442 ?_
            refine lv_icmp_eq (tgt := 476) hx hb d_law_445 (by decide) (fun h15 => ?_) (fun h15 => absurd (rfl) h15)
            refine lv_iinc (v := nI (i + 4)) (lv' := [(3, .int (nI (i + 4))), (0, .ref b), (1, .ref (ad 0 0)), (2, .ref (adT 0))]) hx hb d_law_476 hl (k := 0) rfl (nI_4 _) (by decide) rfl (fun ls hl => ?_)
            refine lv_goto (tgt := 38) hx hb d_law_479 (by decide) ?_
            refine W.widen (k := 3000 - 5 * k) (n := 30000 - 40 * k) (by omega) (by omega) ?_
            exact ih (i + 4) (by omega) (by omega) (by omega) _ _ _ _ H locs ls (hI) hL (lv_sub hl [0, 1, 2, 3] rfl)
          · refine lv_tableIn (off := 398) (tgt := 450) hx hb d_law_52 (by decide) (by decide) (by decide) (by decide) ?_
            refine lv_aload_n hx hb d_law_450 rfl (lv_at hl 2 rfl) ?_
            refine lw_xr (As := []) (rest := []) E hC hL (c_HD_sent l D dA eA ad (A1 s adT) N g M as sp  ) ck_law_74 ⟨rfl, rfl⟩ ⟨Nat.le_of_ble_eq_true rfl, Nat.le_of_ble_eq_true rfl⟩ rfl (lv_sub hl [] rfl) rfl (Nat.le_of_ble_eq_true rfl) ⟨show 3000 - 5 * (k + 1) + 0 ≤ 600000 by omega, show 30000 - 40 * (k + 1) + 0 ≤ 7302250 by omega⟩ d_law_451 ?_
            refine lv_aload_n hx hb d_law_454 rfl (lv_at hl 3 rfl) ?_
            refine lw_tr (As := []) (rest := [.int (g 18 0)]) E hC hL (c_Tw_sent l D dA adT (twA adT) g M  ) ck_law_77 ⟨rfl, rfl⟩ ⟨Nat.le_of_ble_eq_true rfl, Nat.le_of_ble_eq_true rfl⟩ rfl (lv_sub hl [] rfl) rfl (Nat.le_of_ble_eq_true rfl) ⟨show 3000 - 5 * (k + 1) + 0 ≤ 600000 by omega, show 30000 - 40 * (k + 1) + 0 ≤ 7302250 by omega⟩ d_law_455 ?_
            refine lv_icmp_eq (tgt := 476) hx hb d_law_458 (by decide) (fun h16 => ?_) (fun h16 => absurd (rfl) h16)
            refine lv_iinc (v := nI (i + 4)) (lv' := [(3, .int (nI (i + 4))), (0, .ref b), (1, .ref (ad 0 0)), (2, .ref (adT 0))]) hx hb d_law_476 hl (k := 0) rfl (nI_4 _) (by decide) rfl (fun ls hl => ?_)
            refine lv_goto (tgt := 38) hx hb d_law_479 (by decide) ?_
            refine W.widen (k := 3000 - 5 * k) (n := 30000 - 40 * k) (by omega) (by omega) ?_
            exact ih (i + 4) (by omega) (by omega) (by omega) _ _ _ _ H locs ls (hI) hL (lv_sub hl [0, 1, 2, 3] rfl)
          · refine lv_tableIn (off := 411) (tgt := 463) hx hb d_law_52 (by decide) (by decide) (by decide) (by decide) ?_
            refine lv_aload_n hx hb d_law_463 rfl (lv_at hl 2 rfl) ?_
            refine lw_xr (As := []) (rest := []) E hC hL (c_HD_performed l D dA eA ad (A1 s adT) N g M as sp  ) ck_law_78 ⟨rfl, rfl⟩ ⟨Nat.le_of_ble_eq_true rfl, Nat.le_of_ble_eq_true rfl⟩ rfl (lv_sub hl [] rfl) rfl (Nat.le_of_ble_eq_true rfl) ⟨show 3000 - 5 * (k + 1) + 0 ≤ 600000 by omega, show 30000 - 40 * (k + 1) + 0 ≤ 7302250 by omega⟩ d_law_464 ?_
            refine lv_aload_n hx hb d_law_467 rfl (lv_at hl 3 rfl) ?_
            refine lw_tr (As := []) (rest := [.int (g 19 0)]) E hC hL (c_Tw_performed l D dA adT (twA adT) g M  ) ck_law_81 ⟨rfl, rfl⟩ ⟨Nat.le_of_ble_eq_true rfl, Nat.le_of_ble_eq_true rfl⟩ rfl (lv_sub hl [] rfl) rfl (Nat.le_of_ble_eq_true rfl) ⟨show 3000 - 5 * (k + 1) + 0 ≤ 600000 by omega, show 30000 - 40 * (k + 1) + 0 ≤ 7302250 by omega⟩ d_law_468 ?_
            refine lv_icmp_eq (tgt := 476) hx hb d_law_471 (by decide) (fun h17 => ?_) (fun h17 => absurd (rfl) h17)
            refine lv_iinc (v := nI (i + 4)) (lv' := [(3, .int (nI (i + 4))), (0, .ref b), (1, .ref (ad 0 0)), (2, .ref (adT 0))]) hx hb d_law_476 hl (k := 0) rfl (nI_4 _) (by decide) rfl (fun ls hl => ?_)
            refine lv_goto (tgt := 38) hx hb d_law_479 (by decide) ?_
            refine W.widen (k := 3000 - 5 * k) (n := 30000 - 40 * k) (by omega) (by omega) ?_
            exact ih (i + 4) (by omega) (by omega) (by omega) _ _ _ _ H locs ls (hI) hL (lv_sub hl [0, 1, 2, 3] rfl)
