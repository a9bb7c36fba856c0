/-! ===== the law's cell, and its calls ===== -/
def sc (L : Nat) (xs : Nat → Int32) (k : Nat) : Int32 := if k < L then xs k else 0
theorem c_law_cell (l : Launch) (b L : Nat) (xs : Nat → Int32) (k : Nat) (hL : L ≤ 2050) (hk : k ≤ 4000) : Met l y_law_cell (k_law_cell :: wz) (rml 0 0 0) (va_Pc [.ref b, .int (nI k)] (fun U => va_X b L xs U U.heap)) (QcRead (sc L xs k)) 0 0 (fun _ => False) := by
  refine Met.ofW (cc := b_law_cell) (maxL := 2) (ret := some .int) (by decide) rfl ?_
  intro p e s m args below meth c s₁ B hml hv
  obtain ⟨rfl, hX⟩ := hv
  have E := Cx.of B hml
  have hx := E.1
  have hb := E.2.1
  rw [lg_entry_eq]
  have hl := lv_entry ([.ref b, .int (nI k)] : List Value) (n := 2) (Nat.le_of_ble_eq_true rfl)
  generalize (lg_sl [.ref b, .int (nI k)] ++ List.replicate (2 - (lg_sl [.ref b, .int (nI k)]).length) Slot.unset).toArray = ls at hl ⊢
  replace hl : lv_has ls 2 [(0, .ref b), (1, .int (nI k))] := hl
  have hbl : b < s.heap.size := by obtain ⟨scr, h1, -⟩ := hX; exact (Array.getElem?_eq_some_iff.mp h1).1
  have hS : va_S (fun _ => False) s.heap s.heap [] := va_S.rf
  refine lv_iload_n hx hb d_law_cell_0 rfl (lv_at hl 1 rfl) ?_
  refine lv_aload_n hx hb d_law_cell_1 rfl (lv_at hl 0 rfl) ?_
  refine va_slen hx hb hX hbl (fun h => h) hS d_law_cell_2 ?_
  refine lv_icmp_ge (tgt := 12) hx hb d_law_cell_3 (by decide) (fun h1 => ?_) (fun h1 => ?_)
  · replace h1 : L ≤ k := (nI_leI (a := L) (b := k) (by omega) (by omega)).mp h1
    refine lv_iconst (v := 0) hx hb d_law_cell_12 (by decide) ?_
    exact t_read E rfl (by rw [sc, if_neg (by omega)]) d_law_cell_13
  · replace h1 : k < L := Nat.lt_of_not_le fun q => h1 ((nI_leI (a := L) (b := k) (by omega) (by omega)).mpr q)
    refine lv_aload_n hx hb d_law_cell_6 rfl (lv_at hl 0 rfl) ?_
    refine lv_iload_n hx hb d_law_cell_7 rfl (lv_at hl 1 rfl) ?_
    refine va_sld hx hb hX hbl (fun h => h) hS (vp_in_nI h1 (by omega)) d_law_cell_8 ?_
    rw [nI_clamp (by omega)]
    refine lv_goto (tgt := 13) hx hb d_law_cell_9 (by decide) ?_
    exact t_read E rfl (by rw [sc, if_pos h1]) d_law_cell_13
theorem twA_of {ad : Nat → Nat} {q : Nat} (h : twA ad q) (dA : Nat → ClassId) (g K : PS) (n : Nat) : ∃ (k : Nat) (e : va_E), (tw dA ad g K n)[k]? = some (q, e) := by
  obtain ⟨dA', g', K', n', k, e, hk⟩ := h
  have e1 : ((tw dA' ad g' K' n').map Prod.fst)[k]? = some q := by rw [List.getElem?_map, hk]; rfl
  have e2 : (tw dA' ad g' K' n').map Prod.fst = (tw dA ad g K n).map Prod.fst := rfl
  rw [e2, List.getElem?_map] at e1
  cases hq : (tw dA ad g K n)[k]? with
  | none => rw [hq] at e1; cases e1
  | some x =>
    rw [hq] at e1
    obtain ⟨x1, x2⟩ := x
    cases e1
    exact ⟨k, x2, hq⟩
theorem RT.at {D : va_G} {dA : Nat → ClassId} {ad : Nat → Nat} {A : Nat → Prop} {g : PS} {M : List Msg} {H : Heap} (h : RT D dA ad A g M H) {q : Nat} (hq : twA ad q) : A q ∧ q < H.size := by
  obtain ⟨K, ⟨hP, hD⟩, hK⟩ := h
  obtain ⟨k, e, hk⟩ := twA_of hq dA g K M.length
  exact ⟨hD.2 k _ hk, (hP k _ hk).lt⟩
/-- what may change: all that is new; of it, what is not the twin's -/
def A0 (s : State) (q : Nat) : Prop := s.heap.size ≤ q
def A1 (s : State) (adT : Nat → Nat) (q : Nat) : Prop := s.heap.size ≤ q ∧ ¬ twA adT q
/-- both systems stand -/
def LX (D : va_G) (dA : Nat → ClassId) (eA ad : Nat → Nat → Nat) (adT : Nat → Nat) (s : State) (N : Nat) (gx : PS) (Mx : List Msg) (as sp : List Nat) (gt : PS) (Mt : List Msg) (H : Heap) (locs : List Loc) : Prop :=
  va_S (A0 s) s.heap H locs ∧ RX D dA eA ad (A1 s adT) N gx Mx as sp H ∧ RT D dA adT (twA adT) gt Mt H ∧ ∀ q, twA adT q → s.heap.size ≤ q ∧ q < H.size
section LC
variable {p : Program} {l : Launch} {e : Env} {R : Room} {s : State} {m : MethodId} {args : Array Value} {below : List Frame} {meth : Method} {c : Code} {H : Heap} {locs : List Loc} {cells slots : Nat} {Q : State → Prop}
variable {cc bytes : ByteArray} {pc nL maxL idx n mc ms : Nat} {own : String} {ret ret0 : Option FieldType} {ls : Array Slot} {rest As st : List Value} {D : va_G} {dA : Nat → ClassId} {eA ad : Nat → Nat → Nat} {adT : Nat → Nat} {N : Nat} {gx g' gt : PS} {Mx M' Mt : List Msg} {as sp : List Nat} {y : MethodName} {rm : Room} {r : Int32}
theorem LX.pre (hC : CX D dA eA (A0 s) s) (hL : LX D dA eA ad adT s N gx Mx as sp gt Mt H locs) {U : State} (hU : U.heap = H) (hW : s.WarmedH U.vm) : PX D dA eA ad (A1 s adT) N gx Mx as sp U := by
  obtain ⟨hS, hR, hT, ht⟩ := hL
  refine ⟨fun q h => ⟨Nat.le_trans hS.1 (by rw [← hU]; exact h), fun q2 => ?_⟩, (hC.call hS hU hW).narrow (fun q h => h.1), by rw [hU]; exact hR⟩
  have := (ht q q2).2
  rw [← hU] at this
  omega
theorem LX.preT (hC : CX D dA eA (A0 s) s) (hL : LX D dA eA ad adT s N gx Mx as sp gt Mt H locs) {U : State} (hU : U.heap = H) (hW : s.WarmedH U.vm) : PT D dA adT (twA adT) gt Mt U := ⟨hC.1.moved hW.alike, by rw [hU]; exact hL.2.2.1⟩
theorem lw_xi {asf : List Nat × List Nat → List Nat} (E : Cx p s m args meth c cc own nL ret0) (hC : CX D dA eA (A0 s) s) (hL : LX D dA eA ad adT s N gx Mx as sp gt Mt H locs)
    (hM : Met l y (.code y bytes maxL ret :: wz) rm (va_Pc (.ref (ad 0 0) :: As) (PX D dA eA ad (A1 s adT) N gx Mx as sp)) (va_Qi (fun (x : Int32) (_ : List Nat × List Nat) => x = r) (fun u t => RX D dA eA ad (A1 s adT) N g' M' (asf u) u.2 t.heap) (A1 s adT)) mc ms (A1 s adT)) (hw : CallK own idx R_HD y bytes maxL ret n) (hrc : rm.cells = mc ∧ rm.slots = ms) (hRm : rm.frames + 1 ≤ R.frames ∧ 8 + (maxL + 11) + rm.locals ≤ R.locals) (hn : As.length = n) (hsz : lv_has ls nL []) (hst : st = As.reverse ++ .ref (ad 0 0) :: rest) (hrest : (rest.map fun v => v.category).sum ≤ 8) (hf : cells + mc ≤ R.cells ∧ slots + ms ≤ R.slots) (hdg : decode cc pc = .ok (.invokevirtual idx, 3))
    (kk : ∀ (H1 : Heap) (locs1 : List Loc) (as1 sp1 : List Nat), LX D dA eA ad adT s N g' M' as1 sp1 gt Mt H1 locs1 → W p l e R s m args below meth c H1 locs1 (cells + mc) (slots + ms) Q (F0 m (pc + 3) ls (.int r :: rest))) : W p l e R s m args below meth c H locs cells slots Q (F0 m pc ls st) := by
  have hrecv := x_recv (hC.narrow (B := A1 s adT) (fun q h => h.1)) hL.2.1 (s0 := 0) (i0 := 0) rfl rfl rfl
  refine va_calli (A0 := A0 s) (va_runV (As := As) (rest := rest) ⟨E.1, E.2.1, E.2.2.1, E.2.2.2.1, E.2.2.2.2.1⟩ hM (cwV n E.2.2.2.2.1 hw.1 rfl hrc.1 hrc.2 hw.2 hRm) ⟨px_blind, hrecv, fun U hU hW => ⟨rfl, hL.pre hC hU hW⟩⟩ rfl hn hsz.1 hst (lv_room hrest) hdg hf) hL.1 (fun q _ h => h.1) (fun q h => h.1) (fun r1 u t H1 locs1 ht _ hw hB hz hk hS1 => ?_)
  subst hw
  refine kk H1 locs1 _ _ ⟨hS1, by rw [← ht]; exact hB, hL.2.2.1.kept (fun q h1 h2 => hk q h1 (fun h3 => h3.2 h2)), fun q hq => ⟨(hL.2.2.2 q hq).1, Nat.lt_of_lt_of_le (hL.2.2.2 q hq).2 hz⟩⟩
theorem lw_ti (E : Cx p s m args meth c cc own nL ret0) (hC : CX D dA eA (A0 s) s) (hL : LX D dA eA ad adT s N gx Mx as sp gt Mt H locs)
    (hM : Met l y (.code y bytes maxL ret :: wz) rm (va_Pc (.ref (adT 0) :: As) (PT D dA adT (twA adT) gt Mt)) (TQi D dA adT (twA adT) r g' M') 0 0 (twA adT)) (hw : CallK own idx R_Tw y bytes maxL ret n) (hrc : rm.cells = 0 ∧ rm.slots = 0) (hRm : rm.frames + 1 ≤ R.frames ∧ 8 + (maxL + 11) + rm.locals ≤ R.locals) (hn : As.length = n) (hsz : lv_has ls nL []) (hst : st = As.reverse ++ .ref (adT 0) :: rest) (hrest : (rest.map fun v => v.category).sum ≤ 8) (hf : cells + 0 ≤ R.cells ∧ slots + 0 ≤ R.slots) (hdg : decode cc pc = .ok (.invokevirtual idx, 3))
    (kk : ∀ (H1 : Heap) (locs1 : List Loc), LX D dA eA ad adT s N gx Mx as sp g' M' H1 locs1 → W p l e R s m args below meth c H1 locs1 cells slots Q (F0 m (pc + 3) ls (.int r :: rest))) : W p l e R s m args below meth c H locs cells slots Q (F0 m pc ls st) := by
  have hpre := tw_pre (As := As) hC.1 hL.2.2.1
  refine va_calli (A0 := A0 s) (va_runV (As := As) (rest := rest) ⟨E.1, E.2.1, E.2.2.1, E.2.2.2.1, E.2.2.2.2.1⟩ hM (cwV n E.2.2.2.2.1 hw.1 rfl hrc.1 hrc.2 hw.2 hRm) hpre rfl hn hsz.1 hst (lv_room hrest) hdg hf) hL.1 (fun q _ h => (hL.2.2.2 q h).1) (fun q h => (hL.2.2.2 q h).1) (fun r1 u t H1 locs1 ht _ hw hB hz hk hS1 => ?_)
  subst hw
  exact kk H1 locs1 ⟨hS1, hL.2.1.kept (fun q h1 h2 => hk q h1 h2.2), by rw [← ht]; exact hB, fun q hq => ⟨(hL.2.2.2 q hq).1, Nat.lt_of_lt_of_le (hL.2.2.2 q hq).2 hz⟩⟩
theorem lw_xr (E : Cx p s m args meth c cc own nL ret0) (hC : CX D dA eA (A0 s) s) (hL : LX D dA eA ad adT s N gx Mx as sp gt Mt H locs)
    (hM : Met l y (.code y bytes maxL ret :: wz) rm (va_Pc (.ref (ad 0 0) :: As) (PX D dA eA ad (A1 s adT) N gx Mx as sp)) (QcRead r) 0 0 (fun _ => False)) (hw : CallK own idx R_HD y bytes maxL ret n) (hrc : rm.cells = 0 ∧ rm.slots = 0) (hRm : rm.frames + 1 ≤ R.frames ∧ 8 + (maxL + 11) + rm.locals ≤ R.locals) (hn : As.length = n) (hsz : lv_has ls nL []) (hst : st = As.reverse ++ .ref (ad 0 0) :: rest) (hrest : (rest.map fun v => v.category).sum ≤ 8) (hf : cells + 0 ≤ R.cells ∧ slots + 0 ≤ R.slots) (hdg : decode cc pc = .ok (.invokevirtual idx, 3))
    (kk : W p l e R s m args below meth c H locs cells slots Q (F0 m (pc + 3) ls (.int r :: rest))) : W p l e R s m args below meth c H locs cells slots Q (F0 m pc ls st) := by
  have hrecv := x_recv (hC.narrow (B := A1 s adT) (fun q h => h.1)) hL.2.1 (s0 := 0) (i0 := 0) rfl rfl rfl
  exact W.callR (rest := rest) (a := (Value.ref (ad 0 0) :: As).toArray) (va_Run.run (va_runV (As := As) (rest := rest) ⟨E.1, E.2.1, E.2.2.1, E.2.2.2.1, E.2.2.2.2.1⟩ hM (cwV n E.2.2.2.2.1 hw.1 rfl hrc.1 hrc.2 hw.2 hRm) ⟨px_blind, hrecv, fun U hU hW => ⟨rfl, hL.pre hC hU hW⟩⟩ rfl hn hsz.1 hst (lv_room hrest) hdg hf)) kk
theorem lw_tr (E : Cx p s m args meth c cc own nL ret0) (hC : CX D dA eA (A0 s) s) (hL : LX D dA eA ad adT s N gx Mx as sp gt Mt H locs)
    (hM : Met l y (.code y bytes maxL ret :: wz) rm (va_Pc (.ref (adT 0) :: As) (PT D dA adT (twA adT) gt Mt)) (QcRead r) 0 0 (fun _ => False)) (hw : CallK own idx R_Tw y bytes maxL ret n) (hrc : rm.cells = 0 ∧ rm.slots = 0) (hRm : rm.frames + 1 ≤ R.frames ∧ 8 + (maxL + 11) + rm.locals ≤ R.locals) (hn : As.length = n) (hsz : lv_has ls nL []) (hst : st = As.reverse ++ .ref (adT 0) :: rest) (hrest : (rest.map fun v => v.category).sum ≤ 8) (hf : cells + 0 ≤ R.cells ∧ slots + 0 ≤ R.slots) (hdg : decode cc pc = .ok (.invokevirtual idx, 3))
    (kk : W p l e R s m args below meth c H locs cells slots Q (F0 m (pc + 3) ls (.int r :: rest))) : W p l e R s m args below meth c H locs cells slots Q (F0 m pc ls st) :=
  W.callR (rest := rest) (a := (Value.ref (adT 0) :: As).toArray) (va_Run.run (va_runV (As := As) (rest := rest) ⟨E.1, E.2.1, E.2.2.1, E.2.2.2.1, E.2.2.2.2.1⟩ hM (cwV n E.2.2.2.2.1 hw.1 rfl hrc.1 hrc.2 hw.2 hRm) (tw_pre (As := As) hC.1 hL.2.2.1) rfl hn hsz.1 hst (lv_room hrest) hdg hf)) kk
end LC
