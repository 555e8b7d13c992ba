/-! WALKS (printed by tools/gen.py): 15.xw 2 -/
set_option maxRecDepth 100000
def rm_x_person_2 : Room := { frames := 11, cells := 1, slots := 6, locals := 142 }
set_option maxHeartbeats 4000000 in
set_option maxRecDepth 100000 in
theorem w_x_person_2 {p : Program} {l : Launch} {e : Env} {s : State} {m : MethodId} {args : Array Value} {below : List Frame} {meth : Method} {c : Code} {D : va_G} {C : Nat → Nat} {a0 : Array Value} {s0 : State} {ad : Rl → Nat} {so : Nat → Option hS} {pr : hPr} {t : hSt} {lt : Rl → Nat → Int64} (CX : hCx D C a0 s0 p s m args meth c cX1_person_2 2 RX1 (none)) (hIx : hI (hA s0) ad (Sum.elim (xSH C pr) so)) (hex : ∀ x ∈ c.exceptionTable.toList, False) (hlst : l.stackTraces = false) (g : hSt) (p0 : Int32) {o : (Unit) ⊕ Nat} (hf : x_person_2 g p0 = some o) {H : Heap} {locs : List Loc} (hM : hW D vwCl ad (Sum.elim (xSH C pr) so) (Sum.elim g t) lt H) (hS : va_S (hA s0) s.heap H locs) {ls : Array Slot} (hl : lv_has ls 2 [(0, .ref (ad (.inl 0))), (1, .int p0)]) : W p l e rm_x_person_2 s m args below meth c H locs 0 0 (vx_MQ below (va_Qv (fun v : Unit => o = .inl v) (fun (v : Unit) (U : State) => hW D vwCl ad (Sum.elim (xSH C pr) so) (Sum.elim g t) lt U.heap) (hA s0)) (vx_X (fun k : Nat => o = .inr k) (fun (E : String) (k : Nat) (U : State) => E = hEx k ∧ hW D vwCl ad (Sum.elim (xSH C pr) so) (Sum.elim g t) lt U.heap) (hA s0)) args s 1 6 (hA s0)) (F0 m 0 ls []) := by
  obtain ⟨hx, hb, hr, hml, hown, hts, hlocks, hK, hZ0, hA0⟩ := CX
  unfold x_person_2 at hf
  refine lv_aload_n hx hb dX1_person_2_0 rfl (lv_at hl 0 rfl) ?_
  refine lv_iload_n hx hb dX1_person_2_1 rfl (lv_at hl 1 rfl) ?_
  obtain ⟨y1, hq, hf⟩ := hbind hf
  refine hr_calli0 (va_runV (As := [.int p0]) (rest := []) ⟨hx, hb, hml, hown, hts⟩ (met_x_isPerson l D C a0 s0 ad so pr t lt g p0 hq) (cwV 1 hts (lw_V q638 q640 qs3 q76 q641) rfl rfl rfl (by decide +kernel) ⟨Nat.le_of_ble_eq_true rfl, Nat.le_of_ble_eq_true rfl⟩) (hr_preV hZ_c hM hIx hK hZ0 hA0 hS (r := .inl 0) xS_0 (q := (RX1, TX1, 19)) rfl) rfl rfl hl.1 rfl (lv_room (Nat.le_of_ble_eq_true rfl)) dX1_person_2_2 ⟨Nat.le_of_ble_eq_true rfl, Nat.le_of_ble_eq_true rfl⟩) hS (fun H locs hM hS => ?_)
  obtain ⟨z2, hq, hf⟩ := hbind hf
  refine hr_xcallv hf (vx_runS (As := [.int y1]) (rest := []) ⟨hx, hb, hml, hown, hts⟩ (met_x_there l D C a0 s0 ad so pr (Sum.elim g t) lt y1 hlst hq) (va_cwS 1 hts (lw_S q1159 q1160 q76 q1161) rfl rfl rfl (by decide +kernel) ⟨Nat.le_of_ble_eq_true rfl, Nat.le_of_ble_eq_true rfl⟩) (hr_preS hZ_c hM hIx hK hZ0 hA0 hS) rfl rfl hl.1 rfl (lv_room (Nat.le_of_ble_eq_true rfl)) dX1_person_2_5 ⟨Nat.le_of_ble_eq_true rfl, Nat.le_of_ble_eq_true rfl⟩) hS hex hlocks hIx (Nat.le_of_ble_eq_true rfl) (Nat.le_of_ble_eq_true rfl) (fun H locs hf hM hS => ?_)
  have eo := Option.some.inj hf
  subst eo
  refine W.widen (k := 1) (n := 6) (Nat.le_of_ble_eq_true rfl) (Nat.le_of_ble_eq_true rfl) ?_
  exact vx_ret (W.vret hx hb hr (fun T ht hW => ⟨⟨(), rfl, rfl, by dsimp only; rw [ht]; exact hM⟩, hS.F ht⟩) hS.2.2 dX1_person_2_8)
set_option maxHeartbeats 4000000 in
set_option maxRecDepth 100000 in
theorem met_x_person_2 (l : Launch) (D : va_G) (C : Nat → Nat) (a0 : Array Value) (s0 : State) (ad : Rl → Nat) (so : Nat → Option hS) (pr : hPr) (t : hSt) (lt : Rl → Nat → Int64) (g : hSt) (p0 : Int32) (hlst : l.stackTraces = false) {o : (Unit) ⊕ Nat} (hf : x_person_2 g p0 = some o) : vx_Met l yX1_person_2 (ws_ yX1_person_2 cX1_person_2 2 (none)) rm_x_person_2 (va_Pc [.ref (ad (.inl 0)), .int p0] (hB D vwCl (hT C) (hA s0) (hZ a0 s0) ad (Sum.elim (xSH C pr) so) (Sum.elim g t) lt)) (va_Qv (fun v : Unit => o = .inl v) (fun (v : Unit) (U : State) => hW D vwCl ad (Sum.elim (xSH C pr) so) (Sum.elim g t) lt U.heap) (hA s0)) (vx_X (fun k : Nat => o = .inr k) (fun (E : String) (k : Nat) (U : State) => E = hEx k ∧ hW D vwCl ad (Sum.elim (xSH C pr) so) (Sum.elim g t) lt U.heap) (hA s0)) 1 6 (hA s0) := by
  refine vx_ofW (cc := cX1_person_2) (maxL := 2) (ret := (none)) (by decide) rfl ?_
  intro p e s m args below meth c s₁ B hml hex hv
  obtain ⟨rfl, hM, hIx, hK, hZ0, hA0⟩ := hv
  have hl := lv_entry ([.ref (ad (.inl 0)), .int p0]) (n := 2) (Nat.le_of_ble_eq_true rfl)
  rw [lg_entry_eq]
  generalize (lg_sl ([.ref (ad (.inl 0)), .int p0]) ++ List.replicate (2 - (lg_sl ([.ref (ad (.inl 0)), .int p0])).length) Slot.unset).toArray = ls at hl ⊢
  have hl : lv_has ls 2 [(0, .ref (ad (.inl 0))), (1, .int p0)] := hl
  exact w_x_person_2 ⟨B.exec, B.bytes, B.returns, hml, findClass_of_methodNamed B.named, fun w h => atoms_spec (ws := ws_ yX1_person_2 cX1_person_2 2 (none)) B.pre w (List.mem_cons_of_mem _ h), B.notSynchronized, hK, hZ0, hA0⟩ hIx hex hlst g p0 hf hM va_S.rf hl

def rm_x_person : Room := { frames := 13, cells := 2, slots := 12, locals := 240 }
set_option maxHeartbeats 4000000 in
set_option maxRecDepth 100000 in
theorem w_x_person {p : Program} {l : Launch} {e : Env} {s : State} {m : MethodId} {args : Array Value} {below : List Frame} {meth : Method} {c : Code} {D : va_G} {C : Nat → Nat} {a0 : Array Value} {s0 : State} {ad : Rl → Nat} {so : Nat → Option hS} {pr : hPr} {t : hSt} {lt : Rl → Nat → Int64} (CX : hCx D C a0 s0 p s m args meth c cX1_person 4 RX1 (some .int)) (hIx : hI (hA s0) ad (Sum.elim (xSH C pr) so)) (hex : ∀ x ∈ c.exceptionTable.toList, False) (hlst : l.stackTraces = false) (g : hSt) (p0 : Int32) (p1 : Int32) {o : (Int32) ⊕ Nat} (hf : x_person g pr p0 p1 = some o) {H : Heap} {locs : List Loc} (hM : hW D vwCl ad (Sum.elim (xSH C pr) so) (Sum.elim g t) lt H) (hS : va_S (hA s0) s.heap H locs) {ls : Array Slot} (hl : lv_has ls 4 [(0, .ref (ad (.inl 0))), (1, .int p0), (2, .int p1)]) : W p l e rm_x_person s m args below meth c H locs 0 0 (vx_MQ below (va_Qi (fun (r : Int32) (v : Int32) => o = .inl v ∧ r = v) (fun (v : Int32) (U : State) => hW D vwCl ad (Sum.elim (xSH C pr) so) (Sum.elim g t) lt U.heap) (hA s0)) (vx_X (fun k : Nat => o = .inr k) (fun (E : String) (k : Nat) (U : State) => E = hEx k ∧ hW D vwCl ad (Sum.elim (xSH C pr) so) (Sum.elim g t) lt U.heap) (hA s0)) args s 2 12 (hA s0)) (F0 m 0 ls []) := by
  obtain ⟨hx, hb, hr, hml, hown, hts, hlocks, hK, hZ0, hA0⟩ := CX
  unfold x_person at hf
  refine lv_aload_n hx hb dX1_person_0 rfl (lv_at hl 0 rfl) ?_
  refine lv_iload_n hx hb dX1_person_1 rfl (lv_at hl 1 rfl) ?_
  obtain ⟨z1, hq, hf⟩ := hbind hf
  refine hr_xcallv hf (vx_runV (As := [.int p0]) (rest := []) ⟨hx, hb, hml, hown, hts⟩ (met_x_person_2 l D C a0 s0 ad so pr t lt g p0 hlst hq) (cwV 1 hts (lw_V q1184 q1186 qs24 q76 q1187) rfl rfl rfl (by decide +kernel) ⟨Nat.le_of_ble_eq_true rfl, Nat.le_of_ble_eq_true rfl⟩) (hr_preV hZ_c hM hIx hK hZ0 hA0 hS (r := .inl 0) xS_0 (q := (RX1, TX1, 19)) rfl) rfl rfl hl.1 rfl (lv_room (Nat.le_of_ble_eq_true rfl)) dX1_person_2 ⟨Nat.le_of_ble_eq_true rfl, Nat.le_of_ble_eq_true rfl⟩) hS hex hlocks hIx (Nat.le_of_ble_eq_true rfl) (Nat.le_of_ble_eq_true rfl) (fun H locs hf hM hS => ?_)
  refine lv_iload_n hx hb dX1_person_5 rfl (lv_at hl 2 rfl) ?_
  refine lv_iconst (v := 0) hx hb dX1_person_6 (by decide) ?_
  refine lv_bipush (v := 6) hx hb dX1_person_7 (by decide) ?_
  obtain ⟨y2, hq, hf⟩ := hbind hf
  refine hr_calli0 (va_runS (As := [.int p1, .int (0 : Int32), .int (6 : Int32)]) (rest := []) ⟨hx, hb, hml, hown, hts⟩ (met_x_within l D C a0 s0 ad so pr (Sum.elim g t) lt p1 (0 : Int32) (6 : Int32) hq) (va_cwS 3 hts (lw_S q1156 q1157 q76 q1158) rfl rfl rfl (by decide +kernel) ⟨Nat.le_of_ble_eq_true rfl, Nat.le_of_ble_eq_true rfl⟩) (hr_preS hZ_c hM hIx hK hZ0 hA0 hS) rfl rfl hl.1 rfl (lv_room (Nat.le_of_ble_eq_true rfl)) dX1_person_9 ⟨Nat.le_of_ble_eq_true rfl, Nat.le_of_ble_eq_true rfl⟩) hS (fun H locs hM hS => ?_)
  obtain ⟨z3, hq, hf⟩ := hbind hf
  refine hr_xcallv hf (vx_runS (As := [.int y2]) (rest := []) ⟨hx, hb, hml, hown, hts⟩ (met_x_there l D C a0 s0 ad so pr (Sum.elim g t) lt y2 hlst hq) (va_cwS 1 hts (lw_S q1159 q1160 q76 q1161) rfl rfl rfl (by decide +kernel) ⟨Nat.le_of_ble_eq_true rfl, Nat.le_of_ble_eq_true rfl⟩) (hr_preS hZ_c hM hIx hK hZ0 hA0 hS) rfl rfl hl.1 rfl (lv_room (Nat.le_of_ble_eq_true rfl)) dX1_person_12 ⟨Nat.le_of_ble_eq_true rfl, Nat.le_of_ble_eq_true rfl⟩) hS hex hlocks hIx (Nat.le_of_ble_eq_true rfl) (Nat.le_of_ble_eq_true rfl) (fun H locs hf hM hS => ?_)
  refine lv_aload_n hx hb dX1_person_15 rfl (lv_at hl 0 rfl) ?_
  refine hr_get (ci := 0) (C := RX1) (T := TX1) (N := 19) (r := .inl 0) hx hb hts in_X1 hown hK hM xS_0 rfl 1 (by decide) (hts _ q560) rfl (v := .ref (ad (.inl 20))) rfl dX1_person_16 ?_
  refine hr_getN (ci := 3) (C := RX3) (T := TX3) (N := 3) (r := .inl 20) hx hb hts in_X3 hown hK hM xS_20 rfl 0 (by decide) (hZ_nest hZ0 q544 rfl) rfl (v := .ref (ad (.inl 24))) rfl dX1_person_19 ?_
  refine lv_astore_n (lv' := [(3, .ref (ad (.inl 24))), (0, .ref (ad (.inl 0))), (1, .int p0), (2, .int p1)]) hx hb dX1_person_22 rfl hl (by decide) rfl (fun ls hl => ?_)
  refine lv_iload_n hx hb dX1_person_23 rfl (lv_at hl 3 rfl) ?_
  by_cases hc0 : p1 = 0
  · replace hf := hif_t hf hc0
    refine lv_tableIn (x := p1) (tgt := 64) hx hb dX1_person_24 (by rw [hc0]; decide) (by rw [hc0]; decide) (by rw [hc0]; rfl) (by decide) ?_
    refine lv_aload_n hx hb dX1_person_64 rfl (lv_at hl 1 rfl) ?_
    refine hr_get (ci := 0) (C := RX1) (T := TX1) (N := 19) (r := .inl 0) hx hb hts in_X1 hown hK hM xS_0 rfl 0 (by decide) (hts _ q559) rfl (v := .ref (ad (.inl 10))) rfl dX1_person_65 ?_
    refine hr_getN (ci := 2) (C := RX2) (T := TX2) (N := 6) (r := .inl 10) hx hb hts in_X2 hown hK hM xS_10 rfl 0 (by decide) (hZ_nest hZ0 q468 rfl) rfl (v := .ref (ad (.inl 11))) rfl dX1_person_68 ?_
    refine lv_iload_n hx hb dX1_person_71 rfl (lv_at hl 2 rfl) ?_
    obtain ⟨r6, hq, hf⟩ := hbind hf
    refine hx_getP ⟨hx, hb, hr, hml, hown, hts, hlocks, hK, hZ0, hA0⟩ hIx q802 hq hM hS hl.1 (lv_room (Nat.le_of_ble_eq_true rfl)) (Nat.le_of_ble_eq_true rfl) (Nat.le_of_ble_eq_true rfl) (Nat.le_of_ble_eq_true rfl) (Nat.le_of_ble_eq_true rfl) dX1_person_72 (fun h_r6 H locs hM hS => ?_)
    refine hx_castGv hx hb hown hK hZ0 (hts _ q810) h_r6 hM dX1_person_75 ?_
    obtain ⟨y7, hq, hf⟩ := hbind hf
    refine hx_gv_kind ⟨hx, hb, hr, hml, hown, hts, hlocks, hK, hZ0, hA0⟩ hIx h_r6 q1188 hq hM hS hl.1 (lv_room (Nat.le_of_ble_eq_true rfl)) (Nat.le_of_ble_eq_true rfl) (Nat.le_of_ble_eq_true rfl) (Nat.le_of_ble_eq_true rfl) (Nat.le_of_ble_eq_true rfl) dX1_person_78 (fun H locs hM hS => ?_)
    have eo := Option.some.inj hf
    subst eo
    refine W.widen (k := 2) (n := 12) (Nat.le_of_ble_eq_true rfl) (Nat.le_of_ble_eq_true rfl) ?_
    exact vx_ret (W.iret (v := y7) hx hb hr (fun T ht hW => ⟨⟨y7, y7, rfl, ⟨rfl, rfl⟩, by dsimp only; rw [ht]; exact hM⟩, hS.F ht⟩) hS.2.2 dX1_person_81)
  replace hf := hif_f hf hc0
  by_cases hc1 : p1 = 1
  · replace hf := hif_t hf hc1
    refine lv_tableIn (x := p1) (tgt := 82) hx hb dX1_person_24 (by rw [hc1]; decide) (by rw [hc1]; decide) (by rw [hc1]; rfl) (by decide) ?_
    refine lv_aload_n hx hb dX1_person_82 rfl (lv_at hl 0 rfl) ?_
    refine hr_getN (ci := 1) (C := RX4) (T := TX4) (N := 6) (r := .inl 24) hx hb hts in_X4 hown hK hM (xs_st24 (C := C) (pr := pr)).o rfl 1 (by decide) (hZ_nest hZ0 q514 rfl) rfl (v := .ref (ad (.inl (24 + 2)))) rfl dX1_person_83 ?_
    refine lv_iload_n hx hb dX1_person_86 rfl (lv_at hl 2 rfl) ?_
    refine hx_iald (r := (24 + 2)) hx hb hK hM 0 (xs_st24 (C := C) (pr := pr)).a2 rfl hf dX1_person_87 (fun x8 hf => ?_)
    have eo := Option.some.inj hf
    subst eo
    refine W.widen (k := 2) (n := 12) (Nat.le_of_ble_eq_true rfl) (Nat.le_of_ble_eq_true rfl) ?_
    exact vx_ret (W.iret (v := x8) hx hb hr (fun T ht hW => ⟨⟨x8, x8, rfl, ⟨rfl, rfl⟩, by dsimp only; rw [ht]; exact hM⟩, hS.F ht⟩) hS.2.2 dX1_person_88)
  replace hf := hif_f hf hc1
  by_cases hc2 : p1 = 2
  · replace hf := hif_t hf hc2
    refine lv_tableIn (x := p1) (tgt := 89) hx hb dX1_person_24 (by rw [hc2]; decide) (by rw [hc2]; decide) (by rw [hc2]; rfl) (by decide) ?_
    refine lv_aload_n hx hb dX1_person_89 rfl (lv_at hl 0 rfl) ?_
    refine hr_getN (ci := 1) (C := RX4) (T := TX4) (N := 6) (r := .inl 24) hx hb hts in_X4 hown hK hM (xs_st24 (C := C) (pr := pr)).o rfl 2 (by decide) (hZ_nest hZ0 q518 rfl) rfl (v := .ref (ad (.inl (24 + 3)))) rfl dX1_person_90 ?_
    refine lv_iload_n hx hb dX1_person_93 rfl (lv_at hl 2 rfl) ?_
    refine hx_iald (r := (24 + 3)) hx hb hK hM 0 (xs_st24 (C := C) (pr := pr)).a3 rfl hf dX1_person_94 (fun x9 hf => ?_)
    have eo := Option.some.inj hf
    subst eo
    refine W.widen (k := 2) (n := 12) (Nat.le_of_ble_eq_true rfl) (Nat.le_of_ble_eq_true rfl) ?_
    exact vx_ret (W.iret (v := x9) hx hb hr (fun T ht hW => ⟨⟨x9, x9, rfl, ⟨rfl, rfl⟩, by dsimp only; rw [ht]; exact hM⟩, hS.F ht⟩) hS.2.2 dX1_person_95)
  replace hf := hif_f hf hc2
  by_cases hc3 : p1 = 3
  · replace hf := hif_t hf hc3
    refine lv_tableIn (x := p1) (tgt := 96) hx hb dX1_person_24 (by rw [hc3]; decide) (by rw [hc3]; decide) (by rw [hc3]; rfl) (by decide) ?_
    refine lv_aload_n hx hb dX1_person_96 rfl (lv_at hl 0 rfl) ?_
    refine hr_getN (ci := 1) (C := RX4) (T := TX4) (N := 6) (r := .inl 24) hx hb hts in_X4 hown hK hM (xs_st24 (C := C) (pr := pr)).o rfl 2 (by decide) (hZ_nest hZ0 q518 rfl) rfl (v := .ref (ad (.inl (24 + 3)))) rfl dX1_person_97 ?_
    refine lv_iload_n hx hb dX1_person_100 rfl (lv_at hl 2 rfl) ?_
    refine hx_iald (r := (24 + 3)) hx hb hK hM 0 (xs_st24 (C := C) (pr := pr)).a3 rfl hf dX1_person_101 (fun x10 hf => ?_)
    refine hb_if_ne (tgt := 109) hx hb dX1_person_102 (by decide) hf (fun hf => ?_) (fun hf => ?_)
    · refine lv_aload_n hx hb dX1_person_109 rfl (lv_at hl 0 rfl) ?_
      refine hr_getN (ci := 1) (C := RX4) (T := TX4) (N := 6) (r := .inl 24) hx hb hts in_X4 hown hK hM (xs_st24 (C := C) (pr := pr)).o rfl 3 (by decide) (hZ_nest hZ0 q522 rfl) rfl (v := .ref (ad (.inl (24 + 4)))) rfl dX1_person_110 ?_
      refine lv_iload_n hx hb dX1_person_113 rfl (lv_at hl 2 rfl) ?_
      refine hx_iald (r := (24 + 4)) hx hb hK hM 0 (xs_st24 (C := C) (pr := pr)).a4 rfl hf dX1_person_114 (fun x11 hf => ?_)
      have eo := Option.some.inj hf
      subst eo
      refine W.widen (k := 2) (n := 12) (Nat.le_of_ble_eq_true rfl) (Nat.le_of_ble_eq_true rfl) ?_
      exact vx_ret (W.iret (v := x11) hx hb hr (fun T ht hW => ⟨⟨x11, x11, rfl, ⟨rfl, rfl⟩, by dsimp only; rw [ht]; exact hM⟩, hS.F ht⟩) hS.2.2 dX1_person_115)
    · refine lv_iconst (v := -1) hx hb dX1_person_105 (by decide) ?_
      refine lv_goto (tgt := 115) hx hb dX1_person_106 (by decide) ?_
      have eo := Option.some.inj hf
      subst eo
      refine W.widen (k := 2) (n := 12) (Nat.le_of_ble_eq_true rfl) (Nat.le_of_ble_eq_true rfl) ?_
      exact vx_ret (W.iret (v := (-1 : Int32)) hx hb hr (fun T ht hW => ⟨⟨(-1 : Int32), (-1 : Int32), rfl, ⟨rfl, rfl⟩, by dsimp only; rw [ht]; exact hM⟩, hS.F ht⟩) hS.2.2 dX1_person_115)
  replace hf := hif_f hf hc3
  by_cases hc4 : p1 = 4
  · replace hf := hif_t hf hc4
    refine lv_tableIn (x := p1) (tgt := 116) hx hb dX1_person_24 (by rw [hc4]; decide) (by rw [hc4]; decide) (by rw [hc4]; rfl) (by decide) ?_
    refine lv_aload_n hx hb dX1_person_116 rfl (lv_at hl 0 rfl) ?_
    refine hr_getN (ci := 1) (C := RX4) (T := TX4) (N := 6) (r := .inl 24) hx hb hts in_X4 hown hK hM (xs_st24 (C := C) (pr := pr)).o rfl 0 (by decide) (hZ_nest hZ0 q510 rfl) rfl (v := .ref (ad (.inl (24 + 1)))) rfl dX1_person_117 ?_
    refine lv_iload_n hx hb dX1_person_120 rfl (lv_at hl 2 rfl) ?_
    refine hx_iald (r := (24 + 1)) hx hb hK hM 0 (xs_st24 (C := C) (pr := pr)).a1 rfl hf dX1_person_121 (fun x12 hf => ?_)
    have eo := Option.some.inj hf
    subst eo
    refine W.widen (k := 2) (n := 12) (Nat.le_of_ble_eq_true rfl) (Nat.le_of_ble_eq_true rfl) ?_
    exact vx_ret (W.iret (v := x12) hx hb hr (fun T ht hW => ⟨⟨x12, x12, rfl, ⟨rfl, rfl⟩, by dsimp only; rw [ht]; exact hM⟩, hS.F ht⟩) hS.2.2 dX1_person_122)
  replace hf := hif_f hf hc4
  by_cases hc5 : p1 = 5
  · replace hf := hif_t hf hc5
    refine lv_tableIn (x := p1) (tgt := 123) hx hb dX1_person_24 (by rw [hc5]; decide) (by rw [hc5]; decide) (by rw [hc5]; rfl) (by decide) ?_
    refine lv_aload_n hx hb dX1_person_123 rfl (lv_at hl 0 rfl) ?_
    refine hr_getN (ci := 1) (C := RX4) (T := TX4) (N := 6) (r := .inl 24) hx hb hts in_X4 hown hK hM (xs_st24 (C := C) (pr := pr)).o rfl 0 (by decide) (hZ_nest hZ0 q510 rfl) rfl (v := .ref (ad (.inl (24 + 1)))) rfl dX1_person_124 ?_
    refine lv_iload_n hx hb dX1_person_127 rfl (lv_at hl 2 rfl) ?_
    refine hx_iald (r := (24 + 1)) hx hb hK hM 0 (xs_st24 (C := C) (pr := pr)).a1 rfl hf dX1_person_128 (fun x13 hf => ?_)
    refine lv_aload_n hx hb dX1_person_129 rfl (lv_at hl 1 rfl) ?_
    refine hr_get (ci := 0) (C := RX1) (T := TX1) (N := 19) (r := .inl 0) hx hb hts in_X1 hown hK hM xS_0 rfl 0 (by decide) (hts _ q559) rfl (v := .ref (ad (.inl 10))) rfl dX1_person_130 ?_
    obtain ⟨y14, hq, hf⟩ := hbind hf
    refine hr_calli0 (va_runSN (As := [.int x13, .ref (ad (.inl 10))]) (rest := []) ⟨hx, hb, hml, hown, hts⟩ (met_x_lst_worth l D C a0 s0 ad so pr t lt g x13 hq) ⟨va_cnB 2 hts (lw_meth q864) rfl rfl rfl (hZ_nest hZ0 q1206 rfl) (hts _ q108) (by decide +kernel) ⟨Nat.le_of_ble_eq_true rfl, Nat.le_of_ble_eq_true rfl⟩, hts _ q863, trivial⟩ (hr_preS hZ_c hM hIx hK hZ0 hA0 hS) rfl rfl hl.1 rfl (lv_room (Nat.le_of_ble_eq_true rfl)) dX1_person_133 ⟨Nat.le_of_ble_eq_true rfl, Nat.le_of_ble_eq_true rfl⟩) hS (fun H locs hM hS => ?_)
    have eo := Option.some.inj hf
    subst eo
    refine W.widen (k := 2) (n := 12) (Nat.le_of_ble_eq_true rfl) (Nat.le_of_ble_eq_true rfl) ?_
    exact vx_ret (W.iret (v := y14) hx hb hr (fun T ht hW => ⟨⟨y14, y14, rfl, ⟨rfl, rfl⟩, by dsimp only; rw [ht]; exact hM⟩, hS.F ht⟩) hS.2.2 dX1_person_136)
  replace hf := hif_f hf hc5
  refine lv_tableOut (x := p1) (tgt := 137) hx hb dX1_person_24 (h_sw0_5 hc0 hc1 hc2 hc3 hc4 hc5) (by decide) ?_
  refine lv_aload_n hx hb dX1_person_137 rfl (lv_at hl 0 rfl) ?_
  refine lv_aload_n hx hb dX1_person_138 rfl (lv_at hl 0 rfl) ?_
  refine hr_getN (ci := 1) (C := RX4) (T := TX4) (N := 6) (r := .inl 24) hx hb hts in_X4 hown hK hM (xs_st24 (C := C) (pr := pr)).o rfl 0 (by decide) (hZ_nest hZ0 q510 rfl) rfl (v := .ref (ad (.inl (24 + 1)))) rfl dX1_person_139 ?_
  refine lv_iload_n hx hb dX1_person_142 rfl (lv_at hl 2 rfl) ?_
  refine hx_iald (r := (24 + 1)) hx hb hK hM 0 (xs_st24 (C := C) (pr := pr)).a1 rfl hf dX1_person_143 (fun x4 hf => ?_)
  obtain ⟨y5, hq, hf⟩ := hbind hf
  refine hr_calli0 (va_runV (As := [.int x4]) (rest := []) ⟨hx, hb, hml, hown, hts⟩ (met_x_st_weight l D C a0 s0 ad so pr t lt g 24 x4 xs_st24 hq) (cwV 1 hts (lw_V q650 q651 q652 q98 q653) rfl rfl rfl (by decide +kernel) ⟨Nat.le_of_ble_eq_true rfl, Nat.le_of_ble_eq_true rfl⟩) (hr_preV hZ_c hM hIx hK hZ0 hA0 hS (r := .inl 24) (xs_st24 (C := C) (pr := pr)).o (q := (RX4, TX4, 6)) rfl) rfl rfl hl.1 rfl (lv_room (Nat.le_of_ble_eq_true rfl)) dX1_person_144 ⟨Nat.le_of_ble_eq_true rfl, Nat.le_of_ble_eq_true rfl⟩) hS (fun H locs hM hS => ?_)
  have eo := Option.some.inj hf
  subst eo
  refine W.widen (k := 2) (n := 12) (Nat.le_of_ble_eq_true rfl) (Nat.le_of_ble_eq_true rfl) ?_
  exact vx_ret (W.iret (v := y5) hx hb hr (fun T ht hW => ⟨⟨y5, y5, rfl, ⟨rfl, rfl⟩, by dsimp only; rw [ht]; exact hM⟩, hS.F ht⟩) hS.2.2 dX1_person_147)
set_option maxHeartbeats 4000000 in
set_option maxRecDepth 100000 in
theorem met_x_person (l : Launch) (D : va_G) (C : Nat → Nat) (a0 : Array Value) (s0 : State) (ad : Rl → Nat) (so : Nat → Option hS) (pr : hPr) (t : hSt) (lt : Rl → Nat → Int64) (g : hSt) (p0 : Int32) (p1 : Int32) (hlst : l.stackTraces = false) {o : (Int32) ⊕ Nat} (hf : x_person g pr p0 p1 = some o) : vx_Met l yX1_person (ws_ yX1_person cX1_person 4 (some .int)) rm_x_person (va_Pc [.ref (ad (.inl 0)), .int p0, .int p1] (hB D vwCl (hT C) (hA s0) (hZ a0 s0) ad (Sum.elim (xSH C pr) so) (Sum.elim g t) lt)) (va_Qi (fun (r : Int32) (v : Int32) => o = .inl v ∧ r = v) (fun (v : Int32) (U : State) => hW D vwCl ad (Sum.elim (xSH C pr) so) (Sum.elim g t) lt U.heap) (hA s0)) (vx_X (fun k : Nat => o = .inr k) (fun (E : String) (k : Nat) (U : State) => E = hEx k ∧ hW D vwCl ad (Sum.elim (xSH C pr) so) (Sum.elim g t) lt U.heap) (hA s0)) 2 12 (hA s0) := by
  refine vx_ofW (cc := cX1_person) (maxL := 4) (ret := (some .int)) (by decide) rfl ?_
  intro p e s m args below meth c s₁ B hml hex hv
  obtain ⟨rfl, hM, hIx, hK, hZ0, hA0⟩ := hv
  have hl := lv_entry ([.ref (ad (.inl 0)), .int p0, .int p1]) (n := 4) (Nat.le_of_ble_eq_true rfl)
  rw [lg_entry_eq]
  generalize (lg_sl ([.ref (ad (.inl 0)), .int p0, .int p1]) ++ List.replicate (4 - (lg_sl ([.ref (ad (.inl 0)), .int p0, .int p1])).length) Slot.unset).toArray = ls at hl ⊢
  have hl : lv_has ls 4 [(0, .ref (ad (.inl 0))), (1, .int p0), (2, .int p1)] := hl
  exact w_x_person ⟨B.exec, B.bytes, B.returns, hml, findClass_of_methodNamed B.named, fun w h => atoms_spec (ws := ws_ yX1_person cX1_person 4 (some .int)) B.pre w (List.mem_cons_of_mem _ h), B.notSynchronized, hK, hZ0, hA0⟩ hIx hex hlst g p0 p1 hf hM va_S.rf hl

def rm_x_thing : Room := { frames := 11, cells := 1, slots := 6, locals := 142 }
set_option maxHeartbeats 4000000 in
set_option maxRecDepth 100000 in
theorem w_x_thing_B29 {p : Program} {l : Launch} {e : Env} {s : State} {m : MethodId} {args : Array Value} {below : List Frame} {meth : Method} {c : Code} {D : va_G} {C : Nat → Nat} {a0 : Array Value} {s0 : State} {ad : Rl → Nat} {so : Nat → Option hS} {pr : hPr} {t : hSt} {lt : Rl → Nat → Int64} (CX : hCx D C a0 s0 p s m args meth c cX1_thing 3 RX1 (some .int)) (hIx : hI (hA s0) ad (Sum.elim (xSH C pr) so)) (hex : ∀ x ∈ c.exceptionTable.toList, False) (hlst : l.stackTraces = false) (g : hSt) (p0 : Int32) (p1 : Int32) (k0_29 : Int32) {o : (Int32) ⊕ Nat} (hf : x_thing_B29 g p0 p1 k0_29 = some o) {H : Heap} {locs : List Loc} (hM : hW D vwCl ad (Sum.elim (xSH C pr) so) (Sum.elim g t) lt H) (hS : va_S (hA s0) s.heap H locs) {ls : Array Slot} (hl : lv_has ls 3 [(0, .ref (ad (.inl 0))), (1, .int p0), (2, .int p1)]) : W p l e rm_x_thing s m args below meth c H locs 0 0 (vx_MQ below (va_Qi (fun (r : Int32) (v : Int32) => o = .inl v ∧ r = v) (fun (v : Int32) (U : State) => hW D vwCl ad (Sum.elim (xSH C pr) so) (Sum.elim g t) lt U.heap) (hA s0)) (vx_X (fun k : Nat => o = .inr k) (fun (E : String) (k : Nat) (U : State) => E = hEx k ∧ hW D vwCl ad (Sum.elim (xSH C pr) so) (Sum.elim g t) lt U.heap) (hA s0)) args s 1 6 (hA s0)) (F0 m 29 ls [.int k0_29]) := by
  obtain ⟨hx, hb, hr, hml, hown, hts, hlocks, hK, hZ0, hA0⟩ := CX
  unfold x_thing_B29 at hf
  obtain ⟨z1, hq, hf⟩ := hbind hf
  refine hr_xcallv hf (vx_runS (As := [.int k0_29]) (rest := []) ⟨hx, hb, hml, hown, hts⟩ (met_x_there l D C a0 s0 ad so pr (Sum.elim g t) lt k0_29 hlst hq) (va_cwS 1 hts (lw_S q1159 q1160 q76 q1161) rfl rfl rfl (by decide +kernel) ⟨Nat.le_of_ble_eq_true rfl, Nat.le_of_ble_eq_true rfl⟩) (hr_preS hZ_c hM hIx hK hZ0 hA0 hS) rfl rfl hl.1 rfl (lv_room (Nat.le_of_ble_eq_true rfl)) dX1_thing_29 ⟨Nat.le_of_ble_eq_true rfl, Nat.le_of_ble_eq_true rfl⟩) hS hex hlocks hIx (Nat.le_of_ble_eq_true rfl) (Nat.le_of_ble_eq_true rfl) (fun H locs hf hM hS => ?_)
  refine lv_iload_n hx hb dX1_thing_32 rfl (lv_at hl 2 rfl) ?_
  by_cases hc0 : p1 = 0
  · replace hf := hif_t hf hc0
    refine lv_tableIn (x := p1) (tgt := 60) hx hb dX1_thing_33 (by rw [hc0]; decide) (by rw [hc0]; decide) (by rw [hc0]; rfl) (by decide) ?_
    refine lv_aload_n hx hb dX1_thing_60 rfl (lv_at hl 0 rfl) ?_
    refine hr_get (ci := 0) (C := RX1) (T := TX1) (N := 19) (r := .inl 0) hx hb hts in_X1 hown hK hM xS_0 rfl 1 (by decide) (hts _ q560) rfl (v := .ref (ad (.inl 20))) rfl dX1_thing_61 ?_
    refine hr_getN (ci := 3) (C := RX3) (T := TX3) (N := 3) (r := .inl 20) hx hb hts in_X3 hown hK hM xS_20 rfl 0 (by decide) (hZ_nest hZ0 q544 rfl) rfl (v := .ref (ad (.inl 24))) rfl dX1_thing_64 ?_
    refine hr_getN (ci := 1) (C := RX4) (T := TX4) (N := 6) (r := .inl 24) hx hb hts in_X4 hown hK hM (xs_st24 (C := C) (pr := pr)).o rfl 4 (by decide) (hZ_nest hZ0 q525 rfl) rfl (v := .ref (ad (.inl (24 + 5)))) rfl dX1_thing_67 ?_
    refine lv_iload_n hx hb dX1_thing_70 rfl (lv_at hl 1 rfl) ?_
    refine hx_iald (r := (24 + 5)) hx hb hK hM 0 (xs_st24 (C := C) (pr := pr)).a5 rfl hf dX1_thing_71 (fun x2 hf => ?_)
    have eo := Option.some.inj hf
    subst eo
    refine W.widen (k := 1) (n := 6) (Nat.le_of_ble_eq_true rfl) (Nat.le_of_ble_eq_true rfl) ?_
    exact vx_ret (W.iret (v := x2) hx hb hr (fun T ht hW => ⟨⟨x2, x2, rfl, ⟨rfl, rfl⟩, by dsimp only; rw [ht]; exact hM⟩, hS.F ht⟩) hS.2.2 dX1_thing_72)
  replace hf := hif_f hf hc0
  by_cases hc1 : p1 = 1
  · replace hf := hif_t hf hc1
    refine lv_tableIn (x := p1) (tgt := 73) hx hb dX1_thing_33 (by rw [hc1]; decide) (by rw [hc1]; decide) (by rw [hc1]; rfl) (by decide) ?_
    refine lv_aload_n hx hb dX1_thing_73 rfl (lv_at hl 0 rfl) ?_
    refine hr_get (ci := 0) (C := RX1) (T := TX1) (N := 19) (r := .inl 0) hx hb hts in_X1 hown hK hM xS_0 rfl 0 (by decide) (hts _ q559) rfl (v := .ref (ad (.inl 10))) rfl dX1_thing_74 ?_
    refine hr_getN (ci := 2) (C := RX2) (T := TX2) (N := 6) (r := .inl 10) hx hb hts in_X2 hown hK hM xS_10 rfl 1 (by decide) (hZ_nest hZ0 q473 rfl) rfl (v := .ref (ad (.inl 13))) rfl dX1_thing_77 ?_
    refine lv_iload_n hx hb dX1_thing_80 rfl (lv_at hl 1 rfl) ?_
    refine hx_iald (r := 13) hx hb hK hM 0 xS_13 rfl hf dX1_thing_81 (fun x3 hf => ?_)
    have eo := Option.some.inj hf
    subst eo
    refine W.widen (k := 1) (n := 6) (Nat.le_of_ble_eq_true rfl) (Nat.le_of_ble_eq_true rfl) ?_
    exact vx_ret (W.iret (v := x3) hx hb hr (fun T ht hW => ⟨⟨x3, x3, rfl, ⟨rfl, rfl⟩, by dsimp only; rw [ht]; exact hM⟩, hS.F ht⟩) hS.2.2 dX1_thing_82)
  replace hf := hif_f hf hc1
  by_cases hc2 : p1 = 2
  · replace hf := hif_t hf hc2
    refine lv_tableIn (x := p1) (tgt := 83) hx hb dX1_thing_33 (by rw [hc2]; decide) (by rw [hc2]; decide) (by rw [hc2]; rfl) (by decide) ?_
    refine lv_aload_n hx hb dX1_thing_83 rfl (lv_at hl 0 rfl) ?_
    refine hr_get (ci := 0) (C := RX1) (T := TX1) (N := 19) (r := .inl 0) hx hb hts in_X1 hown hK hM xS_0 rfl 1 (by decide) (hts _ q560) rfl (v := .ref (ad (.inl 20))) rfl dX1_thing_84 ?_
    refine hr_getN (ci := 3) (C := RX3) (T := TX3) (N := 3) (r := .inl 20) hx hb hts in_X3 hown hK hM xS_20 rfl 0 (by decide) (hZ_nest hZ0 q544 rfl) rfl (v := .ref (ad (.inl 24))) rfl dX1_thing_87 ?_
    refine lv_iload_n hx hb dX1_thing_90 rfl (lv_at hl 1 rfl) ?_
    obtain ⟨y4, hq, hf⟩ := hbind hf
    refine hr_calli0 (va_runV (As := [.int p0]) (rest := []) ⟨hx, hb, hml, hown, hts⟩ (met_x_st_owner l D C a0 s0 ad so pr t lt g 24 p0 xs_st24 hq) (cwV 1 hts (lw_V q1214 q882 q883 q98 q884) rfl rfl rfl (by decide +kernel) ⟨Nat.le_of_ble_eq_true rfl, Nat.le_of_ble_eq_true rfl⟩) (hr_preV hZ_c hM hIx hK hZ0 hA0 hS (r := .inl 24) (xs_st24 (C := C) (pr := pr)).o (q := (RX4, TX4, 6)) rfl) rfl rfl hl.1 rfl (lv_room (Nat.le_of_ble_eq_true rfl)) dX1_thing_91 ⟨Nat.le_of_ble_eq_true rfl, Nat.le_of_ble_eq_true rfl⟩) hS (fun H locs hM hS => ?_)
    have eo := Option.some.inj hf
    subst eo
    refine W.widen (k := 1) (n := 6) (Nat.le_of_ble_eq_true rfl) (Nat.le_of_ble_eq_true rfl) ?_
    exact vx_ret (W.iret (v := y4) hx hb hr (fun T ht hW => ⟨⟨y4, y4, rfl, ⟨rfl, rfl⟩, by dsimp only; rw [ht]; exact hM⟩, hS.F ht⟩) hS.2.2 dX1_thing_94)
  replace hf := hif_f hf hc2
  refine lv_tableOut (x := p1) (tgt := 95) hx hb dX1_thing_33 (h_sw0_2 hc0 hc1 hc2) (by decide) ?_
  refine lv_aload_n hx hb dX1_thing_95 rfl (lv_at hl 0 rfl) ?_
  refine hr_get (ci := 0) (C := RX1) (T := TX1) (N := 19) (r := .inl 0) hx hb hts in_X1 hown hK hM xS_0 rfl 0 (by decide) (hts _ q559) rfl (v := .ref (ad (.inl 10))) rfl dX1_thing_96 ?_
  refine hr_getN (ci := 2) (C := RX2) (T := TX2) (N := 6) (r := .inl 10) hx hb hts in_X2 hown hK hM xS_10 rfl 3 (by decide) (hZ_nest hZ0 q478 rfl) rfl (v := .int (g 10 3)) rfl dX1_thing_99 ?_
  refine lv_iload_n hx hb dX1_thing_102 rfl (lv_at hl 1 rfl) ?_
  refine lv_ishr hx hb dX1_thing_103 ?_
  refine lv_iconst (v := 1) hx hb dX1_thing_104 (by decide) ?_
  refine lv_iand hx hb dX1_thing_105 ?_
  have eo := Option.some.inj hf
  subst eo
  refine W.widen (k := 1) (n := 6) (Nat.le_of_ble_eq_true rfl) (Nat.le_of_ble_eq_true rfl) ?_
  exact vx_ret (W.iret (v := (((g 10 3) >>> (p0 &&& (31 : Int32))) &&& (1 : Int32))) hx hb hr (fun T ht hW => ⟨⟨(((g 10 3) >>> (p0 &&& (31 : Int32))) &&& (1 : Int32)), (((g 10 3) >>> (p0 &&& (31 : Int32))) &&& (1 : Int32)), rfl, ⟨rfl, rfl⟩, by dsimp only; rw [ht]; exact hM⟩, hS.F ht⟩) hS.2.2 dX1_thing_106)
set_option maxHeartbeats 4000000 in
set_option maxRecDepth 100000 in
theorem w_x_thing_B28 {p : Program} {l : Launch} {e : Env} {s : State} {m : MethodId} {args : Array Value} {below : List Frame} {meth : Method} {c : Code} {D : va_G} {C : Nat → Nat} {a0 : Array Value} {s0 : State} {ad : Rl → Nat} {so : Nat → Option hS} {pr : hPr} {t : hSt} {lt : Rl → Nat → Int64} (CX : hCx D C a0 s0 p s m args meth c cX1_thing 3 RX1 (some .int)) (hIx : hI (hA s0) ad (Sum.elim (xSH C pr) so)) (hex : ∀ x ∈ c.exceptionTable.toList, False) (hlst : l.stackTraces = false) (g : hSt) (p0 : Int32) (p1 : Int32) {o : (Int32) ⊕ Nat} (hf : x_thing_B28 g p0 p1 = some o) {H : Heap} {locs : List Loc} (hM : hW D vwCl ad (Sum.elim (xSH C pr) so) (Sum.elim g t) lt H) (hS : va_S (hA s0) s.heap H locs) {ls : Array Slot} (hl : lv_has ls 3 [(0, .ref (ad (.inl 0))), (1, .int p0), (2, .int p1)]) : W p l e rm_x_thing s m args below meth c H locs 0 0 (vx_MQ below (va_Qi (fun (r : Int32) (v : Int32) => o = .inl v ∧ r = v) (fun (v : Int32) (U : State) => hW D vwCl ad (Sum.elim (xSH C pr) so) (Sum.elim g t) lt U.heap) (hA s0)) (vx_X (fun k : Nat => o = .inr k) (fun (E : String) (k : Nat) (U : State) => E = hEx k ∧ hW D vwCl ad (Sum.elim (xSH C pr) so) (Sum.elim g t) lt U.heap) (hA s0)) args s 1 6 (hA s0)) (F0 m 28 ls []) := by
  obtain ⟨hx, hb, hr, hml, hown, hts, hlocks, hK, hZ0, hA0⟩ := CX
  unfold x_thing_B28 at hf
  refine lv_iconst (v := 0) hx hb dX1_thing_28 (by decide) ?_
  exact w_x_thing_B29 ⟨hx, hb, hr, hml, hown, hts, hlocks, hK, hZ0, hA0⟩ hIx hex hlst g p0 p1 (0 : Int32) hf hM hS (lv_sub hl [0, 1, 2] rfl)
set_option maxHeartbeats 4000000 in
set_option maxRecDepth 100000 in
theorem w_x_thing {p : Program} {l : Launch} {e : Env} {s : State} {m : MethodId} {args : Array Value} {below : List Frame} {meth : Method} {c : Code} {D : va_G} {C : Nat → Nat} {a0 : Array Value} {s0 : State} {ad : Rl → Nat} {so : Nat → Option hS} {pr : hPr} {t : hSt} {lt : Rl → Nat → Int64} (CX : hCx D C a0 s0 p s m args meth c cX1_thing 3 RX1 (some .int)) (hIx : hI (hA s0) ad (Sum.elim (xSH C pr) so)) (hex : ∀ x ∈ c.exceptionTable.toList, False) (hlst : l.stackTraces = false) (g : hSt) (p0 : Int32) (p1 : Int32) {o : (Int32) ⊕ Nat} (hf : x_thing g p0 p1 = some o) {H : Heap} {locs : List Loc} (hM : hW D vwCl ad (Sum.elim (xSH C pr) so) (Sum.elim g t) lt H) (hS : va_S (hA s0) s.heap H locs) {ls : Array Slot} (hl : lv_has ls 3 [(0, .ref (ad (.inl 0))), (1, .int p0), (2, .int p1)]) : W p l e rm_x_thing s m args below meth c H locs 0 0 (vx_MQ below (va_Qi (fun (r : Int32) (v : Int32) => o = .inl v ∧ r = v) (fun (v : Int32) (U : State) => hW D vwCl ad (Sum.elim (xSH C pr) so) (Sum.elim g t) lt U.heap) (hA s0)) (vx_X (fun k : Nat => o = .inr k) (fun (E : String) (k : Nat) (U : State) => E = hEx k ∧ hW D vwCl ad (Sum.elim (xSH C pr) so) (Sum.elim g t) lt U.heap) (hA s0)) args s 1 6 (hA s0)) (F0 m 0 ls []) := by
  obtain ⟨hx, hb, hr, hml, hown, hts, hlocks, hK, hZ0, hA0⟩ := CX
  unfold x_thing at hf
  refine lv_iload_n hx hb dX1_thing_0 rfl (lv_at hl 1 rfl) ?_
  refine hb_if_lt (tgt := 28) hx hb dX1_thing_1 (by decide) hf (fun hf => ?_) (fun hf => ?_)
  · exact w_x_thing_B28 ⟨hx, hb, hr, hml, hown, hts, hlocks, hK, hZ0, hA0⟩ hIx hex hlst g p0 p1 hf hM hS (lv_sub hl [0, 1, 2] rfl)
  · refine lv_iload_n hx hb dX1_thing_4 rfl (lv_at hl 1 rfl) ?_
    refine lv_aload_n hx hb dX1_thing_5 rfl (lv_at hl 0 rfl) ?_
    refine hr_get (ci := 0) (C := RX1) (T := TX1) (N := 19) (r := .inl 0) hx hb hts in_X1 hown hK hM xS_0 rfl 0 (by decide) (hts _ q559) rfl (v := .ref (ad (.inl 10))) rfl dX1_thing_6 ?_
    refine hr_getN (ci := 2) (C := RX2) (T := TX2) (N := 6) (r := .inl 10) hx hb hts in_X2 hown hK hM xS_10 rfl 2 (by decide) (hZ_nest hZ0 q475 rfl) rfl (v := .int (g 10 2)) rfl dX1_thing_9 ?_
    refine hb_icmp_ge (tgt := 28) hx hb dX1_thing_12 (by decide) hf (fun hf => ?_) (fun hf => ?_)
    · exact w_x_thing_B28 ⟨hx, hb, hr, hml, hown, hts, hlocks, hK, hZ0, hA0⟩ hIx hex hlst g p0 p1 hf hM hS (lv_sub hl [0, 1, 2] rfl)
    · refine lv_iload_n hx hb dX1_thing_15 rfl (lv_at hl 2 rfl) ?_
      refine lv_iconst (v := 0) hx hb dX1_thing_16 (by decide) ?_
      refine lv_iconst (v := 3) hx hb dX1_thing_17 (by decide) ?_
      obtain ⟨y5, hq, hf⟩ := hbind hf
      refine hr_calli0 (va_runS (As := [.int p1, .int (0 : Int32), .int (3 : Int32)]) (rest := []) ⟨hx, hb, hml, hown, hts⟩ (met_x_within l D C a0 s0 ad so pr (Sum.elim g t) lt p1 (0 : Int32) (3 : Int32) hq) (va_cwS 3 hts (lw_S q1156 q1157 q76 q1158) rfl rfl rfl (by decide +kernel) ⟨Nat.le_of_ble_eq_true rfl, Nat.le_of_ble_eq_true rfl⟩) (hr_preS hZ_c hM hIx hK hZ0 hA0 hS) rfl rfl hl.1 rfl (lv_room (Nat.le_of_ble_eq_true rfl)) dX1_thing_18 ⟨Nat.le_of_ble_eq_true rfl, Nat.le_of_ble_eq_true rfl⟩) hS (fun H locs hM hS => ?_)
      refine hb_if_eq (tgt := 28) hx hb dX1_thing_21 (by decide) hf (fun hf => ?_) (fun hf => ?_)
      · exact w_x_thing_B28 ⟨hx, hb, hr, hml, hown, hts, hlocks, hK, hZ0, hA0⟩ hIx hex hlst g p0 p1 hf hM hS (lv_sub hl [0, 1, 2] rfl)
      · refine lv_iconst (v := 1) hx hb dX1_thing_24 (by decide) ?_
        refine lv_goto (tgt := 29) hx hb dX1_thing_25 (by decide) ?_
        exact w_x_thing_B29 ⟨hx, hb, hr, hml, hown, hts, hlocks, hK, hZ0, hA0⟩ hIx hex hlst g p0 p1 (1 : Int32) hf hM hS (lv_sub hl [0, 1, 2] rfl)
set_option maxHeartbeats 4000000 in
set_option maxRecDepth 100000 in
theorem met_x_thing (l : Launch) (D : va_G) (C : Nat → Nat) (a0 : Array Value) (s0 : State) (ad : Rl → Nat) (so : Nat → Option hS) (pr : hPr) (t : hSt) (lt : Rl → Nat → Int64) (g : hSt) (p0 : Int32) (p1 : Int32) (hlst : l.stackTraces = false) {o : (Int32) ⊕ Nat} (hf : x_thing g p0 p1 = some o) : vx_Met l yX1_thing (ws_ yX1_thing cX1_thing 3 (some .int)) rm_x_thing (va_Pc [.ref (ad (.inl 0)), .int p0, .int p1] (hB D vwCl (hT C) (hA s0) (hZ a0 s0) ad (Sum.elim (xSH C pr) so) (Sum.elim g t) lt)) (va_Qi (fun (r : Int32) (v : Int32) => o = .inl v ∧ r = v) (fun (v : Int32) (U : State) => hW D vwCl ad (Sum.elim (xSH C pr) so) (Sum.elim g t) lt U.heap) (hA s0)) (vx_X (fun k : Nat => o = .inr k) (fun (E : String) (k : Nat) (U : State) => E = hEx k ∧ hW D vwCl ad (Sum.elim (xSH C pr) so) (Sum.elim g t) lt U.heap) (hA s0)) 1 6 (hA s0) := by
  refine vx_ofW (cc := cX1_thing) (maxL := 3) (ret := (some .int)) (by decide) rfl ?_
  intro p e s m args below meth c s₁ B hml hex hv
  obtain ⟨rfl, hM, hIx, hK, hZ0, hA0⟩ := hv
  have hl := lv_entry ([.ref (ad (.inl 0)), .int p0, .int p1]) (n := 3) (Nat.le_of_ble_eq_true rfl)
  rw [lg_entry_eq]
  generalize (lg_sl ([.ref (ad (.inl 0)), .int p0, .int p1]) ++ List.replicate (3 - (lg_sl ([.ref (ad (.inl 0)), .int p0, .int p1])).length) Slot.unset).toArray = ls at hl ⊢
  have hl : lv_has ls 3 [(0, .ref (ad (.inl 0))), (1, .int p0), (2, .int p1)] := hl
  exact w_x_thing ⟨B.exec, B.bytes, B.returns, hml, findClass_of_methodNamed B.named, fun w h => atoms_spec (ws := ws_ yX1_thing cX1_thing 3 (some .int)) B.pre w (List.mem_cons_of_mem _ h), B.notSynchronized, hK, hZ0, hA0⟩ hIx hex hlst g p0 p1 hf hM va_S.rf hl

def rm_x_gift : Room := { frames := 11, cells := 1, slots := 6, locals := 160 }
set_option maxHeartbeats 4000000 in
set_option maxRecDepth 100000 in
theorem w_x_gift_B32 {p : Program} {l : Launch} {e : Env} {s : State} {m : MethodId} {args : Array Value} {below : List Frame} {meth : Method} {c : Code} {D : va_G} {C : Nat → Nat} {a0 : Array Value} {s0 : State} {ad : Rl → Nat} {so : Nat → Option hS} {pr : hPr} {t : hSt} {lt : Rl → Nat → Int64} (CX : hCx D C a0 s0 p s m args meth c cX1_gift 4 RX1 (some .int)) (hIx : hI (hA s0) ad (Sum.elim (xSH C pr) so)) (hex : ∀ x ∈ c.exceptionTable.toList, False) (hlst : l.stackTraces = false) (g : hSt) (p0 : Int32) (p1 : Int32) (k0_32 : Int32) {o : (Int32) ⊕ Nat} (hf : x_gift_B32 g pr p0 p1 k0_32 = some o) {H : Heap} {locs : List Loc} (hM : hW D vwCl ad (Sum.elim (xSH C pr) so) (Sum.elim g t) lt H) (hS : va_S (hA s0) s.heap H locs) {ls : Array Slot} (hl : lv_has ls 4 [(0, .ref (ad (.inl 0))), (1, .int p0), (2, .int p1)]) : W p l e rm_x_gift s m args below meth c H locs 0 0 (vx_MQ below (va_Qi (fun (r : Int32) (v : Int32) => o = .inl v ∧ r = v) (fun (v : Int32) (U : State) => hW D vwCl ad (Sum.elim (xSH C pr) so) (Sum.elim g t) lt U.heap) (hA s0)) (vx_X (fun k : Nat => o = .inr k) (fun (E : String) (k : Nat) (U : State) => E = hEx k ∧ hW D vwCl ad (Sum.elim (xSH C pr) so) (Sum.elim g t) lt U.heap) (hA s0)) args s 1 6 (hA s0)) (F0 m 32 ls [.int k0_32]) := by
  obtain ⟨hx, hb, hr, hml, hown, hts, hlocks, hK, hZ0, hA0⟩ := CX
  unfold x_gift_B32 at hf
  obtain ⟨z1, hq, hf⟩ := hbind hf
  refine hr_xcallv hf (vx_runS (As := [.int k0_32]) (rest := []) ⟨hx, hb, hml, hown, hts⟩ (met_x_there l D C a0 s0 ad so pr (Sum.elim g t) lt k0_32 hlst hq) (va_cwS 1 hts (lw_S q1159 q1160 q76 q1161) rfl rfl rfl (by decide +kernel) ⟨Nat.le_of_ble_eq_true rfl, Nat.le_of_ble_eq_true rfl⟩) (hr_preS hZ_c hM hIx hK hZ0 hA0 hS) rfl rfl hl.1 rfl (lv_room (Nat.le_of_ble_eq_true rfl)) dX1_gift_32 ⟨Nat.le_of_ble_eq_true rfl, Nat.le_of_ble_eq_true rfl⟩) hS hex hlocks hIx (Nat.le_of_ble_eq_true rfl) (Nat.le_of_ble_eq_true rfl) (fun H locs hf hM hS => ?_)
  refine lv_aload_n hx hb dX1_gift_35 rfl (lv_at hl 0 rfl) ?_
  refine hr_get (ci := 0) (C := RX1) (T := TX1) (N := 19) (r := .inl 0) hx hb hts in_X1 hown hK hM xS_0 rfl 1 (by decide) (hts _ q560) rfl (v := .ref (ad (.inl 20))) rfl dX1_gift_36 ?_
  refine hr_getN (ci := 3) (C := RX3) (T := TX3) (N := 3) (r := .inl 20) hx hb hts in_X3 hown hK hM xS_20 rfl 1 (by decide) (hZ_nest hZ0 q546 rfl) rfl (v := .ref (ad (.inl 21))) rfl dX1_gift_39 ?_
  refine lv_iload_n hx hb dX1_gift_42 rfl (lv_at hl 1 rfl) ?_
  obtain ⟨r2, hq, hf⟩ := hbind hf
  refine hx_getG ⟨hx, hb, hr, hml, hown, hts, hlocks, hK, hZ0, hA0⟩ hIx q802 hq hM hS hl.1 (lv_room (Nat.le_of_ble_eq_true rfl)) (Nat.le_of_ble_eq_true rfl) (Nat.le_of_ble_eq_true rfl) (Nat.le_of_ble_eq_true rfl) (Nat.le_of_ble_eq_true rfl) dX1_gift_43 (fun h_r2 H locs hM hS => ?_)
  refine hx_castGf hx hb hown hK hZ0 (hts _ q663) h_r2 hM dX1_gift_46 ?_
  refine lv_astore_n (lv' := [(3, .ref (ad (.inl r2))), (0, .ref (ad (.inl 0))), (1, .int p0), (2, .int p1)]) hx hb dX1_gift_49 rfl hl (by decide) rfl (fun ls hl => ?_)
  refine lv_iload_n hx hb dX1_gift_50 rfl (lv_at hl 3 rfl) ?_
  by_cases hc0 : p1 = 0
  · replace hf := hif_t hf hc0
    refine lv_tableIn (x := p1) (tgt := 80) hx hb dX1_gift_51 (by rw [hc0]; decide) (by rw [hc0]; decide) (by rw [hc0]; rfl) (by decide) ?_
    refine lv_aload_n hx hb dX1_gift_80 rfl (lv_at hl 0 rfl) ?_
    refine hr_getN (ci := 4) (C := RX14) (T := TX14) (N := 9) (r := .inl r2) hx hb hts in_X14 hown hK hM h_r2 rfl 0 (by decide) (hZ_nest hZ0 q671 rfl) rfl (v := .int (g r2 0)) rfl dX1_gift_81 ?_
    have eo := Option.some.inj hf
    subst eo
    refine W.widen (k := 1) (n := 6) (Nat.le_of_ble_eq_true rfl) (Nat.le_of_ble_eq_true rfl) ?_
    exact vx_ret (W.iret (v := (g r2 0)) hx hb hr (fun T ht hW => ⟨⟨(g r2 0), (g r2 0), rfl, ⟨rfl, rfl⟩, by dsimp only; rw [ht]; exact hM⟩, hS.F ht⟩) hS.2.2 dX1_gift_84)
  replace hf := hif_f hf hc0
  by_cases hc1 : p1 = 1
  · replace hf := hif_t hf hc1
    refine lv_tableIn (x := p1) (tgt := 85) hx hb dX1_gift_51 (by rw [hc1]; decide) (by rw [hc1]; decide) (by rw [hc1]; rfl) (by decide) ?_
    refine lv_aload_n hx hb dX1_gift_85 rfl (lv_at hl 0 rfl) ?_
    refine hr_getN (ci := 4) (C := RX14) (T := TX14) (N := 9) (r := .inl r2) hx hb hts in_X14 hown hK hM h_r2 rfl 1 (by decide) (hZ_nest hZ0 q673 rfl) rfl (v := .int (g r2 1)) rfl dX1_gift_86 ?_
    have eo := Option.some.inj hf
    subst eo
    refine W.widen (k := 1) (n := 6) (Nat.le_of_ble_eq_true rfl) (Nat.le_of_ble_eq_true rfl) ?_
    exact vx_ret (W.iret (v := (g r2 1)) hx hb hr (fun T ht hW => ⟨⟨(g r2 1), (g r2 1), rfl, ⟨rfl, rfl⟩, by dsimp only; rw [ht]; exact hM⟩, hS.F ht⟩) hS.2.2 dX1_gift_89)
  replace hf := hif_f hf hc1
  by_cases hc2 : p1 = 2
  · replace hf := hif_t hf hc2
    refine lv_tableIn (x := p1) (tgt := 90) hx hb dX1_gift_51 (by rw [hc2]; decide) (by rw [hc2]; decide) (by rw [hc2]; rfl) (by decide) ?_
    refine lv_aload_n hx hb dX1_gift_90 rfl (lv_at hl 0 rfl) ?_
    refine hr_getN (ci := 4) (C := RX14) (T := TX14) (N := 9) (r := .inl r2) hx hb hts in_X14 hown hK hM h_r2 rfl 2 (by decide) (hZ_nest hZ0 q675 rfl) rfl (v := .int (g r2 2)) rfl dX1_gift_91 ?_
    have eo := Option.some.inj hf
    subst eo
    refine W.widen (k := 1) (n := 6) (Nat.le_of_ble_eq_true rfl) (Nat.le_of_ble_eq_true rfl) ?_
    exact vx_ret (W.iret (v := (g r2 2)) hx hb hr (fun T ht hW => ⟨⟨(g r2 2), (g r2 2), rfl, ⟨rfl, rfl⟩, by dsimp only; rw [ht]; exact hM⟩, hS.F ht⟩) hS.2.2 dX1_gift_94)
  replace hf := hif_f hf hc2
  by_cases hc3 : p1 = 3
  · replace hf := hif_t hf hc3
    refine lv_tableIn (x := p1) (tgt := 95) hx hb dX1_gift_51 (by rw [hc3]; decide) (by rw [hc3]; decide) (by rw [hc3]; rfl) (by decide) ?_
    refine lv_aload_n hx hb dX1_gift_95 rfl (lv_at hl 0 rfl) ?_
    refine hr_getN (ci := 4) (C := RX14) (T := TX14) (N := 9) (r := .inl r2) hx hb hts in_X14 hown hK hM h_r2 rfl 3 (by decide) (hZ_nest hZ0 q677 rfl) rfl (v := .int (g r2 3)) rfl dX1_gift_96 ?_
    have eo := Option.some.inj hf
    subst eo
    refine W.widen (k := 1) (n := 6) (Nat.le_of_ble_eq_true rfl) (Nat.le_of_ble_eq_true rfl) ?_
    exact vx_ret (W.iret (v := (g r2 3)) hx hb hr (fun T ht hW => ⟨⟨(g r2 3), (g r2 3), rfl, ⟨rfl, rfl⟩, by dsimp only; rw [ht]; exact hM⟩, hS.F ht⟩) hS.2.2 dX1_gift_99)
  replace hf := hif_f hf hc3
  refine lv_tableOut (x := p1) (tgt := 100) hx hb dX1_gift_51 (h_sw0_3 hc0 hc1 hc2 hc3) (by decide) ?_
  refine lv_aload_n hx hb dX1_gift_100 rfl (lv_at hl 0 rfl) ?_
  refine hr_getN (ci := 4) (C := RX14) (T := TX14) (N := 9) (r := .inl r2) hx hb hts in_X14 hown hK hM h_r2 rfl 4 (by decide) (hZ_nest hZ0 q679 rfl) rfl (v := .int (g r2 4)) rfl dX1_gift_101 ?_
  have eo := Option.some.inj hf
  subst eo
  refine W.widen (k := 1) (n := 6) (Nat.le_of_ble_eq_true rfl) (Nat.le_of_ble_eq_true rfl) ?_
  exact vx_ret (W.iret (v := (g r2 4)) hx hb hr (fun T ht hW => ⟨⟨(g r2 4), (g r2 4), rfl, ⟨rfl, rfl⟩, by dsimp only; rw [ht]; exact hM⟩, hS.F ht⟩) hS.2.2 dX1_gift_104)
set_option maxHeartbeats 4000000 in
set_option maxRecDepth 100000 in
theorem w_x_gift_B31 {p : Program} {l : Launch} {e : Env} {s : State} {m : MethodId} {args : Array Value} {below : List Frame} {meth : Method} {c : Code} {D : va_G} {C : Nat → Nat} {a0 : Array Value} {s0 : State} {ad : Rl → Nat} {so : Nat → Option hS} {pr : hPr} {t : hSt} {lt : Rl → Nat → Int64} (CX : hCx D C a0 s0 p s m args meth c cX1_gift 4 RX1 (some .int)) (hIx : hI (hA s0) ad (Sum.elim (xSH C pr) so)) (hex : ∀ x ∈ c.exceptionTable.toList, False) (hlst : l.stackTraces = false) (g : hSt) (p0 : Int32) (p1 : Int32) {o : (Int32) ⊕ Nat} (hf : x_gift_B31 g pr p0 p1 = some o) {H : Heap} {locs : List Loc} (hM : hW D vwCl ad (Sum.elim (xSH C pr) so) (Sum.elim g t) lt H) (hS : va_S (hA s0) s.heap H locs) {ls : Array Slot} (hl : lv_has ls 4 [(0, .ref (ad (.inl 0))), (1, .int p0), (2, .int p1)]) : W p l e rm_x_gift s m args below meth c H locs 0 0 (vx_MQ below (va_Qi (fun (r : Int32) (v : Int32) => o = .inl v ∧ r = v) (fun (v : Int32) (U : State) => hW D vwCl ad (Sum.elim (xSH C pr) so) (Sum.elim g t) lt U.heap) (hA s0)) (vx_X (fun k : Nat => o = .inr k) (fun (E : String) (k : Nat) (U : State) => E = hEx k ∧ hW D vwCl ad (Sum.elim (xSH C pr) so) (Sum.elim g t) lt U.heap) (hA s0)) args s 1 6 (hA s0)) (F0 m 31 ls []) := by
  obtain ⟨hx, hb, hr, hml, hown, hts, hlocks, hK, hZ0, hA0⟩ := CX
  unfold x_gift_B31 at hf
  refine lv_iconst (v := 0) hx hb dX1_gift_31 (by decide) ?_
  exact w_x_gift_B32 ⟨hx, hb, hr, hml, hown, hts, hlocks, hK, hZ0, hA0⟩ hIx hex hlst g p0 p1 (0 : Int32) hf hM hS (lv_sub hl [0, 1, 2] rfl)
set_option maxHeartbeats 4000000 in
set_option maxRecDepth 100000 in
theorem w_x_gift {p : Program} {l : Launch} {e : Env} {s : State} {m : MethodId} {args : Array Value} {below : List Frame} {meth : Method} {c : Code} {D : va_G} {C : Nat → Nat} {a0 : Array Value} {s0 : State} {ad : Rl → Nat} {so : Nat → Option hS} {pr : hPr} {t : hSt} {lt : Rl → Nat → Int64} (CX : hCx D C a0 s0 p s m args meth c cX1_gift 4 RX1 (some .int)) (hIx : hI (hA s0) ad (Sum.elim (xSH C pr) so)) (hex : ∀ x ∈ c.exceptionTable.toList, False) (hlst : l.stackTraces = false) (g : hSt) (p0 : Int32) (p1 : Int32) {o : (Int32) ⊕ Nat} (hf : x_gift g pr p0 p1 = some o) {H : Heap} {locs : List Loc} (hM : hW D vwCl ad (Sum.elim (xSH C pr) so) (Sum.elim g t) lt H) (hS : va_S (hA s0) s.heap H locs) {ls : Array Slot} (hl : lv_has ls 4 [(0, .ref (ad (.inl 0))), (1, .int p0), (2, .int p1)]) : W p l e rm_x_gift s m args below meth c H locs 0 0 (vx_MQ below (va_Qi (fun (r : Int32) (v : Int32) => o = .inl v ∧ r = v) (fun (v : Int32) (U : State) => hW D vwCl ad (Sum.elim (xSH C pr) so) (Sum.elim g t) lt U.heap) (hA s0)) (vx_X (fun k : Nat => o = .inr k) (fun (E : String) (k : Nat) (U : State) => E = hEx k ∧ hW D vwCl ad (Sum.elim (xSH C pr) so) (Sum.elim g t) lt U.heap) (hA s0)) args s 1 6 (hA s0)) (F0 m 0 ls []) := by
  obtain ⟨hx, hb, hr, hml, hown, hts, hlocks, hK, hZ0, hA0⟩ := CX
  unfold x_gift at hf
  refine lv_iload_n hx hb dX1_gift_0 rfl (lv_at hl 1 rfl) ?_
  refine hb_if_lt (tgt := 31) hx hb dX1_gift_1 (by decide) hf (fun hf => ?_) (fun hf => ?_)
  · exact w_x_gift_B31 ⟨hx, hb, hr, hml, hown, hts, hlocks, hK, hZ0, hA0⟩ hIx hex hlst g p0 p1 hf hM hS (lv_sub hl [0, 1, 2] rfl)
  · refine lv_iload_n hx hb dX1_gift_4 rfl (lv_at hl 1 rfl) ?_
    refine lv_aload_n hx hb dX1_gift_5 rfl (lv_at hl 0 rfl) ?_
    refine hr_get (ci := 0) (C := RX1) (T := TX1) (N := 19) (r := .inl 0) hx hb hts in_X1 hown hK hM xS_0 rfl 1 (by decide) (hts _ q560) rfl (v := .ref (ad (.inl 20))) rfl dX1_gift_6 ?_
    refine hr_getN (ci := 3) (C := RX3) (T := TX3) (N := 3) (r := .inl 20) hx hb hts in_X3 hown hK hM xS_20 rfl 1 (by decide) (hZ_nest hZ0 q546 rfl) rfl (v := .ref (ad (.inl 21))) rfl dX1_gift_9 ?_
    obtain ⟨y3, hq, hf⟩ := hbind hf
    refine hr_calli0 (va_runV (As := []) (rest := [.int p0]) ⟨hx, hb, hml, hown, hts⟩ (met_x_al_size l D C a0 s0 ad so pr t lt g 21 xs_21 hq) (cwV 0 hts (lw_V q642 q643 q644 q80 q645) rfl rfl rfl (by decide +kernel) ⟨Nat.le_of_ble_eq_true rfl, Nat.le_of_ble_eq_true rfl⟩) (hr_preV hZ_c hM hIx hK hZ0 hA0 hS (r := .inl 21) xS_21 (q := (RJ2, TJ2, 3)) rfl) rfl rfl hl.1 rfl (lv_room (Nat.le_of_ble_eq_true rfl)) dX1_gift_12 ⟨Nat.le_of_ble_eq_true rfl, Nat.le_of_ble_eq_true rfl⟩) hS (fun H locs hM hS => ?_)
    refine hb_icmp_ge (tgt := 31) hx hb dX1_gift_15 (by decide) hf (fun hf => ?_) (fun hf => ?_)
    · exact w_x_gift_B31 ⟨hx, hb, hr, hml, hown, hts, hlocks, hK, hZ0, hA0⟩ hIx hex hlst g p0 p1 hf hM hS (lv_sub hl [0, 1, 2] rfl)
    · refine lv_iload_n hx hb dX1_gift_18 rfl (lv_at hl 2 rfl) ?_
      refine lv_iconst (v := 0) hx hb dX1_gift_19 (by decide) ?_
      refine lv_iconst (v := 4) hx hb dX1_gift_20 (by decide) ?_
      obtain ⟨y4, hq, hf⟩ := hbind hf
      refine hr_calli0 (va_runS (As := [.int p1, .int (0 : Int32), .int (4 : Int32)]) (rest := []) ⟨hx, hb, hml, hown, hts⟩ (met_x_within l D C a0 s0 ad so pr (Sum.elim g t) lt p1 (0 : Int32) (4 : Int32) hq) (va_cwS 3 hts (lw_S q1156 q1157 q76 q1158) rfl rfl rfl (by decide +kernel) ⟨Nat.le_of_ble_eq_true rfl, Nat.le_of_ble_eq_true rfl⟩) (hr_preS hZ_c hM hIx hK hZ0 hA0 hS) rfl rfl hl.1 rfl (lv_room (Nat.le_of_ble_eq_true rfl)) dX1_gift_21 ⟨Nat.le_of_ble_eq_true rfl, Nat.le_of_ble_eq_true rfl⟩) hS (fun H locs hM hS => ?_)
      refine hb_if_eq (tgt := 31) hx hb dX1_gift_24 (by decide) hf (fun hf => ?_) (fun hf => ?_)
      · exact w_x_gift_B31 ⟨hx, hb, hr, hml, hown, hts, hlocks, hK, hZ0, hA0⟩ hIx hex hlst g p0 p1 hf hM hS (lv_sub hl [0, 1, 2] rfl)
      · refine lv_iconst (v := 1) hx hb dX1_gift_27 (by decide) ?_
        refine lv_goto (tgt := 32) hx hb dX1_gift_28 (by decide) ?_
        exact w_x_gift_B32 ⟨hx, hb, hr, hml, hown, hts, hlocks, hK, hZ0, hA0⟩ hIx hex hlst g p0 p1 (1 : Int32) hf hM hS (lv_sub hl [0, 1, 2] rfl)
set_option maxHeartbeats 4000000 in
set_option maxRecDepth 100000 in
theorem met_x_gift (l : Launch) (D : va_G) (C : Nat → Nat) (a0 : Array Value) (s0 : State) (ad : Rl → Nat) (so : Nat → Option hS) (pr : hPr) (t : hSt) (lt : Rl → Nat → Int64) (g : hSt) (p0 : Int32) (p1 : Int32) (hlst : l.stackTraces = false) {o : (Int32) ⊕ Nat} (hf : x_gift g pr p0 p1 = some o) : vx_Met l yX1_gift (ws_ yX1_gift cX1_gift 4 (some .int)) rm_x_gift (va_Pc [.ref (ad (.inl 0)), .int p0, .int p1] (hB D vwCl (hT C) (hA s0) (hZ a0 s0) ad (Sum.elim (xSH C pr) so) (Sum.elim g t) lt)) (va_Qi (fun (r : Int32) (v : Int32) => o = .inl v ∧ r = v) (fun (v : Int32) (U : State) => hW D vwCl ad (Sum.elim (xSH C pr) so) (Sum.elim g t) lt U.heap) (hA s0)) (vx_X (fun k : Nat => o = .inr k) (fun (E : String) (k : Nat) (U : State) => E = hEx k ∧ hW D vwCl ad (Sum.elim (xSH C pr) so) (Sum.elim g t) lt U.heap) (hA s0)) 1 6 (hA s0) := by
  refine vx_ofW (cc := cX1_gift) (maxL := 4) (ret := (some .int)) (by decide) rfl ?_
  intro p e s m args below meth c s₁ B hml hex hv
  obtain ⟨rfl, hM, hIx, hK, hZ0, hA0⟩ := hv
  have hl := lv_entry ([.ref (ad (.inl 0)), .int p0, .int p1]) (n := 4) (Nat.le_of_ble_eq_true rfl)
  rw [lg_entry_eq]
  generalize (lg_sl ([.ref (ad (.inl 0)), .int p0, .int p1]) ++ List.replicate (4 - (lg_sl ([.ref (ad (.inl 0)), .int p0, .int p1])).length) Slot.unset).toArray = ls at hl ⊢
  have hl : lv_has ls 4 [(0, .ref (ad (.inl 0))), (1, .int p0), (2, .int p1)] := hl
  exact w_x_gift ⟨B.exec, B.bytes, B.returns, hml, findClass_of_methodNamed B.named, fun w h => atoms_spec (ws := ws_ yX1_gift cX1_gift 4 (some .int)) B.pre w (List.mem_cons_of_mem _ h), B.notSynchronized, hK, hZ0, hA0⟩ hIx hex hlst g p0 p1 hf hM va_S.rf hl

def rm_x_sets : Room := { frames := 13, cells := 1, slots := 6, locals := 164 }
set_option maxHeartbeats 4000000 in
set_option maxRecDepth 100000 in
theorem w_x_sets_B39 {p : Program} {l : Launch} {e : Env} {s : State} {m : MethodId} {args : Array Value} {below : List Frame} {meth : Method} {c : Code} {D : va_G} {C : Nat → Nat} {a0 : Array Value} {s0 : State} {ad : Rl → Nat} {so : Nat → Option hS} {pr : hPr} {t : hSt} {lt : Rl → Nat → Int64} (CX : hCx D C a0 s0 p s m args meth c cX1_sets 5 RX1 (some .int)) (hIx : hI (hA s0) ad (Sum.elim (xSH C pr) so)) (hex : ∀ x ∈ c.exceptionTable.toList, False) (hlst : l.stackTraces = false) (g : hSt) (p0 : Int32) (v3_18 : Int32) (v4_18 : Int32) (x2 : Int32) (y3 : Int32) (a3_39 : Int32) {oM : (Int32) ⊕ Nat} {o : (Int32 × Int32) ⊕ (Int32)} (hf : x_sets_B39 g p0 v4_18 a3_39 = some o) (kc : ∀ s' : Int32 × Int32, o = .inl s' → ∀ (H : Heap) (locs : List Loc) (ls : Array Slot), hW D vwCl ad (Sum.elim (xSH C pr) so) (Sum.elim g t) lt H → va_S (hA s0) s.heap H locs → lv_has ls 5 [(0, .ref (ad (.inl 0))), (1, .int p0), (2, .ref (ad (.inl 24))), (3, .int s'.1), (4, .int s'.2)] → W p l e rm_x_sets s m args below meth c H locs 1 6 (vx_MQ below (va_Qi (fun (r : Int32) (v : Int32) => oM = .inl v ∧ r = v) (fun (v : Int32) (U : State) => hW D vwCl ad (Sum.elim (xSH C pr) so) (Sum.elim g t) lt U.heap) (hA s0)) (vx_X (fun k : Nat => oM = .inr k) (fun (E : String) (k : Nat) (U : State) => E = hEx k ∧ hW D vwCl ad (Sum.elim (xSH C pr) so) (Sum.elim g t) lt U.heap) (hA s0)) args s 1 6 (hA s0)) (F0 m 18 ls [])) (kx : ∀ x' : Int32, o = .inr x' → ∀ (H : Heap) (locs : List Loc) (ls : Array Slot), hW D vwCl ad (Sum.elim (xSH C pr) so) (Sum.elim g t) lt H → va_S (hA s0) s.heap H locs → lv_has ls 5 [(3, .int x')] → W p l e rm_x_sets s m args below meth c H locs 1 6 (vx_MQ below (va_Qi (fun (r : Int32) (v : Int32) => oM = .inl v ∧ r = v) (fun (v : Int32) (U : State) => hW D vwCl ad (Sum.elim (xSH C pr) so) (Sum.elim g t) lt U.heap) (hA s0)) (vx_X (fun k : Nat => oM = .inr k) (fun (E : String) (k : Nat) (U : State) => E = hEx k ∧ hW D vwCl ad (Sum.elim (xSH C pr) so) (Sum.elim g t) lt U.heap) (hA s0)) args s 1 6 (hA s0)) (F0 m 57 ls [])) {H : Heap} {locs : List Loc} (hM : hW D vwCl ad (Sum.elim (xSH C pr) so) (Sum.elim g t) lt H) (hS : va_S (hA s0) s.heap H locs) {ls : Array Slot} (hl : lv_has ls 5 [(0, .ref (ad (.inl 0))), (1, .int p0), (2, .ref (ad (.inl 24))), (3, .int a3_39), (4, .int v4_18)]) : W p l e rm_x_sets s m args below meth c H locs 1 6 (vx_MQ below (va_Qi (fun (r : Int32) (v : Int32) => oM = .inl v ∧ r = v) (fun (v : Int32) (U : State) => hW D vwCl ad (Sum.elim (xSH C pr) so) (Sum.elim g t) lt U.heap) (hA s0)) (vx_X (fun k : Nat => oM = .inr k) (fun (E : String) (k : Nat) (U : State) => E = hEx k ∧ hW D vwCl ad (Sum.elim (xSH C pr) so) (Sum.elim g t) lt U.heap) (hA s0)) args s 1 6 (hA s0)) (F0 m 39 ls []) := by
  obtain ⟨hx, hb, hr, hml, hown, hts, hlocks, hK, hZ0, hA0⟩ := CX
  unfold x_sets_B39 at hf
  refine lv_iload hx hb dX1_sets_39 (lv_at hl 4 rfl) ?_
  refine lv_aload_n hx hb dX1_sets_41 rfl (lv_at hl 2 rfl) ?_
  refine hr_getN (ci := 1) (C := RX4) (T := TX4) (N := 6) (r := .inl 24) hx hb hts in_X4 hown hK hM (xs_st24 (C := C) (pr := pr)).o rfl 0 (by decide) (hZ_nest hZ0 q510 rfl) rfl (v := .ref (ad (.inl (24 + 1)))) rfl dX1_sets_42 ?_
  refine lv_iload_n hx hb dX1_sets_45 rfl (lv_at hl 1 rfl) ?_
  refine hx_iald (r := (24 + 1)) hx hb hK hM 0 (xs_st24 (C := C) (pr := pr)).a1 rfl hf dX1_sets_46 (fun x4 hf => ?_)
  obtain ⟨y5, hq, hf⟩ := hbind hf
  refine hr_calli0 (va_runS (As := [.int v4_18, .int x4]) (rest := []) ⟨hx, hb, hml, hown, hts⟩ (met_x_next l D C a0 s0 ad so pr (Sum.elim g t) lt v4_18 x4 hq) (va_cwS 2 hts (lw_S q868 q869 q76 q870) rfl rfl rfl (by decide +kernel) ⟨Nat.le_of_ble_eq_true rfl, Nat.le_of_ble_eq_true rfl⟩) (hr_preS hZ_c hM hIx hK hZ0 hA0 hS) rfl rfl hl.1 rfl (lv_room (Nat.le_of_ble_eq_true rfl)) dX1_sets_47 ⟨Nat.le_of_ble_eq_true rfl, Nat.le_of_ble_eq_true rfl⟩) hS (fun H locs hM hS => ?_)
  refine lv_istore (lv' := [(4, .int y5), (0, .ref (ad (.inl 0))), (1, .int p0), (2, .ref (ad (.inl 24))), (3, .int a3_39)]) hx hb dX1_sets_50 hl (by decide) rfl (fun ls hl => ?_)
  refine lv_iload hx hb dX1_sets_52 (lv_at hl 0 rfl) ?_
  refine hb_if_ne (tgt := 18) hx hb dX1_sets_54 (by decide) hf (fun hf => ?_) (fun hf => ?_)
  · exact kc (a3_39, y5) (Option.some.inj hf).symm H locs ls hM hS (lv_sub hl [1, 2, 3, 4, 0] rfl)
  · exact kx a3_39 (Option.some.inj hf).symm H locs ls hM hS (lv_sub hl [4] rfl)
set_option maxHeartbeats 4000000 in
set_option maxRecDepth 100000 in
theorem w_x_sets_L18 {p : Program} {l : Launch} {e : Env} {s : State} {m : MethodId} {args : Array Value} {below : List Frame} {meth : Method} {c : Code} {D : va_G} {C : Nat → Nat} {a0 : Array Value} {s0 : State} {ad : Rl → Nat} {so : Nat → Option hS} {pr : hPr} {t : hSt} {lt : Rl → Nat → Int64} (CX : hCx D C a0 s0 p s m args meth c cX1_sets 5 RX1 (some .int)) (hIx : hI (hA s0) ad (Sum.elim (xSH C pr) so)) (hex : ∀ x ∈ c.exceptionTable.toList, False) (hlst : l.stackTraces = false) (g : hSt) (p0 : Int32) {oM : (Int32) ⊕ Nat} (x : Int32) (n : Nat) (q0 : Int32 × Int32) (h0 : hiter (fun q : Int32 × Int32 => x_sets_L18 g p0 q.1 q.2) n q0 = some x) (kx0 : ∀ (H : Heap) (locs : List Loc) (ls : Array Slot), hW D vwCl ad (Sum.elim (xSH C pr) so) (Sum.elim g t) lt H → va_S (hA s0) s.heap H locs → lv_has ls 5 [(3, .int x)] → W p l e rm_x_sets s m args below meth c H locs 1 6 (vx_MQ below (va_Qi (fun (r : Int32) (v : Int32) => oM = .inl v ∧ r = v) (fun (v : Int32) (U : State) => hW D vwCl ad (Sum.elim (xSH C pr) so) (Sum.elim g t) lt U.heap) (hA s0)) (vx_X (fun k : Nat => oM = .inr k) (fun (E : String) (k : Nat) (U : State) => E = hEx k ∧ hW D vwCl ad (Sum.elim (xSH C pr) so) (Sum.elim g t) lt U.heap) (hA s0)) args s 1 6 (hA s0)) (F0 m 57 ls [])) : ∀ (H : Heap) (locs : List Loc) (ls : Array Slot), hW D vwCl ad (Sum.elim (xSH C pr) so) (Sum.elim g t) lt H → va_S (hA s0) s.heap H locs → lv_has ls 5 [(0, .ref (ad (.inl 0))), (1, .int p0), (2, .ref (ad (.inl 24))), (3, .int q0.1), (4, .int q0.2)] → W p l e rm_x_sets s m args below meth c H locs 1 6 (vx_MQ below (va_Qi (fun (r : Int32) (v : Int32) => oM = .inl v ∧ r = v) (fun (v : Int32) (U : State) => hW D vwCl ad (Sum.elim (xSH C pr) so) (Sum.elim g t) lt U.heap) (hA s0)) (vx_X (fun k : Nat => oM = .inr k) (fun (E : String) (k : Nat) (U : State) => E = hEx k ∧ hW D vwCl ad (Sum.elim (xSH C pr) so) (Sum.elim g t) lt U.heap) (hA s0)) args s 1 6 (hA s0)) (F0 m 18 ls []) := by
  obtain ⟨hx, hb, hr, hml, hown, hts, hlocks, hK, hZ0, hA0⟩ := CX
  refine hiter_W (Wh := fun q => ∀ (H : Heap) (locs : List Loc) (ls : Array Slot), hW D vwCl ad (Sum.elim (xSH C pr) so) (Sum.elim g t) lt H → va_S (hA s0) s.heap H locs → lv_has ls 5 [(0, .ref (ad (.inl 0))), (1, .int p0), (2, .ref (ad (.inl 24))), (3, .int q.1), (4, .int q.2)] → W p l e rm_x_sets s m args below meth c H locs 1 6 (vx_MQ below (va_Qi (fun (r : Int32) (v : Int32) => oM = .inl v ∧ r = v) (fun (v : Int32) (U : State) => hW D vwCl ad (Sum.elim (xSH C pr) so) (Sum.elim g t) lt U.heap) (hA s0)) (vx_X (fun k : Nat => oM = .inr k) (fun (E : String) (k : Nat) (U : State) => E = hEx k ∧ hW D vwCl ad (Sum.elim (xSH C pr) so) (Sum.elim g t) lt U.heap) (hA s0)) args s 1 6 (hA s0)) (F0 m 18 ls [])) ?_ n q0 h0
  intro q o hf kc kx1 H locs ls hM hS hl
  obtain ⟨v3_18, v4_18⟩ := q
  replace hf : x_sets_L18 g p0 v3_18 v4_18 = some o := hf
  have kx : ∀ x' : Int32, o = .inr x' → ∀ (H : Heap) (locs : List Loc) (ls : Array Slot), hW D vwCl ad (Sum.elim (xSH C pr) so) (Sum.elim g t) lt H → va_S (hA s0) s.heap H locs → lv_has ls 5 [(3, .int x')] → W p l e rm_x_sets s m args below meth c H locs 1 6 (vx_MQ below (va_Qi (fun (r : Int32) (v : Int32) => oM = .inl v ∧ r = v) (fun (v : Int32) (U : State) => hW D vwCl ad (Sum.elim (xSH C pr) so) (Sum.elim g t) lt U.heap) (hA s0)) (vx_X (fun k : Nat => oM = .inr k) (fun (E : String) (k : Nat) (U : State) => E = hEx k ∧ hW D vwCl ad (Sum.elim (xSH C pr) so) (Sum.elim g t) lt U.heap) (hA s0)) args s 1 6 (hA s0)) (F0 m 57 ls []) := fun x' ex => by rw [kx1 _ ex]; exact kx0
  unfold x_sets_L18 at hf
  refine lv_aload_n hx hb dX1_sets_18 rfl (lv_at hl 0 rfl) ?_
  refine lv_aload_n hx hb dX1_sets_19 rfl (lv_at hl 2 rfl) ?_
  refine lv_iload_n hx hb dX1_sets_20 rfl (lv_at hl 1 rfl) ?_
  refine lv_iload hx hb dX1_sets_21 (lv_at hl 4 rfl) ?_
  refine lv_aload_n hx hb dX1_sets_23 rfl (lv_at hl 2 rfl) ?_
  refine hr_getN (ci := 1) (C := RX4) (T := TX4) (N := 6) (r := .inl 24) hx hb hts in_X4 hown hK hM (xs_st24 (C := C) (pr := pr)).o rfl 2 (by decide) (hZ_nest hZ0 q518 rfl) rfl (v := .ref (ad (.inl (24 + 3)))) rfl dX1_sets_24 ?_
  refine lv_iload_n hx hb dX1_sets_27 rfl (lv_at hl 1 rfl) ?_
  refine hx_iald (r := (24 + 3)) hx hb hK hM 0 (xs_st24 (C := C) (pr := pr)).a3 rfl hf dX1_sets_28 (fun x2 hf => ?_)
  obtain ⟨y3, hq, hf⟩ := hbind hf
  refine hr_calli0 (va_runV (As := [.ref (ad (.inl 24)), .int p0, .int v4_18, .int x2]) (rest := []) ⟨hx, hb, hml, hown, hts⟩ (met_x_sandFor l D C a0 s0 ad so pr t lt g 24 p0 v4_18 x2 xs_st24 hq) (cwV 4 hts (lw_V q842 q844 qs11 q76 q845) rfl rfl rfl (by decide +kernel) ⟨Nat.le_of_ble_eq_true rfl, Nat.le_of_ble_eq_true rfl⟩) (hr_preV hZ_c hM hIx hK hZ0 hA0 hS (r := .inl 0) xS_0 (q := (RX1, TX1, 19)) rfl) rfl rfl hl.1 rfl (lv_room (Nat.le_of_ble_eq_true rfl)) dX1_sets_29 ⟨Nat.le_of_ble_eq_true rfl, Nat.le_of_ble_eq_true rfl⟩) hS (fun H locs hM hS => ?_)
  refine lv_iconst (v := -1) hx hb dX1_sets_32 (by decide) ?_
  refine hb_icmp_eq (tgt := 39) hx hb dX1_sets_33 (by decide) hf (fun hf => ?_) (fun hf => ?_)
  · exact w_x_sets_B39 ⟨hx, hb, hr, hml, hown, hts, hlocks, hK, hZ0, hA0⟩ hIx hex hlst g p0 v3_18 v4_18 x2 y3 v3_18 hf kc kx hM hS (lv_sub hl [0, 1, 2, 3, 4] rfl)
  · obtain ⟨y3_6, ey, hf⟩ := hlet_ex hf
    refine lv_iinc (v := y3_6) (lv' := [(3, .int y3_6), (0, .ref (ad (.inl 0))), (1, .int p0), (2, .ref (ad (.inl 24))), (4, .int v4_18)]) hx hb dX1_sets_36 hl (k := 3) rfl (by rw [ey]; rfl) (by decide) rfl (fun ls hl => ?_)
    exact w_x_sets_B39 ⟨hx, hb, hr, hml, hown, hts, hlocks, hK, hZ0, hA0⟩ hIx hex hlst g p0 v3_18 v4_18 x2 y3 y3_6 hf kc kx hM hS (lv_sub hl [1, 2, 3, 0, 4] rfl)
set_option maxHeartbeats 4000000 in
set_option maxRecDepth 100000 in
theorem w_x_sets {p : Program} {l : Launch} {e : Env} {s : State} {m : MethodId} {args : Array Value} {below : List Frame} {meth : Method} {c : Code} {D : va_G} {C : Nat → Nat} {a0 : Array Value} {s0 : State} {ad : Rl → Nat} {so : Nat → Option hS} {pr : hPr} {t : hSt} {lt : Rl → Nat → Int64} (CX : hCx D C a0 s0 p s m args meth c cX1_sets 5 RX1 (some .int)) (hIx : hI (hA s0) ad (Sum.elim (xSH C pr) so)) (hex : ∀ x ∈ c.exceptionTable.toList, False) (hlst : l.stackTraces = false) (g : hSt) (p0 : Int32) {o : (Int32) ⊕ Nat} (hf : x_sets g p0 = some o) {H : Heap} {locs : List Loc} (hM : hW D vwCl ad (Sum.elim (xSH C pr) so) (Sum.elim g t) lt H) (hS : va_S (hA s0) s.heap H locs) {ls : Array Slot} (hl : lv_has ls 5 [(0, .ref (ad (.inl 0))), (1, .int p0)]) : W p l e rm_x_sets s m args below meth c H locs 0 0 (vx_MQ below (va_Qi (fun (r : Int32) (v : Int32) => o = .inl v ∧ r = v) (fun (v : Int32) (U : State) => hW D vwCl ad (Sum.elim (xSH C pr) so) (Sum.elim g t) lt U.heap) (hA s0)) (vx_X (fun k : Nat => o = .inr k) (fun (E : String) (k : Nat) (U : State) => E = hEx k ∧ hW D vwCl ad (Sum.elim (xSH C pr) so) (Sum.elim g t) lt U.heap) (hA s0)) args s 1 6 (hA s0)) (F0 m 0 ls []) := by
  obtain ⟨hx, hb, hr, hml, hown, hts, hlocks, hK, hZ0, hA0⟩ := CX
  unfold x_sets at hf
  refine lv_aload_n hx hb dX1_sets_0 rfl (lv_at hl 0 rfl) ?_
  refine lv_iload_n hx hb dX1_sets_1 rfl (lv_at hl 1 rfl) ?_
  obtain ⟨z1, hq, hf⟩ := hbind hf
  refine hr_xcallv hf (vx_runV (As := [.int p0]) (rest := []) ⟨hx, hb, hml, hown, hts⟩ (met_x_person_2 l D C a0 s0 ad so pr t lt g p0 hlst hq) (cwV 1 hts (lw_V q1184 q1186 qs24 q76 q1187) rfl rfl rfl (by decide +kernel) ⟨Nat.le_of_ble_eq_true rfl, Nat.le_of_ble_eq_true rfl⟩) (hr_preV hZ_c hM hIx hK hZ0 hA0 hS (r := .inl 0) xS_0 (q := (RX1, TX1, 19)) rfl) rfl rfl hl.1 rfl (lv_room (Nat.le_of_ble_eq_true rfl)) dX1_sets_2 ⟨Nat.le_of_ble_eq_true rfl, Nat.le_of_ble_eq_true rfl⟩) hS hex hlocks hIx (Nat.le_of_ble_eq_true rfl) (Nat.le_of_ble_eq_true rfl) (fun H locs hf hM hS => ?_)
  refine lv_aload_n hx hb dX1_sets_5 rfl (lv_at hl 0 rfl) ?_
  refine hr_get (ci := 0) (C := RX1) (T := TX1) (N := 19) (r := .inl 0) hx hb hts in_X1 hown hK hM xS_0 rfl 1 (by decide) (hts _ q560) rfl (v := .ref (ad (.inl 20))) rfl dX1_sets_6 ?_
  refine hr_getN (ci := 3) (C := RX3) (T := TX3) (N := 3) (r := .inl 20) hx hb hts in_X3 hown hK hM xS_20 rfl 0 (by decide) (hZ_nest hZ0 q544 rfl) rfl (v := .ref (ad (.inl 24))) rfl dX1_sets_9 ?_
  refine lv_astore_n (lv' := [(2, .ref (ad (.inl 24))), (0, .ref (ad (.inl 0))), (1, .int p0)]) hx hb dX1_sets_12 rfl hl (by decide) rfl (fun ls hl => ?_)
  refine lv_iconst (v := 0) hx hb dX1_sets_13 (by decide) ?_
  refine lv_istore_n (lv' := [(3, .int (0 : Int32)), (2, .ref (ad (.inl 24))), (0, .ref (ad (.inl 0))), (1, .int p0)]) hx hb dX1_sets_14 rfl hl (by decide) rfl (fun ls hl => ?_)
  refine lv_iconst (v := 0) hx hb dX1_sets_15 (by decide) ?_
  refine lv_istore (lv' := [(4, .int (0 : Int32)), (3, .int (0 : Int32)), (2, .ref (ad (.inl 24))), (0, .ref (ad (.inl 0))), (1, .int p0)]) hx hb dX1_sets_16 hl (by decide) rfl (fun ls hl => ?_)
  obtain ⟨x7, hq, hf⟩ := hbind hf
  refine w_x_sets_L18 ⟨hx, hb, hr, hml, hown, hts, hlocks, hK, hZ0, hA0⟩ hIx hex hlst g p0 x7 hFU ((0 : Int32), (0 : Int32)) hq (fun H locs ls hM hS hl => ?_) H locs ls hM hS (lv_sub hl [3, 4, 2, 1, 0] rfl)
  refine lv_iload_n hx hb dX1_sets_57 rfl (lv_at hl 0 rfl) ?_
  have eo := Option.some.inj hf
  subst eo
  refine W.widen (k := 1) (n := 6) (Nat.le_of_ble_eq_true rfl) (Nat.le_of_ble_eq_true rfl) ?_
  exact vx_ret (W.iret (v := x7) hx hb hr (fun T ht hW => ⟨⟨x7, x7, rfl, ⟨rfl, rfl⟩, by dsimp only; rw [ht]; exact hM⟩, hS.F ht⟩) hS.2.2 dX1_sets_58)
set_option maxHeartbeats 4000000 in
set_option maxRecDepth 100000 in
theorem met_x_sets (l : Launch) (D : va_G) (C : Nat → Nat) (a0 : Array Value) (s0 : State) (ad : Rl → Nat) (so : Nat → Option hS) (pr : hPr) (t : hSt) (lt : Rl → Nat → Int64) (g : hSt) (p0 : Int32) (hlst : l.stackTraces = false) {o : (Int32) ⊕ Nat} (hf : x_sets g p0 = some o) : vx_Met l yX1_sets (ws_ yX1_sets cX1_sets 5 (some .int)) rm_x_sets (va_Pc [.ref (ad (.inl 0)), .int p0] (hB D vwCl (hT C) (hA s0) (hZ a0 s0) ad (Sum.elim (xSH C pr) so) (Sum.elim g t) lt)) (va_Qi (fun (r : Int32) (v : Int32) => o = .inl v ∧ r = v) (fun (v : Int32) (U : State) => hW D vwCl ad (Sum.elim (xSH C pr) so) (Sum.elim g t) lt U.heap) (hA s0)) (vx_X (fun k : Nat => o = .inr k) (fun (E : String) (k : Nat) (U : State) => E = hEx k ∧ hW D vwCl ad (Sum.elim (xSH C pr) so) (Sum.elim g t) lt U.heap) (hA s0)) 1 6 (hA s0) := by
  refine vx_ofW (cc := cX1_sets) (maxL := 5) (ret := (some .int)) (by decide) rfl ?_
  intro p e s m args below meth c s₁ B hml hex hv
  obtain ⟨rfl, hM, hIx, hK, hZ0, hA0⟩ := hv
  have hl := lv_entry ([.ref (ad (.inl 0)), .int p0]) (n := 5) (Nat.le_of_ble_eq_true rfl)
  rw [lg_entry_eq]
  generalize (lg_sl ([.ref (ad (.inl 0)), .int p0]) ++ List.replicate (5 - (lg_sl ([.ref (ad (.inl 0)), .int p0])).length) Slot.unset).toArray = ls at hl ⊢
  have hl : lv_has ls 5 [(0, .ref (ad (.inl 0))), (1, .int p0)] := hl
  exact w_x_sets ⟨B.exec, B.bytes, B.returns, hml, findClass_of_methodNamed B.named, fun w h => atoms_spec (ws := ws_ yX1_sets cX1_sets 5 (some .int)) B.pre w (List.mem_cons_of_mem _ h), B.notSynchronized, hK, hZ0, hA0⟩ hIx hex hlst g p0 hf hM va_S.rf hl

def rm_x_choice : Room := { frames := 13, cells := 2, slots := 12, locals := 266 }
set_option maxHeartbeats 4000000 in
set_option maxRecDepth 100000 in
theorem w_x_choice {p : Program} {l : Launch} {e : Env} {s : State} {m : MethodId} {args : Array Value} {below : List Frame} {meth : Method} {c : Code} {D : va_G} {C : Nat → Nat} {a0 : Array Value} {s0 : State} {ad : Rl → Nat} {so : Nat → Option hS} {pr : hPr} {t : hSt} {lt : Rl → Nat → Int64} (CX : hCx D C a0 s0 p s m args meth c cX1_choice 5 RX1 (some .int)) (hIx : hI (hA s0) ad (Sum.elim (xSH C pr) so)) (hex : ∀ x ∈ c.exceptionTable.toList, False) (hlst : l.stackTraces = false) (g : hSt) (p0 : Int32) (p1 : Int32) {o : (Int32) ⊕ Nat} (hf : x_choice g pr p0 p1 = some o) {H : Heap} {locs : List Loc} (hM : hW D vwCl ad (Sum.elim (xSH C pr) so) (Sum.elim g t) lt H) (hS : va_S (hA s0) s.heap H locs) {ls : Array Slot} (hl : lv_has ls 5 [(0, .ref (ad (.inl 0))), (1, .int p0), (2, .int p1)]) : W p l e rm_x_choice s m args below meth c H locs 0 0 (vx_MQ below (va_Qi (fun (r : Int32) (v : Int32) => o = .inl v ∧ r = v) (fun (v : Int32) (U : State) => hW D vwCl ad (Sum.elim (xSH C pr) so) (Sum.elim g t) lt U.heap) (hA s0)) (vx_X (fun k : Nat => o = .inr k) (fun (E : String) (k : Nat) (U : State) => E = hEx k ∧ hW D vwCl ad (Sum.elim (xSH C pr) so) (Sum.elim g t) lt U.heap) (hA s0)) args s 2 12 (hA s0)) (F0 m 0 ls []) := by
  obtain ⟨hx, hb, hr, hml, hown, hts, hlocks, hK, hZ0, hA0⟩ := CX
  unfold x_choice at hf
  refine lv_aload_n hx hb dX1_choice_0 rfl (lv_at hl 0 rfl) ?_
  refine lv_iload_n hx hb dX1_choice_1 rfl (lv_at hl 1 rfl) ?_
  obtain ⟨z1, hq, hf⟩ := hbind hf
  refine hr_xcallv hf (vx_runV (As := [.int p0]) (rest := []) ⟨hx, hb, hml, hown, hts⟩ (met_x_person_2 l D C a0 s0 ad so pr t lt g p0 hlst hq) (cwV 1 hts (lw_V q1184 q1186 qs24 q76 q1187) rfl rfl rfl (by decide +kernel) ⟨Nat.le_of_ble_eq_true rfl, Nat.le_of_ble_eq_true rfl⟩) (hr_preV hZ_c hM hIx hK hZ0 hA0 hS (r := .inl 0) xS_0 (q := (RX1, TX1, 19)) rfl) rfl rfl hl.1 rfl (lv_room (Nat.le_of_ble_eq_true rfl)) dX1_choice_2 ⟨Nat.le_of_ble_eq_true rfl, Nat.le_of_ble_eq_true rfl⟩) hS hex hlocks hIx (Nat.le_of_ble_eq_true rfl) (Nat.le_of_ble_eq_true rfl) (fun H locs hf hM hS => ?_)
  refine lv_iload_n hx hb dX1_choice_5 rfl (lv_at hl 2 rfl) ?_
  refine lv_iconst (v := 0) hx hb dX1_choice_6 (by decide) ?_
  refine lv_iconst (v := 2) hx hb dX1_choice_7 (by decide) ?_
  obtain ⟨y2, hq, hf⟩ := hbind hf
  refine hr_calli0 (va_runS (As := [.int p1, .int (0 : Int32), .int (2 : Int32)]) (rest := []) ⟨hx, hb, hml, hown, hts⟩ (met_x_within l D C a0 s0 ad so pr (Sum.elim g t) lt p1 (0 : Int32) (2 : Int32) hq) (va_cwS 3 hts (lw_S q1156 q1157 q76 q1158) rfl rfl rfl (by decide +kernel) ⟨Nat.le_of_ble_eq_true rfl, Nat.le_of_ble_eq_true rfl⟩) (hr_preS hZ_c hM hIx hK hZ0 hA0 hS) rfl rfl hl.1 rfl (lv_room (Nat.le_of_ble_eq_true rfl)) dX1_choice_8 ⟨Nat.le_of_ble_eq_true rfl, Nat.le_of_ble_eq_true rfl⟩) hS (fun H locs hM hS => ?_)
  obtain ⟨z3, hq, hf⟩ := hbind hf
  refine hr_xcallv hf (vx_runS (As := [.int y2]) (rest := []) ⟨hx, hb, hml, hown, hts⟩ (met_x_there l D C a0 s0 ad so pr (Sum.elim g t) lt y2 hlst hq) (va_cwS 1 hts (lw_S q1159 q1160 q76 q1161) rfl rfl rfl (by decide +kernel) ⟨Nat.le_of_ble_eq_true rfl, Nat.le_of_ble_eq_true rfl⟩) (hr_preS hZ_c hM hIx hK hZ0 hA0 hS) rfl rfl hl.1 rfl (lv_room (Nat.le_of_ble_eq_true rfl)) dX1_choice_11 ⟨Nat.le_of_ble_eq_true rfl, Nat.le_of_ble_eq_true rfl⟩) hS hex hlocks hIx (Nat.le_of_ble_eq_true rfl) (Nat.le_of_ble_eq_true rfl) (fun H locs hf hM hS => ?_)
  refine lv_aload_n hx hb dX1_choice_14 rfl (lv_at hl 0 rfl) ?_
  refine hr_get (ci := 0) (C := RX1) (T := TX1) (N := 19) (r := .inl 0) hx hb hts in_X1 hown hK hM xS_0 rfl 1 (by decide) (hts _ q560) rfl (v := .ref (ad (.inl 20))) rfl dX1_choice_15 ?_
  refine hr_getN (ci := 3) (C := RX3) (T := TX3) (N := 3) (r := .inl 20) hx hb hts in_X3 hown hK hM xS_20 rfl 0 (by decide) (hZ_nest hZ0 q544 rfl) rfl (v := .ref (ad (.inl 24))) rfl dX1_choice_18 ?_
  refine lv_astore_n (lv' := [(3, .ref (ad (.inl 24))), (0, .ref (ad (.inl 0))), (1, .int p0), (2, .int p1)]) hx hb dX1_choice_21 rfl hl (by decide) rfl (fun ls hl => ?_)
  refine lv_aload_n hx hb dX1_choice_22 rfl (lv_at hl 1 rfl) ?_
  refine lv_aload_n hx hb dX1_choice_23 rfl (lv_at hl 0 rfl) ?_
  refine lv_iload_n hx hb dX1_choice_24 rfl (lv_at hl 2 rfl) ?_
  obtain ⟨y4, hq, hf⟩ := hbind hf
  refine hr_calli0 (va_runV (As := [.ref (ad (.inl 24)), .int p0]) (rest := []) ⟨hx, hb, hml, hown, hts⟩ (met_x_chosen l D C a0 s0 ad so pr t lt g 24 p0 xs_st24 hq) (cwV 2 hts (lw_V q798 q800 qs10 q76 q801) rfl rfl rfl (by decide +kernel) ⟨Nat.le_of_ble_eq_true rfl, Nat.le_of_ble_eq_true rfl⟩) (hr_preV hZ_c hM hIx hK hZ0 hA0 hS (r := .inl 0) xS_0 (q := (RX1, TX1, 19)) rfl) rfl rfl hl.1 rfl (lv_room (Nat.le_of_ble_eq_true rfl)) dX1_choice_25 ⟨Nat.le_of_ble_eq_true rfl, Nat.le_of_ble_eq_true rfl⟩) hS (fun H locs hM hS => ?_)
  refine lv_istore (lv' := [(4, .int y4), (3, .ref (ad (.inl 24))), (0, .ref (ad (.inl 0))), (1, .int p0), (2, .int p1)]) hx hb dX1_choice_28 hl (by decide) rfl (fun ls hl => ?_)
  refine lv_iload hx hb dX1_choice_30 (lv_at hl 0 rfl) ?_
  refine lv_iconst (v := -1) hx hb dX1_choice_32 (by decide) ?_
  refine hb_icmp_ne (tgt := 38) hx hb dX1_choice_33 (by decide) hf (fun hf => ?_) (fun hf => ?_)
  · refine lv_iload_n hx hb dX1_choice_38 rfl (lv_at hl 4 rfl) ?_
    refine hb_if_ne (tgt := 47) hx hb dX1_choice_39 (by decide) hf (fun hf => ?_) (fun hf => ?_)
    · refine lv_iload_n hx hb dX1_choice_47 rfl (lv_at hl 4 rfl) ?_
      refine lv_iconst (v := 1) hx hb dX1_choice_48 (by decide) ?_
      refine hb_icmp_ne (tgt := 69) hx hb dX1_choice_49 (by decide) hf (fun hf => ?_) (fun hf => ?_)
      · refine lv_aload_n hx hb dX1_choice_69 rfl (lv_at hl 2 rfl) ?_
        refine lv_aload_n hx hb dX1_choice_70 rfl (lv_at hl 1 rfl) ?_
        refine lv_iload_n hx hb dX1_choice_71 rfl (lv_at hl 3 rfl) ?_
        refine lv_aload_n hx hb dX1_choice_72 rfl (lv_at hl 1 rfl) ?_
        refine hr_getN (ci := 1) (C := RX4) (T := TX4) (N := 6) (r := .inl 24) hx hb hts in_X4 hown hK hM (xs_st24 (C := C) (pr := pr)).o rfl 3 (by decide) (hZ_nest hZ0 q522 rfl) rfl (v := .ref (ad (.inl (24 + 4)))) rfl dX1_choice_73 ?_
        refine lv_iload_n hx hb dX1_choice_76 rfl (lv_at hl 3 rfl) ?_
        refine hx_iald (r := (24 + 4)) hx hb hK hM 0 (xs_st24 (C := C) (pr := pr)).a4 rfl hf dX1_choice_77 (fun x5 hf => ?_)
        obtain ⟨y6, hq, hf⟩ := hbind hf
        refine hr_calli0 (va_runV (As := [.ref (ad (.inl 24)), .int p0, .int x5]) (rest := []) ⟨hx, hb, hml, hown, hts⟩ (met_x_toWhom l D C a0 s0 ad so pr t lt g 24 p0 x5 xs_st24 hq) (cwV 3 hts (lw_V q871 q873 qs12 q76 q874) rfl rfl rfl (by decide +kernel) ⟨Nat.le_of_ble_eq_true rfl, Nat.le_of_ble_eq_true rfl⟩) (hr_preV hZ_c hM hIx hK hZ0 hA0 hS (r := .inl 0) xS_0 (q := (RX1, TX1, 19)) rfl) rfl rfl hl.1 rfl (lv_room (Nat.le_of_ble_eq_true rfl)) dX1_choice_78 ⟨Nat.le_of_ble_eq_true rfl, Nat.le_of_ble_eq_true rfl⟩) hS (fun H locs hM hS => ?_)
        have eo := Option.some.inj hf
        subst eo
        refine W.widen (k := 2) (n := 12) (Nat.le_of_ble_eq_true rfl) (Nat.le_of_ble_eq_true rfl) ?_
        exact vx_ret (W.iret (v := y6) hx hb hr (fun T ht hW => ⟨⟨y6, y6, rfl, ⟨rfl, rfl⟩, by dsimp only; rw [ht]; exact hM⟩, hS.F ht⟩) hS.2.2 dX1_choice_81)
      · refine lv_aload_n hx hb dX1_choice_52 rfl (lv_at hl 2 rfl) ?_
        refine lv_aload_n hx hb dX1_choice_53 rfl (lv_at hl 1 rfl) ?_
        refine lv_iload_n hx hb dX1_choice_54 rfl (lv_at hl 3 rfl) ?_
        refine lv_iload hx hb dX1_choice_55 (lv_at hl 0 rfl) ?_
        refine lv_aload_n hx hb dX1_choice_57 rfl (lv_at hl 1 rfl) ?_
        refine hr_getN (ci := 1) (C := RX4) (T := TX4) (N := 6) (r := .inl 24) hx hb hts in_X4 hown hK hM (xs_st24 (C := C) (pr := pr)).o rfl 2 (by decide) (hZ_nest hZ0 q518 rfl) rfl (v := .ref (ad (.inl (24 + 3)))) rfl dX1_choice_58 ?_
        refine lv_iload_n hx hb dX1_choice_61 rfl (lv_at hl 3 rfl) ?_
        refine hx_iald (r := (24 + 3)) hx hb hK hM 0 (xs_st24 (C := C) (pr := pr)).a3 rfl hf dX1_choice_62 (fun x7 hf => ?_)
        obtain ⟨y8, hq, hf⟩ := hbind hf
        refine hr_calli0 (va_runV (As := [.ref (ad (.inl 24)), .int p0, .int y4, .int x7]) (rest := []) ⟨hx, hb, hml, hown, hts⟩ (met_x_sandFor l D C a0 s0 ad so pr t lt g 24 p0 y4 x7 xs_st24 hq) (cwV 4 hts (lw_V q842 q844 qs11 q76 q845) rfl rfl rfl (by decide +kernel) ⟨Nat.le_of_ble_eq_true rfl, Nat.le_of_ble_eq_true rfl⟩) (hr_preV hZ_c hM hIx hK hZ0 hA0 hS (r := .inl 0) xS_0 (q := (RX1, TX1, 19)) rfl) rfl rfl hl.1 rfl (lv_room (Nat.le_of_ble_eq_true rfl)) dX1_choice_63 ⟨Nat.le_of_ble_eq_true rfl, Nat.le_of_ble_eq_true rfl⟩) hS (fun H locs hM hS => ?_)
        refine lv_goto (tgt := 81) hx hb dX1_choice_66 (by decide) ?_
        have eo := Option.some.inj hf
        subst eo
        refine W.widen (k := 2) (n := 12) (Nat.le_of_ble_eq_true rfl) (Nat.le_of_ble_eq_true rfl) ?_
        exact vx_ret (W.iret (v := y8) hx hb hr (fun T ht hW => ⟨⟨y8, y8, rfl, ⟨rfl, rfl⟩, by dsimp only; rw [ht]; exact hM⟩, hS.F ht⟩) hS.2.2 dX1_choice_81)
    · refine lv_iload hx hb dX1_choice_42 (lv_at hl 0 rfl) ?_
      refine lv_goto (tgt := 81) hx hb dX1_choice_44 (by decide) ?_
      have eo := Option.some.inj hf
      subst eo
      refine W.widen (k := 2) (n := 12) (Nat.le_of_ble_eq_true rfl) (Nat.le_of_ble_eq_true rfl) ?_
      exact vx_ret (W.iret (v := y4) hx hb hr (fun T ht hW => ⟨⟨y4, y4, rfl, ⟨rfl, rfl⟩, by dsimp only; rw [ht]; exact hM⟩, hS.F ht⟩) hS.2.2 dX1_choice_81)
  · refine lv_iconst (v := -1) hx hb dX1_choice_36 (by decide) ?_
    have eo := Option.some.inj hf
    subst eo
    refine W.widen (k := 2) (n := 12) (Nat.le_of_ble_eq_true rfl) (Nat.le_of_ble_eq_true rfl) ?_
    exact vx_ret (W.iret (v := (-1 : Int32)) hx hb hr (fun T ht hW => ⟨⟨(-1 : Int32), (-1 : Int32), rfl, ⟨rfl, rfl⟩, by dsimp only; rw [ht]; exact hM⟩, hS.F ht⟩) hS.2.2 dX1_choice_37)
set_option maxHeartbeats 4000000 in
set_option maxRecDepth 100000 in
theorem met_x_choice (l : Launch) (D : va_G) (C : Nat → Nat) (a0 : Array Value) (s0 : State) (ad : Rl → Nat) (so : Nat → Option hS) (pr : hPr) (t : hSt) (lt : Rl → Nat → Int64) (g : hSt) (p0 : Int32) (p1 : Int32) (hlst : l.stackTraces = false) {o : (Int32) ⊕ Nat} (hf : x_choice g pr p0 p1 = some o) : vx_Met l yX1_choice (ws_ yX1_choice cX1_choice 5 (some .int)) rm_x_choice (va_Pc [.ref (ad (.inl 0)), .int p0, .int p1] (hB D vwCl (hT C) (hA s0) (hZ a0 s0) ad (Sum.elim (xSH C pr) so) (Sum.elim g t) lt)) (va_Qi (fun (r : Int32) (v : Int32) => o = .inl v ∧ r = v) (fun (v : Int32) (U : State) => hW D vwCl ad (Sum.elim (xSH C pr) so) (Sum.elim g t) lt U.heap) (hA s0)) (vx_X (fun k : Nat => o = .inr k) (fun (E : String) (k : Nat) (U : State) => E = hEx k ∧ hW D vwCl ad (Sum.elim (xSH C pr) so) (Sum.elim g t) lt U.heap) (hA s0)) 2 12 (hA s0) := by
  refine vx_ofW (cc := cX1_choice) (maxL := 5) (ret := (some .int)) (by decide) rfl ?_
  intro p e s m args below meth c s₁ B hml hex hv
  obtain ⟨rfl, hM, hIx, hK, hZ0, hA0⟩ := hv
  have hl := lv_entry ([.ref (ad (.inl 0)), .int p0, .int p1]) (n := 5) (Nat.le_of_ble_eq_true rfl)
  rw [lg_entry_eq]
  generalize (lg_sl ([.ref (ad (.inl 0)), .int p0, .int p1]) ++ List.replicate (5 - (lg_sl ([.ref (ad (.inl 0)), .int p0, .int p1])).length) Slot.unset).toArray = ls at hl ⊢
  have hl : lv_has ls 5 [(0, .ref (ad (.inl 0))), (1, .int p0), (2, .int p1)] := hl
  exact w_x_choice ⟨B.exec, B.bytes, B.returns, hml, findClass_of_methodNamed B.named, fun w h => atoms_spec (ws := ws_ yX1_choice cX1_choice 5 (some .int)) B.pre w (List.mem_cons_of_mem _ h), B.notSynchronized, hK, hZ0, hA0⟩ hIx hex hlst g p0 p1 hf hM va_S.rf hl

def rm_x_gap : Room := { frames := 13, cells := 1, slots := 6, locals := 164 }
set_option maxHeartbeats 4000000 in
set_option maxRecDepth 100000 in
theorem w_x_gap_B95 {p : Program} {l : Launch} {e : Env} {s : State} {m : MethodId} {args : Array Value} {below : List Frame} {meth : Method} {c : Code} {D : va_G} {C : Nat → Nat} {a0 : Array Value} {s0 : State} {ad : Rl → Nat} {so : Nat → Option hS} {pr : hPr} {t : hSt} {lt : Rl → Nat → Int64} (CX : hCx D C a0 s0 p s m args meth c cX1_gap 8 RX1 (some .int)) (hIx : hI (hA s0) ad (Sum.elim (xSH C pr) so)) (hex : ∀ x ∈ c.exceptionTable.toList, False) (hlst : l.stackTraces = false) (g : hSt) (p0 : Int32) (x2 : Int32) (v4_32 : Int32) (v5_32 : Int32) (y3 : Int32) (x4 : Int32) (y7_5 : Int32) (a4_95 : Int32) {oM : (Int32) ⊕ Nat} {o : (Int32 × Int32) ⊕ (Int32)} (hf : x_gap_B95 g p0 v5_32 a4_95 = some o) (kc : ∀ s' : Int32 × Int32, o = .inl s' → ∀ (H : Heap) (locs : List Loc) (ls : Array Slot), hW D vwCl ad (Sum.elim (xSH C pr) so) (Sum.elim g t) lt H → va_S (hA s0) s.heap H locs → lv_has ls 8 [(0, .ref (ad (.inl 0))), (1, .int p0), (2, .ref (ad (.inl 24))), (3, .int x2), (4, .int s'.1), (5, .int s'.2)] → W p l e rm_x_gap s m args below meth c H locs 1 6 (vx_MQ below (va_Qi (fun (r : Int32) (v : Int32) => oM = .inl v ∧ r = v) (fun (v : Int32) (U : State) => hW D vwCl ad (Sum.elim (xSH C pr) so) (Sum.elim g t) lt U.heap) (hA s0)) (vx_X (fun k : Nat => oM = .inr k) (fun (E : String) (k : Nat) (U : State) => E = hEx k ∧ hW D vwCl ad (Sum.elim (xSH C pr) so) (Sum.elim g t) lt U.heap) (hA s0)) args s 1 6 (hA s0)) (F0 m 32 ls [])) (kx : ∀ x' : Int32, o = .inr x' → ∀ (H : Heap) (locs : List Loc) (ls : Array Slot), hW D vwCl ad (Sum.elim (xSH C pr) so) (Sum.elim g t) lt H → va_S (hA s0) s.heap H locs → lv_has ls 8 [(0, .ref (ad (.inl 0))), (3, .int x2), (4, .int x')] → W p l e rm_x_gap s m args below meth c H locs 1 6 (vx_MQ below (va_Qi (fun (r : Int32) (v : Int32) => oM = .inl v ∧ r = v) (fun (v : Int32) (U : State) => hW D vwCl ad (Sum.elim (xSH C pr) so) (Sum.elim g t) lt U.heap) (hA s0)) (vx_X (fun k : Nat => oM = .inr k) (fun (E : String) (k : Nat) (U : State) => E = hEx k ∧ hW D vwCl ad (Sum.elim (xSH C pr) so) (Sum.elim g t) lt U.heap) (hA s0)) args s 1 6 (hA s0)) (F0 m 113 ls [])) {H : Heap} {locs : List Loc} (hM : hW D vwCl ad (Sum.elim (xSH C pr) so) (Sum.elim g t) lt H) (hS : va_S (hA s0) s.heap H locs) {ls : Array Slot} (hl : lv_has ls 8 [(0, .ref (ad (.inl 0))), (1, .int p0), (2, .ref (ad (.inl 24))), (3, .int x2), (4, .int a4_95), (5, .int v5_32)]) : W p l e rm_x_gap s m args below meth c H locs 1 6 (vx_MQ below (va_Qi (fun (r : Int32) (v : Int32) => oM = .inl v ∧ r = v) (fun (v : Int32) (U : State) => hW D vwCl ad (Sum.elim (xSH C pr) so) (Sum.elim g t) lt U.heap) (hA s0)) (vx_X (fun k : Nat => oM = .inr k) (fun (E : String) (k : Nat) (U : State) => E = hEx k ∧ hW D vwCl ad (Sum.elim (xSH C pr) so) (Sum.elim g t) lt U.heap) (hA s0)) args s 1 6 (hA s0)) (F0 m 95 ls []) := by
  obtain ⟨hx, hb, hr, hml, hown, hts, hlocks, hK, hZ0, hA0⟩ := CX
  unfold x_gap_B95 at hf
  refine lv_iload hx hb dX1_gap_95 (lv_at hl 5 rfl) ?_
  refine lv_aload_n hx hb dX1_gap_97 rfl (lv_at hl 2 rfl) ?_
  refine hr_getN (ci := 1) (C := RX4) (T := TX4) (N := 6) (r := .inl 24) hx hb hts in_X4 hown hK hM (xs_st24 (C := C) (pr := pr)).o rfl 0 (by decide) (hZ_nest hZ0 q510 rfl) rfl (v := .ref (ad (.inl (24 + 1)))) rfl dX1_gap_98 ?_
  refine lv_iload_n hx hb dX1_gap_101 rfl (lv_at hl 1 rfl) ?_
  refine hx_iald (r := (24 + 1)) hx hb hK hM 0 (xs_st24 (C := C) (pr := pr)).a1 rfl hf dX1_gap_102 (fun x6 hf => ?_)
  obtain ⟨y7, hq, hf⟩ := hbind hf
  refine hr_calli0 (va_runS (As := [.int v5_32, .int x6]) (rest := []) ⟨hx, hb, hml, hown, hts⟩ (met_x_next l D C a0 s0 ad so pr (Sum.elim g t) lt v5_32 x6 hq) (va_cwS 2 hts (lw_S q868 q869 q76 q870) rfl rfl rfl (by decide +kernel) ⟨Nat.le_of_ble_eq_true rfl, Nat.le_of_ble_eq_true rfl⟩) (hr_preS hZ_c hM hIx hK hZ0 hA0 hS) rfl rfl hl.1 rfl (lv_room (Nat.le_of_ble_eq_true rfl)) dX1_gap_103 ⟨Nat.le_of_ble_eq_true rfl, Nat.le_of_ble_eq_true rfl⟩) hS (fun H locs hM hS => ?_)
  refine lv_istore (lv' := [(5, .int y7), (0, .ref (ad (.inl 0))), (1, .int p0), (2, .ref (ad (.inl 24))), (3, .int x2), (4, .int a4_95)]) hx hb dX1_gap_106 hl (by decide) rfl (fun ls hl => ?_)
  refine lv_iload hx hb dX1_gap_108 (lv_at hl 0 rfl) ?_
  refine hb_if_ne (tgt := 32) hx hb dX1_gap_110 (by decide) hf (fun hf => ?_) (fun hf => ?_)
  · exact kc (a4_95, y7) (Option.some.inj hf).symm H locs ls hM hS (lv_sub hl [1, 2, 3, 4, 5, 0] rfl)
  · exact kx a4_95 (Option.some.inj hf).symm H locs ls hM hS (lv_sub hl [1, 4, 5] rfl)
set_option maxHeartbeats 4000000 in
set_option maxRecDepth 100000 in
theorem w_x_gap_B93 {p : Program} {l : Launch} {e : Env} {s : State} {m : MethodId} {args : Array Value} {below : List Frame} {meth : Method} {c : Code} {D : va_G} {C : Nat → Nat} {a0 : Array Value} {s0 : State} {ad : Rl → Nat} {so : Nat → Option hS} {pr : hPr} {t : hSt} {lt : Rl → Nat → Int64} (CX : hCx D C a0 s0 p s m args meth c cX1_gap 8 RX1 (some .int)) (hIx : hI (hA s0) ad (Sum.elim (xSH C pr) so)) (hex : ∀ x ∈ c.exceptionTable.toList, False) (hlst : l.stackTraces = false) (g : hSt) (p0 : Int32) (x2 : Int32) (v4_32 : Int32) (v5_32 : Int32) (y3 : Int32) (x4 : Int32) (y7_5 : Int32) (k0_93 : Int32) {oM : (Int32) ⊕ Nat} {o : (Int32 × Int32) ⊕ (Int32)} (hf : x_gap_B93 g p0 v5_32 k0_93 = some o) (kc : ∀ s' : Int32 × Int32, o = .inl s' → ∀ (H : Heap) (locs : List Loc) (ls : Array Slot), hW D vwCl ad (Sum.elim (xSH C pr) so) (Sum.elim g t) lt H → va_S (hA s0) s.heap H locs → lv_has ls 8 [(0, .ref (ad (.inl 0))), (1, .int p0), (2, .ref (ad (.inl 24))), (3, .int x2), (4, .int s'.1), (5, .int s'.2)] → W p l e rm_x_gap s m args below meth c H locs 1 6 (vx_MQ below (va_Qi (fun (r : Int32) (v : Int32) => oM = .inl v ∧ r = v) (fun (v : Int32) (U : State) => hW D vwCl ad (Sum.elim (xSH C pr) so) (Sum.elim g t) lt U.heap) (hA s0)) (vx_X (fun k : Nat => oM = .inr k) (fun (E : String) (k : Nat) (U : State) => E = hEx k ∧ hW D vwCl ad (Sum.elim (xSH C pr) so) (Sum.elim g t) lt U.heap) (hA s0)) args s 1 6 (hA s0)) (F0 m 32 ls [])) (kx : ∀ x' : Int32, o = .inr x' → ∀ (H : Heap) (locs : List Loc) (ls : Array Slot), hW D vwCl ad (Sum.elim (xSH C pr) so) (Sum.elim g t) lt H → va_S (hA s0) s.heap H locs → lv_has ls 8 [(0, .ref (ad (.inl 0))), (3, .int x2), (4, .int x')] → W p l e rm_x_gap s m args below meth c H locs 1 6 (vx_MQ below (va_Qi (fun (r : Int32) (v : Int32) => oM = .inl v ∧ r = v) (fun (v : Int32) (U : State) => hW D vwCl ad (Sum.elim (xSH C pr) so) (Sum.elim g t) lt U.heap) (hA s0)) (vx_X (fun k : Nat => oM = .inr k) (fun (E : String) (k : Nat) (U : State) => E = hEx k ∧ hW D vwCl ad (Sum.elim (xSH C pr) so) (Sum.elim g t) lt U.heap) (hA s0)) args s 1 6 (hA s0)) (F0 m 113 ls [])) {H : Heap} {locs : List Loc} (hM : hW D vwCl ad (Sum.elim (xSH C pr) so) (Sum.elim g t) lt H) (hS : va_S (hA s0) s.heap H locs) {ls : Array Slot} (hl : lv_has ls 8 [(0, .ref (ad (.inl 0))), (1, .int p0), (2, .ref (ad (.inl 24))), (3, .int x2), (5, .int v5_32)]) : W p l e rm_x_gap s m args below meth c H locs 1 6 (vx_MQ below (va_Qi (fun (r : Int32) (v : Int32) => oM = .inl v ∧ r = v) (fun (v : Int32) (U : State) => hW D vwCl ad (Sum.elim (xSH C pr) so) (Sum.elim g t) lt U.heap) (hA s0)) (vx_X (fun k : Nat => oM = .inr k) (fun (E : String) (k : Nat) (U : State) => E = hEx k ∧ hW D vwCl ad (Sum.elim (xSH C pr) so) (Sum.elim g t) lt U.heap) (hA s0)) args s 1 6 (hA s0)) (F0 m 93 ls [.int k0_93]) := by
  obtain ⟨hx, hb, hr, hml, hown, hts, hlocks, hK, hZ0, hA0⟩ := CX
  unfold x_gap_B93 at hf
  refine lv_istore (lv' := [(4, .int k0_93), (0, .ref (ad (.inl 0))), (1, .int p0), (2, .ref (ad (.inl 24))), (3, .int x2), (5, .int v5_32)]) hx hb dX1_gap_93 hl (by decide) rfl (fun ls hl => ?_)
  exact w_x_gap_B95 ⟨hx, hb, hr, hml, hown, hts, hlocks, hK, hZ0, hA0⟩ hIx hex hlst g p0 x2 v4_32 v5_32 y3 x4 y7_5 k0_93 hf kc kx hM hS (lv_sub hl [1, 2, 3, 4, 0, 5] rfl)
set_option maxHeartbeats 4000000 in
set_option maxRecDepth 100000 in
theorem w_x_gap_L32 {p : Program} {l : Launch} {e : Env} {s : State} {m : MethodId} {args : Array Value} {below : List Frame} {meth : Method} {c : Code} {D : va_G} {C : Nat → Nat} {a0 : Array Value} {s0 : State} {ad : Rl → Nat} {so : Nat → Option hS} {pr : hPr} {t : hSt} {lt : Rl → Nat → Int64} (CX : hCx D C a0 s0 p s m args meth c cX1_gap 8 RX1 (some .int)) (hIx : hI (hA s0) ad (Sum.elim (xSH C pr) so)) (hex : ∀ x ∈ c.exceptionTable.toList, False) (hlst : l.stackTraces = false) (g : hSt) (p0 : Int32) (x2 : Int32) {oM : (Int32) ⊕ Nat} (x : Int32) (n : Nat) (q0 : Int32 × Int32) (h0 : hiter (fun q : Int32 × Int32 => x_gap_L32 g p0 x2 q.1 q.2) n q0 = some x) (kx0 : ∀ (H : Heap) (locs : List Loc) (ls : Array Slot), hW D vwCl ad (Sum.elim (xSH C pr) so) (Sum.elim g t) lt H → va_S (hA s0) s.heap H locs → lv_has ls 8 [(0, .ref (ad (.inl 0))), (3, .int x2), (4, .int x)] → W p l e rm_x_gap s m args below meth c H locs 1 6 (vx_MQ below (va_Qi (fun (r : Int32) (v : Int32) => oM = .inl v ∧ r = v) (fun (v : Int32) (U : State) => hW D vwCl ad (Sum.elim (xSH C pr) so) (Sum.elim g t) lt U.heap) (hA s0)) (vx_X (fun k : Nat => oM = .inr k) (fun (E : String) (k : Nat) (U : State) => E = hEx k ∧ hW D vwCl ad (Sum.elim (xSH C pr) so) (Sum.elim g t) lt U.heap) (hA s0)) args s 1 6 (hA s0)) (F0 m 113 ls [])) : ∀ (H : Heap) (locs : List Loc) (ls : Array Slot), hW D vwCl ad (Sum.elim (xSH C pr) so) (Sum.elim g t) lt H → va_S (hA s0) s.heap H locs → lv_has ls 8 [(0, .ref (ad (.inl 0))), (1, .int p0), (2, .ref (ad (.inl 24))), (3, .int x2), (4, .int q0.1), (5, .int q0.2)] → W p l e rm_x_gap s m args below meth c H locs 1 6 (vx_MQ below (va_Qi (fun (r : Int32) (v : Int32) => oM = .inl v ∧ r = v) (fun (v : Int32) (U : State) => hW D vwCl ad (Sum.elim (xSH C pr) so) (Sum.elim g t) lt U.heap) (hA s0)) (vx_X (fun k : Nat => oM = .inr k) (fun (E : String) (k : Nat) (U : State) => E = hEx k ∧ hW D vwCl ad (Sum.elim (xSH C pr) so) (Sum.elim g t) lt U.heap) (hA s0)) args s 1 6 (hA s0)) (F0 m 32 ls []) := by
  obtain ⟨hx, hb, hr, hml, hown, hts, hlocks, hK, hZ0, hA0⟩ := CX
  refine hiter_W (Wh := fun q => ∀ (H : Heap) (locs : List Loc) (ls : Array Slot), hW D vwCl ad (Sum.elim (xSH C pr) so) (Sum.elim g t) lt H → va_S (hA s0) s.heap H locs → lv_has ls 8 [(0, .ref (ad (.inl 0))), (1, .int p0), (2, .ref (ad (.inl 24))), (3, .int x2), (4, .int q.1), (5, .int q.2)] → W p l e rm_x_gap s m args below meth c H locs 1 6 (vx_MQ below (va_Qi (fun (r : Int32) (v : Int32) => oM = .inl v ∧ r = v) (fun (v : Int32) (U : State) => hW D vwCl ad (Sum.elim (xSH C pr) so) (Sum.elim g t) lt U.heap) (hA s0)) (vx_X (fun k : Nat => oM = .inr k) (fun (E : String) (k : Nat) (U : State) => E = hEx k ∧ hW D vwCl ad (Sum.elim (xSH C pr) so) (Sum.elim g t) lt U.heap) (hA s0)) args s 1 6 (hA s0)) (F0 m 32 ls [])) ?_ n q0 h0
  intro q o hf kc kx1 H locs ls hM hS hl
  obtain ⟨v4_32, v5_32⟩ := q
  replace hf : x_gap_L32 g p0 x2 v4_32 v5_32 = some o := hf
  have kx : ∀ x' : Int32, o = .inr x' → ∀ (H : Heap) (locs : List Loc) (ls : Array Slot), hW D vwCl ad (Sum.elim (xSH C pr) so) (Sum.elim g t) lt H → va_S (hA s0) s.heap H locs → lv_has ls 8 [(0, .ref (ad (.inl 0))), (3, .int x2), (4, .int x')] → W p l e rm_x_gap s m args below meth c H locs 1 6 (vx_MQ below (va_Qi (fun (r : Int32) (v : Int32) => oM = .inl v ∧ r = v) (fun (v : Int32) (U : State) => hW D vwCl ad (Sum.elim (xSH C pr) so) (Sum.elim g t) lt U.heap) (hA s0)) (vx_X (fun k : Nat => oM = .inr k) (fun (E : String) (k : Nat) (U : State) => E = hEx k ∧ hW D vwCl ad (Sum.elim (xSH C pr) so) (Sum.elim g t) lt U.heap) (hA s0)) args s 1 6 (hA s0)) (F0 m 113 ls []) := fun x' ex => by rw [kx1 _ ex]; exact kx0
  unfold x_gap_L32 at hf
  refine lv_aload_n hx hb dX1_gap_32 rfl (lv_at hl 2 rfl) ?_
  refine lv_iload hx hb dX1_gap_33 (lv_at hl 5 rfl) ?_
  obtain ⟨y3, hq, hf⟩ := hbind hf
  refine hr_calli0 (va_runV (As := [.int v5_32]) (rest := []) ⟨hx, hb, hml, hown, hts⟩ (met_x_st_weight l D C a0 s0 ad so pr t lt g 24 v5_32 xs_st24 hq) (cwV 1 hts (lw_V q650 q651 q652 q98 q653) rfl rfl rfl (by decide +kernel) ⟨Nat.le_of_ble_eq_true rfl, Nat.le_of_ble_eq_true rfl⟩) (hr_preV hZ_c hM hIx hK hZ0 hA0 hS (r := .inl 24) (xs_st24 (C := C) (pr := pr)).o (q := (RX4, TX4, 6)) rfl) rfl rfl hl.1 rfl (lv_room (Nat.le_of_ble_eq_true rfl)) dX1_gap_35 ⟨Nat.le_of_ble_eq_true rfl, Nat.le_of_ble_eq_true rfl⟩) hS (fun H locs hM hS => ?_)
  refine lv_istore (lv' := [(6, .int y3), (0, .ref (ad (.inl 0))), (1, .int p0), (2, .ref (ad (.inl 24))), (3, .int x2), (4, .int v4_32), (5, .int v5_32)]) hx hb dX1_gap_38 hl (by decide) rfl (fun ls hl => ?_)
  refine lv_iload hx hb dX1_gap_40 (lv_at hl 0 rfl) ?_
  refine lv_iload hx hb dX1_gap_42 (lv_at hl 0 rfl) ?_
  refine lv_aload_n hx hb dX1_gap_44 rfl (lv_at hl 3 rfl) ?_
  refine hr_getN (ci := 1) (C := RX4) (T := TX4) (N := 6) (r := .inl 24) hx hb hts in_X4 hown hK hM (xs_st24 (C := C) (pr := pr)).o rfl 1 (by decide) (hZ_nest hZ0 q514 rfl) rfl (v := .ref (ad (.inl (24 + 2)))) rfl dX1_gap_45 ?_
  refine lv_iload_n hx hb dX1_gap_48 rfl (lv_at hl 2 rfl) ?_
  refine hx_iald (r := (24 + 2)) hx hb hK hM 0 (xs_st24 (C := C) (pr := pr)).a2 rfl hf dX1_gap_49 (fun x4 hf => ?_)
  refine lv_iadd hx hb dX1_gap_50 ?_
  refine lv_iload_n hx hb dX1_gap_51 rfl (lv_at hl 4 rfl) ?_
  refine va_mmin hx hb (by rw [hml]; exact hl.1.symm) hown (hts _ q1243) (hts _ q258) (hts _ q90) (hts _ q259) (Nat.le_of_ble_eq_true rfl) (Nat.le_of_ble_eq_true rfl) (Nat.le_of_ble_eq_true rfl) (Nat.le_of_ble_eq_true rfl) dX1_gap_52 ?_
  refine va_mmax hx hb (by rw [hml]; exact hl.1.symm) hown (hts _ q654) (hts _ q240) (hts _ q90) (hts _ q241) (Nat.le_of_ble_eq_true rfl) (Nat.le_of_ble_eq_true rfl) (Nat.le_of_ble_eq_true rfl) (Nat.le_of_ble_eq_true rfl) dX1_gap_55 ?_
  refine hb_top hf (fun y7_5 hf => ?_)
  refine lv_istore (lv' := [(7, .int y7_5), (6, .int y3), (0, .ref (ad (.inl 0))), (1, .int p0), (2, .ref (ad (.inl 24))), (3, .int x2), (4, .int v4_32), (5, .int v5_32)]) hx hb dX1_gap_58 hl (by decide) rfl (fun ls hl => ?_)
  refine lv_iload hx hb dX1_gap_60 (lv_at hl 0 rfl) ?_
  refine hb_if_le (tgt := 95) hx hb dX1_gap_62 (by decide) hf (fun hf => ?_) (fun hf => ?_)
  · exact w_x_gap_B95 ⟨hx, hb, hr, hml, hown, hts, hlocks, hK, hZ0, hA0⟩ hIx hex hlst g p0 x2 v4_32 v5_32 y3 x4 y7_5 v4_32 hf kc kx hM hS (lv_sub hl [2, 3, 4, 5, 6, 7] rfl)
  · refine lv_iload hx hb dX1_gap_65 (lv_at hl 6 rfl) ?_
    refine lv_iconst (v := -1) hx hb dX1_gap_67 (by decide) ?_
    refine hb_icmp_ne (tgt := 81) hx hb dX1_gap_68 (by decide) hf (fun hf => ?_) (fun hf => ?_)
    · refine lv_iload hx hb dX1_gap_81 (lv_at hl 6 rfl) ?_
      refine lv_iload_n hx hb dX1_gap_83 rfl (lv_at hl 5 rfl) ?_
      refine lv_iload hx hb dX1_gap_84 (lv_at hl 0 rfl) ?_
      refine lv_isub hx hb dX1_gap_86 ?_
      refine va_mabs hx hb (by rw [hml]; exact hl.1.symm) hown (hts _ q1244) (hts _ q1245) (hts _ q90) (hts _ q1246) (Nat.le_of_ble_eq_true rfl) (Nat.le_of_ble_eq_true rfl) (Nat.le_of_ble_eq_true rfl) (Nat.le_of_ble_eq_true rfl) dX1_gap_87 ?_
      refine va_mmin hx hb (by rw [hml]; exact hl.1.symm) hown (hts _ q1243) (hts _ q258) (hts _ q90) (hts _ q259) (Nat.le_of_ble_eq_true rfl) (Nat.le_of_ble_eq_true rfl) (Nat.le_of_ble_eq_true rfl) (Nat.le_of_ble_eq_true rfl) dX1_gap_90 ?_
      exact w_x_gap_B93 ⟨hx, hb, hr, hml, hown, hts, hlocks, hK, hZ0, hA0⟩ hIx hex hlst g p0 x2 v4_32 v5_32 y3 x4 y7_5 (hmin v4_32 (habs (x2 - y7_5))) hf kc kx hM hS (lv_sub hl [2, 3, 4, 5, 7] rfl)
    · refine lv_iload_n hx hb dX1_gap_71 rfl (lv_at hl 5 rfl) ?_
      refine lv_iload hx hb dX1_gap_72 (lv_at hl 0 rfl) ?_
      refine lv_isub hx hb dX1_gap_74 ?_
      refine va_mabs hx hb (by rw [hml]; exact hl.1.symm) hown (hts _ q1244) (hts _ q1245) (hts _ q90) (hts _ q1246) (Nat.le_of_ble_eq_true rfl) (Nat.le_of_ble_eq_true rfl) (Nat.le_of_ble_eq_true rfl) (Nat.le_of_ble_eq_true rfl) dX1_gap_75 ?_
      refine lv_goto (tgt := 93) hx hb dX1_gap_78 (by decide) ?_
      exact w_x_gap_B93 ⟨hx, hb, hr, hml, hown, hts, hlocks, hK, hZ0, hA0⟩ hIx hex hlst g p0 x2 v4_32 v5_32 y3 x4 y7_5 (habs (x2 - y7_5)) hf kc kx hM hS (lv_sub hl [2, 3, 4, 5, 7] rfl)
set_option maxHeartbeats 4000000 in
set_option maxRecDepth 100000 in
theorem w_x_gap {p : Program} {l : Launch} {e : Env} {s : State} {m : MethodId} {args : Array Value} {below : List Frame} {meth : Method} {c : Code} {D : va_G} {C : Nat → Nat} {a0 : Array Value} {s0 : State} {ad : Rl → Nat} {so : Nat → Option hS} {pr : hPr} {t : hSt} {lt : Rl → Nat → Int64} (CX : hCx D C a0 s0 p s m args meth c cX1_gap 8 RX1 (some .int)) (hIx : hI (hA s0) ad (Sum.elim (xSH C pr) so)) (hex : ∀ x ∈ c.exceptionTable.toList, False) (hlst : l.stackTraces = false) (g : hSt) (p0 : Int32) {o : (Int32) ⊕ Nat} (hf : x_gap g p0 = some o) {H : Heap} {locs : List Loc} (hM : hW D vwCl ad (Sum.elim (xSH C pr) so) (Sum.elim g t) lt H) (hS : va_S (hA s0) s.heap H locs) {ls : Array Slot} (hl : lv_has ls 8 [(0, .ref (ad (.inl 0))), (1, .int p0)]) : W p l e rm_x_gap s m args below meth c H locs 0 0 (vx_MQ below (va_Qi (fun (r : Int32) (v : Int32) => o = .inl v ∧ r = v) (fun (v : Int32) (U : State) => hW D vwCl ad (Sum.elim (xSH C pr) so) (Sum.elim g t) lt U.heap) (hA s0)) (vx_X (fun k : Nat => o = .inr k) (fun (E : String) (k : Nat) (U : State) => E = hEx k ∧ hW D vwCl ad (Sum.elim (xSH C pr) so) (Sum.elim g t) lt U.heap) (hA s0)) args s 1 6 (hA s0)) (F0 m 0 ls []) := by
  obtain ⟨hx, hb, hr, hml, hown, hts, hlocks, hK, hZ0, hA0⟩ := CX
  unfold x_gap at hf
  refine lv_aload_n hx hb dX1_gap_0 rfl (lv_at hl 0 rfl) ?_
  refine lv_iload_n hx hb dX1_gap_1 rfl (lv_at hl 1 rfl) ?_
  obtain ⟨z1, hq, hf⟩ := hbind hf
  refine hr_xcallv hf (vx_runV (As := [.int p0]) (rest := []) ⟨hx, hb, hml, hown, hts⟩ (met_x_person_2 l D C a0 s0 ad so pr t lt g p0 hlst hq) (cwV 1 hts (lw_V q1184 q1186 qs24 q76 q1187) rfl rfl rfl (by decide +kernel) ⟨Nat.le_of_ble_eq_true rfl, Nat.le_of_ble_eq_true rfl⟩) (hr_preV hZ_c hM hIx hK hZ0 hA0 hS (r := .inl 0) xS_0 (q := (RX1, TX1, 19)) rfl) rfl rfl hl.1 rfl (lv_room (Nat.le_of_ble_eq_true rfl)) dX1_gap_2 ⟨Nat.le_of_ble_eq_true rfl, Nat.le_of_ble_eq_true rfl⟩) hS hex hlocks hIx (Nat.le_of_ble_eq_true rfl) (Nat.le_of_ble_eq_true rfl) (fun H locs hf hM hS => ?_)
  refine lv_aload_n hx hb dX1_gap_5 rfl (lv_at hl 0 rfl) ?_
  refine hr_get (ci := 0) (C := RX1) (T := TX1) (N := 19) (r := .inl 0) hx hb hts in_X1 hown hK hM xS_0 rfl 1 (by decide) (hts _ q560) rfl (v := .ref (ad (.inl 20))) rfl dX1_gap_6 ?_
  refine hr_getN (ci := 3) (C := RX3) (T := TX3) (N := 3) (r := .inl 20) hx hb hts in_X3 hown hK hM xS_20 rfl 0 (by decide) (hZ_nest hZ0 q544 rfl) rfl (v := .ref (ad (.inl 24))) rfl dX1_gap_9 ?_
  refine lv_astore_n (lv' := [(2, .ref (ad (.inl 24))), (0, .ref (ad (.inl 0))), (1, .int p0)]) hx hb dX1_gap_12 rfl hl (by decide) rfl (fun ls hl => ?_)
  refine lv_aload_n hx hb dX1_gap_13 rfl (lv_at hl 0 rfl) ?_
  refine hr_getN (ci := 1) (C := RX4) (T := TX4) (N := 6) (r := .inl 24) hx hb hts in_X4 hown hK hM (xs_st24 (C := C) (pr := pr)).o rfl 2 (by decide) (hZ_nest hZ0 q518 rfl) rfl (v := .ref (ad (.inl (24 + 3)))) rfl dX1_gap_14 ?_
  refine lv_iload_n hx hb dX1_gap_17 rfl (lv_at hl 2 rfl) ?_
  refine hx_iald (r := (24 + 3)) hx hb hK hM 0 (xs_st24 (C := C) (pr := pr)).a3 rfl hf dX1_gap_18 (fun x2 hf => ?_)
  refine lv_istore_n (lv' := [(3, .int x2), (2, .ref (ad (.inl 24))), (0, .ref (ad (.inl 0))), (1, .int p0)]) hx hb dX1_gap_19 rfl hl (by decide) rfl (fun ls hl => ?_)
  refine lv_iload_n hx hb dX1_gap_20 rfl (lv_at hl 0 rfl) ?_
  refine hb_if_ne (tgt := 26) hx hb dX1_gap_21 (by decide) hf (fun hf => ?_) (fun hf => ?_)
  · refine lv_iconst (v := -1) hx hb dX1_gap_26 (by decide) ?_
    refine lv_istore (lv' := [(4, .int (-1 : Int32)), (3, .int x2), (2, .ref (ad (.inl 24))), (0, .ref (ad (.inl 0))), (1, .int p0)]) hx hb dX1_gap_27 hl (by decide) rfl (fun ls hl => ?_)
    refine lv_iconst (v := 0) hx hb dX1_gap_29 (by decide) ?_
    refine lv_istore (lv' := [(5, .int (0 : Int32)), (4, .int (-1 : Int32)), (3, .int x2), (2, .ref (ad (.inl 24))), (0, .ref (ad (.inl 0))), (1, .int p0)]) hx hb dX1_gap_30 hl (by decide) rfl (fun ls hl => ?_)
    obtain ⟨x8, hq, hf⟩ := hbind hf
    refine w_x_gap_L32 ⟨hx, hb, hr, hml, hown, hts, hlocks, hK, hZ0, hA0⟩ hIx hex hlst g p0 x2 x8 hFU ((-1 : Int32), (0 : Int32)) hq (fun H locs ls hM hS hl => ?_) H locs ls hM hS (lv_sub hl [4, 5, 3, 2, 1, 0] rfl)
    refine lv_iload hx hb dX1_gap_113 (lv_at hl 2 rfl) ?_
    refine lv_iconst (v := -1) hx hb dX1_gap_115 (by decide) ?_
    refine hb_icmp_ne (tgt := 123) hx hb dX1_gap_116 (by decide) hf (fun hf => ?_) (fun hf => ?_)
    · refine lv_iconst (v := 0) hx hb dX1_gap_123 (by decide) ?_
      refine lv_iload hx hb dX1_gap_124 (lv_at hl 2 rfl) ?_
      refine lv_aload_n hx hb dX1_gap_126 rfl (lv_at hl 0 rfl) ?_
      refine hr_get (ci := 0) (C := RX1) (T := TX1) (N := 19) (r := .inl 0) hx hb hts in_X1 hown hK hM xS_0 rfl 0 (by decide) (hts _ q559) rfl (v := .ref (ad (.inl 10))) rfl dX1_gap_127 ?_
      refine hr_getN (ci := 2) (C := RX2) (T := TX2) (N := 6) (r := .inl 10) hx hb hts in_X2 hown hK hM xS_10 rfl 4 (by decide) (hZ_nest hZ0 q479 rfl) rfl (v := .int (g 10 4)) rfl dX1_gap_130 ?_
      refine lv_isub hx hb dX1_gap_133 ?_
      refine va_mmax hx hb (by rw [hml]; exact hl.1.symm) hown (hts _ q654) (hts _ q240) (hts _ q90) (hts _ q241) (Nat.le_of_ble_eq_true rfl) (Nat.le_of_ble_eq_true rfl) (Nat.le_of_ble_eq_true rfl) (Nat.le_of_ble_eq_true rfl) dX1_gap_134 ?_
      have eo := Option.some.inj hf
      subst eo
      refine W.widen (k := 1) (n := 6) (Nat.le_of_ble_eq_true rfl) (Nat.le_of_ble_eq_true rfl) ?_
      exact vx_ret (W.iret (v := (hmax (0 : Int32) (x8 - (g 10 4)))) hx hb hr (fun T ht hW => ⟨⟨(hmax (0 : Int32) (x8 - (g 10 4))), (hmax (0 : Int32) (x8 - (g 10 4))), rfl, ⟨rfl, rfl⟩, by dsimp only; rw [ht]; exact hM⟩, hS.F ht⟩) hS.2.2 dX1_gap_137)
    · refine lv_iload_n hx hb dX1_gap_119 rfl (lv_at hl 1 rfl) ?_
      refine lv_goto (tgt := 137) hx hb dX1_gap_120 (by decide) ?_
      have eo := Option.some.inj hf
      subst eo
      refine W.widen (k := 1) (n := 6) (Nat.le_of_ble_eq_true rfl) (Nat.le_of_ble_eq_true rfl) ?_
      exact vx_ret (W.iret (v := x2) hx hb hr (fun T ht hW => ⟨⟨x2, x2, rfl, ⟨rfl, rfl⟩, by dsimp only; rw [ht]; exact hM⟩, hS.F ht⟩) hS.2.2 dX1_gap_137)
  · refine lv_iconst (v := -1) hx hb dX1_gap_24 (by decide) ?_
    have eo := Option.some.inj hf
    subst eo
    refine W.widen (k := 1) (n := 6) (Nat.le_of_ble_eq_true rfl) (Nat.le_of_ble_eq_true rfl) ?_
    exact vx_ret (W.iret (v := (-1 : Int32)) hx hb hr (fun T ht hW => ⟨⟨(-1 : Int32), (-1 : Int32), rfl, ⟨rfl, rfl⟩, by dsimp only; rw [ht]; exact hM⟩, hS.F ht⟩) hS.2.2 dX1_gap_25)
set_option maxHeartbeats 4000000 in
set_option maxRecDepth 100000 in
theorem met_x_gap (l : Launch) (D : va_G) (C : Nat → Nat) (a0 : Array Value) (s0 : State) (ad : Rl → Nat) (so : Nat → Option hS) (pr : hPr) (t : hSt) (lt : Rl → Nat → Int64) (g : hSt) (p0 : Int32) (hlst : l.stackTraces = false) {o : (Int32) ⊕ Nat} (hf : x_gap g p0 = some o) : vx_Met l yX1_gap (ws_ yX1_gap cX1_gap 8 (some .int)) rm_x_gap (va_Pc [.ref (ad (.inl 0)), .int p0] (hB D vwCl (hT C) (hA s0) (hZ a0 s0) ad (Sum.elim (xSH C pr) so) (Sum.elim g t) lt)) (va_Qi (fun (r : Int32) (v : Int32) => o = .inl v ∧ r = v) (fun (v : Int32) (U : State) => hW D vwCl ad (Sum.elim (xSH C pr) so) (Sum.elim g t) lt U.heap) (hA s0)) (vx_X (fun k : Nat => o = .inr k) (fun (E : String) (k : Nat) (U : State) => E = hEx k ∧ hW D vwCl ad (Sum.elim (xSH C pr) so) (Sum.elim g t) lt U.heap) (hA s0)) 1 6 (hA s0) := by
  refine vx_ofW (cc := cX1_gap) (maxL := 8) (ret := (some .int)) (by decide) rfl ?_
  intro p e s m args below meth c s₁ B hml hex hv
  obtain ⟨rfl, hM, hIx, hK, hZ0, hA0⟩ := hv
  have hl := lv_entry ([.ref (ad (.inl 0)), .int p0]) (n := 8) (Nat.le_of_ble_eq_true rfl)
  rw [lg_entry_eq]
  generalize (lg_sl ([.ref (ad (.inl 0)), .int p0]) ++ List.replicate (8 - (lg_sl ([.ref (ad (.inl 0)), .int p0])).length) Slot.unset).toArray = ls at hl ⊢
  have hl : lv_has ls 8 [(0, .ref (ad (.inl 0))), (1, .int p0)] := hl
  exact w_x_gap ⟨B.exec, B.bytes, B.returns, hml, findClass_of_methodNamed B.named, fun w h => atoms_spec (ws := ws_ yX1_gap cX1_gap 8 (some .int)) B.pre w (List.mem_cons_of_mem _ h), B.notSynchronized, hK, hZ0, hA0⟩ hIx hex hlst g p0 hf hM va_S.rf hl

def rm_x_answer (rmR : Room) : Room := { frames := rmR.frames + 12, cells := 0, slots := 0, locals := rmR.locals + 265 }
set_option maxHeartbeats 4000000 in
set_option maxRecDepth 100000 in
theorem w_x_answer_B216 {p : Program} {l : Launch} {e : Env} {s : State} {m : MethodId} {args : Array Value} {below : List Frame} {meth : Method} {c : Code} {D : va_G} {C : Nat → Nat} {a0 : Array Value} {s0 : State} {ad : Rl → Nat} {so : Nat → Option hS} {pr : hPr} {t : hSt} {lt : Rl → Nat → Int64} (CX : hCx D C a0 s0 p s m args meth c cX1_answer 8 RX1 (some .boolean)) (hIx : hI (hA s0) ad (Sum.elim (xSH C pr) so)) (rcf : hSt → hPr → Int32 → Int32 → Option (Int32 × hSt)) (g : hSt) (p0 : Int32) (p1 : Int32) (g1 : hSt) (r2 : Nat) (v4_47 : Int32) (g_47 : hSt) (y3 : Int32) (g4 : hSt) (x5 : Int32) (v6_100 : Int32) (g_100 : hSt) (y6 : Int32) (g_216 : hSt) (rmR : Room) (hmR : rmR.cells = 0 ∧ rmR.slots = 0) (h_rec : ∀ (g : hSt) (pr : hPr) (p0 : Int32) (p1 : Int32) (o : Int32 × hSt), rcf g pr p0 p1 = some o → Met l yX1_answer (ws_ yX1_answer cX1_answer 8 (some .boolean)) rmR (va_Pc [.ref (ad (.inl 0)), .int p0, .int p1] (hB D vwCl (hT C) (hA s0) (hZ a0 s0) ad (Sum.elim (xSH C pr) so) (Sum.elim g t) lt)) (va_Qi (fun (r : Int32) (_ : Unit) => r = o.1) (fun (_ : Unit) (U : State) => hW D vwCl ad (Sum.elim (xSH C pr) so) (Sum.elim o.2 t) lt U.heap) (hA s0)) 0 0 (hA s0)) (h_r2 : xSt C (xSH C pr) r2) {oM : Int32 × hSt} {o : (Int32 × hSt) ⊕ ((hSt) ⊕ (Int32 × hSt))} (hf : x_answer_B216 r2 v4_47 v6_100 g_216 = some o) (kc : ∀ s' : Int32 × hSt, o = .inl s' → ∀ (H : Heap) (locs : List Loc) (ls : Array Slot), hW D vwCl ad (Sum.elim (xSH C pr) so) (Sum.elim s'.2 t) lt H → va_S (hA s0) s.heap H locs → lv_has ls 8 [(0, .ref (ad (.inl 0))), (1, .int p0), (2, .int p1), (3, .ref (ad (.inl r2))), (4, .int v4_47), (5, .int x5), (6, .int s'.1)] → W p l e (rm_x_answer rmR) s m args below meth c H locs 0 0 (MQ below (va_Qi (fun (r : Int32) (_ : Unit) => r = oM.1) (fun (_ : Unit) (U : State) => hW D vwCl ad (Sum.elim (xSH C pr) so) (Sum.elim oM.2 t) lt U.heap) (hA s0)) args s 0 0 (hA s0)) (F0 m 100 ls [])) (kx : ∀ x' : hSt, o = .inr (.inl x') → ∀ (H : Heap) (locs : List Loc) (ls : Array Slot), hW D vwCl ad (Sum.elim (xSH C pr) so) (Sum.elim x' t) lt H → va_S (hA s0) s.heap H locs → lv_has ls 8 [(0, .ref (ad (.inl 0))), (1, .int p0), (2, .int p1), (3, .ref (ad (.inl r2))), (4, .int v4_47)] → W p l e (rm_x_answer rmR) s m args below meth c H locs 0 0 (MQ below (va_Qi (fun (r : Int32) (_ : Unit) => r = oM.1) (fun (_ : Unit) (U : State) => hW D vwCl ad (Sum.elim (xSH C pr) so) (Sum.elim oM.2 t) lt U.heap) (hA s0)) args s 0 0 (hA s0)) (F0 m 235 ls [])) (kr : ∀ r : Int32 × hSt, o = .inr (.inr r) → r = oM) {H : Heap} {locs : List Loc} (hM : hW D vwCl ad (Sum.elim (xSH C pr) so) (Sum.elim g_216 t) lt H) (hS : va_S (hA s0) s.heap H locs) {ls : Array Slot} (hl : lv_has ls 8 [(0, .ref (ad (.inl 0))), (1, .int p0), (2, .int p1), (3, .ref (ad (.inl r2))), (4, .int v4_47), (5, .int x5), (6, .int v6_100)]) : W p l e (rm_x_answer rmR) s m args below meth c H locs 0 0 (MQ below (va_Qi (fun (r : Int32) (_ : Unit) => r = oM.1) (fun (_ : Unit) (U : State) => hW D vwCl ad (Sum.elim (xSH C pr) so) (Sum.elim oM.2 t) lt U.heap) (hA s0)) args s 0 0 (hA s0)) (F0 m 216 ls []) := by
  obtain ⟨hx, hb, hr, hml, hown, hts, hlocks, hK, hZ0, hA0⟩ := CX
  unfold x_answer_B216 at hf
  refine lv_iload hx hb dX1_answer_216 (lv_at hl 6 rfl) ?_
  refine lv_aload_n hx hb dX1_answer_218 rfl (lv_at hl 3 rfl) ?_
  refine hr_getN (ci := 1) (C := RX4) (T := TX4) (N := 6) (r := .inl r2) hx hb hts in_X4 hown hK hM h_r2.o rfl 0 (by decide) (hZ_nest hZ0 q510 rfl) rfl (v := .ref (ad (.inl (r2 + 1)))) rfl dX1_answer_219 ?_
  refine lv_iload hx hb dX1_answer_222 (lv_at hl 4 rfl) ?_
  refine hx_iald (r := (r2 + 1)) hx hb hK hM 0 h_r2.a1 rfl hf dX1_answer_224 (fun x7 hf => ?_)
  obtain ⟨y8, hq, hf⟩ := hbind hf
  refine hr_calli0 (va_runS (As := [.int v6_100, .int x7]) (rest := []) ⟨hx, hb, hml, hown, hts⟩ (met_x_next l D C a0 s0 ad so pr (Sum.elim g_216 t) lt v6_100 x7 hq) (va_cwS 2 hts (lw_S q868 q869 q76 q870) rfl rfl rfl (by decide +kernel) ⟨(by first | exact Nat.le_of_ble_eq_true rfl | (simp only [rm_x_answer, rm_x_al_size, rm_x_next, rm_x_sandFor, rm_x_st_like, rm_x_st_moves, rm_x_toWhom]; omega)), (by first | exact Nat.le_of_ble_eq_true rfl | (simp only [rm_x_answer, rm_x_al_size, rm_x_next, rm_x_sandFor, rm_x_st_like, rm_x_st_moves, rm_x_toWhom]; omega))⟩) (hr_preS hZ_c hM hIx hK hZ0 hA0 hS) rfl rfl hl.1 rfl (lv_room (Nat.le_of_ble_eq_true rfl)) dX1_answer_225 ⟨(by first | exact Nat.le_of_ble_eq_true rfl | (simp only [rm_x_answer, rm_x_al_size, rm_x_next, rm_x_sandFor, rm_x_st_like, rm_x_st_moves, rm_x_toWhom]; omega)), (by first | exact Nat.le_of_ble_eq_true rfl | (simp only [rm_x_answer, rm_x_al_size, rm_x_next, rm_x_sandFor, rm_x_st_like, rm_x_st_moves, rm_x_toWhom]; omega))⟩) hS (fun H locs hM hS => ?_)
  refine lv_istore (lv' := [(6, .int y8), (0, .ref (ad (.inl 0))), (1, .int p0), (2, .int p1), (3, .ref (ad (.inl r2))), (4, .int v4_47), (5, .int x5)]) hx hb dX1_answer_228 hl (by decide) rfl (fun ls hl => ?_)
  refine lv_iload hx hb dX1_answer_230 (lv_at hl 0 rfl) ?_
  refine hb_if_ne (tgt := 100) hx hb dX1_answer_232 (by decide) hf (fun hf => ?_) (fun hf => ?_)
  · exact kc (y8, g_216) (Option.some.inj hf).symm H locs ls hM hS (lv_sub hl [1, 2, 3, 4, 5, 6, 0] rfl)
  · exact kx g_216 (Option.some.inj hf).symm H locs ls hM hS (lv_sub hl [1, 2, 3, 4, 5] rfl)
set_option maxHeartbeats 4000000 in
set_option maxRecDepth 100000 in
theorem w_x_answer_L100 {p : Program} {l : Launch} {e : Env} {s : State} {m : MethodId} {args : Array Value} {below : List Frame} {meth : Method} {c : Code} {D : va_G} {C : Nat → Nat} {a0 : Array Value} {s0 : State} {ad : Rl → Nat} {so : Nat → Option hS} {pr : hPr} {t : hSt} {lt : Rl → Nat → Int64} (CX : hCx D C a0 s0 p s m args meth c cX1_answer 8 RX1 (some .boolean)) (hIx : hI (hA s0) ad (Sum.elim (xSH C pr) so)) (rcf : hSt → hPr → Int32 → Int32 → Option (Int32 × hSt)) (g : hSt) (p0 : Int32) (p1 : Int32) (g1 : hSt) (r2 : Nat) (v4_47 : Int32) (g_47 : hSt) (y3 : Int32) (g4 : hSt) (x5 : Int32) (rmR : Room) (hmR : rmR.cells = 0 ∧ rmR.slots = 0) (h_rec : ∀ (g : hSt) (pr : hPr) (p0 : Int32) (p1 : Int32) (o : Int32 × hSt), rcf g pr p0 p1 = some o → Met l yX1_answer (ws_ yX1_answer cX1_answer 8 (some .boolean)) rmR (va_Pc [.ref (ad (.inl 0)), .int p0, .int p1] (hB D vwCl (hT C) (hA s0) (hZ a0 s0) ad (Sum.elim (xSH C pr) so) (Sum.elim g t) lt)) (va_Qi (fun (r : Int32) (_ : Unit) => r = o.1) (fun (_ : Unit) (U : State) => hW D vwCl ad (Sum.elim (xSH C pr) so) (Sum.elim o.2 t) lt U.heap) (hA s0)) 0 0 (hA s0)) (h_r2 : xSt C (xSH C pr) r2) {oM : Int32 × hSt} (x : (hSt) ⊕ (Int32 × hSt)) (n : Nat) (q0 : Int32 × hSt) (h0 : hiter (fun q : Int32 × hSt => x_answer_L100 rcf pr p0 p1 r2 v4_47 x5 q.1 q.2) n q0 = some x) (kx0 : ∀ x' : hSt, x = .inl x' → ∀ (H : Heap) (locs : List Loc) (ls : Array Slot), hW D vwCl ad (Sum.elim (xSH C pr) so) (Sum.elim x' t) lt H → va_S (hA s0) s.heap H locs → lv_has ls 8 [(0, .ref (ad (.inl 0))), (1, .int p0), (2, .int p1), (3, .ref (ad (.inl r2))), (4, .int v4_47)] → W p l e (rm_x_answer rmR) s m args below meth c H locs 0 0 (MQ below (va_Qi (fun (r : Int32) (_ : Unit) => r = oM.1) (fun (_ : Unit) (U : State) => hW D vwCl ad (Sum.elim (xSH C pr) so) (Sum.elim oM.2 t) lt U.heap) (hA s0)) args s 0 0 (hA s0)) (F0 m 235 ls [])) (kr0 : ∀ r : Int32 × hSt, x = .inr r → r = oM) : ∀ (H : Heap) (locs : List Loc) (ls : Array Slot), hW D vwCl ad (Sum.elim (xSH C pr) so) (Sum.elim q0.2 t) lt H → va_S (hA s0) s.heap H locs → lv_has ls 8 [(0, .ref (ad (.inl 0))), (1, .int p0), (2, .int p1), (3, .ref (ad (.inl r2))), (4, .int v4_47), (5, .int x5), (6, .int q0.1)] → W p l e (rm_x_answer rmR) s m args below meth c H locs 0 0 (MQ below (va_Qi (fun (r : Int32) (_ : Unit) => r = oM.1) (fun (_ : Unit) (U : State) => hW D vwCl ad (Sum.elim (xSH C pr) so) (Sum.elim oM.2 t) lt U.heap) (hA s0)) args s 0 0 (hA s0)) (F0 m 100 ls []) := by
  obtain ⟨hx, hb, hr, hml, hown, hts, hlocks, hK, hZ0, hA0⟩ := CX
  refine hiter_W (Wh := fun q => ∀ (H : Heap) (locs : List Loc) (ls : Array Slot), hW D vwCl ad (Sum.elim (xSH C pr) so) (Sum.elim q.2 t) lt H → va_S (hA s0) s.heap H locs → lv_has ls 8 [(0, .ref (ad (.inl 0))), (1, .int p0), (2, .int p1), (3, .ref (ad (.inl r2))), (4, .int v4_47), (5, .int x5), (6, .int q.1)] → W p l e (rm_x_answer rmR) s m args below meth c H locs 0 0 (MQ below (va_Qi (fun (r : Int32) (_ : Unit) => r = oM.1) (fun (_ : Unit) (U : State) => hW D vwCl ad (Sum.elim (xSH C pr) so) (Sum.elim oM.2 t) lt U.heap) (hA s0)) args s 0 0 (hA s0)) (F0 m 100 ls [])) ?_ n q0 h0
  intro q o hf kc kx1 H locs ls hM hS hl
  obtain ⟨v6_100, g_100⟩ := q
  replace hf : x_answer_L100 rcf pr p0 p1 r2 v4_47 x5 v6_100 g_100 = some o := hf
  have kx : ∀ x' : hSt, o = .inr (.inl x') → ∀ (H : Heap) (locs : List Loc) (ls : Array Slot), hW D vwCl ad (Sum.elim (xSH C pr) so) (Sum.elim x' t) lt H → va_S (hA s0) s.heap H locs → lv_has ls 8 [(0, .ref (ad (.inl 0))), (1, .int p0), (2, .int p1), (3, .ref (ad (.inl r2))), (4, .int v4_47)] → W p l e (rm_x_answer rmR) s m args below meth c H locs 0 0 (MQ below (va_Qi (fun (r : Int32) (_ : Unit) => r = oM.1) (fun (_ : Unit) (U : State) => hW D vwCl ad (Sum.elim (xSH C pr) so) (Sum.elim oM.2 t) lt U.heap) (hA s0)) args s 0 0 (hA s0)) (F0 m 235 ls []) := fun x' ex => kx0 x' (kx1 _ ex).symm
  have kr : ∀ r : Int32 × hSt, o = .inr (.inr r) → r = oM := fun r ex => kr0 r (kx1 _ ex).symm
  unfold x_answer_L100 at hf
  refine lv_aload_n hx hb dX1_answer_100 rfl (lv_at hl 0 rfl) ?_
  refine lv_aload_n hx hb dX1_answer_101 rfl (lv_at hl 3 rfl) ?_
  refine lv_iload hx hb dX1_answer_102 (lv_at hl 4 rfl) ?_
  refine lv_iload hx hb dX1_answer_104 (lv_at hl 6 rfl) ?_
  refine lv_iload hx hb dX1_answer_106 (lv_at hl 5 rfl) ?_
  obtain ⟨y6, hq, hf⟩ := hbind hf
  refine hr_calli0 (va_runV (As := [.ref (ad (.inl r2)), .int v4_47, .int v6_100, .int x5]) (rest := []) ⟨hx, hb, hml, hown, hts⟩ (met_x_sandFor l D C a0 s0 ad so pr t lt g_100 r2 v4_47 v6_100 x5 h_r2 hq) (cwV 4 hts (lw_V q842 q844 qs11 q76 q845) rfl rfl rfl (by decide +kernel) ⟨(by first | exact Nat.le_of_ble_eq_true rfl | (simp only [rm_x_answer, rm_x_al_size, rm_x_next, rm_x_sandFor, rm_x_st_like, rm_x_st_moves, rm_x_toWhom]; omega)), (by first | exact Nat.le_of_ble_eq_true rfl | (simp only [rm_x_answer, rm_x_al_size, rm_x_next, rm_x_sandFor, rm_x_st_like, rm_x_st_moves, rm_x_toWhom]; omega))⟩) (hr_preV hZ_c hM hIx hK hZ0 hA0 hS (r := .inl 0) xS_0 (q := (RX1, TX1, 19)) rfl) rfl rfl hl.1 rfl (lv_room (Nat.le_of_ble_eq_true rfl)) dX1_answer_108 ⟨(by first | exact Nat.le_of_ble_eq_true rfl | (simp only [rm_x_answer, rm_x_al_size, rm_x_next, rm_x_sandFor, rm_x_st_like, rm_x_st_moves, rm_x_toWhom]; omega)), (by first | exact Nat.le_of_ble_eq_true rfl | (simp only [rm_x_answer, rm_x_al_size, rm_x_next, rm_x_sandFor, rm_x_st_like, rm_x_st_moves, rm_x_toWhom]; omega))⟩) hS (fun H locs hM hS => ?_)
  refine lv_istore (lv' := [(7, .int y6), (0, .ref (ad (.inl 0))), (1, .int p0), (2, .int p1), (3, .ref (ad (.inl r2))), (4, .int v4_47), (5, .int x5), (6, .int v6_100)]) hx hb dX1_answer_111 hl (by decide) rfl (fun ls hl => ?_)
  refine lv_iload hx hb dX1_answer_113 (lv_at hl 0 rfl) ?_
  refine lv_iconst (v := -1) hx hb dX1_answer_115 (by decide) ?_
  refine hb_icmp_eq (tgt := 216) hx hb dX1_answer_116 (by decide) hf (fun hf => ?_) (fun hf => ?_)
  · exact w_x_answer_B216 ⟨hx, hb, hr, hml, hown, hts, hlocks, hK, hZ0, hA0⟩ hIx rcf g p0 p1 g1 r2 v4_47 g_47 y3 g4 x5 v6_100 g_100 y6 g_100 rmR hmR h_rec h_r2 hf kc kx kr hM hS (lv_sub hl [1, 2, 3, 4, 5, 6, 7] rfl)
  · refine lv_aload_n hx hb dX1_answer_119 rfl (lv_at hl 1 rfl) ?_
    refine hr_get (ci := 0) (C := RX1) (T := TX1) (N := 19) (r := .inl 0) hx hb hts in_X1 hown hK hM xS_0 rfl 10 (by decide) (hts _ q569) rfl (v := .int (g_100 0 10)) rfl dX1_answer_120 ?_
    refine lv_sipush (v := 20000) hx hb dX1_answer_123 (by decide) ?_
    refine hb_icmp_ne (tgt := 137) hx hb dX1_answer_126 (by decide) hf (fun hf => ?_) (fun hf => ?_)
    · refine lv_aload_n hx hb dX1_answer_137 rfl (lv_at hl 1 rfl) ?_
      refine lv_dup hx hb dX1_answer_138 rfl ?_
      refine hr_get (ci := 0) (C := RX1) (T := TX1) (N := 19) (r := .inl 0) hx hb hts in_X1 hown hK hM xS_0 rfl 10 (by decide) (hts _ q569) rfl (v := .int (g_100 0 10)) rfl dX1_answer_139 ?_
      refine lv_iconst (v := 1) hx hb dX1_answer_142 (by decide) ?_
      refine lv_iadd hx hb dX1_answer_143 ?_
      refine hx_put (r := 0) (ci := 0) (C := RX1) (T := TX1) (N := 19) hx hb hts in_X1 tyX1 tyX1_ok nmX1 hown hK hM hIx hS xS_0 rfl 10 (by decide) (hts _ q569) rfl rfl rfl hf dX1_answer_144 (fun g9 H locs hf hM hS => ?_)
      refine lv_aload_n hx hb dX1_answer_147 rfl (lv_at hl 1 rfl) ?_
      refine hr_get (ci := 0) (C := RX1) (T := TX1) (N := 19) (r := .inl 0) hx hb hts in_X1 hown hK hM xS_0 rfl 6 (by decide) (hts _ q565) rfl (v := .ref (ad (.inl 2))) rfl dX1_answer_148 ?_
      refine lv_iload_n hx hb dX1_answer_151 rfl (lv_at hl 2 rfl) ?_
      refine lv_iconst (v := 1) hx hb dX1_answer_152 (by decide) ?_
      refine lv_iadd hx hb dX1_answer_153 ?_
      obtain ⟨r10, hq, hf⟩ := hbind hf
      refine hx_bel hx hb hK hM hq dX1_answer_154 (fun h_r10 => ?_)
      refine lv_aload_n hx hb dX1_answer_155 rfl (lv_at hl 4 rfl) ?_
      obtain ⟨y11, hq, hf⟩ := hbind hf
      refine hr_callv0 (va_runV (As := [.ref (ad (.inl r2))]) (rest := []) ⟨hx, hb, hml, hown, hts⟩ (met_x_st_like l D C a0 s0 ad so pr t lt g9 r10 r2 h_r10 h_r2 hq) (cwV 1 hts (lw_V q793 q794 q795 q98 q796) rfl rfl rfl (by decide +kernel) ⟨(by first | exact Nat.le_of_ble_eq_true rfl | (simp only [rm_x_answer, rm_x_al_size, rm_x_next, rm_x_sandFor, rm_x_st_like, rm_x_st_moves, rm_x_toWhom]; omega)), (by first | exact Nat.le_of_ble_eq_true rfl | (simp only [rm_x_answer, rm_x_al_size, rm_x_next, rm_x_sandFor, rm_x_st_like, rm_x_st_moves, rm_x_toWhom]; omega))⟩) (hr_preV hZ_c hM hIx hK hZ0 hA0 hS (r := .inl r10) h_r10.o (q := (RX4, TX4, 6)) rfl) rfl rfl hl.1 rfl (lv_room (Nat.le_of_ble_eq_true rfl)) dX1_answer_156 ⟨(by first | exact Nat.le_of_ble_eq_true rfl | (simp only [rm_x_answer, rm_x_al_size, rm_x_next, rm_x_sandFor, rm_x_st_like, rm_x_st_moves, rm_x_toWhom]; omega)), (by first | exact Nat.le_of_ble_eq_true rfl | (simp only [rm_x_answer, rm_x_al_size, rm_x_next, rm_x_sandFor, rm_x_st_like, rm_x_st_moves, rm_x_toWhom]; omega))⟩) hS (fun H locs hM hS => ?_)
      refine lv_aload_n hx hb dX1_answer_159 rfl (lv_at hl 1 rfl) ?_
      refine hr_get (ci := 0) (C := RX1) (T := TX1) (N := 19) (r := .inl 0) hx hb hts in_X1 hown hK hM xS_0 rfl 6 (by decide) (hts _ q565) rfl (v := .ref (ad (.inl 2))) rfl dX1_answer_160 ?_
      refine lv_iload_n hx hb dX1_answer_163 rfl (lv_at hl 2 rfl) ?_
      refine lv_iconst (v := 1) hx hb dX1_answer_164 (by decide) ?_
      refine lv_iadd hx hb dX1_answer_165 ?_
      obtain ⟨r12, hq, hf⟩ := hbind hf
      refine hx_bel hx hb hK hM hq dX1_answer_166 (fun h_r12 => ?_)
      refine lv_iload hx hb dX1_answer_167 (lv_at hl 5 rfl) ?_
      refine lv_iload hx hb dX1_answer_169 (lv_at hl 7 rfl) ?_
      refine lv_iload hx hb dX1_answer_171 (lv_at hl 0 rfl) ?_
      refine lv_aload_n hx hb dX1_answer_173 rfl (lv_at hl 1 rfl) ?_
      refine lv_aload_n hx hb dX1_answer_174 rfl (lv_at hl 4 rfl) ?_
      refine lv_iload hx hb dX1_answer_175 (lv_at hl 5 rfl) ?_
      refine lv_aload_n hx hb dX1_answer_177 rfl (lv_at hl 1 rfl) ?_
      refine hr_get (ci := 0) (C := RX1) (T := TX1) (N := 19) (r := .inl 0) hx hb hts in_X1 hown hK hM xS_0 rfl 1 (by decide) (hts _ q560) rfl (v := .ref (ad (.inl 20))) rfl dX1_answer_178 ?_
      refine hr_getN (ci := 3) (C := RX3) (T := TX3) (N := 3) (r := .inl 20) hx hb hts in_X3 hown hK hM xS_20 rfl 0 (by decide) (hZ_nest hZ0 q544 rfl) rfl (v := .ref (ad (.inl 24))) rfl dX1_answer_181 ?_
      refine hr_getN (ci := 1) (C := RX4) (T := TX4) (N := 6) (r := .inl 24) hx hb hts in_X4 hown hK hM (xs_st24 (C := C) (pr := pr)).o rfl 3 (by decide) (hZ_nest hZ0 q522 rfl) rfl (v := .ref (ad (.inl (24 + 4)))) rfl dX1_answer_184 ?_
      refine lv_iload hx hb dX1_answer_187 (lv_at hl 5 rfl) ?_
      refine hx_iald (r := (24 + 4)) hx hb hK hM 0 (xs_st24 (C := C) (pr := pr)).a4 rfl hf dX1_answer_189 (fun x13 hf => ?_)
      obtain ⟨y14, hq, hf⟩ := hbind hf
      refine hr_calli0 (va_runV (As := [.ref (ad (.inl r2)), .int v4_47, .int x13]) (rest := [.int y6, .int v6_100, .int v4_47, .ref (ad (.inl r12))]) ⟨hx, hb, hml, hown, hts⟩ (met_x_toWhom l D C a0 s0 ad so pr t lt y11 r2 v4_47 x13 h_r2 hq) (cwV 3 hts (lw_V q871 q873 qs12 q76 q874) rfl rfl rfl (by decide +kernel) ⟨(by first | exact Nat.le_of_ble_eq_true rfl | (simp only [rm_x_answer, rm_x_al_size, rm_x_next, rm_x_sandFor, rm_x_st_like, rm_x_st_moves, rm_x_toWhom]; omega)), (by first | exact Nat.le_of_ble_eq_true rfl | (simp only [rm_x_answer, rm_x_al_size, rm_x_next, rm_x_sandFor, rm_x_st_like, rm_x_st_moves, rm_x_toWhom]; omega))⟩) (hr_preV hZ_c hM hIx hK hZ0 hA0 hS (r := .inl 0) xS_0 (q := (RX1, TX1, 19)) rfl) rfl rfl hl.1 rfl (lv_room (Nat.le_of_ble_eq_true rfl)) dX1_answer_190 ⟨(by first | exact Nat.le_of_ble_eq_true rfl | (simp only [rm_x_answer, rm_x_al_size, rm_x_next, rm_x_sandFor, rm_x_st_like, rm_x_st_moves, rm_x_toWhom]; omega)), (by first | exact Nat.le_of_ble_eq_true rfl | (simp only [rm_x_answer, rm_x_al_size, rm_x_next, rm_x_sandFor, rm_x_st_like, rm_x_st_moves, rm_x_toWhom]; omega))⟩) hS (fun H locs hM hS => ?_)
      obtain ⟨y15, hq, hf⟩ := hbind hf
      refine hr_callv0 (va_runV (As := [.int v4_47, .int v6_100, .int y6, .int y14]) (rest := []) ⟨hx, hb, hml, hown, hts⟩ (met_x_st_moves l D C a0 s0 ad so pr t lt y11 r12 v4_47 v6_100 y6 y14 h_r12 hq) (cwV 4 hts (lw_V q762 q763 q764 q98 q765) rfl rfl rfl (by decide +kernel) ⟨(by first | exact Nat.le_of_ble_eq_true rfl | (simp only [rm_x_answer, rm_x_al_size, rm_x_next, rm_x_sandFor, rm_x_st_like, rm_x_st_moves, rm_x_toWhom]; omega)), (by first | exact Nat.le_of_ble_eq_true rfl | (simp only [rm_x_answer, rm_x_al_size, rm_x_next, rm_x_sandFor, rm_x_st_like, rm_x_st_moves, rm_x_toWhom]; omega))⟩) (hr_preV hZ_c hM hIx hK hZ0 hA0 hS (r := .inl r12) h_r12.o (q := (RX4, TX4, 6)) rfl) rfl rfl hl.1 rfl (lv_room (Nat.le_of_ble_eq_true rfl)) dX1_answer_193 ⟨(by first | exact Nat.le_of_ble_eq_true rfl | (simp only [rm_x_answer, rm_x_al_size, rm_x_next, rm_x_sandFor, rm_x_st_like, rm_x_st_moves, rm_x_toWhom]; omega)), (by first | exact Nat.le_of_ble_eq_true rfl | (simp only [rm_x_answer, rm_x_al_size, rm_x_next, rm_x_sandFor, rm_x_st_like, rm_x_st_moves, rm_x_toWhom]; omega))⟩) hS (fun H locs hM hS => ?_)
      refine lv_aload_n hx hb dX1_answer_196 rfl (lv_at hl 1 rfl) ?_
      refine lv_iload_n hx hb dX1_answer_197 rfl (lv_at hl 2 rfl) ?_
      refine lv_iconst (v := 1) hx hb dX1_answer_198 (by decide) ?_
      refine lv_iadd hx hb dX1_answer_199 ?_
      refine lv_iload_n hx hb dX1_answer_200 rfl (lv_at hl 3 rfl) ?_
      refine lv_iconst (v := 1) hx hb dX1_answer_201 (by decide) ?_
      refine lv_iload hx hb dX1_answer_202 (lv_at hl 5 rfl) ?_
      refine lv_ishl hx hb dX1_answer_204 ?_
      refine lv_iconst (v := -1) hx hb dX1_answer_205 (by decide) ?_
      refine lv_ixor hx hb dX1_answer_206 ?_
      refine lv_iand hx hb dX1_answer_207 ?_
      obtain ⟨y16, hq, hf⟩ := hbind hf
      refine hr_calli0 (va_runV (As := [.int (p0 + (1 : Int32)), .int (p1 &&& (((1 : Int32) <<< (v4_47 &&& (31 : Int32))) ^^^ (-1 : Int32)))]) (rest := []) ⟨hx, hb, hml, hown, hts⟩ (h_rec y15 pr (p0 + (1 : Int32)) (p1 &&& (((1 : Int32) <<< (v4_47 &&& (31 : Int32))) ^^^ (-1 : Int32))) _ hq) (cwV 2 hts (lw_V q1254 q1256 qs25 q76 q1257) rfl hmR.1 hmR.2 (by decide +kernel) ⟨(by first | exact Nat.le_of_ble_eq_true rfl | (simp only [rm_x_answer, rm_x_al_size, rm_x_next, rm_x_sandFor, rm_x_st_like, rm_x_st_moves, rm_x_toWhom]; omega)), (by first | exact Nat.le_of_ble_eq_true rfl | (simp only [rm_x_answer, rm_x_al_size, rm_x_next, rm_x_sandFor, rm_x_st_like, rm_x_st_moves, rm_x_toWhom]; omega))⟩) (hr_preV hZ_c hM hIx hK hZ0 hA0 hS (r := .inl 0) xS_0 (q := (RX1, TX1, 19)) rfl) rfl rfl hl.1 rfl (lv_room (Nat.le_of_ble_eq_true rfl)) dX1_answer_208 ⟨(by first | exact Nat.le_of_ble_eq_true rfl | (simp only [rm_x_answer, rm_x_al_size, rm_x_next, rm_x_sandFor, rm_x_st_like, rm_x_st_moves, rm_x_toWhom]; omega)), (by first | exact Nat.le_of_ble_eq_true rfl | (simp only [rm_x_answer, rm_x_al_size, rm_x_next, rm_x_sandFor, rm_x_st_like, rm_x_st_moves, rm_x_toWhom]; omega))⟩) hS (fun H locs hM hS => ?_)
      refine hb_if_eq (tgt := 216) hx hb dX1_answer_211 (by decide) hf (fun hf => ?_) (fun hf => ?_)
      · exact w_x_answer_B216 ⟨hx, hb, hr, hml, hown, hts, hlocks, hK, hZ0, hA0⟩ hIx rcf g p0 p1 g1 r2 v4_47 g_47 y3 g4 x5 v6_100 g_100 y6 y16.2 rmR hmR h_rec h_r2 hf kc kx kr hM hS (lv_sub hl [1, 2, 3, 4, 5, 6, 7] rfl)
      · refine lv_iconst (v := 1) hx hb dX1_answer_214 (by decide) ?_
        have eo := kr ((1 : Int32), y16.2) (Option.some.inj hf).symm
        subst eo
        exact W.zret (v := (1 : Int32)) hx hb hr rfl (fun T ht hW => ⟨⟨(1 : Int32), (), rfl, rfl, by dsimp only; rw [ht]; exact hM⟩, hS.F ht⟩) hS.2.2 dX1_answer_215
    · refine lv_aload_n hx hb dX1_answer_129 rfl (lv_at hl 1 rfl) ?_
      refine lv_bipush (v := -2) hx hb dX1_answer_130 (by decide) ?_
      refine hx_put (r := 0) (ci := 0) (C := RX1) (T := TX1) (N := 19) hx hb hts in_X1 tyX1 tyX1_ok nmX1 hown hK hM hIx hS xS_0 rfl 10 (by decide) (hts _ q569) rfl rfl rfl hf dX1_answer_132 (fun g17 H locs hf hM hS => ?_)
      refine lv_iconst (v := 1) hx hb dX1_answer_135 (by decide) ?_
      have eo := kr ((1 : Int32), g17) (Option.some.inj hf).symm
      subst eo
      exact W.zret (v := (1 : Int32)) hx hb hr rfl (fun T ht hW => ⟨⟨(1 : Int32), (), rfl, rfl, by dsimp only; rw [ht]; exact hM⟩, hS.F ht⟩) hS.2.2 dX1_answer_136
set_option maxHeartbeats 4000000 in
set_option maxRecDepth 100000 in
theorem w_x_answer_L47 {p : Program} {l : Launch} {e : Env} {s : State} {m : MethodId} {args : Array Value} {below : List Frame} {meth : Method} {c : Code} {D : va_G} {C : Nat → Nat} {a0 : Array Value} {s0 : State} {ad : Rl → Nat} {so : Nat → Option hS} {pr : hPr} {t : hSt} {lt : Rl → Nat → Int64} (CX : hCx D C a0 s0 p s m args meth c cX1_answer 8 RX1 (some .boolean)) (hIx : hI (hA s0) ad (Sum.elim (xSH C pr) so)) (rcf : hSt → hPr → Int32 → Int32 → Option (Int32 × hSt)) (g : hSt) (p0 : Int32) (p1 : Int32) (g1 : hSt) (r2 : Nat) (rmR : Room) (hmR : rmR.cells = 0 ∧ rmR.slots = 0) (h_rec : ∀ (g : hSt) (pr : hPr) (p0 : Int32) (p1 : Int32) (o : Int32 × hSt), rcf g pr p0 p1 = some o → Met l yX1_answer (ws_ yX1_answer cX1_answer 8 (some .boolean)) rmR (va_Pc [.ref (ad (.inl 0)), .int p0, .int p1] (hB D vwCl (hT C) (hA s0) (hZ a0 s0) ad (Sum.elim (xSH C pr) so) (Sum.elim g t) lt)) (va_Qi (fun (r : Int32) (_ : Unit) => r = o.1) (fun (_ : Unit) (U : State) => hW D vwCl ad (Sum.elim (xSH C pr) so) (Sum.elim o.2 t) lt U.heap) (hA s0)) 0 0 (hA s0)) (h_r2 : xSt C (xSH C pr) r2) {oM : Int32 × hSt} (x : (hSt) ⊕ (Int32 × hSt)) (n : Nat) (q0 : Int32 × hSt) (h0 : hiter (fun q : Int32 × hSt => x_answer_L47 rcf pr p0 p1 r2 q.1 q.2) n q0 = some x) (kx0 : ∀ x' : hSt, x = .inl x' → ∀ (H : Heap) (locs : List Loc) (ls : Array Slot), hW D vwCl ad (Sum.elim (xSH C pr) so) (Sum.elim x' t) lt H → va_S (hA s0) s.heap H locs → lv_has ls 8 [] → W p l e (rm_x_answer rmR) s m args below meth c H locs 0 0 (MQ below (va_Qi (fun (r : Int32) (_ : Unit) => r = oM.1) (fun (_ : Unit) (U : State) => hW D vwCl ad (Sum.elim (xSH C pr) so) (Sum.elim oM.2 t) lt U.heap) (hA s0)) args s 0 0 (hA s0)) (F0 m 241 ls [])) (kr0 : ∀ r : Int32 × hSt, x = .inr r → r = oM) : ∀ (H : Heap) (locs : List Loc) (ls : Array Slot), hW D vwCl ad (Sum.elim (xSH C pr) so) (Sum.elim q0.2 t) lt H → va_S (hA s0) s.heap H locs → lv_has ls 8 [(0, .ref (ad (.inl 0))), (1, .int p0), (2, .int p1), (3, .ref (ad (.inl r2))), (4, .int q0.1)] → W p l e (rm_x_answer rmR) s m args below meth c H locs 0 0 (MQ below (va_Qi (fun (r : Int32) (_ : Unit) => r = oM.1) (fun (_ : Unit) (U : State) => hW D vwCl ad (Sum.elim (xSH C pr) so) (Sum.elim oM.2 t) lt U.heap) (hA s0)) args s 0 0 (hA s0)) (F0 m 47 ls []) := by
  obtain ⟨hx, hb, hr, hml, hown, hts, hlocks, hK, hZ0, hA0⟩ := CX
  refine hiter_W (Wh := fun q => ∀ (H : Heap) (locs : List Loc) (ls : Array Slot), hW D vwCl ad (Sum.elim (xSH C pr) so) (Sum.elim q.2 t) lt H → va_S (hA s0) s.heap H locs → lv_has ls 8 [(0, .ref (ad (.inl 0))), (1, .int p0), (2, .int p1), (3, .ref (ad (.inl r2))), (4, .int q.1)] → W p l e (rm_x_answer rmR) s m args below meth c H locs 0 0 (MQ below (va_Qi (fun (r : Int32) (_ : Unit) => r = oM.1) (fun (_ : Unit) (U : State) => hW D vwCl ad (Sum.elim (xSH C pr) so) (Sum.elim oM.2 t) lt U.heap) (hA s0)) args s 0 0 (hA s0)) (F0 m 47 ls [])) ?_ n q0 h0
  intro q o hf kc kx1 H locs ls hM hS hl
  obtain ⟨v4_47, g_47⟩ := q
  replace hf : x_answer_L47 rcf pr p0 p1 r2 v4_47 g_47 = some o := hf
  have kx : ∀ x' : hSt, o = .inr (.inl x') → ∀ (H : Heap) (locs : List Loc) (ls : Array Slot), hW D vwCl ad (Sum.elim (xSH C pr) so) (Sum.elim x' t) lt H → va_S (hA s0) s.heap H locs → lv_has ls 8 [] → W p l e (rm_x_answer rmR) s m args below meth c H locs 0 0 (MQ below (va_Qi (fun (r : Int32) (_ : Unit) => r = oM.1) (fun (_ : Unit) (U : State) => hW D vwCl ad (Sum.elim (xSH C pr) so) (Sum.elim oM.2 t) lt U.heap) (hA s0)) args s 0 0 (hA s0)) (F0 m 241 ls []) := fun x' ex => kx0 x' (kx1 _ ex).symm
  have kr : ∀ r : Int32 × hSt, o = .inr (.inr r) → r = oM := fun r ex => kr0 r (kx1 _ ex).symm
  unfold x_answer_L47 at hf
  refine lv_iload hx hb dX1_answer_47 (lv_at hl 4 rfl) ?_
  refine lv_aload_n hx hb dX1_answer_49 rfl (lv_at hl 0 rfl) ?_
  refine hr_get (ci := 0) (C := RX1) (T := TX1) (N := 19) (r := .inl 0) hx hb hts in_X1 hown hK hM xS_0 rfl 0 (by decide) (hts _ q559) rfl (v := .ref (ad (.inl 10))) rfl dX1_answer_50 ?_
  refine hr_getN (ci := 2) (C := RX2) (T := TX2) (N := 6) (r := .inl 10) hx hb hts in_X2 hown hK hM xS_10 rfl 0 (by decide) (hZ_nest hZ0 q468 rfl) rfl (v := .ref (ad (.inl 11))) rfl dX1_answer_53 ?_
  obtain ⟨y3, hq, hf⟩ := hbind hf
  refine hr_calli0 (va_runV (As := []) (rest := [.int v4_47]) ⟨hx, hb, hml, hown, hts⟩ (met_x_al_size l D C a0 s0 ad so pr t lt g_47 11 xs_11 hq) (cwV 0 hts (lw_V q642 q643 q644 q80 q645) rfl rfl rfl (by decide +kernel) ⟨(by first | exact Nat.le_of_ble_eq_true rfl | (simp only [rm_x_answer, rm_x_al_size, rm_x_next, rm_x_sandFor, rm_x_st_like, rm_x_st_moves, rm_x_toWhom]; omega)), (by first | exact Nat.le_of_ble_eq_true rfl | (simp only [rm_x_answer, rm_x_al_size, rm_x_next, rm_x_sandFor, rm_x_st_like, rm_x_st_moves, rm_x_toWhom]; omega))⟩) (hr_preV hZ_c hM hIx hK hZ0 hA0 hS (r := .inl 11) xS_11 (q := (RJ2, TJ2, 3)) rfl) rfl rfl hl.1 rfl (lv_room (Nat.le_of_ble_eq_true rfl)) dX1_answer_56 ⟨(by first | exact Nat.le_of_ble_eq_true rfl | (simp only [rm_x_answer, rm_x_al_size, rm_x_next, rm_x_sandFor, rm_x_st_like, rm_x_st_moves, rm_x_toWhom]; omega)), (by first | exact Nat.le_of_ble_eq_true rfl | (simp only [rm_x_answer, rm_x_al_size, rm_x_next, rm_x_sandFor, rm_x_st_like, rm_x_st_moves, rm_x_toWhom]; omega))⟩) hS (fun H locs hM hS => ?_)
  refine hb_icmp_ge (tgt := 241) hx hb dX1_answer_59 (by decide) hf (fun hf => ?_) (fun hf => ?_)
  · exact kx g_47 (Option.some.inj hf).symm H locs ls hM hS (lv_sub hl [] rfl)
  · refine lv_iload_n hx hb dX1_answer_62 rfl (lv_at hl 2 rfl) ?_
    refine lv_iload hx hb dX1_answer_63 (lv_at hl 4 rfl) ?_
    refine lv_ishr hx hb dX1_answer_65 ?_
    refine lv_iconst (v := 1) hx hb dX1_answer_66 (by decide) ?_
    refine lv_iand hx hb dX1_answer_67 ?_
    refine hb_if_ne (tgt := 74) hx hb dX1_answer_68 (by decide) hf (fun hf => ?_) (fun hf => ?_)
    · refine lv_aload_n hx hb dX1_answer_74 rfl (lv_at hl 0 rfl) ?_
      refine hr_get (ci := 0) (C := RX1) (T := TX1) (N := 19) (r := .inl 0) hx hb hts in_X1 hown hK hM xS_0 rfl 8 (by decide) (hts _ q567) rfl (v := .ref (ad (.inl 4))) rfl dX1_answer_75 ?_
      refine lv_iload_n hx hb dX1_answer_78 rfl (lv_at hl 1 rfl) ?_
      refine lv_iload hx hb dX1_answer_79 (lv_at hl 4 rfl) ?_
      refine hx_iast (r := 4) hx hb hK hM hIx hS 0 xS_4 rfl hf dX1_answer_81 (fun g4 H locs hf hM hS => ?_)
      refine lv_aload_n hx hb dX1_answer_82 rfl (lv_at hl 0 rfl) ?_
      refine hr_get (ci := 0) (C := RX1) (T := TX1) (N := 19) (r := .inl 0) hx hb hts in_X1 hown hK hM xS_0 rfl 1 (by decide) (hts _ q560) rfl (v := .ref (ad (.inl 20))) rfl dX1_answer_83 ?_
      refine hr_getN (ci := 3) (C := RX3) (T := TX3) (N := 3) (r := .inl 20) hx hb hts in_X3 hown hK hM xS_20 rfl 0 (by decide) (hZ_nest hZ0 q544 rfl) rfl (v := .ref (ad (.inl 24))) rfl dX1_answer_86 ?_
      refine hr_getN (ci := 1) (C := RX4) (T := TX4) (N := 6) (r := .inl 24) hx hb hts in_X4 hown hK hM (xs_st24 (C := C) (pr := pr)).o rfl 2 (by decide) (hZ_nest hZ0 q518 rfl) rfl (v := .ref (ad (.inl (24 + 3)))) rfl dX1_answer_89 ?_
      refine lv_iload hx hb dX1_answer_92 (lv_at hl 4 rfl) ?_
      refine hx_iald (r := (24 + 3)) hx hb hK hM 0 (xs_st24 (C := C) (pr := pr)).a3 rfl hf dX1_answer_94 (fun x5 hf => ?_)
      refine lv_istore (lv' := [(5, .int x5), (0, .ref (ad (.inl 0))), (1, .int p0), (2, .int p1), (3, .ref (ad (.inl r2))), (4, .int v4_47)]) hx hb dX1_answer_95 hl (by decide) rfl (fun ls hl => ?_)
      refine lv_iconst (v := 0) hx hb dX1_answer_97 (by decide) ?_
      refine lv_istore (lv' := [(6, .int (0 : Int32)), (5, .int x5), (0, .ref (ad (.inl 0))), (1, .int p0), (2, .int p1), (3, .ref (ad (.inl r2))), (4, .int v4_47)]) hx hb dX1_answer_98 hl (by decide) rfl (fun ls hl => ?_)
      obtain ⟨x18, hq, hf⟩ := hbind hf
      refine w_x_answer_L100 ⟨hx, hb, hr, hml, hown, hts, hlocks, hK, hZ0, hA0⟩ hIx rcf g p0 p1 g1 r2 v4_47 g_47 y3 g4 x5 rmR hmR h_rec h_r2 x18 hFU ((0 : Int32), g4) hq (fun e19 ex1 H locs ls hM hS hl => ?_) (fun r er => ?_) H locs ls hM hS (lv_sub hl [2, 3, 4, 5, 6, 1, 0] rfl)
      · subst ex1
        replace hf := hcase_l hf
        obtain ⟨y4_20, ey, hf⟩ := hlet_ex hf
        refine lv_iinc (v := y4_20) (lv' := [(4, .int y4_20), (0, .ref (ad (.inl 0))), (1, .int p0), (2, .int p1), (3, .ref (ad (.inl r2)))]) hx hb dX1_answer_235 hl (k := 4) rfl (by rw [ey]; rfl) (by decide) rfl (fun ls hl => ?_)
        refine lv_goto (tgt := 47) hx hb dX1_answer_238 (by decide) ?_
        exact kc (y4_20, e19) (Option.some.inj hf).symm H locs ls hM hS (lv_sub hl [1, 2, 3, 4, 0] rfl)
      · subst er
        first | exact kr r (Option.some.inj (hcase_r hf)).symm | exact kr r (Option.some.inj hf).symm
    · refine lv_goto (tgt := 235) hx hb dX1_answer_71 (by decide) ?_
      obtain ⟨y4_21, ey, hf⟩ := hlet_ex hf
      refine lv_iinc (v := y4_21) (lv' := [(4, .int y4_21), (0, .ref (ad (.inl 0))), (1, .int p0), (2, .int p1), (3, .ref (ad (.inl r2)))]) hx hb dX1_answer_235 hl (k := 4) rfl (by rw [ey]; rfl) (by decide) rfl (fun ls hl => ?_)
      refine lv_goto (tgt := 47) hx hb dX1_answer_238 (by decide) ?_
      exact kc (y4_21, g_47) (Option.some.inj hf).symm H locs ls hM hS (lv_sub hl [1, 2, 3, 4, 0] rfl)
set_option maxHeartbeats 4000000 in
set_option maxRecDepth 100000 in
theorem w_x_answer {p : Program} {l : Launch} {e : Env} {s : State} {m : MethodId} {args : Array Value} {below : List Frame} {meth : Method} {c : Code} {D : va_G} {C : Nat → Nat} {a0 : Array Value} {s0 : State} {ad : Rl → Nat} {so : Nat → Option hS} {pr : hPr} {t : hSt} {lt : Rl → Nat → Int64} (CX : hCx D C a0 s0 p s m args meth c cX1_answer 8 RX1 (some .boolean)) (hIx : hI (hA s0) ad (Sum.elim (xSH C pr) so)) (rcf : hSt → hPr → Int32 → Int32 → Option (Int32 × hSt)) (g : hSt) (p0 : Int32) (p1 : Int32) (rmR : Room) (hmR : rmR.cells = 0 ∧ rmR.slots = 0) (h_rec : ∀ (g : hSt) (pr : hPr) (p0 : Int32) (p1 : Int32) (o : Int32 × hSt), rcf g pr p0 p1 = some o → Met l yX1_answer (ws_ yX1_answer cX1_answer 8 (some .boolean)) rmR (va_Pc [.ref (ad (.inl 0)), .int p0, .int p1] (hB D vwCl (hT C) (hA s0) (hZ a0 s0) ad (Sum.elim (xSH C pr) so) (Sum.elim g t) lt)) (va_Qi (fun (r : Int32) (_ : Unit) => r = o.1) (fun (_ : Unit) (U : State) => hW D vwCl ad (Sum.elim (xSH C pr) so) (Sum.elim o.2 t) lt U.heap) (hA s0)) 0 0 (hA s0)) {o : Int32 × hSt} (hf : x_answer rcf g pr p0 p1 = some o) {H : Heap} {locs : List Loc} (hM : hW D vwCl ad (Sum.elim (xSH C pr) so) (Sum.elim g t) lt H) (hS : va_S (hA s0) s.heap H locs) {ls : Array Slot} (hl : lv_has ls 8 [(0, .ref (ad (.inl 0))), (1, .int p0), (2, .int p1)]) : W p l e (rm_x_answer rmR) s m args below meth c H locs 0 0 (MQ below (va_Qi (fun (r : Int32) (_ : Unit) => r = o.1) (fun (_ : Unit) (U : State) => hW D vwCl ad (Sum.elim (xSH C pr) so) (Sum.elim o.2 t) lt U.heap) (hA s0)) args s 0 0 (hA s0)) (F0 m 0 ls []) := by
  obtain ⟨hx, hb, hr, hml, hown, hts, hlocks, hK, hZ0, hA0⟩ := CX
  unfold x_answer at hf
  refine lv_aload_n hx hb dX1_answer_0 rfl (lv_at hl 0 rfl) ?_
  refine lv_aload_n hx hb dX1_answer_1 rfl (lv_at hl 0 rfl) ?_
  refine hr_get (ci := 0) (C := RX1) (T := TX1) (N := 19) (r := .inl 0) hx hb hts in_X1 hown hK hM xS_0 rfl 11 (by decide) (hts _ q570) rfl (v := .int (g 0 11)) rfl dX1_answer_2 ?_
  refine lv_iload_n hx hb dX1_answer_5 rfl (lv_at hl 1 rfl) ?_
  refine va_mmax hx hb (by rw [hml]; exact hl.1.symm) hown (hts _ q654) (hts _ q240) (hts _ q90) (hts _ q241) (by first | exact Nat.le_of_ble_eq_true rfl | (simp only [rm_x_answer, rm_x_al_size, rm_x_next, rm_x_sandFor, rm_x_st_like, rm_x_st_moves, rm_x_toWhom]; omega)) (by first | exact Nat.le_of_ble_eq_true rfl | (simp only [rm_x_answer, rm_x_al_size, rm_x_next, rm_x_sandFor, rm_x_st_like, rm_x_st_moves, rm_x_toWhom]; omega)) (by first | exact Nat.le_of_ble_eq_true rfl | (simp only [rm_x_answer, rm_x_al_size, rm_x_next, rm_x_sandFor, rm_x_st_like, rm_x_st_moves, rm_x_toWhom]; omega)) (by first | exact Nat.le_of_ble_eq_true rfl | (simp only [rm_x_answer, rm_x_al_size, rm_x_next, rm_x_sandFor, rm_x_st_like, rm_x_st_moves, rm_x_toWhom]; omega)) dX1_answer_6 ?_
  refine hx_put (r := 0) (ci := 0) (C := RX1) (T := TX1) (N := 19) hx hb hts in_X1 tyX1 tyX1_ok nmX1 hown hK hM hIx hS xS_0 rfl 11 (by decide) (hts _ q570) rfl rfl rfl hf dX1_answer_9 (fun g1 H locs hf hM hS => ?_)
  refine lv_iload_n hx hb dX1_answer_12 rfl (lv_at hl 2 rfl) ?_
  refine hb_if_ne (tgt := 37) hx hb dX1_answer_13 (by decide) hf (fun hf => ?_) (fun hf => ?_)
  · refine lv_aload_n hx hb dX1_answer_37 rfl (lv_at hl 0 rfl) ?_
    refine hr_get (ci := 0) (C := RX1) (T := TX1) (N := 19) (r := .inl 0) hx hb hts in_X1 hown hK hM xS_0 rfl 6 (by decide) (hts _ q565) rfl (v := .ref (ad (.inl 2))) rfl dX1_answer_38 ?_
    refine lv_iload_n hx hb dX1_answer_41 rfl (lv_at hl 1 rfl) ?_
    obtain ⟨r2, hq, hf⟩ := hbind hf
    refine hx_bel hx hb hK hM hq dX1_answer_42 (fun h_r2 => ?_)
    refine lv_astore_n (lv' := [(3, .ref (ad (.inl r2))), (0, .ref (ad (.inl 0))), (1, .int p0), (2, .int p1)]) hx hb dX1_answer_43 rfl hl (by decide) rfl (fun ls hl => ?_)
    refine lv_iconst (v := 0) hx hb dX1_answer_44 (by decide) ?_
    refine lv_istore (lv' := [(4, .int (0 : Int32)), (3, .ref (ad (.inl r2))), (0, .ref (ad (.inl 0))), (1, .int p0), (2, .int p1)]) hx hb dX1_answer_45 hl (by decide) rfl (fun ls hl => ?_)
    obtain ⟨x22, hq, hf⟩ := hbind hf
    refine w_x_answer_L47 ⟨hx, hb, hr, hml, hown, hts, hlocks, hK, hZ0, hA0⟩ hIx rcf g p0 p1 g1 r2 rmR hmR h_rec h_r2 x22 hFU ((0 : Int32), g1) hq (fun e23 ex1 H locs ls hM hS hl => ?_) (fun r er => ?_) H locs ls hM hS (lv_sub hl [2, 3, 4, 1, 0] rfl)
    · subst ex1
      replace hf := hcase_l hf
      refine lv_iconst (v := 0) hx hb dX1_answer_241 (by decide) ?_
      have eo := Option.some.inj hf
      subst eo
      exact W.zret (v := (0 : Int32)) hx hb hr rfl (fun T ht hW => ⟨⟨(0 : Int32), (), rfl, rfl, by dsimp only; rw [ht]; exact hM⟩, hS.F ht⟩) hS.2.2 dX1_answer_242
    · subst er
      first | exact Option.some.inj (hcase_r hf) | exact Option.some.inj hf
  · refine lv_aload_n hx hb dX1_answer_16 rfl (lv_at hl 0 rfl) ?_
    refine hr_get (ci := 0) (C := RX1) (T := TX1) (N := 19) (r := .inl 0) hx hb hts in_X1 hown hK hM xS_0 rfl 8 (by decide) (hts _ q567) rfl (v := .ref (ad (.inl 4))) rfl dX1_answer_17 ?_
    refine lv_iconst (v := 0) hx hb dX1_answer_20 (by decide) ?_
    refine lv_aload_n hx hb dX1_answer_21 rfl (lv_at hl 0 rfl) ?_
    refine hr_get (ci := 0) (C := RX1) (T := TX1) (N := 19) (r := .inl 0) hx hb hts in_X1 hown hK hM xS_0 rfl 7 (by decide) (hts _ q566) rfl (v := .ref (ad (.inl 3))) rfl dX1_answer_22 ?_
    refine lv_iconst (v := 0) hx hb dX1_answer_25 (by decide) ?_
    refine lv_iload_n hx hb dX1_answer_26 rfl (lv_at hl 1 rfl) ?_
    refine hx_copy (r0 := 4) (r1 := 3) hx hb (by rw [hml]; exact hl.1.symm) hown (hts _ q1147) (hts _ q262) (hts _ q261) (hts _ q92) hK hM hIx hS xS_4 xS_3 rfl hf (by first | exact Nat.le_of_ble_eq_true rfl | (simp only [rm_x_answer, rm_x_al_size, rm_x_next, rm_x_sandFor, rm_x_st_like, rm_x_st_moves, rm_x_toWhom]; omega)) (by first | exact Nat.le_of_ble_eq_true rfl | (simp only [rm_x_answer, rm_x_al_size, rm_x_next, rm_x_sandFor, rm_x_st_like, rm_x_st_moves, rm_x_toWhom]; omega)) dX1_answer_27 (fun g24 H locs hf hM hS => ?_)
    refine lv_aload_n hx hb dX1_answer_30 rfl (lv_at hl 0 rfl) ?_
    refine lv_iload_n hx hb dX1_answer_31 rfl (lv_at hl 1 rfl) ?_
    refine hx_put (r := 0) (ci := 0) (C := RX1) (T := TX1) (N := 19) hx hb hts in_X1 tyX1 tyX1_ok nmX1 hown hK hM hIx hS xS_0 rfl 9 (by decide) (hts _ q568) rfl rfl rfl hf dX1_answer_32 (fun g25 H locs hf hM hS => ?_)
    refine lv_iconst (v := 1) hx hb dX1_answer_35 (by decide) ?_
    have eo := Option.some.inj hf
    subst eo
    exact W.zret (v := (1 : Int32)) hx hb hr rfl (fun T ht hW => ⟨⟨(1 : Int32), (), rfl, rfl, by dsimp only; rw [ht]; exact hM⟩, hS.F ht⟩) hS.2.2 dX1_answer_36
set_option maxHeartbeats 4000000 in
set_option maxRecDepth 100000 in
theorem met_x_answer (l : Launch) (D : va_G) (C : Nat → Nat) (a0 : Array Value) (s0 : State) (ad : Rl → Nat) (so : Nat → Option hS) (pr : hPr) (t : hSt) (lt : Rl → Nat → Int64) (rcf : hSt → hPr → Int32 → Int32 → Option (Int32 × hSt)) (g : hSt) (p0 : Int32) (p1 : Int32) (rmR : Room) (hmR : rmR.cells = 0 ∧ rmR.slots = 0) (h_rec : ∀ (g : hSt) (pr : hPr) (p0 : Int32) (p1 : Int32) (o : Int32 × hSt), rcf g pr p0 p1 = some o → Met l yX1_answer (ws_ yX1_answer cX1_answer 8 (some .boolean)) rmR (va_Pc [.ref (ad (.inl 0)), .int p0, .int p1] (hB D vwCl (hT C) (hA s0) (hZ a0 s0) ad (Sum.elim (xSH C pr) so) (Sum.elim g t) lt)) (va_Qi (fun (r : Int32) (_ : Unit) => r = o.1) (fun (_ : Unit) (U : State) => hW D vwCl ad (Sum.elim (xSH C pr) so) (Sum.elim o.2 t) lt U.heap) (hA s0)) 0 0 (hA s0)) {o : Int32 × hSt} (hf : x_answer rcf g pr p0 p1 = some o) : Met l yX1_answer (ws_ yX1_answer cX1_answer 8 (some .boolean)) (rm_x_answer rmR) (va_Pc [.ref (ad (.inl 0)), .int p0, .int p1] (hB D vwCl (hT C) (hA s0) (hZ a0 s0) ad (Sum.elim (xSH C pr) so) (Sum.elim g t) lt)) (va_Qi (fun (r : Int32) (_ : Unit) => r = o.1) (fun (_ : Unit) (U : State) => hW D vwCl ad (Sum.elim (xSH C pr) so) (Sum.elim o.2 t) lt U.heap) (hA s0)) 0 0 (hA s0) := by
  refine Met.ofW (cc := cX1_answer) (maxL := 8) (ret := (some .boolean)) (by decide) rfl ?_
  intro p e s m args below meth c s₁ B hml hv
  obtain ⟨rfl, hM, hIx, hK, hZ0, hA0⟩ := hv
  have hl := lv_entry ([.ref (ad (.inl 0)), .int p0, .int p1]) (n := 8) (by first | exact Nat.le_of_ble_eq_true rfl | (simp only [rm_x_answer, rm_x_al_size, rm_x_next, rm_x_sandFor, rm_x_st_like, rm_x_st_moves, rm_x_toWhom]; omega))
  rw [lg_entry_eq]
  generalize (lg_sl ([.ref (ad (.inl 0)), .int p0, .int p1]) ++ List.replicate (8 - (lg_sl ([.ref (ad (.inl 0)), .int p0, .int p1])).length) Slot.unset).toArray = ls at hl ⊢
  have hl : lv_has ls 8 [(0, .ref (ad (.inl 0))), (1, .int p0), (2, .int p1)] := hl
  exact w_x_answer ⟨B.exec, B.bytes, B.returns, hml, findClass_of_methodNamed B.named, fun w h => atoms_spec (ws := ws_ yX1_answer cX1_answer 8 (some .boolean)) B.pre w (List.mem_cons_of_mem _ h), B.notSynchronized, hK, hZ0, hA0⟩ hIx rcf g p0 p1 rmR hmR h_rec hf hM va_S.rf hl

def rm_x_order : Room := { frames := 11, cells := 1, slots := 6, locals := 142 }
set_option maxHeartbeats 4000000 in
set_option maxRecDepth 100000 in
theorem w_x_order_B17 {p : Program} {l : Launch} {e : Env} {s : State} {m : MethodId} {args : Array Value} {below : List Frame} {meth : Method} {c : Code} {D : va_G} {C : Nat → Nat} {a0 : Array Value} {s0 : State} {ad : Rl → Nat} {so : Nat → Option hS} {pr : hPr} {t : hSt} {lt : Rl → Nat → Int64} (CX : hCx D C a0 s0 p s m args meth c cX1_order 2 RX1 (some .int)) (hIx : hI (hA s0) ad (Sum.elim (xSH C pr) so)) (hex : ∀ x ∈ c.exceptionTable.toList, False) (hlst : l.stackTraces = false) (g : hSt) (p0 : Int32) (k0_17 : Int32) {o : (Int32) ⊕ Nat} (hf : x_order_B17 g p0 k0_17 = some o) {H : Heap} {locs : List Loc} (hM : hW D vwCl ad (Sum.elim (xSH C pr) so) (Sum.elim g t) lt H) (hS : va_S (hA s0) s.heap H locs) {ls : Array Slot} (hl : lv_has ls 2 [(0, .ref (ad (.inl 0))), (1, .int p0)]) : W p l e rm_x_order s m args below meth c H locs 0 0 (vx_MQ below (va_Qi (fun (r : Int32) (v : Int32) => o = .inl v ∧ r = v) (fun (v : Int32) (U : State) => hW D vwCl ad (Sum.elim (xSH C pr) so) (Sum.elim g t) lt U.heap) (hA s0)) (vx_X (fun k : Nat => o = .inr k) (fun (E : String) (k : Nat) (U : State) => E = hEx k ∧ hW D vwCl ad (Sum.elim (xSH C pr) so) (Sum.elim g t) lt U.heap) (hA s0)) args s 1 6 (hA s0)) (F0 m 17 ls [.int k0_17]) := by
  obtain ⟨hx, hb, hr, hml, hown, hts, hlocks, hK, hZ0, hA0⟩ := CX
  unfold x_order_B17 at hf
  obtain ⟨z1, hq, hf⟩ := hbind hf
  refine hr_xcallv hf (vx_runS (As := [.int k0_17]) (rest := []) ⟨hx, hb, hml, hown, hts⟩ (met_x_there l D C a0 s0 ad so pr (Sum.elim g t) lt k0_17 hlst hq) (va_cwS 1 hts (lw_S q1159 q1160 q76 q1161) rfl rfl rfl (by decide +kernel) ⟨Nat.le_of_ble_eq_true rfl, Nat.le_of_ble_eq_true rfl⟩) (hr_preS hZ_c hM hIx hK hZ0 hA0 hS) rfl rfl hl.1 rfl (lv_room (Nat.le_of_ble_eq_true rfl)) dX1_order_17 ⟨Nat.le_of_ble_eq_true rfl, Nat.le_of_ble_eq_true rfl⟩) hS hex hlocks hIx (Nat.le_of_ble_eq_true rfl) (Nat.le_of_ble_eq_true rfl) (fun H locs hf hM hS => ?_)
  refine lv_aload_n hx hb dX1_order_20 rfl (lv_at hl 0 rfl) ?_
  refine hr_get (ci := 0) (C := RX1) (T := TX1) (N := 19) (r := .inl 0) hx hb hts in_X1 hown hK hM xS_0 rfl 7 (by decide) (hts _ q566) rfl (v := .ref (ad (.inl 3))) rfl dX1_order_21 ?_
  refine lv_iload_n hx hb dX1_order_24 rfl (lv_at hl 1 rfl) ?_
  refine hx_iald (r := 3) hx hb hK hM 0 xS_3 rfl hf dX1_order_25 (fun x2 hf => ?_)
  have eo := Option.some.inj hf
  subst eo
  refine W.widen (k := 1) (n := 6) (Nat.le_of_ble_eq_true rfl) (Nat.le_of_ble_eq_true rfl) ?_
  exact vx_ret (W.iret (v := x2) hx hb hr (fun T ht hW => ⟨⟨x2, x2, rfl, ⟨rfl, rfl⟩, by dsimp only; rw [ht]; exact hM⟩, hS.F ht⟩) hS.2.2 dX1_order_26)
set_option maxHeartbeats 4000000 in
set_option maxRecDepth 100000 in
theorem w_x_order_B16 {p : Program} {l : Launch} {e : Env} {s : State} {m : MethodId} {args : Array Value} {below : List Frame} {meth : Method} {c : Code} {D : va_G} {C : Nat → Nat} {a0 : Array Value} {s0 : State} {ad : Rl → Nat} {so : Nat → Option hS} {pr : hPr} {t : hSt} {lt : Rl → Nat → Int64} (CX : hCx D C a0 s0 p s m args meth c cX1_order 2 RX1 (some .int)) (hIx : hI (hA s0) ad (Sum.elim (xSH C pr) so)) (hex : ∀ x ∈ c.exceptionTable.toList, False) (hlst : l.stackTraces = false) (g : hSt) (p0 : Int32) {o : (Int32) ⊕ Nat} (hf : x_order_B16 g p0 = some o) {H : Heap} {locs : List Loc} (hM : hW D vwCl ad (Sum.elim (xSH C pr) so) (Sum.elim g t) lt H) (hS : va_S (hA s0) s.heap H locs) {ls : Array Slot} (hl : lv_has ls 2 [(0, .ref (ad (.inl 0))), (1, .int p0)]) : W p l e rm_x_order s m args below meth c H locs 0 0 (vx_MQ below (va_Qi (fun (r : Int32) (v : Int32) => o = .inl v ∧ r = v) (fun (v : Int32) (U : State) => hW D vwCl ad (Sum.elim (xSH C pr) so) (Sum.elim g t) lt U.heap) (hA s0)) (vx_X (fun k : Nat => o = .inr k) (fun (E : String) (k : Nat) (U : State) => E = hEx k ∧ hW D vwCl ad (Sum.elim (xSH C pr) so) (Sum.elim g t) lt U.heap) (hA s0)) args s 1 6 (hA s0)) (F0 m 16 ls []) := by
  obtain ⟨hx, hb, hr, hml, hown, hts, hlocks, hK, hZ0, hA0⟩ := CX
  unfold x_order_B16 at hf
  refine lv_iconst (v := 0) hx hb dX1_order_16 (by decide) ?_
  exact w_x_order_B17 ⟨hx, hb, hr, hml, hown, hts, hlocks, hK, hZ0, hA0⟩ hIx hex hlst g p0 (0 : Int32) hf hM hS (lv_sub hl [0, 1] rfl)
set_option maxHeartbeats 4000000 in
set_option maxRecDepth 100000 in
theorem w_x_order {p : Program} {l : Launch} {e : Env} {s : State} {m : MethodId} {args : Array Value} {below : List Frame} {meth : Method} {c : Code} {D : va_G} {C : Nat → Nat} {a0 : Array Value} {s0 : State} {ad : Rl → Nat} {so : Nat → Option hS} {pr : hPr} {t : hSt} {lt : Rl → Nat → Int64} (CX : hCx D C a0 s0 p s m args meth c cX1_order 2 RX1 (some .int)) (hIx : hI (hA s0) ad (Sum.elim (xSH C pr) so)) (hex : ∀ x ∈ c.exceptionTable.toList, False) (hlst : l.stackTraces = false) (g : hSt) (p0 : Int32) {o : (Int32) ⊕ Nat} (hf : x_order g p0 = some o) {H : Heap} {locs : List Loc} (hM : hW D vwCl ad (Sum.elim (xSH C pr) so) (Sum.elim g t) lt H) (hS : va_S (hA s0) s.heap H locs) {ls : Array Slot} (hl : lv_has ls 2 [(0, .ref (ad (.inl 0))), (1, .int p0)]) : W p l e rm_x_order s m args below meth c H locs 0 0 (vx_MQ below (va_Qi (fun (r : Int32) (v : Int32) => o = .inl v ∧ r = v) (fun (v : Int32) (U : State) => hW D vwCl ad (Sum.elim (xSH C pr) so) (Sum.elim g t) lt U.heap) (hA s0)) (vx_X (fun k : Nat => o = .inr k) (fun (E : String) (k : Nat) (U : State) => E = hEx k ∧ hW D vwCl ad (Sum.elim (xSH C pr) so) (Sum.elim g t) lt U.heap) (hA s0)) args s 1 6 (hA s0)) (F0 m 0 ls []) := by
  obtain ⟨hx, hb, hr, hml, hown, hts, hlocks, hK, hZ0, hA0⟩ := CX
  unfold x_order at hf
  refine lv_iload_n hx hb dX1_order_0 rfl (lv_at hl 1 rfl) ?_
  refine hb_if_lt (tgt := 16) hx hb dX1_order_1 (by decide) hf (fun hf => ?_) (fun hf => ?_)
  · exact w_x_order_B16 ⟨hx, hb, hr, hml, hown, hts, hlocks, hK, hZ0, hA0⟩ hIx hex hlst g p0 hf hM hS (lv_sub hl [0, 1] rfl)
  · refine lv_iload_n hx hb dX1_order_4 rfl (lv_at hl 1 rfl) ?_
    refine lv_aload_n hx hb dX1_order_5 rfl (lv_at hl 0 rfl) ?_
    refine hr_get (ci := 0) (C := RX1) (T := TX1) (N := 19) (r := .inl 0) hx hb hts in_X1 hown hK hM xS_0 rfl 9 (by decide) (hts _ q568) rfl (v := .int (g 0 9)) rfl dX1_order_6 ?_
    refine hb_icmp_ge (tgt := 16) hx hb dX1_order_9 (by decide) hf (fun hf => ?_) (fun hf => ?_)
    · exact w_x_order_B16 ⟨hx, hb, hr, hml, hown, hts, hlocks, hK, hZ0, hA0⟩ hIx hex hlst g p0 hf hM hS (lv_sub hl [0, 1] rfl)
    · refine lv_iconst (v := 1) hx hb dX1_order_12 (by decide) ?_
      refine lv_goto (tgt := 17) hx hb dX1_order_13 (by decide) ?_
      exact w_x_order_B17 ⟨hx, hb, hr, hml, hown, hts, hlocks, hK, hZ0, hA0⟩ hIx hex hlst g p0 (1 : Int32) hf hM hS (lv_sub hl [0, 1] rfl)
set_option maxHeartbeats 4000000 in
set_option maxRecDepth 100000 in
theorem met_x_order (l : Launch) (D : va_G) (C : Nat → Nat) (a0 : Array Value) (s0 : State) (ad : Rl → Nat) (so : Nat → Option hS) (pr : hPr) (t : hSt) (lt : Rl → Nat → Int64) (g : hSt) (p0 : Int32) (hlst : l.stackTraces = false) {o : (Int32) ⊕ Nat} (hf : x_order g p0 = some o) : vx_Met l yX1_order (ws_ yX1_order cX1_order 2 (some .int)) rm_x_order (va_Pc [.ref (ad (.inl 0)), .int p0] (hB D vwCl (hT C) (hA s0) (hZ a0 s0) ad (Sum.elim (xSH C pr) so) (Sum.elim g t) lt)) (va_Qi (fun (r : Int32) (v : Int32) => o = .inl v ∧ r = v) (fun (v : Int32) (U : State) => hW D vwCl ad (Sum.elim (xSH C pr) so) (Sum.elim g t) lt U.heap) (hA s0)) (vx_X (fun k : Nat => o = .inr k) (fun (E : String) (k : Nat) (U : State) => E = hEx k ∧ hW D vwCl ad (Sum.elim (xSH C pr) so) (Sum.elim g t) lt U.heap) (hA s0)) 1 6 (hA s0) := by
  refine vx_ofW (cc := cX1_order) (maxL := 2) (ret := (some .int)) (by decide) rfl ?_
  intro p e s m args below meth c s₁ B hml hex hv
  obtain ⟨rfl, hM, hIx, hK, hZ0, hA0⟩ := hv
  have hl := lv_entry ([.ref (ad (.inl 0)), .int p0]) (n := 2) (Nat.le_of_ble_eq_true rfl)
  rw [lg_entry_eq]
  generalize (lg_sl ([.ref (ad (.inl 0)), .int p0]) ++ List.replicate (2 - (lg_sl ([.ref (ad (.inl 0)), .int p0])).length) Slot.unset).toArray = ls at hl ⊢
  have hl : lv_has ls 2 [(0, .ref (ad (.inl 0))), (1, .int p0)] := hl
  exact w_x_order ⟨B.exec, B.bytes, B.returns, hml, findClass_of_methodNamed B.named, fun w h => atoms_spec (ws := ws_ yX1_order cX1_order 2 (some .int)) B.pre w (List.mem_cons_of_mem _ h), B.notSynchronized, hK, hZ0, hA0⟩ hIx hex hlst g p0 hf hM va_S.rf hl

def rm_x_shifts : Room := { frames := 1, cells := 0, slots := 0, locals := 16 }
set_option maxHeartbeats 4000000 in
set_option maxRecDepth 100000 in
theorem w_x_shifts_B64 {p : Program} {l : Launch} {e : Env} {s : State} {m : MethodId} {args : Array Value} {below : List Frame} {meth : Method} {c : Code} {D : va_G} {C : Nat → Nat} {a0 : Array Value} {s0 : State} {ad : Rl → Nat} {so : Nat → Option hS} {pr : hPr} {t : hSt} {tl : hLt} (CX : hCx D C a0 s0 p s m args meth c cX1_shifts 7 RX1 (none)) (hIx : hI (hA s0) ad (Sum.elim (xSH C pr) so)) (g : hSt) (gl : hLt) (p0 : Int32) (y2_1 : Int32) (y3_2 : Int32) (v4_14 : Int32) (gl_14 : hLt) (x3 : Int64) (y5_4 : Int64) (a5_64 : Int64) {oM : hLt} {o : (Int32 × hLt) ⊕ (hLt)} (hf : x_shifts_B64 v4_14 gl_14 a5_64 = some o) (kc : ∀ s' : Int32 × hLt, o = .inl s' → ∀ (H : Heap) (locs : List Loc) (ls : Array Slot), hW D vwCl ad (Sum.elim (xSH C pr) so) (Sum.elim g t) (Sum.elim s'.2 tl) H → va_S (hA s0) s.heap H locs → lv_has ls 7 [(0, .ref (ad (.inl 0))), (2, .int y2_1), (3, .int y3_2), (4, .int s'.1)] → W p l e rm_x_shifts s m args below meth c H locs 0 0 (MQ below (va_Qv (fun (_ : Unit) => True) (fun (_ : Unit) (U : State) => hW D vwCl ad (Sum.elim (xSH C pr) so) (Sum.elim g t) (Sum.elim oM tl) U.heap) (hA s0)) args s 0 0 (hA s0)) (F0 m 14 ls [])) (kx : ∀ x' : hLt, o = .inr x' → ∀ (H : Heap) (locs : List Loc) (ls : Array Slot), hW D vwCl ad (Sum.elim (xSH C pr) so) (Sum.elim g t) (Sum.elim x' tl) H → va_S (hA s0) s.heap H locs → lv_has ls 7 [] → W p l e rm_x_shifts s m args below meth c H locs 0 0 (MQ below (va_Qv (fun (_ : Unit) => True) (fun (_ : Unit) (U : State) => hW D vwCl ad (Sum.elim (xSH C pr) so) (Sum.elim g t) (Sum.elim oM tl) U.heap) (hA s0)) args s 0 0 (hA s0)) (F0 m 82 ls [])) {H : Heap} {locs : List Loc} (hM : hW D vwCl ad (Sum.elim (xSH C pr) so) (Sum.elim g t) (Sum.elim gl_14 tl) H) (hS : va_S (hA s0) s.heap H locs) {ls : Array Slot} (hl : lv_has ls 7 [(0, .ref (ad (.inl 0))), (2, .int y2_1), (3, .int y3_2), (4, .int v4_14), (5, .long a5_64)]) : W p l e rm_x_shifts s m args below meth c H locs 0 0 (MQ below (va_Qv (fun (_ : Unit) => True) (fun (_ : Unit) (U : State) => hW D vwCl ad (Sum.elim (xSH C pr) so) (Sum.elim g t) (Sum.elim oM tl) U.heap) (hA s0)) args s 0 0 (hA s0)) (F0 m 64 ls []) := by
  obtain ⟨hx, hb, hr, hml, hown, hts, hlocks, hK, hZ0, hA0⟩ := CX
  unfold x_shifts_B64 at hf
  refine lv_aload_n hx hb dX1_shifts_64 rfl (lv_at hl 0 rfl) ?_
  refine hr_get (ci := 0) (C := RX1) (T := TX1) (N := 19) (r := .inl 0) hx hb hts in_X1 hown hK hM xS_0 rfl 17 (by decide) (hts _ q576) rfl (v := .ref (ad (.inl 8))) rfl dX1_shifts_65 ?_
  refine lv_iload hx hb dX1_shifts_68 (lv_at hl 3 rfl) ?_
  refine lv_dup2_11 hx hb dX1_shifts_70 rfl rfl ?_
  refine hx_lald (r := 8) hx hb hK hM 3 xS_8 rfl hf dX1_shifts_71 (fun x5 hf => ?_)
  refine lv_lload hx hb dX1_shifts_72 (lv_at hl 4 rfl) ?_
  refine lv_lor hx hb dX1_shifts_74 ?_
  refine hx_last (r := 8) hx hb hK hM hIx hS 3 xS_8 rfl hf dX1_shifts_75 (fun gl6 H locs hf hM hS => ?_)
  obtain ⟨y4_7, ey, hf⟩ := hlet_ex hf
  refine lv_iinc (v := y4_7) (lv' := [(4, .int y4_7), (0, .ref (ad (.inl 0))), (2, .int y2_1), (3, .int y3_2), (5, .long a5_64)]) hx hb dX1_shifts_76 hl (k := 3) rfl (by rw [ey]; rfl) (by decide) rfl (fun ls hl => ?_)
  refine lv_goto (tgt := 14) hx hb dX1_shifts_79 (by decide) ?_
  exact kc (y4_7, gl6) (Option.some.inj hf).symm H locs ls hM hS (lv_sub hl [1, 2, 3, 0] rfl)
set_option maxHeartbeats 4000000 in
set_option maxRecDepth 100000 in
theorem w_x_shifts_L14 {p : Program} {l : Launch} {e : Env} {s : State} {m : MethodId} {args : Array Value} {below : List Frame} {meth : Method} {c : Code} {D : va_G} {C : Nat → Nat} {a0 : Array Value} {s0 : State} {ad : Rl → Nat} {so : Nat → Option hS} {pr : hPr} {t : hSt} {tl : hLt} (CX : hCx D C a0 s0 p s m args meth c cX1_shifts 7 RX1 (none)) (hIx : hI (hA s0) ad (Sum.elim (xSH C pr) so)) (g : hSt) (gl : hLt) (p0 : Int32) (y2_1 : Int32) (y3_2 : Int32) {oM : hLt} (x : hLt) (n : Nat) (q0 : Int32 × hLt) (h0 : hiter (fun q : Int32 × hLt => x_shifts_L14 y2_1 y3_2 q.1 q.2) n q0 = some x) (kx0 : ∀ (H : Heap) (locs : List Loc) (ls : Array Slot), hW D vwCl ad (Sum.elim (xSH C pr) so) (Sum.elim g t) (Sum.elim x tl) H → va_S (hA s0) s.heap H locs → lv_has ls 7 [] → W p l e rm_x_shifts s m args below meth c H locs 0 0 (MQ below (va_Qv (fun (_ : Unit) => True) (fun (_ : Unit) (U : State) => hW D vwCl ad (Sum.elim (xSH C pr) so) (Sum.elim g t) (Sum.elim oM tl) U.heap) (hA s0)) args s 0 0 (hA s0)) (F0 m 82 ls [])) : ∀ (H : Heap) (locs : List Loc) (ls : Array Slot), hW D vwCl ad (Sum.elim (xSH C pr) so) (Sum.elim g t) (Sum.elim q0.2 tl) H → va_S (hA s0) s.heap H locs → lv_has ls 7 [(0, .ref (ad (.inl 0))), (2, .int y2_1), (3, .int y3_2), (4, .int q0.1)] → W p l e rm_x_shifts s m args below meth c H locs 0 0 (MQ below (va_Qv (fun (_ : Unit) => True) (fun (_ : Unit) (U : State) => hW D vwCl ad (Sum.elim (xSH C pr) so) (Sum.elim g t) (Sum.elim oM tl) U.heap) (hA s0)) args s 0 0 (hA s0)) (F0 m 14 ls []) := by
  obtain ⟨hx, hb, hr, hml, hown, hts, hlocks, hK, hZ0, hA0⟩ := CX
  refine hiter_W (Wh := fun q => ∀ (H : Heap) (locs : List Loc) (ls : Array Slot), hW D vwCl ad (Sum.elim (xSH C pr) so) (Sum.elim g t) (Sum.elim q.2 tl) H → va_S (hA s0) s.heap H locs → lv_has ls 7 [(0, .ref (ad (.inl 0))), (2, .int y2_1), (3, .int y3_2), (4, .int q.1)] → W p l e rm_x_shifts s m args below meth c H locs 0 0 (MQ below (va_Qv (fun (_ : Unit) => True) (fun (_ : Unit) (U : State) => hW D vwCl ad (Sum.elim (xSH C pr) so) (Sum.elim g t) (Sum.elim oM tl) U.heap) (hA s0)) args s 0 0 (hA s0)) (F0 m 14 ls [])) ?_ n q0 h0
  intro q o hf kc kx1 H locs ls hM hS hl
  obtain ⟨v4_14, gl_14⟩ := q
  replace hf : x_shifts_L14 y2_1 y3_2 v4_14 gl_14 = some o := hf
  have kx : ∀ x' : hLt, o = .inr x' → ∀ (H : Heap) (locs : List Loc) (ls : Array Slot), hW D vwCl ad (Sum.elim (xSH C pr) so) (Sum.elim g t) (Sum.elim x' tl) H → va_S (hA s0) s.heap H locs → lv_has ls 7 [] → W p l e rm_x_shifts s m args below meth c H locs 0 0 (MQ below (va_Qv (fun (_ : Unit) => True) (fun (_ : Unit) (U : State) => hW D vwCl ad (Sum.elim (xSH C pr) so) (Sum.elim g t) (Sum.elim oM tl) U.heap) (hA s0)) args s 0 0 (hA s0)) (F0 m 82 ls []) := fun x' ex => by rw [kx1 _ ex]; exact kx0
  unfold x_shifts_L14 at hf
  refine lv_iload hx hb dX1_shifts_14 (lv_at hl 3 rfl) ?_
  refine lv_iload_n hx hb dX1_shifts_16 rfl (lv_at hl 1 rfl) ?_
  refine hb_icmp_lt (tgt := 82) hx hb dX1_shifts_17 (by decide) hf (fun hf => ?_) (fun hf => ?_)
  · exact kx gl_14 (Option.some.inj hf).symm H locs ls hM hS (lv_sub hl [] rfl)
  · refine lv_aload_n hx hb dX1_shifts_20 rfl (lv_at hl 0 rfl) ?_
    refine hr_get (ci := 0) (C := RX1) (T := TX1) (N := 19) (r := .inl 0) hx hb hts in_X1 hown hK hM xS_0 rfl 17 (by decide) (hts _ q576) rfl (v := .ref (ad (.inl 8))) rfl dX1_shifts_21 ?_
    refine lv_iload hx hb dX1_shifts_24 (lv_at hl 3 rfl) ?_
    refine lv_iload_n hx hb dX1_shifts_26 rfl (lv_at hl 1 rfl) ?_
    refine lv_isub hx hb dX1_shifts_27 ?_
    refine hx_lald (r := 8) hx hb hK hM 3 xS_8 rfl hf dX1_shifts_28 (fun x3 hf => ?_)
    refine lv_iload_n hx hb dX1_shifts_29 rfl (lv_at hl 2 rfl) ?_
    refine lv_lshl hx hb dX1_shifts_30 rfl ?_
    refine hb_topl hf (fun y5_4 hf => ?_)
    refine lv_lstore (lv' := [(5, .long y5_4), (0, .ref (ad (.inl 0))), (2, .int y2_1), (3, .int y3_2), (4, .int v4_14)]) hx hb dX1_shifts_31 hl (by decide) rfl (fun ls hl => ?_)
    refine lv_iload_n hx hb dX1_shifts_33 rfl (lv_at hl 3 rfl) ?_
    refine hb_if_le (tgt := 64) hx hb dX1_shifts_34 (by decide) hf (fun hf => ?_) (fun hf => ?_)
    · exact w_x_shifts_B64 ⟨hx, hb, hr, hml, hown, hts, hlocks, hK, hZ0, hA0⟩ hIx g gl p0 y2_1 y3_2 v4_14 gl_14 x3 y5_4 y5_4 hf kc kx hM hS (lv_sub hl [1, 2, 3, 4, 0] rfl)
    · refine lv_iload hx hb dX1_shifts_37 (lv_at hl 4 rfl) ?_
      refine lv_iload_n hx hb dX1_shifts_39 rfl (lv_at hl 2 rfl) ?_
      refine hb_icmp_le (tgt := 64) hx hb dX1_shifts_40 (by decide) hf (fun hf => ?_) (fun hf => ?_)
      · exact w_x_shifts_B64 ⟨hx, hb, hr, hml, hown, hts, hlocks, hK, hZ0, hA0⟩ hIx g gl p0 y2_1 y3_2 v4_14 gl_14 x3 y5_4 y5_4 hf kc kx hM hS (lv_sub hl [1, 2, 3, 4, 0] rfl)
      · refine lv_lload hx hb dX1_shifts_43 (lv_at hl 0 rfl) ?_
        refine lv_aload_n hx hb dX1_shifts_45 rfl (lv_at hl 1 rfl) ?_
        refine hr_get (ci := 0) (C := RX1) (T := TX1) (N := 19) (r := .inl 0) hx hb hts in_X1 hown hK hM xS_0 rfl 17 (by decide) (hts _ q576) rfl (v := .ref (ad (.inl 8))) rfl dX1_shifts_46 ?_
        refine lv_iload hx hb dX1_shifts_49 (lv_at hl 4 rfl) ?_
        refine lv_iload_n hx hb dX1_shifts_51 rfl (lv_at hl 2 rfl) ?_
        refine lv_isub hx hb dX1_shifts_52 ?_
        refine lv_iconst (v := 1) hx hb dX1_shifts_53 (by decide) ?_
        refine lv_isub hx hb dX1_shifts_54 ?_
        refine hx_lald (r := 8) hx hb hK hM 3 xS_8 rfl hf dX1_shifts_55 (fun x8 hf => ?_)
        refine lv_bipush (v := 64) hx hb dX1_shifts_56 (by decide) ?_
        refine lv_iload_n hx hb dX1_shifts_58 rfl (lv_at hl 3 rfl) ?_
        refine lv_isub hx hb dX1_shifts_59 ?_
        refine lv_lushr hx hb dX1_shifts_60 rfl ?_
        refine lv_lor hx hb dX1_shifts_61 ?_
        refine hb_topl hf (fun y5_9 hf => ?_)
        refine lv_lstore (lv' := [(5, .long y5_9), (0, .ref (ad (.inl 0))), (2, .int y2_1), (3, .int y3_2), (4, .int v4_14)]) hx hb dX1_shifts_62 hl (by decide) rfl (fun ls hl => ?_)
        exact w_x_shifts_B64 ⟨hx, hb, hr, hml, hown, hts, hlocks, hK, hZ0, hA0⟩ hIx g gl p0 y2_1 y3_2 v4_14 gl_14 x3 y5_4 y5_9 hf kc kx hM hS (lv_sub hl [1, 2, 3, 4, 0] rfl)
set_option maxHeartbeats 4000000 in
set_option maxRecDepth 100000 in
theorem w_x_shifts {p : Program} {l : Launch} {e : Env} {s : State} {m : MethodId} {args : Array Value} {below : List Frame} {meth : Method} {c : Code} {D : va_G} {C : Nat → Nat} {a0 : Array Value} {s0 : State} {ad : Rl → Nat} {so : Nat → Option hS} {pr : hPr} {t : hSt} {tl : hLt} (CX : hCx D C a0 s0 p s m args meth c cX1_shifts 7 RX1 (none)) (hIx : hI (hA s0) ad (Sum.elim (xSH C pr) so)) (g : hSt) (gl : hLt) (p0 : Int32) {o : hLt} (hf : x_shifts g gl p0 = some o) {H : Heap} {locs : List Loc} (hM : hW D vwCl ad (Sum.elim (xSH C pr) so) (Sum.elim g t) (Sum.elim gl tl) H) (hS : va_S (hA s0) s.heap H locs) {ls : Array Slot} (hl : lv_has ls 7 [(0, .ref (ad (.inl 0))), (1, .int p0)]) : W p l e rm_x_shifts s m args below meth c H locs 0 0 (MQ below (va_Qv (fun (_ : Unit) => True) (fun (_ : Unit) (U : State) => hW D vwCl ad (Sum.elim (xSH C pr) so) (Sum.elim g t) (Sum.elim o tl) U.heap) (hA s0)) args s 0 0 (hA s0)) (F0 m 0 ls []) := by
  obtain ⟨hx, hb, hr, hml, hown, hts, hlocks, hK, hZ0, hA0⟩ := CX
  unfold x_shifts at hf
  refine lv_iload_n hx hb dX1_shifts_0 rfl (lv_at hl 1 rfl) ?_
  refine lv_bipush (v := 64) hx hb dX1_shifts_1 (by decide) ?_
  refine lv_idiv hx hb dX1_shifts_3 (by decide) ?_
  refine hb_top hf (fun y2_1 hf => ?_)
  refine lv_istore_n (lv' := [(2, .int y2_1), (0, .ref (ad (.inl 0))), (1, .int p0)]) hx hb dX1_shifts_4 rfl hl (by decide) rfl (fun ls hl => ?_)
  refine lv_iload_n hx hb dX1_shifts_5 rfl (lv_at hl 2 rfl) ?_
  refine lv_bipush (v := 64) hx hb dX1_shifts_6 (by decide) ?_
  refine lv_irem hx hb dX1_shifts_8 (by decide) ?_
  refine hb_top hf (fun y3_2 hf => ?_)
  refine lv_istore_n (lv' := [(3, .int y3_2), (2, .int y2_1), (0, .ref (ad (.inl 0))), (1, .int p0)]) hx hb dX1_shifts_9 rfl hl (by decide) rfl (fun ls hl => ?_)
  refine lv_bipush (v := 19) hx hb dX1_shifts_10 (by decide) ?_
  refine lv_istore (lv' := [(4, .int (19 : Int32)), (3, .int y3_2), (2, .int y2_1), (0, .ref (ad (.inl 0))), (1, .int p0)]) hx hb dX1_shifts_12 hl (by decide) rfl (fun ls hl => ?_)
  obtain ⟨x10, hq, hf⟩ := hbind hf
  refine w_x_shifts_L14 ⟨hx, hb, hr, hml, hown, hts, hlocks, hK, hZ0, hA0⟩ hIx g gl p0 y2_1 y3_2 x10 hFU ((19 : Int32), gl) hq (fun H locs ls hM hS hl => ?_) H locs ls hM hS (lv_sub hl [3, 2, 1, 0] rfl)
  have eo := Option.some.inj hf
  subst eo
  exact W.vret hx hb hr (fun T ht hW => ⟨⟨(), rfl, trivial, by dsimp only; rw [ht]; exact hM⟩, hS.F ht⟩) hS.2.2 dX1_shifts_82
set_option maxHeartbeats 4000000 in
set_option maxRecDepth 100000 in
theorem met_x_shifts (l : Launch) (D : va_G) (C : Nat → Nat) (a0 : Array Value) (s0 : State) (ad : Rl → Nat) (so : Nat → Option hS) (pr : hPr) (t : hSt) (tl : hLt) (g : hSt) (gl : hLt) (p0 : Int32) {o : hLt} (hf : x_shifts g gl p0 = some o) : Met l yX1_shifts (ws_ yX1_shifts cX1_shifts 7 (none)) rm_x_shifts (va_Pc [.ref (ad (.inl 0)), .int p0] (hB D vwCl (hT C) (hA s0) (hZ a0 s0) ad (Sum.elim (xSH C pr) so) (Sum.elim g t) (Sum.elim gl tl))) (va_Qv (fun (_ : Unit) => True) (fun (_ : Unit) (U : State) => hW D vwCl ad (Sum.elim (xSH C pr) so) (Sum.elim g t) (Sum.elim o tl) U.heap) (hA s0)) 0 0 (hA s0) := by
  refine Met.ofW (cc := cX1_shifts) (maxL := 7) (ret := (none)) (by decide) rfl ?_
  intro p e s m args below meth c s₁ B hml hv
  obtain ⟨rfl, hM, hIx, hK, hZ0, hA0⟩ := hv
  have hl := lv_entry ([.ref (ad (.inl 0)), .int p0]) (n := 7) (Nat.le_of_ble_eq_true rfl)
  rw [lg_entry_eq]
  generalize (lg_sl ([.ref (ad (.inl 0)), .int p0]) ++ List.replicate (7 - (lg_sl ([.ref (ad (.inl 0)), .int p0])).length) Slot.unset).toArray = ls at hl ⊢
  have hl : lv_has ls 7 [(0, .ref (ad (.inl 0))), (1, .int p0)] := hl
  exact w_x_shifts ⟨B.exec, B.bytes, B.returns, hml, findClass_of_methodNamed B.named, fun w h => atoms_spec (ws := ws_ yX1_shifts cX1_shifts 7 (none)) B.pre w (List.mem_cons_of_mem _ h), B.notSynchronized, hK, hZ0, hA0⟩ hIx g gl p0 hf hM va_S.rf hl

def rm_x_makes : Room := { frames := 3, cells := 0, slots := 0, locals := 43 }
set_option maxHeartbeats 4000000 in
set_option maxRecDepth 100000 in
theorem w_x_makes_B22 {p : Program} {l : Launch} {e : Env} {s : State} {m : MethodId} {args : Array Value} {below : List Frame} {meth : Method} {c : Code} {D : va_G} {C : Nat → Nat} {a0 : Array Value} {s0 : State} {ad : Rl → Nat} {so : Nat → Option hS} {pr : hPr} {t : hSt} {tl : hLt} (CX : hCx D C a0 s0 p s m args meth c cX1_makes 4 RX1 (none)) (hIx : hI (hA s0) ad (Sum.elim (xSH C pr) so)) (g : hSt) (gl : hLt) (b0 : Nat) (p1 : Int32) (v3_2 : Int32) (gl_2 : hLt) (k0_22 : Int64) (k1_22 : Int32) (h_b0 : xSt C (xSH C pr) b0) {oM : hLt} {o : (Int32 × hLt) ⊕ (hLt)} (hf : x_makes_B22 v3_2 gl_2 k0_22 k1_22 = some o) (kc : ∀ s' : Int32 × hLt, o = .inl s' → ∀ (H : Heap) (locs : List Loc) (ls : Array Slot), hW D vwCl ad (Sum.elim (xSH C pr) so) (Sum.elim g t) (Sum.elim s'.2 tl) H → va_S (hA s0) s.heap H locs → lv_has ls 4 [(0, .ref (ad (.inl 0))), (1, .ref (ad (.inl b0))), (2, .int p1), (3, .int s'.1)] → W p l e rm_x_makes s m args below meth c H locs 0 0 (MQ below (va_Qv (fun (_ : Unit) => True) (fun (_ : Unit) (U : State) => hW D vwCl ad (Sum.elim (xSH C pr) so) (Sum.elim g t) (Sum.elim oM tl) U.heap) (hA s0)) args s 0 0 (hA s0)) (F0 m 2 ls [])) (kx : ∀ x' : hLt, o = .inr x' → ∀ (H : Heap) (locs : List Loc) (ls : Array Slot), hW D vwCl ad (Sum.elim (xSH C pr) so) (Sum.elim g t) (Sum.elim x' tl) H → va_S (hA s0) s.heap H locs → lv_has ls 4 [(0, .ref (ad (.inl 0))), (1, .ref (ad (.inl b0))), (2, .int p1)] → W p l e rm_x_makes s m args below meth c H locs 0 0 (MQ below (va_Qv (fun (_ : Unit) => True) (fun (_ : Unit) (U : State) => hW D vwCl ad (Sum.elim (xSH C pr) so) (Sum.elim g t) (Sum.elim oM tl) U.heap) (hA s0)) args s 0 0 (hA s0)) (F0 m 29 ls [])) {H : Heap} {locs : List Loc} (hM : hW D vwCl ad (Sum.elim (xSH C pr) so) (Sum.elim g t) (Sum.elim gl_2 tl) H) (hS : va_S (hA s0) s.heap H locs) {ls : Array Slot} (hl : lv_has ls 4 [(0, .ref (ad (.inl 0))), (1, .ref (ad (.inl b0))), (2, .int p1), (3, .int v3_2)]) : W p l e rm_x_makes s m args below meth c H locs 0 0 (MQ below (va_Qv (fun (_ : Unit) => True) (fun (_ : Unit) (U : State) => hW D vwCl ad (Sum.elim (xSH C pr) so) (Sum.elim g t) (Sum.elim oM tl) U.heap) (hA s0)) args s 0 0 (hA s0)) (F0 m 22 ls [.long k0_22, .int k1_22, .ref (ad (.inl 8))]) := by
  obtain ⟨hx, hb, hr, hml, hown, hts, hlocks, hK, hZ0, hA0⟩ := CX
  unfold x_makes_B22 at hf
  refine hx_last (r := 8) hx hb hK hM hIx hS 3 xS_8 rfl hf dX1_makes_22 (fun gl1 H locs hf hM hS => ?_)
  obtain ⟨y3_2, ey, hf⟩ := hlet_ex hf
  refine lv_iinc (v := y3_2) (lv' := [(3, .int y3_2), (0, .ref (ad (.inl 0))), (1, .ref (ad (.inl b0))), (2, .int p1)]) hx hb dX1_makes_23 hl (k := 3) rfl (by rw [ey]; rfl) (by decide) rfl (fun ls hl => ?_)
  refine lv_goto (tgt := 2) hx hb dX1_makes_26 (by decide) ?_
  exact kc (y3_2, gl1) (Option.some.inj hf).symm H locs ls hM hS (lv_sub hl [1, 2, 3, 0] rfl)
set_option maxHeartbeats 4000000 in
set_option maxRecDepth 100000 in
theorem w_x_makes_L2 {p : Program} {l : Launch} {e : Env} {s : State} {m : MethodId} {args : Array Value} {below : List Frame} {meth : Method} {c : Code} {D : va_G} {C : Nat → Nat} {a0 : Array Value} {s0 : State} {ad : Rl → Nat} {so : Nat → Option hS} {pr : hPr} {t : hSt} {tl : hLt} (CX : hCx D C a0 s0 p s m args meth c cX1_makes 4 RX1 (none)) (hIx : hI (hA s0) ad (Sum.elim (xSH C pr) so)) (g : hSt) (gl : hLt) (b0 : Nat) (p1 : Int32) (h_b0 : xSt C (xSH C pr) b0) {oM : hLt} (x : hLt) (n : Nat) (q0 : Int32 × hLt) (h0 : hiter (fun q : Int32 × hLt => x_makes_L2 q.1 q.2) n q0 = some x) (kx0 : ∀ (H : Heap) (locs : List Loc) (ls : Array Slot), hW D vwCl ad (Sum.elim (xSH C pr) so) (Sum.elim g t) (Sum.elim x tl) H → va_S (hA s0) s.heap H locs → lv_has ls 4 [(0, .ref (ad (.inl 0))), (1, .ref (ad (.inl b0))), (2, .int p1)] → W p l e rm_x_makes s m args below meth c H locs 0 0 (MQ below (va_Qv (fun (_ : Unit) => True) (fun (_ : Unit) (U : State) => hW D vwCl ad (Sum.elim (xSH C pr) so) (Sum.elim g t) (Sum.elim oM tl) U.heap) (hA s0)) args s 0 0 (hA s0)) (F0 m 29 ls [])) : ∀ (H : Heap) (locs : List Loc) (ls : Array Slot), hW D vwCl ad (Sum.elim (xSH C pr) so) (Sum.elim g t) (Sum.elim q0.2 tl) H → va_S (hA s0) s.heap H locs → lv_has ls 4 [(0, .ref (ad (.inl 0))), (1, .ref (ad (.inl b0))), (2, .int p1), (3, .int q0.1)] → W p l e rm_x_makes s m args below meth c H locs 0 0 (MQ below (va_Qv (fun (_ : Unit) => True) (fun (_ : Unit) (U : State) => hW D vwCl ad (Sum.elim (xSH C pr) so) (Sum.elim g t) (Sum.elim oM tl) U.heap) (hA s0)) args s 0 0 (hA s0)) (F0 m 2 ls []) := by
  obtain ⟨hx, hb, hr, hml, hown, hts, hlocks, hK, hZ0, hA0⟩ := CX
  refine hiter_W (Wh := fun q => ∀ (H : Heap) (locs : List Loc) (ls : Array Slot), hW D vwCl ad (Sum.elim (xSH C pr) so) (Sum.elim g t) (Sum.elim q.2 tl) H → va_S (hA s0) s.heap H locs → lv_has ls 4 [(0, .ref (ad (.inl 0))), (1, .ref (ad (.inl b0))), (2, .int p1), (3, .int q.1)] → W p l e rm_x_makes s m args below meth c H locs 0 0 (MQ below (va_Qv (fun (_ : Unit) => True) (fun (_ : Unit) (U : State) => hW D vwCl ad (Sum.elim (xSH C pr) so) (Sum.elim g t) (Sum.elim oM tl) U.heap) (hA s0)) args s 0 0 (hA s0)) (F0 m 2 ls [])) ?_ n q0 h0
  intro q o hf kc kx1 H locs ls hM hS hl
  obtain ⟨v3_2, gl_2⟩ := q
  replace hf : x_makes_L2 v3_2 gl_2 = some o := hf
  have kx : ∀ x' : hLt, o = .inr x' → ∀ (H : Heap) (locs : List Loc) (ls : Array Slot), hW D vwCl ad (Sum.elim (xSH C pr) so) (Sum.elim g t) (Sum.elim x' tl) H → va_S (hA s0) s.heap H locs → lv_has ls 4 [(0, .ref (ad (.inl 0))), (1, .ref (ad (.inl b0))), (2, .int p1)] → W p l e rm_x_makes s m args below meth c H locs 0 0 (MQ below (va_Qv (fun (_ : Unit) => True) (fun (_ : Unit) (U : State) => hW D vwCl ad (Sum.elim (xSH C pr) so) (Sum.elim g t) (Sum.elim oM tl) U.heap) (hA s0)) args s 0 0 (hA s0)) (F0 m 29 ls []) := fun x' ex => by rw [kx1 _ ex]; exact kx0
  unfold x_makes_L2 at hf
  refine lv_iload_n hx hb dX1_makes_2 rfl (lv_at hl 3 rfl) ?_
  refine lv_bipush (v := 20) hx hb dX1_makes_3 (by decide) ?_
  refine hb_icmp_ge (tgt := 29) hx hb dX1_makes_5 (by decide) hf (fun hf => ?_) (fun hf => ?_)
  · exact kx gl_2 (Option.some.inj hf).symm H locs ls hM hS (lv_sub hl [0, 1, 2] rfl)
  · refine lv_aload_n hx hb dX1_makes_8 rfl (lv_at hl 0 rfl) ?_
    refine hr_get (ci := 0) (C := RX1) (T := TX1) (N := 19) (r := .inl 0) hx hb hts in_X1 hown hK hM xS_0 rfl 17 (by decide) (hts _ q576) rfl (v := .ref (ad (.inl 8))) rfl dX1_makes_9 ?_
    refine lv_iload_n hx hb dX1_makes_12 rfl (lv_at hl 3 rfl) ?_
    refine lv_iload_n hx hb dX1_makes_13 rfl (lv_at hl 3 rfl) ?_
    refine hb_if_ne (tgt := 21) hx hb dX1_makes_14 (by decide) hf (fun hf => ?_) (fun hf => ?_)
    · refine lv_lconst (v := 0) hx hb dX1_makes_21 (by decide) ?_
      exact w_x_makes_B22 ⟨hx, hb, hr, hml, hown, hts, hlocks, hK, hZ0, hA0⟩ hIx g gl b0 p1 v3_2 gl_2 (0 : Int64) v3_2 h_b0 hf kc kx hM hS (lv_sub hl [0, 1, 2, 3] rfl)
    · refine lv_lconst (v := 1) hx hb dX1_makes_17 (by decide) ?_
      refine lv_goto (tgt := 22) hx hb dX1_makes_18 (by decide) ?_
      exact w_x_makes_B22 ⟨hx, hb, hr, hml, hown, hts, hlocks, hK, hZ0, hA0⟩ hIx g gl b0 p1 v3_2 gl_2 (1 : Int64) v3_2 h_b0 hf kc kx hM hS (lv_sub hl [0, 1, 2, 3] rfl)
set_option maxHeartbeats 4000000 in
set_option maxRecDepth 100000 in
theorem w_x_makes_L31 {p : Program} {l : Launch} {e : Env} {s : State} {m : MethodId} {args : Array Value} {below : List Frame} {meth : Method} {c : Code} {D : va_G} {C : Nat → Nat} {a0 : Array Value} {s0 : State} {ad : Rl → Nat} {so : Nat → Option hS} {pr : hPr} {t : hSt} {tl : hLt} (CX : hCx D C a0 s0 p s m args meth c cX1_makes 4 RX1 (none)) (hIx : hI (hA s0) ad (Sum.elim (xSH C pr) so)) (g : hSt) (gl : hLt) (b0 : Nat) (p1 : Int32) (x3 : hLt) (h_b0 : xSt C (xSH C pr) b0) {oM : hLt} (x : hLt) (n : Nat) (q0 : Int32 × hLt) (h0 : hiter (fun q : Int32 × hLt => x_makes_L31 g b0 p1 q.1 q.2) n q0 = some x) (kx0 : ∀ (H : Heap) (locs : List Loc) (ls : Array Slot), hW D vwCl ad (Sum.elim (xSH C pr) so) (Sum.elim g t) (Sum.elim x tl) H → va_S (hA s0) s.heap H locs → lv_has ls 4 [] → W p l e rm_x_makes s m args below meth c H locs 0 0 (MQ below (va_Qv (fun (_ : Unit) => True) (fun (_ : Unit) (U : State) => hW D vwCl ad (Sum.elim (xSH C pr) so) (Sum.elim g t) (Sum.elim oM tl) U.heap) (hA s0)) args s 0 0 (hA s0)) (F0 m 62 ls [])) : ∀ (H : Heap) (locs : List Loc) (ls : Array Slot), hW D vwCl ad (Sum.elim (xSH C pr) so) (Sum.elim g t) (Sum.elim q0.2 tl) H → va_S (hA s0) s.heap H locs → lv_has ls 4 [(0, .ref (ad (.inl 0))), (1, .ref (ad (.inl b0))), (2, .int p1), (3, .int q0.1)] → W p l e rm_x_makes s m args below meth c H locs 0 0 (MQ below (va_Qv (fun (_ : Unit) => True) (fun (_ : Unit) (U : State) => hW D vwCl ad (Sum.elim (xSH C pr) so) (Sum.elim g t) (Sum.elim oM tl) U.heap) (hA s0)) args s 0 0 (hA s0)) (F0 m 31 ls []) := by
  obtain ⟨hx, hb, hr, hml, hown, hts, hlocks, hK, hZ0, hA0⟩ := CX
  refine hiter_W (Wh := fun q => ∀ (H : Heap) (locs : List Loc) (ls : Array Slot), hW D vwCl ad (Sum.elim (xSH C pr) so) (Sum.elim g t) (Sum.elim q.2 tl) H → va_S (hA s0) s.heap H locs → lv_has ls 4 [(0, .ref (ad (.inl 0))), (1, .ref (ad (.inl b0))), (2, .int p1), (3, .int q.1)] → W p l e rm_x_makes s m args below meth c H locs 0 0 (MQ below (va_Qv (fun (_ : Unit) => True) (fun (_ : Unit) (U : State) => hW D vwCl ad (Sum.elim (xSH C pr) so) (Sum.elim g t) (Sum.elim oM tl) U.heap) (hA s0)) args s 0 0 (hA s0)) (F0 m 31 ls [])) ?_ n q0 h0
  intro q o hf kc kx1 H locs ls hM hS hl
  obtain ⟨v3_31, gl_31⟩ := q
  replace hf : x_makes_L31 g b0 p1 v3_31 gl_31 = some o := hf
  have kx : ∀ x' : hLt, o = .inr x' → ∀ (H : Heap) (locs : List Loc) (ls : Array Slot), hW D vwCl ad (Sum.elim (xSH C pr) so) (Sum.elim g t) (Sum.elim x' tl) H → va_S (hA s0) s.heap H locs → lv_has ls 4 [] → W p l e rm_x_makes s m args below meth c H locs 0 0 (MQ below (va_Qv (fun (_ : Unit) => True) (fun (_ : Unit) (U : State) => hW D vwCl ad (Sum.elim (xSH C pr) so) (Sum.elim g t) (Sum.elim oM tl) U.heap) (hA s0)) args s 0 0 (hA s0)) (F0 m 62 ls []) := fun x' ex => by rw [kx1 _ ex]; exact kx0
  unfold x_makes_L31 at hf
  refine lv_iload_n hx hb dX1_makes_31 rfl (lv_at hl 3 rfl) ?_
  refine lv_bipush (v := 12) hx hb dX1_makes_32 (by decide) ?_
  refine hb_icmp_ge (tgt := 62) hx hb dX1_makes_34 (by decide) hf (fun hf => ?_) (fun hf => ?_)
  · exact kx gl_31 (Option.some.inj hf).symm H locs ls hM hS (lv_sub hl [] rfl)
  · refine lv_iload_n hx hb dX1_makes_37 rfl (lv_at hl 2 rfl) ?_
    refine lv_iload_n hx hb dX1_makes_38 rfl (lv_at hl 3 rfl) ?_
    refine lv_ishr hx hb dX1_makes_39 ?_
    refine lv_iconst (v := 1) hx hb dX1_makes_40 (by decide) ?_
    refine lv_iand hx hb dX1_makes_41 ?_
    refine lv_iconst (v := 1) hx hb dX1_makes_42 (by decide) ?_
    refine hb_icmp_ne (tgt := 56) hx hb dX1_makes_43 (by decide) hf (fun hf => ?_) (fun hf => ?_)
    · obtain ⟨y3_4, ey, hf⟩ := hlet_ex hf
      refine lv_iinc (v := y3_4) (lv' := [(3, .int y3_4), (0, .ref (ad (.inl 0))), (1, .ref (ad (.inl b0))), (2, .int p1)]) hx hb dX1_makes_56 hl (k := 3) rfl (by rw [ey]; rfl) (by decide) rfl (fun ls hl => ?_)
      refine lv_goto (tgt := 31) hx hb dX1_makes_59 (by decide) ?_
      exact kc (y3_4, gl_31) (Option.some.inj hf).symm H locs ls hM hS (lv_sub hl [1, 2, 3, 0] rfl)
    · refine lv_aload_n hx hb dX1_makes_46 rfl (lv_at hl 0 rfl) ?_
      refine lv_aload_n hx hb dX1_makes_47 rfl (lv_at hl 1 rfl) ?_
      refine hr_getN (ci := 1) (C := RX4) (T := TX4) (N := 6) (r := .inl b0) hx hb hts in_X4 hown hK hM h_b0.o rfl 4 (by decide) (hZ_nest hZ0 q525 rfl) rfl (v := .ref (ad (.inl (b0 + 5)))) rfl dX1_makes_48 ?_
      refine lv_iload_n hx hb dX1_makes_51 rfl (lv_at hl 3 rfl) ?_
      refine hx_iald (r := (b0 + 5)) hx hb hK hM 0 h_b0.a5 rfl hf dX1_makes_52 (fun x5 hf => ?_)
      obtain ⟨y6, hq, hf⟩ := hbind hf
      refine hr_callv0 (va_runV (As := [.int x5]) (rest := []) ⟨hx, hb, hml, hown, hts⟩ (met_x_shifts l D C a0 s0 ad so pr t tl g gl_31 x5 hq) (cwV 1 hts (lw_V q1304 q1306 qs30 q76 q1307) rfl rfl rfl (by decide +kernel) ⟨Nat.le_of_ble_eq_true rfl, Nat.le_of_ble_eq_true rfl⟩) (hr_preV hZ_c hM hIx hK hZ0 hA0 hS (r := .inl 0) xS_0 (q := (RX1, TX1, 19)) rfl) rfl rfl hl.1 rfl (lv_room (Nat.le_of_ble_eq_true rfl)) dX1_makes_53 ⟨Nat.le_of_ble_eq_true rfl, Nat.le_of_ble_eq_true rfl⟩) hS (fun H locs hM hS => ?_)
      obtain ⟨y3_7, ey, hf⟩ := hlet_ex hf
      refine lv_iinc (v := y3_7) (lv' := [(3, .int y3_7), (0, .ref (ad (.inl 0))), (1, .ref (ad (.inl b0))), (2, .int p1)]) hx hb dX1_makes_56 hl (k := 3) rfl (by rw [ey]; rfl) (by decide) rfl (fun ls hl => ?_)
      refine lv_goto (tgt := 31) hx hb dX1_makes_59 (by decide) ?_
      exact kc (y3_7, y6) (Option.some.inj hf).symm H locs ls hM hS (lv_sub hl [1, 2, 3, 0] rfl)
set_option maxHeartbeats 4000000 in
set_option maxRecDepth 100000 in
theorem w_x_makes {p : Program} {l : Launch} {e : Env} {s : State} {m : MethodId} {args : Array Value} {below : List Frame} {meth : Method} {c : Code} {D : va_G} {C : Nat → Nat} {a0 : Array Value} {s0 : State} {ad : Rl → Nat} {so : Nat → Option hS} {pr : hPr} {t : hSt} {tl : hLt} (CX : hCx D C a0 s0 p s m args meth c cX1_makes 4 RX1 (none)) (hIx : hI (hA s0) ad (Sum.elim (xSH C pr) so)) (g : hSt) (gl : hLt) (b0 : Nat) (p1 : Int32) (h_b0 : xSt C (xSH C pr) b0) {o : hLt} (hf : x_makes g gl b0 p1 = some o) {H : Heap} {locs : List Loc} (hM : hW D vwCl ad (Sum.elim (xSH C pr) so) (Sum.elim g t) (Sum.elim gl tl) H) (hS : va_S (hA s0) s.heap H locs) {ls : Array Slot} (hl : lv_has ls 4 [(0, .ref (ad (.inl 0))), (1, .ref (ad (.inl b0))), (2, .int p1)]) : W p l e rm_x_makes s m args below meth c H locs 0 0 (MQ below (va_Qv (fun (_ : Unit) => True) (fun (_ : Unit) (U : State) => hW D vwCl ad (Sum.elim (xSH C pr) so) (Sum.elim g t) (Sum.elim o tl) U.heap) (hA s0)) args s 0 0 (hA s0)) (F0 m 0 ls []) := by
  obtain ⟨hx, hb, hr, hml, hown, hts, hlocks, hK, hZ0, hA0⟩ := CX
  unfold x_makes at hf
  refine lv_iconst (v := 0) hx hb dX1_makes_0 (by decide) ?_
  refine lv_istore_n (lv' := [(3, .int (0 : Int32)), (0, .ref (ad (.inl 0))), (1, .ref (ad (.inl b0))), (2, .int p1)]) hx hb dX1_makes_1 rfl hl (by decide) rfl (fun ls hl => ?_)
  obtain ⟨x3, hq, hf⟩ := hbind hf
  refine w_x_makes_L2 ⟨hx, hb, hr, hml, hown, hts, hlocks, hK, hZ0, hA0⟩ hIx g gl b0 p1 h_b0 x3 hFU ((0 : Int32), gl) hq (fun H locs ls hM hS hl => ?_) H locs ls hM hS (lv_sub hl [1, 2, 3, 0] rfl)
  refine lv_iconst (v := 0) hx hb dX1_makes_29 (by decide) ?_
  refine lv_istore_n (lv' := [(3, .int (0 : Int32)), (0, .ref (ad (.inl 0))), (1, .ref (ad (.inl b0))), (2, .int p1)]) hx hb dX1_makes_30 rfl hl (by decide) rfl (fun ls hl => ?_)
  obtain ⟨x8, hq, hf⟩ := hbind hf
  refine w_x_makes_L31 ⟨hx, hb, hr, hml, hown, hts, hlocks, hK, hZ0, hA0⟩ hIx g gl b0 p1 x3 h_b0 x8 hFU ((0 : Int32), x3) hq (fun H locs ls hM hS hl => ?_) H locs ls hM hS (lv_sub hl [1, 2, 3, 0] rfl)
  have eo := Option.some.inj hf
  subst eo
  exact W.vret hx hb hr (fun T ht hW => ⟨⟨(), rfl, trivial, by dsimp only; rw [ht]; exact hM⟩, hS.F ht⟩) hS.2.2 dX1_makes_62
set_option maxHeartbeats 4000000 in
set_option maxRecDepth 100000 in
theorem met_x_makes (l : Launch) (D : va_G) (C : Nat → Nat) (a0 : Array Value) (s0 : State) (ad : Rl → Nat) (so : Nat → Option hS) (pr : hPr) (t : hSt) (tl : hLt) (g : hSt) (gl : hLt) (b0 : Nat) (p1 : Int32) (h_b0 : xSt C (xSH C pr) b0) {o : hLt} (hf : x_makes g gl b0 p1 = some o) : Met l yX1_makes (ws_ yX1_makes cX1_makes 4 (none)) rm_x_makes (va_Pc [.ref (ad (.inl 0)), .ref (ad (.inl b0)), .int p1] (hB D vwCl (hT C) (hA s0) (hZ a0 s0) ad (Sum.elim (xSH C pr) so) (Sum.elim g t) (Sum.elim gl tl))) (va_Qv (fun (_ : Unit) => True) (fun (_ : Unit) (U : State) => hW D vwCl ad (Sum.elim (xSH C pr) so) (Sum.elim g t) (Sum.elim o tl) U.heap) (hA s0)) 0 0 (hA s0) := by
  refine Met.ofW (cc := cX1_makes) (maxL := 4) (ret := (none)) (by decide) rfl ?_
  intro p e s m args below meth c s₁ B hml hv
  obtain ⟨rfl, hM, hIx, hK, hZ0, hA0⟩ := hv
  have hl := lv_entry ([.ref (ad (.inl 0)), .ref (ad (.inl b0)), .int p1]) (n := 4) (Nat.le_of_ble_eq_true rfl)
  rw [lg_entry_eq]
  generalize (lg_sl ([.ref (ad (.inl 0)), .ref (ad (.inl b0)), .int p1]) ++ List.replicate (4 - (lg_sl ([.ref (ad (.inl 0)), .ref (ad (.inl b0)), .int p1])).length) Slot.unset).toArray = ls at hl ⊢
  have hl : lv_has ls 4 [(0, .ref (ad (.inl 0))), (1, .ref (ad (.inl b0))), (2, .int p1)] := hl
  exact w_x_makes ⟨B.exec, B.bytes, B.returns, hml, findClass_of_methodNamed B.named, fun w h => atoms_spec (ws := ws_ yX1_makes cX1_makes 4 (none)) B.pre w (List.mem_cons_of_mem _ h), B.notSynchronized, hK, hZ0, hA0⟩ hIx g gl b0 p1 h_b0 hf hM va_S.rf hl

def rm_x_isMade : Room := { frames := 1, cells := 0, slots := 0, locals := 16 }
set_option maxHeartbeats 4000000 in
set_option maxRecDepth 100000 in
theorem w_x_isMade_B36 {p : Program} {l : Launch} {e : Env} {s : State} {m : MethodId} {args : Array Value} {below : List Frame} {meth : Method} {c : Code} {D : va_G} {C : Nat → Nat} {a0 : Array Value} {s0 : State} {ad : Rl → Nat} {so : Nat → Option hS} {pr : hPr} {t : hSt} {tl : hLt} (CX : hCx D C a0 s0 p s m args meth c cX1_isMade 2 RX1 (some .boolean)) (hIx : hI (hA s0) ad (Sum.elim (xSH C pr) so)) (g : hSt) (gl : hLt) (p0 : Int32) {o : Int32} (hf : x_isMade_B36 = some o) {H : Heap} {locs : List Loc} (hM : hW D vwCl ad (Sum.elim (xSH C pr) so) (Sum.elim g t) (Sum.elim gl tl) H) (hS : va_S (hA s0) s.heap H locs) {ls : Array Slot} (hl : lv_has ls 2 []) : W p l e rm_x_isMade s m args below meth c H locs 0 0 (MQ below (va_Qi (fun (r : Int32) (_ : Unit) => r = o) (fun (_ : Unit) (U : State) => hW D vwCl ad (Sum.elim (xSH C pr) so) (Sum.elim g t) (Sum.elim gl tl) U.heap) (hA s0)) args s 0 0 (hA s0)) (F0 m 36 ls []) := by
  obtain ⟨hx, hb, hr, hml, hown, hts, hlocks, hK, hZ0, hA0⟩ := CX
  unfold x_isMade_B36 at hf
  refine lv_iconst (v := 0) hx hb dX1_isMade_36 (by decide) ?_
  have eo := Option.some.inj hf
  subst eo
  exact W.zret (v := (0 : Int32)) hx hb hr rfl (fun T ht hW => ⟨⟨(0 : Int32), (), rfl, rfl, by dsimp only; rw [ht]; exact hM⟩, hS.F ht⟩) hS.2.2 dX1_isMade_37
set_option maxHeartbeats 4000000 in
set_option maxRecDepth 100000 in
theorem w_x_isMade {p : Program} {l : Launch} {e : Env} {s : State} {m : MethodId} {args : Array Value} {below : List Frame} {meth : Method} {c : Code} {D : va_G} {C : Nat → Nat} {a0 : Array Value} {s0 : State} {ad : Rl → Nat} {so : Nat → Option hS} {pr : hPr} {t : hSt} {tl : hLt} (CX : hCx D C a0 s0 p s m args meth c cX1_isMade 2 RX1 (some .boolean)) (hIx : hI (hA s0) ad (Sum.elim (xSH C pr) so)) (g : hSt) (gl : hLt) (p0 : Int32) {o : Int32} (hf : x_isMade g gl p0 = some o) {H : Heap} {locs : List Loc} (hM : hW D vwCl ad (Sum.elim (xSH C pr) so) (Sum.elim g t) (Sum.elim gl tl) H) (hS : va_S (hA s0) s.heap H locs) {ls : Array Slot} (hl : lv_has ls 2 [(0, .ref (ad (.inl 0))), (1, .int p0)]) : W p l e rm_x_isMade s m args below meth c H locs 0 0 (MQ below (va_Qi (fun (r : Int32) (_ : Unit) => r = o) (fun (_ : Unit) (U : State) => hW D vwCl ad (Sum.elim (xSH C pr) so) (Sum.elim g t) (Sum.elim gl tl) U.heap) (hA s0)) args s 0 0 (hA s0)) (F0 m 0 ls []) := by
  obtain ⟨hx, hb, hr, hml, hown, hts, hlocks, hK, hZ0, hA0⟩ := CX
  unfold x_isMade at hf
  refine lv_iload_n hx hb dX1_isMade_0 rfl (lv_at hl 1 rfl) ?_
  refine hb_if_lt (tgt := 36) hx hb dX1_isMade_1 (by decide) hf (fun hf => ?_) (fun hf => ?_)
  · exact w_x_isMade_B36 ⟨hx, hb, hr, hml, hown, hts, hlocks, hK, hZ0, hA0⟩ hIx g gl p0 hf hM hS (lv_sub hl [] rfl)
  · refine lv_iload_n hx hb dX1_isMade_4 rfl (lv_at hl 1 rfl) ?_
    refine lv_sipush (v := 1280) hx hb dX1_isMade_5 (by decide) ?_
    refine hb_icmp_ge (tgt := 36) hx hb dX1_isMade_8 (by decide) hf (fun hf => ?_) (fun hf => ?_)
    · exact w_x_isMade_B36 ⟨hx, hb, hr, hml, hown, hts, hlocks, hK, hZ0, hA0⟩ hIx g gl p0 hf hM hS (lv_sub hl [] rfl)
    · refine lv_aload_n hx hb dX1_isMade_11 rfl (lv_at hl 0 rfl) ?_
      refine hr_get (ci := 0) (C := RX1) (T := TX1) (N := 19) (r := .inl 0) hx hb hts in_X1 hown hK hM xS_0 rfl 17 (by decide) (hts _ q576) rfl (v := .ref (ad (.inl 8))) rfl dX1_isMade_12 ?_
      refine lv_iload_n hx hb dX1_isMade_15 rfl (lv_at hl 1 rfl) ?_
      refine lv_bipush (v := 64) hx hb dX1_isMade_16 (by decide) ?_
      refine lv_idiv hx hb dX1_isMade_18 (by decide) ?_
      refine hx_lald (r := 8) hx hb hK hM 3 xS_8 rfl hf dX1_isMade_19 (fun x1 hf => ?_)
      refine lv_iload_n hx hb dX1_isMade_20 rfl (lv_at hl 1 rfl) ?_
      refine lv_bipush (v := 64) hx hb dX1_isMade_21 (by decide) ?_
      refine lv_irem hx hb dX1_isMade_23 (by decide) ?_
      refine lv_lshr hx hb dX1_isMade_24 rfl ?_
      refine lv_lconst (v := 1) hx hb dX1_isMade_25 (by decide) ?_
      refine lv_land hx hb dX1_isMade_26 ?_
      refine lv_lconst (v := 1) hx hb dX1_isMade_27 (by decide) ?_
      refine W.lcmp hx hb dX1_isMade_28 ?_
      refine hb_if_ne (tgt := 36) hx hb dX1_isMade_29 (by decide) hf (fun hf => ?_) (fun hf => ?_)
      · exact w_x_isMade_B36 ⟨hx, hb, hr, hml, hown, hts, hlocks, hK, hZ0, hA0⟩ hIx g gl p0 hf hM hS (lv_sub hl [] rfl)
      · refine lv_iconst (v := 1) hx hb dX1_isMade_32 (by decide) ?_
        refine lv_goto (tgt := 37) hx hb dX1_isMade_33 (by decide) ?_
        have eo := Option.some.inj hf
        subst eo
        exact W.zret (v := (1 : Int32)) hx hb hr rfl (fun T ht hW => ⟨⟨(1 : Int32), (), rfl, rfl, by dsimp only; rw [ht]; exact hM⟩, hS.F ht⟩) hS.2.2 dX1_isMade_37
set_option maxHeartbeats 4000000 in
set_option maxRecDepth 100000 in
theorem met_x_isMade (l : Launch) (D : va_G) (C : Nat → Nat) (a0 : Array Value) (s0 : State) (ad : Rl → Nat) (so : Nat → Option hS) (pr : hPr) (t : hSt) (tl : hLt) (g : hSt) (gl : hLt) (p0 : Int32) {o : Int32} (hf : x_isMade g gl p0 = some o) : Met l yX1_isMade (ws_ yX1_isMade cX1_isMade 2 (some .boolean)) rm_x_isMade (va_Pc [.ref (ad (.inl 0)), .int p0] (hB D vwCl (hT C) (hA s0) (hZ a0 s0) ad (Sum.elim (xSH C pr) so) (Sum.elim g t) (Sum.elim gl tl))) (va_Qi (fun (r : Int32) (_ : Unit) => r = o) (fun (_ : Unit) (U : State) => hW D vwCl ad (Sum.elim (xSH C pr) so) (Sum.elim g t) (Sum.elim gl tl) U.heap) (hA s0)) 0 0 (hA s0) := by
  refine Met.ofW (cc := cX1_isMade) (maxL := 2) (ret := (some .boolean)) (by decide) rfl ?_
  intro p e s m args below meth c s₁ B hml hv
  obtain ⟨rfl, hM, hIx, hK, hZ0, hA0⟩ := hv
  have hl := lv_entry ([.ref (ad (.inl 0)), .int p0]) (n := 2) (Nat.le_of_ble_eq_true rfl)
  rw [lg_entry_eq]
  generalize (lg_sl ([.ref (ad (.inl 0)), .int p0]) ++ List.replicate (2 - (lg_sl ([.ref (ad (.inl 0)), .int p0])).length) Slot.unset).toArray = ls at hl ⊢
  have hl : lv_has ls 2 [(0, .ref (ad (.inl 0))), (1, .int p0)] := hl
  exact w_x_isMade ⟨B.exec, B.bytes, B.returns, hml, findClass_of_methodNamed B.named, fun w h => atoms_spec (ws := ws_ yX1_isMade cX1_isMade 2 (some .boolean)) B.pre w (List.mem_cons_of_mem _ h), B.notSynchronized, hK, hZ0, hA0⟩ hIx g gl p0 hf hM va_S.rf hl

def rm_x_isMadeBetween : Room := { frames := 3, cells := 0, slots := 0, locals := 38 }
set_option maxHeartbeats 4000000 in
set_option maxRecDepth 100000 in
theorem w_x_isMadeBetween_L6 {p : Program} {l : Launch} {e : Env} {s : State} {m : MethodId} {args : Array Value} {below : List Frame} {meth : Method} {c : Code} {D : va_G} {C : Nat → Nat} {a0 : Array Value} {s0 : State} {ad : Rl → Nat} {so : Nat → Option hS} {pr : hPr} {t : hSt} {tl : hLt} (CX : hCx D C a0 s0 p s m args meth c cX1_isMadeBetween 4 RX1 (some .boolean)) (hIx : hI (hA s0) ad (Sum.elim (xSH C pr) so)) (g : hSt) (gl : hLt) (p0 : Int32) (p1 : Int32) (y3_1 : Int32) {oM : Int32} (x : (Unit) ⊕ (Int32)) (n : Nat) (q0 : Int32) (h0 : hiter (fun q : Int32 => x_isMadeBetween_L6 g gl p1 q) n q0 = some x) (kx0 : ∀ x' : Unit, x = .inl x' → ∀ (H : Heap) (locs : List Loc) (ls : Array Slot), hW D vwCl ad (Sum.elim (xSH C pr) so) (Sum.elim g t) (Sum.elim gl tl) H → va_S (hA s0) s.heap H locs → lv_has ls 4 [] → W p l e rm_x_isMadeBetween s m args below meth c H locs 0 0 (MQ below (va_Qi (fun (r : Int32) (_ : Unit) => r = oM) (fun (_ : Unit) (U : State) => hW D vwCl ad (Sum.elim (xSH C pr) so) (Sum.elim g t) (Sum.elim gl tl) U.heap) (hA s0)) args s 0 0 (hA s0)) (F0 m 27 ls [])) (kr0 : ∀ r : Int32, x = .inr r → r = oM) : ∀ (H : Heap) (locs : List Loc) (ls : Array Slot), hW D vwCl ad (Sum.elim (xSH C pr) so) (Sum.elim g t) (Sum.elim gl tl) H → va_S (hA s0) s.heap H locs → lv_has ls 4 [(0, .ref (ad (.inl 0))), (2, .int p1), (3, .int q0)] → W p l e rm_x_isMadeBetween s m args below meth c H locs 0 0 (MQ below (va_Qi (fun (r : Int32) (_ : Unit) => r = oM) (fun (_ : Unit) (U : State) => hW D vwCl ad (Sum.elim (xSH C pr) so) (Sum.elim g t) (Sum.elim gl tl) U.heap) (hA s0)) args s 0 0 (hA s0)) (F0 m 6 ls []) := by
  obtain ⟨hx, hb, hr, hml, hown, hts, hlocks, hK, hZ0, hA0⟩ := CX
  refine hiter_W (Wh := fun q => ∀ (H : Heap) (locs : List Loc) (ls : Array Slot), hW D vwCl ad (Sum.elim (xSH C pr) so) (Sum.elim g t) (Sum.elim gl tl) H → va_S (hA s0) s.heap H locs → lv_has ls 4 [(0, .ref (ad (.inl 0))), (2, .int p1), (3, .int q)] → W p l e rm_x_isMadeBetween s m args below meth c H locs 0 0 (MQ below (va_Qi (fun (r : Int32) (_ : Unit) => r = oM) (fun (_ : Unit) (U : State) => hW D vwCl ad (Sum.elim (xSH C pr) so) (Sum.elim g t) (Sum.elim gl tl) U.heap) (hA s0)) args s 0 0 (hA s0)) (F0 m 6 ls [])) ?_ n q0 h0
  intro q o hf kc kx1 H locs ls hM hS hl
  obtain ⟨v3_6, rfl⟩ : ∃ z, z = q := ⟨_, rfl⟩
  replace hf : x_isMadeBetween_L6 g gl p1 v3_6 = some o := hf
  have kx : ∀ x' : Unit, o = .inr (.inl x') → ∀ (H : Heap) (locs : List Loc) (ls : Array Slot), hW D vwCl ad (Sum.elim (xSH C pr) so) (Sum.elim g t) (Sum.elim gl tl) H → va_S (hA s0) s.heap H locs → lv_has ls 4 [] → W p l e rm_x_isMadeBetween s m args below meth c H locs 0 0 (MQ below (va_Qi (fun (r : Int32) (_ : Unit) => r = oM) (fun (_ : Unit) (U : State) => hW D vwCl ad (Sum.elim (xSH C pr) so) (Sum.elim g t) (Sum.elim gl tl) U.heap) (hA s0)) args s 0 0 (hA s0)) (F0 m 27 ls []) := fun x' ex => kx0 x' (kx1 _ ex).symm
  have kr : ∀ r : Int32, o = .inr (.inr r) → r = oM := fun r ex => kr0 r (kx1 _ ex).symm
  unfold x_isMadeBetween_L6 at hf
  refine lv_iload_n hx hb dX1_isMadeBetween_6 rfl (lv_at hl 2 rfl) ?_
  refine lv_iload_n hx hb dX1_isMadeBetween_7 rfl (lv_at hl 1 rfl) ?_
  refine hb_icmp_gt (tgt := 27) hx hb dX1_isMadeBetween_8 (by decide) hf (fun hf => ?_) (fun hf => ?_)
  · exact kx () (Option.some.inj hf).symm H locs ls hM hS (lv_sub hl [] rfl)
  · refine lv_aload_n hx hb dX1_isMadeBetween_11 rfl (lv_at hl 0 rfl) ?_
    refine lv_iload_n hx hb dX1_isMadeBetween_12 rfl (lv_at hl 2 rfl) ?_
    obtain ⟨y2, hq, hf⟩ := hbind hf
    refine hr_calli0 (va_runV (As := [.int v3_6]) (rest := []) ⟨hx, hb, hml, hown, hts⟩ (met_x_isMade l D C a0 s0 ad so pr t tl g gl v3_6 hq) (cwV 1 hts (lw_V q1312 q1314 qs32 q76 q1315) rfl rfl rfl (by decide +kernel) ⟨Nat.le_of_ble_eq_true rfl, Nat.le_of_ble_eq_true rfl⟩) (hr_preV hZ_c hM hIx hK hZ0 hA0 hS (r := .inl 0) xS_0 (q := (RX1, TX1, 19)) rfl) rfl rfl hl.1 rfl (lv_room (Nat.le_of_ble_eq_true rfl)) dX1_isMadeBetween_13 ⟨Nat.le_of_ble_eq_true rfl, Nat.le_of_ble_eq_true rfl⟩) hS (fun H locs hM hS => ?_)
    refine hb_if_eq (tgt := 21) hx hb dX1_isMadeBetween_16 (by decide) hf (fun hf => ?_) (fun hf => ?_)
    · obtain ⟨y3_3, ey, hf⟩ := hlet_ex hf
      refine lv_iinc (v := y3_3) (lv' := [(3, .int y3_3), (0, .ref (ad (.inl 0))), (2, .int p1)]) hx hb dX1_isMadeBetween_21 hl (k := 2) rfl (by rw [ey]; rfl) (by decide) rfl (fun ls hl => ?_)
      refine lv_goto (tgt := 6) hx hb dX1_isMadeBetween_24 (by decide) ?_
      exact kc y3_3 (Option.some.inj hf).symm H locs ls hM hS (lv_sub hl [1, 2, 0] rfl)
    · refine lv_iconst (v := 1) hx hb dX1_isMadeBetween_19 (by decide) ?_
      have eo := kr (1 : Int32) (Option.some.inj hf).symm
      subst eo
      exact W.zret (v := (1 : Int32)) hx hb hr rfl (fun T ht hW => ⟨⟨(1 : Int32), (), rfl, rfl, by dsimp only; rw [ht]; exact hM⟩, hS.F ht⟩) hS.2.2 dX1_isMadeBetween_20
set_option maxHeartbeats 4000000 in
set_option maxRecDepth 100000 in
theorem w_x_isMadeBetween {p : Program} {l : Launch} {e : Env} {s : State} {m : MethodId} {args : Array Value} {below : List Frame} {meth : Method} {c : Code} {D : va_G} {C : Nat → Nat} {a0 : Array Value} {s0 : State} {ad : Rl → Nat} {so : Nat → Option hS} {pr : hPr} {t : hSt} {tl : hLt} (CX : hCx D C a0 s0 p s m args meth c cX1_isMadeBetween 4 RX1 (some .boolean)) (hIx : hI (hA s0) ad (Sum.elim (xSH C pr) so)) (g : hSt) (gl : hLt) (p0 : Int32) (p1 : Int32) {o : Int32} (hf : x_isMadeBetween g gl p0 p1 = some o) {H : Heap} {locs : List Loc} (hM : hW D vwCl ad (Sum.elim (xSH C pr) so) (Sum.elim g t) (Sum.elim gl tl) H) (hS : va_S (hA s0) s.heap H locs) {ls : Array Slot} (hl : lv_has ls 4 [(0, .ref (ad (.inl 0))), (1, .int p0), (2, .int p1)]) : W p l e rm_x_isMadeBetween s m args below meth c H locs 0 0 (MQ below (va_Qi (fun (r : Int32) (_ : Unit) => r = o) (fun (_ : Unit) (U : State) => hW D vwCl ad (Sum.elim (xSH C pr) so) (Sum.elim g t) (Sum.elim gl tl) U.heap) (hA s0)) args s 0 0 (hA s0)) (F0 m 0 ls []) := by
  obtain ⟨hx, hb, hr, hml, hown, hts, hlocks, hK, hZ0, hA0⟩ := CX
  unfold x_isMadeBetween at hf
  refine lv_iconst (v := 0) hx hb dX1_isMadeBetween_0 (by decide) ?_
  refine lv_iload_n hx hb dX1_isMadeBetween_1 rfl (lv_at hl 1 rfl) ?_
  refine va_mmax hx hb (by rw [hml]; exact hl.1.symm) hown (hts _ q654) (hts _ q240) (hts _ q90) (hts _ q241) (Nat.le_of_ble_eq_true rfl) (Nat.le_of_ble_eq_true rfl) (Nat.le_of_ble_eq_true rfl) (Nat.le_of_ble_eq_true rfl) dX1_isMadeBetween_2 ?_
  refine hb_top hf (fun y3_1 hf => ?_)
  refine lv_istore_n (lv' := [(3, .int y3_1), (0, .ref (ad (.inl 0))), (1, .int p0), (2, .int p1)]) hx hb dX1_isMadeBetween_5 rfl hl (by decide) rfl (fun ls hl => ?_)
  obtain ⟨x4, hq, hf⟩ := hbind hf
  refine w_x_isMadeBetween_L6 ⟨hx, hb, hr, hml, hown, hts, hlocks, hK, hZ0, hA0⟩ hIx g gl p0 p1 y3_1 x4 hFU y3_1 hq (fun e5 ex1 H locs ls hM hS hl => ?_) (fun r er => ?_) H locs ls hM hS (lv_sub hl [1, 3, 0] rfl)
  · subst ex1
    replace hf := hcase_l hf
    refine lv_iconst (v := 0) hx hb dX1_isMadeBetween_27 (by decide) ?_
    have eo := Option.some.inj hf
    subst eo
    exact W.zret (v := (0 : Int32)) hx hb hr rfl (fun T ht hW => ⟨⟨(0 : Int32), (), rfl, rfl, by dsimp only; rw [ht]; exact hM⟩, hS.F ht⟩) hS.2.2 dX1_isMadeBetween_28
  · subst er
    first | exact Option.some.inj (hcase_r hf) | exact Option.some.inj hf
set_option maxHeartbeats 4000000 in
set_option maxRecDepth 100000 in
theorem met_x_isMadeBetween (l : Launch) (D : va_G) (C : Nat → Nat) (a0 : Array Value) (s0 : State) (ad : Rl → Nat) (so : Nat → Option hS) (pr : hPr) (t : hSt) (tl : hLt) (g : hSt) (gl : hLt) (p0 : Int32) (p1 : Int32) {o : Int32} (hf : x_isMadeBetween g gl p0 p1 = some o) : Met l yX1_isMadeBetween (ws_ yX1_isMadeBetween cX1_isMadeBetween 4 (some .boolean)) rm_x_isMadeBetween (va_Pc [.ref (ad (.inl 0)), .int p0, .int p1] (hB D vwCl (hT C) (hA s0) (hZ a0 s0) ad (Sum.elim (xSH C pr) so) (Sum.elim g t) (Sum.elim gl tl))) (va_Qi (fun (r : Int32) (_ : Unit) => r = o) (fun (_ : Unit) (U : State) => hW D vwCl ad (Sum.elim (xSH C pr) so) (Sum.elim g t) (Sum.elim gl tl) U.heap) (hA s0)) 0 0 (hA s0) := by
  refine Met.ofW (cc := cX1_isMadeBetween) (maxL := 4) (ret := (some .boolean)) (by decide) rfl ?_
  intro p e s m args below meth c s₁ B hml hv
  obtain ⟨rfl, hM, hIx, hK, hZ0, hA0⟩ := hv
  have hl := lv_entry ([.ref (ad (.inl 0)), .int p0, .int p1]) (n := 4) (Nat.le_of_ble_eq_true rfl)
  rw [lg_entry_eq]
  generalize (lg_sl ([.ref (ad (.inl 0)), .int p0, .int p1]) ++ List.replicate (4 - (lg_sl ([.ref (ad (.inl 0)), .int p0, .int p1])).length) Slot.unset).toArray = ls at hl ⊢
  have hl : lv_has ls 4 [(0, .ref (ad (.inl 0))), (1, .int p0), (2, .int p1)] := hl
  exact w_x_isMadeBetween ⟨B.exec, B.bytes, B.returns, hml, findClass_of_methodNamed B.named, fun w h => atoms_spec (ws := ws_ yX1_isMadeBetween cX1_isMadeBetween 4 (some .boolean)) B.pre w (List.mem_cons_of_mem _ h), B.notSynchronized, hK, hZ0, hA0⟩ hIx g gl p0 p1 hf hM va_S.rf hl

def rm_x_cut : Room := { frames := 15, cells := 3, slots := 18, locals := 189 }
set_option maxHeartbeats 4000000 in
set_option maxRecDepth 100000 in
theorem w_x_cut_B259 {p : Program} {l : Launch} {e : Env} {s : State} {m : MethodId} {args : Array Value} {below : List Frame} {meth : Method} {c : Code} {D : va_G} {C : Nat → Nat} {a0 : Array Value} {s0 : State} {ad : Rl → Nat} {so : Nat → Option hS} {pr : hPr} {t : hSt} {tl : hLt} (CX : hCx D C a0 s0 p s m args meth c cX1_cut 11 RX1 (some .int)) (hIx : hI (hA s0) ad (Sum.elim (xSH C pr) so)) (hex : ∀ x ∈ c.exceptionTable.toList, False) (hlst : l.stackTraces = false) (g : hSt) (gl : hLt) (p0 : Int32) (p1 : Int32) (k0_19 : Int32) (x3 : Int32) (a4_259 : Int32) (a5_259 : Int32) (gl_259 : hLt) {o : (Int32 × hLt) ⊕ Nat} (hf : x_cut_B259 p1 a4_259 a5_259 gl_259 = some o) {H : Heap} {locs : List Loc} (hM : hW D vwCl ad (Sum.elim (xSH C pr) so) (Sum.elim g t) (Sum.elim gl_259 tl) H) (hS : va_S (hA s0) s.heap H locs) {ls : Array Slot} (hl : lv_has ls 11 [(2, .int p1), (4, .int a4_259), (5, .int a5_259)]) : W p l e rm_x_cut s m args below meth c H locs 3 18 (vx_MQ below (va_Qi (fun (r : Int32) (v : Int32 × hLt) => o = .inl v ∧ r = v.1) (fun (v : Int32 × hLt) (U : State) => hW D vwCl ad (Sum.elim (xSH C pr) so) (Sum.elim g t) (Sum.elim v.2 tl) U.heap) (hA s0)) (vx_X (fun k : Nat => o = .inr k) (fun (E : String) (k : Nat) (U : State) => E = hEx k ∧ hW D vwCl ad (Sum.elim (xSH C pr) so) (Sum.elim g t) (Sum.elim gl tl) U.heap) (hA s0)) args s 3 18 (hA s0)) (F0 m 259 ls []) := by
  obtain ⟨hx, hb, hr, hml, hown, hts, hlocks, hK, hZ0, hA0⟩ := CX
  unfold x_cut_B259 at hf
  refine lv_iload_n hx hb dX1_cut_259 rfl (lv_at hl 0 rfl) ?_
  refine hb_if_ne (tgt := 268) hx hb dX1_cut_260 (by decide) hf (fun hf => ?_) (fun hf => ?_)
  · refine lv_iload hx hb dX1_cut_268 (lv_at hl 1 rfl) ?_
    have eo := Option.some.inj hf
    subst eo
    refine W.widen (k := 3) (n := 18) (Nat.le_of_ble_eq_true rfl) (Nat.le_of_ble_eq_true rfl) ?_
    exact vx_ret (W.iret (v := a4_259) hx hb hr (fun T ht hW => ⟨⟨a4_259, (a4_259, gl_259), rfl, ⟨rfl, rfl⟩, by dsimp only; rw [ht]; exact hM⟩, hS.F ht⟩) hS.2.2 dX1_cut_270)
  · refine lv_iload hx hb dX1_cut_263 (lv_at hl 2 rfl) ?_
    refine lv_goto (tgt := 270) hx hb dX1_cut_265 (by decide) ?_
    have eo := Option.some.inj hf
    subst eo
    refine W.widen (k := 3) (n := 18) (Nat.le_of_ble_eq_true rfl) (Nat.le_of_ble_eq_true rfl) ?_
    exact vx_ret (W.iret (v := a5_259) hx hb hr (fun T ht hW => ⟨⟨a5_259, (a5_259, gl_259), rfl, ⟨rfl, rfl⟩, by dsimp only; rw [ht]; exact hM⟩, hS.F ht⟩) hS.2.2 dX1_cut_270)
set_option maxHeartbeats 4000000 in
set_option maxRecDepth 100000 in
theorem w_x_cut_B228 {p : Program} {l : Launch} {e : Env} {s : State} {m : MethodId} {args : Array Value} {below : List Frame} {meth : Method} {c : Code} {D : va_G} {C : Nat → Nat} {a0 : Array Value} {s0 : State} {ad : Rl → Nat} {so : Nat → Option hS} {pr : hPr} {t : hSt} {tl : hLt} (CX : hCx D C a0 s0 p s m args meth c cX1_cut 11 RX1 (some .int)) (hIx : hI (hA s0) ad (Sum.elim (xSH C pr) so)) (hex : ∀ x ∈ c.exceptionTable.toList, False) (hlst : l.stackTraces = false) (g : hSt) (gl : hLt) (p0 : Int32) (p1 : Int32) (k0_19 : Int32) (x3 : Int32) (y4 : Int32) (y5 : Int32) (x6 : Int32) (y6_7 : Int32) (x8 : Int32) (y7_9 : Int32) (v4_106 : Int32) (v5_106 : Int32) (v8_106 : Int32) (gl_106 : hLt) (x10 : Int32) (x11 : Int32) (y12 : hLt) (v4_151 : Int32) (v5_151 : Int32) (v9_151 : Int32) (x13 : Int32) (x14 : Int32) (y10_15 : Int32) (x16 : Int32) (y17 : Int32) {oM : (Int32 × hLt) ⊕ Nat} {o : (Int32 × Int32 × Int32) ⊕ (Int32 × Int32)} (hf : x_cut_B228 v8_106 v4_151 v5_151 v9_151 = some o) (kc : ∀ s' : Int32 × Int32 × Int32, o = .inl s' → ∀ (H : Heap) (locs : List Loc) (ls : Array Slot), hW D vwCl ad (Sum.elim (xSH C pr) so) (Sum.elim g t) (Sum.elim y12 tl) H → va_S (hA s0) s.heap H locs → lv_has ls 11 [(0, .ref (ad (.inl 0))), (1, .int p0), (2, .int p1), (3, .ref (ad (.inl 24))), (4, .int s'.1), (5, .int s'.2.1), (6, .int y6_7), (7, .int y7_9), (8, .int v8_106), (9, .int s'.2.2)] → W p l e rm_x_cut s m args below meth c H locs 3 18 (vx_MQ below (va_Qi (fun (r : Int32) (v : Int32 × hLt) => oM = .inl v ∧ r = v.1) (fun (v : Int32 × hLt) (U : State) => hW D vwCl ad (Sum.elim (xSH C pr) so) (Sum.elim g t) (Sum.elim v.2 tl) U.heap) (hA s0)) (vx_X (fun k : Nat => oM = .inr k) (fun (E : String) (k : Nat) (U : State) => E = hEx k ∧ hW D vwCl ad (Sum.elim (xSH C pr) so) (Sum.elim g t) (Sum.elim gl tl) U.heap) (hA s0)) args s 3 18 (hA s0)) (F0 m 151 ls [])) (kx : ∀ x' : Int32 × Int32, o = .inr x' → ∀ (H : Heap) (locs : List Loc) (ls : Array Slot), hW D vwCl ad (Sum.elim (xSH C pr) so) (Sum.elim g t) (Sum.elim y12 tl) H → va_S (hA s0) s.heap H locs → lv_has ls 11 [(0, .ref (ad (.inl 0))), (1, .int p0), (2, .int p1), (3, .ref (ad (.inl 24))), (4, .int x'.1), (5, .int x'.2), (6, .int y6_7), (7, .int y7_9), (8, .int v8_106)] → W p l e rm_x_cut s m args below meth c H locs 3 18 (vx_MQ below (va_Qi (fun (r : Int32) (v : Int32 × hLt) => oM = .inl v ∧ r = v.1) (fun (v : Int32 × hLt) (U : State) => hW D vwCl ad (Sum.elim (xSH C pr) so) (Sum.elim g t) (Sum.elim v.2 tl) U.heap) (hA s0)) (vx_X (fun k : Nat => oM = .inr k) (fun (E : String) (k : Nat) (U : State) => E = hEx k ∧ hW D vwCl ad (Sum.elim (xSH C pr) so) (Sum.elim g t) (Sum.elim gl tl) U.heap) (hA s0)) args s 3 18 (hA s0)) (F0 m 253 ls [])) {H : Heap} {locs : List Loc} (hM : hW D vwCl ad (Sum.elim (xSH C pr) so) (Sum.elim g t) (Sum.elim y12 tl) H) (hS : va_S (hA s0) s.heap H locs) {ls : Array Slot} (hl : lv_has ls 11 [(0, .ref (ad (.inl 0))), (1, .int p0), (2, .int p1), (3, .ref (ad (.inl 24))), (4, .int v4_151), (5, .int v5_151), (6, .int y6_7), (7, .int y7_9), (8, .int v8_106), (9, .int v9_151)]) : W p l e rm_x_cut s m args below meth c H locs 3 18 (vx_MQ below (va_Qi (fun (r : Int32) (v : Int32 × hLt) => oM = .inl v ∧ r = v.1) (fun (v : Int32 × hLt) (U : State) => hW D vwCl ad (Sum.elim (xSH C pr) so) (Sum.elim g t) (Sum.elim v.2 tl) U.heap) (hA s0)) (vx_X (fun k : Nat => oM = .inr k) (fun (E : String) (k : Nat) (U : State) => E = hEx k ∧ hW D vwCl ad (Sum.elim (xSH C pr) so) (Sum.elim g t) (Sum.elim gl tl) U.heap) (hA s0)) args s 3 18 (hA s0)) (F0 m 228 ls []) := by
  obtain ⟨hx, hb, hr, hml, hown, hts, hlocks, hK, hZ0, hA0⟩ := CX
  unfold x_cut_B228 at hf
  obtain ⟨y5_18, ey, hf⟩ := hlet_ex hf
  refine lv_iinc (v := y5_18) (lv' := [(5, .int y5_18), (0, .ref (ad (.inl 0))), (1, .int p0), (2, .int p1), (3, .ref (ad (.inl 24))), (4, .int v4_151), (6, .int y6_7), (7, .int y7_9), (8, .int v8_106), (9, .int v9_151)]) hx hb dX1_cut_228 hl (k := 5) rfl (by rw [ey]; rfl) (by decide) rfl (fun ls hl => ?_)
  refine lv_iload hx hb dX1_cut_231 (lv_at hl 5 rfl) ?_
  refine lv_iconst (v := -1) hx hb dX1_cut_233 (by decide) ?_
  refine hb_icmp_ne (tgt := 247) hx hb dX1_cut_234 (by decide) hf (fun hf => ?_) (fun hf => ?_)
  · obtain ⟨y9_19, ey, hf⟩ := hlet_ex hf
    refine lv_iinc (v := y9_19) (lv' := [(9, .int y9_19), (5, .int y5_18), (0, .ref (ad (.inl 0))), (1, .int p0), (2, .int p1), (3, .ref (ad (.inl 24))), (4, .int v4_151), (6, .int y6_7), (7, .int y7_9), (8, .int v8_106)]) hx hb dX1_cut_247 hl (k := 9) rfl (by rw [ey]; rfl) (by decide) rfl (fun ls hl => ?_)
    refine lv_goto (tgt := 151) hx hb dX1_cut_250 (by decide) ?_
    exact kc (v4_151, y5_18, y9_19) (Option.some.inj hf).symm H locs ls hM hS (lv_sub hl [2, 3, 4, 5, 6, 1, 7, 8, 9, 0] rfl)
  · refine lv_bipush (v := 100) hx hb dX1_cut_237 (by decide) ?_
    refine lv_iload hx hb dX1_cut_239 (lv_at hl 8 rfl) ?_
    refine lv_imul hx hb dX1_cut_241 ?_
    refine lv_iload hx hb dX1_cut_242 (lv_at hl 9 rfl) ?_
    refine lv_iadd hx hb dX1_cut_244 ?_
    refine hb_top hf (fun y4_20 hf => ?_)
    refine lv_istore (lv' := [(4, .int y4_20), (5, .int y5_18), (0, .ref (ad (.inl 0))), (1, .int p0), (2, .int p1), (3, .ref (ad (.inl 24))), (6, .int y6_7), (7, .int y7_9), (8, .int v8_106), (9, .int v9_151)]) hx hb dX1_cut_245 hl (by decide) rfl (fun ls hl => ?_)
    obtain ⟨y9_21, ey, hf⟩ := hlet_ex hf
    refine lv_iinc (v := y9_21) (lv' := [(9, .int y9_21), (4, .int y4_20), (5, .int y5_18), (0, .ref (ad (.inl 0))), (1, .int p0), (2, .int p1), (3, .ref (ad (.inl 24))), (6, .int y6_7), (7, .int y7_9), (8, .int v8_106)]) hx hb dX1_cut_247 hl (k := 9) rfl (by rw [ey]; rfl) (by decide) rfl (fun ls hl => ?_)
    refine lv_goto (tgt := 151) hx hb dX1_cut_250 (by decide) ?_
    exact kc (y4_20, y5_18, y9_21) (Option.some.inj hf).symm H locs ls hM hS (lv_sub hl [3, 4, 5, 6, 1, 2, 7, 8, 9, 0] rfl)
set_option maxHeartbeats 4000000 in
set_option maxRecDepth 100000 in
theorem w_x_cut_L151 {p : Program} {l : Launch} {e : Env} {s : State} {m : MethodId} {args : Array Value} {below : List Frame} {meth : Method} {c : Code} {D : va_G} {C : Nat → Nat} {a0 : Array Value} {s0 : State} {ad : Rl → Nat} {so : Nat → Option hS} {pr : hPr} {t : hSt} {tl : hLt} (CX : hCx D C a0 s0 p s m args meth c cX1_cut 11 RX1 (some .int)) (hIx : hI (hA s0) ad (Sum.elim (xSH C pr) so)) (hex : ∀ x ∈ c.exceptionTable.toList, False) (hlst : l.stackTraces = false) (g : hSt) (gl : hLt) (p0 : Int32) (p1 : Int32) (k0_19 : Int32) (x3 : Int32) (y4 : Int32) (y5 : Int32) (x6 : Int32) (y6_7 : Int32) (x8 : Int32) (y7_9 : Int32) (v4_106 : Int32) (v5_106 : Int32) (v8_106 : Int32) (gl_106 : hLt) (x10 : Int32) (x11 : Int32) (y12 : hLt) {oM : (Int32 × hLt) ⊕ Nat} (x : Int32 × Int32) (n : Nat) (q0 : Int32 × Int32 × Int32) (h0 : hiter (fun q : Int32 × Int32 × Int32 => x_cut_L151 g p0 y6_7 y7_9 v8_106 y12 q.1 q.2.1 q.2.2) n q0 = some x) (kx0 : ∀ (H : Heap) (locs : List Loc) (ls : Array Slot), hW D vwCl ad (Sum.elim (xSH C pr) so) (Sum.elim g t) (Sum.elim y12 tl) H → va_S (hA s0) s.heap H locs → lv_has ls 11 [(0, .ref (ad (.inl 0))), (1, .int p0), (2, .int p1), (3, .ref (ad (.inl 24))), (4, .int x.1), (5, .int x.2), (6, .int y6_7), (7, .int y7_9), (8, .int v8_106)] → W p l e rm_x_cut s m args below meth c H locs 3 18 (vx_MQ below (va_Qi (fun (r : Int32) (v : Int32 × hLt) => oM = .inl v ∧ r = v.1) (fun (v : Int32 × hLt) (U : State) => hW D vwCl ad (Sum.elim (xSH C pr) so) (Sum.elim g t) (Sum.elim v.2 tl) U.heap) (hA s0)) (vx_X (fun k : Nat => oM = .inr k) (fun (E : String) (k : Nat) (U : State) => E = hEx k ∧ hW D vwCl ad (Sum.elim (xSH C pr) so) (Sum.elim g t) (Sum.elim gl tl) U.heap) (hA s0)) args s 3 18 (hA s0)) (F0 m 253 ls [])) : ∀ (H : Heap) (locs : List Loc) (ls : Array Slot), hW D vwCl ad (Sum.elim (xSH C pr) so) (Sum.elim g t) (Sum.elim y12 tl) H → va_S (hA s0) s.heap H locs → lv_has ls 11 [(0, .ref (ad (.inl 0))), (1, .int p0), (2, .int p1), (3, .ref (ad (.inl 24))), (4, .int q0.1), (5, .int q0.2.1), (6, .int y6_7), (7, .int y7_9), (8, .int v8_106), (9, .int q0.2.2)] → W p l e rm_x_cut s m args below meth c H locs 3 18 (vx_MQ below (va_Qi (fun (r : Int32) (v : Int32 × hLt) => oM = .inl v ∧ r = v.1) (fun (v : Int32 × hLt) (U : State) => hW D vwCl ad (Sum.elim (xSH C pr) so) (Sum.elim g t) (Sum.elim v.2 tl) U.heap) (hA s0)) (vx_X (fun k : Nat => oM = .inr k) (fun (E : String) (k : Nat) (U : State) => E = hEx k ∧ hW D vwCl ad (Sum.elim (xSH C pr) so) (Sum.elim g t) (Sum.elim gl tl) U.heap) (hA s0)) args s 3 18 (hA s0)) (F0 m 151 ls []) := by
  obtain ⟨hx, hb, hr, hml, hown, hts, hlocks, hK, hZ0, hA0⟩ := CX
  refine hiter_W (Wh := fun q => ∀ (H : Heap) (locs : List Loc) (ls : Array Slot), hW D vwCl ad (Sum.elim (xSH C pr) so) (Sum.elim g t) (Sum.elim y12 tl) H → va_S (hA s0) s.heap H locs → lv_has ls 11 [(0, .ref (ad (.inl 0))), (1, .int p0), (2, .int p1), (3, .ref (ad (.inl 24))), (4, .int q.1), (5, .int q.2.1), (6, .int y6_7), (7, .int y7_9), (8, .int v8_106), (9, .int q.2.2)] → W p l e rm_x_cut s m args below meth c H locs 3 18 (vx_MQ below (va_Qi (fun (r : Int32) (v : Int32 × hLt) => oM = .inl v ∧ r = v.1) (fun (v : Int32 × hLt) (U : State) => hW D vwCl ad (Sum.elim (xSH C pr) so) (Sum.elim g t) (Sum.elim v.2 tl) U.heap) (hA s0)) (vx_X (fun k : Nat => oM = .inr k) (fun (E : String) (k : Nat) (U : State) => E = hEx k ∧ hW D vwCl ad (Sum.elim (xSH C pr) so) (Sum.elim g t) (Sum.elim gl tl) U.heap) (hA s0)) args s 3 18 (hA s0)) (F0 m 151 ls [])) ?_ n q0 h0
  intro q o hf kc kx1 H locs ls hM hS hl
  obtain ⟨v4_151, v5_151, v9_151⟩ := q
  replace hf : x_cut_L151 g p0 y6_7 y7_9 v8_106 y12 v4_151 v5_151 v9_151 = some o := hf
  have kx : ∀ x' : Int32 × Int32, o = .inr x' → ∀ (H : Heap) (locs : List Loc) (ls : Array Slot), hW D vwCl ad (Sum.elim (xSH C pr) so) (Sum.elim g t) (Sum.elim y12 tl) H → va_S (hA s0) s.heap H locs → lv_has ls 11 [(0, .ref (ad (.inl 0))), (1, .int p0), (2, .int p1), (3, .ref (ad (.inl 24))), (4, .int x'.1), (5, .int x'.2), (6, .int y6_7), (7, .int y7_9), (8, .int v8_106)] → W p l e rm_x_cut s m args below meth c H locs 3 18 (vx_MQ below (va_Qi (fun (r : Int32) (v : Int32 × hLt) => oM = .inl v ∧ r = v.1) (fun (v : Int32 × hLt) (U : State) => hW D vwCl ad (Sum.elim (xSH C pr) so) (Sum.elim g t) (Sum.elim v.2 tl) U.heap) (hA s0)) (vx_X (fun k : Nat => oM = .inr k) (fun (E : String) (k : Nat) (U : State) => E = hEx k ∧ hW D vwCl ad (Sum.elim (xSH C pr) so) (Sum.elim g t) (Sum.elim gl tl) U.heap) (hA s0)) args s 3 18 (hA s0)) (F0 m 253 ls []) := fun x' ex => by rw [kx1 _ ex]; exact kx0
  unfold x_cut_L151 at hf
  refine lv_iconst (v := 2) hx hb dX1_cut_151 (by decide) ?_
  refine lv_iload hx hb dX1_cut_152 (lv_at hl 9 rfl) ?_
  refine lv_imul hx hb dX1_cut_154 ?_
  refine lv_aload_n hx hb dX1_cut_155 rfl (lv_at hl 3 rfl) ?_
  refine hr_getN (ci := 1) (C := RX4) (T := TX4) (N := 6) (r := .inl 24) hx hb hts in_X4 hown hK hM (xs_st24 (C := C) (pr := pr)).o rfl 4 (by decide) (hZ_nest hZ0 q525 rfl) rfl (v := .ref (ad (.inl (24 + 5)))) rfl dX1_cut_156 ?_
  refine lv_iload hx hb dX1_cut_159 (lv_at hl 8 rfl) ?_
  refine hx_iald (r := (24 + 5)) hx hb hK hM 0 (xs_st24 (C := C) (pr := pr)).a5 rfl hf dX1_cut_161 (fun x13 hf => ?_)
  refine hb_icmp_gt (tgt := 253) hx hb dX1_cut_162 (by decide) hf (fun hf => ?_) (fun hf => ?_)
  · exact kx (v4_151, v5_151) (Option.some.inj hf).symm H locs ls hM hS (lv_sub hl [0, 1, 2, 3, 4, 5, 6, 7, 8] rfl)
  · refine lv_aload_n hx hb dX1_cut_165 rfl (lv_at hl 3 rfl) ?_
    refine hr_getN (ci := 1) (C := RX4) (T := TX4) (N := 6) (r := .inl 24) hx hb hts in_X4 hown hK hM (xs_st24 (C := C) (pr := pr)).o rfl 4 (by decide) (hZ_nest hZ0 q525 rfl) rfl (v := .ref (ad (.inl (24 + 5)))) rfl dX1_cut_166 ?_
    refine lv_iload hx hb dX1_cut_169 (lv_at hl 8 rfl) ?_
    refine hx_iald (r := (24 + 5)) hx hb hK hM 0 (xs_st24 (C := C) (pr := pr)).a5 rfl hf dX1_cut_171 (fun x14 hf => ?_)
    refine lv_iload hx hb dX1_cut_172 (lv_at hl 9 rfl) ?_
    refine lv_isub hx hb dX1_cut_174 ?_
    refine hb_top hf (fun y10_15 hf => ?_)
    refine lv_istore (lv' := [(10, .int y10_15), (0, .ref (ad (.inl 0))), (1, .int p0), (2, .int p1), (3, .ref (ad (.inl 24))), (4, .int v4_151), (5, .int v5_151), (6, .int y6_7), (7, .int y7_9), (8, .int v8_106), (9, .int v9_151)]) hx hb dX1_cut_175 hl (by decide) rfl (fun ls hl => ?_)
    refine lv_aload_n hx hb dX1_cut_177 rfl (lv_at hl 1 rfl) ?_
    refine lv_iload hx hb dX1_cut_178 (lv_at hl 7 rfl) ?_
    refine lv_aload_n hx hb dX1_cut_180 rfl (lv_at hl 4 rfl) ?_
    refine hr_getN (ci := 1) (C := RX4) (T := TX4) (N := 6) (r := .inl 24) hx hb hts in_X4 hown hK hM (xs_st24 (C := C) (pr := pr)).o rfl 1 (by decide) (hZ_nest hZ0 q514 rfl) rfl (v := .ref (ad (.inl (24 + 2)))) rfl dX1_cut_181 ?_
    refine lv_iload_n hx hb dX1_cut_184 rfl (lv_at hl 2 rfl) ?_
    refine hx_iald (r := (24 + 2)) hx hb hK hM 0 (xs_st24 (C := C) (pr := pr)).a2 rfl hf dX1_cut_185 (fun x16 hf => ?_)
    refine lv_isub hx hb dX1_cut_186 ?_
    refine lv_iload hx hb dX1_cut_187 (lv_at hl 10 rfl) ?_
    refine lv_isub hx hb dX1_cut_189 ?_
    refine lv_iload hx hb dX1_cut_190 (lv_at hl 8 rfl) ?_
    refine lv_iload hx hb dX1_cut_192 (lv_at hl 10 rfl) ?_
    refine lv_isub hx hb dX1_cut_194 ?_
    obtain ⟨y17, hq, hf⟩ := hbind hf
    refine hr_calli0 (va_runV (As := [.int ((y6_7 - x16) - v9_151), .int (y7_9 - v9_151)]) (rest := []) ⟨hx, hb, hml, hown, hts⟩ (met_x_isMadeBetween l D C a0 s0 ad so pr t tl g y12 ((y6_7 - x16) - v9_151) (y7_9 - v9_151) hq) (cwV 2 hts (lw_V q1308 q1310 qs31 q76 q1311) rfl rfl rfl (by decide +kernel) ⟨Nat.le_of_ble_eq_true rfl, Nat.le_of_ble_eq_true rfl⟩) (hr_preV hZ_c hM hIx hK hZ0 hA0 hS (r := .inl 0) xS_0 (q := (RX1, TX1, 19)) rfl) rfl rfl hl.1 rfl (lv_room (Nat.le_of_ble_eq_true rfl)) dX1_cut_195 ⟨Nat.le_of_ble_eq_true rfl, Nat.le_of_ble_eq_true rfl⟩) hS (fun H locs hM hS => ?_)
    refine hb_if_ne (tgt := 228) hx hb dX1_cut_198 (by decide) hf (fun hf => ?_) (fun hf => ?_)
    · exact w_x_cut_B228 ⟨hx, hb, hr, hml, hown, hts, hlocks, hK, hZ0, hA0⟩ hIx hex hlst g gl p0 p1 k0_19 x3 y4 y5 x6 y6_7 x8 y7_9 v4_106 v5_106 v8_106 gl_106 x10 x11 y12 v4_151 v5_151 v9_151 x13 x14 y10_15 x16 y17 hf kc kx hM hS (lv_sub hl [1, 2, 3, 4, 5, 6, 7, 8, 9, 10] rfl)
    · refine lv_aload_n hx hb dX1_cut_201 rfl (lv_at hl 1 rfl) ?_
      refine lv_iload hx hb dX1_cut_202 (lv_at hl 7 rfl) ?_
      refine lv_aload_n hx hb dX1_cut_204 rfl (lv_at hl 4 rfl) ?_
      refine hr_getN (ci := 1) (C := RX4) (T := TX4) (N := 6) (r := .inl 24) hx hb hts in_X4 hown hK hM (xs_st24 (C := C) (pr := pr)).o rfl 1 (by decide) (hZ_nest hZ0 q514 rfl) rfl (v := .ref (ad (.inl (24 + 2)))) rfl dX1_cut_205 ?_
      refine lv_iload_n hx hb dX1_cut_208 rfl (lv_at hl 2 rfl) ?_
      refine hx_iald (r := (24 + 2)) hx hb hK hM 0 (xs_st24 (C := C) (pr := pr)).a2 rfl hf dX1_cut_209 (fun x22 hf => ?_)
      refine lv_isub hx hb dX1_cut_210 ?_
      refine lv_iload hx hb dX1_cut_211 (lv_at hl 0 rfl) ?_
      refine lv_isub hx hb dX1_cut_213 ?_
      refine lv_iload hx hb dX1_cut_214 (lv_at hl 8 rfl) ?_
      refine lv_iload hx hb dX1_cut_216 (lv_at hl 0 rfl) ?_
      refine lv_isub hx hb dX1_cut_218 ?_
      obtain ⟨y23, hq, hf⟩ := hbind hf
      refine hr_calli0 (va_runV (As := [.int ((y6_7 - x22) - y10_15), .int (y7_9 - y10_15)]) (rest := []) ⟨hx, hb, hml, hown, hts⟩ (met_x_isMadeBetween l D C a0 s0 ad so pr t tl g y12 ((y6_7 - x22) - y10_15) (y7_9 - y10_15) hq) (cwV 2 hts (lw_V q1308 q1310 qs31 q76 q1311) rfl rfl rfl (by decide +kernel) ⟨Nat.le_of_ble_eq_true rfl, Nat.le_of_ble_eq_true rfl⟩) (hr_preV hZ_c hM hIx hK hZ0 hA0 hS (r := .inl 0) xS_0 (q := (RX1, TX1, 19)) rfl) rfl rfl hl.1 rfl (lv_room (Nat.le_of_ble_eq_true rfl)) dX1_cut_219 ⟨Nat.le_of_ble_eq_true rfl, Nat.le_of_ble_eq_true rfl⟩) hS (fun H locs hM hS => ?_)
      refine hb_if_ne (tgt := 228) hx hb dX1_cut_222 (by decide) hf (fun hf => ?_) (fun hf => ?_)
      · exact w_x_cut_B228 ⟨hx, hb, hr, hml, hown, hts, hlocks, hK, hZ0, hA0⟩ hIx hex hlst g gl p0 p1 k0_19 x3 y4 y5 x6 y6_7 x8 y7_9 v4_106 v5_106 v8_106 gl_106 x10 x11 y12 v4_151 v5_151 v9_151 x13 x14 y10_15 x16 y17 hf kc kx hM hS (lv_sub hl [1, 2, 3, 4, 5, 6, 7, 8, 9, 10] rfl)
      · refine lv_goto (tgt := 247) hx hb dX1_cut_225 (by decide) ?_
        obtain ⟨y9_24, ey, hf⟩ := hlet_ex hf
        refine lv_iinc (v := y9_24) (lv' := [(9, .int y9_24), (10, .int y10_15), (0, .ref (ad (.inl 0))), (1, .int p0), (2, .int p1), (3, .ref (ad (.inl 24))), (4, .int v4_151), (5, .int v5_151), (6, .int y6_7), (7, .int y7_9), (8, .int v8_106)]) hx hb dX1_cut_247 hl (k := 10) rfl (by rw [ey]; rfl) (by decide) rfl (fun ls hl => ?_)
        refine lv_goto (tgt := 151) hx hb dX1_cut_250 (by decide) ?_
        exact kc (v4_151, v5_151, y9_24) (Option.some.inj hf).symm H locs ls hM hS (lv_sub hl [2, 3, 4, 5, 6, 7, 8, 9, 10, 0] rfl)
set_option maxHeartbeats 4000000 in
set_option maxRecDepth 100000 in
theorem w_x_cut_L106 {p : Program} {l : Launch} {e : Env} {s : State} {m : MethodId} {args : Array Value} {below : List Frame} {meth : Method} {c : Code} {D : va_G} {C : Nat → Nat} {a0 : Array Value} {s0 : State} {ad : Rl → Nat} {so : Nat → Option hS} {pr : hPr} {t : hSt} {tl : hLt} (CX : hCx D C a0 s0 p s m args meth c cX1_cut 11 RX1 (some .int)) (hIx : hI (hA s0) ad (Sum.elim (xSH C pr) so)) (hex : ∀ x ∈ c.exceptionTable.toList, False) (hlst : l.stackTraces = false) (g : hSt) (gl : hLt) (p0 : Int32) (p1 : Int32) (k0_19 : Int32) (x3 : Int32) (y4 : Int32) (y5 : Int32) (x6 : Int32) (y6_7 : Int32) (x8 : Int32) (y7_9 : Int32) {oM : (Int32 × hLt) ⊕ Nat} (x : Int32 × Int32 × hLt) (n : Nat) (q0 : Int32 × Int32 × Int32 × hLt) (h0 : hiter (fun q : Int32 × Int32 × Int32 × hLt => x_cut_L106 g p0 y6_7 y7_9 q.1 q.2.1 q.2.2.1 q.2.2.2) n q0 = some x) (kx0 : ∀ (H : Heap) (locs : List Loc) (ls : Array Slot), hW D vwCl ad (Sum.elim (xSH C pr) so) (Sum.elim g t) (Sum.elim x.2.2 tl) H → va_S (hA s0) s.heap H locs → lv_has ls 11 [(2, .int p1), (4, .int x.1), (5, .int x.2.1)] → W p l e rm_x_cut s m args below meth c H locs 3 18 (vx_MQ below (va_Qi (fun (r : Int32) (v : Int32 × hLt) => oM = .inl v ∧ r = v.1) (fun (v : Int32 × hLt) (U : State) => hW D vwCl ad (Sum.elim (xSH C pr) so) (Sum.elim g t) (Sum.elim v.2 tl) U.heap) (hA s0)) (vx_X (fun k : Nat => oM = .inr k) (fun (E : String) (k : Nat) (U : State) => E = hEx k ∧ hW D vwCl ad (Sum.elim (xSH C pr) so) (Sum.elim g t) (Sum.elim gl tl) U.heap) (hA s0)) args s 3 18 (hA s0)) (F0 m 259 ls [])) : ∀ (H : Heap) (locs : List Loc) (ls : Array Slot), hW D vwCl ad (Sum.elim (xSH C pr) so) (Sum.elim g t) (Sum.elim q0.2.2.2 tl) H → va_S (hA s0) s.heap H locs → lv_has ls 11 [(0, .ref (ad (.inl 0))), (1, .int p0), (2, .int p1), (3, .ref (ad (.inl 24))), (4, .int q0.1), (5, .int q0.2.1), (6, .int y6_7), (7, .int y7_9), (8, .int q0.2.2.1)] → W p l e rm_x_cut s m args below meth c H locs 3 18 (vx_MQ below (va_Qi (fun (r : Int32) (v : Int32 × hLt) => oM = .inl v ∧ r = v.1) (fun (v : Int32 × hLt) (U : State) => hW D vwCl ad (Sum.elim (xSH C pr) so) (Sum.elim g t) (Sum.elim v.2 tl) U.heap) (hA s0)) (vx_X (fun k : Nat => oM = .inr k) (fun (E : String) (k : Nat) (U : State) => E = hEx k ∧ hW D vwCl ad (Sum.elim (xSH C pr) so) (Sum.elim g t) (Sum.elim gl tl) U.heap) (hA s0)) args s 3 18 (hA s0)) (F0 m 106 ls []) := by
  obtain ⟨hx, hb, hr, hml, hown, hts, hlocks, hK, hZ0, hA0⟩ := CX
  refine hiter_W (Wh := fun q => ∀ (H : Heap) (locs : List Loc) (ls : Array Slot), hW D vwCl ad (Sum.elim (xSH C pr) so) (Sum.elim g t) (Sum.elim q.2.2.2 tl) H → va_S (hA s0) s.heap H locs → lv_has ls 11 [(0, .ref (ad (.inl 0))), (1, .int p0), (2, .int p1), (3, .ref (ad (.inl 24))), (4, .int q.1), (5, .int q.2.1), (6, .int y6_7), (7, .int y7_9), (8, .int q.2.2.1)] → W p l e rm_x_cut s m args below meth c H locs 3 18 (vx_MQ below (va_Qi (fun (r : Int32) (v : Int32 × hLt) => oM = .inl v ∧ r = v.1) (fun (v : Int32 × hLt) (U : State) => hW D vwCl ad (Sum.elim (xSH C pr) so) (Sum.elim g t) (Sum.elim v.2 tl) U.heap) (hA s0)) (vx_X (fun k : Nat => oM = .inr k) (fun (E : String) (k : Nat) (U : State) => E = hEx k ∧ hW D vwCl ad (Sum.elim (xSH C pr) so) (Sum.elim g t) (Sum.elim gl tl) U.heap) (hA s0)) args s 3 18 (hA s0)) (F0 m 106 ls [])) ?_ n q0 h0
  intro q o hf kc kx1 H locs ls hM hS hl
  obtain ⟨v4_106, v5_106, v8_106, gl_106⟩ := q
  replace hf : x_cut_L106 g p0 y6_7 y7_9 v4_106 v5_106 v8_106 gl_106 = some o := hf
  have kx : ∀ x' : Int32 × Int32 × hLt, o = .inr x' → ∀ (H : Heap) (locs : List Loc) (ls : Array Slot), hW D vwCl ad (Sum.elim (xSH C pr) so) (Sum.elim g t) (Sum.elim x'.2.2 tl) H → va_S (hA s0) s.heap H locs → lv_has ls 11 [(2, .int p1), (4, .int x'.1), (5, .int x'.2.1)] → W p l e rm_x_cut s m args below meth c H locs 3 18 (vx_MQ below (va_Qi (fun (r : Int32) (v : Int32 × hLt) => oM = .inl v ∧ r = v.1) (fun (v : Int32 × hLt) (U : State) => hW D vwCl ad (Sum.elim (xSH C pr) so) (Sum.elim g t) (Sum.elim v.2 tl) U.heap) (hA s0)) (vx_X (fun k : Nat => oM = .inr k) (fun (E : String) (k : Nat) (U : State) => E = hEx k ∧ hW D vwCl ad (Sum.elim (xSH C pr) so) (Sum.elim g t) (Sum.elim gl tl) U.heap) (hA s0)) args s 3 18 (hA s0)) (F0 m 259 ls []) := fun x' ex => by rw [kx1 _ ex]; exact kx0
  unfold x_cut_L106 at hf
  refine lv_iload hx hb dX1_cut_106 (lv_at hl 8 rfl) ?_
  refine lv_bipush (v := 12) hx hb dX1_cut_108 (by decide) ?_
  refine hb_icmp_ge (tgt := 259) hx hb dX1_cut_110 (by decide) hf (fun hf => ?_) (fun hf => ?_)
  · exact kx (v4_106, v5_106, gl_106) (Option.some.inj hf).symm H locs ls hM hS (lv_sub hl [2, 4, 5] rfl)
  · refine lv_aload_n hx hb dX1_cut_113 rfl (lv_at hl 3 rfl) ?_
    refine hr_getN (ci := 1) (C := RX4) (T := TX4) (N := 6) (r := .inl 24) hx hb hts in_X4 hown hK hM (xs_st24 (C := C) (pr := pr)).o rfl 0 (by decide) (hZ_nest hZ0 q510 rfl) rfl (v := .ref (ad (.inl (24 + 1)))) rfl dX1_cut_114 ?_
    refine lv_iload_n hx hb dX1_cut_117 rfl (lv_at hl 1 rfl) ?_
    refine hx_iald (r := (24 + 1)) hx hb hK hM 0 (xs_st24 (C := C) (pr := pr)).a1 rfl hf dX1_cut_118 (fun x10 hf => ?_)
    refine lv_iload hx hb dX1_cut_119 (lv_at hl 8 rfl) ?_
    refine lv_ishr hx hb dX1_cut_121 ?_
    refine lv_iconst (v := 1) hx hb dX1_cut_122 (by decide) ?_
    refine lv_iand hx hb dX1_cut_123 ?_
    refine hb_if_ne (tgt := 130) hx hb dX1_cut_124 (by decide) hf (fun hf => ?_) (fun hf => ?_)
    · refine lv_aload_n hx hb dX1_cut_130 rfl (lv_at hl 0 rfl) ?_
      refine lv_aload_n hx hb dX1_cut_131 rfl (lv_at hl 3 rfl) ?_
      refine lv_aload_n hx hb dX1_cut_132 rfl (lv_at hl 3 rfl) ?_
      refine hr_getN (ci := 1) (C := RX4) (T := TX4) (N := 6) (r := .inl 24) hx hb hts in_X4 hown hK hM (xs_st24 (C := C) (pr := pr)).o rfl 0 (by decide) (hZ_nest hZ0 q510 rfl) rfl (v := .ref (ad (.inl (24 + 1)))) rfl dX1_cut_133 ?_
      refine lv_iload_n hx hb dX1_cut_136 rfl (lv_at hl 1 rfl) ?_
      refine hx_iald (r := (24 + 1)) hx hb hK hM 0 (xs_st24 (C := C) (pr := pr)).a1 rfl hf dX1_cut_137 (fun x11 hf => ?_)
      refine lv_iconst (v := 1) hx hb dX1_cut_138 (by decide) ?_
      refine lv_iload hx hb dX1_cut_139 (lv_at hl 8 rfl) ?_
      refine lv_ishl hx hb dX1_cut_141 ?_
      refine lv_iconst (v := -1) hx hb dX1_cut_142 (by decide) ?_
      refine lv_ixor hx hb dX1_cut_143 ?_
      refine lv_iand hx hb dX1_cut_144 ?_
      obtain ⟨y12, hq, hf⟩ := hbind hf
      refine hr_callv0 (va_runV (As := [.ref (ad (.inl 24)), .int (x11 &&& (((1 : Int32) <<< (v8_106 &&& (31 : Int32))) ^^^ (-1 : Int32)))]) (rest := []) ⟨hx, hb, hml, hown, hts⟩ (met_x_makes l D C a0 s0 ad so pr t tl g gl_106 24 (x11 &&& (((1 : Int32) <<< (v8_106 &&& (31 : Int32))) ^^^ (-1 : Int32))) xs_st24 hq) (cwV 2 hts (lw_V q1300 q1302 qs29 q76 q1303) rfl rfl rfl (by decide +kernel) ⟨Nat.le_of_ble_eq_true rfl, Nat.le_of_ble_eq_true rfl⟩) (hr_preV hZ_c hM hIx hK hZ0 hA0 hS (r := .inl 0) xS_0 (q := (RX1, TX1, 19)) rfl) rfl rfl hl.1 rfl (lv_room (Nat.le_of_ble_eq_true rfl)) dX1_cut_145 ⟨Nat.le_of_ble_eq_true rfl, Nat.le_of_ble_eq_true rfl⟩) hS (fun H locs hM hS => ?_)
      refine lv_iconst (v := 1) hx hb dX1_cut_148 (by decide) ?_
      refine lv_istore (lv' := [(9, .int (1 : Int32)), (0, .ref (ad (.inl 0))), (1, .int p0), (2, .int p1), (3, .ref (ad (.inl 24))), (4, .int v4_106), (5, .int v5_106), (6, .int y6_7), (7, .int y7_9), (8, .int v8_106)]) hx hb dX1_cut_149 hl (by decide) rfl (fun ls hl => ?_)
      obtain ⟨x25, hq, hf⟩ := hbind hf
      refine w_x_cut_L151 ⟨hx, hb, hr, hml, hown, hts, hlocks, hK, hZ0, hA0⟩ hIx hex hlst g gl p0 p1 k0_19 x3 y4 y5 x6 y6_7 x8 y7_9 v4_106 v5_106 v8_106 gl_106 x10 x11 y12 x25 hFU (v4_106, v5_106, (1 : Int32)) hq (fun H locs ls hM hS hl => ?_) H locs ls hM hS (lv_sub hl [1, 2, 3, 4, 5, 6, 7, 8, 9, 0] rfl)
      obtain ⟨y8_26, ey, hf⟩ := hlet_ex hf
      refine lv_iinc (v := y8_26) (lv' := [(8, .int y8_26), (0, .ref (ad (.inl 0))), (1, .int p0), (2, .int p1), (3, .ref (ad (.inl 24))), (4, .int x25.1), (5, .int x25.2), (6, .int y6_7), (7, .int y7_9)]) hx hb dX1_cut_253 hl (k := 8) rfl (by rw [ey]; rfl) (by decide) rfl (fun ls hl => ?_)
      refine lv_goto (tgt := 106) hx hb dX1_cut_256 (by decide) ?_
      exact kc (x25.1, x25.2, y8_26, y12) (Option.some.inj hf).symm H locs ls hM hS (lv_sub hl [1, 2, 3, 4, 5, 6, 7, 8, 0] rfl)
    · refine lv_goto (tgt := 253) hx hb dX1_cut_127 (by decide) ?_
      obtain ⟨y8_27, ey, hf⟩ := hlet_ex hf
      refine lv_iinc (v := y8_27) (lv' := [(8, .int y8_27), (0, .ref (ad (.inl 0))), (1, .int p0), (2, .int p1), (3, .ref (ad (.inl 24))), (4, .int v4_106), (5, .int v5_106), (6, .int y6_7), (7, .int y7_9)]) hx hb dX1_cut_253 hl (k := 8) rfl (by rw [ey]; rfl) (by decide) rfl (fun ls hl => ?_)
      refine lv_goto (tgt := 106) hx hb dX1_cut_256 (by decide) ?_
      exact kc (v4_106, v5_106, y8_27, gl_106) (Option.some.inj hf).symm H locs ls hM hS (lv_sub hl [1, 2, 3, 4, 5, 6, 7, 8, 0] rfl)
set_option maxHeartbeats 4000000 in
set_option maxRecDepth 100000 in
theorem w_x_cut_B19 {p : Program} {l : Launch} {e : Env} {s : State} {m : MethodId} {args : Array Value} {below : List Frame} {meth : Method} {c : Code} {D : va_G} {C : Nat → Nat} {a0 : Array Value} {s0 : State} {ad : Rl → Nat} {so : Nat → Option hS} {pr : hPr} {t : hSt} {tl : hLt} (CX : hCx D C a0 s0 p s m args meth c cX1_cut 11 RX1 (some .int)) (hIx : hI (hA s0) ad (Sum.elim (xSH C pr) so)) (hex : ∀ x ∈ c.exceptionTable.toList, False) (hlst : l.stackTraces = false) (g : hSt) (gl : hLt) (p0 : Int32) (p1 : Int32) (k0_19 : Int32) {o : (Int32 × hLt) ⊕ Nat} (hf : x_cut_B19 g gl p0 p1 k0_19 = some o) {H : Heap} {locs : List Loc} (hM : hW D vwCl ad (Sum.elim (xSH C pr) so) (Sum.elim g t) (Sum.elim gl tl) H) (hS : va_S (hA s0) s.heap H locs) {ls : Array Slot} (hl : lv_has ls 11 [(0, .ref (ad (.inl 0))), (1, .int p0), (2, .int p1)]) : W p l e rm_x_cut s m args below meth c H locs 1 6 (vx_MQ below (va_Qi (fun (r : Int32) (v : Int32 × hLt) => o = .inl v ∧ r = v.1) (fun (v : Int32 × hLt) (U : State) => hW D vwCl ad (Sum.elim (xSH C pr) so) (Sum.elim g t) (Sum.elim v.2 tl) U.heap) (hA s0)) (vx_X (fun k : Nat => o = .inr k) (fun (E : String) (k : Nat) (U : State) => E = hEx k ∧ hW D vwCl ad (Sum.elim (xSH C pr) so) (Sum.elim g t) (Sum.elim gl tl) U.heap) (hA s0)) args s 3 18 (hA s0)) (F0 m 19 ls [.int k0_19]) := by
  obtain ⟨hx, hb, hr, hml, hown, hts, hlocks, hK, hZ0, hA0⟩ := CX
  unfold x_cut_B19 at hf
  obtain ⟨z2, hq, hf⟩ := hbind hf
  refine hr_xcallv hf (vx_runS (As := [.int k0_19]) (rest := []) ⟨hx, hb, hml, hown, hts⟩ (met_x_there l D C a0 s0 ad so pr (Sum.elim g t) (Sum.elim gl tl) k0_19 hlst hq) (va_cwS 1 hts (lw_S q1159 q1160 q76 q1161) rfl rfl rfl (by decide +kernel) ⟨Nat.le_of_ble_eq_true rfl, Nat.le_of_ble_eq_true rfl⟩) (hr_preS hZ_c hM hIx hK hZ0 hA0 hS) rfl rfl hl.1 rfl (lv_room (Nat.le_of_ble_eq_true rfl)) dX1_cut_19 ⟨Nat.le_of_ble_eq_true rfl, Nat.le_of_ble_eq_true rfl⟩) hS hex hlocks hIx (Nat.le_of_ble_eq_true rfl) (Nat.le_of_ble_eq_true rfl) (fun H locs hf hM hS => ?_)
  refine lv_aload_n hx hb dX1_cut_22 rfl (lv_at hl 0 rfl) ?_
  refine hr_get (ci := 0) (C := RX1) (T := TX1) (N := 19) (r := .inl 0) hx hb hts in_X1 hown hK hM xS_0 rfl 1 (by decide) (hts _ q560) rfl (v := .ref (ad (.inl 20))) rfl dX1_cut_23 ?_
  refine hr_getN (ci := 3) (C := RX3) (T := TX3) (N := 3) (r := .inl 20) hx hb hts in_X3 hown hK hM xS_20 rfl 0 (by decide) (hZ_nest hZ0 q544 rfl) rfl (v := .ref (ad (.inl 24))) rfl dX1_cut_26 ?_
  refine lv_astore_n (lv' := [(3, .ref (ad (.inl 24))), (0, .ref (ad (.inl 0))), (1, .int p0), (2, .int p1)]) hx hb dX1_cut_29 rfl hl (by decide) rfl (fun ls hl => ?_)
  refine lv_iconst (v := -1) hx hb dX1_cut_30 (by decide) ?_
  refine lv_istore (lv' := [(4, .int (-1 : Int32)), (3, .ref (ad (.inl 24))), (0, .ref (ad (.inl 0))), (1, .int p0), (2, .int p1)]) hx hb dX1_cut_31 hl (by decide) rfl (fun ls hl => ?_)
  refine lv_iconst (v := 0) hx hb dX1_cut_33 (by decide) ?_
  refine lv_istore (lv' := [(5, .int (0 : Int32)), (4, .int (-1 : Int32)), (3, .ref (ad (.inl 24))), (0, .ref (ad (.inl 0))), (1, .int p0), (2, .int p1)]) hx hb dX1_cut_34 hl (by decide) rfl (fun ls hl => ?_)
  refine lv_aload_n hx hb dX1_cut_36 rfl (lv_at hl 2 rfl) ?_
  refine hr_getN (ci := 1) (C := RX4) (T := TX4) (N := 6) (r := .inl 24) hx hb hts in_X4 hown hK hM (xs_st24 (C := C) (pr := pr)).o rfl 2 (by decide) (hZ_nest hZ0 q518 rfl) rfl (v := .ref (ad (.inl (24 + 3)))) rfl dX1_cut_37 ?_
  refine lv_iload_n hx hb dX1_cut_40 rfl (lv_at hl 4 rfl) ?_
  refine hx_iald (r := (24 + 3)) hx hb hK hM 0 (xs_st24 (C := C) (pr := pr)).a3 rfl hf dX1_cut_41 (fun x3 hf => ?_)
  refine hb_if_le (tgt := 259) hx hb dX1_cut_42 (by decide) hf (fun hf => ?_) (fun hf => ?_)
  · refine W.widen (k := 3) (n := 18) (Nat.le_of_ble_eq_true rfl) (Nat.le_of_ble_eq_true rfl) ?_
    exact w_x_cut_B259 ⟨hx, hb, hr, hml, hown, hts, hlocks, hK, hZ0, hA0⟩ hIx hex hlst g gl p0 p1 k0_19 x3 (-1 : Int32) (0 : Int32) gl hf hM hS (lv_sub hl [5, 1, 0] rfl)
  · refine lv_aload_n hx hb dX1_cut_45 rfl (lv_at hl 3 rfl) ?_
    refine lv_iload_n hx hb dX1_cut_46 rfl (lv_at hl 4 rfl) ?_
    obtain ⟨z4, hq, hf⟩ := hbind hf
    refine hr_xcalli hf (vx_runV (As := [.int p0]) (rest := []) ⟨hx, hb, hml, hown, hts⟩ (met_x_sets l D C a0 s0 ad so pr t (Sum.elim gl tl) g p0 hlst hq) (cwV 1 hts (lw_V q1299 q1226 q1227 q76 q1228) rfl rfl rfl (by decide +kernel) ⟨Nat.le_of_ble_eq_true rfl, Nat.le_of_ble_eq_true rfl⟩) (hr_preV hZ_c hM hIx hK hZ0 hA0 hS (r := .inl 0) xS_0 (q := (RX1, TX1, 19)) rfl) rfl rfl hl.1 rfl (lv_room (Nat.le_of_ble_eq_true rfl)) dX1_cut_47 ⟨Nat.le_of_ble_eq_true rfl, Nat.le_of_ble_eq_true rfl⟩) hS hex hlocks hIx (Nat.le_of_ble_eq_true rfl) (Nat.le_of_ble_eq_true rfl) (fun y4 H locs hf hM hS => ?_)
    refine hb_if_ne (tgt := 259) hx hb dX1_cut_50 (by decide) hf (fun hf => ?_) (fun hf => ?_)
    · exact w_x_cut_B259 ⟨hx, hb, hr, hml, hown, hts, hlocks, hK, hZ0, hA0⟩ hIx hex hlst g gl p0 p1 k0_19 x3 (-1 : Int32) (0 : Int32) gl hf hM hS (lv_sub hl [5, 1, 0] rfl)
    · refine lv_aload_n hx hb dX1_cut_53 rfl (lv_at hl 3 rfl) ?_
      refine hr_get (ci := 0) (C := RX1) (T := TX1) (N := 19) (r := .inl 0) hx hb hts in_X1 hown hK hM xS_0 rfl 0 (by decide) (hts _ q559) rfl (v := .ref (ad (.inl 10))) rfl dX1_cut_54 ?_
      refine hr_getN (ci := 2) (C := RX2) (T := TX2) (N := 6) (r := .inl 10) hx hb hts in_X2 hown hK hM xS_10 rfl 0 (by decide) (hZ_nest hZ0 q468 rfl) rfl (v := .ref (ad (.inl 11))) rfl dX1_cut_57 ?_
      obtain ⟨y5, hq, hf⟩ := hbind hf
      refine hr_calli0 (va_runV (As := []) (rest := []) ⟨hx, hb, hml, hown, hts⟩ (met_x_al_size l D C a0 s0 ad so pr t (Sum.elim gl tl) g 11 xs_11 hq) (cwV 0 hts (lw_V q642 q643 q644 q80 q645) rfl rfl rfl (by decide +kernel) ⟨Nat.le_of_ble_eq_true rfl, Nat.le_of_ble_eq_true rfl⟩) (hr_preV hZ_c hM hIx hK hZ0 hA0 hS (r := .inl 11) xS_11 (q := (RJ2, TJ2, 3)) rfl) rfl rfl hl.1 rfl (lv_room (Nat.le_of_ble_eq_true rfl)) dX1_cut_60 ⟨Nat.le_of_ble_eq_true rfl, Nat.le_of_ble_eq_true rfl⟩) hS (fun H locs hM hS => ?_)
      refine lv_iconst (v := 1) hx hb dX1_cut_63 (by decide) ?_
      refine hb_icmp_le (tgt := 259) hx hb dX1_cut_64 (by decide) hf (fun hf => ?_) (fun hf => ?_)
      · exact w_x_cut_B259 ⟨hx, hb, hr, hml, hown, hts, hlocks, hK, hZ0, hA0⟩ hIx hex hlst g gl p0 p1 k0_19 x3 (-1 : Int32) (0 : Int32) gl hf hM hS (lv_sub hl [5, 1, 0] rfl)
      · refine lv_iconst (v := 1) hx hb dX1_cut_67 (by decide) ?_
        refine lv_aload_n hx hb dX1_cut_68 rfl (lv_at hl 2 rfl) ?_
        refine hr_getN (ci := 1) (C := RX4) (T := TX4) (N := 6) (r := .inl 24) hx hb hts in_X4 hown hK hM (xs_st24 (C := C) (pr := pr)).o rfl 2 (by decide) (hZ_nest hZ0 q518 rfl) rfl (v := .ref (ad (.inl (24 + 3)))) rfl dX1_cut_69 ?_
        refine lv_iload_n hx hb dX1_cut_72 rfl (lv_at hl 4 rfl) ?_
        refine hx_iald (r := (24 + 3)) hx hb hK hM 0 (xs_st24 (C := C) (pr := pr)).a3 rfl hf dX1_cut_73 (fun x6 hf => ?_)
        refine lv_aload_n hx hb dX1_cut_74 rfl (lv_at hl 3 rfl) ?_
        refine hr_get (ci := 0) (C := RX1) (T := TX1) (N := 19) (r := .inl 0) hx hb hts in_X1 hown hK hM xS_0 rfl 0 (by decide) (hts _ q559) rfl (v := .ref (ad (.inl 10))) rfl dX1_cut_75 ?_
        refine hr_getN (ci := 2) (C := RX2) (T := TX2) (N := 6) (r := .inl 10) hx hb hts in_X2 hown hK hM xS_10 rfl 4 (by decide) (hZ_nest hZ0 q479 rfl) rfl (v := .int (g 10 4)) rfl dX1_cut_78 ?_
        refine lv_isub hx hb dX1_cut_81 ?_
        refine va_mmax hx hb (by rw [hml]; exact hl.1.symm) hown (hts _ q654) (hts _ q240) (hts _ q90) (hts _ q241) (Nat.le_of_ble_eq_true rfl) (Nat.le_of_ble_eq_true rfl) (Nat.le_of_ble_eq_true rfl) (Nat.le_of_ble_eq_true rfl) dX1_cut_82 ?_
        refine hb_top hf (fun y6_7 hf => ?_)
        refine lv_istore (lv' := [(6, .int y6_7), (5, .int (0 : Int32)), (4, .int (-1 : Int32)), (3, .ref (ad (.inl 24))), (0, .ref (ad (.inl 0))), (1, .int p0), (2, .int p1)]) hx hb dX1_cut_85 hl (by decide) rfl (fun ls hl => ?_)
        refine lv_aload_n hx hb dX1_cut_87 rfl (lv_at hl 3 rfl) ?_
        refine hr_getN (ci := 1) (C := RX4) (T := TX4) (N := 6) (r := .inl 24) hx hb hts in_X4 hown hK hM (xs_st24 (C := C) (pr := pr)).o rfl 2 (by decide) (hZ_nest hZ0 q518 rfl) rfl (v := .ref (ad (.inl (24 + 3)))) rfl dX1_cut_88 ?_
        refine lv_iload_n hx hb dX1_cut_91 rfl (lv_at hl 5 rfl) ?_
        refine hx_iald (r := (24 + 3)) hx hb hK hM 0 (xs_st24 (C := C) (pr := pr)).a3 rfl hf dX1_cut_92 (fun x8 hf => ?_)
        refine lv_aload_n hx hb dX1_cut_93 rfl (lv_at hl 4 rfl) ?_
        refine hr_get (ci := 0) (C := RX1) (T := TX1) (N := 19) (r := .inl 0) hx hb hts in_X1 hown hK hM xS_0 rfl 0 (by decide) (hts _ q559) rfl (v := .ref (ad (.inl 10))) rfl dX1_cut_94 ?_
        refine hr_getN (ci := 2) (C := RX2) (T := TX2) (N := 6) (r := .inl 10) hx hb hts in_X2 hown hK hM xS_10 rfl 4 (by decide) (hZ_nest hZ0 q479 rfl) rfl (v := .int (g 10 4)) rfl dX1_cut_97 ?_
        refine lv_iadd hx hb dX1_cut_100 ?_
        refine hb_top hf (fun y7_9 hf => ?_)
        refine lv_istore (lv' := [(7, .int y7_9), (6, .int y6_7), (5, .int (0 : Int32)), (4, .int (-1 : Int32)), (3, .ref (ad (.inl 24))), (0, .ref (ad (.inl 0))), (1, .int p0), (2, .int p1)]) hx hb dX1_cut_101 hl (by decide) rfl (fun ls hl => ?_)
        refine lv_iconst (v := 0) hx hb dX1_cut_103 (by decide) ?_
        refine lv_istore (lv' := [(8, .int (0 : Int32)), (7, .int y7_9), (6, .int y6_7), (5, .int (0 : Int32)), (4, .int (-1 : Int32)), (3, .ref (ad (.inl 24))), (0, .ref (ad (.inl 0))), (1, .int p0), (2, .int p1)]) hx hb dX1_cut_104 hl (by decide) rfl (fun ls hl => ?_)
        obtain ⟨x28, hq, hf⟩ := hbind hf
        refine w_x_cut_L106 ⟨hx, hb, hr, hml, hown, hts, hlocks, hK, hZ0, hA0⟩ hIx hex hlst g gl p0 p1 k0_19 x3 y4 y5 x6 y6_7 x8 y7_9 x28 hFU ((-1 : Int32), (0 : Int32), (0 : Int32), gl) hq (fun H locs ls hM hS hl => ?_) H locs ls hM hS (lv_sub hl [6, 7, 8, 5, 4, 3, 2, 1, 0] rfl)
        exact w_x_cut_B259 ⟨hx, hb, hr, hml, hown, hts, hlocks, hK, hZ0, hA0⟩ hIx hex hlst g gl p0 p1 k0_19 x3 x28.1 x28.2.1 x28.2.2 hf hM hS (lv_sub hl [0, 1, 2] rfl)
set_option maxHeartbeats 4000000 in
set_option maxRecDepth 100000 in
theorem w_x_cut {p : Program} {l : Launch} {e : Env} {s : State} {m : MethodId} {args : Array Value} {below : List Frame} {meth : Method} {c : Code} {D : va_G} {C : Nat → Nat} {a0 : Array Value} {s0 : State} {ad : Rl → Nat} {so : Nat → Option hS} {pr : hPr} {t : hSt} {tl : hLt} (CX : hCx D C a0 s0 p s m args meth c cX1_cut 11 RX1 (some .int)) (hIx : hI (hA s0) ad (Sum.elim (xSH C pr) so)) (hex : ∀ x ∈ c.exceptionTable.toList, False) (hlst : l.stackTraces = false) (g : hSt) (gl : hLt) (p0 : Int32) (p1 : Int32) {o : (Int32 × hLt) ⊕ Nat} (hf : x_cut g gl p0 p1 = some o) {H : Heap} {locs : List Loc} (hM : hW D vwCl ad (Sum.elim (xSH C pr) so) (Sum.elim g t) (Sum.elim gl tl) H) (hS : va_S (hA s0) s.heap H locs) {ls : Array Slot} (hl : lv_has ls 11 [(0, .ref (ad (.inl 0))), (1, .int p0), (2, .int p1)]) : W p l e rm_x_cut s m args below meth c H locs 0 0 (vx_MQ below (va_Qi (fun (r : Int32) (v : Int32 × hLt) => o = .inl v ∧ r = v.1) (fun (v : Int32 × hLt) (U : State) => hW D vwCl ad (Sum.elim (xSH C pr) so) (Sum.elim g t) (Sum.elim v.2 tl) U.heap) (hA s0)) (vx_X (fun k : Nat => o = .inr k) (fun (E : String) (k : Nat) (U : State) => E = hEx k ∧ hW D vwCl ad (Sum.elim (xSH C pr) so) (Sum.elim g t) (Sum.elim gl tl) U.heap) (hA s0)) args s 3 18 (hA s0)) (F0 m 0 ls []) := by
  obtain ⟨hx, hb, hr, hml, hown, hts, hlocks, hK, hZ0, hA0⟩ := CX
  unfold x_cut at hf
  refine lv_aload_n hx hb dX1_cut_0 rfl (lv_at hl 0 rfl) ?_
  refine lv_iload_n hx hb dX1_cut_1 rfl (lv_at hl 1 rfl) ?_
  obtain ⟨z1, hq, hf⟩ := hbind hf
  refine hr_xcallv hf (vx_runV (As := [.int p0]) (rest := []) ⟨hx, hb, hml, hown, hts⟩ (met_x_person_2 l D C a0 s0 ad so pr t (Sum.elim gl tl) g p0 hlst hq) (cwV 1 hts (lw_V q1184 q1186 qs24 q76 q1187) rfl rfl rfl (by decide +kernel) ⟨Nat.le_of_ble_eq_true rfl, Nat.le_of_ble_eq_true rfl⟩) (hr_preV hZ_c hM hIx hK hZ0 hA0 hS (r := .inl 0) xS_0 (q := (RX1, TX1, 19)) rfl) rfl rfl hl.1 rfl (lv_room (Nat.le_of_ble_eq_true rfl)) dX1_cut_2 ⟨Nat.le_of_ble_eq_true rfl, Nat.le_of_ble_eq_true rfl⟩) hS hex hlocks hIx (Nat.le_of_ble_eq_true rfl) (Nat.le_of_ble_eq_true rfl) (fun H locs hf hM hS => ?_)
  refine lv_iload_n hx hb dX1_cut_5 rfl (lv_at hl 2 rfl) ?_
  refine hb_if_eq (tgt := 14) hx hb dX1_cut_6 (by decide) hf (fun hf => ?_) (fun hf => ?_)
  · refine lv_iconst (v := 1) hx hb dX1_cut_14 (by decide) ?_
    refine lv_goto (tgt := 19) hx hb dX1_cut_15 (by decide) ?_
    exact w_x_cut_B19 ⟨hx, hb, hr, hml, hown, hts, hlocks, hK, hZ0, hA0⟩ hIx hex hlst g gl p0 p1 (1 : Int32) hf hM hS (lv_sub hl [0, 1, 2] rfl)
  · refine lv_iload_n hx hb dX1_cut_9 rfl (lv_at hl 2 rfl) ?_
    refine lv_iconst (v := 1) hx hb dX1_cut_10 (by decide) ?_
    refine hb_icmp_ne (tgt := 18) hx hb dX1_cut_11 (by decide) hf (fun hf => ?_) (fun hf => ?_)
    · refine lv_iconst (v := 0) hx hb dX1_cut_18 (by decide) ?_
      exact w_x_cut_B19 ⟨hx, hb, hr, hml, hown, hts, hlocks, hK, hZ0, hA0⟩ hIx hex hlst g gl p0 p1 (0 : Int32) hf hM hS (lv_sub hl [0, 1, 2] rfl)
    · refine lv_iconst (v := 1) hx hb dX1_cut_14 (by decide) ?_
      refine lv_goto (tgt := 19) hx hb dX1_cut_15 (by decide) ?_
      exact w_x_cut_B19 ⟨hx, hb, hr, hml, hown, hts, hlocks, hK, hZ0, hA0⟩ hIx hex hlst g gl p0 p1 (1 : Int32) hf hM hS (lv_sub hl [0, 1, 2] rfl)
set_option maxHeartbeats 4000000 in
set_option maxRecDepth 100000 in
theorem met_x_cut (l : Launch) (D : va_G) (C : Nat → Nat) (a0 : Array Value) (s0 : State) (ad : Rl → Nat) (so : Nat → Option hS) (pr : hPr) (t : hSt) (tl : hLt) (g : hSt) (gl : hLt) (p0 : Int32) (p1 : Int32) (hlst : l.stackTraces = false) {o : (Int32 × hLt) ⊕ Nat} (hf : x_cut g gl p0 p1 = some o) : vx_Met l yX1_cut (ws_ yX1_cut cX1_cut 11 (some .int)) rm_x_cut (va_Pc [.ref (ad (.inl 0)), .int p0, .int p1] (hB D vwCl (hT C) (hA s0) (hZ a0 s0) ad (Sum.elim (xSH C pr) so) (Sum.elim g t) (Sum.elim gl tl))) (va_Qi (fun (r : Int32) (v : Int32 × hLt) => o = .inl v ∧ r = v.1) (fun (v : Int32 × hLt) (U : State) => hW D vwCl ad (Sum.elim (xSH C pr) so) (Sum.elim g t) (Sum.elim v.2 tl) U.heap) (hA s0)) (vx_X (fun k : Nat => o = .inr k) (fun (E : String) (k : Nat) (U : State) => E = hEx k ∧ hW D vwCl ad (Sum.elim (xSH C pr) so) (Sum.elim g t) (Sum.elim gl tl) U.heap) (hA s0)) 3 18 (hA s0) := by
  refine vx_ofW (cc := cX1_cut) (maxL := 11) (ret := (some .int)) (by decide) rfl ?_
  intro p e s m args below meth c s₁ B hml hex hv
  obtain ⟨rfl, hM, hIx, hK, hZ0, hA0⟩ := hv
  have hl := lv_entry ([.ref (ad (.inl 0)), .int p0, .int p1]) (n := 11) (Nat.le_of_ble_eq_true rfl)
  rw [lg_entry_eq]
  generalize (lg_sl ([.ref (ad (.inl 0)), .int p0, .int p1]) ++ List.replicate (11 - (lg_sl ([.ref (ad (.inl 0)), .int p0, .int p1])).length) Slot.unset).toArray = ls at hl ⊢
  have hl : lv_has ls 11 [(0, .ref (ad (.inl 0))), (1, .int p0), (2, .int p1)] := hl
  exact w_x_cut ⟨B.exec, B.bytes, B.returns, hml, findClass_of_methodNamed B.named, fun w h => atoms_spec (ws := ws_ yX1_cut cX1_cut 11 (some .int)) B.pre w (List.mem_cons_of_mem _ h), B.notSynchronized, hK, hZ0, hA0⟩ hIx hex hlst g gl p0 p1 hf hM va_S.rf hl

def rm_x_keep : Room := { frames := 11, cells := 3, slots := 18, locals := 142 }
set_option maxHeartbeats 4000000 in
set_option maxRecDepth 100000 in
theorem w_x_keep_L32 {p : Program} {l : Launch} {e : Env} {s : State} {m : MethodId} {args : Array Value} {below : List Frame} {meth : Method} {c : Code} {D : va_G} {C : Nat → Nat} {a0 : Array Value} {s0 : State} {ad : Rl → Nat} {so : Nat → Option hS} {pr : hPr} {st : Rl → Nat → Int32} {lt : Rl → Nat → Int64} (CX : hCx D C a0 s0 p s m args meth c cX1_keep 7 RX1 (some .int)) (hIx : hI (hA s0) ad (Sum.elim (xSH C pr) so)) (hex : ∀ x ∈ c.exceptionTable.toList, False) (hlst : l.stackTraces = false) (p0 : Int32) (p1 : Int32) (y1 : Int32) (k0_21 : Int32) {oM : (Int32) ⊕ Nat} (x : (Int32) ⊕ (Int32)) (n : Nat) (q0 : Int32 × Int32 × Int32) (h0 : hiter (fun q : Int32 × Int32 × Int32 => x_keep_L32 p0 p1 q.1 q.2.1 q.2.2) n q0 = some x) (kx0 : ∀ x' : Int32, x = .inl x' → ∀ (H : Heap) (locs : List Loc) (ls : Array Slot), hW D vwCl ad (Sum.elim (xSH C pr) so) st lt H → va_S (hA s0) s.heap H locs → lv_has ls 7 [(2, .int p1), (4, .int x')] → W p l e rm_x_keep s m args below meth c H locs 2 12 (vx_MQ below (va_Qi (fun (r : Int32) (v : Int32) => oM = .inl v ∧ r = v) (fun (v : Int32) (U : State) => hW D vwCl ad (Sum.elim (xSH C pr) so) st lt U.heap) (hA s0)) (vx_X (fun k : Nat => oM = .inr k) (fun (E : String) (k : Nat) (U : State) => E = hEx k ∧ hW D vwCl ad (Sum.elim (xSH C pr) so) st lt U.heap) (hA s0)) args s 3 18 (hA s0)) (F0 m 73 ls [])) (kr0 : ∀ r : Int32, x = .inr r → Sum.inl r = oM) : ∀ (H : Heap) (locs : List Loc) (ls : Array Slot), hW D vwCl ad (Sum.elim (xSH C pr) so) st lt H → va_S (hA s0) s.heap H locs → lv_has ls 7 [(1, .int p0), (2, .int p1), (3, .int q0.1), (4, .int q0.2.1), (5, .int q0.2.2)] → W p l e rm_x_keep s m args below meth c H locs 2 12 (vx_MQ below (va_Qi (fun (r : Int32) (v : Int32) => oM = .inl v ∧ r = v) (fun (v : Int32) (U : State) => hW D vwCl ad (Sum.elim (xSH C pr) so) st lt U.heap) (hA s0)) (vx_X (fun k : Nat => oM = .inr k) (fun (E : String) (k : Nat) (U : State) => E = hEx k ∧ hW D vwCl ad (Sum.elim (xSH C pr) so) st lt U.heap) (hA s0)) args s 3 18 (hA s0)) (F0 m 32 ls []) := by
  obtain ⟨hx, hb, hr, hml, hown, hts, hlocks, hK, hZ0, hA0⟩ := CX
  refine hiter_W (Wh := fun q => ∀ (H : Heap) (locs : List Loc) (ls : Array Slot), hW D vwCl ad (Sum.elim (xSH C pr) so) st lt H → va_S (hA s0) s.heap H locs → lv_has ls 7 [(1, .int p0), (2, .int p1), (3, .int q.1), (4, .int q.2.1), (5, .int q.2.2)] → W p l e rm_x_keep s m args below meth c H locs 2 12 (vx_MQ below (va_Qi (fun (r : Int32) (v : Int32) => oM = .inl v ∧ r = v) (fun (v : Int32) (U : State) => hW D vwCl ad (Sum.elim (xSH C pr) so) st lt U.heap) (hA s0)) (vx_X (fun k : Nat => oM = .inr k) (fun (E : String) (k : Nat) (U : State) => E = hEx k ∧ hW D vwCl ad (Sum.elim (xSH C pr) so) st lt U.heap) (hA s0)) args s 3 18 (hA s0)) (F0 m 32 ls [])) ?_ n q0 h0
  intro q o hf kc kx1 H locs ls hM hS hl
  obtain ⟨v3_32, v4_32, v5_32⟩ := q
  replace hf : x_keep_L32 p0 p1 v3_32 v4_32 v5_32 = some o := hf
  have kx : ∀ x' : Int32, o = .inr (.inl x') → ∀ (H : Heap) (locs : List Loc) (ls : Array Slot), hW D vwCl ad (Sum.elim (xSH C pr) so) st lt H → va_S (hA s0) s.heap H locs → lv_has ls 7 [(2, .int p1), (4, .int x')] → W p l e rm_x_keep s m args below meth c H locs 2 12 (vx_MQ below (va_Qi (fun (r : Int32) (v : Int32) => oM = .inl v ∧ r = v) (fun (v : Int32) (U : State) => hW D vwCl ad (Sum.elim (xSH C pr) so) st lt U.heap) (hA s0)) (vx_X (fun k : Nat => oM = .inr k) (fun (E : String) (k : Nat) (U : State) => E = hEx k ∧ hW D vwCl ad (Sum.elim (xSH C pr) so) st lt U.heap) (hA s0)) args s 3 18 (hA s0)) (F0 m 73 ls []) := fun x' ex => kx0 x' (kx1 _ ex).symm
  have kr : ∀ r : Int32, o = .inr (.inr r) → Sum.inl r = oM := fun r ex => kr0 r (kx1 _ ex).symm
  unfold x_keep_L32 at hf
  refine lv_iload_n hx hb dX1_keep_32 rfl (lv_at hl 2 rfl) ?_
  refine lv_iload_n hx hb dX1_keep_33 rfl (lv_at hl 0 rfl) ?_
  refine hb_icmp_ge (tgt := 73) hx hb dX1_keep_34 (by decide) hf (fun hf => ?_) (fun hf => ?_)
  · exact kx v4_32 (Option.some.inj hf).symm H locs ls hM hS (lv_sub hl [1, 3] rfl)
  · refine lv_iload hx hb dX1_keep_37 (lv_at hl 4 rfl) ?_
    refine lv_iload_n hx hb dX1_keep_39 rfl (lv_at hl 0 rfl) ?_
    refine lv_iload_n hx hb dX1_keep_40 rfl (lv_at hl 2 rfl) ?_
    refine lv_isub hx hb dX1_keep_41 ?_
    refine va_mmin hx hb (by rw [hml]; exact hl.1.symm) hown (hts _ q1243) (hts _ q258) (hts _ q90) (hts _ q259) (Nat.le_of_ble_eq_true rfl) (Nat.le_of_ble_eq_true rfl) (Nat.le_of_ble_eq_true rfl) (Nat.le_of_ble_eq_true rfl) dX1_keep_42 ?_
    refine hb_top hf (fun y6_4 hf => ?_)
    refine lv_istore (lv' := [(6, .int y6_4), (1, .int p0), (2, .int p1), (3, .int v3_32), (4, .int v4_32), (5, .int v5_32)]) hx hb dX1_keep_45 hl (by decide) rfl (fun ls hl => ?_)
    refine lv_iload hx hb dX1_keep_47 (lv_at hl 4 rfl) ?_
    refine lv_iload_n hx hb dX1_keep_49 rfl (lv_at hl 2 rfl) ?_
    refine hb_icmp_ne (tgt := 56) hx hb dX1_keep_50 (by decide) hf (fun hf => ?_) (fun hf => ?_)
    · refine lv_iload_n hx hb dX1_keep_56 rfl (lv_at hl 3 rfl) ?_
      refine lv_iload hx hb dX1_keep_57 (lv_at hl 0 rfl) ?_
      refine lv_iadd hx hb dX1_keep_59 ?_
      refine hb_top hf (fun y3_5 hf => ?_)
      refine lv_istore_n (lv' := [(3, .int y3_5), (6, .int y6_4), (1, .int p0), (2, .int p1), (4, .int v4_32), (5, .int v5_32)]) hx hb dX1_keep_60 rfl hl (by decide) rfl (fun ls hl => ?_)
      obtain ⟨y4_6, ey, hf⟩ := hlet_ex hf
      refine lv_iinc (v := y4_6) (lv' := [(4, .int y4_6), (3, .int y3_5), (6, .int y6_4), (1, .int p0), (2, .int p1), (5, .int v5_32)]) hx hb dX1_keep_61 hl (k := 4) rfl (by rw [ey]; rfl) (by decide) rfl (fun ls hl => ?_)
      refine lv_iload hx hb dX1_keep_64 (lv_at hl 5 rfl) ?_
      refine lv_iconst (v := 2) hx hb dX1_keep_66 (by decide) ?_
      refine lv_imul hx hb dX1_keep_67 ?_
      refine hb_top hf (fun y5_7 hf => ?_)
      refine lv_istore (lv' := [(5, .int y5_7), (4, .int y4_6), (3, .int y3_5), (6, .int y6_4), (1, .int p0), (2, .int p1)]) hx hb dX1_keep_68 hl (by decide) rfl (fun ls hl => ?_)
      refine lv_goto (tgt := 32) hx hb dX1_keep_70 (by decide) ?_
      exact kc (y3_5, y4_6, y5_7) (Option.some.inj hf).symm H locs ls hM hS (lv_sub hl [4, 5, 2, 1, 0] rfl)
    · refine lv_iload hx hb dX1_keep_53 (lv_at hl 0 rfl) ?_
      have eo := kr y6_4 (Option.some.inj hf).symm
      subst eo
      refine W.widen (k := 3) (n := 18) (Nat.le_of_ble_eq_true rfl) (Nat.le_of_ble_eq_true rfl) ?_
      exact vx_ret (W.iret (v := y6_4) hx hb hr (fun T ht hW => ⟨⟨y6_4, y6_4, rfl, ⟨rfl, rfl⟩, by dsimp only; rw [ht]; exact hM⟩, hS.F ht⟩) hS.2.2 dX1_keep_55)
set_option maxHeartbeats 4000000 in
set_option maxRecDepth 100000 in
theorem w_x_keep_B83 {p : Program} {l : Launch} {e : Env} {s : State} {m : MethodId} {args : Array Value} {below : List Frame} {meth : Method} {c : Code} {D : va_G} {C : Nat → Nat} {a0 : Array Value} {s0 : State} {ad : Rl → Nat} {so : Nat → Option hS} {pr : hPr} {st : Rl → Nat → Int32} {lt : Rl → Nat → Int64} (CX : hCx D C a0 s0 p s m args meth c cX1_keep 7 RX1 (some .int)) (hIx : hI (hA s0) ad (Sum.elim (xSH C pr) so)) (hex : ∀ x ∈ c.exceptionTable.toList, False) (hlst : l.stackTraces = false) (p0 : Int32) (p1 : Int32) (y1 : Int32) (k0_21 : Int32) (e9 : Int32) (k0_83 : Int32) {o : (Int32) ⊕ Nat} (hf : x_keep_B83 e9 k0_83 = some o) {H : Heap} {locs : List Loc} (hM : hW D vwCl ad (Sum.elim (xSH C pr) so) st lt H) (hS : va_S (hA s0) s.heap H locs) {ls : Array Slot} (hl : lv_has ls 7 [(4, .int e9)]) : W p l e rm_x_keep s m args below meth c H locs 2 12 (vx_MQ below (va_Qi (fun (r : Int32) (v : Int32) => o = .inl v ∧ r = v) (fun (v : Int32) (U : State) => hW D vwCl ad (Sum.elim (xSH C pr) so) st lt U.heap) (hA s0)) (vx_X (fun k : Nat => o = .inr k) (fun (E : String) (k : Nat) (U : State) => E = hEx k ∧ hW D vwCl ad (Sum.elim (xSH C pr) so) st lt U.heap) (hA s0)) args s 3 18 (hA s0)) (F0 m 83 ls [.int k0_83]) := by
  obtain ⟨hx, hb, hr, hml, hown, hts, hlocks, hK, hZ0, hA0⟩ := CX
  unfold x_keep_B83 at hf
  obtain ⟨z10, hq, hf⟩ := hbind hf
  refine hr_xcallv hf (vx_runS (As := [.int k0_83]) (rest := []) ⟨hx, hb, hml, hown, hts⟩ (met_x_there l D C a0 s0 ad so pr st lt k0_83 hlst hq) (va_cwS 1 hts (lw_S q1159 q1160 q76 q1161) rfl rfl rfl (by decide +kernel) ⟨Nat.le_of_ble_eq_true rfl, Nat.le_of_ble_eq_true rfl⟩) (hr_preS hZ_c hM hIx hK hZ0 hA0 hS) rfl rfl hl.1 rfl (lv_room (Nat.le_of_ble_eq_true rfl)) dX1_keep_83 ⟨Nat.le_of_ble_eq_true rfl, Nat.le_of_ble_eq_true rfl⟩) hS hex hlocks hIx (Nat.le_of_ble_eq_true rfl) (Nat.le_of_ble_eq_true rfl) (fun H locs hf hM hS => ?_)
  refine lv_iload hx hb dX1_keep_86 (lv_at hl 0 rfl) ?_
  have eo := Option.some.inj hf
  subst eo
  refine W.widen (k := 3) (n := 18) (Nat.le_of_ble_eq_true rfl) (Nat.le_of_ble_eq_true rfl) ?_
  exact vx_ret (W.iret (v := e9) hx hb hr (fun T ht hW => ⟨⟨e9, e9, rfl, ⟨rfl, rfl⟩, by dsimp only; rw [ht]; exact hM⟩, hS.F ht⟩) hS.2.2 dX1_keep_88)
set_option maxHeartbeats 4000000 in
set_option maxRecDepth 100000 in
theorem w_x_keep_B21 {p : Program} {l : Launch} {e : Env} {s : State} {m : MethodId} {args : Array Value} {below : List Frame} {meth : Method} {c : Code} {D : va_G} {C : Nat → Nat} {a0 : Array Value} {s0 : State} {ad : Rl → Nat} {so : Nat → Option hS} {pr : hPr} {st : Rl → Nat → Int32} {lt : Rl → Nat → Int64} (CX : hCx D C a0 s0 p s m args meth c cX1_keep 7 RX1 (some .int)) (hIx : hI (hA s0) ad (Sum.elim (xSH C pr) so)) (hex : ∀ x ∈ c.exceptionTable.toList, False) (hlst : l.stackTraces = false) (p0 : Int32) (p1 : Int32) (y1 : Int32) (k0_21 : Int32) {o : (Int32) ⊕ Nat} (hf : x_keep_B21 p0 p1 k0_21 = some o) {H : Heap} {locs : List Loc} (hM : hW D vwCl ad (Sum.elim (xSH C pr) so) st lt H) (hS : va_S (hA s0) s.heap H locs) {ls : Array Slot} (hl : lv_has ls 7 [(1, .int p0), (2, .int p1)]) : W p l e rm_x_keep s m args below meth c H locs 1 6 (vx_MQ below (va_Qi (fun (r : Int32) (v : Int32) => o = .inl v ∧ r = v) (fun (v : Int32) (U : State) => hW D vwCl ad (Sum.elim (xSH C pr) so) st lt U.heap) (hA s0)) (vx_X (fun k : Nat => o = .inr k) (fun (E : String) (k : Nat) (U : State) => E = hEx k ∧ hW D vwCl ad (Sum.elim (xSH C pr) so) st lt U.heap) (hA s0)) args s 3 18 (hA s0)) (F0 m 21 ls [.int k0_21]) := by
  obtain ⟨hx, hb, hr, hml, hown, hts, hlocks, hK, hZ0, hA0⟩ := CX
  unfold x_keep_B21 at hf
  obtain ⟨z3, hq, hf⟩ := hbind hf
  refine hr_xcallv hf (vx_runS (As := [.int k0_21]) (rest := []) ⟨hx, hb, hml, hown, hts⟩ (met_x_there l D C a0 s0 ad so pr st lt k0_21 hlst hq) (va_cwS 1 hts (lw_S q1159 q1160 q76 q1161) rfl rfl rfl (by decide +kernel) ⟨Nat.le_of_ble_eq_true rfl, Nat.le_of_ble_eq_true rfl⟩) (hr_preS hZ_c hM hIx hK hZ0 hA0 hS) rfl rfl hl.1 rfl (lv_room (Nat.le_of_ble_eq_true rfl)) dX1_keep_21 ⟨Nat.le_of_ble_eq_true rfl, Nat.le_of_ble_eq_true rfl⟩) hS hex hlocks hIx (Nat.le_of_ble_eq_true rfl) (Nat.le_of_ble_eq_true rfl) (fun H locs hf hM hS => ?_)
  refine lv_iconst (v := 0) hx hb dX1_keep_24 (by decide) ?_
  refine lv_istore_n (lv' := [(3, .int (0 : Int32)), (1, .int p0), (2, .int p1)]) hx hb dX1_keep_25 rfl hl (by decide) rfl (fun ls hl => ?_)
  refine lv_iconst (v := 0) hx hb dX1_keep_26 (by decide) ?_
  refine lv_istore (lv' := [(4, .int (0 : Int32)), (3, .int (0 : Int32)), (1, .int p0), (2, .int p1)]) hx hb dX1_keep_27 hl (by decide) rfl (fun ls hl => ?_)
  refine lv_iconst (v := 1) hx hb dX1_keep_29 (by decide) ?_
  refine lv_istore (lv' := [(5, .int (1 : Int32)), (4, .int (0 : Int32)), (3, .int (0 : Int32)), (1, .int p0), (2, .int p1)]) hx hb dX1_keep_30 hl (by decide) rfl (fun ls hl => ?_)
  obtain ⟨x8, hq, hf⟩ := hbind hf
  refine w_x_keep_L32 ⟨hx, hb, hr, hml, hown, hts, hlocks, hK, hZ0, hA0⟩ hIx hex hlst p0 p1 y1 k0_21 x8 hFU ((0 : Int32), (0 : Int32), (1 : Int32)) hq (fun e9 ex1 H locs ls hM hS hl => ?_) (fun r er => ?_) H locs ls hM hS (lv_sub hl [3, 4, 2, 1, 0] rfl)
  · subst ex1
    replace hf := hcase_l hf
    refine lv_iload_n hx hb dX1_keep_73 rfl (lv_at hl 0 rfl) ?_
    refine lv_iconst (v := -1) hx hb dX1_keep_74 (by decide) ?_
    refine hb_icmp_ne (tgt := 82) hx hb dX1_keep_75 (by decide) hf (fun hf => ?_) (fun hf => ?_)
    · refine lv_iconst (v := 0) hx hb dX1_keep_82 (by decide) ?_
      exact w_x_keep_B83 ⟨hx, hb, hr, hml, hown, hts, hlocks, hK, hZ0, hA0⟩ hIx hex hlst p0 p1 y1 k0_21 e9 (0 : Int32) hf hM hS (lv_sub hl [1] rfl)
    · refine lv_iconst (v := 1) hx hb dX1_keep_78 (by decide) ?_
      refine lv_goto (tgt := 83) hx hb dX1_keep_79 (by decide) ?_
      exact w_x_keep_B83 ⟨hx, hb, hr, hml, hown, hts, hlocks, hK, hZ0, hA0⟩ hIx hex hlst p0 p1 y1 k0_21 e9 (1 : Int32) hf hM hS (lv_sub hl [1] rfl)
  · subst er
    first | exact Option.some.inj (hcase_r hf) | exact Option.some.inj hf
set_option maxHeartbeats 4000000 in
set_option maxRecDepth 100000 in
theorem w_x_keep {p : Program} {l : Launch} {e : Env} {s : State} {m : MethodId} {args : Array Value} {below : List Frame} {meth : Method} {c : Code} {D : va_G} {C : Nat → Nat} {a0 : Array Value} {s0 : State} {ad : Rl → Nat} {so : Nat → Option hS} {pr : hPr} {st : Rl → Nat → Int32} {lt : Rl → Nat → Int64} (CX : hCx D C a0 s0 p s m args meth c cX1_keep 7 RX1 (some .int)) (hIx : hI (hA s0) ad (Sum.elim (xSH C pr) so)) (hex : ∀ x ∈ c.exceptionTable.toList, False) (hlst : l.stackTraces = false) (p0 : Int32) (p1 : Int32) {o : (Int32) ⊕ Nat} (hf : x_keep p0 p1 = some o) {H : Heap} {locs : List Loc} (hM : hW D vwCl ad (Sum.elim (xSH C pr) so) st lt H) (hS : va_S (hA s0) s.heap H locs) {ls : Array Slot} (hl : lv_has ls 7 [(0, .ref (ad (.inl 0))), (1, .int p0), (2, .int p1)]) : W p l e rm_x_keep s m args below meth c H locs 0 0 (vx_MQ below (va_Qi (fun (r : Int32) (v : Int32) => o = .inl v ∧ r = v) (fun (v : Int32) (U : State) => hW D vwCl ad (Sum.elim (xSH C pr) so) st lt U.heap) (hA s0)) (vx_X (fun k : Nat => o = .inr k) (fun (E : String) (k : Nat) (U : State) => E = hEx k ∧ hW D vwCl ad (Sum.elim (xSH C pr) so) st lt U.heap) (hA s0)) args s 3 18 (hA s0)) (F0 m 0 ls []) := by
  obtain ⟨hx, hb, hr, hml, hown, hts, hlocks, hK, hZ0, hA0⟩ := CX
  unfold x_keep at hf
  refine lv_iload_n hx hb dX1_keep_0 rfl (lv_at hl 1 rfl) ?_
  refine lv_iconst (v := 1) hx hb dX1_keep_1 (by decide) ?_
  refine lv_sipush (v := 999) hx hb dX1_keep_2 (by decide) ?_
  obtain ⟨y1, hq, hf⟩ := hbind hf
  refine hr_calli0 (va_runS (As := [.int p0, .int (1 : Int32), .int (999 : Int32)]) (rest := []) ⟨hx, hb, hml, hown, hts⟩ (met_x_within l D C a0 s0 ad so pr st lt p0 (1 : Int32) (999 : Int32) hq) (va_cwS 3 hts (lw_S q1156 q1157 q76 q1158) rfl rfl rfl (by decide +kernel) ⟨Nat.le_of_ble_eq_true rfl, Nat.le_of_ble_eq_true rfl⟩) (hr_preS hZ_c hM hIx hK hZ0 hA0 hS) rfl rfl hl.1 rfl (lv_room (Nat.le_of_ble_eq_true rfl)) dX1_keep_5 ⟨Nat.le_of_ble_eq_true rfl, Nat.le_of_ble_eq_true rfl⟩) hS (fun H locs hM hS => ?_)
  obtain ⟨z2, hq, hf⟩ := hbind hf
  refine hr_xcallv hf (vx_runS (As := [.int y1]) (rest := []) ⟨hx, hb, hml, hown, hts⟩ (met_x_right l D C a0 s0 ad so pr st lt y1 hlst hq) (va_cwS 1 hts (lw_S q927 q928 q76 q929) rfl rfl rfl (by decide +kernel) ⟨Nat.le_of_ble_eq_true rfl, Nat.le_of_ble_eq_true rfl⟩) (hr_preS hZ_c hM hIx hK hZ0 hA0 hS) rfl rfl hl.1 rfl (lv_room (Nat.le_of_ble_eq_true rfl)) dX1_keep_8 ⟨Nat.le_of_ble_eq_true rfl, Nat.le_of_ble_eq_true rfl⟩) hS hex hlocks hIx (Nat.le_of_ble_eq_true rfl) (Nat.le_of_ble_eq_true rfl) (fun H locs hf hM hS => ?_)
  refine lv_iload_n hx hb dX1_keep_11 rfl (lv_at hl 2 rfl) ?_
  refine lv_iconst (v := -1) hx hb dX1_keep_12 (by decide) ?_
  refine hb_icmp_lt (tgt := 20) hx hb dX1_keep_13 (by decide) hf (fun hf => ?_) (fun hf => ?_)
  · refine lv_iconst (v := 0) hx hb dX1_keep_20 (by decide) ?_
    exact w_x_keep_B21 ⟨hx, hb, hr, hml, hown, hts, hlocks, hK, hZ0, hA0⟩ hIx hex hlst p0 p1 y1 (0 : Int32) hf hM hS (lv_sub hl [1, 2] rfl)
  · refine lv_iconst (v := 1) hx hb dX1_keep_16 (by decide) ?_
    refine lv_goto (tgt := 21) hx hb dX1_keep_17 (by decide) ?_
    exact w_x_keep_B21 ⟨hx, hb, hr, hml, hown, hts, hlocks, hK, hZ0, hA0⟩ hIx hex hlst p0 p1 y1 (1 : Int32) hf hM hS (lv_sub hl [1, 2] rfl)
set_option maxHeartbeats 4000000 in
set_option maxRecDepth 100000 in
theorem met_x_keep (l : Launch) (D : va_G) (C : Nat → Nat) (a0 : Array Value) (s0 : State) (ad : Rl → Nat) (so : Nat → Option hS) (pr : hPr) (st : Rl → Nat → Int32) (lt : Rl → Nat → Int64) (p0 : Int32) (p1 : Int32) (hlst : l.stackTraces = false) {o : (Int32) ⊕ Nat} (hf : x_keep p0 p1 = some o) : vx_Met l yX1_keep (ws_ yX1_keep cX1_keep 7 (some .int)) rm_x_keep (va_Pc [.ref (ad (.inl 0)), .int p0, .int p1] (hB D vwCl (hT C) (hA s0) (hZ a0 s0) ad (Sum.elim (xSH C pr) so) st lt)) (va_Qi (fun (r : Int32) (v : Int32) => o = .inl v ∧ r = v) (fun (v : Int32) (U : State) => hW D vwCl ad (Sum.elim (xSH C pr) so) st lt U.heap) (hA s0)) (vx_X (fun k : Nat => o = .inr k) (fun (E : String) (k : Nat) (U : State) => E = hEx k ∧ hW D vwCl ad (Sum.elim (xSH C pr) so) st lt U.heap) (hA s0)) 3 18 (hA s0) := by
  refine vx_ofW (cc := cX1_keep) (maxL := 7) (ret := (some .int)) (by decide) rfl ?_
  intro p e s m args below meth c s₁ B hml hex hv
  obtain ⟨rfl, hM, hIx, hK, hZ0, hA0⟩ := hv
  have hl := lv_entry ([.ref (ad (.inl 0)), .int p0, .int p1]) (n := 7) (Nat.le_of_ble_eq_true rfl)
  rw [lg_entry_eq]
  generalize (lg_sl ([.ref (ad (.inl 0)), .int p0, .int p1]) ++ List.replicate (7 - (lg_sl ([.ref (ad (.inl 0)), .int p0, .int p1])).length) Slot.unset).toArray = ls at hl ⊢
  have hl : lv_has ls 7 [(0, .ref (ad (.inl 0))), (1, .int p0), (2, .int p1)] := hl
  exact w_x_keep ⟨B.exec, B.bytes, B.returns, hml, findClass_of_methodNamed B.named, fun w h => atoms_spec (ws := ws_ yX1_keep cX1_keep 7 (some .int)) B.pre w (List.mem_cons_of_mem _ h), B.notSynchronized, hK, hZ0, hA0⟩ hIx hex hlst p0 p1 hf hM va_S.rf hl

def rm_x_fewest : Room := { frames := 11, cells := 1, slots := 6, locals := 142 }
set_option maxHeartbeats 4000000 in
set_option maxRecDepth 100000 in
theorem w_x_fewest_L63 {p : Program} {l : Launch} {e : Env} {s : State} {m : MethodId} {args : Array Value} {below : List Frame} {meth : Method} {c : Code} {D : va_G} {C : Nat → Nat} {a0 : Array Value} {s0 : State} {ad : Rl → Nat} {so : Nat → Option hS} {pr : hPr} {t : hSt} {tl : hLt} (CX : hCx D C a0 s0 p s m args meth c cX1_fewest 6 RX1 (some .int)) (hIx : hI (hA s0) ad (Sum.elim (xSH C pr) so)) (hex : ∀ x ∈ c.exceptionTable.toList, False) (hlst : l.stackTraces = false) (g : hSt) (gl : hLt) (p0 : Int32) (y1 : Int32) (v2_15 : Int32) (v3_15 : Int32) (gl_15 : hLt) (y3 : Int32) (y4 : hLt) {oM : (Int32 × hLt) ⊕ Nat} (x : Int32) (n : Nat) (q0 : Int32 × Int32) (h0 : hiter (fun q : Int32 × Int32 => x_fewest_L63 g p0 y4 q.1 q.2) n q0 = some x) (kx0 : ∀ (H : Heap) (locs : List Loc) (ls : Array Slot), hW D vwCl ad (Sum.elim (xSH C pr) so) (Sum.elim g t) (Sum.elim y4 tl) H → va_S (hA s0) s.heap H locs → lv_has ls 6 [(0, .ref (ad (.inl 0))), (1, .int p0), (2, .int v2_15), (3, .int v3_15), (4, .int x)] → W p l e rm_x_fewest s m args below meth c H locs 1 6 (vx_MQ below (va_Qi (fun (r : Int32) (v : Int32 × hLt) => oM = .inl v ∧ r = v.1) (fun (v : Int32 × hLt) (U : State) => hW D vwCl ad (Sum.elim (xSH C pr) so) (Sum.elim g t) (Sum.elim v.2 tl) U.heap) (hA s0)) (vx_X (fun k : Nat => oM = .inr k) (fun (E : String) (k : Nat) (U : State) => E = hEx k ∧ hW D vwCl ad (Sum.elim (xSH C pr) so) (Sum.elim g t) (Sum.elim gl tl) U.heap) (hA s0)) args s 1 6 (hA s0)) (F0 m 88 ls [])) : ∀ (H : Heap) (locs : List Loc) (ls : Array Slot), hW D vwCl ad (Sum.elim (xSH C pr) so) (Sum.elim g t) (Sum.elim y4 tl) H → va_S (hA s0) s.heap H locs → lv_has ls 6 [(0, .ref (ad (.inl 0))), (1, .int p0), (2, .int v2_15), (3, .int v3_15), (4, .int q0.1), (5, .int q0.2)] → W p l e rm_x_fewest s m args below meth c H locs 1 6 (vx_MQ below (va_Qi (fun (r : Int32) (v : Int32 × hLt) => oM = .inl v ∧ r = v.1) (fun (v : Int32 × hLt) (U : State) => hW D vwCl ad (Sum.elim (xSH C pr) so) (Sum.elim g t) (Sum.elim v.2 tl) U.heap) (hA s0)) (vx_X (fun k : Nat => oM = .inr k) (fun (E : String) (k : Nat) (U : State) => E = hEx k ∧ hW D vwCl ad (Sum.elim (xSH C pr) so) (Sum.elim g t) (Sum.elim gl tl) U.heap) (hA s0)) args s 1 6 (hA s0)) (F0 m 63 ls []) := by
  obtain ⟨hx, hb, hr, hml, hown, hts, hlocks, hK, hZ0, hA0⟩ := CX
  refine hiter_W (Wh := fun q => ∀ (H : Heap) (locs : List Loc) (ls : Array Slot), hW D vwCl ad (Sum.elim (xSH C pr) so) (Sum.elim g t) (Sum.elim y4 tl) H → va_S (hA s0) s.heap H locs → lv_has ls 6 [(0, .ref (ad (.inl 0))), (1, .int p0), (2, .int v2_15), (3, .int v3_15), (4, .int q.1), (5, .int q.2)] → W p l e rm_x_fewest s m args below meth c H locs 1 6 (vx_MQ below (va_Qi (fun (r : Int32) (v : Int32 × hLt) => oM = .inl v ∧ r = v.1) (fun (v : Int32 × hLt) (U : State) => hW D vwCl ad (Sum.elim (xSH C pr) so) (Sum.elim g t) (Sum.elim v.2 tl) U.heap) (hA s0)) (vx_X (fun k : Nat => oM = .inr k) (fun (E : String) (k : Nat) (U : State) => E = hEx k ∧ hW D vwCl ad (Sum.elim (xSH C pr) so) (Sum.elim g t) (Sum.elim gl tl) U.heap) (hA s0)) args s 1 6 (hA s0)) (F0 m 63 ls [])) ?_ n q0 h0
  intro q o hf kc kx1 H locs ls hM hS hl
  obtain ⟨v4_63, v5_63⟩ := q
  replace hf : x_fewest_L63 g p0 y4 v4_63 v5_63 = some o := hf
  have kx : ∀ x' : Int32, o = .inr x' → ∀ (H : Heap) (locs : List Loc) (ls : Array Slot), hW D vwCl ad (Sum.elim (xSH C pr) so) (Sum.elim g t) (Sum.elim y4 tl) H → va_S (hA s0) s.heap H locs → lv_has ls 6 [(0, .ref (ad (.inl 0))), (1, .int p0), (2, .int v2_15), (3, .int v3_15), (4, .int x')] → W p l e rm_x_fewest s m args below meth c H locs 1 6 (vx_MQ below (va_Qi (fun (r : Int32) (v : Int32 × hLt) => oM = .inl v ∧ r = v.1) (fun (v : Int32 × hLt) (U : State) => hW D vwCl ad (Sum.elim (xSH C pr) so) (Sum.elim g t) (Sum.elim v.2 tl) U.heap) (hA s0)) (vx_X (fun k : Nat => oM = .inr k) (fun (E : String) (k : Nat) (U : State) => E = hEx k ∧ hW D vwCl ad (Sum.elim (xSH C pr) so) (Sum.elim g t) (Sum.elim gl tl) U.heap) (hA s0)) args s 1 6 (hA s0)) (F0 m 88 ls []) := fun x' ex => by rw [kx1 _ ex]; exact kx0
  unfold x_fewest_L63 at hf
  refine lv_iload hx hb dX1_fewest_63 (lv_at hl 5 rfl) ?_
  refine lv_iload_n hx hb dX1_fewest_65 rfl (lv_at hl 1 rfl) ?_
  refine hb_icmp_gt (tgt := 88) hx hb dX1_fewest_66 (by decide) hf (fun hf => ?_) (fun hf => ?_)
  · exact kx v4_63 (Option.some.inj hf).symm H locs ls hM hS (lv_sub hl [0, 1, 2, 3, 4] rfl)
  · refine lv_iload hx hb dX1_fewest_69 (lv_at hl 4 rfl) ?_
    refine hb_if_eq (tgt := 88) hx hb dX1_fewest_71 (by decide) hf (fun hf => ?_) (fun hf => ?_)
    · exact kx v4_63 (Option.some.inj hf).symm H locs ls hM hS (lv_sub hl [0, 1, 2, 3, 4] rfl)
    · refine lv_aload_n hx hb dX1_fewest_74 rfl (lv_at hl 0 rfl) ?_
      refine lv_iload hx hb dX1_fewest_75 (lv_at hl 5 rfl) ?_
      obtain ⟨y5, hq, hf⟩ := hbind hf
      refine hr_calli0 (va_runV (As := [.int v5_63]) (rest := []) ⟨hx, hb, hml, hown, hts⟩ (met_x_isMade l D C a0 s0 ad so pr t tl g y4 v5_63 hq) (cwV 1 hts (lw_V q1312 q1314 qs32 q76 q1315) rfl rfl rfl (by decide +kernel) ⟨Nat.le_of_ble_eq_true rfl, Nat.le_of_ble_eq_true rfl⟩) (hr_preV hZ_c hM hIx hK hZ0 hA0 hS (r := .inl 0) xS_0 (q := (RX1, TX1, 19)) rfl) rfl rfl hl.1 rfl (lv_room (Nat.le_of_ble_eq_true rfl)) dX1_fewest_77 ⟨Nat.le_of_ble_eq_true rfl, Nat.le_of_ble_eq_true rfl⟩) hS (fun H locs hM hS => ?_)
      refine lv_istore (lv' := [(4, .int y5), (0, .ref (ad (.inl 0))), (1, .int p0), (2, .int v2_15), (3, .int v3_15), (5, .int v5_63)]) hx hb dX1_fewest_80 hl (by decide) rfl (fun ls hl => ?_)
      obtain ⟨y5_6, ey, hf⟩ := hlet_ex hf
      refine lv_iinc (v := y5_6) (lv' := [(5, .int y5_6), (4, .int y5), (0, .ref (ad (.inl 0))), (1, .int p0), (2, .int v2_15), (3, .int v3_15)]) hx hb dX1_fewest_82 hl (k := 5) rfl (by rw [ey]; rfl) (by decide) rfl (fun ls hl => ?_)
      refine lv_goto (tgt := 63) hx hb dX1_fewest_85 (by decide) ?_
      exact kc (y5, y5_6) (Option.some.inj hf).symm H locs ls hM hS (lv_sub hl [2, 3, 4, 5, 1, 0] rfl)
set_option maxHeartbeats 4000000 in
set_option maxRecDepth 100000 in
theorem w_x_fewest_B45 {p : Program} {l : Launch} {e : Env} {s : State} {m : MethodId} {args : Array Value} {below : List Frame} {meth : Method} {c : Code} {D : va_G} {C : Nat → Nat} {a0 : Array Value} {s0 : State} {ad : Rl → Nat} {so : Nat → Option hS} {pr : hPr} {t : hSt} {tl : hLt} (CX : hCx D C a0 s0 p s m args meth c cX1_fewest 6 RX1 (some .int)) (hIx : hI (hA s0) ad (Sum.elim (xSH C pr) so)) (hex : ∀ x ∈ c.exceptionTable.toList, False) (hlst : l.stackTraces = false) (g : hSt) (gl : hLt) (p0 : Int32) (y1 : Int32) (v2_15 : Int32) (v3_15 : Int32) (gl_15 : hLt) (y3 : Int32) {oM : (Int32 × hLt) ⊕ Nat} {o : (Int32 × Int32 × hLt) ⊕ (Int32 × hLt)} (hf : x_fewest_B45 g p0 v2_15 v3_15 gl_15 = some o) (kc : ∀ s' : Int32 × Int32 × hLt, o = .inl s' → ∀ (H : Heap) (locs : List Loc) (ls : Array Slot), hW D vwCl ad (Sum.elim (xSH C pr) so) (Sum.elim g t) (Sum.elim s'.2.2 tl) H → va_S (hA s0) s.heap H locs → lv_has ls 6 [(0, .ref (ad (.inl 0))), (1, .int p0), (2, .int s'.1), (3, .int s'.2.1)] → W p l e rm_x_fewest s m args below meth c H locs 1 6 (vx_MQ below (va_Qi (fun (r : Int32) (v : Int32 × hLt) => oM = .inl v ∧ r = v.1) (fun (v : Int32 × hLt) (U : State) => hW D vwCl ad (Sum.elim (xSH C pr) so) (Sum.elim g t) (Sum.elim v.2 tl) U.heap) (hA s0)) (vx_X (fun k : Nat => oM = .inr k) (fun (E : String) (k : Nat) (U : State) => E = hEx k ∧ hW D vwCl ad (Sum.elim (xSH C pr) so) (Sum.elim g t) (Sum.elim gl tl) U.heap) (hA s0)) args s 1 6 (hA s0)) (F0 m 15 ls [])) (kx : ∀ x' : Int32 × hLt, o = .inr x' → ∀ (H : Heap) (locs : List Loc) (ls : Array Slot), hW D vwCl ad (Sum.elim (xSH C pr) so) (Sum.elim g t) (Sum.elim x'.2 tl) H → va_S (hA s0) s.heap H locs → lv_has ls 6 [(2, .int x'.1)] → W p l e rm_x_fewest s m args below meth c H locs 1 6 (vx_MQ below (va_Qi (fun (r : Int32) (v : Int32 × hLt) => oM = .inl v ∧ r = v.1) (fun (v : Int32 × hLt) (U : State) => hW D vwCl ad (Sum.elim (xSH C pr) so) (Sum.elim g t) (Sum.elim v.2 tl) U.heap) (hA s0)) (vx_X (fun k : Nat => oM = .inr k) (fun (E : String) (k : Nat) (U : State) => E = hEx k ∧ hW D vwCl ad (Sum.elim (xSH C pr) so) (Sum.elim g t) (Sum.elim gl tl) U.heap) (hA s0)) args s 1 6 (hA s0)) (F0 m 101 ls [])) {H : Heap} {locs : List Loc} (hM : hW D vwCl ad (Sum.elim (xSH C pr) so) (Sum.elim g t) (Sum.elim gl_15 tl) H) (hS : va_S (hA s0) s.heap H locs) {ls : Array Slot} (hl : lv_has ls 6 [(0, .ref (ad (.inl 0))), (1, .int p0), (2, .int v2_15), (3, .int v3_15)]) : W p l e rm_x_fewest s m args below meth c H locs 1 6 (vx_MQ below (va_Qi (fun (r : Int32) (v : Int32 × hLt) => oM = .inl v ∧ r = v.1) (fun (v : Int32 × hLt) (U : State) => hW D vwCl ad (Sum.elim (xSH C pr) so) (Sum.elim g t) (Sum.elim v.2 tl) U.heap) (hA s0)) (vx_X (fun k : Nat => oM = .inr k) (fun (E : String) (k : Nat) (U : State) => E = hEx k ∧ hW D vwCl ad (Sum.elim (xSH C pr) so) (Sum.elim g t) (Sum.elim gl tl) U.heap) (hA s0)) args s 1 6 (hA s0)) (F0 m 45 ls []) := by
  obtain ⟨hx, hb, hr, hml, hown, hts, hlocks, hK, hZ0, hA0⟩ := CX
  unfold x_fewest_B45 at hf
  refine lv_aload_n hx hb dX1_fewest_45 rfl (lv_at hl 0 rfl) ?_
  refine lv_aload_n hx hb dX1_fewest_46 rfl (lv_at hl 0 rfl) ?_
  refine hr_get (ci := 0) (C := RX1) (T := TX1) (N := 19) (r := .inl 0) hx hb hts in_X1 hown hK hM xS_0 rfl 1 (by decide) (hts _ q560) rfl (v := .ref (ad (.inl 20))) rfl dX1_fewest_47 ?_
  refine hr_getN (ci := 3) (C := RX3) (T := TX3) (N := 3) (r := .inl 20) hx hb hts in_X3 hown hK hM xS_20 rfl 0 (by decide) (hZ_nest hZ0 q544 rfl) rfl (v := .ref (ad (.inl 24))) rfl dX1_fewest_50 ?_
  refine lv_iload_n hx hb dX1_fewest_53 rfl (lv_at hl 3 rfl) ?_
  obtain ⟨y4, hq, hf⟩ := hbind hf
  refine hr_callv0 (va_runV (As := [.ref (ad (.inl 24)), .int v3_15]) (rest := []) ⟨hx, hb, hml, hown, hts⟩ (met_x_makes l D C a0 s0 ad so pr t tl g gl_15 24 v3_15 xs_st24 hq) (cwV 2 hts (lw_V q1300 q1302 qs29 q76 q1303) rfl rfl rfl (by decide +kernel) ⟨Nat.le_of_ble_eq_true rfl, Nat.le_of_ble_eq_true rfl⟩) (hr_preV hZ_c hM hIx hK hZ0 hA0 hS (r := .inl 0) xS_0 (q := (RX1, TX1, 19)) rfl) rfl rfl hl.1 rfl (lv_room (Nat.le_of_ble_eq_true rfl)) dX1_fewest_54 ⟨Nat.le_of_ble_eq_true rfl, Nat.le_of_ble_eq_true rfl⟩) hS (fun H locs hM hS => ?_)
  refine lv_iconst (v := 1) hx hb dX1_fewest_57 (by decide) ?_
  refine lv_istore (lv' := [(4, .int (1 : Int32)), (0, .ref (ad (.inl 0))), (1, .int p0), (2, .int v2_15), (3, .int v3_15)]) hx hb dX1_fewest_58 hl (by decide) rfl (fun ls hl => ?_)
  refine lv_iconst (v := 1) hx hb dX1_fewest_60 (by decide) ?_
  refine lv_istore (lv' := [(5, .int (1 : Int32)), (4, .int (1 : Int32)), (0, .ref (ad (.inl 0))), (1, .int p0), (2, .int v2_15), (3, .int v3_15)]) hx hb dX1_fewest_61 hl (by decide) rfl (fun ls hl => ?_)
  obtain ⟨x7, hq, hf⟩ := hbind hf
  refine w_x_fewest_L63 ⟨hx, hb, hr, hml, hown, hts, hlocks, hK, hZ0, hA0⟩ hIx hex hlst g gl p0 y1 v2_15 v3_15 gl_15 y3 y4 x7 hFU ((1 : Int32), (1 : Int32)) hq (fun H locs ls hM hS hl => ?_) H locs ls hM hS (lv_sub hl [2, 3, 4, 5, 1, 0] rfl)
  refine lv_iload hx hb dX1_fewest_88 (lv_at hl 4 rfl) ?_
  refine hb_if_eq (tgt := 95) hx hb dX1_fewest_90 (by decide) hf (fun hf => ?_) (fun hf => ?_)
  · obtain ⟨y3_8, ey, hf⟩ := hlet_ex hf
    refine lv_iinc (v := y3_8) (lv' := [(3, .int y3_8), (0, .ref (ad (.inl 0))), (1, .int p0), (2, .int v2_15), (4, .int x7)]) hx hb dX1_fewest_95 hl (k := 3) rfl (by rw [ey]; rfl) (by decide) rfl (fun ls hl => ?_)
    refine lv_goto (tgt := 15) hx hb dX1_fewest_98 (by decide) ?_
    exact kc (v2_15, y3_8, y4) (Option.some.inj hf).symm H locs ls hM hS (lv_sub hl [1, 2, 3, 0] rfl)
  · refine lv_iload_n hx hb dX1_fewest_93 rfl (lv_at hl 3 rfl) ?_
    refine lv_istore_n (lv' := [(2, .int v3_15), (0, .ref (ad (.inl 0))), (1, .int p0), (3, .int v3_15), (4, .int x7)]) hx hb dX1_fewest_94 rfl hl (by decide) rfl (fun ls hl => ?_)
    obtain ⟨y3_9, ey, hf⟩ := hlet_ex hf
    refine lv_iinc (v := y3_9) (lv' := [(3, .int y3_9), (2, .int v3_15), (0, .ref (ad (.inl 0))), (1, .int p0), (4, .int x7)]) hx hb dX1_fewest_95 hl (k := 3) rfl (by rw [ey]; rfl) (by decide) rfl (fun ls hl => ?_)
    refine lv_goto (tgt := 15) hx hb dX1_fewest_98 (by decide) ?_
    exact kc (v3_15, y3_9, y4) (Option.some.inj hf).symm H locs ls hM hS (lv_sub hl [2, 3, 1, 0] rfl)
set_option maxHeartbeats 4000000 in
set_option maxRecDepth 100000 in
theorem w_x_fewest_L15 {p : Program} {l : Launch} {e : Env} {s : State} {m : MethodId} {args : Array Value} {below : List Frame} {meth : Method} {c : Code} {D : va_G} {C : Nat → Nat} {a0 : Array Value} {s0 : State} {ad : Rl → Nat} {so : Nat → Option hS} {pr : hPr} {t : hSt} {tl : hLt} (CX : hCx D C a0 s0 p s m args meth c cX1_fewest 6 RX1 (some .int)) (hIx : hI (hA s0) ad (Sum.elim (xSH C pr) so)) (hex : ∀ x ∈ c.exceptionTable.toList, False) (hlst : l.stackTraces = false) (g : hSt) (gl : hLt) (p0 : Int32) (y1 : Int32) {oM : (Int32 × hLt) ⊕ Nat} (x : Int32 × hLt) (n : Nat) (q0 : Int32 × Int32 × hLt) (h0 : hiter (fun q : Int32 × Int32 × hLt => x_fewest_L15 g p0 q.1 q.2.1 q.2.2) n q0 = some x) (kx0 : ∀ (H : Heap) (locs : List Loc) (ls : Array Slot), hW D vwCl ad (Sum.elim (xSH C pr) so) (Sum.elim g t) (Sum.elim x.2 tl) H → va_S (hA s0) s.heap H locs → lv_has ls 6 [(2, .int x.1)] → W p l e rm_x_fewest s m args below meth c H locs 1 6 (vx_MQ below (va_Qi (fun (r : Int32) (v : Int32 × hLt) => oM = .inl v ∧ r = v.1) (fun (v : Int32 × hLt) (U : State) => hW D vwCl ad (Sum.elim (xSH C pr) so) (Sum.elim g t) (Sum.elim v.2 tl) U.heap) (hA s0)) (vx_X (fun k : Nat => oM = .inr k) (fun (E : String) (k : Nat) (U : State) => E = hEx k ∧ hW D vwCl ad (Sum.elim (xSH C pr) so) (Sum.elim g t) (Sum.elim gl tl) U.heap) (hA s0)) args s 1 6 (hA s0)) (F0 m 101 ls [])) : ∀ (H : Heap) (locs : List Loc) (ls : Array Slot), hW D vwCl ad (Sum.elim (xSH C pr) so) (Sum.elim g t) (Sum.elim q0.2.2 tl) H → va_S (hA s0) s.heap H locs → lv_has ls 6 [(0, .ref (ad (.inl 0))), (1, .int p0), (2, .int q0.1), (3, .int q0.2.1)] → W p l e rm_x_fewest s m args below meth c H locs 1 6 (vx_MQ below (va_Qi (fun (r : Int32) (v : Int32 × hLt) => oM = .inl v ∧ r = v.1) (fun (v : Int32 × hLt) (U : State) => hW D vwCl ad (Sum.elim (xSH C pr) so) (Sum.elim g t) (Sum.elim v.2 tl) U.heap) (hA s0)) (vx_X (fun k : Nat => oM = .inr k) (fun (E : String) (k : Nat) (U : State) => E = hEx k ∧ hW D vwCl ad (Sum.elim (xSH C pr) so) (Sum.elim g t) (Sum.elim gl tl) U.heap) (hA s0)) args s 1 6 (hA s0)) (F0 m 15 ls []) := by
  obtain ⟨hx, hb, hr, hml, hown, hts, hlocks, hK, hZ0, hA0⟩ := CX
  refine hiter_W (Wh := fun q => ∀ (H : Heap) (locs : List Loc) (ls : Array Slot), hW D vwCl ad (Sum.elim (xSH C pr) so) (Sum.elim g t) (Sum.elim q.2.2 tl) H → va_S (hA s0) s.heap H locs → lv_has ls 6 [(0, .ref (ad (.inl 0))), (1, .int p0), (2, .int q.1), (3, .int q.2.1)] → W p l e rm_x_fewest s m args below meth c H locs 1 6 (vx_MQ below (va_Qi (fun (r : Int32) (v : Int32 × hLt) => oM = .inl v ∧ r = v.1) (fun (v : Int32 × hLt) (U : State) => hW D vwCl ad (Sum.elim (xSH C pr) so) (Sum.elim g t) (Sum.elim v.2 tl) U.heap) (hA s0)) (vx_X (fun k : Nat => oM = .inr k) (fun (E : String) (k : Nat) (U : State) => E = hEx k ∧ hW D vwCl ad (Sum.elim (xSH C pr) so) (Sum.elim g t) (Sum.elim gl tl) U.heap) (hA s0)) args s 1 6 (hA s0)) (F0 m 15 ls [])) ?_ n q0 h0
  intro q o hf kc kx1 H locs ls hM hS hl
  obtain ⟨v2_15, v3_15, gl_15⟩ := q
  replace hf : x_fewest_L15 g p0 v2_15 v3_15 gl_15 = some o := hf
  have kx : ∀ x' : Int32 × hLt, o = .inr x' → ∀ (H : Heap) (locs : List Loc) (ls : Array Slot), hW D vwCl ad (Sum.elim (xSH C pr) so) (Sum.elim g t) (Sum.elim x'.2 tl) H → va_S (hA s0) s.heap H locs → lv_has ls 6 [(2, .int x'.1)] → W p l e rm_x_fewest s m args below meth c H locs 1 6 (vx_MQ below (va_Qi (fun (r : Int32) (v : Int32 × hLt) => oM = .inl v ∧ r = v.1) (fun (v : Int32 × hLt) (U : State) => hW D vwCl ad (Sum.elim (xSH C pr) so) (Sum.elim g t) (Sum.elim v.2 tl) U.heap) (hA s0)) (vx_X (fun k : Nat => oM = .inr k) (fun (E : String) (k : Nat) (U : State) => E = hEx k ∧ hW D vwCl ad (Sum.elim (xSH C pr) so) (Sum.elim g t) (Sum.elim gl tl) U.heap) (hA s0)) args s 1 6 (hA s0)) (F0 m 101 ls []) := fun x' ex => by rw [kx1 _ ex]; exact kx0
  unfold x_fewest_L15 at hf
  refine lv_iload_n hx hb dX1_fewest_15 rfl (lv_at hl 3 rfl) ?_
  refine lv_aload_n hx hb dX1_fewest_16 rfl (lv_at hl 0 rfl) ?_
  refine hr_get (ci := 0) (C := RX1) (T := TX1) (N := 19) (r := .inl 0) hx hb hts in_X1 hown hK hM xS_0 rfl 0 (by decide) (hts _ q559) rfl (v := .ref (ad (.inl 10))) rfl dX1_fewest_17 ?_
  obtain ⟨y3, hq, hf⟩ := hbind hf
  refine hr_calli0 (va_runV (As := []) (rest := [.int v3_15]) ⟨hx, hb, hml, hown, hts⟩ (met_x_tn_all l D C a0 s0 ad so pr t (Sum.elim gl_15 tl) g hq) (cwV 0 hts (lw_V q646 q647 q648 q77 q649) rfl rfl rfl (by decide +kernel) ⟨Nat.le_of_ble_eq_true rfl, Nat.le_of_ble_eq_true rfl⟩) (hr_preV hZ_c hM hIx hK hZ0 hA0 hS (r := .inl 10) xS_10 (q := (RX2, TX2, 6)) rfl) rfl rfl hl.1 rfl (lv_room (Nat.le_of_ble_eq_true rfl)) dX1_fewest_20 ⟨Nat.le_of_ble_eq_true rfl, Nat.le_of_ble_eq_true rfl⟩) hS (fun H locs hM hS => ?_)
  refine hb_icmp_gt (tgt := 101) hx hb dX1_fewest_23 (by decide) hf (fun hf => ?_) (fun hf => ?_)
  · exact kx (v2_15, gl_15) (Option.some.inj hf).symm H locs ls hM hS (lv_sub hl [2] rfl)
  · refine lv_iload_n hx hb dX1_fewest_26 rfl (lv_at hl 2 rfl) ?_
    refine lv_iconst (v := -1) hx hb dX1_fewest_27 (by decide) ?_
    refine hb_icmp_eq (tgt := 45) hx hb dX1_fewest_28 (by decide) hf (fun hf => ?_) (fun hf => ?_)
    · exact w_x_fewest_B45 ⟨hx, hb, hr, hml, hown, hts, hlocks, hK, hZ0, hA0⟩ hIx hex hlst g gl p0 y1 v2_15 v3_15 gl_15 y3 hf kc kx hM hS (lv_sub hl [0, 1, 2, 3] rfl)
    · refine lv_iload_n hx hb dX1_fewest_31 rfl (lv_at hl 3 rfl) ?_
      obtain ⟨y10, hq, hf⟩ := hbind hf
      refine hr_calli0 (va_runS (As := [.int v3_15]) (rest := []) ⟨hx, hb, hml, hown, hts⟩ (met_x_jI_bitCount l D C a0 s0 ad so pr (Sum.elim g t) (Sum.elim gl_15 tl) v3_15 hq) (va_cwS 1 hts (lw_S q1330 q854 q96 q855) rfl rfl rfl (by decide +kernel) ⟨Nat.le_of_ble_eq_true rfl, Nat.le_of_ble_eq_true rfl⟩) (hr_preS hZ_c hM hIx hK hZ0 hA0 hS) rfl rfl hl.1 rfl (lv_room (Nat.le_of_ble_eq_true rfl)) dX1_fewest_32 ⟨Nat.le_of_ble_eq_true rfl, Nat.le_of_ble_eq_true rfl⟩) hS (fun H locs hM hS => ?_)
      refine lv_iload_n hx hb dX1_fewest_35 rfl (lv_at hl 2 rfl) ?_
      obtain ⟨y11, hq, hf⟩ := hbind hf
      refine hr_calli0 (va_runS (As := [.int v2_15]) (rest := [.int y10]) ⟨hx, hb, hml, hown, hts⟩ (met_x_jI_bitCount l D C a0 s0 ad so pr (Sum.elim g t) (Sum.elim gl_15 tl) v2_15 hq) (va_cwS 1 hts (lw_S q1330 q854 q96 q855) rfl rfl rfl (by decide +kernel) ⟨Nat.le_of_ble_eq_true rfl, Nat.le_of_ble_eq_true rfl⟩) (hr_preS hZ_c hM hIx hK hZ0 hA0 hS) rfl rfl hl.1 rfl (lv_room (Nat.le_of_ble_eq_true rfl)) dX1_fewest_36 ⟨Nat.le_of_ble_eq_true rfl, Nat.le_of_ble_eq_true rfl⟩) hS (fun H locs hM hS => ?_)
      refine hb_icmp_lt (tgt := 45) hx hb dX1_fewest_39 (by decide) hf (fun hf => ?_) (fun hf => ?_)
      · exact w_x_fewest_B45 ⟨hx, hb, hr, hml, hown, hts, hlocks, hK, hZ0, hA0⟩ hIx hex hlst g gl p0 y1 v2_15 v3_15 gl_15 y3 hf kc kx hM hS (lv_sub hl [0, 1, 2, 3] rfl)
      · refine lv_goto (tgt := 95) hx hb dX1_fewest_42 (by decide) ?_
        obtain ⟨y3_12, ey, hf⟩ := hlet_ex hf
        refine lv_iinc (v := y3_12) (lv' := [(3, .int y3_12), (0, .ref (ad (.inl 0))), (1, .int p0), (2, .int v2_15)]) hx hb dX1_fewest_95 hl (k := 3) rfl (by rw [ey]; rfl) (by decide) rfl (fun ls hl => ?_)
        refine lv_goto (tgt := 15) hx hb dX1_fewest_98 (by decide) ?_
        exact kc (v2_15, y3_12, gl_15) (Option.some.inj hf).symm H locs ls hM hS (lv_sub hl [1, 2, 3, 0] rfl)
set_option maxHeartbeats 4000000 in
set_option maxRecDepth 100000 in
theorem w_x_fewest {p : Program} {l : Launch} {e : Env} {s : State} {m : MethodId} {args : Array Value} {below : List Frame} {meth : Method} {c : Code} {D : va_G} {C : Nat → Nat} {a0 : Array Value} {s0 : State} {ad : Rl → Nat} {so : Nat → Option hS} {pr : hPr} {t : hSt} {tl : hLt} (CX : hCx D C a0 s0 p s m args meth c cX1_fewest 6 RX1 (some .int)) (hIx : hI (hA s0) ad (Sum.elim (xSH C pr) so)) (hex : ∀ x ∈ c.exceptionTable.toList, False) (hlst : l.stackTraces = false) (g : hSt) (gl : hLt) (p0 : Int32) {o : (Int32 × hLt) ⊕ Nat} (hf : x_fewest g gl p0 = some o) {H : Heap} {locs : List Loc} (hM : hW D vwCl ad (Sum.elim (xSH C pr) so) (Sum.elim g t) (Sum.elim gl tl) H) (hS : va_S (hA s0) s.heap H locs) {ls : Array Slot} (hl : lv_has ls 6 [(0, .ref (ad (.inl 0))), (1, .int p0)]) : W p l e rm_x_fewest s m args below meth c H locs 0 0 (vx_MQ below (va_Qi (fun (r : Int32) (v : Int32 × hLt) => o = .inl v ∧ r = v.1) (fun (v : Int32 × hLt) (U : State) => hW D vwCl ad (Sum.elim (xSH C pr) so) (Sum.elim g t) (Sum.elim v.2 tl) U.heap) (hA s0)) (vx_X (fun k : Nat => o = .inr k) (fun (E : String) (k : Nat) (U : State) => E = hEx k ∧ hW D vwCl ad (Sum.elim (xSH C pr) so) (Sum.elim g t) (Sum.elim gl tl) U.heap) (hA s0)) args s 1 6 (hA s0)) (F0 m 0 ls []) := by
  obtain ⟨hx, hb, hr, hml, hown, hts, hlocks, hK, hZ0, hA0⟩ := CX
  unfold x_fewest at hf
  refine lv_iload_n hx hb dX1_fewest_0 rfl (lv_at hl 1 rfl) ?_
  refine lv_iconst (v := 1) hx hb dX1_fewest_1 (by decide) ?_
  refine lv_sipush (v := 999) hx hb dX1_fewest_2 (by decide) ?_
  obtain ⟨y1, hq, hf⟩ := hbind hf
  refine hr_calli0 (va_runS (As := [.int p0, .int (1 : Int32), .int (999 : Int32)]) (rest := []) ⟨hx, hb, hml, hown, hts⟩ (met_x_within l D C a0 s0 ad so pr (Sum.elim g t) (Sum.elim gl tl) p0 (1 : Int32) (999 : Int32) hq) (va_cwS 3 hts (lw_S q1156 q1157 q76 q1158) rfl rfl rfl (by decide +kernel) ⟨Nat.le_of_ble_eq_true rfl, Nat.le_of_ble_eq_true rfl⟩) (hr_preS hZ_c hM hIx hK hZ0 hA0 hS) rfl rfl hl.1 rfl (lv_room (Nat.le_of_ble_eq_true rfl)) dX1_fewest_5 ⟨Nat.le_of_ble_eq_true rfl, Nat.le_of_ble_eq_true rfl⟩) hS (fun H locs hM hS => ?_)
  obtain ⟨z2, hq, hf⟩ := hbind hf
  refine hr_xcallv hf (vx_runS (As := [.int y1]) (rest := []) ⟨hx, hb, hml, hown, hts⟩ (met_x_right l D C a0 s0 ad so pr (Sum.elim g t) (Sum.elim gl tl) y1 hlst hq) (va_cwS 1 hts (lw_S q927 q928 q76 q929) rfl rfl rfl (by decide +kernel) ⟨Nat.le_of_ble_eq_true rfl, Nat.le_of_ble_eq_true rfl⟩) (hr_preS hZ_c hM hIx hK hZ0 hA0 hS) rfl rfl hl.1 rfl (lv_room (Nat.le_of_ble_eq_true rfl)) dX1_fewest_8 ⟨Nat.le_of_ble_eq_true rfl, Nat.le_of_ble_eq_true rfl⟩) hS hex hlocks hIx (Nat.le_of_ble_eq_true rfl) (Nat.le_of_ble_eq_true rfl) (fun H locs hf hM hS => ?_)
  refine lv_iconst (v := -1) hx hb dX1_fewest_11 (by decide) ?_
  refine lv_istore_n (lv' := [(2, .int (-1 : Int32)), (0, .ref (ad (.inl 0))), (1, .int p0)]) hx hb dX1_fewest_12 rfl hl (by decide) rfl (fun ls hl => ?_)
  refine lv_iconst (v := 0) hx hb dX1_fewest_13 (by decide) ?_
  refine lv_istore_n (lv' := [(3, .int (0 : Int32)), (2, .int (-1 : Int32)), (0, .ref (ad (.inl 0))), (1, .int p0)]) hx hb dX1_fewest_14 rfl hl (by decide) rfl (fun ls hl => ?_)
  obtain ⟨x13, hq, hf⟩ := hbind hf
  refine w_x_fewest_L15 ⟨hx, hb, hr, hml, hown, hts, hlocks, hK, hZ0, hA0⟩ hIx hex hlst g gl p0 y1 x13 hFU ((-1 : Int32), (0 : Int32), gl) hq (fun H locs ls hM hS hl => ?_) H locs ls hM hS (lv_sub hl [2, 3, 1, 0] rfl)
  refine lv_iload_n hx hb dX1_fewest_101 rfl (lv_at hl 0 rfl) ?_
  have eo := Option.some.inj hf
  subst eo
  refine W.widen (k := 1) (n := 6) (Nat.le_of_ble_eq_true rfl) (Nat.le_of_ble_eq_true rfl) ?_
  exact vx_ret (W.iret (v := x13.1) hx hb hr (fun T ht hW => ⟨⟨x13.1, (x13.1, x13.2), rfl, ⟨rfl, rfl⟩, by dsimp only; rw [ht]; exact hM⟩, hS.F ht⟩) hS.2.2 dX1_fewest_102)
set_option maxHeartbeats 4000000 in
set_option maxRecDepth 100000 in
theorem met_x_fewest (l : Launch) (D : va_G) (C : Nat → Nat) (a0 : Array Value) (s0 : State) (ad : Rl → Nat) (so : Nat → Option hS) (pr : hPr) (t : hSt) (tl : hLt) (g : hSt) (gl : hLt) (p0 : Int32) (hlst : l.stackTraces = false) {o : (Int32 × hLt) ⊕ Nat} (hf : x_fewest g gl p0 = some o) : vx_Met l yX1_fewest (ws_ yX1_fewest cX1_fewest 6 (some .int)) rm_x_fewest (va_Pc [.ref (ad (.inl 0)), .int p0] (hB D vwCl (hT C) (hA s0) (hZ a0 s0) ad (Sum.elim (xSH C pr) so) (Sum.elim g t) (Sum.elim gl tl))) (va_Qi (fun (r : Int32) (v : Int32 × hLt) => o = .inl v ∧ r = v.1) (fun (v : Int32 × hLt) (U : State) => hW D vwCl ad (Sum.elim (xSH C pr) so) (Sum.elim g t) (Sum.elim v.2 tl) U.heap) (hA s0)) (vx_X (fun k : Nat => o = .inr k) (fun (E : String) (k : Nat) (U : State) => E = hEx k ∧ hW D vwCl ad (Sum.elim (xSH C pr) so) (Sum.elim g t) (Sum.elim gl tl) U.heap) (hA s0)) 1 6 (hA s0) := by
  refine vx_ofW (cc := cX1_fewest) (maxL := 6) (ret := (some .int)) (by decide) rfl ?_
  intro p e s m args below meth c s₁ B hml hex hv
  obtain ⟨rfl, hM, hIx, hK, hZ0, hA0⟩ := hv
  have hl := lv_entry ([.ref (ad (.inl 0)), .int p0]) (n := 6) (Nat.le_of_ble_eq_true rfl)
  rw [lg_entry_eq]
  generalize (lg_sl ([.ref (ad (.inl 0)), .int p0]) ++ List.replicate (6 - (lg_sl ([.ref (ad (.inl 0)), .int p0])).length) Slot.unset).toArray = ls at hl ⊢
  have hl : lv_has ls 6 [(0, .ref (ad (.inl 0))), (1, .int p0)] := hl
  exact w_x_fewest ⟨B.exec, B.bytes, B.returns, hml, findClass_of_methodNamed B.named, fun w h => atoms_spec (ws := ws_ yX1_fewest cX1_fewest 6 (some .int)) B.pre w (List.mem_cons_of_mem _ h), B.notSynchronized, hK, hZ0, hA0⟩ hIx hex hlst g gl p0 hf hM va_S.rf hl

