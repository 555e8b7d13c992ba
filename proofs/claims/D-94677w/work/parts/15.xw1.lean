/-! WALKS (printed by tools/gen.py): 15.xw 1 -/
set_option maxRecDepth 100000
def rm_x_lay : Room := { frames := 1, cells := 0, slots := 0, locals := 16 }
set_option maxHeartbeats 4000000 in
set_option maxRecDepth 100000 in
theorem w_x_lay_L3 {p : Program} {l : Launch} {e : Env} {s : State} {m : MethodId} {args : Array Value} {below : List Frame} {meth : Method} {c : Code} {D : va_G} {C : Nat → Nat} {a0 : Array Value} {s0 : State} {ad : Rl → Nat} {so : Nat → Option hS} {pr : hPr} {t : hSt} {lt : Rl → Nat → Int64} (CX : hCx D C a0 s0 p s m args meth c cX1_lay 3 RX1 (none)) (hIx : hI (hA s0) ad (Sum.elim (xSH C pr) so)) (g : hSt) (p0 : Int32) {oM : hSt} (x : hSt) (n : Nat) (q0 : Int32 × hSt) (h0 : hiter (fun q : Int32 × hSt => x_lay_L3 p0 q.1 q.2) n q0 = some x) (kx0 : ∀ (H : Heap) (locs : List Loc) (ls : Array Slot), hW D vwCl ad (Sum.elim (xSH C pr) so) (Sum.elim x t) lt H → va_S (hA s0) s.heap H locs → lv_has ls 3 [] → W p l e rm_x_lay s m args below meth c H locs 0 0 (MQ below (va_Qv (fun (_ : Unit) => True) (fun (_ : Unit) (U : State) => hW D vwCl ad (Sum.elim (xSH C pr) so) (Sum.elim oM t) lt U.heap) (hA s0)) args s 0 0 (hA s0)) (F0 m 36 ls [])) : ∀ (H : Heap) (locs : List Loc) (ls : Array Slot), hW D vwCl ad (Sum.elim (xSH C pr) so) (Sum.elim q0.2 t) lt H → va_S (hA s0) s.heap H locs → lv_has ls 3 [(0, .ref (ad (.inl 0))), (1, .int p0), (2, .int q0.1)] → W p l e rm_x_lay s m args below meth c H locs 0 0 (MQ below (va_Qv (fun (_ : Unit) => True) (fun (_ : Unit) (U : State) => hW D vwCl ad (Sum.elim (xSH C pr) so) (Sum.elim oM t) lt U.heap) (hA s0)) args s 0 0 (hA s0)) (F0 m 3 ls []) := by
  obtain ⟨hx, hb, hr, hml, hown, hts, hlocks, hK, hZ0, hA0⟩ := CX
  refine hiter_W (Wh := fun q => ∀ (H : Heap) (locs : List Loc) (ls : Array Slot), hW D vwCl ad (Sum.elim (xSH C pr) so) (Sum.elim q.2 t) lt H → va_S (hA s0) s.heap H locs → lv_has ls 3 [(0, .ref (ad (.inl 0))), (1, .int p0), (2, .int q.1)] → W p l e rm_x_lay s m args below meth c H locs 0 0 (MQ below (va_Qv (fun (_ : Unit) => True) (fun (_ : Unit) (U : State) => hW D vwCl ad (Sum.elim (xSH C pr) so) (Sum.elim oM t) lt U.heap) (hA s0)) args s 0 0 (hA s0)) (F0 m 3 ls [])) ?_ n q0 h0
  intro q o hf kc kx1 H locs ls hM hS hl
  obtain ⟨v2_3, g_3⟩ := q
  replace hf : x_lay_L3 p0 v2_3 g_3 = some o := hf
  have kx : ∀ x' : hSt, o = .inr x' → ∀ (H : Heap) (locs : List Loc) (ls : Array Slot), hW D vwCl ad (Sum.elim (xSH C pr) so) (Sum.elim x' t) lt H → va_S (hA s0) s.heap H locs → lv_has ls 3 [] → W p l e rm_x_lay s m args below meth c H locs 0 0 (MQ below (va_Qv (fun (_ : Unit) => True) (fun (_ : Unit) (U : State) => hW D vwCl ad (Sum.elim (xSH C pr) so) (Sum.elim oM t) lt U.heap) (hA s0)) args s 0 0 (hA s0)) (F0 m 36 ls []) := fun x' ex => by rw [kx1 _ ex]; exact kx0
  unfold x_lay_L3 at hf
  refine lv_iload_n hx hb dX1_lay_3 rfl (lv_at hl 2 rfl) ?_
  refine hb_if_lt (tgt := 36) hx hb dX1_lay_4 (by decide) hf (fun hf => ?_) (fun hf => ?_)
  · exact kx g_3 (Option.some.inj hf).symm H locs ls hM hS (lv_sub hl [] rfl)
  · refine lv_aload_n hx hb dX1_lay_7 rfl (lv_at hl 0 rfl) ?_
    refine hr_get (ci := 0) (C := RX1) (T := TX1) (N := 19) (r := .inl 0) hx hb hts in_X1 hown hK hM xS_0 rfl 3 (by decide) (hts _ q562) rfl (v := .ref (ad (.inl 1))) rfl dX1_lay_8 ?_
    refine lv_aload_n hx hb dX1_lay_11 rfl (lv_at hl 0 rfl) ?_
    refine hr_get (ci := 0) (C := RX1) (T := TX1) (N := 19) (r := .inl 0) hx hb hts in_X1 hown hK hM xS_0 rfl 4 (by decide) (hts _ q563) rfl (v := .int (g_3 0 4)) rfl dX1_lay_12 ?_
    refine lv_iload_n hx hb dX1_lay_15 rfl (lv_at hl 1 rfl) ?_
    refine lv_iload_n hx hb dX1_lay_16 rfl (lv_at hl 2 rfl) ?_
    refine lv_ishr hx hb dX1_lay_17 ?_
    refine lv_i2b hx hb dX1_lay_18 rfl ?_
    refine hx_bast (r := 1) hx hb hK hM hIx hS 1 xS_1 rfl hf dX1_lay_19 (fun g1 H locs hf hM hS => ?_)
    refine lv_aload_n hx hb dX1_lay_20 rfl (lv_at hl 0 rfl) ?_
    refine lv_dup hx hb dX1_lay_21 rfl ?_
    refine hr_get (ci := 0) (C := RX1) (T := TX1) (N := 19) (r := .inl 0) hx hb hts in_X1 hown hK hM xS_0 rfl 4 (by decide) (hts _ q563) rfl (v := .int (g1 0 4)) rfl dX1_lay_22 ?_
    refine lv_iconst (v := 1) hx hb dX1_lay_25 (by decide) ?_
    refine lv_iadd hx hb dX1_lay_26 ?_
    refine hx_put (r := 0) (ci := 0) (C := RX1) (T := TX1) (N := 19) hx hb hts in_X1 tyX1 tyX1_ok nmX1 hown hK hM hIx hS xS_0 rfl 4 (by decide) (hts _ q563) rfl rfl rfl hf dX1_lay_27 (fun g2 H locs hf hM hS => ?_)
    obtain ⟨y2_3, ey, hf⟩ := hlet_ex hf
    refine lv_iinc (v := y2_3) (lv' := [(2, .int y2_3), (0, .ref (ad (.inl 0))), (1, .int p0)]) hx hb dX1_lay_30 hl (k := 2) rfl (by rw [ey]; rfl) (by decide) rfl (fun ls hl => ?_)
    refine lv_goto (tgt := 3) hx hb dX1_lay_33 (by decide) ?_
    exact kc (y2_3, g2) (Option.some.inj hf).symm H locs ls hM hS (lv_sub hl [1, 2, 0] rfl)
set_option maxHeartbeats 4000000 in
set_option maxRecDepth 100000 in
theorem w_x_lay {p : Program} {l : Launch} {e : Env} {s : State} {m : MethodId} {args : Array Value} {below : List Frame} {meth : Method} {c : Code} {D : va_G} {C : Nat → Nat} {a0 : Array Value} {s0 : State} {ad : Rl → Nat} {so : Nat → Option hS} {pr : hPr} {t : hSt} {lt : Rl → Nat → Int64} (CX : hCx D C a0 s0 p s m args meth c cX1_lay 3 RX1 (none)) (hIx : hI (hA s0) ad (Sum.elim (xSH C pr) so)) (g : hSt) (p0 : Int32) {o : hSt} (hf : x_lay g p0 = some o) {H : Heap} {locs : List Loc} (hM : hW D vwCl ad (Sum.elim (xSH C pr) so) (Sum.elim g t) lt H) (hS : va_S (hA s0) s.heap H locs) {ls : Array Slot} (hl : lv_has ls 3 [(0, .ref (ad (.inl 0))), (1, .int p0)]) : W p l e rm_x_lay s m args below meth c H locs 0 0 (MQ below (va_Qv (fun (_ : Unit) => True) (fun (_ : Unit) (U : State) => hW D vwCl ad (Sum.elim (xSH C pr) so) (Sum.elim o t) lt U.heap) (hA s0)) args s 0 0 (hA s0)) (F0 m 0 ls []) := by
  obtain ⟨hx, hb, hr, hml, hown, hts, hlocks, hK, hZ0, hA0⟩ := CX
  unfold x_lay at hf
  refine lv_bipush (v := 24) hx hb dX1_lay_0 (by decide) ?_
  refine lv_istore_n (lv' := [(2, .int (24 : Int32)), (0, .ref (ad (.inl 0))), (1, .int p0)]) hx hb dX1_lay_2 rfl hl (by decide) rfl (fun ls hl => ?_)
  obtain ⟨x4, hq, hf⟩ := hbind hf
  refine w_x_lay_L3 ⟨hx, hb, hr, hml, hown, hts, hlocks, hK, hZ0, hA0⟩ hIx g p0 x4 hFU ((24 : Int32), g) hq (fun H locs ls hM hS hl => ?_) H locs ls hM hS (lv_sub hl [1, 2, 0] rfl)
  have eo := Option.some.inj hf
  subst eo
  exact W.vret hx hb hr (fun T ht hW => ⟨⟨(), rfl, trivial, by dsimp only; rw [ht]; exact hM⟩, hS.F ht⟩) hS.2.2 dX1_lay_36
set_option maxHeartbeats 4000000 in
set_option maxRecDepth 100000 in
theorem met_x_lay (l : Launch) (D : va_G) (C : Nat → Nat) (a0 : Array Value) (s0 : State) (ad : Rl → Nat) (so : Nat → Option hS) (pr : hPr) (t : hSt) (lt : Rl → Nat → Int64) (g : hSt) (p0 : Int32) {o : hSt} (hf : x_lay g p0 = some o) : Met l yX1_lay (ws_ yX1_lay cX1_lay 3 (none)) rm_x_lay (va_Pc [.ref (ad (.inl 0)), .int p0] (hB D vwCl (hT C) (hA s0) (hZ a0 s0) ad (Sum.elim (xSH C pr) so) (Sum.elim g t) lt)) (va_Qv (fun (_ : Unit) => True) (fun (_ : Unit) (U : State) => hW D vwCl ad (Sum.elim (xSH C pr) so) (Sum.elim o t) lt U.heap) (hA s0)) 0 0 (hA s0) := by
  refine Met.ofW (cc := cX1_lay) (maxL := 3) (ret := (none)) (by decide) rfl ?_
  intro p e s m args below meth c s₁ B hml hv
  obtain ⟨rfl, hM, hIx, hK, hZ0, hA0⟩ := hv
  have hl := lv_entry ([.ref (ad (.inl 0)), .int p0]) (n := 3) (Nat.le_of_ble_eq_true rfl)
  rw [lg_entry_eq]
  generalize (lg_sl ([.ref (ad (.inl 0)), .int p0]) ++ List.replicate (3 - (lg_sl ([.ref (ad (.inl 0)), .int p0])).length) Slot.unset).toArray = ls at hl ⊢
  have hl : lv_has ls 3 [(0, .ref (ad (.inl 0))), (1, .int p0)] := hl
  exact w_x_lay ⟨B.exec, B.bytes, B.returns, hml, findClass_of_methodNamed B.named, fun w h => atoms_spec (ws := ws_ yX1_lay cX1_lay 3 (none)) B.pre w (List.mem_cons_of_mem _ h), B.notSynchronized, hK, hZ0, hA0⟩ hIx g p0 hf hM va_S.rf hl

def rm_x_feed : Room := { frames := 3, cells := 0, slots := 0, locals := 39 }
set_option maxHeartbeats 4000000 in
set_option maxRecDepth 100000 in
theorem w_x_feed {p : Program} {l : Launch} {e : Env} {s : State} {m : MethodId} {args : Array Value} {below : List Frame} {meth : Method} {c : Code} {D : va_G} {C : Nat → Nat} {a0 : Array Value} {s0 : State} {ad : Rl → Nat} {so : Nat → Option hS} {pr : hPr} {t : hSt} {lt : Rl → Nat → Int64} (CX : hCx D C a0 s0 p s m args meth c cX1_feed 6 RX1 (some .int)) (hIx : hI (hA s0) ad (Sum.elim (xSH C pr) so)) (g : hSt) (p0 : Int32) (p1 : Int32) (p2 : Int32) (p3 : Int32) (p4 : Int32) {o : Int32 × hSt} (hf : x_feed g p0 p1 p2 p3 p4 = some o) {H : Heap} {locs : List Loc} (hM : hW D vwCl ad (Sum.elim (xSH C pr) so) (Sum.elim g t) lt H) (hS : va_S (hA s0) s.heap H locs) {ls : Array Slot} (hl : lv_has ls 6 [(0, .ref (ad (.inl 0))), (1, .int p0), (2, .int p1), (3, .int p2), (4, .int p3), (5, .int p4)]) : W p l e rm_x_feed s m args below meth c H locs 0 0 (MQ below (va_Qi (fun (r : Int32) (_ : Unit) => r = o.1) (fun (_ : Unit) (U : State) => hW D vwCl ad (Sum.elim (xSH C pr) so) (Sum.elim o.2 t) lt U.heap) (hA s0)) args s 0 0 (hA s0)) (F0 m 0 ls []) := by
  obtain ⟨hx, hb, hr, hml, hown, hts, hlocks, hK, hZ0, hA0⟩ := CX
  unfold x_feed at hf
  refine lv_aload_n hx hb dX1_feed_0 rfl (lv_at hl 0 rfl) ?_
  refine hr_get (ci := 0) (C := RX1) (T := TX1) (N := 19) (r := .inl 0) hx hb hts in_X1 hown hK hM xS_0 rfl 4 (by decide) (hts _ q563) rfl (v := .int (g 0 4)) rfl dX1_feed_1 ?_
  refine lv_bipush (v := 20) hx hb dX1_feed_4 (by decide) ?_
  refine lv_iadd hx hb dX1_feed_6 ?_
  refine lv_sipush (v := 700) hx hb dX1_feed_7 (by decide) ?_
  refine hb_icmp_le (tgt := 15) hx hb dX1_feed_10 (by decide) hf (fun hf => ?_) (fun hf => ?_)
  · refine lv_aload_n hx hb dX1_feed_15 rfl (lv_at hl 0 rfl) ?_
    refine lv_iload_n hx hb dX1_feed_16 rfl (lv_at hl 1 rfl) ?_
    obtain ⟨y1, hq, hf⟩ := hbind hf
    refine hr_callv0 (va_runV (As := [.int p0]) (rest := []) ⟨hx, hb, hml, hown, hts⟩ (met_x_lay l D C a0 s0 ad so pr t lt g p0 hq) (cwV 1 hts (lw_V q622 q624 qs1 q76 q625) rfl rfl rfl (by decide +kernel) ⟨Nat.le_of_ble_eq_true rfl, Nat.le_of_ble_eq_true rfl⟩) (hr_preV hZ_c hM hIx hK hZ0 hA0 hS (r := .inl 0) xS_0 (q := (RX1, TX1, 19)) rfl) rfl rfl hl.1 rfl (lv_room (Nat.le_of_ble_eq_true rfl)) dX1_feed_17 ⟨Nat.le_of_ble_eq_true rfl, Nat.le_of_ble_eq_true rfl⟩) hS (fun H locs hM hS => ?_)
    refine lv_aload_n hx hb dX1_feed_20 rfl (lv_at hl 0 rfl) ?_
    refine lv_iload_n hx hb dX1_feed_21 rfl (lv_at hl 2 rfl) ?_
    obtain ⟨y2, hq, hf⟩ := hbind hf
    refine hr_callv0 (va_runV (As := [.int p1]) (rest := []) ⟨hx, hb, hml, hown, hts⟩ (met_x_lay l D C a0 s0 ad so pr t lt y1 p1 hq) (cwV 1 hts (lw_V q622 q624 qs1 q76 q625) rfl rfl rfl (by decide +kernel) ⟨Nat.le_of_ble_eq_true rfl, Nat.le_of_ble_eq_true rfl⟩) (hr_preV hZ_c hM hIx hK hZ0 hA0 hS (r := .inl 0) xS_0 (q := (RX1, TX1, 19)) rfl) rfl rfl hl.1 rfl (lv_room (Nat.le_of_ble_eq_true rfl)) dX1_feed_22 ⟨Nat.le_of_ble_eq_true rfl, Nat.le_of_ble_eq_true rfl⟩) hS (fun H locs hM hS => ?_)
    refine lv_aload_n hx hb dX1_feed_25 rfl (lv_at hl 0 rfl) ?_
    refine lv_iload_n hx hb dX1_feed_26 rfl (lv_at hl 3 rfl) ?_
    obtain ⟨y3, hq, hf⟩ := hbind hf
    refine hr_callv0 (va_runV (As := [.int p2]) (rest := []) ⟨hx, hb, hml, hown, hts⟩ (met_x_lay l D C a0 s0 ad so pr t lt y2 p2 hq) (cwV 1 hts (lw_V q622 q624 qs1 q76 q625) rfl rfl rfl (by decide +kernel) ⟨Nat.le_of_ble_eq_true rfl, Nat.le_of_ble_eq_true rfl⟩) (hr_preV hZ_c hM hIx hK hZ0 hA0 hS (r := .inl 0) xS_0 (q := (RX1, TX1, 19)) rfl) rfl rfl hl.1 rfl (lv_room (Nat.le_of_ble_eq_true rfl)) dX1_feed_27 ⟨Nat.le_of_ble_eq_true rfl, Nat.le_of_ble_eq_true rfl⟩) hS (fun H locs hM hS => ?_)
    refine lv_aload_n hx hb dX1_feed_30 rfl (lv_at hl 0 rfl) ?_
    refine lv_iload hx hb dX1_feed_31 (lv_at hl 4 rfl) ?_
    obtain ⟨y4, hq, hf⟩ := hbind hf
    refine hr_callv0 (va_runV (As := [.int p3]) (rest := []) ⟨hx, hb, hml, hown, hts⟩ (met_x_lay l D C a0 s0 ad so pr t lt y3 p3 hq) (cwV 1 hts (lw_V q622 q624 qs1 q76 q625) rfl rfl rfl (by decide +kernel) ⟨Nat.le_of_ble_eq_true rfl, Nat.le_of_ble_eq_true rfl⟩) (hr_preV hZ_c hM hIx hK hZ0 hA0 hS (r := .inl 0) xS_0 (q := (RX1, TX1, 19)) rfl) rfl rfl hl.1 rfl (lv_room (Nat.le_of_ble_eq_true rfl)) dX1_feed_33 ⟨Nat.le_of_ble_eq_true rfl, Nat.le_of_ble_eq_true rfl⟩) hS (fun H locs hM hS => ?_)
    refine lv_aload_n hx hb dX1_feed_36 rfl (lv_at hl 0 rfl) ?_
    refine lv_iload hx hb dX1_feed_37 (lv_at hl 5 rfl) ?_
    obtain ⟨y5, hq, hf⟩ := hbind hf
    refine hr_callv0 (va_runV (As := [.int p4]) (rest := []) ⟨hx, hb, hml, hown, hts⟩ (met_x_lay l D C a0 s0 ad so pr t lt y4 p4 hq) (cwV 1 hts (lw_V q622 q624 qs1 q76 q625) rfl rfl rfl (by decide +kernel) ⟨Nat.le_of_ble_eq_true rfl, Nat.le_of_ble_eq_true rfl⟩) (hr_preV hZ_c hM hIx hK hZ0 hA0 hS (r := .inl 0) xS_0 (q := (RX1, TX1, 19)) rfl) rfl rfl hl.1 rfl (lv_room (Nat.le_of_ble_eq_true rfl)) dX1_feed_39 ⟨Nat.le_of_ble_eq_true rfl, Nat.le_of_ble_eq_true rfl⟩) hS (fun H locs hM hS => ?_)
    refine lv_aload_n hx hb dX1_feed_42 rfl (lv_at hl 0 rfl) ?_
    refine hr_get (ci := 0) (C := RX1) (T := TX1) (N := 19) (r := .inl 0) hx hb hts in_X1 hown hK hM xS_0 rfl 4 (by decide) (hts _ q563) rfl (v := .int (y5 0 4)) rfl dX1_feed_43 ?_
    have eo := Option.some.inj hf
    subst eo
    exact W.iret (v := (y5 0 4)) hx hb hr (fun T ht hW => ⟨⟨(y5 0 4), (), rfl, rfl, by dsimp only; rw [ht]; exact hM⟩, hS.F ht⟩) hS.2.2 dX1_feed_46
  · refine lv_iconst (v := -1) hx hb dX1_feed_13 (by decide) ?_
    have eo := Option.some.inj hf
    subst eo
    exact W.iret (v := (-1 : Int32)) hx hb hr (fun T ht hW => ⟨⟨(-1 : Int32), (), rfl, rfl, by dsimp only; rw [ht]; exact hM⟩, hS.F ht⟩) hS.2.2 dX1_feed_14
set_option maxHeartbeats 4000000 in
set_option maxRecDepth 100000 in
theorem met_x_feed (l : Launch) (D : va_G) (C : Nat → Nat) (a0 : Array Value) (s0 : State) (ad : Rl → Nat) (so : Nat → Option hS) (pr : hPr) (t : hSt) (lt : Rl → Nat → Int64) (g : hSt) (p0 : Int32) (p1 : Int32) (p2 : Int32) (p3 : Int32) (p4 : Int32) {o : Int32 × hSt} (hf : x_feed g p0 p1 p2 p3 p4 = some o) : Met l yX1_feed (ws_ yX1_feed cX1_feed 6 (some .int)) rm_x_feed (va_Pc [.ref (ad (.inl 0)), .int p0, .int p1, .int p2, .int p3, .int p4] (hB D vwCl (hT C) (hA s0) (hZ a0 s0) ad (Sum.elim (xSH C pr) so) (Sum.elim g t) lt)) (va_Qi (fun (r : Int32) (_ : Unit) => r = o.1) (fun (_ : Unit) (U : State) => hW D vwCl ad (Sum.elim (xSH C pr) so) (Sum.elim o.2 t) lt U.heap) (hA s0)) 0 0 (hA s0) := by
  refine Met.ofW (cc := cX1_feed) (maxL := 6) (ret := (some .int)) (by decide) rfl ?_
  intro p e s m args below meth c s₁ B hml hv
  obtain ⟨rfl, hM, hIx, hK, hZ0, hA0⟩ := hv
  have hl := lv_entry ([.ref (ad (.inl 0)), .int p0, .int p1, .int p2, .int p3, .int p4]) (n := 6) (Nat.le_of_ble_eq_true rfl)
  rw [lg_entry_eq]
  generalize (lg_sl ([.ref (ad (.inl 0)), .int p0, .int p1, .int p2, .int p3, .int p4]) ++ List.replicate (6 - (lg_sl ([.ref (ad (.inl 0)), .int p0, .int p1, .int p2, .int p3, .int p4])).length) Slot.unset).toArray = ls at hl ⊢
  have hl : lv_has ls 6 [(0, .ref (ad (.inl 0))), (1, .int p0), (2, .int p1), (3, .int p2), (4, .int p3), (5, .int p4)] := hl
  exact w_x_feed ⟨B.exec, B.bytes, B.returns, hml, findClass_of_methodNamed B.named, fun w h => atoms_spec (ws := ws_ yX1_feed cX1_feed 6 (some .int)) B.pre w (List.mem_cons_of_mem _ h), B.notSynchronized, hK, hZ0, hA0⟩ hIx g p0 p1 p2 p3 p4 hf hM va_S.rf hl

def rm_x_fault : Room := { frames := 1, cells := 0, slots := 0, locals := 16 }
set_option maxHeartbeats 4000000 in
set_option maxRecDepth 100000 in
theorem w_x_fault {p : Program} {l : Launch} {e : Env} {s : State} {m : MethodId} {args : Array Value} {below : List Frame} {meth : Method} {c : Code} {D : va_G} {C : Nat → Nat} {a0 : Array Value} {s0 : State} {ad : Rl → Nat} {so : Nat → Option hS} {pr : hPr} {t : hSt} {lt : Rl → Nat → Int64} (CX : hCx D C a0 s0 p s m args meth c cX1_fault 1 RX1 (some .int)) (hIx : hI (hA s0) ad (Sum.elim (xSH C pr) so)) (g : hSt) {o : Int32} (hf : x_fault g = some o) {H : Heap} {locs : List Loc} (hM : hW D vwCl ad (Sum.elim (xSH C pr) so) (Sum.elim g t) lt H) (hS : va_S (hA s0) s.heap H locs) {ls : Array Slot} (hl : lv_has ls 1 [(0, .ref (ad (.inl 0)))]) : W p l e rm_x_fault s m args below meth c H locs 0 0 (MQ below (va_Qi (fun (r : Int32) (_ : Unit) => r = o) (fun (_ : Unit) (U : State) => hW D vwCl ad (Sum.elim (xSH C pr) so) (Sum.elim g t) lt U.heap) (hA s0)) args s 0 0 (hA s0)) (F0 m 0 ls []) := by
  obtain ⟨hx, hb, hr, hml, hown, hts, hlocks, hK, hZ0, hA0⟩ := CX
  unfold x_fault at hf
  refine lv_aload_n hx hb dX1_fault_0 rfl (lv_at hl 0 rfl) ?_
  refine hr_get (ci := 0) (C := RX1) (T := TX1) (N := 19) (r := .inl 0) hx hb hts in_X1 hown hK hM xS_0 rfl 5 (by decide) (hts _ q564) rfl (v := .int (g 0 5)) rfl dX1_fault_1 ?_
  have eo := Option.some.inj hf
  subst eo
  exact W.iret (v := (g 0 5)) hx hb hr (fun T ht hW => ⟨⟨(g 0 5), (), rfl, rfl, by dsimp only; rw [ht]; exact hM⟩, hS.F ht⟩) hS.2.2 dX1_fault_4
set_option maxHeartbeats 4000000 in
set_option maxRecDepth 100000 in
theorem met_x_fault (l : Launch) (D : va_G) (C : Nat → Nat) (a0 : Array Value) (s0 : State) (ad : Rl → Nat) (so : Nat → Option hS) (pr : hPr) (t : hSt) (lt : Rl → Nat → Int64) (g : hSt) {o : Int32} (hf : x_fault g = some o) : Met l yX1_fault (ws_ yX1_fault cX1_fault 1 (some .int)) rm_x_fault (va_Pc [.ref (ad (.inl 0))] (hB D vwCl (hT C) (hA s0) (hZ a0 s0) ad (Sum.elim (xSH C pr) so) (Sum.elim g t) lt)) (va_Qi (fun (r : Int32) (_ : Unit) => r = o) (fun (_ : Unit) (U : State) => hW D vwCl ad (Sum.elim (xSH C pr) so) (Sum.elim g t) lt U.heap) (hA s0)) 0 0 (hA s0) := by
  refine Met.ofW (cc := cX1_fault) (maxL := 1) (ret := (some .int)) (by decide) rfl ?_
  intro p e s m args below meth c s₁ B hml hv
  obtain ⟨rfl, hM, hIx, hK, hZ0, hA0⟩ := hv
  have hl := lv_entry ([.ref (ad (.inl 0))]) (n := 1) (Nat.le_of_ble_eq_true rfl)
  rw [lg_entry_eq]
  generalize (lg_sl ([.ref (ad (.inl 0))]) ++ List.replicate (1 - (lg_sl ([.ref (ad (.inl 0))])).length) Slot.unset).toArray = ls at hl ⊢
  have hl : lv_has ls 1 [(0, .ref (ad (.inl 0)))] := hl
  exact w_x_fault ⟨B.exec, B.bytes, B.returns, hml, findClass_of_methodNamed B.named, fun w h => atoms_spec (ws := ws_ yX1_fault cX1_fault 1 (some .int)) B.pre w (List.mem_cons_of_mem _ h), B.notSynchronized, hK, hZ0, hA0⟩ hIx g hf hM va_S.rf hl

def rm_x_isPerson : Room := { frames := 3, cells := 0, slots := 0, locals := 37 }
set_option maxHeartbeats 4000000 in
set_option maxRecDepth 100000 in
theorem w_x_isPerson_B22 {p : Program} {l : Launch} {e : Env} {s : State} {m : MethodId} {args : Array Value} {below : List Frame} {meth : Method} {c : Code} {D : va_G} {C : Nat → Nat} {a0 : Array Value} {s0 : State} {ad : Rl → Nat} {so : Nat → Option hS} {pr : hPr} {t : hSt} {lt : Rl → Nat → Int64} (CX : hCx D C a0 s0 p s m args meth c cX1_isPerson 2 RX1 (some .boolean)) (hIx : hI (hA s0) ad (Sum.elim (xSH C pr) so)) (g : hSt) (p0 : Int32) {o : Int32} (hf : x_isPerson_B22 = some o) {H : Heap} {locs : List Loc} (hM : hW D vwCl ad (Sum.elim (xSH C pr) so) (Sum.elim g t) lt H) (hS : va_S (hA s0) s.heap H locs) {ls : Array Slot} (hl : lv_has ls 2 []) : W p l e rm_x_isPerson s m args below meth c H locs 0 0 (MQ below (va_Qi (fun (r : Int32) (_ : Unit) => r = o) (fun (_ : Unit) (U : State) => hW D vwCl ad (Sum.elim (xSH C pr) so) (Sum.elim g t) lt U.heap) (hA s0)) args s 0 0 (hA s0)) (F0 m 22 ls []) := by
  obtain ⟨hx, hb, hr, hml, hown, hts, hlocks, hK, hZ0, hA0⟩ := CX
  unfold x_isPerson_B22 at hf
  refine lv_iconst (v := 0) hx hb dX1_isPerson_22 (by decide) ?_
  have eo := Option.some.inj hf
  subst eo
  exact W.zret (v := (0 : Int32)) hx hb hr rfl (fun T ht hW => ⟨⟨(0 : Int32), (), rfl, rfl, by dsimp only; rw [ht]; exact hM⟩, hS.F ht⟩) hS.2.2 dX1_isPerson_23
set_option maxHeartbeats 4000000 in
set_option maxRecDepth 100000 in
theorem w_x_isPerson {p : Program} {l : Launch} {e : Env} {s : State} {m : MethodId} {args : Array Value} {below : List Frame} {meth : Method} {c : Code} {D : va_G} {C : Nat → Nat} {a0 : Array Value} {s0 : State} {ad : Rl → Nat} {so : Nat → Option hS} {pr : hPr} {t : hSt} {lt : Rl → Nat → Int64} (CX : hCx D C a0 s0 p s m args meth c cX1_isPerson 2 RX1 (some .boolean)) (hIx : hI (hA s0) ad (Sum.elim (xSH C pr) so)) (g : hSt) (p0 : Int32) {o : Int32} (hf : x_isPerson g p0 = some o) {H : Heap} {locs : List Loc} (hM : hW D vwCl ad (Sum.elim (xSH C pr) so) (Sum.elim g t) lt H) (hS : va_S (hA s0) s.heap H locs) {ls : Array Slot} (hl : lv_has ls 2 [(0, .ref (ad (.inl 0))), (1, .int p0)]) : W p l e rm_x_isPerson s m args below meth c H locs 0 0 (MQ below (va_Qi (fun (r : Int32) (_ : Unit) => r = o) (fun (_ : Unit) (U : State) => hW D vwCl ad (Sum.elim (xSH C pr) so) (Sum.elim g t) lt U.heap) (hA s0)) args s 0 0 (hA s0)) (F0 m 0 ls []) := by
  obtain ⟨hx, hb, hr, hml, hown, hts, hlocks, hK, hZ0, hA0⟩ := CX
  unfold x_isPerson at hf
  refine lv_iload_n hx hb dX1_isPerson_0 rfl (lv_at hl 1 rfl) ?_
  refine hb_if_lt (tgt := 22) hx hb dX1_isPerson_1 (by decide) hf (fun hf => ?_) (fun hf => ?_)
  · exact w_x_isPerson_B22 ⟨hx, hb, hr, hml, hown, hts, hlocks, hK, hZ0, hA0⟩ hIx g p0 hf hM hS (lv_sub hl [] rfl)
  · refine lv_iload_n hx hb dX1_isPerson_4 rfl (lv_at hl 1 rfl) ?_
    refine lv_aload_n hx hb dX1_isPerson_5 rfl (lv_at hl 0 rfl) ?_
    refine hr_get (ci := 0) (C := RX1) (T := TX1) (N := 19) (r := .inl 0) hx hb hts in_X1 hown hK hM xS_0 rfl 0 (by decide) (hts _ q559) rfl (v := .ref (ad (.inl 10))) rfl dX1_isPerson_6 ?_
    refine hr_getN (ci := 2) (C := RX2) (T := TX2) (N := 6) (r := .inl 10) hx hb hts in_X2 hown hK hM xS_10 rfl 0 (by decide) (hZ_nest hZ0 q468 rfl) rfl (v := .ref (ad (.inl 11))) rfl dX1_isPerson_9 ?_
    obtain ⟨y1, hq, hf⟩ := hbind hf
    refine hr_calli0 (va_runV (As := []) (rest := [.int p0]) ⟨hx, hb, hml, hown, hts⟩ (met_x_al_size l D C a0 s0 ad so pr t lt g 11 xs_11 hq) (cwV 0 hts (lw_V q642 q643 q644 q80 q645) rfl rfl rfl (by decide +kernel) ⟨Nat.le_of_ble_eq_true rfl, Nat.le_of_ble_eq_true rfl⟩) (hr_preV hZ_c hM hIx hK hZ0 hA0 hS (r := .inl 11) xS_11 (q := (RJ2, TJ2, 3)) rfl) rfl rfl hl.1 rfl (lv_room (Nat.le_of_ble_eq_true rfl)) dX1_isPerson_12 ⟨Nat.le_of_ble_eq_true rfl, Nat.le_of_ble_eq_true rfl⟩) hS (fun H locs hM hS => ?_)
    refine hb_icmp_ge (tgt := 22) hx hb dX1_isPerson_15 (by decide) hf (fun hf => ?_) (fun hf => ?_)
    · exact w_x_isPerson_B22 ⟨hx, hb, hr, hml, hown, hts, hlocks, hK, hZ0, hA0⟩ hIx g p0 hf hM hS (lv_sub hl [] rfl)
    · refine lv_iconst (v := 1) hx hb dX1_isPerson_18 (by decide) ?_
      refine lv_goto (tgt := 23) hx hb dX1_isPerson_19 (by decide) ?_
      have eo := Option.some.inj hf
      subst eo
      exact W.zret (v := (1 : Int32)) hx hb hr rfl (fun T ht hW => ⟨⟨(1 : Int32), (), rfl, rfl, by dsimp only; rw [ht]; exact hM⟩, hS.F ht⟩) hS.2.2 dX1_isPerson_23
set_option maxHeartbeats 4000000 in
set_option maxRecDepth 100000 in
theorem met_x_isPerson (l : Launch) (D : va_G) (C : Nat → Nat) (a0 : Array Value) (s0 : State) (ad : Rl → Nat) (so : Nat → Option hS) (pr : hPr) (t : hSt) (lt : Rl → Nat → Int64) (g : hSt) (p0 : Int32) {o : Int32} (hf : x_isPerson g p0 = some o) : Met l yX1_isPerson (ws_ yX1_isPerson cX1_isPerson 2 (some .boolean)) rm_x_isPerson (va_Pc [.ref (ad (.inl 0)), .int p0] (hB D vwCl (hT C) (hA s0) (hZ a0 s0) ad (Sum.elim (xSH C pr) so) (Sum.elim g t) lt)) (va_Qi (fun (r : Int32) (_ : Unit) => r = o) (fun (_ : Unit) (U : State) => hW D vwCl ad (Sum.elim (xSH C pr) so) (Sum.elim g t) lt U.heap) (hA s0)) 0 0 (hA s0) := by
  refine Met.ofW (cc := cX1_isPerson) (maxL := 2) (ret := (some .boolean)) (by decide) rfl ?_
  intro p e s m args below meth c s₁ B hml hv
  obtain ⟨rfl, hM, hIx, hK, hZ0, hA0⟩ := hv
  have hl := lv_entry ([.ref (ad (.inl 0)), .int p0]) (n := 2) (Nat.le_of_ble_eq_true rfl)
  rw [lg_entry_eq]
  generalize (lg_sl ([.ref (ad (.inl 0)), .int p0]) ++ List.replicate (2 - (lg_sl ([.ref (ad (.inl 0)), .int p0])).length) Slot.unset).toArray = ls at hl ⊢
  have hl : lv_has ls 2 [(0, .ref (ad (.inl 0))), (1, .int p0)] := hl
  exact w_x_isPerson ⟨B.exec, B.bytes, B.returns, hml, findClass_of_methodNamed B.named, fun w h => atoms_spec (ws := ws_ yX1_isPerson cX1_isPerson 2 (some .boolean)) B.pre w (List.mem_cons_of_mem _ h), B.notSynchronized, hK, hZ0, hA0⟩ hIx g p0 hf hM va_S.rf hl

def rm_x_trouble : Room := { frames := 5, cells := 0, slots := 0, locals := 59 }
set_option maxHeartbeats 4000000 in
set_option maxRecDepth 100000 in
theorem w_x_trouble_B117 {p : Program} {l : Launch} {e : Env} {s : State} {m : MethodId} {args : Array Value} {below : List Frame} {meth : Method} {c : Code} {D : va_G} {C : Nat → Nat} {a0 : Array Value} {s0 : State} {ad : Rl → Nat} {so : Nat → Option hS} {pr : hPr} {t : hSt} {lt : Rl → Nat → Int64} (CX : hCx D C a0 s0 p s m args meth c cX1_trouble 7 RX1 (some .int)) (hIx : hI (hA s0) ad (Sum.elim (xSH C pr) so)) (g : hSt) (p0 : Int32) (p1 : Int32) (p2 : Int32) (p3 : Int32) (y1 : Int32) (y2 : Int32) (y3 : Int32) (x4 : Int32) (x5 : Int32) (x6 : Int32) (x7 : Int32) {o : Int32} (hf : x_trouble_B117 g p0 p1 p2 = some o) {H : Heap} {locs : List Loc} (hM : hW D vwCl ad (Sum.elim (xSH C pr) so) (Sum.elim g t) lt H) (hS : va_S (hA s0) s.heap H locs) {ls : Array Slot} (hl : lv_has ls 7 [(0, .ref (ad (.inl 0))), (1, .int p0), (2, .int p1), (3, .int p2), (5, .ref (ad (.inl 24)))]) : W p l e rm_x_trouble s m args below meth c H locs 0 0 (MQ below (va_Qi (fun (r : Int32) (_ : Unit) => r = o) (fun (_ : Unit) (U : State) => hW D vwCl ad (Sum.elim (xSH C pr) so) (Sum.elim g t) lt U.heap) (hA s0)) args s 0 0 (hA s0)) (F0 m 117 ls []) := by
  obtain ⟨hx, hb, hr, hml, hown, hts, hlocks, hK, hZ0, hA0⟩ := CX
  unfold x_trouble_B117 at hf
  refine lv_aload hx hb dX1_trouble_117 (lv_at hl 4 rfl) ?_
  refine lv_iload_n hx hb dX1_trouble_119 rfl (lv_at hl 2 rfl) ?_
  obtain ⟨y8, hq, hf⟩ := hbind hf
  refine hr_calli0 (va_runV (As := [.int p1]) (rest := []) ⟨hx, hb, hml, hown, hts⟩ (met_x_st_weight l D C a0 s0 ad so pr t lt g 24 p1 xs_st24 hq) (cwV 1 hts (lw_V q650 q651 q652 q98 q653) rfl rfl rfl (by decide +kernel) ⟨Nat.le_of_ble_eq_true rfl, Nat.le_of_ble_eq_true rfl⟩) (hr_preV hZ_c hM hIx hK hZ0 hA0 hS (r := .inl 24) (xs_st24 (C := C) (pr := pr)).o (q := (RX4, TX4, 6)) rfl) rfl rfl hl.1 rfl (lv_room (Nat.le_of_ble_eq_true rfl)) dX1_trouble_120 ⟨Nat.le_of_ble_eq_true rfl, Nat.le_of_ble_eq_true rfl⟩) hS (fun H locs hM hS => ?_)
  refine lv_iload_n hx hb dX1_trouble_123 rfl (lv_at hl 3 rfl) ?_
  refine lv_iadd hx hb dX1_trouble_124 ?_
  refine hb_top hf (fun y6_9 hf => ?_)
  refine lv_istore (lv' := [(6, .int y6_9), (0, .ref (ad (.inl 0))), (1, .int p0), (2, .int p1), (3, .int p2), (5, .ref (ad (.inl 24)))]) hx hb dX1_trouble_125 hl (by decide) rfl (fun ls hl => ?_)
  refine lv_iload hx hb dX1_trouble_127 (lv_at hl 0 rfl) ?_
  refine lv_iconst (v := 1) hx hb dX1_trouble_129 (by decide) ?_
  refine lv_aload hx hb dX1_trouble_130 (lv_at hl 5 rfl) ?_
  refine hr_getN (ci := 1) (C := RX4) (T := TX4) (N := 6) (r := .inl 24) hx hb hts in_X4 hown hK hM (xs_st24 (C := C) (pr := pr)).o rfl 2 (by decide) (hZ_nest hZ0 q518 rfl) rfl (v := .ref (ad (.inl (24 + 3)))) rfl dX1_trouble_132 ?_
  refine lv_iload_n hx hb dX1_trouble_135 rfl (lv_at hl 2 rfl) ?_
  refine hx_iald (r := (24 + 3)) hx hb hK hM 0 (xs_st24 (C := C) (pr := pr)).a3 rfl hf dX1_trouble_136 (fun x10 hf => ?_)
  refine lv_aload_n hx hb dX1_trouble_137 rfl (lv_at hl 1 rfl) ?_
  refine hr_get (ci := 0) (C := RX1) (T := TX1) (N := 19) (r := .inl 0) hx hb hts in_X1 hown hK hM xS_0 rfl 0 (by decide) (hts _ q559) rfl (v := .ref (ad (.inl 10))) rfl dX1_trouble_138 ?_
  refine hr_getN (ci := 2) (C := RX2) (T := TX2) (N := 6) (r := .inl 10) hx hb hts in_X2 hown hK hM xS_10 rfl 4 (by decide) (hZ_nest hZ0 q479 rfl) rfl (v := .int (g 10 4)) rfl dX1_trouble_141 ?_
  refine lv_isub hx hb dX1_trouble_144 ?_
  refine va_mmax hx hb (by rw [hml]; exact hl.1.symm) hown (hts _ q654) (hts _ q240) (hts _ q90) (hts _ q241) (Nat.le_of_ble_eq_true rfl) (Nat.le_of_ble_eq_true rfl) (Nat.le_of_ble_eq_true rfl) (Nat.le_of_ble_eq_true rfl) dX1_trouble_145 ?_
  refine hb_icmp_ge (tgt := 155) hx hb dX1_trouble_148 (by decide) hf (fun hf => ?_) (fun hf => ?_)
  · refine lv_iload hx hb dX1_trouble_155 (lv_at hl 0 rfl) ?_
    refine lv_aload hx hb dX1_trouble_157 (lv_at hl 5 rfl) ?_
    refine hr_getN (ci := 1) (C := RX4) (T := TX4) (N := 6) (r := .inl 24) hx hb hts in_X4 hown hK hM (xs_st24 (C := C) (pr := pr)).o rfl 2 (by decide) (hZ_nest hZ0 q518 rfl) rfl (v := .ref (ad (.inl (24 + 3)))) rfl dX1_trouble_159 ?_
    refine lv_iload_n hx hb dX1_trouble_162 rfl (lv_at hl 2 rfl) ?_
    refine hx_iald (r := (24 + 3)) hx hb hK hM 0 (xs_st24 (C := C) (pr := pr)).a3 rfl hf dX1_trouble_163 (fun x11 hf => ?_)
    refine lv_aload_n hx hb dX1_trouble_164 rfl (lv_at hl 1 rfl) ?_
    refine hr_get (ci := 0) (C := RX1) (T := TX1) (N := 19) (r := .inl 0) hx hb hts in_X1 hown hK hM xS_0 rfl 0 (by decide) (hts _ q559) rfl (v := .ref (ad (.inl 10))) rfl dX1_trouble_165 ?_
    refine hr_getN (ci := 2) (C := RX2) (T := TX2) (N := 6) (r := .inl 10) hx hb hts in_X2 hown hK hM xS_10 rfl 4 (by decide) (hZ_nest hZ0 q479 rfl) rfl (v := .int (g 10 4)) rfl dX1_trouble_168 ?_
    refine lv_iadd hx hb dX1_trouble_171 ?_
    refine hb_icmp_le (tgt := 180) hx hb dX1_trouble_172 (by decide) hf (fun hf => ?_) (fun hf => ?_)
    · refine lv_iconst (v := 0) hx hb dX1_trouble_180 (by decide) ?_
      have eo := Option.some.inj hf
      subst eo
      exact W.iret (v := (0 : Int32)) hx hb hr (fun T ht hW => ⟨⟨(0 : Int32), (), rfl, rfl, by dsimp only; rw [ht]; exact hM⟩, hS.F ht⟩) hS.2.2 dX1_trouble_181
    · refine lv_bipush (v := 6) hx hb dX1_trouble_175 (by decide) ?_
      refine lv_goto (tgt := 181) hx hb dX1_trouble_177 (by decide) ?_
      have eo := Option.some.inj hf
      subst eo
      exact W.iret (v := (6 : Int32)) hx hb hr (fun T ht hW => ⟨⟨(6 : Int32), (), rfl, rfl, by dsimp only; rw [ht]; exact hM⟩, hS.F ht⟩) hS.2.2 dX1_trouble_181
  · refine lv_iconst (v := 5) hx hb dX1_trouble_151 (by decide) ?_
    refine lv_goto (tgt := 181) hx hb dX1_trouble_152 (by decide) ?_
    have eo := Option.some.inj hf
    subst eo
    exact W.iret (v := (5 : Int32)) hx hb hr (fun T ht hW => ⟨⟨(5 : Int32), (), rfl, rfl, by dsimp only; rw [ht]; exact hM⟩, hS.F ht⟩) hS.2.2 dX1_trouble_181
set_option maxHeartbeats 4000000 in
set_option maxRecDepth 100000 in
theorem w_x_trouble {p : Program} {l : Launch} {e : Env} {s : State} {m : MethodId} {args : Array Value} {below : List Frame} {meth : Method} {c : Code} {D : va_G} {C : Nat → Nat} {a0 : Array Value} {s0 : State} {ad : Rl → Nat} {so : Nat → Option hS} {pr : hPr} {t : hSt} {lt : Rl → Nat → Int64} (CX : hCx D C a0 s0 p s m args meth c cX1_trouble 7 RX1 (some .int)) (hIx : hI (hA s0) ad (Sum.elim (xSH C pr) so)) (g : hSt) (p0 : Int32) (p1 : Int32) (p2 : Int32) (p3 : Int32) {o : Int32} (hf : x_trouble g p0 p1 p2 p3 = some o) {H : Heap} {locs : List Loc} (hM : hW D vwCl ad (Sum.elim (xSH C pr) so) (Sum.elim g t) lt H) (hS : va_S (hA s0) s.heap H locs) {ls : Array Slot} (hl : lv_has ls 7 [(0, .ref (ad (.inl 0))), (1, .int p0), (2, .int p1), (3, .int p2), (4, .int p3)]) : W p l e rm_x_trouble s m args below meth c H locs 0 0 (MQ below (va_Qi (fun (r : Int32) (_ : Unit) => r = o) (fun (_ : Unit) (U : State) => hW D vwCl ad (Sum.elim (xSH C pr) so) (Sum.elim g t) lt U.heap) (hA s0)) args s 0 0 (hA s0)) (F0 m 0 ls []) := by
  obtain ⟨hx, hb, hr, hml, hown, hts, hlocks, hK, hZ0, hA0⟩ := CX
  unfold x_trouble at hf
  refine lv_aload_n hx hb dX1_trouble_0 rfl (lv_at hl 0 rfl) ?_
  refine lv_iload_n hx hb dX1_trouble_1 rfl (lv_at hl 1 rfl) ?_
  obtain ⟨y1, hq, hf⟩ := hbind hf
  refine hr_calli0 (va_runV (As := [.int p0]) (rest := []) ⟨hx, hb, hml, hown, hts⟩ (met_x_isPerson l D C a0 s0 ad so pr t lt g p0 hq) (cwV 1 hts (lw_V q638 q640 qs3 q76 q641) rfl rfl rfl (by decide +kernel) ⟨Nat.le_of_ble_eq_true rfl, Nat.le_of_ble_eq_true rfl⟩) (hr_preV hZ_c hM hIx hK hZ0 hA0 hS (r := .inl 0) xS_0 (q := (RX1, TX1, 19)) rfl) rfl rfl hl.1 rfl (lv_room (Nat.le_of_ble_eq_true rfl)) dX1_trouble_2 ⟨Nat.le_of_ble_eq_true rfl, Nat.le_of_ble_eq_true rfl⟩) hS (fun H locs hM hS => ?_)
  refine hb_if_eq (tgt := 36) hx hb dX1_trouble_5 (by decide) hf (fun hf => ?_) (fun hf => ?_)
  · refine lv_iconst (v := 1) hx hb dX1_trouble_36 (by decide) ?_
    have eo := Option.some.inj hf
    subst eo
    exact W.iret (v := (1 : Int32)) hx hb hr (fun T ht hW => ⟨⟨(1 : Int32), (), rfl, rfl, by dsimp only; rw [ht]; exact hM⟩, hS.F ht⟩) hS.2.2 dX1_trouble_37
  · refine lv_aload_n hx hb dX1_trouble_8 rfl (lv_at hl 0 rfl) ?_
    refine lv_iload hx hb dX1_trouble_9 (lv_at hl 4 rfl) ?_
    obtain ⟨y2, hq, hf⟩ := hbind hf
    refine hr_calli0 (va_runV (As := [.int p3]) (rest := []) ⟨hx, hb, hml, hown, hts⟩ (met_x_isPerson l D C a0 s0 ad so pr t lt g p3 hq) (cwV 1 hts (lw_V q638 q640 qs3 q76 q641) rfl rfl rfl (by decide +kernel) ⟨Nat.le_of_ble_eq_true rfl, Nat.le_of_ble_eq_true rfl⟩) (hr_preV hZ_c hM hIx hK hZ0 hA0 hS (r := .inl 0) xS_0 (q := (RX1, TX1, 19)) rfl) rfl rfl hl.1 rfl (lv_room (Nat.le_of_ble_eq_true rfl)) dX1_trouble_11 ⟨Nat.le_of_ble_eq_true rfl, Nat.le_of_ble_eq_true rfl⟩) hS (fun H locs hM hS => ?_)
    refine hb_if_eq (tgt := 36) hx hb dX1_trouble_14 (by decide) hf (fun hf => ?_) (fun hf => ?_)
    · refine lv_iconst (v := 1) hx hb dX1_trouble_36 (by decide) ?_
      have eo := Option.some.inj hf
      subst eo
      exact W.iret (v := (1 : Int32)) hx hb hr (fun T ht hW => ⟨⟨(1 : Int32), (), rfl, rfl, by dsimp only; rw [ht]; exact hM⟩, hS.F ht⟩) hS.2.2 dX1_trouble_37
    · refine lv_iload_n hx hb dX1_trouble_17 rfl (lv_at hl 2 rfl) ?_
      refine hb_if_lt (tgt := 36) hx hb dX1_trouble_18 (by decide) hf (fun hf => ?_) (fun hf => ?_)
      · refine lv_iconst (v := 1) hx hb dX1_trouble_36 (by decide) ?_
        have eo := Option.some.inj hf
        subst eo
        exact W.iret (v := (1 : Int32)) hx hb hr (fun T ht hW => ⟨⟨(1 : Int32), (), rfl, rfl, by dsimp only; rw [ht]; exact hM⟩, hS.F ht⟩) hS.2.2 dX1_trouble_37
      · refine lv_iload_n hx hb dX1_trouble_21 rfl (lv_at hl 2 rfl) ?_
        refine lv_aload_n hx hb dX1_trouble_22 rfl (lv_at hl 0 rfl) ?_
        refine hr_get (ci := 0) (C := RX1) (T := TX1) (N := 19) (r := .inl 0) hx hb hts in_X1 hown hK hM xS_0 rfl 0 (by decide) (hts _ q559) rfl (v := .ref (ad (.inl 10))) rfl dX1_trouble_23 ?_
        obtain ⟨y3, hq, hf⟩ := hbind hf
        refine hr_calli0 (va_runV (As := []) (rest := [.int p1]) ⟨hx, hb, hml, hown, hts⟩ (met_x_tn_all l D C a0 s0 ad so pr t lt g hq) (cwV 0 hts (lw_V q646 q647 q648 q77 q649) rfl rfl rfl (by decide +kernel) ⟨Nat.le_of_ble_eq_true rfl, Nat.le_of_ble_eq_true rfl⟩) (hr_preV hZ_c hM hIx hK hZ0 hA0 hS (r := .inl 10) xS_10 (q := (RX2, TX2, 6)) rfl) rfl rfl hl.1 rfl (lv_room (Nat.le_of_ble_eq_true rfl)) dX1_trouble_26 ⟨Nat.le_of_ble_eq_true rfl, Nat.le_of_ble_eq_true rfl⟩) hS (fun H locs hM hS => ?_)
        refine hb_icmp_gt (tgt := 36) hx hb dX1_trouble_29 (by decide) hf (fun hf => ?_) (fun hf => ?_)
        · refine lv_iconst (v := 1) hx hb dX1_trouble_36 (by decide) ?_
          have eo := Option.some.inj hf
          subst eo
          exact W.iret (v := (1 : Int32)) hx hb hr (fun T ht hW => ⟨⟨(1 : Int32), (), rfl, rfl, by dsimp only; rw [ht]; exact hM⟩, hS.F ht⟩) hS.2.2 dX1_trouble_37
        · refine lv_iload_n hx hb dX1_trouble_32 rfl (lv_at hl 3 rfl) ?_
          refine hb_if_ge (tgt := 38) hx hb dX1_trouble_33 (by decide) hf (fun hf => ?_) (fun hf => ?_)
          · refine lv_aload_n hx hb dX1_trouble_38 rfl (lv_at hl 0 rfl) ?_
            refine hr_get (ci := 0) (C := RX1) (T := TX1) (N := 19) (r := .inl 0) hx hb hts in_X1 hown hK hM xS_0 rfl 1 (by decide) (hts _ q560) rfl (v := .ref (ad (.inl 20))) rfl dX1_trouble_39 ?_
            refine hr_getN (ci := 3) (C := RX3) (T := TX3) (N := 3) (r := .inl 20) hx hb hts in_X3 hown hK hM xS_20 rfl 0 (by decide) (hZ_nest hZ0 q544 rfl) rfl (v := .ref (ad (.inl 24))) rfl dX1_trouble_42 ?_
            refine lv_astore (lv' := [(5, .ref (ad (.inl 24))), (0, .ref (ad (.inl 0))), (1, .int p0), (2, .int p1), (3, .int p2), (4, .int p3)]) hx hb dX1_trouble_45 hl (by decide) rfl (fun ls hl => ?_)
            refine lv_aload hx hb dX1_trouble_47 (lv_at hl 0 rfl) ?_
            refine hr_getN (ci := 1) (C := RX4) (T := TX4) (N := 6) (r := .inl 24) hx hb hts in_X4 hown hK hM (xs_st24 (C := C) (pr := pr)).o rfl 2 (by decide) (hZ_nest hZ0 q518 rfl) rfl (v := .ref (ad (.inl (24 + 3)))) rfl dX1_trouble_49 ?_
            refine lv_iload_n hx hb dX1_trouble_52 rfl (lv_at hl 2 rfl) ?_
            refine hx_iald (r := (24 + 3)) hx hb hK hM 0 (xs_st24 (C := C) (pr := pr)).a3 rfl hf dX1_trouble_53 (fun x4 hf => ?_)
            refine hb_if_ne (tgt := 59) hx hb dX1_trouble_54 (by decide) hf (fun hf => ?_) (fun hf => ?_)
            · refine lv_iload_n hx hb dX1_trouble_59 rfl (lv_at hl 3 rfl) ?_
              refine lv_aload hx hb dX1_trouble_60 (lv_at hl 0 rfl) ?_
              refine hr_getN (ci := 1) (C := RX4) (T := TX4) (N := 6) (r := .inl 24) hx hb hts in_X4 hown hK hM (xs_st24 (C := C) (pr := pr)).o rfl 0 (by decide) (hZ_nest hZ0 q510 rfl) rfl (v := .ref (ad (.inl (24 + 1)))) rfl dX1_trouble_62 ?_
              refine lv_iload_n hx hb dX1_trouble_65 rfl (lv_at hl 2 rfl) ?_
              refine hx_iald (r := (24 + 1)) hx hb hK hM 0 (xs_st24 (C := C) (pr := pr)).a1 rfl hf dX1_trouble_66 (fun x5 hf => ?_)
              refine lv_iconst (v := -1) hx hb dX1_trouble_67 (by decide) ?_
              refine lv_ixor hx hb dX1_trouble_68 ?_
              refine lv_iand hx hb dX1_trouble_69 ?_
              refine hb_if_ne (tgt := 84) hx hb dX1_trouble_70 (by decide) hf (fun hf => ?_) (fun hf => ?_)
              · refine lv_iconst (v := 3) hx hb dX1_trouble_84 (by decide) ?_
                have eo := Option.some.inj hf
                subst eo
                exact W.iret (v := (3 : Int32)) hx hb hr (fun T ht hW => ⟨⟨(3 : Int32), (), rfl, rfl, by dsimp only; rw [ht]; exact hM⟩, hS.F ht⟩) hS.2.2 dX1_trouble_85
              · refine lv_iload_n hx hb dX1_trouble_73 rfl (lv_at hl 4 rfl) ?_
                refine lv_aload hx hb dX1_trouble_74 (lv_at hl 0 rfl) ?_
                refine hr_getN (ci := 1) (C := RX4) (T := TX4) (N := 6) (r := .inl 24) hx hb hts in_X4 hown hK hM (xs_st24 (C := C) (pr := pr)).o rfl 1 (by decide) (hZ_nest hZ0 q514 rfl) rfl (v := .ref (ad (.inl (24 + 2)))) rfl dX1_trouble_76 ?_
                refine lv_iload_n hx hb dX1_trouble_79 rfl (lv_at hl 2 rfl) ?_
                refine hx_iald (r := (24 + 2)) hx hb hK hM 0 (xs_st24 (C := C) (pr := pr)).a2 rfl hf dX1_trouble_80 (fun x6 hf => ?_)
                refine hb_icmp_le (tgt := 86) hx hb dX1_trouble_81 (by decide) hf (fun hf => ?_) (fun hf => ?_)
                · refine lv_iload hx hb dX1_trouble_86 (lv_at hl 5 rfl) ?_
                  refine lv_iload_n hx hb dX1_trouble_88 rfl (lv_at hl 2 rfl) ?_
                  refine hb_icmp_eq (tgt := 115) hx hb dX1_trouble_89 (by decide) hf (fun hf => ?_) (fun hf => ?_)
                  · refine lv_iconst (v := 4) hx hb dX1_trouble_115 (by decide) ?_
                    have eo := Option.some.inj hf
                    subst eo
                    exact W.iret (v := (4 : Int32)) hx hb hr (fun T ht hW => ⟨⟨(4 : Int32), (), rfl, rfl, by dsimp only; rw [ht]; exact hM⟩, hS.F ht⟩) hS.2.2 dX1_trouble_116
                  · refine lv_aload hx hb dX1_trouble_92 (lv_at hl 0 rfl) ?_
                    refine hr_getN (ci := 1) (C := RX4) (T := TX4) (N := 6) (r := .inl 24) hx hb hts in_X4 hown hK hM (xs_st24 (C := C) (pr := pr)).o rfl 3 (by decide) (hZ_nest hZ0 q522 rfl) rfl (v := .ref (ad (.inl (24 + 4)))) rfl dX1_trouble_94 ?_
                    refine lv_iload_n hx hb dX1_trouble_97 rfl (lv_at hl 2 rfl) ?_
                    refine hx_iald (r := (24 + 4)) hx hb hK hM 0 (xs_st24 (C := C) (pr := pr)).a4 rfl hf dX1_trouble_98 (fun x7 hf => ?_)
                    refine lv_iconst (v := -1) hx hb dX1_trouble_99 (by decide) ?_
                    refine hb_icmp_eq (tgt := 117) hx hb dX1_trouble_100 (by decide) hf (fun hf => ?_) (fun hf => ?_)
                    · exact w_x_trouble_B117 ⟨hx, hb, hr, hml, hown, hts, hlocks, hK, hZ0, hA0⟩ hIx g p0 p1 p2 p3 y1 y2 y3 x4 x5 x6 x7 hf hM hS (lv_sub hl [1, 2, 3, 4, 0] rfl)
                    · refine lv_aload hx hb dX1_trouble_103 (lv_at hl 0 rfl) ?_
                      refine hr_getN (ci := 1) (C := RX4) (T := TX4) (N := 6) (r := .inl 24) hx hb hts in_X4 hown hK hM (xs_st24 (C := C) (pr := pr)).o rfl 3 (by decide) (hZ_nest hZ0 q522 rfl) rfl (v := .ref (ad (.inl (24 + 4)))) rfl dX1_trouble_105 ?_
                      refine lv_iload_n hx hb dX1_trouble_108 rfl (lv_at hl 2 rfl) ?_
                      refine hx_iald (r := (24 + 4)) hx hb hK hM 0 (xs_st24 (C := C) (pr := pr)).a4 rfl hf dX1_trouble_109 (fun x12 hf => ?_)
                      refine lv_iload hx hb dX1_trouble_110 (lv_at hl 5 rfl) ?_
                      refine hb_icmp_eq (tgt := 117) hx hb dX1_trouble_112 (by decide) hf (fun hf => ?_) (fun hf => ?_)
                      · exact w_x_trouble_B117 ⟨hx, hb, hr, hml, hown, hts, hlocks, hK, hZ0, hA0⟩ hIx g p0 p1 p2 p3 y1 y2 y3 x4 x5 x6 x7 hf hM hS (lv_sub hl [1, 2, 3, 4, 0] rfl)
                      · refine lv_iconst (v := 4) hx hb dX1_trouble_115 (by decide) ?_
                        have eo := Option.some.inj hf
                        subst eo
                        exact W.iret (v := (4 : Int32)) hx hb hr (fun T ht hW => ⟨⟨(4 : Int32), (), rfl, rfl, by dsimp only; rw [ht]; exact hM⟩, hS.F ht⟩) hS.2.2 dX1_trouble_116
                · refine lv_iconst (v := 3) hx hb dX1_trouble_84 (by decide) ?_
                  have eo := Option.some.inj hf
                  subst eo
                  exact W.iret (v := (3 : Int32)) hx hb hr (fun T ht hW => ⟨⟨(3 : Int32), (), rfl, rfl, by dsimp only; rw [ht]; exact hM⟩, hS.F ht⟩) hS.2.2 dX1_trouble_85
            · refine lv_iconst (v := 2) hx hb dX1_trouble_57 (by decide) ?_
              have eo := Option.some.inj hf
              subst eo
              exact W.iret (v := (2 : Int32)) hx hb hr (fun T ht hW => ⟨⟨(2 : Int32), (), rfl, rfl, by dsimp only; rw [ht]; exact hM⟩, hS.F ht⟩) hS.2.2 dX1_trouble_58
          · refine lv_iconst (v := 1) hx hb dX1_trouble_36 (by decide) ?_
            have eo := Option.some.inj hf
            subst eo
            exact W.iret (v := (1 : Int32)) hx hb hr (fun T ht hW => ⟨⟨(1 : Int32), (), rfl, rfl, by dsimp only; rw [ht]; exact hM⟩, hS.F ht⟩) hS.2.2 dX1_trouble_37
set_option maxHeartbeats 4000000 in
set_option maxRecDepth 100000 in
theorem met_x_trouble (l : Launch) (D : va_G) (C : Nat → Nat) (a0 : Array Value) (s0 : State) (ad : Rl → Nat) (so : Nat → Option hS) (pr : hPr) (t : hSt) (lt : Rl → Nat → Int64) (g : hSt) (p0 : Int32) (p1 : Int32) (p2 : Int32) (p3 : Int32) {o : Int32} (hf : x_trouble g p0 p1 p2 p3 = some o) : Met l yX1_trouble (ws_ yX1_trouble cX1_trouble 7 (some .int)) rm_x_trouble (va_Pc [.ref (ad (.inl 0)), .int p0, .int p1, .int p2, .int p3] (hB D vwCl (hT C) (hA s0) (hZ a0 s0) ad (Sum.elim (xSH C pr) so) (Sum.elim g t) lt)) (va_Qi (fun (r : Int32) (_ : Unit) => r = o) (fun (_ : Unit) (U : State) => hW D vwCl ad (Sum.elim (xSH C pr) so) (Sum.elim g t) lt U.heap) (hA s0)) 0 0 (hA s0) := by
  refine Met.ofW (cc := cX1_trouble) (maxL := 7) (ret := (some .int)) (by decide) rfl ?_
  intro p e s m args below meth c s₁ B hml hv
  obtain ⟨rfl, hM, hIx, hK, hZ0, hA0⟩ := hv
  have hl := lv_entry ([.ref (ad (.inl 0)), .int p0, .int p1, .int p2, .int p3]) (n := 7) (Nat.le_of_ble_eq_true rfl)
  rw [lg_entry_eq]
  generalize (lg_sl ([.ref (ad (.inl 0)), .int p0, .int p1, .int p2, .int p3]) ++ List.replicate (7 - (lg_sl ([.ref (ad (.inl 0)), .int p0, .int p1, .int p2, .int p3])).length) Slot.unset).toArray = ls at hl ⊢
  have hl : lv_has ls 7 [(0, .ref (ad (.inl 0))), (1, .int p0), (2, .int p1), (3, .int p2), (4, .int p3)] := hl
  exact w_x_trouble ⟨B.exec, B.bytes, B.returns, hml, findClass_of_methodNamed B.named, fun w h => atoms_spec (ws := ws_ yX1_trouble cX1_trouble 7 (some .int)) B.pre w (List.mem_cons_of_mem _ h), B.notSynchronized, hK, hZ0, hA0⟩ hIx g p0 p1 p2 p3 hf hM va_S.rf hl

def rm_x_judge : Room := { frames := 7, cells := 0, slots := 0, locals := 86 }
set_option maxHeartbeats 4000000 in
set_option maxRecDepth 100000 in
theorem w_x_judge {p : Program} {l : Launch} {e : Env} {s : State} {m : MethodId} {args : Array Value} {below : List Frame} {meth : Method} {c : Code} {D : va_G} {C : Nat → Nat} {a0 : Array Value} {s0 : State} {ad : Rl → Nat} {so : Nat → Option hS} {pr : hPr} {t : hSt} {lt : Rl → Nat → Int64} (CX : hCx D C a0 s0 p s m args meth c cX1_judge 5 RX1 (some .int)) (hIx : hI (hA s0) ad (Sum.elim (xSH C pr) so)) (g : hSt) (p0 : Int32) (p1 : Int32) (p2 : Int32) (p3 : Int32) {o : Int32} (hf : x_judge g p0 p1 p2 p3 = some o) {H : Heap} {locs : List Loc} (hM : hW D vwCl ad (Sum.elim (xSH C pr) so) (Sum.elim g t) lt H) (hS : va_S (hA s0) s.heap H locs) {ls : Array Slot} (hl : lv_has ls 5 [(0, .ref (ad (.inl 0))), (1, .int p0), (2, .int p1), (3, .int p2), (4, .int p3)]) : W p l e rm_x_judge s m args below meth c H locs 0 0 (MQ below (va_Qi (fun (r : Int32) (_ : Unit) => r = o) (fun (_ : Unit) (U : State) => hW D vwCl ad (Sum.elim (xSH C pr) so) (Sum.elim g t) lt U.heap) (hA s0)) args s 0 0 (hA s0)) (F0 m 0 ls []) := by
  obtain ⟨hx, hb, hr, hml, hown, hts, hlocks, hK, hZ0, hA0⟩ := CX
  unfold x_judge at hf
  refine lv_aload_n hx hb dX1_judge_0 rfl (lv_at hl 0 rfl) ?_
  refine lv_iload_n hx hb dX1_judge_1 rfl (lv_at hl 1 rfl) ?_
  refine lv_iload_n hx hb dX1_judge_2 rfl (lv_at hl 2 rfl) ?_
  refine lv_iload_n hx hb dX1_judge_3 rfl (lv_at hl 3 rfl) ?_
  refine lv_iload hx hb dX1_judge_4 (lv_at hl 4 rfl) ?_
  obtain ⟨y1, hq, hf⟩ := hbind hf
  refine hr_calli0 (va_runV (As := [.int p0, .int p1, .int p2, .int p3]) (rest := []) ⟨hx, hb, hml, hown, hts⟩ (met_x_trouble l D C a0 s0 ad so pr t lt g p0 p1 p2 p3 hq) (cwV 4 hts (lw_V q634 q636 qs2 q76 q637) rfl rfl rfl (by decide +kernel) ⟨Nat.le_of_ble_eq_true rfl, Nat.le_of_ble_eq_true rfl⟩) (hr_preV hZ_c hM hIx hK hZ0 hA0 hS (r := .inl 0) xS_0 (q := (RX1, TX1, 19)) rfl) rfl rfl hl.1 rfl (lv_room (Nat.le_of_ble_eq_true rfl)) dX1_judge_6 ⟨Nat.le_of_ble_eq_true rfl, Nat.le_of_ble_eq_true rfl⟩) hS (fun H locs hM hS => ?_)
  have eo := Option.some.inj hf
  subst eo
  exact W.iret (v := y1) hx hb hr (fun T ht hW => ⟨⟨y1, (), rfl, rfl, by dsimp only; rw [ht]; exact hM⟩, hS.F ht⟩) hS.2.2 dX1_judge_9
set_option maxHeartbeats 4000000 in
set_option maxRecDepth 100000 in
theorem met_x_judge (l : Launch) (D : va_G) (C : Nat → Nat) (a0 : Array Value) (s0 : State) (ad : Rl → Nat) (so : Nat → Option hS) (pr : hPr) (t : hSt) (lt : Rl → Nat → Int64) (g : hSt) (p0 : Int32) (p1 : Int32) (p2 : Int32) (p3 : Int32) {o : Int32} (hf : x_judge g p0 p1 p2 p3 = some o) : Met l yX1_judge (ws_ yX1_judge cX1_judge 5 (some .int)) rm_x_judge (va_Pc [.ref (ad (.inl 0)), .int p0, .int p1, .int p2, .int p3] (hB D vwCl (hT C) (hA s0) (hZ a0 s0) ad (Sum.elim (xSH C pr) so) (Sum.elim g t) lt)) (va_Qi (fun (r : Int32) (_ : Unit) => r = o) (fun (_ : Unit) (U : State) => hW D vwCl ad (Sum.elim (xSH C pr) so) (Sum.elim g t) lt U.heap) (hA s0)) 0 0 (hA s0) := by
  refine Met.ofW (cc := cX1_judge) (maxL := 5) (ret := (some .int)) (by decide) rfl ?_
  intro p e s m args below meth c s₁ B hml hv
  obtain ⟨rfl, hM, hIx, hK, hZ0, hA0⟩ := hv
  have hl := lv_entry ([.ref (ad (.inl 0)), .int p0, .int p1, .int p2, .int p3]) (n := 5) (Nat.le_of_ble_eq_true rfl)
  rw [lg_entry_eq]
  generalize (lg_sl ([.ref (ad (.inl 0)), .int p0, .int p1, .int p2, .int p3]) ++ List.replicate (5 - (lg_sl ([.ref (ad (.inl 0)), .int p0, .int p1, .int p2, .int p3])).length) Slot.unset).toArray = ls at hl ⊢
  have hl : lv_has ls 5 [(0, .ref (ad (.inl 0))), (1, .int p0), (2, .int p1), (3, .int p2), (4, .int p3)] := hl
  exact w_x_judge ⟨B.exec, B.bytes, B.returns, hml, findClass_of_methodNamed B.named, fun w h => atoms_spec (ws := ws_ yX1_judge cX1_judge 5 (some .int)) B.pre w (List.mem_cons_of_mem _ h), B.notSynchronized, hK, hZ0, hA0⟩ hIx g p0 p1 p2 p3 hf hM va_S.rf hl

def rm_x_gives : Room := { frames := 3, cells := 0, slots := 0, locals := 41 }
set_option maxHeartbeats 4000000 in
set_option maxRecDepth 100000 in
theorem w_x_gives {p : Program} {l : Launch} {e : Env} {s : State} {m : MethodId} {args : Array Value} {below : List Frame} {meth : Method} {c : Code} {D : va_G} {C : Nat → Nat} {a0 : Array Value} {s0 : State} {ad : Rl → Nat} {so : Nat → Option hS} {pr : hPr} {t : hSt} {lt : Rl → Nat → Int64} (CX : hCx D C a0 s0 p s m args meth c cX1_gives 7 RX1 (none)) (hIx : hI (hA s0) ad (Sum.elim (xSH C pr) so)) (g : hSt) (b0 : Nat) (p1 : Int32) (p2 : Int32) (p3 : Int32) (p4 : Int32) (h_b0 : xSt C (xSH C pr) b0) {o : hSt} (hf : x_gives g b0 p1 p2 p3 p4 = some o) {H : Heap} {locs : List Loc} (hM : hW D vwCl ad (Sum.elim (xSH C pr) so) (Sum.elim g t) lt H) (hS : va_S (hA s0) s.heap H locs) {ls : Array Slot} (hl : lv_has ls 7 [(0, .ref (ad (.inl 0))), (1, .ref (ad (.inl b0))), (2, .int p1), (3, .int p2), (4, .int p3), (5, .int p4)]) : W p l e rm_x_gives s m args below meth c H locs 0 0 (MQ below (va_Qv (fun (_ : Unit) => True) (fun (_ : Unit) (U : State) => hW D vwCl ad (Sum.elim (xSH C pr) so) (Sum.elim o t) lt U.heap) (hA s0)) args s 0 0 (hA s0)) (F0 m 0 ls []) := by
  obtain ⟨hx, hb, hr, hml, hown, hts, hlocks, hK, hZ0, hA0⟩ := CX
  unfold x_gives at hf
  refine lv_aload_n hx hb dX1_gives_0 rfl (lv_at hl 1 rfl) ?_
  refine lv_iload_n hx hb dX1_gives_1 rfl (lv_at hl 3 rfl) ?_
  obtain ⟨y1, hq, hf⟩ := hbind hf
  refine hr_calli0 (va_runV (As := [.int p2]) (rest := []) ⟨hx, hb, hml, hown, hts⟩ (met_x_st_weight l D C a0 s0 ad so pr t lt g b0 p2 h_b0 hq) (cwV 1 hts (lw_V q650 q651 q652 q98 q653) rfl rfl rfl (by decide +kernel) ⟨Nat.le_of_ble_eq_true rfl, Nat.le_of_ble_eq_true rfl⟩) (hr_preV hZ_c hM hIx hK hZ0 hA0 hS (r := .inl b0) h_b0.o (q := (RX4, TX4, 6)) rfl) rfl rfl hl.1 rfl (lv_room (Nat.le_of_ble_eq_true rfl)) dX1_gives_2 ⟨Nat.le_of_ble_eq_true rfl, Nat.le_of_ble_eq_true rfl⟩) hS (fun H locs hM hS => ?_)
  refine lv_iload hx hb dX1_gives_5 (lv_at hl 4 rfl) ?_
  refine lv_iadd hx hb dX1_gives_7 ?_
  refine hb_top hf (fun y6_2 hf => ?_)
  refine lv_istore (lv' := [(6, .int y6_2), (0, .ref (ad (.inl 0))), (1, .ref (ad (.inl b0))), (2, .int p1), (3, .int p2), (4, .int p3), (5, .int p4)]) hx hb dX1_gives_8 hl (by decide) rfl (fun ls hl => ?_)
  refine lv_aload_n hx hb dX1_gives_10 rfl (lv_at hl 2 rfl) ?_
  refine lv_iload_n hx hb dX1_gives_11 rfl (lv_at hl 3 rfl) ?_
  refine lv_iload_n hx hb dX1_gives_12 rfl (lv_at hl 4 rfl) ?_
  refine lv_iload hx hb dX1_gives_13 (lv_at hl 5 rfl) ?_
  refine lv_iload hx hb dX1_gives_15 (lv_at hl 6 rfl) ?_
  obtain ⟨y3, hq, hf⟩ := hbind hf
  refine hr_callv0 (va_runV (As := [.int p1, .int p2, .int p3, .int p4]) (rest := []) ⟨hx, hb, hml, hown, hts⟩ (met_x_st_moves l D C a0 s0 ad so pr t lt g b0 p1 p2 p3 p4 h_b0 hq) (cwV 4 hts (lw_V q762 q763 q764 q98 q765) rfl rfl rfl (by decide +kernel) ⟨Nat.le_of_ble_eq_true rfl, Nat.le_of_ble_eq_true rfl⟩) (hr_preV hZ_c hM hIx hK hZ0 hA0 hS (r := .inl b0) h_b0.o (q := (RX4, TX4, 6)) rfl) rfl rfl hl.1 rfl (lv_room (Nat.le_of_ble_eq_true rfl)) dX1_gives_17 ⟨Nat.le_of_ble_eq_true rfl, Nat.le_of_ble_eq_true rfl⟩) hS (fun H locs hM hS => ?_)
  refine lv_aload_n hx hb dX1_gives_20 rfl (lv_at hl 2 rfl) ?_
  refine hr_getN (ci := 1) (C := RX4) (T := TX4) (N := 6) (r := .inl b0) hx hb hts in_X4 hown hK hM h_b0.o rfl 2 (by decide) (hZ_nest hZ0 q518 rfl) rfl (v := .ref (ad (.inl (b0 + 3)))) rfl dX1_gives_21 ?_
  refine lv_iload_n hx hb dX1_gives_24 rfl (lv_at hl 3 rfl) ?_
  refine lv_iconst (v := 0) hx hb dX1_gives_25 (by decide) ?_
  refine hx_iast (r := (b0 + 3)) hx hb hK hM hIx hS 0 h_b0.a3 rfl hf dX1_gives_26 (fun g4 H locs hf hM hS => ?_)
  refine lv_aload_n hx hb dX1_gives_27 rfl (lv_at hl 2 rfl) ?_
  refine hr_getN (ci := 1) (C := RX4) (T := TX4) (N := 6) (r := .inl b0) hx hb hts in_X4 hown hK hM h_b0.o rfl 3 (by decide) (hZ_nest hZ0 q522 rfl) rfl (v := .ref (ad (.inl (b0 + 4)))) rfl dX1_gives_28 ?_
  refine lv_iload_n hx hb dX1_gives_31 rfl (lv_at hl 3 rfl) ?_
  refine lv_iconst (v := -1) hx hb dX1_gives_32 (by decide) ?_
  refine hx_iast (r := (b0 + 4)) hx hb hK hM hIx hS 0 h_b0.a4 rfl hf dX1_gives_33 (fun g5 H locs hf hM hS => ?_)
  refine lv_aload_n hx hb dX1_gives_34 rfl (lv_at hl 2 rfl) ?_
  refine hr_getN (ci := 1) (C := RX4) (T := TX4) (N := 6) (r := .inl b0) hx hb hts in_X4 hown hK hM h_b0.o rfl 2 (by decide) (hZ_nest hZ0 q518 rfl) rfl (v := .ref (ad (.inl (b0 + 3)))) rfl dX1_gives_35 ?_
  refine lv_iload hx hb dX1_gives_38 (lv_at hl 6 rfl) ?_
  refine lv_iload hx hb dX1_gives_40 (lv_at hl 0 rfl) ?_
  refine hx_iast (r := (b0 + 3)) hx hb hK hM hIx hS 0 h_b0.a3 rfl hf dX1_gives_42 (fun g6 H locs hf hM hS => ?_)
  refine lv_aload_n hx hb dX1_gives_43 rfl (lv_at hl 2 rfl) ?_
  refine hr_getN (ci := 1) (C := RX4) (T := TX4) (N := 6) (r := .inl b0) hx hb hts in_X4 hown hK hM h_b0.o rfl 3 (by decide) (hZ_nest hZ0 q522 rfl) rfl (v := .ref (ad (.inl (b0 + 4)))) rfl dX1_gives_44 ?_
  refine lv_iload hx hb dX1_gives_47 (lv_at hl 6 rfl) ?_
  refine lv_aload_n hx hb dX1_gives_49 rfl (lv_at hl 1 rfl) ?_
  refine hr_get (ci := 0) (C := RX1) (T := TX1) (N := 19) (r := .inl 0) hx hb hts in_X1 hown hK hM xS_0 rfl 0 (by decide) (hts _ q559) rfl (v := .ref (ad (.inl 10))) rfl dX1_gives_50 ?_
  refine hr_getN (ci := 2) (C := RX2) (T := TX2) (N := 6) (r := .inl 10) hx hb hts in_X2 hown hK hM xS_10 rfl 5 (by decide) (hZ_nest hZ0 q481 rfl) rfl (v := .int (g6 10 5)) rfl dX1_gives_53 ?_
  refine hb_if_eq (tgt := 63) hx hb dX1_gives_56 (by decide) hf (fun hf => ?_) (fun hf => ?_)
  · refine lv_iload_n hx hb dX1_gives_63 rfl (lv_at hl 3 rfl) ?_
    refine hx_iast (r := (b0 + 4)) hx hb hK hM hIx hS 0 h_b0.a4 rfl hf dX1_gives_64 (fun g7 H locs hf hM hS => ?_)
    have eo := Option.some.inj hf
    subst eo
    exact W.vret hx hb hr (fun T ht hW => ⟨⟨(), rfl, trivial, by dsimp only; rw [ht]; exact hM⟩, hS.F ht⟩) hS.2.2 dX1_gives_65
  · refine lv_iconst (v := -1) hx hb dX1_gives_59 (by decide) ?_
    refine lv_goto (tgt := 64) hx hb dX1_gives_60 (by decide) ?_
    refine hx_iast (r := (b0 + 4)) hx hb hK hM hIx hS 0 h_b0.a4 rfl hf dX1_gives_64 (fun g8 H locs hf hM hS => ?_)
    have eo := Option.some.inj hf
    subst eo
    exact W.vret hx hb hr (fun T ht hW => ⟨⟨(), rfl, trivial, by dsimp only; rw [ht]; exact hM⟩, hS.F ht⟩) hS.2.2 dX1_gives_65
set_option maxHeartbeats 4000000 in
set_option maxRecDepth 100000 in
theorem met_x_gives (l : Launch) (D : va_G) (C : Nat → Nat) (a0 : Array Value) (s0 : State) (ad : Rl → Nat) (so : Nat → Option hS) (pr : hPr) (t : hSt) (lt : Rl → Nat → Int64) (g : hSt) (b0 : Nat) (p1 : Int32) (p2 : Int32) (p3 : Int32) (p4 : Int32) (h_b0 : xSt C (xSH C pr) b0) {o : hSt} (hf : x_gives g b0 p1 p2 p3 p4 = some o) : Met l yX1_gives (ws_ yX1_gives cX1_gives 7 (none)) rm_x_gives (va_Pc [.ref (ad (.inl 0)), .ref (ad (.inl b0)), .int p1, .int p2, .int p3, .int p4] (hB D vwCl (hT C) (hA s0) (hZ a0 s0) ad (Sum.elim (xSH C pr) so) (Sum.elim g t) lt)) (va_Qv (fun (_ : Unit) => True) (fun (_ : Unit) (U : State) => hW D vwCl ad (Sum.elim (xSH C pr) so) (Sum.elim o t) lt U.heap) (hA s0)) 0 0 (hA s0) := by
  refine Met.ofW (cc := cX1_gives) (maxL := 7) (ret := (none)) (by decide) rfl ?_
  intro p e s m args below meth c s₁ B hml hv
  obtain ⟨rfl, hM, hIx, hK, hZ0, hA0⟩ := hv
  have hl := lv_entry ([.ref (ad (.inl 0)), .ref (ad (.inl b0)), .int p1, .int p2, .int p3, .int p4]) (n := 7) (Nat.le_of_ble_eq_true rfl)
  rw [lg_entry_eq]
  generalize (lg_sl ([.ref (ad (.inl 0)), .ref (ad (.inl b0)), .int p1, .int p2, .int p3, .int p4]) ++ List.replicate (7 - (lg_sl ([.ref (ad (.inl 0)), .ref (ad (.inl b0)), .int p1, .int p2, .int p3, .int p4])).length) Slot.unset).toArray = ls at hl ⊢
  have hl : lv_has ls 7 [(0, .ref (ad (.inl 0))), (1, .ref (ad (.inl b0))), (2, .int p1), (3, .int p2), (4, .int p3), (5, .int p4)] := hl
  exact w_x_gives ⟨B.exec, B.bytes, B.returns, hml, findClass_of_methodNamed B.named, fun w h => atoms_spec (ws := ws_ yX1_gives cX1_gives 7 (none)) B.pre w (List.mem_cons_of_mem _ h), B.notSynchronized, hK, hZ0, hA0⟩ hIx g b0 p1 p2 p3 p4 h_b0 hf hM va_S.rf hl

def rm_x_sandFor : Room := { frames := 3, cells := 0, slots := 0, locals := 40 }
set_option maxHeartbeats 4000000 in
set_option maxRecDepth 100000 in
theorem w_x_sandFor {p : Program} {l : Launch} {e : Env} {s : State} {m : MethodId} {args : Array Value} {below : List Frame} {meth : Method} {c : Code} {D : va_G} {C : Nat → Nat} {a0 : Array Value} {s0 : State} {ad : Rl → Nat} {so : Nat → Option hS} {pr : hPr} {t : hSt} {lt : Rl → Nat → Int64} (CX : hCx D C a0 s0 p s m args meth c cX1_sandFor 7 RX1 (some .int)) (hIx : hI (hA s0) ad (Sum.elim (xSH C pr) so)) (g : hSt) (b0 : Nat) (p1 : Int32) (p2 : Int32) (p3 : Int32) (h_b0 : xSt C (xSH C pr) b0) {o : Int32} (hf : x_sandFor g b0 p1 p2 p3 = some o) {H : Heap} {locs : List Loc} (hM : hW D vwCl ad (Sum.elim (xSH C pr) so) (Sum.elim g t) lt H) (hS : va_S (hA s0) s.heap H locs) {ls : Array Slot} (hl : lv_has ls 7 [(0, .ref (ad (.inl 0))), (1, .ref (ad (.inl b0))), (2, .int p1), (3, .int p2), (4, .int p3)]) : W p l e rm_x_sandFor s m args below meth c H locs 0 0 (MQ below (va_Qi (fun (r : Int32) (_ : Unit) => r = o) (fun (_ : Unit) (U : State) => hW D vwCl ad (Sum.elim (xSH C pr) so) (Sum.elim g t) lt U.heap) (hA s0)) args s 0 0 (hA s0)) (F0 m 0 ls []) := by
  obtain ⟨hx, hb, hr, hml, hown, hts, hlocks, hK, hZ0, hA0⟩ := CX
  unfold x_sandFor at hf
  refine lv_aload_n hx hb dX1_sandFor_0 rfl (lv_at hl 1 rfl) ?_
  refine lv_iload_n hx hb dX1_sandFor_1 rfl (lv_at hl 3 rfl) ?_
  obtain ⟨y1, hq, hf⟩ := hbind hf
  refine hr_calli0 (va_runV (As := [.int p2]) (rest := []) ⟨hx, hb, hml, hown, hts⟩ (met_x_st_weight l D C a0 s0 ad so pr t lt g b0 p2 h_b0 hq) (cwV 1 hts (lw_V q650 q651 q652 q98 q653) rfl rfl rfl (by decide +kernel) ⟨Nat.le_of_ble_eq_true rfl, Nat.le_of_ble_eq_true rfl⟩) (hr_preV hZ_c hM hIx hK hZ0 hA0 hS (r := .inl b0) h_b0.o (q := (RX4, TX4, 6)) rfl) rfl rfl hl.1 rfl (lv_room (Nat.le_of_ble_eq_true rfl)) dX1_sandFor_2 ⟨Nat.le_of_ble_eq_true rfl, Nat.le_of_ble_eq_true rfl⟩) hS (fun H locs hM hS => ?_)
  refine lv_istore (lv' := [(5, .int y1), (0, .ref (ad (.inl 0))), (1, .ref (ad (.inl b0))), (2, .int p1), (3, .int p2), (4, .int p3)]) hx hb dX1_sandFor_5 hl (by decide) rfl (fun ls hl => ?_)
  refine lv_iconst (v := 0) hx hb dX1_sandFor_7 (by decide) ?_
  refine lv_iconst (v := 1) hx hb dX1_sandFor_8 (by decide) ?_
  refine lv_iload hx hb dX1_sandFor_9 (lv_at hl 5 rfl) ?_
  refine lv_aload_n hx hb dX1_sandFor_11 rfl (lv_at hl 1 rfl) ?_
  refine hr_get (ci := 0) (C := RX1) (T := TX1) (N := 19) (r := .inl 0) hx hb hts in_X1 hown hK hM xS_0 rfl 0 (by decide) (hts _ q559) rfl (v := .ref (ad (.inl 10))) rfl dX1_sandFor_12 ?_
  refine hr_getN (ci := 2) (C := RX2) (T := TX2) (N := 6) (r := .inl 10) hx hb hts in_X2 hown hK hM xS_10 rfl 4 (by decide) (hZ_nest hZ0 q479 rfl) rfl (v := .int (g 10 4)) rfl dX1_sandFor_15 ?_
  refine lv_isub hx hb dX1_sandFor_18 ?_
  refine va_mmax hx hb (by rw [hml]; exact hl.1.symm) hown (hts _ q654) (hts _ q240) (hts _ q90) (hts _ q241) (Nat.le_of_ble_eq_true rfl) (Nat.le_of_ble_eq_true rfl) (Nat.le_of_ble_eq_true rfl) (Nat.le_of_ble_eq_true rfl) dX1_sandFor_19 ?_
  refine lv_iload hx hb dX1_sandFor_22 (lv_at hl 0 rfl) ?_
  refine lv_isub hx hb dX1_sandFor_24 ?_
  refine va_mmax hx hb (by rw [hml]; exact hl.1.symm) hown (hts _ q654) (hts _ q240) (hts _ q90) (hts _ q241) (Nat.le_of_ble_eq_true rfl) (Nat.le_of_ble_eq_true rfl) (Nat.le_of_ble_eq_true rfl) (Nat.le_of_ble_eq_true rfl) dX1_sandFor_25 ?_
  refine hb_top hf (fun y6_2 hf => ?_)
  refine lv_istore (lv' := [(6, .int y6_2), (5, .int y1), (0, .ref (ad (.inl 0))), (1, .ref (ad (.inl b0))), (2, .int p1), (3, .int p2), (4, .int p3)]) hx hb dX1_sandFor_28 hl (by decide) rfl (fun ls hl => ?_)
  refine lv_aload_n hx hb dX1_sandFor_30 rfl (lv_at hl 2 rfl) ?_
  refine hr_get (ci := 0) (C := RX1) (T := TX1) (N := 19) (r := .inl 0) hx hb hts in_X1 hown hK hM xS_0 rfl 0 (by decide) (hts _ q559) rfl (v := .ref (ad (.inl 10))) rfl dX1_sandFor_31 ?_
  refine hr_getN (ci := 2) (C := RX2) (T := TX2) (N := 6) (r := .inl 10) hx hb hts in_X2 hown hK hM xS_10 rfl 0 (by decide) (hZ_nest hZ0 q468 rfl) rfl (v := .ref (ad (.inl 11))) rfl dX1_sandFor_34 ?_
  obtain ⟨y3, hq, hf⟩ := hbind hf
  refine hr_calli0 (va_runV (As := []) (rest := []) ⟨hx, hb, hml, hown, hts⟩ (met_x_al_size l D C a0 s0 ad so pr t lt g 11 xs_11 hq) (cwV 0 hts (lw_V q642 q643 q644 q80 q645) rfl rfl rfl (by decide +kernel) ⟨Nat.le_of_ble_eq_true rfl, Nat.le_of_ble_eq_true rfl⟩) (hr_preV hZ_c hM hIx hK hZ0 hA0 hS (r := .inl 11) xS_11 (q := (RJ2, TJ2, 3)) rfl) rfl rfl hl.1 rfl (lv_room (Nat.le_of_ble_eq_true rfl)) dX1_sandFor_37 ⟨Nat.le_of_ble_eq_true rfl, Nat.le_of_ble_eq_true rfl⟩) hS (fun H locs hM hS => ?_)
  refine lv_iconst (v := 2) hx hb dX1_sandFor_40 (by decide) ?_
  refine hb_icmp_lt (tgt := 78) hx hb dX1_sandFor_41 (by decide) hf (fun hf => ?_) (fun hf => ?_)
  · refine lv_iconst (v := -1) hx hb dX1_sandFor_78 (by decide) ?_
    refine lv_goto (tgt := 84) hx hb dX1_sandFor_79 (by decide) ?_
    have eo := Option.some.inj hf
    subst eo
    exact W.iret (v := (-1 : Int32)) hx hb hr (fun T ht hW => ⟨⟨(-1 : Int32), (), rfl, rfl, by dsimp only; rw [ht]; exact hM⟩, hS.F ht⟩) hS.2.2 dX1_sandFor_84
  · refine lv_iload hx hb dX1_sandFor_44 (lv_at hl 6 rfl) ?_
    refine hb_if_eq (tgt := 78) hx hb dX1_sandFor_46 (by decide) hf (fun hf => ?_) (fun hf => ?_)
    · refine lv_iconst (v := -1) hx hb dX1_sandFor_78 (by decide) ?_
      refine lv_goto (tgt := 84) hx hb dX1_sandFor_79 (by decide) ?_
      have eo := Option.some.inj hf
      subst eo
      exact W.iret (v := (-1 : Int32)) hx hb hr (fun T ht hW => ⟨⟨(-1 : Int32), (), rfl, rfl, by dsimp only; rw [ht]; exact hM⟩, hS.F ht⟩) hS.2.2 dX1_sandFor_84
    · refine lv_iload hx hb dX1_sandFor_49 (lv_at hl 0 rfl) ?_
      refine lv_aload_n hx hb dX1_sandFor_51 rfl (lv_at hl 3 rfl) ?_
      refine hr_getN (ci := 1) (C := RX4) (T := TX4) (N := 6) (r := .inl b0) hx hb hts in_X4 hown hK hM h_b0.o rfl 1 (by decide) (hZ_nest hZ0 q514 rfl) rfl (v := .ref (ad (.inl (b0 + 2)))) rfl dX1_sandFor_52 ?_
      refine lv_iload_n hx hb dX1_sandFor_55 rfl (lv_at hl 4 rfl) ?_
      refine hx_iald (r := (b0 + 2)) hx hb hK hM 0 h_b0.a2 rfl hf dX1_sandFor_56 (fun x4 hf => ?_)
      refine hb_icmp_gt (tgt := 78) hx hb dX1_sandFor_57 (by decide) hf (fun hf => ?_) (fun hf => ?_)
      · refine lv_iconst (v := -1) hx hb dX1_sandFor_78 (by decide) ?_
        refine lv_goto (tgt := 84) hx hb dX1_sandFor_79 (by decide) ?_
        have eo := Option.some.inj hf
        subst eo
        exact W.iret (v := (-1 : Int32)) hx hb hr (fun T ht hW => ⟨⟨(-1 : Int32), (), rfl, rfl, by dsimp only; rw [ht]; exact hM⟩, hS.F ht⟩) hS.2.2 dX1_sandFor_84
      · refine lv_iload hx hb dX1_sandFor_60 (lv_at hl 1 rfl) ?_
        refine lv_iload hx hb dX1_sandFor_62 (lv_at hl 0 rfl) ?_
        refine lv_iadd hx hb dX1_sandFor_64 ?_
        refine lv_iload hx hb dX1_sandFor_65 (lv_at hl 6 rfl) ?_
        refine lv_aload_n hx hb dX1_sandFor_67 rfl (lv_at hl 2 rfl) ?_
        refine hr_get (ci := 0) (C := RX1) (T := TX1) (N := 19) (r := .inl 0) hx hb hts in_X1 hown hK hM xS_0 rfl 0 (by decide) (hts _ q559) rfl (v := .ref (ad (.inl 10))) rfl dX1_sandFor_68 ?_
        refine hr_getN (ci := 2) (C := RX2) (T := TX2) (N := 6) (r := .inl 10) hx hb hts in_X2 hown hK hM xS_10 rfl 4 (by decide) (hZ_nest hZ0 q479 rfl) rfl (v := .int (g 10 4)) rfl dX1_sandFor_71 ?_
        refine lv_iadd hx hb dX1_sandFor_74 ?_
        refine hb_icmp_le (tgt := 82) hx hb dX1_sandFor_75 (by decide) hf (fun hf => ?_) (fun hf => ?_)
        · refine lv_iload hx hb dX1_sandFor_82 (lv_at hl 0 rfl) ?_
          have eo := Option.some.inj hf
          subst eo
          exact W.iret (v := y6_2) hx hb hr (fun T ht hW => ⟨⟨y6_2, (), rfl, rfl, by dsimp only; rw [ht]; exact hM⟩, hS.F ht⟩) hS.2.2 dX1_sandFor_84
        · refine lv_iconst (v := -1) hx hb dX1_sandFor_78 (by decide) ?_
          refine lv_goto (tgt := 84) hx hb dX1_sandFor_79 (by decide) ?_
          have eo := Option.some.inj hf
          subst eo
          exact W.iret (v := (-1 : Int32)) hx hb hr (fun T ht hW => ⟨⟨(-1 : Int32), (), rfl, rfl, by dsimp only; rw [ht]; exact hM⟩, hS.F ht⟩) hS.2.2 dX1_sandFor_84
set_option maxHeartbeats 4000000 in
set_option maxRecDepth 100000 in
theorem met_x_sandFor (l : Launch) (D : va_G) (C : Nat → Nat) (a0 : Array Value) (s0 : State) (ad : Rl → Nat) (so : Nat → Option hS) (pr : hPr) (t : hSt) (lt : Rl → Nat → Int64) (g : hSt) (b0 : Nat) (p1 : Int32) (p2 : Int32) (p3 : Int32) (h_b0 : xSt C (xSH C pr) b0) {o : Int32} (hf : x_sandFor g b0 p1 p2 p3 = some o) : Met l yX1_sandFor (ws_ yX1_sandFor cX1_sandFor 7 (some .int)) rm_x_sandFor (va_Pc [.ref (ad (.inl 0)), .ref (ad (.inl b0)), .int p1, .int p2, .int p3] (hB D vwCl (hT C) (hA s0) (hZ a0 s0) ad (Sum.elim (xSH C pr) so) (Sum.elim g t) lt)) (va_Qi (fun (r : Int32) (_ : Unit) => r = o) (fun (_ : Unit) (U : State) => hW D vwCl ad (Sum.elim (xSH C pr) so) (Sum.elim g t) lt U.heap) (hA s0)) 0 0 (hA s0) := by
  refine Met.ofW (cc := cX1_sandFor) (maxL := 7) (ret := (some .int)) (by decide) rfl ?_
  intro p e s m args below meth c s₁ B hml hv
  obtain ⟨rfl, hM, hIx, hK, hZ0, hA0⟩ := hv
  have hl := lv_entry ([.ref (ad (.inl 0)), .ref (ad (.inl b0)), .int p1, .int p2, .int p3]) (n := 7) (Nat.le_of_ble_eq_true rfl)
  rw [lg_entry_eq]
  generalize (lg_sl ([.ref (ad (.inl 0)), .ref (ad (.inl b0)), .int p1, .int p2, .int p3]) ++ List.replicate (7 - (lg_sl ([.ref (ad (.inl 0)), .ref (ad (.inl b0)), .int p1, .int p2, .int p3])).length) Slot.unset).toArray = ls at hl ⊢
  have hl : lv_has ls 7 [(0, .ref (ad (.inl 0))), (1, .ref (ad (.inl b0))), (2, .int p1), (3, .int p2), (4, .int p3)] := hl
  exact w_x_sandFor ⟨B.exec, B.bytes, B.returns, hml, findClass_of_methodNamed B.named, fun w h => atoms_spec (ws := ws_ yX1_sandFor cX1_sandFor 7 (some .int)) B.pre w (List.mem_cons_of_mem _ h), B.notSynchronized, hK, hZ0, hA0⟩ hIx g b0 p1 p2 p3 h_b0 hf hM va_S.rf hl

def rm_x_next : Room := { frames := 1, cells := 0, slots := 0, locals := 16 }
set_option maxHeartbeats 4000000 in
set_option maxRecDepth 100000 in
theorem w_x_next {p : Program} {l : Launch} {e : Env} {s : State} {m : MethodId} {args : Array Value} {below : List Frame} {meth : Method} {c : Code} {D : va_G} {C : Nat → Nat} {a0 : Array Value} {s0 : State} {ad : Rl → Nat} {so : Nat → Option hS} {pr : hPr} {st : Rl → Nat → Int32} {lt : Rl → Nat → Int64} (CX : hCx D C a0 s0 p s m args meth c cX1_next 2 RX1 (some .int)) (hIx : hI (hA s0) ad (Sum.elim (xSH C pr) so)) (p0 : Int32) (p1 : Int32) {o : Int32} (hf : x_next p0 p1 = some o) {H : Heap} {locs : List Loc} (hM : hW D vwCl ad (Sum.elim (xSH C pr) so) st lt H) (hS : va_S (hA s0) s.heap H locs) {ls : Array Slot} (hl : lv_has ls 2 [(0, .int p0), (1, .int p1)]) : W p l e rm_x_next s m args below meth c H locs 0 0 (MQ below (va_Qi (fun (r : Int32) (_ : Unit) => r = o) (fun (_ : Unit) (U : State) => hW D vwCl ad (Sum.elim (xSH C pr) so) st lt U.heap) (hA s0)) args s 0 0 (hA s0)) (F0 m 0 ls []) := by
  obtain ⟨hx, hb, hr, hml, hown, hts, hlocks, hK, hZ0, hA0⟩ := CX
  unfold x_next at hf
  refine lv_iload_n hx hb dX1_next_0 rfl (lv_at hl 0 rfl) ?_
  refine lv_iload_n hx hb dX1_next_1 rfl (lv_at hl 1 rfl) ?_
  refine lv_iconst (v := -1) hx hb dX1_next_2 (by decide) ?_
  refine lv_ixor hx hb dX1_next_3 ?_
  refine lv_ior hx hb dX1_next_4 ?_
  refine lv_iconst (v := 1) hx hb dX1_next_5 (by decide) ?_
  refine lv_iadd hx hb dX1_next_6 ?_
  refine lv_iload_n hx hb dX1_next_7 rfl (lv_at hl 1 rfl) ?_
  refine lv_iand hx hb dX1_next_8 ?_
  have eo := Option.some.inj hf
  subst eo
  exact W.iret (v := (((p0 ||| (p1 ^^^ (-1 : Int32))) + (1 : Int32)) &&& p1)) hx hb hr (fun T ht hW => ⟨⟨(((p0 ||| (p1 ^^^ (-1 : Int32))) + (1 : Int32)) &&& p1), (), rfl, rfl, by dsimp only; rw [ht]; exact hM⟩, hS.F ht⟩) hS.2.2 dX1_next_9
set_option maxHeartbeats 4000000 in
set_option maxRecDepth 100000 in
theorem met_x_next (l : Launch) (D : va_G) (C : Nat → Nat) (a0 : Array Value) (s0 : State) (ad : Rl → Nat) (so : Nat → Option hS) (pr : hPr) (st : Rl → Nat → Int32) (lt : Rl → Nat → Int64) (p0 : Int32) (p1 : Int32) {o : Int32} (hf : x_next p0 p1 = some o) : Met l yX1_next (ws_ yX1_next cX1_next 2 (some .int)) rm_x_next (va_Pc [.int p0, .int p1] (hB D vwCl (hT C) (hA s0) (hZ a0 s0) ad (Sum.elim (xSH C pr) so) st lt)) (va_Qi (fun (r : Int32) (_ : Unit) => r = o) (fun (_ : Unit) (U : State) => hW D vwCl ad (Sum.elim (xSH C pr) so) st lt U.heap) (hA s0)) 0 0 (hA s0) := by
  refine Met.ofW (cc := cX1_next) (maxL := 2) (ret := (some .int)) (by decide) rfl ?_
  intro p e s m args below meth c s₁ B hml hv
  obtain ⟨rfl, hM, hIx, hK, hZ0, hA0⟩ := hv
  have hl := lv_entry ([.int p0, .int p1]) (n := 2) (Nat.le_of_ble_eq_true rfl)
  rw [lg_entry_eq]
  generalize (lg_sl ([.int p0, .int p1]) ++ List.replicate (2 - (lg_sl ([.int p0, .int p1])).length) Slot.unset).toArray = ls at hl ⊢
  have hl : lv_has ls 2 [(0, .int p0), (1, .int p1)] := hl
  exact w_x_next ⟨B.exec, B.bytes, B.returns, hml, findClass_of_methodNamed B.named, fun w h => atoms_spec (ws := ws_ yX1_next cX1_next 2 (some .int)) B.pre w (List.mem_cons_of_mem _ h), B.notSynchronized, hK, hZ0, hA0⟩ hIx p0 p1 hf hM va_S.rf hl

def rm_x_chosen : Room := { frames := 9, cells := 0, slots := 0, locals := 240 }
set_option maxHeartbeats 4000000 in
set_option maxRecDepth 100000 in
theorem w_x_chosen_B86 {p : Program} {l : Launch} {e : Env} {s : State} {m : MethodId} {args : Array Value} {below : List Frame} {meth : Method} {c : Code} {D : va_G} {C : Nat → Nat} {a0 : Array Value} {s0 : State} {ad : Rl → Nat} {so : Nat → Option hS} {pr : hPr} {t : hSt} {lt : Rl → Nat → Int64} (CX : hCx D C a0 s0 p s m args meth c cX1_chosen 6 RX1 (some .int)) (hIx : hI (hA s0) ad (Sum.elim (xSH C pr) so)) (g : hSt) (b0 : Nat) (p1 : Int32) (r1 : Nat) (y2 : Int32) (v4_34 : Int32) (v5_34 : Int32) (y3 : Int32) (a4_86 : Int32) (h_b0 : xSt C (xSH C pr) b0) (h_r1 : hGv C pr r1) {oM : Int32} {o : (Int32 × Int32) ⊕ (Int32)} (hf : x_chosen_B86 g b0 p1 v5_34 a4_86 = some o) (kc : ∀ s' : Int32 × Int32, o = .inl s' → ∀ (H : Heap) (locs : List Loc) (ls : Array Slot), hW D vwCl ad (Sum.elim (xSH C pr) so) (Sum.elim g t) lt H → va_S (hA s0) s.heap H locs → lv_has ls 6 [(0, .ref (ad (.inl 0))), (1, .ref (ad (.inl b0))), (2, .int p1), (3, .ref (ad (.inl r1))), (4, .int s'.1), (5, .int s'.2)] → W p l e rm_x_chosen s m args below meth c H locs 0 0 (MQ below (va_Qi (fun (r : Int32) (_ : Unit) => r = oM) (fun (_ : Unit) (U : State) => hW D vwCl ad (Sum.elim (xSH C pr) so) (Sum.elim g t) lt U.heap) (hA s0)) args s 0 0 (hA s0)) (F0 m 34 ls [])) (kx : ∀ x' : Int32, o = .inr x' → ∀ (H : Heap) (locs : List Loc) (ls : Array Slot), hW D vwCl ad (Sum.elim (xSH C pr) so) (Sum.elim g t) lt H → va_S (hA s0) s.heap H locs → lv_has ls 6 [(4, .int x')] → W p l e rm_x_chosen s m args below meth c H locs 0 0 (MQ below (va_Qi (fun (r : Int32) (_ : Unit) => r = oM) (fun (_ : Unit) (U : State) => hW D vwCl ad (Sum.elim (xSH C pr) so) (Sum.elim g t) lt U.heap) (hA s0)) args s 0 0 (hA s0)) (F0 m 104 ls [])) {H : Heap} {locs : List Loc} (hM : hW D vwCl ad (Sum.elim (xSH C pr) so) (Sum.elim g t) lt H) (hS : va_S (hA s0) s.heap H locs) {ls : Array Slot} (hl : lv_has ls 6 [(0, .ref (ad (.inl 0))), (1, .ref (ad (.inl b0))), (2, .int p1), (3, .ref (ad (.inl r1))), (4, .int a4_86), (5, .int v5_34)]) : W p l e rm_x_chosen s m args below meth c H locs 0 0 (MQ below (va_Qi (fun (r : Int32) (_ : Unit) => r = oM) (fun (_ : Unit) (U : State) => hW D vwCl ad (Sum.elim (xSH C pr) so) (Sum.elim g t) lt U.heap) (hA s0)) args s 0 0 (hA s0)) (F0 m 86 ls []) := by
  obtain ⟨hx, hb, hr, hml, hown, hts, hlocks, hK, hZ0, hA0⟩ := CX
  unfold x_chosen_B86 at hf
  refine lv_iload hx hb dX1_chosen_86 (lv_at hl 5 rfl) ?_
  refine lv_aload_n hx hb dX1_chosen_88 rfl (lv_at hl 1 rfl) ?_
  refine hr_getN (ci := 1) (C := RX4) (T := TX4) (N := 6) (r := .inl b0) hx hb hts in_X4 hown hK hM h_b0.o rfl 0 (by decide) (hZ_nest hZ0 q510 rfl) rfl (v := .ref (ad (.inl (b0 + 1)))) rfl dX1_chosen_89 ?_
  refine lv_iload_n hx hb dX1_chosen_92 rfl (lv_at hl 2 rfl) ?_
  refine hx_iald (r := (b0 + 1)) hx hb hK hM 0 h_b0.a1 rfl hf dX1_chosen_93 (fun x4 hf => ?_)
  obtain ⟨y5, hq, hf⟩ := hbind hf
  refine hr_calli0 (va_runS (As := [.int v5_34, .int x4]) (rest := []) ⟨hx, hb, hml, hown, hts⟩ (met_x_next l D C a0 s0 ad so pr (Sum.elim g t) lt v5_34 x4 hq) (va_cwS 2 hts (lw_S q868 q869 q76 q870) rfl rfl rfl (by decide +kernel) ⟨Nat.le_of_ble_eq_true rfl, Nat.le_of_ble_eq_true rfl⟩) (hr_preS hZ_c hM hIx hK hZ0 hA0 hS) rfl rfl hl.1 rfl (lv_room (Nat.le_of_ble_eq_true rfl)) dX1_chosen_94 ⟨Nat.le_of_ble_eq_true rfl, Nat.le_of_ble_eq_true rfl⟩) hS (fun H locs hM hS => ?_)
  refine lv_istore (lv' := [(5, .int y5), (0, .ref (ad (.inl 0))), (1, .ref (ad (.inl b0))), (2, .int p1), (3, .ref (ad (.inl r1))), (4, .int a4_86)]) hx hb dX1_chosen_97 hl (by decide) rfl (fun ls hl => ?_)
  refine lv_iload hx hb dX1_chosen_99 (lv_at hl 0 rfl) ?_
  refine hb_if_ne (tgt := 34) hx hb dX1_chosen_101 (by decide) hf (fun hf => ?_) (fun hf => ?_)
  · exact kc (a4_86, y5) (Option.some.inj hf).symm H locs ls hM hS (lv_sub hl [1, 2, 3, 4, 5, 0] rfl)
  · exact kx a4_86 (Option.some.inj hf).symm H locs ls hM hS (lv_sub hl [5] rfl)
set_option maxHeartbeats 4000000 in
set_option maxRecDepth 100000 in
theorem w_x_chosen_B82 {p : Program} {l : Launch} {e : Env} {s : State} {m : MethodId} {args : Array Value} {below : List Frame} {meth : Method} {c : Code} {D : va_G} {C : Nat → Nat} {a0 : Array Value} {s0 : State} {ad : Rl → Nat} {so : Nat → Option hS} {pr : hPr} {t : hSt} {lt : Rl → Nat → Int64} (CX : hCx D C a0 s0 p s m args meth c cX1_chosen 6 RX1 (some .int)) (hIx : hI (hA s0) ad (Sum.elim (xSH C pr) so)) (g : hSt) (b0 : Nat) (p1 : Int32) (r1 : Nat) (y2 : Int32) (v4_34 : Int32) (v5_34 : Int32) (y3 : Int32) (x6 : Int32) (y7 : Int32) (h_b0 : xSt C (xSH C pr) b0) (h_r1 : hGv C pr r1) {oM : Int32} {o : (Int32 × Int32) ⊕ (Int32)} (hf : x_chosen_B82 g b0 p1 v5_34 = some o) (kc : ∀ s' : Int32 × Int32, o = .inl s' → ∀ (H : Heap) (locs : List Loc) (ls : Array Slot), hW D vwCl ad (Sum.elim (xSH C pr) so) (Sum.elim g t) lt H → va_S (hA s0) s.heap H locs → lv_has ls 6 [(0, .ref (ad (.inl 0))), (1, .ref (ad (.inl b0))), (2, .int p1), (3, .ref (ad (.inl r1))), (4, .int s'.1), (5, .int s'.2)] → W p l e rm_x_chosen s m args below meth c H locs 0 0 (MQ below (va_Qi (fun (r : Int32) (_ : Unit) => r = oM) (fun (_ : Unit) (U : State) => hW D vwCl ad (Sum.elim (xSH C pr) so) (Sum.elim g t) lt U.heap) (hA s0)) args s 0 0 (hA s0)) (F0 m 34 ls [])) (kx : ∀ x' : Int32, o = .inr x' → ∀ (H : Heap) (locs : List Loc) (ls : Array Slot), hW D vwCl ad (Sum.elim (xSH C pr) so) (Sum.elim g t) lt H → va_S (hA s0) s.heap H locs → lv_has ls 6 [(4, .int x')] → W p l e rm_x_chosen s m args below meth c H locs 0 0 (MQ below (va_Qi (fun (r : Int32) (_ : Unit) => r = oM) (fun (_ : Unit) (U : State) => hW D vwCl ad (Sum.elim (xSH C pr) so) (Sum.elim g t) lt U.heap) (hA s0)) args s 0 0 (hA s0)) (F0 m 104 ls [])) {H : Heap} {locs : List Loc} (hM : hW D vwCl ad (Sum.elim (xSH C pr) so) (Sum.elim g t) lt H) (hS : va_S (hA s0) s.heap H locs) {ls : Array Slot} (hl : lv_has ls 6 [(0, .ref (ad (.inl 0))), (1, .ref (ad (.inl b0))), (2, .int p1), (3, .ref (ad (.inl r1))), (5, .int v5_34)]) : W p l e rm_x_chosen s m args below meth c H locs 0 0 (MQ below (va_Qi (fun (r : Int32) (_ : Unit) => r = oM) (fun (_ : Unit) (U : State) => hW D vwCl ad (Sum.elim (xSH C pr) so) (Sum.elim g t) lt U.heap) (hA s0)) args s 0 0 (hA s0)) (F0 m 82 ls []) := by
  obtain ⟨hx, hb, hr, hml, hown, hts, hlocks, hK, hZ0, hA0⟩ := CX
  unfold x_chosen_B82 at hf
  refine lv_iload hx hb dX1_chosen_82 (lv_at hl 4 rfl) ?_
  refine lv_istore (lv' := [(4, .int v5_34), (0, .ref (ad (.inl 0))), (1, .ref (ad (.inl b0))), (2, .int p1), (3, .ref (ad (.inl r1))), (5, .int v5_34)]) hx hb dX1_chosen_84 hl (by decide) rfl (fun ls hl => ?_)
  exact w_x_chosen_B86 ⟨hx, hb, hr, hml, hown, hts, hlocks, hK, hZ0, hA0⟩ hIx g b0 p1 r1 y2 v4_34 v5_34 y3 v5_34 h_b0 h_r1 hf kc kx hM hS (lv_sub hl [1, 2, 3, 4, 0, 5] rfl)
set_option maxHeartbeats 4000000 in
set_option maxRecDepth 100000 in
theorem w_x_chosen_L34 {p : Program} {l : Launch} {e : Env} {s : State} {m : MethodId} {args : Array Value} {below : List Frame} {meth : Method} {c : Code} {D : va_G} {C : Nat → Nat} {a0 : Array Value} {s0 : State} {ad : Rl → Nat} {so : Nat → Option hS} {pr : hPr} {t : hSt} {lt : Rl → Nat → Int64} (CX : hCx D C a0 s0 p s m args meth c cX1_chosen 6 RX1 (some .int)) (hIx : hI (hA s0) ad (Sum.elim (xSH C pr) so)) (g : hSt) (b0 : Nat) (p1 : Int32) (r1 : Nat) (y2 : Int32) (h_b0 : xSt C (xSH C pr) b0) (h_r1 : hGv C pr r1) {oM : Int32} (x : Int32) (n : Nat) (q0 : Int32 × Int32) (h0 : hiter (fun q : Int32 × Int32 => x_chosen_L34 g pr b0 p1 r1 q.1 q.2) n q0 = some x) (kx0 : ∀ (H : Heap) (locs : List Loc) (ls : Array Slot), hW D vwCl ad (Sum.elim (xSH C pr) so) (Sum.elim g t) lt H → va_S (hA s0) s.heap H locs → lv_has ls 6 [(4, .int x)] → W p l e rm_x_chosen s m args below meth c H locs 0 0 (MQ below (va_Qi (fun (r : Int32) (_ : Unit) => r = oM) (fun (_ : Unit) (U : State) => hW D vwCl ad (Sum.elim (xSH C pr) so) (Sum.elim g t) lt U.heap) (hA s0)) args s 0 0 (hA s0)) (F0 m 104 ls [])) : ∀ (H : Heap) (locs : List Loc) (ls : Array Slot), hW D vwCl ad (Sum.elim (xSH C pr) so) (Sum.elim g t) lt H → va_S (hA s0) s.heap H locs → lv_has ls 6 [(0, .ref (ad (.inl 0))), (1, .ref (ad (.inl b0))), (2, .int p1), (3, .ref (ad (.inl r1))), (4, .int q0.1), (5, .int q0.2)] → W p l e rm_x_chosen s m args below meth c H locs 0 0 (MQ below (va_Qi (fun (r : Int32) (_ : Unit) => r = oM) (fun (_ : Unit) (U : State) => hW D vwCl ad (Sum.elim (xSH C pr) so) (Sum.elim g t) lt U.heap) (hA s0)) args s 0 0 (hA s0)) (F0 m 34 ls []) := by
  obtain ⟨hx, hb, hr, hml, hown, hts, hlocks, hK, hZ0, hA0⟩ := CX
  refine hiter_W (Wh := fun q => ∀ (H : Heap) (locs : List Loc) (ls : Array Slot), hW D vwCl ad (Sum.elim (xSH C pr) so) (Sum.elim g t) lt H → va_S (hA s0) s.heap H locs → lv_has ls 6 [(0, .ref (ad (.inl 0))), (1, .ref (ad (.inl b0))), (2, .int p1), (3, .ref (ad (.inl r1))), (4, .int q.1), (5, .int q.2)] → W p l e rm_x_chosen s m args below meth c H locs 0 0 (MQ below (va_Qi (fun (r : Int32) (_ : Unit) => r = oM) (fun (_ : Unit) (U : State) => hW D vwCl ad (Sum.elim (xSH C pr) so) (Sum.elim g t) lt U.heap) (hA s0)) args s 0 0 (hA s0)) (F0 m 34 ls [])) ?_ n q0 h0
  intro q o hf kc kx1 H locs ls hM hS hl
  obtain ⟨v4_34, v5_34⟩ := q
  replace hf : x_chosen_L34 g pr b0 p1 r1 v4_34 v5_34 = some o := hf
  have kx : ∀ x' : Int32, o = .inr x' → ∀ (H : Heap) (locs : List Loc) (ls : Array Slot), hW D vwCl ad (Sum.elim (xSH C pr) so) (Sum.elim g t) lt H → va_S (hA s0) s.heap H locs → lv_has ls 6 [(4, .int x')] → W p l e rm_x_chosen s m args below meth c H locs 0 0 (MQ below (va_Qi (fun (r : Int32) (_ : Unit) => r = oM) (fun (_ : Unit) (U : State) => hW D vwCl ad (Sum.elim (xSH C pr) so) (Sum.elim g t) lt U.heap) (hA s0)) args s 0 0 (hA s0)) (F0 m 104 ls []) := fun x' ex => by rw [kx1 _ ex]; exact kx0
  unfold x_chosen_L34 at hf
  refine lv_aload_n hx hb dX1_chosen_34 rfl (lv_at hl 3 rfl) ?_
  refine lv_iload hx hb dX1_chosen_35 (lv_at hl 5 rfl) ?_
  obtain ⟨y3, hq, hf⟩ := hbind hf
  refine hx_gv_mayTake ⟨hx, hb, hr, hml, hown, hts, hlocks, hK, hZ0, hA0⟩ hIx h_r1 q827 hq hM hS hl.1 (lv_room (Nat.le_of_ble_eq_true rfl)) (Nat.le_of_ble_eq_true rfl) (Nat.le_of_ble_eq_true rfl) (Nat.le_of_ble_eq_true rfl) (Nat.le_of_ble_eq_true rfl) dX1_chosen_37 (fun H locs hM hS => ?_)
  refine hb_if_eq (tgt := 86) hx hb dX1_chosen_40 (by decide) hf (fun hf => ?_) (fun hf => ?_)
  · exact w_x_chosen_B86 ⟨hx, hb, hr, hml, hown, hts, hlocks, hK, hZ0, hA0⟩ hIx g b0 p1 r1 y2 v4_34 v5_34 y3 v4_34 h_b0 h_r1 hf kc kx hM hS (lv_sub hl [0, 1, 2, 3, 4, 5] rfl)
  · refine lv_aload_n hx hb dX1_chosen_43 rfl (lv_at hl 0 rfl) ?_
    refine lv_aload_n hx hb dX1_chosen_44 rfl (lv_at hl 1 rfl) ?_
    refine lv_iload_n hx hb dX1_chosen_45 rfl (lv_at hl 2 rfl) ?_
    refine lv_iload hx hb dX1_chosen_46 (lv_at hl 5 rfl) ?_
    refine lv_aload_n hx hb dX1_chosen_48 rfl (lv_at hl 1 rfl) ?_
    refine hr_getN (ci := 1) (C := RX4) (T := TX4) (N := 6) (r := .inl b0) hx hb hts in_X4 hown hK hM h_b0.o rfl 2 (by decide) (hZ_nest hZ0 q518 rfl) rfl (v := .ref (ad (.inl (b0 + 3)))) rfl dX1_chosen_49 ?_
    refine lv_iload_n hx hb dX1_chosen_52 rfl (lv_at hl 2 rfl) ?_
    refine hx_iald (r := (b0 + 3)) hx hb hK hM 0 h_b0.a3 rfl hf dX1_chosen_53 (fun x6 hf => ?_)
    obtain ⟨y7, hq, hf⟩ := hbind hf
    refine hr_calli0 (va_runV (As := [.ref (ad (.inl b0)), .int p1, .int v5_34, .int x6]) (rest := []) ⟨hx, hb, hml, hown, hts⟩ (met_x_sandFor l D C a0 s0 ad so pr t lt g b0 p1 v5_34 x6 h_b0 hq) (cwV 4 hts (lw_V q842 q844 qs11 q76 q845) rfl rfl rfl (by decide +kernel) ⟨Nat.le_of_ble_eq_true rfl, Nat.le_of_ble_eq_true rfl⟩) (hr_preV hZ_c hM hIx hK hZ0 hA0 hS (r := .inl 0) xS_0 (q := (RX1, TX1, 19)) rfl) rfl rfl hl.1 rfl (lv_room (Nat.le_of_ble_eq_true rfl)) dX1_chosen_54 ⟨Nat.le_of_ble_eq_true rfl, Nat.le_of_ble_eq_true rfl⟩) hS (fun H locs hM hS => ?_)
    refine lv_iconst (v := -1) hx hb dX1_chosen_57 (by decide) ?_
    refine hb_icmp_eq (tgt := 86) hx hb dX1_chosen_58 (by decide) hf (fun hf => ?_) (fun hf => ?_)
    · exact w_x_chosen_B86 ⟨hx, hb, hr, hml, hown, hts, hlocks, hK, hZ0, hA0⟩ hIx g b0 p1 r1 y2 v4_34 v5_34 y3 v4_34 h_b0 h_r1 hf kc kx hM hS (lv_sub hl [0, 1, 2, 3, 4, 5] rfl)
    · refine lv_iload hx hb dX1_chosen_61 (lv_at hl 4 rfl) ?_
      refine lv_iconst (v := -1) hx hb dX1_chosen_63 (by decide) ?_
      refine hb_icmp_eq (tgt := 82) hx hb dX1_chosen_64 (by decide) hf (fun hf => ?_) (fun hf => ?_)
      · exact w_x_chosen_B82 ⟨hx, hb, hr, hml, hown, hts, hlocks, hK, hZ0, hA0⟩ hIx g b0 p1 r1 y2 v4_34 v5_34 y3 x6 y7 h_b0 h_r1 hf kc kx hM hS (lv_sub hl [0, 1, 2, 3, 5] rfl)
      · refine lv_aload_n hx hb dX1_chosen_67 rfl (lv_at hl 3 rfl) ?_
        refine lv_iload hx hb dX1_chosen_68 (lv_at hl 5 rfl) ?_
        refine lv_iload hx hb dX1_chosen_70 (lv_at hl 4 rfl) ?_
        refine lv_aload_n hx hb dX1_chosen_72 rfl (lv_at hl 0 rfl) ?_
        refine hr_get (ci := 0) (C := RX1) (T := TX1) (N := 19) (r := .inl 0) hx hb hts in_X1 hown hK hM xS_0 rfl 0 (by decide) (hts _ q559) rfl (v := .ref (ad (.inl 10))) rfl dX1_chosen_73 ?_
        obtain ⟨y8, hq, hf⟩ := hbind hf
        refine hx_gv_isBetter ⟨hx, hb, hr, hml, hown, hts, hlocks, hK, hZ0, hA0⟩ hIx h_r1 q846 hq hM hS hl.1 (lv_room (Nat.le_of_ble_eq_true rfl)) (Nat.le_of_ble_eq_true rfl) (Nat.le_of_ble_eq_true rfl) (Nat.le_of_ble_eq_true rfl) (Nat.le_of_ble_eq_true rfl) dX1_chosen_76 (fun H locs hM hS => ?_)
        refine hb_if_eq (tgt := 86) hx hb dX1_chosen_79 (by decide) hf (fun hf => ?_) (fun hf => ?_)
        · exact w_x_chosen_B86 ⟨hx, hb, hr, hml, hown, hts, hlocks, hK, hZ0, hA0⟩ hIx g b0 p1 r1 y2 v4_34 v5_34 y3 v4_34 h_b0 h_r1 hf kc kx hM hS (lv_sub hl [0, 1, 2, 3, 4, 5] rfl)
        · exact w_x_chosen_B82 ⟨hx, hb, hr, hml, hown, hts, hlocks, hK, hZ0, hA0⟩ hIx g b0 p1 r1 y2 v4_34 v5_34 y3 x6 y7 h_b0 h_r1 hf kc kx hM hS (lv_sub hl [0, 1, 2, 3, 5] rfl)
set_option maxHeartbeats 4000000 in
set_option maxRecDepth 100000 in
theorem w_x_chosen {p : Program} {l : Launch} {e : Env} {s : State} {m : MethodId} {args : Array Value} {below : List Frame} {meth : Method} {c : Code} {D : va_G} {C : Nat → Nat} {a0 : Array Value} {s0 : State} {ad : Rl → Nat} {so : Nat → Option hS} {pr : hPr} {t : hSt} {lt : Rl → Nat → Int64} (CX : hCx D C a0 s0 p s m args meth c cX1_chosen 6 RX1 (some .int)) (hIx : hI (hA s0) ad (Sum.elim (xSH C pr) so)) (g : hSt) (b0 : Nat) (p1 : Int32) (h_b0 : xSt C (xSH C pr) b0) {o : Int32} (hf : x_chosen g pr b0 p1 = some o) {H : Heap} {locs : List Loc} (hM : hW D vwCl ad (Sum.elim (xSH C pr) so) (Sum.elim g t) lt H) (hS : va_S (hA s0) s.heap H locs) {ls : Array Slot} (hl : lv_has ls 6 [(0, .ref (ad (.inl 0))), (1, .ref (ad (.inl b0))), (2, .int p1)]) : W p l e rm_x_chosen s m args below meth c H locs 0 0 (MQ below (va_Qi (fun (r : Int32) (_ : Unit) => r = o) (fun (_ : Unit) (U : State) => hW D vwCl ad (Sum.elim (xSH C pr) so) (Sum.elim g t) lt U.heap) (hA s0)) args s 0 0 (hA s0)) (F0 m 0 ls []) := by
  obtain ⟨hx, hb, hr, hml, hown, hts, hlocks, hK, hZ0, hA0⟩ := CX
  unfold x_chosen at hf
  refine lv_aload_n hx hb dX1_chosen_0 rfl (lv_at hl 0 rfl) ?_
  refine hr_get (ci := 0) (C := RX1) (T := TX1) (N := 19) (r := .inl 0) hx hb hts in_X1 hown hK hM xS_0 rfl 0 (by decide) (hts _ q559) rfl (v := .ref (ad (.inl 10))) rfl dX1_chosen_1 ?_
  refine hr_getN (ci := 2) (C := RX2) (T := TX2) (N := 6) (r := .inl 10) hx hb hts in_X2 hown hK hM xS_10 rfl 0 (by decide) (hZ_nest hZ0 q468 rfl) rfl (v := .ref (ad (.inl 11))) rfl dX1_chosen_4 ?_
  refine lv_iload_n hx hb dX1_chosen_7 rfl (lv_at hl 2 rfl) ?_
  obtain ⟨r1, hq, hf⟩ := hbind hf
  refine hx_getP ⟨hx, hb, hr, hml, hown, hts, hlocks, hK, hZ0, hA0⟩ hIx q802 hq hM hS hl.1 (lv_room (Nat.le_of_ble_eq_true rfl)) (Nat.le_of_ble_eq_true rfl) (Nat.le_of_ble_eq_true rfl) (Nat.le_of_ble_eq_true rfl) (Nat.le_of_ble_eq_true rfl) dX1_chosen_8 (fun h_r1 H locs hM hS => ?_)
  refine hx_castGv hx hb hown hK hZ0 (hts _ q810) h_r1 hM dX1_chosen_11 ?_
  refine lv_astore_n (lv' := [(3, .ref (ad (.inl r1))), (0, .ref (ad (.inl 0))), (1, .ref (ad (.inl b0))), (2, .int p1)]) hx hb dX1_chosen_14 rfl hl (by decide) rfl (fun ls hl => ?_)
  refine lv_aload_n hx hb dX1_chosen_15 rfl (lv_at hl 0 rfl) ?_
  refine lv_aload_n hx hb dX1_chosen_16 rfl (lv_at hl 2 rfl) ?_
  refine hr_getN (ci := 1) (C := RX4) (T := TX4) (N := 6) (r := .inl b0) hx hb hts in_X4 hown hK hM h_b0.o rfl 5 (by decide) (hZ_nest hZ0 q527 rfl) rfl (v := .int (g b0 5)) rfl dX1_chosen_17 ?_
  obtain ⟨y2, hq, hf⟩ := hbind hf
  refine hx_gv_isReady ⟨hx, hb, hr, hml, hown, hts, hlocks, hK, hZ0, hA0⟩ hIx h_r1 q811 hq hM hS hl.1 (lv_room (Nat.le_of_ble_eq_true rfl)) (Nat.le_of_ble_eq_true rfl) (Nat.le_of_ble_eq_true rfl) (Nat.le_of_ble_eq_true rfl) (Nat.le_of_ble_eq_true rfl) dX1_chosen_20 (fun H locs hM hS => ?_)
  refine hb_if_ne (tgt := 28) hx hb dX1_chosen_23 (by decide) hf (fun hf => ?_) (fun hf => ?_)
  · refine lv_iconst (v := -1) hx hb dX1_chosen_28 (by decide) ?_
    refine lv_istore (lv' := [(4, .int (-1 : Int32)), (3, .ref (ad (.inl r1))), (0, .ref (ad (.inl 0))), (1, .ref (ad (.inl b0))), (2, .int p1)]) hx hb dX1_chosen_29 hl (by decide) rfl (fun ls hl => ?_)
    refine lv_iconst (v := 0) hx hb dX1_chosen_31 (by decide) ?_
    refine lv_istore (lv' := [(5, .int (0 : Int32)), (4, .int (-1 : Int32)), (3, .ref (ad (.inl r1))), (0, .ref (ad (.inl 0))), (1, .ref (ad (.inl b0))), (2, .int p1)]) hx hb dX1_chosen_32 hl (by decide) rfl (fun ls hl => ?_)
    obtain ⟨x9, hq, hf⟩ := hbind hf
    refine w_x_chosen_L34 ⟨hx, hb, hr, hml, hown, hts, hlocks, hK, hZ0, hA0⟩ hIx g b0 p1 r1 y2 h_b0 h_r1 x9 hFU ((-1 : Int32), (0 : Int32)) hq (fun H locs ls hM hS hl => ?_) H locs ls hM hS (lv_sub hl [3, 4, 5, 2, 1, 0] rfl)
    refine lv_iload hx hb dX1_chosen_104 (lv_at hl 0 rfl) ?_
    have eo := Option.some.inj hf
    subst eo
    exact W.iret (v := x9) hx hb hr (fun T ht hW => ⟨⟨x9, (), rfl, rfl, by dsimp only; rw [ht]; exact hM⟩, hS.F ht⟩) hS.2.2 dX1_chosen_106
  · refine lv_iconst (v := -1) hx hb dX1_chosen_26 (by decide) ?_
    have eo := Option.some.inj hf
    subst eo
    exact W.iret (v := (-1 : Int32)) hx hb hr (fun T ht hW => ⟨⟨(-1 : Int32), (), rfl, rfl, by dsimp only; rw [ht]; exact hM⟩, hS.F ht⟩) hS.2.2 dX1_chosen_27
set_option maxHeartbeats 4000000 in
set_option maxRecDepth 100000 in
theorem met_x_chosen (l : Launch) (D : va_G) (C : Nat → Nat) (a0 : Array Value) (s0 : State) (ad : Rl → Nat) (so : Nat → Option hS) (pr : hPr) (t : hSt) (lt : Rl → Nat → Int64) (g : hSt) (b0 : Nat) (p1 : Int32) (h_b0 : xSt C (xSH C pr) b0) {o : Int32} (hf : x_chosen g pr b0 p1 = some o) : Met l yX1_chosen (ws_ yX1_chosen cX1_chosen 6 (some .int)) rm_x_chosen (va_Pc [.ref (ad (.inl 0)), .ref (ad (.inl b0)), .int p1] (hB D vwCl (hT C) (hA s0) (hZ a0 s0) ad (Sum.elim (xSH C pr) so) (Sum.elim g t) lt)) (va_Qi (fun (r : Int32) (_ : Unit) => r = o) (fun (_ : Unit) (U : State) => hW D vwCl ad (Sum.elim (xSH C pr) so) (Sum.elim g t) lt U.heap) (hA s0)) 0 0 (hA s0) := by
  refine Met.ofW (cc := cX1_chosen) (maxL := 6) (ret := (some .int)) (by decide) rfl ?_
  intro p e s m args below meth c s₁ B hml hv
  obtain ⟨rfl, hM, hIx, hK, hZ0, hA0⟩ := hv
  have hl := lv_entry ([.ref (ad (.inl 0)), .ref (ad (.inl b0)), .int p1]) (n := 6) (Nat.le_of_ble_eq_true rfl)
  rw [lg_entry_eq]
  generalize (lg_sl ([.ref (ad (.inl 0)), .ref (ad (.inl b0)), .int p1]) ++ List.replicate (6 - (lg_sl ([.ref (ad (.inl 0)), .ref (ad (.inl b0)), .int p1])).length) Slot.unset).toArray = ls at hl ⊢
  have hl : lv_has ls 6 [(0, .ref (ad (.inl 0))), (1, .ref (ad (.inl b0))), (2, .int p1)] := hl
  exact w_x_chosen ⟨B.exec, B.bytes, B.returns, hml, findClass_of_methodNamed B.named, fun w h => atoms_spec (ws := ws_ yX1_chosen cX1_chosen 6 (some .int)) B.pre w (List.mem_cons_of_mem _ h), B.notSynchronized, hK, hZ0, hA0⟩ hIx g b0 p1 h_b0 hf hM va_S.rf hl

def rm_x_toWhom : Room := { frames := 9, cells := 0, slots := 0, locals := 240 }
set_option maxHeartbeats 4000000 in
set_option maxRecDepth 100000 in
theorem w_x_toWhom_B39 {p : Program} {l : Launch} {e : Env} {s : State} {m : MethodId} {args : Array Value} {below : List Frame} {meth : Method} {c : Code} {D : va_G} {C : Nat → Nat} {a0 : Array Value} {s0 : State} {ad : Rl → Nat} {so : Nat → Option hS} {pr : hPr} {t : hSt} {lt : Rl → Nat → Int64} (CX : hCx D C a0 s0 p s m args meth c cX1_toWhom 5 RX1 (some .int)) (hIx : hI (hA s0) ad (Sum.elim (xSH C pr) so)) (g : hSt) (b0 : Nat) (p1 : Int32) (p2 : Int32) (r1 : Nat) (y2 : Int32) (h_b0 : xSt C (xSH C pr) b0) (h_r1 : hGv C pr r1) {o : Int32} (hf : x_toWhom_B39 g p1 = some o) {H : Heap} {locs : List Loc} (hM : hW D vwCl ad (Sum.elim (xSH C pr) so) (Sum.elim g t) lt H) (hS : va_S (hA s0) s.heap H locs) {ls : Array Slot} (hl : lv_has ls 5 [(0, .ref (ad (.inl 0))), (2, .int p1)]) : W p l e rm_x_toWhom s m args below meth c H locs 0 0 (MQ below (va_Qi (fun (r : Int32) (_ : Unit) => r = o) (fun (_ : Unit) (U : State) => hW D vwCl ad (Sum.elim (xSH C pr) so) (Sum.elim g t) lt U.heap) (hA s0)) args s 0 0 (hA s0)) (F0 m 39 ls []) := by
  obtain ⟨hx, hb, hr, hml, hown, hts, hlocks, hK, hZ0, hA0⟩ := CX
  unfold x_toWhom_B39 at hf
  refine lv_iload_n hx hb dX1_toWhom_39 rfl (lv_at hl 1 rfl) ?_
  refine lv_iconst (v := 1) hx hb dX1_toWhom_40 (by decide) ?_
  refine lv_iadd hx hb dX1_toWhom_41 ?_
  refine lv_aload_n hx hb dX1_toWhom_42 rfl (lv_at hl 0 rfl) ?_
  refine hr_get (ci := 0) (C := RX1) (T := TX1) (N := 19) (r := .inl 0) hx hb hts in_X1 hown hK hM xS_0 rfl 0 (by decide) (hts _ q559) rfl (v := .ref (ad (.inl 10))) rfl dX1_toWhom_43 ?_
  refine hr_getN (ci := 2) (C := RX2) (T := TX2) (N := 6) (r := .inl 10) hx hb hts in_X2 hown hK hM xS_10 rfl 0 (by decide) (hZ_nest hZ0 q468 rfl) rfl (v := .ref (ad (.inl 11))) rfl dX1_toWhom_46 ?_
  obtain ⟨y3, hq, hf⟩ := hbind hf
  refine hr_calli0 (va_runV (As := []) (rest := [.int (p1 + (1 : Int32))]) ⟨hx, hb, hml, hown, hts⟩ (met_x_al_size l D C a0 s0 ad so pr t lt g 11 xs_11 hq) (cwV 0 hts (lw_V q642 q643 q644 q80 q645) rfl rfl rfl (by decide +kernel) ⟨Nat.le_of_ble_eq_true rfl, Nat.le_of_ble_eq_true rfl⟩) (hr_preV hZ_c hM hIx hK hZ0 hA0 hS (r := .inl 11) xS_11 (q := (RJ2, TJ2, 3)) rfl) rfl rfl hl.1 rfl (lv_room (Nat.le_of_ble_eq_true rfl)) dX1_toWhom_49 ⟨Nat.le_of_ble_eq_true rfl, Nat.le_of_ble_eq_true rfl⟩) hS (fun H locs hM hS => ?_)
  obtain ⟨hne, hf⟩ := hif_n hf
  refine lv_irem hx hb dX1_toWhom_52 hne ?_
  refine lv_goto (tgt := 58) hx hb dX1_toWhom_53 (by decide) ?_
  have eo := Option.some.inj hf
  subst eo
  exact W.iret (v := ((p1 + (1 : Int32)) - (p1 + (1 : Int32)) / y3 * y3)) hx hb hr (fun T ht hW => ⟨⟨((p1 + (1 : Int32)) - (p1 + (1 : Int32)) / y3 * y3), (), rfl, rfl, by dsimp only; rw [ht]; exact hM⟩, hS.F ht⟩) hS.2.2 dX1_toWhom_58
set_option maxHeartbeats 4000000 in
set_option maxRecDepth 100000 in
theorem w_x_toWhom {p : Program} {l : Launch} {e : Env} {s : State} {m : MethodId} {args : Array Value} {below : List Frame} {meth : Method} {c : Code} {D : va_G} {C : Nat → Nat} {a0 : Array Value} {s0 : State} {ad : Rl → Nat} {so : Nat → Option hS} {pr : hPr} {t : hSt} {lt : Rl → Nat → Int64} (CX : hCx D C a0 s0 p s m args meth c cX1_toWhom 5 RX1 (some .int)) (hIx : hI (hA s0) ad (Sum.elim (xSH C pr) so)) (g : hSt) (b0 : Nat) (p1 : Int32) (p2 : Int32) (h_b0 : xSt C (xSH C pr) b0) {o : Int32} (hf : x_toWhom g pr b0 p1 p2 = some o) {H : Heap} {locs : List Loc} (hM : hW D vwCl ad (Sum.elim (xSH C pr) so) (Sum.elim g t) lt H) (hS : va_S (hA s0) s.heap H locs) {ls : Array Slot} (hl : lv_has ls 5 [(0, .ref (ad (.inl 0))), (1, .ref (ad (.inl b0))), (2, .int p1), (3, .int p2)]) : W p l e rm_x_toWhom s m args below meth c H locs 0 0 (MQ below (va_Qi (fun (r : Int32) (_ : Unit) => r = o) (fun (_ : Unit) (U : State) => hW D vwCl ad (Sum.elim (xSH C pr) so) (Sum.elim g t) lt U.heap) (hA s0)) args s 0 0 (hA s0)) (F0 m 0 ls []) := by
  obtain ⟨hx, hb, hr, hml, hown, hts, hlocks, hK, hZ0, hA0⟩ := CX
  unfold x_toWhom at hf
  refine lv_iload_n hx hb dX1_toWhom_0 rfl (lv_at hl 3 rfl) ?_
  refine lv_iconst (v := -1) hx hb dX1_toWhom_1 (by decide) ?_
  refine hb_icmp_eq (tgt := 7) hx hb dX1_toWhom_2 (by decide) hf (fun hf => ?_) (fun hf => ?_)
  · refine lv_aload_n hx hb dX1_toWhom_7 rfl (lv_at hl 0 rfl) ?_
    refine hr_get (ci := 0) (C := RX1) (T := TX1) (N := 19) (r := .inl 0) hx hb hts in_X1 hown hK hM xS_0 rfl 0 (by decide) (hts _ q559) rfl (v := .ref (ad (.inl 10))) rfl dX1_toWhom_8 ?_
    refine hr_getN (ci := 2) (C := RX2) (T := TX2) (N := 6) (r := .inl 10) hx hb hts in_X2 hown hK hM xS_10 rfl 0 (by decide) (hZ_nest hZ0 q468 rfl) rfl (v := .ref (ad (.inl 11))) rfl dX1_toWhom_11 ?_
    refine lv_iload_n hx hb dX1_toWhom_14 rfl (lv_at hl 2 rfl) ?_
    obtain ⟨r1, hq, hf⟩ := hbind hf
    refine hx_getP ⟨hx, hb, hr, hml, hown, hts, hlocks, hK, hZ0, hA0⟩ hIx q802 hq hM hS hl.1 (lv_room (Nat.le_of_ble_eq_true rfl)) (Nat.le_of_ble_eq_true rfl) (Nat.le_of_ble_eq_true rfl) (Nat.le_of_ble_eq_true rfl) (Nat.le_of_ble_eq_true rfl) dX1_toWhom_15 (fun h_r1 H locs hM hS => ?_)
    refine hx_castGv hx hb hown hK hZ0 (hts _ q810) h_r1 hM dX1_toWhom_18 ?_
    refine lv_aload_n hx hb dX1_toWhom_21 rfl (lv_at hl 1 rfl) ?_
    obtain ⟨y2, hq, hf⟩ := hbind hf
    refine hx_gv_likes ⟨hx, hb, hr, hml, hown, hts, hlocks, hK, hZ0, hA0⟩ hIx h_r1 h_b0 q875 hq hM hS hl.1 (lv_room (Nat.le_of_ble_eq_true rfl)) (Nat.le_of_ble_eq_true rfl) (Nat.le_of_ble_eq_true rfl) (Nat.le_of_ble_eq_true rfl) (Nat.le_of_ble_eq_true rfl) dX1_toWhom_22 (fun H locs hM hS => ?_)
    refine lv_istore (lv' := [(4, .int y2), (0, .ref (ad (.inl 0))), (1, .ref (ad (.inl b0))), (2, .int p1), (3, .int p2)]) hx hb dX1_toWhom_25 hl (by decide) rfl (fun ls hl => ?_)
    refine lv_iload hx hb dX1_toWhom_27 (lv_at hl 0 rfl) ?_
    refine lv_iconst (v := -1) hx hb dX1_toWhom_29 (by decide) ?_
    refine hb_icmp_eq (tgt := 39) hx hb dX1_toWhom_30 (by decide) hf (fun hf => ?_) (fun hf => ?_)
    · exact w_x_toWhom_B39 ⟨hx, hb, hr, hml, hown, hts, hlocks, hK, hZ0, hA0⟩ hIx g b0 p1 p2 r1 y2 h_b0 h_r1 hf hM hS (lv_sub hl [1, 3] rfl)
    · refine lv_iload hx hb dX1_toWhom_33 (lv_at hl 0 rfl) ?_
      refine lv_iload_n hx hb dX1_toWhom_35 rfl (lv_at hl 3 rfl) ?_
      refine hb_icmp_ne (tgt := 56) hx hb dX1_toWhom_36 (by decide) hf (fun hf => ?_) (fun hf => ?_)
      · refine lv_iload hx hb dX1_toWhom_56 (lv_at hl 0 rfl) ?_
        have eo := Option.some.inj hf
        subst eo
        exact W.iret (v := y2) hx hb hr (fun T ht hW => ⟨⟨y2, (), rfl, rfl, by dsimp only; rw [ht]; exact hM⟩, hS.F ht⟩) hS.2.2 dX1_toWhom_58
      · exact w_x_toWhom_B39 ⟨hx, hb, hr, hml, hown, hts, hlocks, hK, hZ0, hA0⟩ hIx g b0 p1 p2 r1 y2 h_b0 h_r1 hf hM hS (lv_sub hl [1, 3] rfl)
  · refine lv_iload_n hx hb dX1_toWhom_5 rfl (lv_at hl 3 rfl) ?_
    have eo := Option.some.inj hf
    subst eo
    exact W.iret (v := p2) hx hb hr (fun T ht hW => ⟨⟨p2, (), rfl, rfl, by dsimp only; rw [ht]; exact hM⟩, hS.F ht⟩) hS.2.2 dX1_toWhom_6
set_option maxHeartbeats 4000000 in
set_option maxRecDepth 100000 in
theorem met_x_toWhom (l : Launch) (D : va_G) (C : Nat → Nat) (a0 : Array Value) (s0 : State) (ad : Rl → Nat) (so : Nat → Option hS) (pr : hPr) (t : hSt) (lt : Rl → Nat → Int64) (g : hSt) (b0 : Nat) (p1 : Int32) (p2 : Int32) (h_b0 : xSt C (xSH C pr) b0) {o : Int32} (hf : x_toWhom g pr b0 p1 p2 = some o) : Met l yX1_toWhom (ws_ yX1_toWhom cX1_toWhom 5 (some .int)) rm_x_toWhom (va_Pc [.ref (ad (.inl 0)), .ref (ad (.inl b0)), .int p1, .int p2] (hB D vwCl (hT C) (hA s0) (hZ a0 s0) ad (Sum.elim (xSH C pr) so) (Sum.elim g t) lt)) (va_Qi (fun (r : Int32) (_ : Unit) => r = o) (fun (_ : Unit) (U : State) => hW D vwCl ad (Sum.elim (xSH C pr) so) (Sum.elim g t) lt U.heap) (hA s0)) 0 0 (hA s0) := by
  refine Met.ofW (cc := cX1_toWhom) (maxL := 5) (ret := (some .int)) (by decide) rfl ?_
  intro p e s m args below meth c s₁ B hml hv
  obtain ⟨rfl, hM, hIx, hK, hZ0, hA0⟩ := hv
  have hl := lv_entry ([.ref (ad (.inl 0)), .ref (ad (.inl b0)), .int p1, .int p2]) (n := 5) (Nat.le_of_ble_eq_true rfl)
  rw [lg_entry_eq]
  generalize (lg_sl ([.ref (ad (.inl 0)), .ref (ad (.inl b0)), .int p1, .int p2]) ++ List.replicate (5 - (lg_sl ([.ref (ad (.inl 0)), .ref (ad (.inl b0)), .int p1, .int p2])).length) Slot.unset).toArray = ls at hl ⊢
  have hl : lv_has ls 5 [(0, .ref (ad (.inl 0))), (1, .ref (ad (.inl b0))), (2, .int p1), (3, .int p2)] := hl
  exact w_x_toWhom ⟨B.exec, B.bytes, B.returns, hml, findClass_of_methodNamed B.named, fun w h => atoms_spec (ws := ws_ yX1_toWhom cX1_toWhom 5 (some .int)) B.pre w (List.mem_cons_of_mem _ h), B.notSynchronized, hK, hZ0, hA0⟩ hIx g b0 p1 p2 h_b0 hf hM va_S.rf hl

def rm_x_mayChange : Room := { frames := 9, cells := 0, slots := 0, locals := 240 }
set_option maxHeartbeats 4000000 in
set_option maxRecDepth 100000 in
theorem w_x_mayChange_L2 {p : Program} {l : Launch} {e : Env} {s : State} {m : MethodId} {args : Array Value} {below : List Frame} {meth : Method} {c : Code} {D : va_G} {C : Nat → Nat} {a0 : Array Value} {s0 : State} {ad : Rl → Nat} {so : Nat → Option hS} {pr : hPr} {t : hSt} {lt : Rl → Nat → Int64} (CX : hCx D C a0 s0 p s m args meth c cX1_mayChange 3 RX1 (some .boolean)) (hIx : hI (hA s0) ad (Sum.elim (xSH C pr) so)) (g : hSt) (b0 : Nat) (h_b0 : xSt C (xSH C pr) b0) {oM : Int32} (x : (Unit) ⊕ (Int32)) (n : Nat) (q0 : Int32) (h0 : hiter (fun q : Int32 => x_mayChange_L2 g pr b0 q) n q0 = some x) (kx0 : ∀ x' : Unit, x = .inl x' → ∀ (H : Heap) (locs : List Loc) (ls : Array Slot), hW D vwCl ad (Sum.elim (xSH C pr) so) (Sum.elim g t) lt H → va_S (hA s0) s.heap H locs → lv_has ls 3 [(0, .ref (ad (.inl 0))), (1, .ref (ad (.inl b0)))] → W p l e rm_x_mayChange s m args below meth c H locs 0 0 (MQ below (va_Qi (fun (r : Int32) (_ : Unit) => r = oM) (fun (_ : Unit) (U : State) => hW D vwCl ad (Sum.elim (xSH C pr) so) (Sum.elim g t) lt U.heap) (hA s0)) args s 0 0 (hA s0)) (F0 m 57 ls [])) (kr0 : ∀ r : Int32, x = .inr r → r = oM) : ∀ (H : Heap) (locs : List Loc) (ls : Array Slot), hW D vwCl ad (Sum.elim (xSH C pr) so) (Sum.elim g t) lt H → va_S (hA s0) s.heap H locs → lv_has ls 3 [(0, .ref (ad (.inl 0))), (1, .ref (ad (.inl b0))), (2, .int q0)] → W p l e rm_x_mayChange s m args below meth c H locs 0 0 (MQ below (va_Qi (fun (r : Int32) (_ : Unit) => r = oM) (fun (_ : Unit) (U : State) => hW D vwCl ad (Sum.elim (xSH C pr) so) (Sum.elim g t) lt U.heap) (hA s0)) args s 0 0 (hA s0)) (F0 m 2 ls []) := by
  obtain ⟨hx, hb, hr, hml, hown, hts, hlocks, hK, hZ0, hA0⟩ := CX
  refine hiter_W (Wh := fun q => ∀ (H : Heap) (locs : List Loc) (ls : Array Slot), hW D vwCl ad (Sum.elim (xSH C pr) so) (Sum.elim g t) lt H → va_S (hA s0) s.heap H locs → lv_has ls 3 [(0, .ref (ad (.inl 0))), (1, .ref (ad (.inl b0))), (2, .int q)] → W p l e rm_x_mayChange s m args below meth c H locs 0 0 (MQ below (va_Qi (fun (r : Int32) (_ : Unit) => r = oM) (fun (_ : Unit) (U : State) => hW D vwCl ad (Sum.elim (xSH C pr) so) (Sum.elim g t) lt U.heap) (hA s0)) args s 0 0 (hA s0)) (F0 m 2 ls [])) ?_ n q0 h0
  intro q o hf kc kx1 H locs ls hM hS hl
  obtain ⟨v2_2, rfl⟩ : ∃ z, z = q := ⟨_, rfl⟩
  replace hf : x_mayChange_L2 g pr b0 v2_2 = some o := hf
  have kx : ∀ x' : Unit, o = .inr (.inl x') → ∀ (H : Heap) (locs : List Loc) (ls : Array Slot), hW D vwCl ad (Sum.elim (xSH C pr) so) (Sum.elim g t) lt H → va_S (hA s0) s.heap H locs → lv_has ls 3 [(0, .ref (ad (.inl 0))), (1, .ref (ad (.inl b0)))] → W p l e rm_x_mayChange s m args below meth c H locs 0 0 (MQ below (va_Qi (fun (r : Int32) (_ : Unit) => r = oM) (fun (_ : Unit) (U : State) => hW D vwCl ad (Sum.elim (xSH C pr) so) (Sum.elim g t) lt U.heap) (hA s0)) args s 0 0 (hA s0)) (F0 m 57 ls []) := fun x' ex => kx0 x' (kx1 _ ex).symm
  have kr : ∀ r : Int32, o = .inr (.inr r) → r = oM := fun r ex => kr0 r (kx1 _ ex).symm
  unfold x_mayChange_L2 at hf
  refine lv_iload_n hx hb dX1_mayChange_2 rfl (lv_at hl 2 rfl) ?_
  refine lv_aload_n hx hb dX1_mayChange_3 rfl (lv_at hl 0 rfl) ?_
  refine hr_get (ci := 0) (C := RX1) (T := TX1) (N := 19) (r := .inl 0) hx hb hts in_X1 hown hK hM xS_0 rfl 0 (by decide) (hts _ q559) rfl (v := .ref (ad (.inl 10))) rfl dX1_mayChange_4 ?_
  refine hr_getN (ci := 2) (C := RX2) (T := TX2) (N := 6) (r := .inl 10) hx hb hts in_X2 hown hK hM xS_10 rfl 0 (by decide) (hZ_nest hZ0 q468 rfl) rfl (v := .ref (ad (.inl 11))) rfl dX1_mayChange_7 ?_
  obtain ⟨y1, hq, hf⟩ := hbind hf
  refine hr_calli0 (va_runV (As := []) (rest := [.int v2_2]) ⟨hx, hb, hml, hown, hts⟩ (met_x_al_size l D C a0 s0 ad so pr t lt g 11 xs_11 hq) (cwV 0 hts (lw_V q642 q643 q644 q80 q645) rfl rfl rfl (by decide +kernel) ⟨Nat.le_of_ble_eq_true rfl, Nat.le_of_ble_eq_true rfl⟩) (hr_preV hZ_c hM hIx hK hZ0 hA0 hS (r := .inl 11) xS_11 (q := (RJ2, TJ2, 3)) rfl) rfl rfl hl.1 rfl (lv_room (Nat.le_of_ble_eq_true rfl)) dX1_mayChange_10 ⟨Nat.le_of_ble_eq_true rfl, Nat.le_of_ble_eq_true rfl⟩) hS (fun H locs hM hS => ?_)
  refine hb_icmp_ge (tgt := 57) hx hb dX1_mayChange_13 (by decide) hf (fun hf => ?_) (fun hf => ?_)
  · exact kx () (Option.some.inj hf).symm H locs ls hM hS (lv_sub hl [0, 1] rfl)
  · refine lv_aload_n hx hb dX1_mayChange_16 rfl (lv_at hl 1 rfl) ?_
    refine hr_getN (ci := 1) (C := RX4) (T := TX4) (N := 6) (r := .inl b0) hx hb hts in_X4 hown hK hM h_b0.o rfl 2 (by decide) (hZ_nest hZ0 q518 rfl) rfl (v := .ref (ad (.inl (b0 + 3)))) rfl dX1_mayChange_17 ?_
    refine lv_iload_n hx hb dX1_mayChange_20 rfl (lv_at hl 2 rfl) ?_
    refine hx_iald (r := (b0 + 3)) hx hb hK hM 0 h_b0.a3 rfl hf dX1_mayChange_21 (fun x2 hf => ?_)
    refine hb_if_le (tgt := 51) hx hb dX1_mayChange_22 (by decide) hf (fun hf => ?_) (fun hf => ?_)
    · obtain ⟨y2_3, ey, hf⟩ := hlet_ex hf
      refine lv_iinc (v := y2_3) (lv' := [(2, .int y2_3), (0, .ref (ad (.inl 0))), (1, .ref (ad (.inl b0)))]) hx hb dX1_mayChange_51 hl (k := 2) rfl (by rw [ey]; rfl) (by decide) rfl (fun ls hl => ?_)
      refine lv_goto (tgt := 2) hx hb dX1_mayChange_54 (by decide) ?_
      exact kc y2_3 (Option.some.inj hf).symm H locs ls hM hS (lv_sub hl [1, 2, 0] rfl)
    · refine lv_aload_n hx hb dX1_mayChange_25 rfl (lv_at hl 0 rfl) ?_
      refine hr_get (ci := 0) (C := RX1) (T := TX1) (N := 19) (r := .inl 0) hx hb hts in_X1 hown hK hM xS_0 rfl 0 (by decide) (hts _ q559) rfl (v := .ref (ad (.inl 10))) rfl dX1_mayChange_26 ?_
      refine hr_getN (ci := 2) (C := RX2) (T := TX2) (N := 6) (r := .inl 10) hx hb hts in_X2 hown hK hM xS_10 rfl 0 (by decide) (hZ_nest hZ0 q468 rfl) rfl (v := .ref (ad (.inl 11))) rfl dX1_mayChange_29 ?_
      refine lv_iload_n hx hb dX1_mayChange_32 rfl (lv_at hl 2 rfl) ?_
      obtain ⟨r4, hq, hf⟩ := hbind hf
      refine hx_getP ⟨hx, hb, hr, hml, hown, hts, hlocks, hK, hZ0, hA0⟩ hIx q802 hq hM hS hl.1 (lv_room (Nat.le_of_ble_eq_true rfl)) (Nat.le_of_ble_eq_true rfl) (Nat.le_of_ble_eq_true rfl) (Nat.le_of_ble_eq_true rfl) (Nat.le_of_ble_eq_true rfl) dX1_mayChange_33 (fun h_r4 H locs hM hS => ?_)
      refine hx_castGv hx hb hown hK hZ0 (hts _ q810) h_r4 hM dX1_mayChange_36 ?_
      refine lv_aload_n hx hb dX1_mayChange_39 rfl (lv_at hl 1 rfl) ?_
      refine hr_getN (ci := 1) (C := RX4) (T := TX4) (N := 6) (r := .inl b0) hx hb hts in_X4 hown hK hM h_b0.o rfl 5 (by decide) (hZ_nest hZ0 q527 rfl) rfl (v := .int (g b0 5)) rfl dX1_mayChange_40 ?_
      obtain ⟨y5, hq, hf⟩ := hbind hf
      refine hx_gv_isReady ⟨hx, hb, hr, hml, hown, hts, hlocks, hK, hZ0, hA0⟩ hIx h_r4 q811 hq hM hS hl.1 (lv_room (Nat.le_of_ble_eq_true rfl)) (Nat.le_of_ble_eq_true rfl) (Nat.le_of_ble_eq_true rfl) (Nat.le_of_ble_eq_true rfl) (Nat.le_of_ble_eq_true rfl) dX1_mayChange_43 (fun H locs hM hS => ?_)
      refine hb_if_ne (tgt := 51) hx hb dX1_mayChange_46 (by decide) hf (fun hf => ?_) (fun hf => ?_)
      · obtain ⟨y2_6, ey, hf⟩ := hlet_ex hf
        refine lv_iinc (v := y2_6) (lv' := [(2, .int y2_6), (0, .ref (ad (.inl 0))), (1, .ref (ad (.inl b0)))]) hx hb dX1_mayChange_51 hl (k := 2) rfl (by rw [ey]; rfl) (by decide) rfl (fun ls hl => ?_)
        refine lv_goto (tgt := 2) hx hb dX1_mayChange_54 (by decide) ?_
        exact kc y2_6 (Option.some.inj hf).symm H locs ls hM hS (lv_sub hl [1, 2, 0] rfl)
      · refine lv_iconst (v := 1) hx hb dX1_mayChange_49 (by decide) ?_
        have eo := kr (1 : Int32) (Option.some.inj hf).symm
        subst eo
        exact W.zret (v := (1 : Int32)) hx hb hr rfl (fun T ht hW => ⟨⟨(1 : Int32), (), rfl, rfl, by dsimp only; rw [ht]; exact hM⟩, hS.F ht⟩) hS.2.2 dX1_mayChange_50
set_option maxHeartbeats 4000000 in
set_option maxRecDepth 100000 in
theorem w_x_mayChange_L59 {p : Program} {l : Launch} {e : Env} {s : State} {m : MethodId} {args : Array Value} {below : List Frame} {meth : Method} {c : Code} {D : va_G} {C : Nat → Nat} {a0 : Array Value} {s0 : State} {ad : Rl → Nat} {so : Nat → Option hS} {pr : hPr} {t : hSt} {lt : Rl → Nat → Int64} (CX : hCx D C a0 s0 p s m args meth c cX1_mayChange 3 RX1 (some .boolean)) (hIx : hI (hA s0) ad (Sum.elim (xSH C pr) so)) (g : hSt) (b0 : Nat) (e8 : Unit) (h_b0 : xSt C (xSH C pr) b0) {oM : Int32} (x : (Unit) ⊕ (Int32)) (n : Nat) (q0 : Int32) (h0 : hiter (fun q : Int32 => x_mayChange_L59 g b0 q) n q0 = some x) (kx0 : ∀ x' : Unit, x = .inl x' → ∀ (H : Heap) (locs : List Loc) (ls : Array Slot), hW D vwCl ad (Sum.elim (xSH C pr) so) (Sum.elim g t) lt H → va_S (hA s0) s.heap H locs → lv_has ls 3 [] → W p l e rm_x_mayChange s m args below meth c H locs 0 0 (MQ below (va_Qi (fun (r : Int32) (_ : Unit) => r = oM) (fun (_ : Unit) (U : State) => hW D vwCl ad (Sum.elim (xSH C pr) so) (Sum.elim g t) lt U.heap) (hA s0)) args s 0 0 (hA s0)) (F0 m 103 ls [])) (kr0 : ∀ r : Int32, x = .inr r → r = oM) : ∀ (H : Heap) (locs : List Loc) (ls : Array Slot), hW D vwCl ad (Sum.elim (xSH C pr) so) (Sum.elim g t) lt H → va_S (hA s0) s.heap H locs → lv_has ls 3 [(0, .ref (ad (.inl 0))), (1, .ref (ad (.inl b0))), (2, .int q0)] → W p l e rm_x_mayChange s m args below meth c H locs 0 0 (MQ below (va_Qi (fun (r : Int32) (_ : Unit) => r = oM) (fun (_ : Unit) (U : State) => hW D vwCl ad (Sum.elim (xSH C pr) so) (Sum.elim g t) lt U.heap) (hA s0)) args s 0 0 (hA s0)) (F0 m 59 ls []) := by
  obtain ⟨hx, hb, hr, hml, hown, hts, hlocks, hK, hZ0, hA0⟩ := CX
  refine hiter_W (Wh := fun q => ∀ (H : Heap) (locs : List Loc) (ls : Array Slot), hW D vwCl ad (Sum.elim (xSH C pr) so) (Sum.elim g t) lt H → va_S (hA s0) s.heap H locs → lv_has ls 3 [(0, .ref (ad (.inl 0))), (1, .ref (ad (.inl b0))), (2, .int q)] → W p l e rm_x_mayChange s m args below meth c H locs 0 0 (MQ below (va_Qi (fun (r : Int32) (_ : Unit) => r = oM) (fun (_ : Unit) (U : State) => hW D vwCl ad (Sum.elim (xSH C pr) so) (Sum.elim g t) lt U.heap) (hA s0)) args s 0 0 (hA s0)) (F0 m 59 ls [])) ?_ n q0 h0
  intro q o hf kc kx1 H locs ls hM hS hl
  obtain ⟨v2_59, rfl⟩ : ∃ z, z = q := ⟨_, rfl⟩
  replace hf : x_mayChange_L59 g b0 v2_59 = some o := hf
  have kx : ∀ x' : Unit, o = .inr (.inl x') → ∀ (H : Heap) (locs : List Loc) (ls : Array Slot), hW D vwCl ad (Sum.elim (xSH C pr) so) (Sum.elim g t) lt H → va_S (hA s0) s.heap H locs → lv_has ls 3 [] → W p l e rm_x_mayChange s m args below meth c H locs 0 0 (MQ below (va_Qi (fun (r : Int32) (_ : Unit) => r = oM) (fun (_ : Unit) (U : State) => hW D vwCl ad (Sum.elim (xSH C pr) so) (Sum.elim g t) lt U.heap) (hA s0)) args s 0 0 (hA s0)) (F0 m 103 ls []) := fun x' ex => kx0 x' (kx1 _ ex).symm
  have kr : ∀ r : Int32, o = .inr (.inr r) → r = oM := fun r ex => kr0 r (kx1 _ ex).symm
  unfold x_mayChange_L59 at hf
  refine lv_iload_n hx hb dX1_mayChange_59 rfl (lv_at hl 2 rfl) ?_
  refine lv_aload_n hx hb dX1_mayChange_60 rfl (lv_at hl 0 rfl) ?_
  refine hr_get (ci := 0) (C := RX1) (T := TX1) (N := 19) (r := .inl 0) hx hb hts in_X1 hown hK hM xS_0 rfl 0 (by decide) (hts _ q559) rfl (v := .ref (ad (.inl 10))) rfl dX1_mayChange_61 ?_
  refine hr_getN (ci := 2) (C := RX2) (T := TX2) (N := 6) (r := .inl 10) hx hb hts in_X2 hown hK hM xS_10 rfl 2 (by decide) (hZ_nest hZ0 q475 rfl) rfl (v := .int (g 10 2)) rfl dX1_mayChange_64 ?_
  refine hb_icmp_ge (tgt := 103) hx hb dX1_mayChange_67 (by decide) hf (fun hf => ?_) (fun hf => ?_)
  · exact kx () (Option.some.inj hf).symm H locs ls hM hS (lv_sub hl [] rfl)
  · refine lv_aload_n hx hb dX1_mayChange_70 rfl (lv_at hl 0 rfl) ?_
    refine hr_get (ci := 0) (C := RX1) (T := TX1) (N := 19) (r := .inl 0) hx hb hts in_X1 hown hK hM xS_0 rfl 0 (by decide) (hts _ q559) rfl (v := .ref (ad (.inl 10))) rfl dX1_mayChange_71 ?_
    refine hr_getN (ci := 2) (C := RX2) (T := TX2) (N := 6) (r := .inl 10) hx hb hts in_X2 hown hK hM xS_10 rfl 3 (by decide) (hZ_nest hZ0 q478 rfl) rfl (v := .int (g 10 3)) rfl dX1_mayChange_74 ?_
    refine lv_iload_n hx hb dX1_mayChange_77 rfl (lv_at hl 2 rfl) ?_
    refine lv_ishr hx hb dX1_mayChange_78 ?_
    refine lv_iconst (v := 1) hx hb dX1_mayChange_79 (by decide) ?_
    refine lv_iand hx hb dX1_mayChange_80 ?_
    refine lv_iconst (v := 1) hx hb dX1_mayChange_81 (by decide) ?_
    refine hb_icmp_ne (tgt := 97) hx hb dX1_mayChange_82 (by decide) hf (fun hf => ?_) (fun hf => ?_)
    · obtain ⟨y2_9, ey, hf⟩ := hlet_ex hf
      refine lv_iinc (v := y2_9) (lv' := [(2, .int y2_9), (0, .ref (ad (.inl 0))), (1, .ref (ad (.inl b0)))]) hx hb dX1_mayChange_97 hl (k := 2) rfl (by rw [ey]; rfl) (by decide) rfl (fun ls hl => ?_)
      refine lv_goto (tgt := 59) hx hb dX1_mayChange_100 (by decide) ?_
      exact kc y2_9 (Option.some.inj hf).symm H locs ls hM hS (lv_sub hl [1, 2, 0] rfl)
    · refine lv_aload_n hx hb dX1_mayChange_85 rfl (lv_at hl 1 rfl) ?_
      refine hr_getN (ci := 1) (C := RX4) (T := TX4) (N := 6) (r := .inl b0) hx hb hts in_X4 hown hK hM h_b0.o rfl 4 (by decide) (hZ_nest hZ0 q525 rfl) rfl (v := .ref (ad (.inl (b0 + 5)))) rfl dX1_mayChange_86 ?_
      refine lv_iload_n hx hb dX1_mayChange_89 rfl (lv_at hl 2 rfl) ?_
      refine hx_iald (r := (b0 + 5)) hx hb hK hM 0 h_b0.a5 rfl hf dX1_mayChange_90 (fun x10 hf => ?_)
      refine lv_iconst (v := 1) hx hb dX1_mayChange_91 (by decide) ?_
      refine hb_icmp_le (tgt := 97) hx hb dX1_mayChange_92 (by decide) hf (fun hf => ?_) (fun hf => ?_)
      · obtain ⟨y2_11, ey, hf⟩ := hlet_ex hf
        refine lv_iinc (v := y2_11) (lv' := [(2, .int y2_11), (0, .ref (ad (.inl 0))), (1, .ref (ad (.inl b0)))]) hx hb dX1_mayChange_97 hl (k := 2) rfl (by rw [ey]; rfl) (by decide) rfl (fun ls hl => ?_)
        refine lv_goto (tgt := 59) hx hb dX1_mayChange_100 (by decide) ?_
        exact kc y2_11 (Option.some.inj hf).symm H locs ls hM hS (lv_sub hl [1, 2, 0] rfl)
      · refine lv_iconst (v := 1) hx hb dX1_mayChange_95 (by decide) ?_
        have eo := kr (1 : Int32) (Option.some.inj hf).symm
        subst eo
        exact W.zret (v := (1 : Int32)) hx hb hr rfl (fun T ht hW => ⟨⟨(1 : Int32), (), rfl, rfl, by dsimp only; rw [ht]; exact hM⟩, hS.F ht⟩) hS.2.2 dX1_mayChange_96
set_option maxHeartbeats 4000000 in
set_option maxRecDepth 100000 in
theorem w_x_mayChange {p : Program} {l : Launch} {e : Env} {s : State} {m : MethodId} {args : Array Value} {below : List Frame} {meth : Method} {c : Code} {D : va_G} {C : Nat → Nat} {a0 : Array Value} {s0 : State} {ad : Rl → Nat} {so : Nat → Option hS} {pr : hPr} {t : hSt} {lt : Rl → Nat → Int64} (CX : hCx D C a0 s0 p s m args meth c cX1_mayChange 3 RX1 (some .boolean)) (hIx : hI (hA s0) ad (Sum.elim (xSH C pr) so)) (g : hSt) (b0 : Nat) (h_b0 : xSt C (xSH C pr) b0) {o : Int32} (hf : x_mayChange g pr b0 = some o) {H : Heap} {locs : List Loc} (hM : hW D vwCl ad (Sum.elim (xSH C pr) so) (Sum.elim g t) lt H) (hS : va_S (hA s0) s.heap H locs) {ls : Array Slot} (hl : lv_has ls 3 [(0, .ref (ad (.inl 0))), (1, .ref (ad (.inl b0)))]) : W p l e rm_x_mayChange s m args below meth c H locs 0 0 (MQ below (va_Qi (fun (r : Int32) (_ : Unit) => r = o) (fun (_ : Unit) (U : State) => hW D vwCl ad (Sum.elim (xSH C pr) so) (Sum.elim g t) lt U.heap) (hA s0)) args s 0 0 (hA s0)) (F0 m 0 ls []) := by
  obtain ⟨hx, hb, hr, hml, hown, hts, hlocks, hK, hZ0, hA0⟩ := CX
  unfold x_mayChange at hf
  refine lv_iconst (v := 0) hx hb dX1_mayChange_0 (by decide) ?_
  refine lv_istore_n (lv' := [(2, .int (0 : Int32)), (0, .ref (ad (.inl 0))), (1, .ref (ad (.inl b0)))]) hx hb dX1_mayChange_1 rfl hl (by decide) rfl (fun ls hl => ?_)
  obtain ⟨x7, hq, hf⟩ := hbind hf
  refine w_x_mayChange_L2 ⟨hx, hb, hr, hml, hown, hts, hlocks, hK, hZ0, hA0⟩ hIx g b0 h_b0 x7 hFU (0 : Int32) hq (fun e8 ex1 H locs ls hM hS hl => ?_) (fun r er => ?_) H locs ls hM hS (lv_sub hl [1, 2, 0] rfl)
  · subst ex1
    replace hf := hcase_l hf
    refine lv_iconst (v := 0) hx hb dX1_mayChange_57 (by decide) ?_
    refine lv_istore_n (lv' := [(2, .int (0 : Int32)), (0, .ref (ad (.inl 0))), (1, .ref (ad (.inl b0)))]) hx hb dX1_mayChange_58 rfl hl (by decide) rfl (fun ls hl => ?_)
    obtain ⟨x12, hq, hf⟩ := hbind hf
    refine w_x_mayChange_L59 ⟨hx, hb, hr, hml, hown, hts, hlocks, hK, hZ0, hA0⟩ hIx g b0 e8 h_b0 x12 hFU (0 : Int32) hq (fun e13 ex1 H locs ls hM hS hl => ?_) (fun r er => ?_) H locs ls hM hS (lv_sub hl [1, 2, 0] rfl)
    · subst ex1
      replace hf := hcase_l hf
      refine lv_iconst (v := 0) hx hb dX1_mayChange_103 (by decide) ?_
      have eo := Option.some.inj hf
      subst eo
      exact W.zret (v := (0 : Int32)) hx hb hr rfl (fun T ht hW => ⟨⟨(0 : Int32), (), rfl, rfl, by dsimp only; rw [ht]; exact hM⟩, hS.F ht⟩) hS.2.2 dX1_mayChange_104
    · subst er
      first | exact Option.some.inj (hcase_r hf) | exact Option.some.inj hf
  · subst er
    first | exact Option.some.inj (hcase_r hf) | exact Option.some.inj hf
set_option maxHeartbeats 4000000 in
set_option maxRecDepth 100000 in
theorem met_x_mayChange (l : Launch) (D : va_G) (C : Nat → Nat) (a0 : Array Value) (s0 : State) (ad : Rl → Nat) (so : Nat → Option hS) (pr : hPr) (t : hSt) (lt : Rl → Nat → Int64) (g : hSt) (b0 : Nat) (h_b0 : xSt C (xSH C pr) b0) {o : Int32} (hf : x_mayChange g pr b0 = some o) : Met l yX1_mayChange (ws_ yX1_mayChange cX1_mayChange 3 (some .boolean)) rm_x_mayChange (va_Pc [.ref (ad (.inl 0)), .ref (ad (.inl b0))] (hB D vwCl (hT C) (hA s0) (hZ a0 s0) ad (Sum.elim (xSH C pr) so) (Sum.elim g t) lt)) (va_Qi (fun (r : Int32) (_ : Unit) => r = o) (fun (_ : Unit) (U : State) => hW D vwCl ad (Sum.elim (xSH C pr) so) (Sum.elim g t) lt U.heap) (hA s0)) 0 0 (hA s0) := by
  refine Met.ofW (cc := cX1_mayChange) (maxL := 3) (ret := (some .boolean)) (by decide) rfl ?_
  intro p e s m args below meth c s₁ B hml hv
  obtain ⟨rfl, hM, hIx, hK, hZ0, hA0⟩ := hv
  have hl := lv_entry ([.ref (ad (.inl 0)), .ref (ad (.inl b0))]) (n := 3) (Nat.le_of_ble_eq_true rfl)
  rw [lg_entry_eq]
  generalize (lg_sl ([.ref (ad (.inl 0)), .ref (ad (.inl b0))]) ++ List.replicate (3 - (lg_sl ([.ref (ad (.inl 0)), .ref (ad (.inl b0))])).length) Slot.unset).toArray = ls at hl ⊢
  have hl : lv_has ls 3 [(0, .ref (ad (.inl 0))), (1, .ref (ad (.inl b0)))] := hl
  exact w_x_mayChange ⟨B.exec, B.bytes, B.returns, hml, findClass_of_methodNamed B.named, fun w h => atoms_spec (ws := ws_ yX1_mayChange cX1_mayChange 3 (some .boolean)) B.pre w (List.mem_cons_of_mem _ h), B.notSynchronized, hK, hZ0, hA0⟩ hIx g b0 h_b0 hf hM va_S.rf hl

def rm_x_dries : Room := { frames := 3, cells := 0, slots := 0, locals := 32 }
set_option maxHeartbeats 4000000 in
set_option maxRecDepth 100000 in
theorem w_x_dries_L2 {p : Program} {l : Launch} {e : Env} {s : State} {m : MethodId} {args : Array Value} {below : List Frame} {meth : Method} {c : Code} {D : va_G} {C : Nat → Nat} {a0 : Array Value} {s0 : State} {ad : Rl → Nat} {so : Nat → Option hS} {pr : hPr} {t : hSt} {lt : Rl → Nat → Int64} (CX : hCx D C a0 s0 p s m args meth c cX1_dries 3 RX1 (none)) (hIx : hI (hA s0) ad (Sum.elim (xSH C pr) so)) (g : hSt) (b0 : Nat) (h_b0 : xSt C (xSH C pr) b0) {oM : hSt} (x : hSt) (n : Nat) (q0 : Int32 × hSt) (h0 : hiter (fun q : Int32 × hSt => x_dries_L2 b0 q.1 q.2) n q0 = some x) (kx0 : ∀ (H : Heap) (locs : List Loc) (ls : Array Slot), hW D vwCl ad (Sum.elim (xSH C pr) so) (Sum.elim x t) lt H → va_S (hA s0) s.heap H locs → lv_has ls 3 [(1, .ref (ad (.inl b0)))] → W p l e rm_x_dries s m args below meth c H locs 0 0 (MQ below (va_Qv (fun (_ : Unit) => True) (fun (_ : Unit) (U : State) => hW D vwCl ad (Sum.elim (xSH C pr) so) (Sum.elim oM t) lt U.heap) (hA s0)) args s 0 0 (hA s0)) (F0 m 52 ls [])) : ∀ (H : Heap) (locs : List Loc) (ls : Array Slot), hW D vwCl ad (Sum.elim (xSH C pr) so) (Sum.elim q0.2 t) lt H → va_S (hA s0) s.heap H locs → lv_has ls 3 [(0, .ref (ad (.inl 0))), (1, .ref (ad (.inl b0))), (2, .int q0.1)] → W p l e rm_x_dries s m args below meth c H locs 0 0 (MQ below (va_Qv (fun (_ : Unit) => True) (fun (_ : Unit) (U : State) => hW D vwCl ad (Sum.elim (xSH C pr) so) (Sum.elim oM t) lt U.heap) (hA s0)) args s 0 0 (hA s0)) (F0 m 2 ls []) := by
  obtain ⟨hx, hb, hr, hml, hown, hts, hlocks, hK, hZ0, hA0⟩ := CX
  refine hiter_W (Wh := fun q => ∀ (H : Heap) (locs : List Loc) (ls : Array Slot), hW D vwCl ad (Sum.elim (xSH C pr) so) (Sum.elim q.2 t) lt H → va_S (hA s0) s.heap H locs → lv_has ls 3 [(0, .ref (ad (.inl 0))), (1, .ref (ad (.inl b0))), (2, .int q.1)] → W p l e rm_x_dries s m args below meth c H locs 0 0 (MQ below (va_Qv (fun (_ : Unit) => True) (fun (_ : Unit) (U : State) => hW D vwCl ad (Sum.elim (xSH C pr) so) (Sum.elim oM t) lt U.heap) (hA s0)) args s 0 0 (hA s0)) (F0 m 2 ls [])) ?_ n q0 h0
  intro q o hf kc kx1 H locs ls hM hS hl
  obtain ⟨v2_2, g_2⟩ := q
  replace hf : x_dries_L2 b0 v2_2 g_2 = some o := hf
  have kx : ∀ x' : hSt, o = .inr x' → ∀ (H : Heap) (locs : List Loc) (ls : Array Slot), hW D vwCl ad (Sum.elim (xSH C pr) so) (Sum.elim x' t) lt H → va_S (hA s0) s.heap H locs → lv_has ls 3 [(1, .ref (ad (.inl b0)))] → W p l e rm_x_dries s m args below meth c H locs 0 0 (MQ below (va_Qv (fun (_ : Unit) => True) (fun (_ : Unit) (U : State) => hW D vwCl ad (Sum.elim (xSH C pr) so) (Sum.elim oM t) lt U.heap) (hA s0)) args s 0 0 (hA s0)) (F0 m 52 ls []) := fun x' ex => by rw [kx1 _ ex]; exact kx0
  unfold x_dries_L2 at hf
  refine lv_iload_n hx hb dX1_dries_2 rfl (lv_at hl 2 rfl) ?_
  refine lv_aload_n hx hb dX1_dries_3 rfl (lv_at hl 0 rfl) ?_
  refine hr_get (ci := 0) (C := RX1) (T := TX1) (N := 19) (r := .inl 0) hx hb hts in_X1 hown hK hM xS_0 rfl 0 (by decide) (hts _ q559) rfl (v := .ref (ad (.inl 10))) rfl dX1_dries_4 ?_
  refine hr_getN (ci := 2) (C := RX2) (T := TX2) (N := 6) (r := .inl 10) hx hb hts in_X2 hown hK hM xS_10 rfl 2 (by decide) (hZ_nest hZ0 q475 rfl) rfl (v := .int (g_2 10 2)) rfl dX1_dries_7 ?_
  refine hb_icmp_ge (tgt := 52) hx hb dX1_dries_10 (by decide) hf (fun hf => ?_) (fun hf => ?_)
  · exact kx g_2 (Option.some.inj hf).symm H locs ls hM hS (lv_sub hl [1] rfl)
  · refine lv_aload_n hx hb dX1_dries_13 rfl (lv_at hl 0 rfl) ?_
    refine hr_get (ci := 0) (C := RX1) (T := TX1) (N := 19) (r := .inl 0) hx hb hts in_X1 hown hK hM xS_0 rfl 0 (by decide) (hts _ q559) rfl (v := .ref (ad (.inl 10))) rfl dX1_dries_14 ?_
    refine hr_getN (ci := 2) (C := RX2) (T := TX2) (N := 6) (r := .inl 10) hx hb hts in_X2 hown hK hM xS_10 rfl 3 (by decide) (hZ_nest hZ0 q478 rfl) rfl (v := .int (g_2 10 3)) rfl dX1_dries_17 ?_
    refine lv_iload_n hx hb dX1_dries_20 rfl (lv_at hl 2 rfl) ?_
    refine lv_ishr hx hb dX1_dries_21 ?_
    refine lv_iconst (v := 1) hx hb dX1_dries_22 (by decide) ?_
    refine lv_iand hx hb dX1_dries_23 ?_
    refine lv_iconst (v := 1) hx hb dX1_dries_24 (by decide) ?_
    refine hb_icmp_ne (tgt := 46) hx hb dX1_dries_25 (by decide) hf (fun hf => ?_) (fun hf => ?_)
    · obtain ⟨y2_1, ey, hf⟩ := hlet_ex hf
      refine lv_iinc (v := y2_1) (lv' := [(2, .int y2_1), (0, .ref (ad (.inl 0))), (1, .ref (ad (.inl b0)))]) hx hb dX1_dries_46 hl (k := 2) rfl (by rw [ey]; rfl) (by decide) rfl (fun ls hl => ?_)
      refine lv_goto (tgt := 2) hx hb dX1_dries_49 (by decide) ?_
      exact kc (y2_1, g_2) (Option.some.inj hf).symm H locs ls hM hS (lv_sub hl [1, 2, 0] rfl)
    · refine lv_aload_n hx hb dX1_dries_28 rfl (lv_at hl 1 rfl) ?_
      refine hr_getN (ci := 1) (C := RX4) (T := TX4) (N := 6) (r := .inl b0) hx hb hts in_X4 hown hK hM h_b0.o rfl 4 (by decide) (hZ_nest hZ0 q525 rfl) rfl (v := .ref (ad (.inl (b0 + 5)))) rfl dX1_dries_29 ?_
      refine lv_iload_n hx hb dX1_dries_32 rfl (lv_at hl 2 rfl) ?_
      refine lv_iconst (v := 1) hx hb dX1_dries_33 (by decide) ?_
      refine lv_aload_n hx hb dX1_dries_34 rfl (lv_at hl 1 rfl) ?_
      refine hr_getN (ci := 1) (C := RX4) (T := TX4) (N := 6) (r := .inl b0) hx hb hts in_X4 hown hK hM h_b0.o rfl 4 (by decide) (hZ_nest hZ0 q525 rfl) rfl (v := .ref (ad (.inl (b0 + 5)))) rfl dX1_dries_35 ?_
      refine lv_iload_n hx hb dX1_dries_38 rfl (lv_at hl 2 rfl) ?_
      refine hx_iald (r := (b0 + 5)) hx hb hK hM 0 h_b0.a5 rfl hf dX1_dries_39 (fun x2 hf => ?_)
      refine lv_iconst (v := 1) hx hb dX1_dries_40 (by decide) ?_
      refine lv_isub hx hb dX1_dries_41 ?_
      refine va_mmax hx hb (by rw [hml]; exact hl.1.symm) hown (hts _ q654) (hts _ q240) (hts _ q90) (hts _ q241) (Nat.le_of_ble_eq_true rfl) (Nat.le_of_ble_eq_true rfl) (Nat.le_of_ble_eq_true rfl) (Nat.le_of_ble_eq_true rfl) dX1_dries_42 ?_
      refine hx_iast (r := (b0 + 5)) hx hb hK hM hIx hS 0 h_b0.a5 rfl hf dX1_dries_45 (fun g3 H locs hf hM hS => ?_)
      obtain ⟨y2_4, ey, hf⟩ := hlet_ex hf
      refine lv_iinc (v := y2_4) (lv' := [(2, .int y2_4), (0, .ref (ad (.inl 0))), (1, .ref (ad (.inl b0)))]) hx hb dX1_dries_46 hl (k := 2) rfl (by rw [ey]; rfl) (by decide) rfl (fun ls hl => ?_)
      refine lv_goto (tgt := 2) hx hb dX1_dries_49 (by decide) ?_
      exact kc (y2_4, g3) (Option.some.inj hf).symm H locs ls hM hS (lv_sub hl [1, 2, 0] rfl)
set_option maxHeartbeats 4000000 in
set_option maxRecDepth 100000 in
theorem w_x_dries {p : Program} {l : Launch} {e : Env} {s : State} {m : MethodId} {args : Array Value} {below : List Frame} {meth : Method} {c : Code} {D : va_G} {C : Nat → Nat} {a0 : Array Value} {s0 : State} {ad : Rl → Nat} {so : Nat → Option hS} {pr : hPr} {t : hSt} {lt : Rl → Nat → Int64} (CX : hCx D C a0 s0 p s m args meth c cX1_dries 3 RX1 (none)) (hIx : hI (hA s0) ad (Sum.elim (xSH C pr) so)) (g : hSt) (b0 : Nat) (h_b0 : xSt C (xSH C pr) b0) {o : hSt} (hf : x_dries g b0 = some o) {H : Heap} {locs : List Loc} (hM : hW D vwCl ad (Sum.elim (xSH C pr) so) (Sum.elim g t) lt H) (hS : va_S (hA s0) s.heap H locs) {ls : Array Slot} (hl : lv_has ls 3 [(0, .ref (ad (.inl 0))), (1, .ref (ad (.inl b0)))]) : W p l e rm_x_dries s m args below meth c H locs 0 0 (MQ below (va_Qv (fun (_ : Unit) => True) (fun (_ : Unit) (U : State) => hW D vwCl ad (Sum.elim (xSH C pr) so) (Sum.elim o t) lt U.heap) (hA s0)) args s 0 0 (hA s0)) (F0 m 0 ls []) := by
  obtain ⟨hx, hb, hr, hml, hown, hts, hlocks, hK, hZ0, hA0⟩ := CX
  unfold x_dries at hf
  refine lv_iconst (v := 0) hx hb dX1_dries_0 (by decide) ?_
  refine lv_istore_n (lv' := [(2, .int (0 : Int32)), (0, .ref (ad (.inl 0))), (1, .ref (ad (.inl b0)))]) hx hb dX1_dries_1 rfl hl (by decide) rfl (fun ls hl => ?_)
  obtain ⟨x5, hq, hf⟩ := hbind hf
  refine w_x_dries_L2 ⟨hx, hb, hr, hml, hown, hts, hlocks, hK, hZ0, hA0⟩ hIx g b0 h_b0 x5 hFU ((0 : Int32), g) hq (fun H locs ls hM hS hl => ?_) H locs ls hM hS (lv_sub hl [1, 2, 0] rfl)
  refine lv_aload_n hx hb dX1_dries_52 rfl (lv_at hl 0 rfl) ?_
  refine lv_dup hx hb dX1_dries_53 rfl ?_
  refine hr_getN (ci := 1) (C := RX4) (T := TX4) (N := 6) (r := .inl b0) hx hb hts in_X4 hown hK hM h_b0.o rfl 5 (by decide) (hZ_nest hZ0 q527 rfl) rfl (v := .int (x5 b0 5)) rfl dX1_dries_54 ?_
  refine lv_iconst (v := 1) hx hb dX1_dries_57 (by decide) ?_
  refine lv_iadd hx hb dX1_dries_58 ?_
  refine hx_putN (r := b0) (ci := 1) (C := RX4) (T := TX4) (N := 6) hx hb hts in_X4 tyX4 tyX4_ok nmX4 hown hK hM hIx hS h_b0.o rfl 5 (by decide) (hZ_nest hZ0 q527 rfl) rfl rfl rfl hf dX1_dries_59 (fun g6 H locs hf hM hS => ?_)
  have eo := Option.some.inj hf
  subst eo
  exact W.vret hx hb hr (fun T ht hW => ⟨⟨(), rfl, trivial, by dsimp only; rw [ht]; exact hM⟩, hS.F ht⟩) hS.2.2 dX1_dries_62
set_option maxHeartbeats 4000000 in
set_option maxRecDepth 100000 in
theorem met_x_dries (l : Launch) (D : va_G) (C : Nat → Nat) (a0 : Array Value) (s0 : State) (ad : Rl → Nat) (so : Nat → Option hS) (pr : hPr) (t : hSt) (lt : Rl → Nat → Int64) (g : hSt) (b0 : Nat) (h_b0 : xSt C (xSH C pr) b0) {o : hSt} (hf : x_dries g b0 = some o) : Met l yX1_dries (ws_ yX1_dries cX1_dries 3 (none)) rm_x_dries (va_Pc [.ref (ad (.inl 0)), .ref (ad (.inl b0))] (hB D vwCl (hT C) (hA s0) (hZ a0 s0) ad (Sum.elim (xSH C pr) so) (Sum.elim g t) lt)) (va_Qv (fun (_ : Unit) => True) (fun (_ : Unit) (U : State) => hW D vwCl ad (Sum.elim (xSH C pr) so) (Sum.elim o t) lt U.heap) (hA s0)) 0 0 (hA s0) := by
  refine Met.ofW (cc := cX1_dries) (maxL := 3) (ret := (none)) (by decide) rfl ?_
  intro p e s m args below meth c s₁ B hml hv
  obtain ⟨rfl, hM, hIx, hK, hZ0, hA0⟩ := hv
  have hl := lv_entry ([.ref (ad (.inl 0)), .ref (ad (.inl b0))]) (n := 3) (Nat.le_of_ble_eq_true rfl)
  rw [lg_entry_eq]
  generalize (lg_sl ([.ref (ad (.inl 0)), .ref (ad (.inl b0))]) ++ List.replicate (3 - (lg_sl ([.ref (ad (.inl 0)), .ref (ad (.inl b0))])).length) Slot.unset).toArray = ls at hl ⊢
  have hl : lv_has ls 3 [(0, .ref (ad (.inl 0))), (1, .ref (ad (.inl b0)))] := hl
  exact w_x_dries ⟨B.exec, B.bytes, B.returns, hml, findClass_of_methodNamed B.named, fun w h => atoms_spec (ws := ws_ yX1_dries cX1_dries 3 (none)) B.pre w (List.mem_cons_of_mem _ h), B.notSynchronized, hK, hZ0, hA0⟩ hIx g b0 h_b0 hf hM va_S.rf hl

def rm_x_still : Room := { frames := 11, cells := 0, slots := 0, locals := 266 }
set_option maxHeartbeats 4000000 in
set_option maxRecDepth 100000 in
theorem w_x_still_L26 {p : Program} {l : Launch} {e : Env} {s : State} {m : MethodId} {args : Array Value} {below : List Frame} {meth : Method} {c : Code} {D : va_G} {C : Nat → Nat} {a0 : Array Value} {s0 : State} {ad : Rl → Nat} {so : Nat → Option hS} {pr : hPr} {t : hSt} {lt : Rl → Nat → Int64} (CX : hCx D C a0 s0 p s m args meth c cX1_still 5 RX1 (some .int)) (hIx : hI (hA s0) ad (Sum.elim (xSH C pr) so)) (g : hSt) (y1 : hSt) (v1_16 : Int32) (g_16 : hSt) {oM : Int32 × hSt} (x : Int32 × hSt) (n : Nat) (q0 : Int32 × Int32 × hSt) (h0 : hiter (fun q : Int32 × Int32 × hSt => x_still_L26 pr q.1 q.2.1 q.2.2) n q0 = some x) (kx0 : ∀ (H : Heap) (locs : List Loc) (ls : Array Slot), hW D vwCl ad (Sum.elim (xSH C pr) so) (Sum.elim x.2 t) lt H → va_S (hA s0) s.heap H locs → lv_has ls 5 [(0, .ref (ad (.inl 0))), (1, .int v1_16), (2, .int x.1)] → W p l e rm_x_still s m args below meth c H locs 0 0 (MQ below (va_Qi (fun (r : Int32) (_ : Unit) => r = oM.1) (fun (_ : Unit) (U : State) => hW D vwCl ad (Sum.elim (xSH C pr) so) (Sum.elim oM.2 t) lt U.heap) (hA s0)) args s 0 0 (hA s0)) (F0 m 117 ls [])) : ∀ (H : Heap) (locs : List Loc) (ls : Array Slot), hW D vwCl ad (Sum.elim (xSH C pr) so) (Sum.elim q0.2.2 t) lt H → va_S (hA s0) s.heap H locs → lv_has ls 5 [(0, .ref (ad (.inl 0))), (1, .int v1_16), (2, .int q0.1), (3, .int q0.2.1)] → W p l e rm_x_still s m args below meth c H locs 0 0 (MQ below (va_Qi (fun (r : Int32) (_ : Unit) => r = oM.1) (fun (_ : Unit) (U : State) => hW D vwCl ad (Sum.elim (xSH C pr) so) (Sum.elim oM.2 t) lt U.heap) (hA s0)) args s 0 0 (hA s0)) (F0 m 26 ls []) := by
  obtain ⟨hx, hb, hr, hml, hown, hts, hlocks, hK, hZ0, hA0⟩ := CX
  refine hiter_W (Wh := fun q => ∀ (H : Heap) (locs : List Loc) (ls : Array Slot), hW D vwCl ad (Sum.elim (xSH C pr) so) (Sum.elim q.2.2 t) lt H → va_S (hA s0) s.heap H locs → lv_has ls 5 [(0, .ref (ad (.inl 0))), (1, .int v1_16), (2, .int q.1), (3, .int q.2.1)] → W p l e rm_x_still s m args below meth c H locs 0 0 (MQ below (va_Qi (fun (r : Int32) (_ : Unit) => r = oM.1) (fun (_ : Unit) (U : State) => hW D vwCl ad (Sum.elim (xSH C pr) so) (Sum.elim oM.2 t) lt U.heap) (hA s0)) args s 0 0 (hA s0)) (F0 m 26 ls [])) ?_ n q0 h0
  intro q o hf kc kx1 H locs ls hM hS hl
  obtain ⟨v2_26, v3_26, g_26⟩ := q
  replace hf : x_still_L26 pr v2_26 v3_26 g_26 = some o := hf
  have kx : ∀ x' : Int32 × hSt, o = .inr x' → ∀ (H : Heap) (locs : List Loc) (ls : Array Slot), hW D vwCl ad (Sum.elim (xSH C pr) so) (Sum.elim x'.2 t) lt H → va_S (hA s0) s.heap H locs → lv_has ls 5 [(0, .ref (ad (.inl 0))), (1, .int v1_16), (2, .int x'.1)] → W p l e rm_x_still s m args below meth c H locs 0 0 (MQ below (va_Qi (fun (r : Int32) (_ : Unit) => r = oM.1) (fun (_ : Unit) (U : State) => hW D vwCl ad (Sum.elim (xSH C pr) so) (Sum.elim oM.2 t) lt U.heap) (hA s0)) args s 0 0 (hA s0)) (F0 m 117 ls []) := fun x' ex => by rw [kx1 _ ex]; exact kx0
  unfold x_still_L26 at hf
  refine lv_iload_n hx hb dX1_still_26 rfl (lv_at hl 3 rfl) ?_
  refine lv_aload_n hx hb dX1_still_27 rfl (lv_at hl 0 rfl) ?_
  refine hr_get (ci := 0) (C := RX1) (T := TX1) (N := 19) (r := .inl 0) hx hb hts in_X1 hown hK hM xS_0 rfl 0 (by decide) (hts _ q559) rfl (v := .ref (ad (.inl 10))) rfl dX1_still_28 ?_
  refine hr_getN (ci := 2) (C := RX2) (T := TX2) (N := 6) (r := .inl 10) hx hb hts in_X2 hown hK hM xS_10 rfl 0 (by decide) (hZ_nest hZ0 q468 rfl) rfl (v := .ref (ad (.inl 11))) rfl dX1_still_31 ?_
  obtain ⟨y2, hq, hf⟩ := hbind hf
  refine hr_calli0 (va_runV (As := []) (rest := [.int v3_26]) ⟨hx, hb, hml, hown, hts⟩ (met_x_al_size l D C a0 s0 ad so pr t lt g_26 11 xs_11 hq) (cwV 0 hts (lw_V q642 q643 q644 q80 q645) rfl rfl rfl (by decide +kernel) ⟨Nat.le_of_ble_eq_true rfl, Nat.le_of_ble_eq_true rfl⟩) (hr_preV hZ_c hM hIx hK hZ0 hA0 hS (r := .inl 11) xS_11 (q := (RJ2, TJ2, 3)) rfl) rfl rfl hl.1 rfl (lv_room (Nat.le_of_ble_eq_true rfl)) dX1_still_34 ⟨Nat.le_of_ble_eq_true rfl, Nat.le_of_ble_eq_true rfl⟩) hS (fun H locs hM hS => ?_)
  refine hb_icmp_ge (tgt := 117) hx hb dX1_still_37 (by decide) hf (fun hf => ?_) (fun hf => ?_)
  · exact kx (v2_26, g_26) (Option.some.inj hf).symm H locs ls hM hS (lv_sub hl [0, 1, 2] rfl)
  · refine lv_aload_n hx hb dX1_still_40 rfl (lv_at hl 0 rfl) ?_
    refine lv_aload_n hx hb dX1_still_41 rfl (lv_at hl 0 rfl) ?_
    refine hr_get (ci := 0) (C := RX1) (T := TX1) (N := 19) (r := .inl 0) hx hb hts in_X1 hown hK hM xS_0 rfl 2 (by decide) (hts _ q561) rfl (v := .ref (ad (.inl 30))) rfl dX1_still_42 ?_
    refine lv_iload_n hx hb dX1_still_45 rfl (lv_at hl 3 rfl) ?_
    obtain ⟨y3, hq, hf⟩ := hbind hf
    refine hr_calli0 (va_runV (As := [.ref (ad (.inl 30)), .int v3_26]) (rest := []) ⟨hx, hb, hml, hown, hts⟩ (met_x_chosen l D C a0 s0 ad so pr t lt g_26 30 v3_26 xs_st30 hq) (cwV 2 hts (lw_V q798 q800 qs10 q76 q801) rfl rfl rfl (by decide +kernel) ⟨Nat.le_of_ble_eq_true rfl, Nat.le_of_ble_eq_true rfl⟩) (hr_preV hZ_c hM hIx hK hZ0 hA0 hS (r := .inl 0) xS_0 (q := (RX1, TX1, 19)) rfl) rfl rfl hl.1 rfl (lv_room (Nat.le_of_ble_eq_true rfl)) dX1_still_46 ⟨Nat.le_of_ble_eq_true rfl, Nat.le_of_ble_eq_true rfl⟩) hS (fun H locs hM hS => ?_)
    refine lv_istore (lv' := [(4, .int y3), (0, .ref (ad (.inl 0))), (1, .int v1_16), (2, .int v2_26), (3, .int v3_26)]) hx hb dX1_still_49 hl (by decide) rfl (fun ls hl => ?_)
    refine lv_iload hx hb dX1_still_51 (lv_at hl 0 rfl) ?_
    refine lv_iconst (v := -1) hx hb dX1_still_53 (by decide) ?_
    refine hb_icmp_ne (tgt := 60) hx hb dX1_still_54 (by decide) hf (fun hf => ?_) (fun hf => ?_)
    · refine lv_aload_n hx hb dX1_still_60 rfl (lv_at hl 1 rfl) ?_
      refine lv_aload_n hx hb dX1_still_61 rfl (lv_at hl 1 rfl) ?_
      refine hr_get (ci := 0) (C := RX1) (T := TX1) (N := 19) (r := .inl 0) hx hb hts in_X1 hown hK hM xS_0 rfl 2 (by decide) (hts _ q561) rfl (v := .ref (ad (.inl 30))) rfl dX1_still_62 ?_
      refine lv_iload_n hx hb dX1_still_65 rfl (lv_at hl 4 rfl) ?_
      refine lv_iload hx hb dX1_still_66 (lv_at hl 0 rfl) ?_
      refine lv_aload_n hx hb dX1_still_68 rfl (lv_at hl 1 rfl) ?_
      refine lv_aload_n hx hb dX1_still_69 rfl (lv_at hl 1 rfl) ?_
      refine hr_get (ci := 0) (C := RX1) (T := TX1) (N := 19) (r := .inl 0) hx hb hts in_X1 hown hK hM xS_0 rfl 2 (by decide) (hts _ q561) rfl (v := .ref (ad (.inl 30))) rfl dX1_still_70 ?_
      refine lv_iload_n hx hb dX1_still_73 rfl (lv_at hl 4 rfl) ?_
      refine lv_iload hx hb dX1_still_74 (lv_at hl 0 rfl) ?_
      refine lv_aload_n hx hb dX1_still_76 rfl (lv_at hl 1 rfl) ?_
      refine hr_get (ci := 0) (C := RX1) (T := TX1) (N := 19) (r := .inl 0) hx hb hts in_X1 hown hK hM xS_0 rfl 2 (by decide) (hts _ q561) rfl (v := .ref (ad (.inl 30))) rfl dX1_still_77 ?_
      refine hr_getN (ci := 1) (C := RX4) (T := TX4) (N := 6) (r := .inl 30) hx hb hts in_X4 hown hK hM (xs_st30 (C := C) (pr := pr)).o rfl 2 (by decide) (hZ_nest hZ0 q518 rfl) rfl (v := .ref (ad (.inl (30 + 3)))) rfl dX1_still_80 ?_
      refine lv_iload_n hx hb dX1_still_83 rfl (lv_at hl 4 rfl) ?_
      refine hx_iald (r := (30 + 3)) hx hb hK hM 0 (xs_st30 (C := C) (pr := pr)).a3 rfl hf dX1_still_84 (fun x4 hf => ?_)
      obtain ⟨y5, hq, hf⟩ := hbind hf
      refine hr_calli0 (va_runV (As := [.ref (ad (.inl 30)), .int v3_26, .int y3, .int x4]) (rest := [.int y3, .int v3_26, .ref (ad (.inl 30)), .ref (ad (.inl 0))]) ⟨hx, hb, hml, hown, hts⟩ (met_x_sandFor l D C a0 s0 ad so pr t lt g_26 30 v3_26 y3 x4 xs_st30 hq) (cwV 4 hts (lw_V q842 q844 qs11 q76 q845) rfl rfl rfl (by decide +kernel) ⟨Nat.le_of_ble_eq_true rfl, Nat.le_of_ble_eq_true rfl⟩) (hr_preV hZ_c hM hIx hK hZ0 hA0 hS (r := .inl 0) xS_0 (q := (RX1, TX1, 19)) rfl) rfl rfl hl.1 rfl (lv_room (Nat.le_of_ble_eq_true rfl)) dX1_still_85 ⟨Nat.le_of_ble_eq_true rfl, Nat.le_of_ble_eq_true rfl⟩) hS (fun H locs hM hS => ?_)
      refine lv_aload_n hx hb dX1_still_88 rfl (lv_at hl 1 rfl) ?_
      refine lv_aload_n hx hb dX1_still_89 rfl (lv_at hl 1 rfl) ?_
      refine hr_get (ci := 0) (C := RX1) (T := TX1) (N := 19) (r := .inl 0) hx hb hts in_X1 hown hK hM xS_0 rfl 2 (by decide) (hts _ q561) rfl (v := .ref (ad (.inl 30))) rfl dX1_still_90 ?_
      refine lv_iload_n hx hb dX1_still_93 rfl (lv_at hl 4 rfl) ?_
      refine lv_aload_n hx hb dX1_still_94 rfl (lv_at hl 1 rfl) ?_
      refine hr_get (ci := 0) (C := RX1) (T := TX1) (N := 19) (r := .inl 0) hx hb hts in_X1 hown hK hM xS_0 rfl 2 (by decide) (hts _ q561) rfl (v := .ref (ad (.inl 30))) rfl dX1_still_95 ?_
      refine hr_getN (ci := 1) (C := RX4) (T := TX4) (N := 6) (r := .inl 30) hx hb hts in_X4 hown hK hM (xs_st30 (C := C) (pr := pr)).o rfl 3 (by decide) (hZ_nest hZ0 q522 rfl) rfl (v := .ref (ad (.inl (30 + 4)))) rfl dX1_still_98 ?_
      refine lv_iload_n hx hb dX1_still_101 rfl (lv_at hl 4 rfl) ?_
      refine hx_iald (r := (30 + 4)) hx hb hK hM 0 (xs_st30 (C := C) (pr := pr)).a4 rfl hf dX1_still_102 (fun x6 hf => ?_)
      obtain ⟨y7, hq, hf⟩ := hbind hf
      refine hr_calli0 (va_runV (As := [.ref (ad (.inl 30)), .int v3_26, .int x6]) (rest := [.int y5, .int y3, .int v3_26, .ref (ad (.inl 30)), .ref (ad (.inl 0))]) ⟨hx, hb, hml, hown, hts⟩ (met_x_toWhom l D C a0 s0 ad so pr t lt g_26 30 v3_26 x6 xs_st30 hq) (cwV 3 hts (lw_V q871 q873 qs12 q76 q874) rfl rfl rfl (by decide +kernel) ⟨Nat.le_of_ble_eq_true rfl, Nat.le_of_ble_eq_true rfl⟩) (hr_preV hZ_c hM hIx hK hZ0 hA0 hS (r := .inl 0) xS_0 (q := (RX1, TX1, 19)) rfl) rfl rfl hl.1 rfl (lv_room (Nat.le_of_ble_eq_true rfl)) dX1_still_103 ⟨Nat.le_of_ble_eq_true rfl, Nat.le_of_ble_eq_true rfl⟩) hS (fun H locs hM hS => ?_)
      obtain ⟨y8, hq, hf⟩ := hbind hf
      refine hr_callv0 (va_runV (As := [.ref (ad (.inl 30)), .int v3_26, .int y3, .int y5, .int y7]) (rest := []) ⟨hx, hb, hml, hown, hts⟩ (met_x_gives l D C a0 s0 ad so pr t lt g_26 30 v3_26 y3 y5 y7 xs_st30 hq) (cwV 5 hts (lw_V q758 q760 qs8 q76 q761) rfl rfl rfl (by decide +kernel) ⟨Nat.le_of_ble_eq_true rfl, Nat.le_of_ble_eq_true rfl⟩) (hr_preV hZ_c hM hIx hK hZ0 hA0 hS (r := .inl 0) xS_0 (q := (RX1, TX1, 19)) rfl) rfl rfl hl.1 rfl (lv_room (Nat.le_of_ble_eq_true rfl)) dX1_still_106 ⟨Nat.le_of_ble_eq_true rfl, Nat.le_of_ble_eq_true rfl⟩) hS (fun H locs hM hS => ?_)
      refine lv_iconst (v := 1) hx hb dX1_still_109 (by decide) ?_
      refine lv_istore_n (lv' := [(2, .int (1 : Int32)), (4, .int y3), (0, .ref (ad (.inl 0))), (1, .int v1_16), (3, .int v3_26)]) hx hb dX1_still_110 rfl hl (by decide) rfl (fun ls hl => ?_)
      obtain ⟨y3_9, ey, hf⟩ := hlet_ex hf
      refine lv_iinc (v := y3_9) (lv' := [(3, .int y3_9), (2, .int (1 : Int32)), (4, .int y3), (0, .ref (ad (.inl 0))), (1, .int v1_16)]) hx hb dX1_still_111 hl (k := 4) rfl (by rw [ey]; rfl) (by decide) rfl (fun ls hl => ?_)
      refine lv_goto (tgt := 26) hx hb dX1_still_114 (by decide) ?_
      exact kc ((1 : Int32), y3_9, y8) (Option.some.inj hf).symm H locs ls hM hS (lv_sub hl [3, 4, 1, 0] rfl)
    · refine lv_goto (tgt := 111) hx hb dX1_still_57 (by decide) ?_
      obtain ⟨y3_10, ey, hf⟩ := hlet_ex hf
      refine lv_iinc (v := y3_10) (lv' := [(3, .int y3_10), (4, .int y3), (0, .ref (ad (.inl 0))), (1, .int v1_16), (2, .int v2_26)]) hx hb dX1_still_111 hl (k := 4) rfl (by rw [ey]; rfl) (by decide) rfl (fun ls hl => ?_)
      refine lv_goto (tgt := 26) hx hb dX1_still_114 (by decide) ?_
      exact kc (v2_26, y3_10, g_26) (Option.some.inj hf).symm H locs ls hM hS (lv_sub hl [2, 3, 4, 0] rfl)
set_option maxHeartbeats 4000000 in
set_option maxRecDepth 100000 in
theorem w_x_still_B140 {p : Program} {l : Launch} {e : Env} {s : State} {m : MethodId} {args : Array Value} {below : List Frame} {meth : Method} {c : Code} {D : va_G} {C : Nat → Nat} {a0 : Array Value} {s0 : State} {ad : Rl → Nat} {so : Nat → Option hS} {pr : hPr} {t : hSt} {lt : Rl → Nat → Int64} (CX : hCx D C a0 s0 p s m args meth c cX1_still 5 RX1 (some .int)) (hIx : hI (hA s0) ad (Sum.elim (xSH C pr) so)) (g : hSt) (y1 : hSt) (v1_16 : Int32) (g_16 : hSt) (x11 : Int32 × hSt) {oM : Int32 × hSt} {o : (Int32 × hSt) ⊕ ((hSt) ⊕ (Int32 × hSt))} (hf : x_still_B140 v1_16 x11 = some o) (kc : ∀ s' : Int32 × hSt, o = .inl s' → ∀ (H : Heap) (locs : List Loc) (ls : Array Slot), hW D vwCl ad (Sum.elim (xSH C pr) so) (Sum.elim s'.2 t) lt H → va_S (hA s0) s.heap H locs → lv_has ls 5 [(0, .ref (ad (.inl 0))), (1, .int s'.1)] → W p l e rm_x_still s m args below meth c H locs 0 0 (MQ below (va_Qi (fun (r : Int32) (_ : Unit) => r = oM.1) (fun (_ : Unit) (U : State) => hW D vwCl ad (Sum.elim (xSH C pr) so) (Sum.elim oM.2 t) lt U.heap) (hA s0)) args s 0 0 (hA s0)) (F0 m 16 ls [])) (kx : ∀ x' : hSt, o = .inr (.inl x') → ∀ (H : Heap) (locs : List Loc) (ls : Array Slot), hW D vwCl ad (Sum.elim (xSH C pr) so) (Sum.elim x' t) lt H → va_S (hA s0) s.heap H locs → lv_has ls 5 [] → W p l e rm_x_still s m args below meth c H locs 0 0 (MQ below (va_Qi (fun (r : Int32) (_ : Unit) => r = oM.1) (fun (_ : Unit) (U : State) => hW D vwCl ad (Sum.elim (xSH C pr) so) (Sum.elim oM.2 t) lt U.heap) (hA s0)) args s 0 0 (hA s0)) (F0 m 154 ls [])) (kr : ∀ r : Int32 × hSt, o = .inr (.inr r) → r = oM) {H : Heap} {locs : List Loc} (hM : hW D vwCl ad (Sum.elim (xSH C pr) so) (Sum.elim x11.2 t) lt H) (hS : va_S (hA s0) s.heap H locs) {ls : Array Slot} (hl : lv_has ls 5 [(0, .ref (ad (.inl 0))), (1, .int v1_16)]) : W p l e rm_x_still s m args below meth c H locs 0 0 (MQ below (va_Qi (fun (r : Int32) (_ : Unit) => r = oM.1) (fun (_ : Unit) (U : State) => hW D vwCl ad (Sum.elim (xSH C pr) so) (Sum.elim oM.2 t) lt U.heap) (hA s0)) args s 0 0 (hA s0)) (F0 m 140 ls []) := by
  obtain ⟨hx, hb, hr, hml, hown, hts, hlocks, hK, hZ0, hA0⟩ := CX
  unfold x_still_B140 at hf
  refine lv_aload_n hx hb dX1_still_140 rfl (lv_at hl 0 rfl) ?_
  refine lv_aload_n hx hb dX1_still_141 rfl (lv_at hl 0 rfl) ?_
  refine hr_get (ci := 0) (C := RX1) (T := TX1) (N := 19) (r := .inl 0) hx hb hts in_X1 hown hK hM xS_0 rfl 2 (by decide) (hts _ q561) rfl (v := .ref (ad (.inl 30))) rfl dX1_still_142 ?_
  obtain ⟨y12, hq, hf⟩ := hbind hf
  refine hr_callv0 (va_runV (As := [.ref (ad (.inl 30))]) (rest := []) ⟨hx, hb, hml, hown, hts⟩ (met_x_dries l D C a0 s0 ad so pr t lt x11.2 30 xs_st30 hq) (cwV 1 hts (lw_V q894 q896 qs14 q76 q897) rfl rfl rfl (by decide +kernel) ⟨Nat.le_of_ble_eq_true rfl, Nat.le_of_ble_eq_true rfl⟩) (hr_preV hZ_c hM hIx hK hZ0 hA0 hS (r := .inl 0) xS_0 (q := (RX1, TX1, 19)) rfl) rfl rfl hl.1 rfl (lv_room (Nat.le_of_ble_eq_true rfl)) dX1_still_145 ⟨Nat.le_of_ble_eq_true rfl, Nat.le_of_ble_eq_true rfl⟩) hS (fun H locs hM hS => ?_)
  obtain ⟨y1_13, ey, hf⟩ := hlet_ex hf
  refine lv_iinc (v := y1_13) (lv' := [(1, .int y1_13), (0, .ref (ad (.inl 0)))]) hx hb dX1_still_148 hl (k := 1) rfl (by rw [ey]; rfl) (by decide) rfl (fun ls hl => ?_)
  refine lv_goto (tgt := 16) hx hb dX1_still_151 (by decide) ?_
  exact kc (y1_13, y12) (Option.some.inj hf).symm H locs ls hM hS (lv_sub hl [1, 0] rfl)
set_option maxHeartbeats 4000000 in
set_option maxRecDepth 100000 in
theorem w_x_still_L16 {p : Program} {l : Launch} {e : Env} {s : State} {m : MethodId} {args : Array Value} {below : List Frame} {meth : Method} {c : Code} {D : va_G} {C : Nat → Nat} {a0 : Array Value} {s0 : State} {ad : Rl → Nat} {so : Nat → Option hS} {pr : hPr} {t : hSt} {lt : Rl → Nat → Int64} (CX : hCx D C a0 s0 p s m args meth c cX1_still 5 RX1 (some .int)) (hIx : hI (hA s0) ad (Sum.elim (xSH C pr) so)) (g : hSt) (y1 : hSt) {oM : Int32 × hSt} (x : (hSt) ⊕ (Int32 × hSt)) (n : Nat) (q0 : Int32 × hSt) (h0 : hiter (fun q : Int32 × hSt => x_still_L16 pr q.1 q.2) n q0 = some x) (kx0 : ∀ x' : hSt, x = .inl x' → ∀ (H : Heap) (locs : List Loc) (ls : Array Slot), hW D vwCl ad (Sum.elim (xSH C pr) so) (Sum.elim x' t) lt H → va_S (hA s0) s.heap H locs → lv_has ls 5 [] → W p l e rm_x_still s m args below meth c H locs 0 0 (MQ below (va_Qi (fun (r : Int32) (_ : Unit) => r = oM.1) (fun (_ : Unit) (U : State) => hW D vwCl ad (Sum.elim (xSH C pr) so) (Sum.elim oM.2 t) lt U.heap) (hA s0)) args s 0 0 (hA s0)) (F0 m 154 ls [])) (kr0 : ∀ r : Int32 × hSt, x = .inr r → r = oM) : ∀ (H : Heap) (locs : List Loc) (ls : Array Slot), hW D vwCl ad (Sum.elim (xSH C pr) so) (Sum.elim q0.2 t) lt H → va_S (hA s0) s.heap H locs → lv_has ls 5 [(0, .ref (ad (.inl 0))), (1, .int q0.1)] → W p l e rm_x_still s m args below meth c H locs 0 0 (MQ below (va_Qi (fun (r : Int32) (_ : Unit) => r = oM.1) (fun (_ : Unit) (U : State) => hW D vwCl ad (Sum.elim (xSH C pr) so) (Sum.elim oM.2 t) lt U.heap) (hA s0)) args s 0 0 (hA s0)) (F0 m 16 ls []) := by
  obtain ⟨hx, hb, hr, hml, hown, hts, hlocks, hK, hZ0, hA0⟩ := CX
  refine hiter_W (Wh := fun q => ∀ (H : Heap) (locs : List Loc) (ls : Array Slot), hW D vwCl ad (Sum.elim (xSH C pr) so) (Sum.elim q.2 t) lt H → va_S (hA s0) s.heap H locs → lv_has ls 5 [(0, .ref (ad (.inl 0))), (1, .int q.1)] → W p l e rm_x_still s m args below meth c H locs 0 0 (MQ below (va_Qi (fun (r : Int32) (_ : Unit) => r = oM.1) (fun (_ : Unit) (U : State) => hW D vwCl ad (Sum.elim (xSH C pr) so) (Sum.elim oM.2 t) lt U.heap) (hA s0)) args s 0 0 (hA s0)) (F0 m 16 ls [])) ?_ n q0 h0
  intro q o hf kc kx1 H locs ls hM hS hl
  obtain ⟨v1_16, g_16⟩ := q
  replace hf : x_still_L16 pr v1_16 g_16 = some o := hf
  have kx : ∀ x' : hSt, o = .inr (.inl x') → ∀ (H : Heap) (locs : List Loc) (ls : Array Slot), hW D vwCl ad (Sum.elim (xSH C pr) so) (Sum.elim x' t) lt H → va_S (hA s0) s.heap H locs → lv_has ls 5 [] → W p l e rm_x_still s m args below meth c H locs 0 0 (MQ below (va_Qi (fun (r : Int32) (_ : Unit) => r = oM.1) (fun (_ : Unit) (U : State) => hW D vwCl ad (Sum.elim (xSH C pr) so) (Sum.elim oM.2 t) lt U.heap) (hA s0)) args s 0 0 (hA s0)) (F0 m 154 ls []) := fun x' ex => kx0 x' (kx1 _ ex).symm
  have kr : ∀ r : Int32 × hSt, o = .inr (.inr r) → r = oM := fun r ex => kr0 r (kx1 _ ex).symm
  unfold x_still_L16 at hf
  refine lv_iload_n hx hb dX1_still_16 rfl (lv_at hl 1 rfl) ?_
  refine lv_bipush (v := 100) hx hb dX1_still_17 (by decide) ?_
  refine hb_icmp_ge (tgt := 154) hx hb dX1_still_19 (by decide) hf (fun hf => ?_) (fun hf => ?_)
  · exact kx g_16 (Option.some.inj hf).symm H locs ls hM hS (lv_sub hl [] rfl)
  · refine lv_iconst (v := 0) hx hb dX1_still_22 (by decide) ?_
    refine lv_istore_n (lv' := [(2, .int (0 : Int32)), (0, .ref (ad (.inl 0))), (1, .int v1_16)]) hx hb dX1_still_23 rfl hl (by decide) rfl (fun ls hl => ?_)
    refine lv_iconst (v := 0) hx hb dX1_still_24 (by decide) ?_
    refine lv_istore_n (lv' := [(3, .int (0 : Int32)), (2, .int (0 : Int32)), (0, .ref (ad (.inl 0))), (1, .int v1_16)]) hx hb dX1_still_25 rfl hl (by decide) rfl (fun ls hl => ?_)
    obtain ⟨x11, hq, hf⟩ := hbind hf
    refine w_x_still_L26 ⟨hx, hb, hr, hml, hown, hts, hlocks, hK, hZ0, hA0⟩ hIx g y1 v1_16 g_16 x11 hFU ((0 : Int32), (0 : Int32), g_16) hq (fun H locs ls hM hS hl => ?_) H locs ls hM hS (lv_sub hl [2, 3, 1, 0] rfl)
    refine lv_iload_n hx hb dX1_still_117 rfl (lv_at hl 2 rfl) ?_
    refine hb_if_ne (tgt := 140) hx hb dX1_still_118 (by decide) hf (fun hf => ?_) (fun hf => ?_)
    · exact w_x_still_B140 ⟨hx, hb, hr, hml, hown, hts, hlocks, hK, hZ0, hA0⟩ hIx g y1 v1_16 g_16 x11 hf kc kx kr hM hS (lv_sub hl [0, 1] rfl)
    · refine lv_aload_n hx hb dX1_still_121 rfl (lv_at hl 0 rfl) ?_
      refine lv_aload_n hx hb dX1_still_122 rfl (lv_at hl 0 rfl) ?_
      refine hr_get (ci := 0) (C := RX1) (T := TX1) (N := 19) (r := .inl 0) hx hb hts in_X1 hown hK hM xS_0 rfl 2 (by decide) (hts _ q561) rfl (v := .ref (ad (.inl 30))) rfl dX1_still_123 ?_
      obtain ⟨y14, hq, hf⟩ := hbind hf
      refine hr_calli0 (va_runV (As := [.ref (ad (.inl 30))]) (rest := []) ⟨hx, hb, hml, hown, hts⟩ (met_x_mayChange l D C a0 s0 ad so pr t lt x11.2 30 xs_st30 hq) (cwV 1 hts (lw_V q890 q892 qs13 q76 q893) rfl rfl rfl (by decide +kernel) ⟨Nat.le_of_ble_eq_true rfl, Nat.le_of_ble_eq_true rfl⟩) (hr_preV hZ_c hM hIx hK hZ0 hA0 hS (r := .inl 0) xS_0 (q := (RX1, TX1, 19)) rfl) rfl rfl hl.1 rfl (lv_room (Nat.le_of_ble_eq_true rfl)) dX1_still_126 ⟨Nat.le_of_ble_eq_true rfl, Nat.le_of_ble_eq_true rfl⟩) hS (fun H locs hM hS => ?_)
      refine hb_if_ne (tgt := 140) hx hb dX1_still_129 (by decide) hf (fun hf => ?_) (fun hf => ?_)
      · exact w_x_still_B140 ⟨hx, hb, hr, hml, hown, hts, hlocks, hK, hZ0, hA0⟩ hIx g y1 v1_16 g_16 x11 hf kc kx kr hM hS (lv_sub hl [0, 1] rfl)
      · refine lv_aload_n hx hb dX1_still_132 rfl (lv_at hl 0 rfl) ?_
        refine hr_get (ci := 0) (C := RX1) (T := TX1) (N := 19) (r := .inl 0) hx hb hts in_X1 hown hK hM xS_0 rfl 2 (by decide) (hts _ q561) rfl (v := .ref (ad (.inl 30))) rfl dX1_still_133 ?_
        refine hr_getN (ci := 1) (C := RX4) (T := TX4) (N := 6) (r := .inl 30) hx hb hts in_X4 hown hK hM (xs_st30 (C := C) (pr := pr)).o rfl 5 (by decide) (hZ_nest hZ0 q527 rfl) rfl (v := .int (x11.2 30 5)) rfl dX1_still_136 ?_
        have eo := kr ((x11.2 30 5), x11.2) (Option.some.inj hf).symm
        subst eo
        exact W.iret (v := (x11.2 30 5)) hx hb hr (fun T ht hW => ⟨⟨(x11.2 30 5), (), rfl, rfl, by dsimp only; rw [ht]; exact hM⟩, hS.F ht⟩) hS.2.2 dX1_still_139
set_option maxHeartbeats 4000000 in
set_option maxRecDepth 100000 in
theorem w_x_still {p : Program} {l : Launch} {e : Env} {s : State} {m : MethodId} {args : Array Value} {below : List Frame} {meth : Method} {c : Code} {D : va_G} {C : Nat → Nat} {a0 : Array Value} {s0 : State} {ad : Rl → Nat} {so : Nat → Option hS} {pr : hPr} {t : hSt} {lt : Rl → Nat → Int64} (CX : hCx D C a0 s0 p s m args meth c cX1_still 5 RX1 (some .int)) (hIx : hI (hA s0) ad (Sum.elim (xSH C pr) so)) (g : hSt) {o : Int32 × hSt} (hf : x_still g pr = some o) {H : Heap} {locs : List Loc} (hM : hW D vwCl ad (Sum.elim (xSH C pr) so) (Sum.elim g t) lt H) (hS : va_S (hA s0) s.heap H locs) {ls : Array Slot} (hl : lv_has ls 5 [(0, .ref (ad (.inl 0)))]) : W p l e rm_x_still s m args below meth c H locs 0 0 (MQ below (va_Qi (fun (r : Int32) (_ : Unit) => r = o.1) (fun (_ : Unit) (U : State) => hW D vwCl ad (Sum.elim (xSH C pr) so) (Sum.elim o.2 t) lt U.heap) (hA s0)) args s 0 0 (hA s0)) (F0 m 0 ls []) := by
  obtain ⟨hx, hb, hr, hml, hown, hts, hlocks, hK, hZ0, hA0⟩ := CX
  unfold x_still at hf
  refine lv_aload_n hx hb dX1_still_0 rfl (lv_at hl 0 rfl) ?_
  refine hr_get (ci := 0) (C := RX1) (T := TX1) (N := 19) (r := .inl 0) hx hb hts in_X1 hown hK hM xS_0 rfl 2 (by decide) (hts _ q561) rfl (v := .ref (ad (.inl 30))) rfl dX1_still_1 ?_
  refine lv_aload_n hx hb dX1_still_4 rfl (lv_at hl 0 rfl) ?_
  refine hr_get (ci := 0) (C := RX1) (T := TX1) (N := 19) (r := .inl 0) hx hb hts in_X1 hown hK hM xS_0 rfl 1 (by decide) (hts _ q560) rfl (v := .ref (ad (.inl 20))) rfl dX1_still_5 ?_
  refine hr_getN (ci := 3) (C := RX3) (T := TX3) (N := 3) (r := .inl 20) hx hb hts in_X3 hown hK hM xS_20 rfl 0 (by decide) (hZ_nest hZ0 q544 rfl) rfl (v := .ref (ad (.inl 24))) rfl dX1_still_8 ?_
  obtain ⟨y1, hq, hf⟩ := hbind hf
  refine hr_callv0 (va_runV (As := [.ref (ad (.inl 24))]) (rest := []) ⟨hx, hb, hml, hown, hts⟩ (met_x_st_like l D C a0 s0 ad so pr t lt g 30 24 xs_st30 xs_st24 hq) (cwV 1 hts (lw_V q793 q794 q795 q98 q796) rfl rfl rfl (by decide +kernel) ⟨Nat.le_of_ble_eq_true rfl, Nat.le_of_ble_eq_true rfl⟩) (hr_preV hZ_c hM hIx hK hZ0 hA0 hS (r := .inl 30) (xs_st30 (C := C) (pr := pr)).o (q := (RX4, TX4, 6)) rfl) rfl rfl hl.1 rfl (lv_room (Nat.le_of_ble_eq_true rfl)) dX1_still_11 ⟨Nat.le_of_ble_eq_true rfl, Nat.le_of_ble_eq_true rfl⟩) hS (fun H locs hM hS => ?_)
  refine lv_iconst (v := 0) hx hb dX1_still_14 (by decide) ?_
  refine lv_istore_n (lv' := [(1, .int (0 : Int32)), (0, .ref (ad (.inl 0)))]) hx hb dX1_still_15 rfl hl (by decide) rfl (fun ls hl => ?_)
  obtain ⟨x15, hq, hf⟩ := hbind hf
  refine w_x_still_L16 ⟨hx, hb, hr, hml, hown, hts, hlocks, hK, hZ0, hA0⟩ hIx g y1 x15 hFU ((0 : Int32), y1) hq (fun e16 ex1 H locs ls hM hS hl => ?_) (fun r er => ?_) H locs ls hM hS (lv_sub hl [1, 0] rfl)
  · subst ex1
    replace hf := hcase_l hf
    refine lv_iconst (v := -1) hx hb dX1_still_154 (by decide) ?_
    have eo := Option.some.inj hf
    subst eo
    exact W.iret (v := (-1 : Int32)) hx hb hr (fun T ht hW => ⟨⟨(-1 : Int32), (), rfl, rfl, by dsimp only; rw [ht]; exact hM⟩, hS.F ht⟩) hS.2.2 dX1_still_155
  · subst er
    first | exact Option.some.inj (hcase_r hf) | exact Option.some.inj hf
set_option maxHeartbeats 4000000 in
set_option maxRecDepth 100000 in
theorem met_x_still (l : Launch) (D : va_G) (C : Nat → Nat) (a0 : Array Value) (s0 : State) (ad : Rl → Nat) (so : Nat → Option hS) (pr : hPr) (t : hSt) (lt : Rl → Nat → Int64) (g : hSt) {o : Int32 × hSt} (hf : x_still g pr = some o) : Met l yX1_still (ws_ yX1_still cX1_still 5 (some .int)) rm_x_still (va_Pc [.ref (ad (.inl 0))] (hB D vwCl (hT C) (hA s0) (hZ a0 s0) ad (Sum.elim (xSH C pr) so) (Sum.elim g t) lt)) (va_Qi (fun (r : Int32) (_ : Unit) => r = o.1) (fun (_ : Unit) (U : State) => hW D vwCl ad (Sum.elim (xSH C pr) so) (Sum.elim o.2 t) lt U.heap) (hA s0)) 0 0 (hA s0) := by
  refine Met.ofW (cc := cX1_still) (maxL := 5) (ret := (some .int)) (by decide) rfl ?_
  intro p e s m args below meth c s₁ B hml hv
  obtain ⟨rfl, hM, hIx, hK, hZ0, hA0⟩ := hv
  have hl := lv_entry ([.ref (ad (.inl 0))]) (n := 5) (Nat.le_of_ble_eq_true rfl)
  rw [lg_entry_eq]
  generalize (lg_sl ([.ref (ad (.inl 0))]) ++ List.replicate (5 - (lg_sl ([.ref (ad (.inl 0))])).length) Slot.unset).toArray = ls at hl ⊢
  have hl : lv_has ls 5 [(0, .ref (ad (.inl 0)))] := hl
  exact w_x_still ⟨B.exec, B.bytes, B.returns, hml, findClass_of_methodNamed B.named, fun w h => atoms_spec (ws := ws_ yX1_still cX1_still 5 (some .int)) B.pre w (List.mem_cons_of_mem _ h), B.notSynchronized, hK, hZ0, hA0⟩ hIx g hf hM va_S.rf hl

def rm_x_within : Room := { frames := 1, cells := 0, slots := 0, locals := 16 }
set_option maxHeartbeats 4000000 in
set_option maxRecDepth 100000 in
theorem w_x_within_B14 {p : Program} {l : Launch} {e : Env} {s : State} {m : MethodId} {args : Array Value} {below : List Frame} {meth : Method} {c : Code} {D : va_G} {C : Nat → Nat} {a0 : Array Value} {s0 : State} {ad : Rl → Nat} {so : Nat → Option hS} {pr : hPr} {st : Rl → Nat → Int32} {lt : Rl → Nat → Int64} (CX : hCx D C a0 s0 p s m args meth c cX1_within 3 RX1 (some .boolean)) (hIx : hI (hA s0) ad (Sum.elim (xSH C pr) so)) (p0 : Int32) (p1 : Int32) (p2 : Int32) {o : Int32} (hf : x_within_B14 = some o) {H : Heap} {locs : List Loc} (hM : hW D vwCl ad (Sum.elim (xSH C pr) so) st lt H) (hS : va_S (hA s0) s.heap H locs) {ls : Array Slot} (hl : lv_has ls 3 []) : W p l e rm_x_within s m args below meth c H locs 0 0 (MQ below (va_Qi (fun (r : Int32) (_ : Unit) => r = o) (fun (_ : Unit) (U : State) => hW D vwCl ad (Sum.elim (xSH C pr) so) st lt U.heap) (hA s0)) args s 0 0 (hA s0)) (F0 m 14 ls []) := by
  obtain ⟨hx, hb, hr, hml, hown, hts, hlocks, hK, hZ0, hA0⟩ := CX
  unfold x_within_B14 at hf
  refine lv_iconst (v := 0) hx hb dX1_within_14 (by decide) ?_
  have eo := Option.some.inj hf
  subst eo
  exact W.zret (v := (0 : Int32)) hx hb hr rfl (fun T ht hW => ⟨⟨(0 : Int32), (), rfl, rfl, by dsimp only; rw [ht]; exact hM⟩, hS.F ht⟩) hS.2.2 dX1_within_15
set_option maxHeartbeats 4000000 in
set_option maxRecDepth 100000 in
theorem w_x_within {p : Program} {l : Launch} {e : Env} {s : State} {m : MethodId} {args : Array Value} {below : List Frame} {meth : Method} {c : Code} {D : va_G} {C : Nat → Nat} {a0 : Array Value} {s0 : State} {ad : Rl → Nat} {so : Nat → Option hS} {pr : hPr} {st : Rl → Nat → Int32} {lt : Rl → Nat → Int64} (CX : hCx D C a0 s0 p s m args meth c cX1_within 3 RX1 (some .boolean)) (hIx : hI (hA s0) ad (Sum.elim (xSH C pr) so)) (p0 : Int32) (p1 : Int32) (p2 : Int32) {o : Int32} (hf : x_within p0 p1 p2 = some o) {H : Heap} {locs : List Loc} (hM : hW D vwCl ad (Sum.elim (xSH C pr) so) st lt H) (hS : va_S (hA s0) s.heap H locs) {ls : Array Slot} (hl : lv_has ls 3 [(0, .int p0), (1, .int p1), (2, .int p2)]) : W p l e rm_x_within s m args below meth c H locs 0 0 (MQ below (va_Qi (fun (r : Int32) (_ : Unit) => r = o) (fun (_ : Unit) (U : State) => hW D vwCl ad (Sum.elim (xSH C pr) so) st lt U.heap) (hA s0)) args s 0 0 (hA s0)) (F0 m 0 ls []) := by
  obtain ⟨hx, hb, hr, hml, hown, hts, hlocks, hK, hZ0, hA0⟩ := CX
  unfold x_within at hf
  refine lv_iload_n hx hb dX1_within_0 rfl (lv_at hl 0 rfl) ?_
  refine lv_iload_n hx hb dX1_within_1 rfl (lv_at hl 1 rfl) ?_
  refine hb_icmp_lt (tgt := 14) hx hb dX1_within_2 (by decide) hf (fun hf => ?_) (fun hf => ?_)
  · exact w_x_within_B14 ⟨hx, hb, hr, hml, hown, hts, hlocks, hK, hZ0, hA0⟩ hIx p0 p1 p2 hf hM hS (lv_sub hl [] rfl)
  · refine lv_iload_n hx hb dX1_within_5 rfl (lv_at hl 0 rfl) ?_
    refine lv_iload_n hx hb dX1_within_6 rfl (lv_at hl 2 rfl) ?_
    refine hb_icmp_gt (tgt := 14) hx hb dX1_within_7 (by decide) hf (fun hf => ?_) (fun hf => ?_)
    · exact w_x_within_B14 ⟨hx, hb, hr, hml, hown, hts, hlocks, hK, hZ0, hA0⟩ hIx p0 p1 p2 hf hM hS (lv_sub hl [] rfl)
    · refine lv_iconst (v := 1) hx hb dX1_within_10 (by decide) ?_
      refine lv_goto (tgt := 15) hx hb dX1_within_11 (by decide) ?_
      have eo := Option.some.inj hf
      subst eo
      exact W.zret (v := (1 : Int32)) hx hb hr rfl (fun T ht hW => ⟨⟨(1 : Int32), (), rfl, rfl, by dsimp only; rw [ht]; exact hM⟩, hS.F ht⟩) hS.2.2 dX1_within_15
set_option maxHeartbeats 4000000 in
set_option maxRecDepth 100000 in
theorem met_x_within (l : Launch) (D : va_G) (C : Nat → Nat) (a0 : Array Value) (s0 : State) (ad : Rl → Nat) (so : Nat → Option hS) (pr : hPr) (st : Rl → Nat → Int32) (lt : Rl → Nat → Int64) (p0 : Int32) (p1 : Int32) (p2 : Int32) {o : Int32} (hf : x_within p0 p1 p2 = some o) : Met l yX1_within (ws_ yX1_within cX1_within 3 (some .boolean)) rm_x_within (va_Pc [.int p0, .int p1, .int p2] (hB D vwCl (hT C) (hA s0) (hZ a0 s0) ad (Sum.elim (xSH C pr) so) st lt)) (va_Qi (fun (r : Int32) (_ : Unit) => r = o) (fun (_ : Unit) (U : State) => hW D vwCl ad (Sum.elim (xSH C pr) so) st lt U.heap) (hA s0)) 0 0 (hA s0) := by
  refine Met.ofW (cc := cX1_within) (maxL := 3) (ret := (some .boolean)) (by decide) rfl ?_
  intro p e s m args below meth c s₁ B hml hv
  obtain ⟨rfl, hM, hIx, hK, hZ0, hA0⟩ := hv
  have hl := lv_entry ([.int p0, .int p1, .int p2]) (n := 3) (Nat.le_of_ble_eq_true rfl)
  rw [lg_entry_eq]
  generalize (lg_sl ([.int p0, .int p1, .int p2]) ++ List.replicate (3 - (lg_sl ([.int p0, .int p1, .int p2])).length) Slot.unset).toArray = ls at hl ⊢
  have hl : lv_has ls 3 [(0, .int p0), (1, .int p1), (2, .int p2)] := hl
  exact w_x_within ⟨B.exec, B.bytes, B.returns, hml, findClass_of_methodNamed B.named, fun w h => atoms_spec (ws := ws_ yX1_within cX1_within 3 (some .boolean)) B.pre w (List.mem_cons_of_mem _ h), B.notSynchronized, hK, hZ0, hA0⟩ hIx p0 p1 p2 hf hM va_S.rf hl

def rm_x_count : Room := { frames := 11, cells := 1, slots := 6, locals := 142 }
set_option maxHeartbeats 4000000 in
set_option maxRecDepth 100000 in
theorem w_x_count {p : Program} {l : Launch} {e : Env} {s : State} {m : MethodId} {args : Array Value} {below : List Frame} {meth : Method} {c : Code} {D : va_G} {C : Nat → Nat} {a0 : Array Value} {s0 : State} {ad : Rl → Nat} {so : Nat → Option hS} {pr : hPr} {t : hSt} {lt : Rl → Nat → Int64} (CX : hCx D C a0 s0 p s m args meth c cX1_count 2 RX1 (some .int)) (hIx : hI (hA s0) ad (Sum.elim (xSH C pr) so)) (hex : ∀ x ∈ c.exceptionTable.toList, False) (hlst : l.stackTraces = false) (g : hSt) (p0 : Int32) {o : (Int32) ⊕ Nat} (hf : x_count g p0 = some o) {H : Heap} {locs : List Loc} (hM : hW D vwCl ad (Sum.elim (xSH C pr) so) (Sum.elim g t) lt H) (hS : va_S (hA s0) s.heap H locs) {ls : Array Slot} (hl : lv_has ls 2 [(0, .ref (ad (.inl 0))), (1, .int p0)]) : W p l e rm_x_count s m args below meth c H locs 0 0 (vx_MQ below (va_Qi (fun (r : Int32) (v : Int32) => o = .inl v ∧ r = v) (fun (v : Int32) (U : State) => hW D vwCl ad (Sum.elim (xSH C pr) so) (Sum.elim g t) lt U.heap) (hA s0)) (vx_X (fun k : Nat => o = .inr k) (fun (E : String) (k : Nat) (U : State) => E = hEx k ∧ hW D vwCl ad (Sum.elim (xSH C pr) so) (Sum.elim g t) lt U.heap) (hA s0)) args s 1 6 (hA s0)) (F0 m 0 ls []) := by
  obtain ⟨hx, hb, hr, hml, hown, hts, hlocks, hK, hZ0, hA0⟩ := CX
  unfold x_count at hf
  refine lv_iload_n hx hb dX1_count_0 rfl (lv_at hl 1 rfl) ?_
  refine lv_iconst (v := 0) hx hb dX1_count_1 (by decide) ?_
  refine lv_bipush (v := 8) hx hb dX1_count_2 (by decide) ?_
  obtain ⟨y1, hq, hf⟩ := hbind hf
  refine hr_calli0 (va_runS (As := [.int p0, .int (0 : Int32), .int (8 : Int32)]) (rest := []) ⟨hx, hb, hml, hown, hts⟩ (met_x_within l D C a0 s0 ad so pr (Sum.elim g t) lt p0 (0 : Int32) (8 : Int32) hq) (va_cwS 3 hts (lw_S q1156 q1157 q76 q1158) rfl rfl rfl (by decide +kernel) ⟨Nat.le_of_ble_eq_true rfl, Nat.le_of_ble_eq_true rfl⟩) (hr_preS hZ_c hM hIx hK hZ0 hA0 hS) rfl rfl hl.1 rfl (lv_room (Nat.le_of_ble_eq_true rfl)) dX1_count_4 ⟨Nat.le_of_ble_eq_true rfl, Nat.le_of_ble_eq_true rfl⟩) hS (fun H locs hM hS => ?_)
  obtain ⟨z2, hq, hf⟩ := hbind hf
  refine hr_xcallv hf (vx_runS (As := [.int y1]) (rest := []) ⟨hx, hb, hml, hown, hts⟩ (met_x_there l D C a0 s0 ad so pr (Sum.elim g t) lt y1 hlst hq) (va_cwS 1 hts (lw_S q1159 q1160 q76 q1161) rfl rfl rfl (by decide +kernel) ⟨Nat.le_of_ble_eq_true rfl, Nat.le_of_ble_eq_true rfl⟩) (hr_preS hZ_c hM hIx hK hZ0 hA0 hS) rfl rfl hl.1 rfl (lv_room (Nat.le_of_ble_eq_true rfl)) dX1_count_7 ⟨Nat.le_of_ble_eq_true rfl, Nat.le_of_ble_eq_true rfl⟩) hS hex hlocks hIx (Nat.le_of_ble_eq_true rfl) (Nat.le_of_ble_eq_true rfl) (fun H locs hf hM hS => ?_)
  refine lv_iload_n hx hb dX1_count_10 rfl (lv_at hl 1 rfl) ?_
  by_cases hc0 : p0 = 0
  · replace hf := hif_t hf hc0
    refine lv_tableIn (x := p0) (tgt := 52) hx hb dX1_count_11 (by rw [hc0]; decide) (by rw [hc0]; decide) (by rw [hc0]; rfl) (by decide) ?_
    refine lv_aload_n hx hb dX1_count_52 rfl (lv_at hl 0 rfl) ?_
    refine hr_get (ci := 0) (C := RX1) (T := TX1) (N := 19) (r := .inl 0) hx hb hts in_X1 hown hK hM xS_0 rfl 0 (by decide) (hts _ q559) rfl (v := .ref (ad (.inl 10))) rfl dX1_count_53 ?_
    refine hr_getN (ci := 2) (C := RX2) (T := TX2) (N := 6) (r := .inl 10) hx hb hts in_X2 hown hK hM xS_10 rfl 0 (by decide) (hZ_nest hZ0 q468 rfl) rfl (v := .ref (ad (.inl 11))) rfl dX1_count_56 ?_
    obtain ⟨y4, hq, hf⟩ := hbind hf
    refine hr_calli0 (va_runV (As := []) (rest := []) ⟨hx, hb, hml, hown, hts⟩ (met_x_al_size l D C a0 s0 ad so pr t lt g 11 xs_11 hq) (cwV 0 hts (lw_V q642 q643 q644 q80 q645) rfl rfl rfl (by decide +kernel) ⟨Nat.le_of_ble_eq_true rfl, Nat.le_of_ble_eq_true rfl⟩) (hr_preV hZ_c hM hIx hK hZ0 hA0 hS (r := .inl 11) xS_11 (q := (RJ2, TJ2, 3)) rfl) rfl rfl hl.1 rfl (lv_room (Nat.le_of_ble_eq_true rfl)) dX1_count_59 ⟨Nat.le_of_ble_eq_true rfl, Nat.le_of_ble_eq_true rfl⟩) hS (fun H locs hM hS => ?_)
    have eo := Option.some.inj hf
    subst eo
    refine W.widen (k := 1) (n := 6) (Nat.le_of_ble_eq_true rfl) (Nat.le_of_ble_eq_true rfl) ?_
    exact vx_ret (W.iret (v := y4) hx hb hr (fun T ht hW => ⟨⟨y4, y4, rfl, ⟨rfl, rfl⟩, by dsimp only; rw [ht]; exact hM⟩, hS.F ht⟩) hS.2.2 dX1_count_62)
  replace hf := hif_f hf hc0
  by_cases hc1 : p0 = 1
  · replace hf := hif_t hf hc1
    refine lv_tableIn (x := p0) (tgt := 63) hx hb dX1_count_11 (by rw [hc1]; decide) (by rw [hc1]; decide) (by rw [hc1]; rfl) (by decide) ?_
    refine lv_aload_n hx hb dX1_count_63 rfl (lv_at hl 0 rfl) ?_
    refine hr_get (ci := 0) (C := RX1) (T := TX1) (N := 19) (r := .inl 0) hx hb hts in_X1 hown hK hM xS_0 rfl 0 (by decide) (hts _ q559) rfl (v := .ref (ad (.inl 10))) rfl dX1_count_64 ?_
    refine hr_getN (ci := 2) (C := RX2) (T := TX2) (N := 6) (r := .inl 10) hx hb hts in_X2 hown hK hM xS_10 rfl 2 (by decide) (hZ_nest hZ0 q475 rfl) rfl (v := .int (g 10 2)) rfl dX1_count_67 ?_
    have eo := Option.some.inj hf
    subst eo
    refine W.widen (k := 1) (n := 6) (Nat.le_of_ble_eq_true rfl) (Nat.le_of_ble_eq_true rfl) ?_
    exact vx_ret (W.iret (v := (g 10 2)) hx hb hr (fun T ht hW => ⟨⟨(g 10 2), (g 10 2), rfl, ⟨rfl, rfl⟩, by dsimp only; rw [ht]; exact hM⟩, hS.F ht⟩) hS.2.2 dX1_count_70)
  replace hf := hif_f hf hc1
  by_cases hc2 : p0 = 2
  · replace hf := hif_t hf hc2
    refine lv_tableIn (x := p0) (tgt := 71) hx hb dX1_count_11 (by rw [hc2]; decide) (by rw [hc2]; decide) (by rw [hc2]; rfl) (by decide) ?_
    refine lv_aload_n hx hb dX1_count_71 rfl (lv_at hl 0 rfl) ?_
    refine hr_get (ci := 0) (C := RX1) (T := TX1) (N := 19) (r := .inl 0) hx hb hts in_X1 hown hK hM xS_0 rfl 0 (by decide) (hts _ q559) rfl (v := .ref (ad (.inl 10))) rfl dX1_count_72 ?_
    refine hr_getN (ci := 2) (C := RX2) (T := TX2) (N := 6) (r := .inl 10) hx hb hts in_X2 hown hK hM xS_10 rfl 5 (by decide) (hZ_nest hZ0 q481 rfl) rfl (v := .int (g 10 5)) rfl dX1_count_75 ?_
    refine hb_if_eq (tgt := 85) hx hb dX1_count_78 (by decide) hf (fun hf => ?_) (fun hf => ?_)
    · refine lv_iconst (v := 0) hx hb dX1_count_85 (by decide) ?_
      have eo := Option.some.inj hf
      subst eo
      refine W.widen (k := 1) (n := 6) (Nat.le_of_ble_eq_true rfl) (Nat.le_of_ble_eq_true rfl) ?_
      exact vx_ret (W.iret (v := (0 : Int32)) hx hb hr (fun T ht hW => ⟨⟨(0 : Int32), (0 : Int32), rfl, ⟨rfl, rfl⟩, by dsimp only; rw [ht]; exact hM⟩, hS.F ht⟩) hS.2.2 dX1_count_86)
    · refine lv_iconst (v := 1) hx hb dX1_count_81 (by decide) ?_
      refine lv_goto (tgt := 86) hx hb dX1_count_82 (by decide) ?_
      have eo := Option.some.inj hf
      subst eo
      refine W.widen (k := 1) (n := 6) (Nat.le_of_ble_eq_true rfl) (Nat.le_of_ble_eq_true rfl) ?_
      exact vx_ret (W.iret (v := (1 : Int32)) hx hb hr (fun T ht hW => ⟨⟨(1 : Int32), (1 : Int32), rfl, ⟨rfl, rfl⟩, by dsimp only; rw [ht]; exact hM⟩, hS.F ht⟩) hS.2.2 dX1_count_86)
  replace hf := hif_f hf hc2
  by_cases hc3 : p0 = 3
  · replace hf := hif_t hf hc3
    refine lv_tableIn (x := p0) (tgt := 87) hx hb dX1_count_11 (by rw [hc3]; decide) (by rw [hc3]; decide) (by rw [hc3]; rfl) (by decide) ?_
    refine lv_aload_n hx hb dX1_count_87 rfl (lv_at hl 0 rfl) ?_
    refine hr_get (ci := 0) (C := RX1) (T := TX1) (N := 19) (r := .inl 0) hx hb hts in_X1 hown hK hM xS_0 rfl 0 (by decide) (hts _ q559) rfl (v := .ref (ad (.inl 10))) rfl dX1_count_88 ?_
    refine hr_getN (ci := 2) (C := RX2) (T := TX2) (N := 6) (r := .inl 10) hx hb hts in_X2 hown hK hM xS_10 rfl 4 (by decide) (hZ_nest hZ0 q479 rfl) rfl (v := .int (g 10 4)) rfl dX1_count_91 ?_
    have eo := Option.some.inj hf
    subst eo
    refine W.widen (k := 1) (n := 6) (Nat.le_of_ble_eq_true rfl) (Nat.le_of_ble_eq_true rfl) ?_
    exact vx_ret (W.iret (v := (g 10 4)) hx hb hr (fun T ht hW => ⟨⟨(g 10 4), (g 10 4), rfl, ⟨rfl, rfl⟩, by dsimp only; rw [ht]; exact hM⟩, hS.F ht⟩) hS.2.2 dX1_count_94)
  replace hf := hif_f hf hc3
  by_cases hc4 : p0 = 4
  · replace hf := hif_t hf hc4
    refine lv_tableIn (x := p0) (tgt := 95) hx hb dX1_count_11 (by rw [hc4]; decide) (by rw [hc4]; decide) (by rw [hc4]; rfl) (by decide) ?_
    refine lv_aload_n hx hb dX1_count_95 rfl (lv_at hl 0 rfl) ?_
    refine hr_get (ci := 0) (C := RX1) (T := TX1) (N := 19) (r := .inl 0) hx hb hts in_X1 hown hK hM xS_0 rfl 1 (by decide) (hts _ q560) rfl (v := .ref (ad (.inl 20))) rfl dX1_count_96 ?_
    refine hr_getN (ci := 3) (C := RX3) (T := TX3) (N := 3) (r := .inl 20) hx hb hts in_X3 hown hK hM xS_20 rfl 0 (by decide) (hZ_nest hZ0 q544 rfl) rfl (v := .ref (ad (.inl 24))) rfl dX1_count_99 ?_
    refine hr_getN (ci := 1) (C := RX4) (T := TX4) (N := 6) (r := .inl 24) hx hb hts in_X4 hown hK hM (xs_st24 (C := C) (pr := pr)).o rfl 5 (by decide) (hZ_nest hZ0 q527 rfl) rfl (v := .int (g 24 5)) rfl dX1_count_102 ?_
    have eo := Option.some.inj hf
    subst eo
    refine W.widen (k := 1) (n := 6) (Nat.le_of_ble_eq_true rfl) (Nat.le_of_ble_eq_true rfl) ?_
    exact vx_ret (W.iret (v := (g 24 5)) hx hb hr (fun T ht hW => ⟨⟨(g 24 5), (g 24 5), rfl, ⟨rfl, rfl⟩, by dsimp only; rw [ht]; exact hM⟩, hS.F ht⟩) hS.2.2 dX1_count_105)
  replace hf := hif_f hf hc4
  by_cases hc5 : p0 = 5
  · replace hf := hif_t hf hc5
    refine lv_tableIn (x := p0) (tgt := 106) hx hb dX1_count_11 (by rw [hc5]; decide) (by rw [hc5]; decide) (by rw [hc5]; rfl) (by decide) ?_
    refine lv_aload_n hx hb dX1_count_106 rfl (lv_at hl 0 rfl) ?_
    refine hr_get (ci := 0) (C := RX1) (T := TX1) (N := 19) (r := .inl 0) hx hb hts in_X1 hown hK hM xS_0 rfl 1 (by decide) (hts _ q560) rfl (v := .ref (ad (.inl 20))) rfl dX1_count_107 ?_
    refine hr_getN (ci := 3) (C := RX3) (T := TX3) (N := 3) (r := .inl 20) hx hb hts in_X3 hown hK hM xS_20 rfl 1 (by decide) (hZ_nest hZ0 q546 rfl) rfl (v := .ref (ad (.inl 21))) rfl dX1_count_110 ?_
    obtain ⟨y5, hq, hf⟩ := hbind hf
    refine hr_calli0 (va_runV (As := []) (rest := []) ⟨hx, hb, hml, hown, hts⟩ (met_x_al_size l D C a0 s0 ad so pr t lt g 21 xs_21 hq) (cwV 0 hts (lw_V q642 q643 q644 q80 q645) rfl rfl rfl (by decide +kernel) ⟨Nat.le_of_ble_eq_true rfl, Nat.le_of_ble_eq_true rfl⟩) (hr_preV hZ_c hM hIx hK hZ0 hA0 hS (r := .inl 21) xS_21 (q := (RJ2, TJ2, 3)) rfl) rfl rfl hl.1 rfl (lv_room (Nat.le_of_ble_eq_true rfl)) dX1_count_113 ⟨Nat.le_of_ble_eq_true rfl, Nat.le_of_ble_eq_true rfl⟩) hS (fun H locs hM hS => ?_)
    have eo := Option.some.inj hf
    subst eo
    refine W.widen (k := 1) (n := 6) (Nat.le_of_ble_eq_true rfl) (Nat.le_of_ble_eq_true rfl) ?_
    exact vx_ret (W.iret (v := y5) hx hb hr (fun T ht hW => ⟨⟨y5, y5, rfl, ⟨rfl, rfl⟩, by dsimp only; rw [ht]; exact hM⟩, hS.F ht⟩) hS.2.2 dX1_count_116)
  replace hf := hif_f hf hc5
  by_cases hc6 : p0 = 6
  · replace hf := hif_t hf hc6
    refine lv_tableIn (x := p0) (tgt := 117) hx hb dX1_count_11 (by rw [hc6]; decide) (by rw [hc6]; decide) (by rw [hc6]; rfl) (by decide) ?_
    refine lv_aload_n hx hb dX1_count_117 rfl (lv_at hl 0 rfl) ?_
    refine hr_get (ci := 0) (C := RX1) (T := TX1) (N := 19) (r := .inl 0) hx hb hts in_X1 hown hK hM xS_0 rfl 4 (by decide) (hts _ q563) rfl (v := .int (g 0 4)) rfl dX1_count_118 ?_
    have eo := Option.some.inj hf
    subst eo
    refine W.widen (k := 1) (n := 6) (Nat.le_of_ble_eq_true rfl) (Nat.le_of_ble_eq_true rfl) ?_
    exact vx_ret (W.iret (v := (g 0 4)) hx hb hr (fun T ht hW => ⟨⟨(g 0 4), (g 0 4), rfl, ⟨rfl, rfl⟩, by dsimp only; rw [ht]; exact hM⟩, hS.F ht⟩) hS.2.2 dX1_count_121)
  replace hf := hif_f hf hc6
  refine lv_tableOut (x := p0) (tgt := 122) hx hb dX1_count_11 (h_sw0_6 hc0 hc1 hc2 hc3 hc4 hc5 hc6) (by decide) ?_
  refine lv_aload_n hx hb dX1_count_122 rfl (lv_at hl 0 rfl) ?_
  refine hr_get (ci := 0) (C := RX1) (T := TX1) (N := 19) (r := .inl 0) hx hb hts in_X1 hown hK hM xS_0 rfl 1 (by decide) (hts _ q560) rfl (v := .ref (ad (.inl 20))) rfl dX1_count_123 ?_
  refine hr_getN (ci := 3) (C := RX3) (T := TX3) (N := 3) (r := .inl 20) hx hb hts in_X3 hown hK hM xS_20 rfl 2 (by decide) (hZ_nest hZ0 q548 rfl) rfl (v := .ref (ad (.inl 23))) rfl dX1_count_126 ?_
  refine lv_iload_n hx hb dX1_count_129 rfl (lv_at hl 1 rfl) ?_
  refine lv_bipush (v := 7) hx hb dX1_count_130 (by decide) ?_
  refine lv_isub hx hb dX1_count_132 ?_
  refine hx_iald (r := 23) hx hb hK hM 0 xS_23 rfl hf dX1_count_133 (fun x3 hf => ?_)
  have eo := Option.some.inj hf
  subst eo
  refine W.widen (k := 1) (n := 6) (Nat.le_of_ble_eq_true rfl) (Nat.le_of_ble_eq_true rfl) ?_
  exact vx_ret (W.iret (v := x3) hx hb hr (fun T ht hW => ⟨⟨x3, x3, rfl, ⟨rfl, rfl⟩, by dsimp only; rw [ht]; exact hM⟩, hS.F ht⟩) hS.2.2 dX1_count_134)
set_option maxHeartbeats 4000000 in
set_option maxRecDepth 100000 in
theorem met_x_count (l : Launch) (D : va_G) (C : Nat → Nat) (a0 : Array Value) (s0 : State) (ad : Rl → Nat) (so : Nat → Option hS) (pr : hPr) (t : hSt) (lt : Rl → Nat → Int64) (g : hSt) (p0 : Int32) (hlst : l.stackTraces = false) {o : (Int32) ⊕ Nat} (hf : x_count g p0 = some o) : vx_Met l yX1_count (ws_ yX1_count cX1_count 2 (some .int)) rm_x_count (va_Pc [.ref (ad (.inl 0)), .int p0] (hB D vwCl (hT C) (hA s0) (hZ a0 s0) ad (Sum.elim (xSH C pr) so) (Sum.elim g t) lt)) (va_Qi (fun (r : Int32) (v : Int32) => o = .inl v ∧ r = v) (fun (v : Int32) (U : State) => hW D vwCl ad (Sum.elim (xSH C pr) so) (Sum.elim g t) lt U.heap) (hA s0)) (vx_X (fun k : Nat => o = .inr k) (fun (E : String) (k : Nat) (U : State) => E = hEx k ∧ hW D vwCl ad (Sum.elim (xSH C pr) so) (Sum.elim g t) lt U.heap) (hA s0)) 1 6 (hA s0) := by
  refine vx_ofW (cc := cX1_count) (maxL := 2) (ret := (some .int)) (by decide) rfl ?_
  intro p e s m args below meth c s₁ B hml hex hv
  obtain ⟨rfl, hM, hIx, hK, hZ0, hA0⟩ := hv
  have hl := lv_entry ([.ref (ad (.inl 0)), .int p0]) (n := 2) (Nat.le_of_ble_eq_true rfl)
  rw [lg_entry_eq]
  generalize (lg_sl ([.ref (ad (.inl 0)), .int p0]) ++ List.replicate (2 - (lg_sl ([.ref (ad (.inl 0)), .int p0])).length) Slot.unset).toArray = ls at hl ⊢
  have hl : lv_has ls 2 [(0, .ref (ad (.inl 0))), (1, .int p0)] := hl
  exact w_x_count ⟨B.exec, B.bytes, B.returns, hml, findClass_of_methodNamed B.named, fun w h => atoms_spec (ws := ws_ yX1_count cX1_count 2 (some .int)) B.pre w (List.mem_cons_of_mem _ h), B.notSynchronized, hK, hZ0, hA0⟩ hIx hex hlst g p0 hf hM va_S.rf hl

