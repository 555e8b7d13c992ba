/-! WALKS (printed by tools/gen.py): the small classes; calls through a Giver, elements of lists -/
set_option maxRecDepth 100000
def rm_x_jI_bitCount : Room := { frames := 1, cells := 0, slots := 0, locals := 16 }
set_option maxHeartbeats 4000000 in
set_option maxRecDepth 100000 in
theorem w_x_jI_bitCount {p : Program} {l : Launch} {e : Env} {s : State} {m : MethodId} {args : Array Value} {below : List Frame} {meth : Method} {c : Code} {D : va_G} {C : Nat → Nat} {a0 : Array Value} {s0 : State} {ad : Rl → Nat} {so : Nat → Option hS} {pr : hPr} {st : Rl → Nat → Int32} {lt : Rl → Nat → Int64} (CX : hCx D C a0 s0 p s m args meth c cJ16_bitCount 1 RJ16 (some .int)) (hIx : hI (hA s0) ad (Sum.elim (xSH C pr) so)) (p0 : Int32) {o : Int32} (hf : x_jI_bitCount p0 = some o) {H : Heap} {locs : List Loc} (hM : hW D vwCl ad (Sum.elim (xSH C pr) so) st lt H) (hS : va_S (hA s0) s.heap H locs) {ls : Array Slot} (hl : lv_has ls 1 [(0, .int p0)]) : W p l e rm_x_jI_bitCount s m args below meth c H locs 0 0 (MQ below (va_Qi (fun (r : Int32) (_ : Unit) => r = o) (fun (_ : Unit) (U : State) => hW D vwCl ad (Sum.elim (xSH C pr) so) st lt U.heap) (hA s0)) args s 0 0 (hA s0)) (F0 m 0 ls []) := by
  obtain ⟨hx, hb, hr, hml, hown, hts, hlocks, hK, hZ0, hA0⟩ := CX
  unfold x_jI_bitCount at hf
  refine lv_iload_n hx hb dJ16_bitCount_0 rfl (lv_at hl 0 rfl) ?_
  refine lv_iload_n hx hb dJ16_bitCount_1 rfl (lv_at hl 0 rfl) ?_
  refine lv_iconst (v := 1) hx hb dJ16_bitCount_2 (by decide) ?_
  refine lv_iushr hx hb dJ16_bitCount_3 rfl ?_
  refine lv_ldcw (v := 1431655765) hx hb hown (hts _ q856) dJ16_bitCount_4 ?_
  refine lv_iand hx hb dJ16_bitCount_7 ?_
  refine lv_isub hx hb dJ16_bitCount_8 ?_
  refine hb_top hf (fun y0_1 hf => ?_)
  refine lv_istore_n (lv' := [(0, .int y0_1)]) hx hb dJ16_bitCount_9 rfl hl (by decide) rfl (fun ls hl => ?_)
  refine lv_iload_n hx hb dJ16_bitCount_10 rfl (lv_at hl 0 rfl) ?_
  refine lv_ldcw (v := 858993459) hx hb hown (hts _ q857) dJ16_bitCount_11 ?_
  refine lv_iand hx hb dJ16_bitCount_14 ?_
  refine lv_iload_n hx hb dJ16_bitCount_15 rfl (lv_at hl 0 rfl) ?_
  refine lv_iconst (v := 2) hx hb dJ16_bitCount_16 (by decide) ?_
  refine lv_iushr hx hb dJ16_bitCount_17 rfl ?_
  refine lv_ldcw (v := 858993459) hx hb hown (hts _ q857) dJ16_bitCount_18 ?_
  refine lv_iand hx hb dJ16_bitCount_21 ?_
  refine lv_iadd hx hb dJ16_bitCount_22 ?_
  refine hb_top hf (fun y0_2 hf => ?_)
  refine lv_istore_n (lv' := [(0, .int y0_2)]) hx hb dJ16_bitCount_23 rfl hl (by decide) rfl (fun ls hl => ?_)
  refine lv_iload_n hx hb dJ16_bitCount_24 rfl (lv_at hl 0 rfl) ?_
  refine lv_iload_n hx hb dJ16_bitCount_25 rfl (lv_at hl 0 rfl) ?_
  refine lv_iconst (v := 4) hx hb dJ16_bitCount_26 (by decide) ?_
  refine lv_iushr hx hb dJ16_bitCount_27 rfl ?_
  refine lv_iadd hx hb dJ16_bitCount_28 ?_
  refine lv_ldcw (v := 252645135) hx hb hown (hts _ q858) dJ16_bitCount_29 ?_
  refine lv_iand hx hb dJ16_bitCount_32 ?_
  refine hb_top hf (fun y0_3 hf => ?_)
  refine lv_istore_n (lv' := [(0, .int y0_3)]) hx hb dJ16_bitCount_33 rfl hl (by decide) rfl (fun ls hl => ?_)
  refine lv_iload_n hx hb dJ16_bitCount_34 rfl (lv_at hl 0 rfl) ?_
  refine lv_iload_n hx hb dJ16_bitCount_35 rfl (lv_at hl 0 rfl) ?_
  refine lv_bipush (v := 8) hx hb dJ16_bitCount_36 (by decide) ?_
  refine lv_iushr hx hb dJ16_bitCount_38 rfl ?_
  refine lv_iadd hx hb dJ16_bitCount_39 ?_
  refine hb_top hf (fun y0_4 hf => ?_)
  refine lv_istore_n (lv' := [(0, .int y0_4)]) hx hb dJ16_bitCount_40 rfl hl (by decide) rfl (fun ls hl => ?_)
  refine lv_iload_n hx hb dJ16_bitCount_41 rfl (lv_at hl 0 rfl) ?_
  refine lv_iload_n hx hb dJ16_bitCount_42 rfl (lv_at hl 0 rfl) ?_
  refine lv_bipush (v := 16) hx hb dJ16_bitCount_43 (by decide) ?_
  refine lv_iushr hx hb dJ16_bitCount_45 rfl ?_
  refine lv_iadd hx hb dJ16_bitCount_46 ?_
  refine hb_top hf (fun y0_5 hf => ?_)
  refine lv_istore_n (lv' := [(0, .int y0_5)]) hx hb dJ16_bitCount_47 rfl hl (by decide) rfl (fun ls hl => ?_)
  refine lv_iload_n hx hb dJ16_bitCount_48 rfl (lv_at hl 0 rfl) ?_
  refine lv_bipush (v := 63) hx hb dJ16_bitCount_49 (by decide) ?_
  refine lv_iand hx hb dJ16_bitCount_51 ?_
  have eo := Option.some.inj hf
  subst eo
  exact W.iret (v := (y0_5 &&& (63 : Int32))) hx hb hr (fun T ht hW => ⟨⟨(y0_5 &&& (63 : Int32)), (), rfl, rfl, by dsimp only; rw [ht]; exact hM⟩, hS.F ht⟩) hS.2.2 dJ16_bitCount_52
set_option maxHeartbeats 4000000 in
set_option maxRecDepth 100000 in
theorem met_x_jI_bitCount (l : Launch) (D : va_G) (C : Nat → Nat) (a0 : Array Value) (s0 : State) (ad : Rl → Nat) (so : Nat → Option hS) (pr : hPr) (st : Rl → Nat → Int32) (lt : Rl → Nat → Int64) (p0 : Int32) {o : Int32} (hf : x_jI_bitCount p0 = some o) : Met l yJ16_bitCount (ws_ yJ16_bitCount cJ16_bitCount 1 (some .int)) rm_x_jI_bitCount (va_Pc [.int p0] (hB D vwCl (hT C) (hA s0) (hZ a0 s0) ad (Sum.elim (xSH C pr) so) st lt)) (va_Qi (fun (r : Int32) (_ : Unit) => r = o) (fun (_ : Unit) (U : State) => hW D vwCl ad (Sum.elim (xSH C pr) so) st lt U.heap) (hA s0)) 0 0 (hA s0) := by
  refine Met.ofW (cc := cJ16_bitCount) (maxL := 1) (ret := (some .int)) (by decide) rfl ?_
  intro p e s m args below meth c s₁ B hml hv
  obtain ⟨rfl, hM, hIx, hK, hZ0, hA0⟩ := hv
  have hl := lv_entry ([.int p0]) (n := 1) (Nat.le_of_ble_eq_true rfl)
  rw [lg_entry_eq]
  generalize (lg_sl ([.int p0]) ++ List.replicate (1 - (lg_sl ([.int p0])).length) Slot.unset).toArray = ls at hl ⊢
  have hl : lv_has ls 1 [(0, .int p0)] := hl
  exact w_x_jI_bitCount ⟨B.exec, B.bytes, B.returns, hml, findClass_of_methodNamed B.named, fun w h => atoms_spec (ws := ws_ yJ16_bitCount cJ16_bitCount 1 (some .int)) B.pre w (List.mem_cons_of_mem _ h), B.notSynchronized, hK, hZ0, hA0⟩ hIx p0 hf hM va_S.rf hl

def rm_x_jP_checkIndex : Room := { frames := 1, cells := 0, slots := 0, locals := 16 }
set_option maxHeartbeats 4000000 in
set_option maxRecDepth 100000 in
theorem w_x_jP_checkIndex_B9 {p : Program} {l : Launch} {e : Env} {s : State} {m : MethodId} {args : Array Value} {below : List Frame} {meth : Method} {c : Code} {D : va_G} {C : Nat → Nat} {a0 : Array Value} {s0 : State} {ad : Rl → Nat} {so : Nat → Option hS} {pr : hPr} {st : Rl → Nat → Int32} {lt : Rl → Nat → Int64} (CX : hCx D C a0 s0 p s m args meth c cJ14_checkIndex 3 RJ14 (some .int)) (hIx : hI (hA s0) ad (Sum.elim (xSH C pr) so)) (p0 : Int32) (p1 : Int32) {o : Int32} (hf : x_jP_checkIndex_B9 = some o) {H : Heap} {locs : List Loc} (hM : hW D vwCl ad (Sum.elim (xSH C pr) so) st lt H) (hS : va_S (hA s0) s.heap H locs) {ls : Array Slot} (hl : lv_has ls 3 [(0, .int p0), (1, .int p1), (2, .null)]) : W p l e rm_x_jP_checkIndex s m args below meth c H locs 0 0 (MQ below (va_Qi (fun (r : Int32) (_ : Unit) => r = o) (fun (_ : Unit) (U : State) => hW D vwCl ad (Sum.elim (xSH C pr) so) st lt U.heap) (hA s0)) args s 0 0 (hA s0)) (F0 m 9 ls []) := by
  obtain ⟨hx, hb, hr, hml, hown, hts, hlocks, hK, hZ0, hA0⟩ := CX
  unfold x_jP_checkIndex_B9 at hf
  refine lv_aload_nN hx hb dJ14_checkIndex_9 rfl (lv_at hl 2 rfl) ?_
  refine lv_iload_n hx hb dJ14_checkIndex_10 rfl (lv_at hl 0 rfl) ?_
  refine lv_iload_n hx hb dJ14_checkIndex_11 rfl (lv_at hl 1 rfl) ?_
  cases hf
set_option maxHeartbeats 4000000 in
set_option maxRecDepth 100000 in
theorem w_x_jP_checkIndex {p : Program} {l : Launch} {e : Env} {s : State} {m : MethodId} {args : Array Value} {below : List Frame} {meth : Method} {c : Code} {D : va_G} {C : Nat → Nat} {a0 : Array Value} {s0 : State} {ad : Rl → Nat} {so : Nat → Option hS} {pr : hPr} {st : Rl → Nat → Int32} {lt : Rl → Nat → Int64} (CX : hCx D C a0 s0 p s m args meth c cJ14_checkIndex 3 RJ14 (some .int)) (hIx : hI (hA s0) ad (Sum.elim (xSH C pr) so)) (p0 : Int32) (p1 : Int32) {o : Int32} (hf : x_jP_checkIndex p0 p1 = some o) {H : Heap} {locs : List Loc} (hM : hW D vwCl ad (Sum.elim (xSH C pr) so) st lt H) (hS : va_S (hA s0) s.heap H locs) {ls : Array Slot} (hl : lv_has ls 3 [(0, .int p0), (1, .int p1), (2, .null)]) : W p l e rm_x_jP_checkIndex s m args below meth c H locs 0 0 (MQ below (va_Qi (fun (r : Int32) (_ : Unit) => r = o) (fun (_ : Unit) (U : State) => hW D vwCl ad (Sum.elim (xSH C pr) so) st lt U.heap) (hA s0)) args s 0 0 (hA s0)) (F0 m 0 ls []) := by
  obtain ⟨hx, hb, hr, hml, hown, hts, hlocks, hK, hZ0, hA0⟩ := CX
  unfold x_jP_checkIndex at hf
  refine lv_iload_n hx hb dJ14_checkIndex_0 rfl (lv_at hl 0 rfl) ?_
  refine hb_if_lt (tgt := 9) hx hb dJ14_checkIndex_1 (by decide) hf (fun hf => ?_) (fun hf => ?_)
  · exact w_x_jP_checkIndex_B9 ⟨hx, hb, hr, hml, hown, hts, hlocks, hK, hZ0, hA0⟩ hIx p0 p1 hf hM hS (lv_sub hl [0, 1, 2] rfl)
  · refine lv_iload_n hx hb dJ14_checkIndex_4 rfl (lv_at hl 0 rfl) ?_
    refine lv_iload_n hx hb dJ14_checkIndex_5 rfl (lv_at hl 1 rfl) ?_
    refine hb_icmp_lt (tgt := 16) hx hb dJ14_checkIndex_6 (by decide) hf (fun hf => ?_) (fun hf => ?_)
    · refine lv_iload_n hx hb dJ14_checkIndex_16 rfl (lv_at hl 0 rfl) ?_
      have eo := Option.some.inj hf
      subst eo
      exact W.iret (v := p0) hx hb hr (fun T ht hW => ⟨⟨p0, (), rfl, rfl, by dsimp only; rw [ht]; exact hM⟩, hS.F ht⟩) hS.2.2 dJ14_checkIndex_17
    · exact w_x_jP_checkIndex_B9 ⟨hx, hb, hr, hml, hown, hts, hlocks, hK, hZ0, hA0⟩ hIx p0 p1 hf hM hS (lv_sub hl [0, 1, 2] rfl)
set_option maxHeartbeats 4000000 in
set_option maxRecDepth 100000 in
theorem met_x_jP_checkIndex (l : Launch) (D : va_G) (C : Nat → Nat) (a0 : Array Value) (s0 : State) (ad : Rl → Nat) (so : Nat → Option hS) (pr : hPr) (st : Rl → Nat → Int32) (lt : Rl → Nat → Int64) (p0 : Int32) (p1 : Int32) {o : Int32} (hf : x_jP_checkIndex p0 p1 = some o) : Met l yJ14_checkIndex (ws_ yJ14_checkIndex cJ14_checkIndex 3 (some .int)) rm_x_jP_checkIndex (va_Pc [.int p0, .int p1, .null] (hB D vwCl (hT C) (hA s0) (hZ a0 s0) ad (Sum.elim (xSH C pr) so) st lt)) (va_Qi (fun (r : Int32) (_ : Unit) => r = o) (fun (_ : Unit) (U : State) => hW D vwCl ad (Sum.elim (xSH C pr) so) st lt U.heap) (hA s0)) 0 0 (hA s0) := by
  refine Met.ofW (cc := cJ14_checkIndex) (maxL := 3) (ret := (some .int)) (by decide) rfl ?_
  intro p e s m args below meth c s₁ B hml hv
  obtain ⟨rfl, hM, hIx, hK, hZ0, hA0⟩ := hv
  have hl := lv_entry ([.int p0, .int p1, .null]) (n := 3) (Nat.le_of_ble_eq_true rfl)
  rw [lg_entry_eq]
  generalize (lg_sl ([.int p0, .int p1, .null]) ++ List.replicate (3 - (lg_sl ([.int p0, .int p1, .null])).length) Slot.unset).toArray = ls at hl ⊢
  have hl : lv_has ls 3 [(0, .int p0), (1, .int p1), (2, .null)] := hl
  exact w_x_jP_checkIndex ⟨B.exec, B.bytes, B.returns, hml, findClass_of_methodNamed B.named, fun w h => atoms_spec (ws := ws_ yJ14_checkIndex cJ14_checkIndex 3 (some .int)) B.pre w (List.mem_cons_of_mem _ h), B.notSynchronized, hK, hZ0, hA0⟩ hIx p0 p1 hf hM va_S.rf hl

def rm_x_jO_checkIndex : Room := { frames := 3, cells := 0, slots := 0, locals := 39 }
set_option maxHeartbeats 4000000 in
set_option maxRecDepth 100000 in
theorem w_x_jO_checkIndex {p : Program} {l : Launch} {e : Env} {s : State} {m : MethodId} {args : Array Value} {below : List Frame} {meth : Method} {c : Code} {D : va_G} {C : Nat → Nat} {a0 : Array Value} {s0 : State} {ad : Rl → Nat} {so : Nat → Option hS} {pr : hPr} {st : Rl → Nat → Int32} {lt : Rl → Nat → Int64} (CX : hCx D C a0 s0 p s m args meth c cJ18_checkIndex 2 RJ18 (some .int)) (hIx : hI (hA s0) ad (Sum.elim (xSH C pr) so)) (p0 : Int32) (p1 : Int32) {o : Int32} (hf : x_jO_checkIndex p0 p1 = some o) {H : Heap} {locs : List Loc} (hM : hW D vwCl ad (Sum.elim (xSH C pr) so) st lt H) (hS : va_S (hA s0) s.heap H locs) {ls : Array Slot} (hl : lv_has ls 2 [(0, .int p0), (1, .int p1)]) : W p l e rm_x_jO_checkIndex s m args below meth c H locs 0 0 (MQ below (va_Qi (fun (r : Int32) (_ : Unit) => r = o) (fun (_ : Unit) (U : State) => hW D vwCl ad (Sum.elim (xSH C pr) so) st lt U.heap) (hA s0)) args s 0 0 (hA s0)) (F0 m 0 ls []) := by
  obtain ⟨hx, hb, hr, hml, hown, hts, hlocks, hK, hZ0, hA0⟩ := CX
  unfold x_jO_checkIndex at hf
  refine lv_iload_n hx hb dJ18_checkIndex_0 rfl (lv_at hl 0 rfl) ?_
  refine lv_iload_n hx hb dJ18_checkIndex_1 rfl (lv_at hl 1 rfl) ?_
  refine lv_null hx hb dJ18_checkIndex_2 ?_
  obtain ⟨y1, hq, hf⟩ := hbind hf
  refine hr_calli0 (va_runS (As := [.int p0, .int p1, .null]) (rest := []) ⟨hx, hb, hml, hown, hts⟩ (met_x_jP_checkIndex l D C a0 s0 ad so pr st lt p0 p1 hq) (va_cwS 3 hts (lw_S q781 q782 q93 q783) rfl rfl rfl (by decide +kernel) ⟨Nat.le_of_ble_eq_true rfl, Nat.le_of_ble_eq_true rfl⟩) (hr_preS hZ_c hM hIx hK hZ0 hA0 hS) rfl rfl hl.1 rfl (lv_room (Nat.le_of_ble_eq_true rfl)) dJ18_checkIndex_3 ⟨Nat.le_of_ble_eq_true rfl, Nat.le_of_ble_eq_true rfl⟩) hS (fun H locs hM hS => ?_)
  have eo := Option.some.inj hf
  subst eo
  exact W.iret (v := y1) hx hb hr (fun T ht hW => ⟨⟨y1, (), rfl, rfl, by dsimp only; rw [ht]; exact hM⟩, hS.F ht⟩) hS.2.2 dJ18_checkIndex_6
set_option maxHeartbeats 4000000 in
set_option maxRecDepth 100000 in
theorem met_x_jO_checkIndex (l : Launch) (D : va_G) (C : Nat → Nat) (a0 : Array Value) (s0 : State) (ad : Rl → Nat) (so : Nat → Option hS) (pr : hPr) (st : Rl → Nat → Int32) (lt : Rl → Nat → Int64) (p0 : Int32) (p1 : Int32) {o : Int32} (hf : x_jO_checkIndex p0 p1 = some o) : Met l yJ18_checkIndex (ws_ yJ18_checkIndex cJ18_checkIndex 2 (some .int)) rm_x_jO_checkIndex (va_Pc [.int p0, .int p1] (hB D vwCl (hT C) (hA s0) (hZ a0 s0) ad (Sum.elim (xSH C pr) so) st lt)) (va_Qi (fun (r : Int32) (_ : Unit) => r = o) (fun (_ : Unit) (U : State) => hW D vwCl ad (Sum.elim (xSH C pr) so) st lt U.heap) (hA s0)) 0 0 (hA s0) := by
  refine Met.ofW (cc := cJ18_checkIndex) (maxL := 2) (ret := (some .int)) (by decide) rfl ?_
  intro p e s m args below meth c s₁ B hml hv
  obtain ⟨rfl, hM, hIx, hK, hZ0, hA0⟩ := hv
  have hl := lv_entry ([.int p0, .int p1]) (n := 2) (Nat.le_of_ble_eq_true rfl)
  rw [lg_entry_eq]
  generalize (lg_sl ([.int p0, .int p1]) ++ List.replicate (2 - (lg_sl ([.int p0, .int p1])).length) Slot.unset).toArray = ls at hl ⊢
  have hl : lv_has ls 2 [(0, .int p0), (1, .int p1)] := hl
  exact w_x_jO_checkIndex ⟨B.exec, B.bytes, B.returns, hml, findClass_of_methodNamed B.named, fun w h => atoms_spec (ws := ws_ yJ18_checkIndex cJ18_checkIndex 2 (some .int)) B.pre w (List.mem_cons_of_mem _ h), B.notSynchronized, hK, hZ0, hA0⟩ hIx p0 p1 hf hM va_S.rf hl

def rm_x_al_size : Room := { frames := 1, cells := 0, slots := 0, locals := 16 }
set_option maxHeartbeats 4000000 in
set_option maxRecDepth 100000 in
theorem w_x_al_size {p : Program} {l : Launch} {e : Env} {s : State} {m : MethodId} {args : Array Value} {below : List Frame} {meth : Method} {c : Code} {D : va_G} {C : Nat → Nat} {a0 : Array Value} {s0 : State} {ad : Rl → Nat} {so : Nat → Option hS} {pr : hPr} {t : hSt} {lt : Rl → Nat → Int64} (CX : hCx D C a0 s0 p s m args meth c cJ2_size 1 RJ2 (some .int)) (hIx : hI (hA s0) ad (Sum.elim (xSH C pr) so)) (g : hSt) (b : Nat) (h_b : xSH C pr b = some (.inr (.inr (6, x_al b)))) {o : Int32} (hf : x_al_size g b = some o) {H : Heap} {locs : List Loc} (hM : hW D vwCl ad (Sum.elim (xSH C pr) so) (Sum.elim g t) lt H) (hS : va_S (hA s0) s.heap H locs) {ls : Array Slot} (hl : lv_has ls 1 [(0, .ref (ad (.inl b)))]) : W p l e rm_x_al_size s m args below meth c H locs 0 0 (MQ below (va_Qi (fun (r : Int32) (_ : Unit) => r = o) (fun (_ : Unit) (U : State) => hW D vwCl ad (Sum.elim (xSH C pr) so) (Sum.elim g t) lt U.heap) (hA s0)) args s 0 0 (hA s0)) (F0 m 0 ls []) := by
  obtain ⟨hx, hb, hr, hml, hown, hts, hlocks, hK, hZ0, hA0⟩ := CX
  unfold x_al_size at hf
  refine lv_aload_n hx hb dJ2_size_0 rfl (lv_at hl 0 rfl) ?_
  refine hr_get (ci := 6) (C := RJ2) (T := TJ2) (N := 3) (r := .inl b) hx hb hts in_J2 hown hK hM h_b rfl 2 (by decide) (hts _ q456) rfl (v := .int (g b 2)) rfl dJ2_size_1 ?_
  have eo := Option.some.inj hf
  subst eo
  exact W.iret (v := (g b 2)) hx hb hr (fun T ht hW => ⟨⟨(g b 2), (), rfl, rfl, by dsimp only; rw [ht]; exact hM⟩, hS.F ht⟩) hS.2.2 dJ2_size_4
set_option maxHeartbeats 4000000 in
set_option maxRecDepth 100000 in
theorem met_x_al_size (l : Launch) (D : va_G) (C : Nat → Nat) (a0 : Array Value) (s0 : State) (ad : Rl → Nat) (so : Nat → Option hS) (pr : hPr) (t : hSt) (lt : Rl → Nat → Int64) (g : hSt) (b : Nat) (h_b : xSH C pr b = some (.inr (.inr (6, x_al b)))) {o : Int32} (hf : x_al_size g b = some o) : Met l yJ2_size (ws_ yJ2_size cJ2_size 1 (some .int)) rm_x_al_size (va_Pc [.ref (ad (.inl b))] (hB D vwCl (hT C) (hA s0) (hZ a0 s0) ad (Sum.elim (xSH C pr) so) (Sum.elim g t) lt)) (va_Qi (fun (r : Int32) (_ : Unit) => r = o) (fun (_ : Unit) (U : State) => hW D vwCl ad (Sum.elim (xSH C pr) so) (Sum.elim g t) lt U.heap) (hA s0)) 0 0 (hA s0) := by
  refine Met.ofW (cc := cJ2_size) (maxL := 1) (ret := (some .int)) (by decide) rfl ?_
  intro p e s m args below meth c s₁ B hml hv
  obtain ⟨rfl, hM, hIx, hK, hZ0, hA0⟩ := hv
  have hl := lv_entry ([.ref (ad (.inl b))]) (n := 1) (Nat.le_of_ble_eq_true rfl)
  rw [lg_entry_eq]
  generalize (lg_sl ([.ref (ad (.inl b))]) ++ List.replicate (1 - (lg_sl ([.ref (ad (.inl b))])).length) Slot.unset).toArray = ls at hl ⊢
  have hl : lv_has ls 1 [(0, .ref (ad (.inl b)))] := hl
  exact w_x_al_size ⟨B.exec, B.bytes, B.returns, hml, findClass_of_methodNamed B.named, fun w h => atoms_spec (ws := ws_ yJ2_size cJ2_size 1 (some .int)) B.pre w (List.mem_cons_of_mem _ h), B.notSynchronized, hK, hZ0, hA0⟩ hIx g b h_b hf hM va_S.rf hl

def rm_x_al_isEmpty : Room := { frames := 1, cells := 0, slots := 0, locals := 16 }
set_option maxHeartbeats 4000000 in
set_option maxRecDepth 100000 in
theorem w_x_al_isEmpty {p : Program} {l : Launch} {e : Env} {s : State} {m : MethodId} {args : Array Value} {below : List Frame} {meth : Method} {c : Code} {D : va_G} {C : Nat → Nat} {a0 : Array Value} {s0 : State} {ad : Rl → Nat} {so : Nat → Option hS} {pr : hPr} {t : hSt} {lt : Rl → Nat → Int64} (CX : hCx D C a0 s0 p s m args meth c cJ2_isEmpty 1 RJ2 (some .boolean)) (hIx : hI (hA s0) ad (Sum.elim (xSH C pr) so)) (g : hSt) (b : Nat) (h_b : xSH C pr b = some (.inr (.inr (6, x_al b)))) {o : Int32} (hf : x_al_isEmpty g b = some o) {H : Heap} {locs : List Loc} (hM : hW D vwCl ad (Sum.elim (xSH C pr) so) (Sum.elim g t) lt H) (hS : va_S (hA s0) s.heap H locs) {ls : Array Slot} (hl : lv_has ls 1 [(0, .ref (ad (.inl b)))]) : W p l e rm_x_al_isEmpty s m args below meth c H locs 0 0 (MQ below (va_Qi (fun (r : Int32) (_ : Unit) => r = o) (fun (_ : Unit) (U : State) => hW D vwCl ad (Sum.elim (xSH C pr) so) (Sum.elim g t) lt U.heap) (hA s0)) args s 0 0 (hA s0)) (F0 m 0 ls []) := by
  obtain ⟨hx, hb, hr, hml, hown, hts, hlocks, hK, hZ0, hA0⟩ := CX
  unfold x_al_isEmpty at hf
  refine lv_aload_n hx hb dJ2_isEmpty_0 rfl (lv_at hl 0 rfl) ?_
  refine hr_get (ci := 6) (C := RJ2) (T := TJ2) (N := 3) (r := .inl b) hx hb hts in_J2 hown hK hM h_b rfl 2 (by decide) (hts _ q456) rfl (v := .int (g b 2)) rfl dJ2_isEmpty_1 ?_
  refine hb_if_ne (tgt := 11) hx hb dJ2_isEmpty_4 (by decide) hf (fun hf => ?_) (fun hf => ?_)
  · refine lv_iconst (v := 0) hx hb dJ2_isEmpty_11 (by decide) ?_
    have eo := Option.some.inj hf
    subst eo
    exact W.zret (v := (0 : Int32)) hx hb hr rfl (fun T ht hW => ⟨⟨(0 : Int32), (), rfl, rfl, by dsimp only; rw [ht]; exact hM⟩, hS.F ht⟩) hS.2.2 dJ2_isEmpty_12
  · refine lv_iconst (v := 1) hx hb dJ2_isEmpty_7 (by decide) ?_
    refine lv_goto (tgt := 12) hx hb dJ2_isEmpty_8 (by decide) ?_
    have eo := Option.some.inj hf
    subst eo
    exact W.zret (v := (1 : Int32)) hx hb hr rfl (fun T ht hW => ⟨⟨(1 : Int32), (), rfl, rfl, by dsimp only; rw [ht]; exact hM⟩, hS.F ht⟩) hS.2.2 dJ2_isEmpty_12
set_option maxHeartbeats 4000000 in
set_option maxRecDepth 100000 in
theorem met_x_al_isEmpty (l : Launch) (D : va_G) (C : Nat → Nat) (a0 : Array Value) (s0 : State) (ad : Rl → Nat) (so : Nat → Option hS) (pr : hPr) (t : hSt) (lt : Rl → Nat → Int64) (g : hSt) (b : Nat) (h_b : xSH C pr b = some (.inr (.inr (6, x_al b)))) {o : Int32} (hf : x_al_isEmpty g b = some o) : Met l yJ2_isEmpty (ws_ yJ2_isEmpty cJ2_isEmpty 1 (some .boolean)) rm_x_al_isEmpty (va_Pc [.ref (ad (.inl b))] (hB D vwCl (hT C) (hA s0) (hZ a0 s0) ad (Sum.elim (xSH C pr) so) (Sum.elim g t) lt)) (va_Qi (fun (r : Int32) (_ : Unit) => r = o) (fun (_ : Unit) (U : State) => hW D vwCl ad (Sum.elim (xSH C pr) so) (Sum.elim g t) lt U.heap) (hA s0)) 0 0 (hA s0) := by
  refine Met.ofW (cc := cJ2_isEmpty) (maxL := 1) (ret := (some .boolean)) (by decide) rfl ?_
  intro p e s m args below meth c s₁ B hml hv
  obtain ⟨rfl, hM, hIx, hK, hZ0, hA0⟩ := hv
  have hl := lv_entry ([.ref (ad (.inl b))]) (n := 1) (Nat.le_of_ble_eq_true rfl)
  rw [lg_entry_eq]
  generalize (lg_sl ([.ref (ad (.inl b))]) ++ List.replicate (1 - (lg_sl ([.ref (ad (.inl b))])).length) Slot.unset).toArray = ls at hl ⊢
  have hl : lv_has ls 1 [(0, .ref (ad (.inl b)))] := hl
  exact w_x_al_isEmpty ⟨B.exec, B.bytes, B.returns, hml, findClass_of_methodNamed B.named, fun w h => atoms_spec (ws := ws_ yJ2_isEmpty cJ2_isEmpty 1 (some .boolean)) B.pre w (List.mem_cons_of_mem _ h), B.notSynchronized, hK, hZ0, hA0⟩ hIx g b h_b hf hM va_S.rf hl

def rm_x_st_weight : Room := { frames := 1, cells := 0, slots := 0, locals := 16 }
set_option maxHeartbeats 4000000 in
set_option maxRecDepth 100000 in
theorem w_x_st_weight_L4 {p : Program} {l : Launch} {e : Env} {s : State} {m : MethodId} {args : Array Value} {below : List Frame} {meth : Method} {c : Code} {D : va_G} {C : Nat → Nat} {a0 : Array Value} {s0 : State} {ad : Rl → Nat} {so : Nat → Option hS} {pr : hPr} {t : hSt} {lt : Rl → Nat → Int64} (CX : hCx D C a0 s0 p s m args meth c cX4_weight 4 RX4 (some .int)) (hIx : hI (hA s0) ad (Sum.elim (xSH C pr) so)) (g : hSt) (b : Nat) (p0 : Int32) (h_b : xSt C (xSH C pr) b) {oM : Int32} (x : Int32) (n : Nat) (q0 : Int32 × Int32) (h0 : hiter (fun q : Int32 × Int32 => x_st_weight_L4 g b p0 q.1 q.2) n q0 = some x) (kx0 : ∀ (H : Heap) (locs : List Loc) (ls : Array Slot), hW D vwCl ad (Sum.elim (xSH C pr) so) (Sum.elim g t) lt H → va_S (hA s0) s.heap H locs → lv_has ls 4 [(2, .int x)] → W p l e rm_x_st_weight s m args below meth c H locs 0 0 (MQ below (va_Qi (fun (r : Int32) (_ : Unit) => r = oM) (fun (_ : Unit) (U : State) => hW D vwCl ad (Sum.elim (xSH C pr) so) (Sum.elim g t) lt U.heap) (hA s0)) args s 0 0 (hA s0)) (F0 m 34 ls [])) : ∀ (H : Heap) (locs : List Loc) (ls : Array Slot), hW D vwCl ad (Sum.elim (xSH C pr) so) (Sum.elim g t) lt H → va_S (hA s0) s.heap H locs → lv_has ls 4 [(0, .ref (ad (.inl b))), (1, .int p0), (2, .int q0.1), (3, .int q0.2)] → W p l e rm_x_st_weight s m args below meth c H locs 0 0 (MQ below (va_Qi (fun (r : Int32) (_ : Unit) => r = oM) (fun (_ : Unit) (U : State) => hW D vwCl ad (Sum.elim (xSH C pr) so) (Sum.elim g t) lt U.heap) (hA s0)) args s 0 0 (hA s0)) (F0 m 4 ls []) := by
  obtain ⟨hx, hb, hr, hml, hown, hts, hlocks, hK, hZ0, hA0⟩ := CX
  refine hiter_W (Wh := fun q => ∀ (H : Heap) (locs : List Loc) (ls : Array Slot), hW D vwCl ad (Sum.elim (xSH C pr) so) (Sum.elim g t) lt H → va_S (hA s0) s.heap H locs → lv_has ls 4 [(0, .ref (ad (.inl b))), (1, .int p0), (2, .int q.1), (3, .int q.2)] → W p l e rm_x_st_weight s m args below meth c H locs 0 0 (MQ below (va_Qi (fun (r : Int32) (_ : Unit) => r = oM) (fun (_ : Unit) (U : State) => hW D vwCl ad (Sum.elim (xSH C pr) so) (Sum.elim g t) lt U.heap) (hA s0)) args s 0 0 (hA s0)) (F0 m 4 ls [])) ?_ n q0 h0
  intro q o hf kc kx1 H locs ls hM hS hl
  obtain ⟨v2_4, v3_4⟩ := q
  replace hf : x_st_weight_L4 g b p0 v2_4 v3_4 = some o := hf
  have kx : ∀ x' : Int32, o = .inr x' → ∀ (H : Heap) (locs : List Loc) (ls : Array Slot), hW D vwCl ad (Sum.elim (xSH C pr) so) (Sum.elim g t) lt H → va_S (hA s0) s.heap H locs → lv_has ls 4 [(2, .int x')] → W p l e rm_x_st_weight s m args below meth c H locs 0 0 (MQ below (va_Qi (fun (r : Int32) (_ : Unit) => r = oM) (fun (_ : Unit) (U : State) => hW D vwCl ad (Sum.elim (xSH C pr) so) (Sum.elim g t) lt U.heap) (hA s0)) args s 0 0 (hA s0)) (F0 m 34 ls []) := fun x' ex => by rw [kx1 _ ex]; exact kx0
  unfold x_st_weight_L4 at hf
  refine lv_iload_n hx hb dX4_weight_4 rfl (lv_at hl 3 rfl) ?_
  refine lv_bipush (v := 12) hx hb dX4_weight_5 (by decide) ?_
  refine hb_icmp_ge (tgt := 34) hx hb dX4_weight_7 (by decide) hf (fun hf => ?_) (fun hf => ?_)
  · exact kx v2_4 (Option.some.inj hf).symm H locs ls hM hS (lv_sub hl [2] rfl)
  · refine lv_iload_n hx hb dX4_weight_10 rfl (lv_at hl 1 rfl) ?_
    refine lv_iload_n hx hb dX4_weight_11 rfl (lv_at hl 3 rfl) ?_
    refine lv_ishr hx hb dX4_weight_12 ?_
    refine lv_iconst (v := 1) hx hb dX4_weight_13 (by decide) ?_
    refine lv_iand hx hb dX4_weight_14 ?_
    refine lv_iconst (v := 1) hx hb dX4_weight_15 (by decide) ?_
    refine hb_icmp_ne (tgt := 28) hx hb dX4_weight_16 (by decide) hf (fun hf => ?_) (fun hf => ?_)
    · obtain ⟨y3_1, ey, hf⟩ := hlet_ex hf
      refine lv_iinc (v := y3_1) (lv' := [(3, .int y3_1), (0, .ref (ad (.inl b))), (1, .int p0), (2, .int v2_4)]) hx hb dX4_weight_28 hl (k := 3) rfl (by rw [ey]; rfl) (by decide) rfl (fun ls hl => ?_)
      refine lv_goto (tgt := 4) hx hb dX4_weight_31 (by decide) ?_
      exact kc (v2_4, y3_1) (Option.some.inj hf).symm H locs ls hM hS (lv_sub hl [1, 2, 3, 0] rfl)
    · refine lv_iload_n hx hb dX4_weight_19 rfl (lv_at hl 2 rfl) ?_
      refine lv_aload_n hx hb dX4_weight_20 rfl (lv_at hl 0 rfl) ?_
      refine hr_get (ci := 1) (C := RX4) (T := TX4) (N := 6) (r := .inl b) hx hb hts in_X4 hown hK hM h_b.o rfl 4 (by decide) (hts _ q523) rfl (v := .ref (ad (.inl (b + 5)))) rfl dX4_weight_21 ?_
      refine lv_iload_n hx hb dX4_weight_24 rfl (lv_at hl 3 rfl) ?_
      refine hx_iald (r := (b + 5)) hx hb hK hM 0 h_b.a5 rfl hf dX4_weight_25 (fun x2 hf => ?_)
      refine lv_iadd hx hb dX4_weight_26 ?_
      refine hb_top hf (fun y2_3 hf => ?_)
      refine lv_istore_n (lv' := [(2, .int y2_3), (0, .ref (ad (.inl b))), (1, .int p0), (3, .int v3_4)]) hx hb dX4_weight_27 rfl hl (by decide) rfl (fun ls hl => ?_)
      obtain ⟨y3_4, ey, hf⟩ := hlet_ex hf
      refine lv_iinc (v := y3_4) (lv' := [(3, .int y3_4), (2, .int y2_3), (0, .ref (ad (.inl b))), (1, .int p0)]) hx hb dX4_weight_28 hl (k := 3) rfl (by rw [ey]; rfl) (by decide) rfl (fun ls hl => ?_)
      refine lv_goto (tgt := 4) hx hb dX4_weight_31 (by decide) ?_
      exact kc (y2_3, y3_4) (Option.some.inj hf).symm H locs ls hM hS (lv_sub hl [2, 3, 1, 0] rfl)
set_option maxHeartbeats 4000000 in
set_option maxRecDepth 100000 in
theorem w_x_st_weight {p : Program} {l : Launch} {e : Env} {s : State} {m : MethodId} {args : Array Value} {below : List Frame} {meth : Method} {c : Code} {D : va_G} {C : Nat → Nat} {a0 : Array Value} {s0 : State} {ad : Rl → Nat} {so : Nat → Option hS} {pr : hPr} {t : hSt} {lt : Rl → Nat → Int64} (CX : hCx D C a0 s0 p s m args meth c cX4_weight 4 RX4 (some .int)) (hIx : hI (hA s0) ad (Sum.elim (xSH C pr) so)) (g : hSt) (b : Nat) (p0 : Int32) (h_b : xSt C (xSH C pr) b) {o : Int32} (hf : x_st_weight g b p0 = some o) {H : Heap} {locs : List Loc} (hM : hW D vwCl ad (Sum.elim (xSH C pr) so) (Sum.elim g t) lt H) (hS : va_S (hA s0) s.heap H locs) {ls : Array Slot} (hl : lv_has ls 4 [(0, .ref (ad (.inl b))), (1, .int p0)]) : W p l e rm_x_st_weight s m args below meth c H locs 0 0 (MQ below (va_Qi (fun (r : Int32) (_ : Unit) => r = o) (fun (_ : Unit) (U : State) => hW D vwCl ad (Sum.elim (xSH C pr) so) (Sum.elim g t) lt U.heap) (hA s0)) args s 0 0 (hA s0)) (F0 m 0 ls []) := by
  obtain ⟨hx, hb, hr, hml, hown, hts, hlocks, hK, hZ0, hA0⟩ := CX
  unfold x_st_weight at hf
  refine lv_iconst (v := 0) hx hb dX4_weight_0 (by decide) ?_
  refine lv_istore_n (lv' := [(2, .int (0 : Int32)), (0, .ref (ad (.inl b))), (1, .int p0)]) hx hb dX4_weight_1 rfl hl (by decide) rfl (fun ls hl => ?_)
  refine lv_iconst (v := 0) hx hb dX4_weight_2 (by decide) ?_
  refine lv_istore_n (lv' := [(3, .int (0 : Int32)), (2, .int (0 : Int32)), (0, .ref (ad (.inl b))), (1, .int p0)]) hx hb dX4_weight_3 rfl hl (by decide) rfl (fun ls hl => ?_)
  obtain ⟨x5, hq, hf⟩ := hbind hf
  refine w_x_st_weight_L4 ⟨hx, hb, hr, hml, hown, hts, hlocks, hK, hZ0, hA0⟩ hIx g b p0 h_b x5 hFU ((0 : Int32), (0 : Int32)) hq (fun H locs ls hM hS hl => ?_) H locs ls hM hS (lv_sub hl [2, 3, 1, 0] rfl)
  refine lv_iload_n hx hb dX4_weight_34 rfl (lv_at hl 0 rfl) ?_
  have eo := Option.some.inj hf
  subst eo
  exact W.iret (v := x5) hx hb hr (fun T ht hW => ⟨⟨x5, (), rfl, rfl, by dsimp only; rw [ht]; exact hM⟩, hS.F ht⟩) hS.2.2 dX4_weight_35
set_option maxHeartbeats 4000000 in
set_option maxRecDepth 100000 in
theorem met_x_st_weight (l : Launch) (D : va_G) (C : Nat → Nat) (a0 : Array Value) (s0 : State) (ad : Rl → Nat) (so : Nat → Option hS) (pr : hPr) (t : hSt) (lt : Rl → Nat → Int64) (g : hSt) (b : Nat) (p0 : Int32) (h_b : xSt C (xSH C pr) b) {o : Int32} (hf : x_st_weight g b p0 = some o) : Met l yX4_weight (ws_ yX4_weight cX4_weight 4 (some .int)) rm_x_st_weight (va_Pc [.ref (ad (.inl b)), .int p0] (hB D vwCl (hT C) (hA s0) (hZ a0 s0) ad (Sum.elim (xSH C pr) so) (Sum.elim g t) lt)) (va_Qi (fun (r : Int32) (_ : Unit) => r = o) (fun (_ : Unit) (U : State) => hW D vwCl ad (Sum.elim (xSH C pr) so) (Sum.elim g t) lt U.heap) (hA s0)) 0 0 (hA s0) := by
  refine Met.ofW (cc := cX4_weight) (maxL := 4) (ret := (some .int)) (by decide) rfl ?_
  intro p e s m args below meth c s₁ B hml hv
  obtain ⟨rfl, hM, hIx, hK, hZ0, hA0⟩ := hv
  have hl := lv_entry ([.ref (ad (.inl b)), .int p0]) (n := 4) (Nat.le_of_ble_eq_true rfl)
  rw [lg_entry_eq]
  generalize (lg_sl ([.ref (ad (.inl b)), .int p0]) ++ List.replicate (4 - (lg_sl ([.ref (ad (.inl b)), .int p0])).length) Slot.unset).toArray = ls at hl ⊢
  have hl : lv_has ls 4 [(0, .ref (ad (.inl b))), (1, .int p0)] := hl
  exact w_x_st_weight ⟨B.exec, B.bytes, B.returns, hml, findClass_of_methodNamed B.named, fun w h => atoms_spec (ws := ws_ yX4_weight cX4_weight 4 (some .int)) B.pre w (List.mem_cons_of_mem _ h), B.notSynchronized, hK, hZ0, hA0⟩ hIx g b p0 h_b hf hM va_S.rf hl

def rm_x_st_moves : Room := { frames := 1, cells := 0, slots := 0, locals := 16 }
set_option maxHeartbeats 4000000 in
set_option maxRecDepth 100000 in
theorem w_x_st_moves {p : Program} {l : Launch} {e : Env} {s : State} {m : MethodId} {args : Array Value} {below : List Frame} {meth : Method} {c : Code} {D : va_G} {C : Nat → Nat} {a0 : Array Value} {s0 : State} {ad : Rl → Nat} {so : Nat → Option hS} {pr : hPr} {t : hSt} {lt : Rl → Nat → Int64} (CX : hCx D C a0 s0 p s m args meth c cX4_moves 5 RX4 (none)) (hIx : hI (hA s0) ad (Sum.elim (xSH C pr) so)) (g : hSt) (b : Nat) (p0 : Int32) (p1 : Int32) (p2 : Int32) (p3 : Int32) (h_b : xSt C (xSH C pr) b) {o : hSt} (hf : x_st_moves g b p0 p1 p2 p3 = some o) {H : Heap} {locs : List Loc} (hM : hW D vwCl ad (Sum.elim (xSH C pr) so) (Sum.elim g t) lt H) (hS : va_S (hA s0) s.heap H locs) {ls : Array Slot} (hl : lv_has ls 5 [(0, .ref (ad (.inl b))), (1, .int p0), (2, .int p1), (3, .int p2), (4, .int p3)]) : W p l e rm_x_st_moves s m args below meth c H locs 0 0 (MQ below (va_Qv (fun (_ : Unit) => True) (fun (_ : Unit) (U : State) => hW D vwCl ad (Sum.elim (xSH C pr) so) (Sum.elim o t) lt U.heap) (hA s0)) args s 0 0 (hA s0)) (F0 m 0 ls []) := by
  obtain ⟨hx, hb, hr, hml, hown, hts, hlocks, hK, hZ0, hA0⟩ := CX
  unfold x_st_moves at hf
  refine lv_aload_n hx hb dX4_moves_0 rfl (lv_at hl 0 rfl) ?_
  refine hr_get (ci := 1) (C := RX4) (T := TX4) (N := 6) (r := .inl b) hx hb hts in_X4 hown hK hM h_b.o rfl 0 (by decide) (hts _ q509) rfl (v := .ref (ad (.inl (b + 1)))) rfl dX4_moves_1 ?_
  refine lv_iload_n hx hb dX4_moves_4 rfl (lv_at hl 1 rfl) ?_
  refine lv_dup2_11 hx hb dX4_moves_5 rfl rfl ?_
  refine hx_iald (r := (b + 1)) hx hb hK hM 0 h_b.a1 rfl hf dX4_moves_6 (fun x1 hf => ?_)
  refine lv_iload_n hx hb dX4_moves_7 rfl (lv_at hl 2 rfl) ?_
  refine lv_iconst (v := -1) hx hb dX4_moves_8 (by decide) ?_
  refine lv_ixor hx hb dX4_moves_9 ?_
  refine lv_iand hx hb dX4_moves_10 ?_
  refine hx_iast (r := (b + 1)) hx hb hK hM hIx hS 0 h_b.a1 rfl hf dX4_moves_11 (fun g2 H locs hf hM hS => ?_)
  refine lv_aload_n hx hb dX4_moves_12 rfl (lv_at hl 0 rfl) ?_
  refine hr_get (ci := 1) (C := RX4) (T := TX4) (N := 6) (r := .inl b) hx hb hts in_X4 hown hK hM h_b.o rfl 0 (by decide) (hts _ q509) rfl (v := .ref (ad (.inl (b + 1)))) rfl dX4_moves_13 ?_
  refine lv_iload hx hb dX4_moves_16 (lv_at hl 4 rfl) ?_
  refine lv_dup2_11 hx hb dX4_moves_18 rfl rfl ?_
  refine hx_iald (r := (b + 1)) hx hb hK hM 0 h_b.a1 rfl hf dX4_moves_19 (fun x3 hf => ?_)
  refine lv_iload_n hx hb dX4_moves_20 rfl (lv_at hl 2 rfl) ?_
  refine lv_ior hx hb dX4_moves_21 ?_
  refine hx_iast (r := (b + 1)) hx hb hK hM hIx hS 0 h_b.a1 rfl hf dX4_moves_22 (fun g4 H locs hf hM hS => ?_)
  refine lv_aload_n hx hb dX4_moves_23 rfl (lv_at hl 0 rfl) ?_
  refine hr_get (ci := 1) (C := RX4) (T := TX4) (N := 6) (r := .inl b) hx hb hts in_X4 hown hK hM h_b.o rfl 1 (by decide) (hts _ q512) rfl (v := .ref (ad (.inl (b + 2)))) rfl dX4_moves_24 ?_
  refine lv_iload_n hx hb dX4_moves_27 rfl (lv_at hl 1 rfl) ?_
  refine lv_dup2_11 hx hb dX4_moves_28 rfl rfl ?_
  refine hx_iald (r := (b + 2)) hx hb hK hM 0 h_b.a2 rfl hf dX4_moves_29 (fun x5 hf => ?_)
  refine lv_iload_n hx hb dX4_moves_30 rfl (lv_at hl 3 rfl) ?_
  refine lv_isub hx hb dX4_moves_31 ?_
  refine hx_iast (r := (b + 2)) hx hb hK hM hIx hS 0 h_b.a2 rfl hf dX4_moves_32 (fun g6 H locs hf hM hS => ?_)
  refine lv_aload_n hx hb dX4_moves_33 rfl (lv_at hl 0 rfl) ?_
  refine hr_get (ci := 1) (C := RX4) (T := TX4) (N := 6) (r := .inl b) hx hb hts in_X4 hown hK hM h_b.o rfl 1 (by decide) (hts _ q512) rfl (v := .ref (ad (.inl (b + 2)))) rfl dX4_moves_34 ?_
  refine lv_iload hx hb dX4_moves_37 (lv_at hl 4 rfl) ?_
  refine lv_dup2_11 hx hb dX4_moves_39 rfl rfl ?_
  refine hx_iald (r := (b + 2)) hx hb hK hM 0 h_b.a2 rfl hf dX4_moves_40 (fun x7 hf => ?_)
  refine lv_iload_n hx hb dX4_moves_41 rfl (lv_at hl 3 rfl) ?_
  refine lv_iadd hx hb dX4_moves_42 ?_
  refine hx_iast (r := (b + 2)) hx hb hK hM hIx hS 0 h_b.a2 rfl hf dX4_moves_43 (fun g8 H locs hf hM hS => ?_)
  have eo := Option.some.inj hf
  subst eo
  exact W.vret hx hb hr (fun T ht hW => ⟨⟨(), rfl, trivial, by dsimp only; rw [ht]; exact hM⟩, hS.F ht⟩) hS.2.2 dX4_moves_44
set_option maxHeartbeats 4000000 in
set_option maxRecDepth 100000 in
theorem met_x_st_moves (l : Launch) (D : va_G) (C : Nat → Nat) (a0 : Array Value) (s0 : State) (ad : Rl → Nat) (so : Nat → Option hS) (pr : hPr) (t : hSt) (lt : Rl → Nat → Int64) (g : hSt) (b : Nat) (p0 : Int32) (p1 : Int32) (p2 : Int32) (p3 : Int32) (h_b : xSt C (xSH C pr) b) {o : hSt} (hf : x_st_moves g b p0 p1 p2 p3 = some o) : Met l yX4_moves (ws_ yX4_moves cX4_moves 5 (none)) rm_x_st_moves (va_Pc [.ref (ad (.inl b)), .int p0, .int p1, .int p2, .int p3] (hB D vwCl (hT C) (hA s0) (hZ a0 s0) ad (Sum.elim (xSH C pr) so) (Sum.elim g t) lt)) (va_Qv (fun (_ : Unit) => True) (fun (_ : Unit) (U : State) => hW D vwCl ad (Sum.elim (xSH C pr) so) (Sum.elim o t) lt U.heap) (hA s0)) 0 0 (hA s0) := by
  refine Met.ofW (cc := cX4_moves) (maxL := 5) (ret := (none)) (by decide) rfl ?_
  intro p e s m args below meth c s₁ B hml hv
  obtain ⟨rfl, hM, hIx, hK, hZ0, hA0⟩ := hv
  have hl := lv_entry ([.ref (ad (.inl b)), .int p0, .int p1, .int p2, .int p3]) (n := 5) (Nat.le_of_ble_eq_true rfl)
  rw [lg_entry_eq]
  generalize (lg_sl ([.ref (ad (.inl b)), .int p0, .int p1, .int p2, .int p3]) ++ List.replicate (5 - (lg_sl ([.ref (ad (.inl b)), .int p0, .int p1, .int p2, .int p3])).length) Slot.unset).toArray = ls at hl ⊢
  have hl : lv_has ls 5 [(0, .ref (ad (.inl b))), (1, .int p0), (2, .int p1), (3, .int p2), (4, .int p3)] := hl
  exact w_x_st_moves ⟨B.exec, B.bytes, B.returns, hml, findClass_of_methodNamed B.named, fun w h => atoms_spec (ws := ws_ yX4_moves cX4_moves 5 (none)) B.pre w (List.mem_cons_of_mem _ h), B.notSynchronized, hK, hZ0, hA0⟩ hIx g b p0 p1 p2 p3 h_b hf hM va_S.rf hl

def rm_x_st_like : Room := { frames := 3, cells := 0, slots := 0, locals := 64 }
set_option maxHeartbeats 4000000 in
set_option maxRecDepth 100000 in
theorem w_x_st_like {p : Program} {l : Launch} {e : Env} {s : State} {m : MethodId} {args : Array Value} {below : List Frame} {meth : Method} {c : Code} {D : va_G} {C : Nat → Nat} {a0 : Array Value} {s0 : State} {ad : Rl → Nat} {so : Nat → Option hS} {pr : hPr} {t : hSt} {lt : Rl → Nat → Int64} (CX : hCx D C a0 s0 p s m args meth c cX4_like 2 RX4 (none)) (hIx : hI (hA s0) ad (Sum.elim (xSH C pr) so)) (g : hSt) (b : Nat) (b0 : Nat) (h_b : xSt C (xSH C pr) b) (h_b0 : xSt C (xSH C pr) b0) {o : hSt} (hf : x_st_like g b b0 = some o) {H : Heap} {locs : List Loc} (hM : hW D vwCl ad (Sum.elim (xSH C pr) so) (Sum.elim g t) lt H) (hS : va_S (hA s0) s.heap H locs) {ls : Array Slot} (hl : lv_has ls 2 [(0, .ref (ad (.inl b))), (1, .ref (ad (.inl b0)))]) : W p l e rm_x_st_like s m args below meth c H locs 0 0 (MQ below (va_Qv (fun (_ : Unit) => True) (fun (_ : Unit) (U : State) => hW D vwCl ad (Sum.elim (xSH C pr) so) (Sum.elim o t) lt U.heap) (hA s0)) args s 0 0 (hA s0)) (F0 m 0 ls []) := by
  obtain ⟨hx, hb, hr, hml, hown, hts, hlocks, hK, hZ0, hA0⟩ := CX
  unfold x_st_like at hf
  refine lv_aload_n hx hb dX4_like_0 rfl (lv_at hl 1 rfl) ?_
  refine hr_get (ci := 1) (C := RX4) (T := TX4) (N := 6) (r := .inl b0) hx hb hts in_X4 hown hK hM h_b0.o rfl 0 (by decide) (hts _ q509) rfl (v := .ref (ad (.inl (b0 + 1)))) rfl dX4_like_1 ?_
  refine lv_iconst (v := 0) hx hb dX4_like_4 (by decide) ?_
  refine lv_aload_n hx hb dX4_like_5 rfl (lv_at hl 0 rfl) ?_
  refine hr_get (ci := 1) (C := RX4) (T := TX4) (N := 6) (r := .inl b) hx hb hts in_X4 hown hK hM h_b.o rfl 0 (by decide) (hts _ q509) rfl (v := .ref (ad (.inl (b + 1)))) rfl dX4_like_6 ?_
  refine lv_iconst (v := 0) hx hb dX4_like_9 (by decide) ?_
  refine lv_bipush (v := 6) hx hb dX4_like_10 (by decide) ?_
  refine hx_copy (r0 := (b0 + 1)) (r1 := (b + 1)) hx hb (by rw [hml]; exact hl.1.symm) hown (hts _ q797) (hts _ q262) (hts _ q261) (hts _ q92) hK hM hIx hS h_b0.a1 h_b.a1 rfl hf (Nat.le_of_ble_eq_true rfl) (Nat.le_of_ble_eq_true rfl) dX4_like_12 (fun g1 H locs hf hM hS => ?_)
  refine lv_aload_n hx hb dX4_like_15 rfl (lv_at hl 1 rfl) ?_
  refine hr_get (ci := 1) (C := RX4) (T := TX4) (N := 6) (r := .inl b0) hx hb hts in_X4 hown hK hM h_b0.o rfl 1 (by decide) (hts _ q512) rfl (v := .ref (ad (.inl (b0 + 2)))) rfl dX4_like_16 ?_
  refine lv_iconst (v := 0) hx hb dX4_like_19 (by decide) ?_
  refine lv_aload_n hx hb dX4_like_20 rfl (lv_at hl 0 rfl) ?_
  refine hr_get (ci := 1) (C := RX4) (T := TX4) (N := 6) (r := .inl b) hx hb hts in_X4 hown hK hM h_b.o rfl 1 (by decide) (hts _ q512) rfl (v := .ref (ad (.inl (b + 2)))) rfl dX4_like_21 ?_
  refine lv_iconst (v := 0) hx hb dX4_like_24 (by decide) ?_
  refine lv_bipush (v := 6) hx hb dX4_like_25 (by decide) ?_
  refine hx_copy (r0 := (b0 + 2)) (r1 := (b + 2)) hx hb (by rw [hml]; exact hl.1.symm) hown (hts _ q797) (hts _ q262) (hts _ q261) (hts _ q92) hK hM hIx hS h_b0.a2 h_b.a2 rfl hf (Nat.le_of_ble_eq_true rfl) (Nat.le_of_ble_eq_true rfl) dX4_like_27 (fun g2 H locs hf hM hS => ?_)
  refine lv_aload_n hx hb dX4_like_30 rfl (lv_at hl 1 rfl) ?_
  refine hr_get (ci := 1) (C := RX4) (T := TX4) (N := 6) (r := .inl b0) hx hb hts in_X4 hown hK hM h_b0.o rfl 2 (by decide) (hts _ q515) rfl (v := .ref (ad (.inl (b0 + 3)))) rfl dX4_like_31 ?_
  refine lv_iconst (v := 0) hx hb dX4_like_34 (by decide) ?_
  refine lv_aload_n hx hb dX4_like_35 rfl (lv_at hl 0 rfl) ?_
  refine hr_get (ci := 1) (C := RX4) (T := TX4) (N := 6) (r := .inl b) hx hb hts in_X4 hown hK hM h_b.o rfl 2 (by decide) (hts _ q515) rfl (v := .ref (ad (.inl (b + 3)))) rfl dX4_like_36 ?_
  refine lv_iconst (v := 0) hx hb dX4_like_39 (by decide) ?_
  refine lv_bipush (v := 6) hx hb dX4_like_40 (by decide) ?_
  refine hx_copy (r0 := (b0 + 3)) (r1 := (b + 3)) hx hb (by rw [hml]; exact hl.1.symm) hown (hts _ q797) (hts _ q262) (hts _ q261) (hts _ q92) hK hM hIx hS h_b0.a3 h_b.a3 rfl hf (Nat.le_of_ble_eq_true rfl) (Nat.le_of_ble_eq_true rfl) dX4_like_42 (fun g3 H locs hf hM hS => ?_)
  refine lv_aload_n hx hb dX4_like_45 rfl (lv_at hl 1 rfl) ?_
  refine hr_get (ci := 1) (C := RX4) (T := TX4) (N := 6) (r := .inl b0) hx hb hts in_X4 hown hK hM h_b0.o rfl 3 (by decide) (hts _ q519) rfl (v := .ref (ad (.inl (b0 + 4)))) rfl dX4_like_46 ?_
  refine lv_iconst (v := 0) hx hb dX4_like_49 (by decide) ?_
  refine lv_aload_n hx hb dX4_like_50 rfl (lv_at hl 0 rfl) ?_
  refine hr_get (ci := 1) (C := RX4) (T := TX4) (N := 6) (r := .inl b) hx hb hts in_X4 hown hK hM h_b.o rfl 3 (by decide) (hts _ q519) rfl (v := .ref (ad (.inl (b + 4)))) rfl dX4_like_51 ?_
  refine lv_iconst (v := 0) hx hb dX4_like_54 (by decide) ?_
  refine lv_bipush (v := 6) hx hb dX4_like_55 (by decide) ?_
  refine hx_copy (r0 := (b0 + 4)) (r1 := (b + 4)) hx hb (by rw [hml]; exact hl.1.symm) hown (hts _ q797) (hts _ q262) (hts _ q261) (hts _ q92) hK hM hIx hS h_b0.a4 h_b.a4 rfl hf (Nat.le_of_ble_eq_true rfl) (Nat.le_of_ble_eq_true rfl) dX4_like_57 (fun g4 H locs hf hM hS => ?_)
  refine lv_aload_n hx hb dX4_like_60 rfl (lv_at hl 1 rfl) ?_
  refine hr_get (ci := 1) (C := RX4) (T := TX4) (N := 6) (r := .inl b0) hx hb hts in_X4 hown hK hM h_b0.o rfl 4 (by decide) (hts _ q523) rfl (v := .ref (ad (.inl (b0 + 5)))) rfl dX4_like_61 ?_
  refine lv_iconst (v := 0) hx hb dX4_like_64 (by decide) ?_
  refine lv_aload_n hx hb dX4_like_65 rfl (lv_at hl 0 rfl) ?_
  refine hr_get (ci := 1) (C := RX4) (T := TX4) (N := 6) (r := .inl b) hx hb hts in_X4 hown hK hM h_b.o rfl 4 (by decide) (hts _ q523) rfl (v := .ref (ad (.inl (b + 5)))) rfl dX4_like_66 ?_
  refine lv_iconst (v := 0) hx hb dX4_like_69 (by decide) ?_
  refine lv_bipush (v := 12) hx hb dX4_like_70 (by decide) ?_
  refine hx_copy (r0 := (b0 + 5)) (r1 := (b + 5)) hx hb (by rw [hml]; exact hl.1.symm) hown (hts _ q797) (hts _ q262) (hts _ q261) (hts _ q92) hK hM hIx hS h_b0.a5 h_b.a5 rfl hf (Nat.le_of_ble_eq_true rfl) (Nat.le_of_ble_eq_true rfl) dX4_like_72 (fun g5 H locs hf hM hS => ?_)
  refine lv_aload_n hx hb dX4_like_75 rfl (lv_at hl 0 rfl) ?_
  refine lv_aload_n hx hb dX4_like_76 rfl (lv_at hl 1 rfl) ?_
  refine hr_get (ci := 1) (C := RX4) (T := TX4) (N := 6) (r := .inl b0) hx hb hts in_X4 hown hK hM h_b0.o rfl 5 (by decide) (hts _ q526) rfl (v := .int (g5 b0 5)) rfl dX4_like_77 ?_
  refine hx_put (r := b) (ci := 1) (C := RX4) (T := TX4) (N := 6) hx hb hts in_X4 tyX4 tyX4_ok nmX4 hown hK hM hIx hS h_b.o rfl 5 (by decide) (hts _ q526) rfl rfl rfl hf dX4_like_80 (fun g6 H locs hf hM hS => ?_)
  have eo := Option.some.inj hf
  subst eo
  exact W.vret hx hb hr (fun T ht hW => ⟨⟨(), rfl, trivial, by dsimp only; rw [ht]; exact hM⟩, hS.F ht⟩) hS.2.2 dX4_like_83
set_option maxHeartbeats 4000000 in
set_option maxRecDepth 100000 in
theorem met_x_st_like (l : Launch) (D : va_G) (C : Nat → Nat) (a0 : Array Value) (s0 : State) (ad : Rl → Nat) (so : Nat → Option hS) (pr : hPr) (t : hSt) (lt : Rl → Nat → Int64) (g : hSt) (b : Nat) (b0 : Nat) (h_b : xSt C (xSH C pr) b) (h_b0 : xSt C (xSH C pr) b0) {o : hSt} (hf : x_st_like g b b0 = some o) : Met l yX4_like (ws_ yX4_like cX4_like 2 (none)) rm_x_st_like (va_Pc [.ref (ad (.inl b)), .ref (ad (.inl b0))] (hB D vwCl (hT C) (hA s0) (hZ a0 s0) ad (Sum.elim (xSH C pr) so) (Sum.elim g t) lt)) (va_Qv (fun (_ : Unit) => True) (fun (_ : Unit) (U : State) => hW D vwCl ad (Sum.elim (xSH C pr) so) (Sum.elim o t) lt U.heap) (hA s0)) 0 0 (hA s0) := by
  refine Met.ofW (cc := cX4_like) (maxL := 2) (ret := (none)) (by decide) rfl ?_
  intro p e s m args below meth c s₁ B hml hv
  obtain ⟨rfl, hM, hIx, hK, hZ0, hA0⟩ := hv
  have hl := lv_entry ([.ref (ad (.inl b)), .ref (ad (.inl b0))]) (n := 2) (Nat.le_of_ble_eq_true rfl)
  rw [lg_entry_eq]
  generalize (lg_sl ([.ref (ad (.inl b)), .ref (ad (.inl b0))]) ++ List.replicate (2 - (lg_sl ([.ref (ad (.inl b)), .ref (ad (.inl b0))])).length) Slot.unset).toArray = ls at hl ⊢
  have hl : lv_has ls 2 [(0, .ref (ad (.inl b))), (1, .ref (ad (.inl b0)))] := hl
  exact w_x_st_like ⟨B.exec, B.bytes, B.returns, hml, findClass_of_methodNamed B.named, fun w h => atoms_spec (ws := ws_ yX4_like cX4_like 2 (none)) B.pre w (List.mem_cons_of_mem _ h), B.notSynchronized, hK, hZ0, hA0⟩ hIx g b b0 h_b h_b0 hf hM va_S.rf hl

def rm_x_st_owner : Room := { frames := 1, cells := 0, slots := 0, locals := 16 }
set_option maxHeartbeats 4000000 in
set_option maxRecDepth 100000 in
theorem w_x_st_owner_L2 {p : Program} {l : Launch} {e : Env} {s : State} {m : MethodId} {args : Array Value} {below : List Frame} {meth : Method} {c : Code} {D : va_G} {C : Nat → Nat} {a0 : Array Value} {s0 : State} {ad : Rl → Nat} {so : Nat → Option hS} {pr : hPr} {t : hSt} {lt : Rl → Nat → Int64} (CX : hCx D C a0 s0 p s m args meth c cX4_owner 3 RX4 (some .int)) (hIx : hI (hA s0) ad (Sum.elim (xSH C pr) so)) (g : hSt) (b : Nat) (p0 : Int32) (h_b : xSt C (xSH C pr) b) {oM : Int32} (x : (Unit) ⊕ (Int32)) (n : Nat) (q0 : Int32) (h0 : hiter (fun q : Int32 => x_st_owner_L2 g b p0 q) n q0 = some x) (kx0 : ∀ x' : Unit, x = .inl x' → ∀ (H : Heap) (locs : List Loc) (ls : Array Slot), hW D vwCl ad (Sum.elim (xSH C pr) so) (Sum.elim g t) lt H → va_S (hA s0) s.heap H locs → lv_has ls 3 [] → W p l e rm_x_st_owner s m args below meth c H locs 0 0 (MQ below (va_Qi (fun (r : Int32) (_ : Unit) => r = oM) (fun (_ : Unit) (U : State) => hW D vwCl ad (Sum.elim (xSH C pr) so) (Sum.elim g t) lt U.heap) (hA s0)) args s 0 0 (hA s0)) (F0 m 30 ls [])) (kr0 : ∀ r : Int32, x = .inr r → r = oM) : ∀ (H : Heap) (locs : List Loc) (ls : Array Slot), hW D vwCl ad (Sum.elim (xSH C pr) so) (Sum.elim g t) lt H → va_S (hA s0) s.heap H locs → lv_has ls 3 [(0, .ref (ad (.inl b))), (1, .int p0), (2, .int q0)] → W p l e rm_x_st_owner s m args below meth c H locs 0 0 (MQ below (va_Qi (fun (r : Int32) (_ : Unit) => r = oM) (fun (_ : Unit) (U : State) => hW D vwCl ad (Sum.elim (xSH C pr) so) (Sum.elim g t) lt U.heap) (hA s0)) args s 0 0 (hA s0)) (F0 m 2 ls []) := by
  obtain ⟨hx, hb, hr, hml, hown, hts, hlocks, hK, hZ0, hA0⟩ := CX
  refine hiter_W (Wh := fun q => ∀ (H : Heap) (locs : List Loc) (ls : Array Slot), hW D vwCl ad (Sum.elim (xSH C pr) so) (Sum.elim g t) lt H → va_S (hA s0) s.heap H locs → lv_has ls 3 [(0, .ref (ad (.inl b))), (1, .int p0), (2, .int q)] → W p l e rm_x_st_owner s m args below meth c H locs 0 0 (MQ below (va_Qi (fun (r : Int32) (_ : Unit) => r = oM) (fun (_ : Unit) (U : State) => hW D vwCl ad (Sum.elim (xSH C pr) so) (Sum.elim g t) lt U.heap) (hA s0)) args s 0 0 (hA s0)) (F0 m 2 ls [])) ?_ n q0 h0
  intro q o hf kc kx1 H locs ls hM hS hl
  obtain ⟨v2_2, rfl⟩ : ∃ z, z = q := ⟨_, rfl⟩
  replace hf : x_st_owner_L2 g b p0 v2_2 = some o := hf
  have kx : ∀ x' : Unit, o = .inr (.inl x') → ∀ (H : Heap) (locs : List Loc) (ls : Array Slot), hW D vwCl ad (Sum.elim (xSH C pr) so) (Sum.elim g t) lt H → va_S (hA s0) s.heap H locs → lv_has ls 3 [] → W p l e rm_x_st_owner s m args below meth c H locs 0 0 (MQ below (va_Qi (fun (r : Int32) (_ : Unit) => r = oM) (fun (_ : Unit) (U : State) => hW D vwCl ad (Sum.elim (xSH C pr) so) (Sum.elim g t) lt U.heap) (hA s0)) args s 0 0 (hA s0)) (F0 m 30 ls []) := fun x' ex => kx0 x' (kx1 _ ex).symm
  have kr : ∀ r : Int32, o = .inr (.inr r) → r = oM := fun r ex => kr0 r (kx1 _ ex).symm
  unfold x_st_owner_L2 at hf
  refine lv_iload_n hx hb dX4_owner_2 rfl (lv_at hl 2 rfl) ?_
  refine lv_bipush (v := 6) hx hb dX4_owner_3 (by decide) ?_
  refine hb_icmp_ge (tgt := 30) hx hb dX4_owner_5 (by decide) hf (fun hf => ?_) (fun hf => ?_)
  · exact kx () (Option.some.inj hf).symm H locs ls hM hS (lv_sub hl [] rfl)
  · refine lv_aload_n hx hb dX4_owner_8 rfl (lv_at hl 0 rfl) ?_
    refine hr_get (ci := 1) (C := RX4) (T := TX4) (N := 6) (r := .inl b) hx hb hts in_X4 hown hK hM h_b.o rfl 0 (by decide) (hts _ q509) rfl (v := .ref (ad (.inl (b + 1)))) rfl dX4_owner_9 ?_
    refine lv_iload_n hx hb dX4_owner_12 rfl (lv_at hl 2 rfl) ?_
    refine hx_iald (r := (b + 1)) hx hb hK hM 0 h_b.a1 rfl hf dX4_owner_13 (fun x1 hf => ?_)
    refine lv_iload_n hx hb dX4_owner_14 rfl (lv_at hl 1 rfl) ?_
    refine lv_ishr hx hb dX4_owner_15 ?_
    refine lv_iconst (v := 1) hx hb dX4_owner_16 (by decide) ?_
    refine lv_iand hx hb dX4_owner_17 ?_
    refine lv_iconst (v := 1) hx hb dX4_owner_18 (by decide) ?_
    refine hb_icmp_ne (tgt := 24) hx hb dX4_owner_19 (by decide) hf (fun hf => ?_) (fun hf => ?_)
    · obtain ⟨y2_2, ey, hf⟩ := hlet_ex hf
      refine lv_iinc (v := y2_2) (lv' := [(2, .int y2_2), (0, .ref (ad (.inl b))), (1, .int p0)]) hx hb dX4_owner_24 hl (k := 2) rfl (by rw [ey]; rfl) (by decide) rfl (fun ls hl => ?_)
      refine lv_goto (tgt := 2) hx hb dX4_owner_27 (by decide) ?_
      exact kc y2_2 (Option.some.inj hf).symm H locs ls hM hS (lv_sub hl [1, 2, 0] rfl)
    · refine lv_iload_n hx hb dX4_owner_22 rfl (lv_at hl 2 rfl) ?_
      have eo := kr v2_2 (Option.some.inj hf).symm
      subst eo
      exact W.iret (v := v2_2) hx hb hr (fun T ht hW => ⟨⟨v2_2, (), rfl, rfl, by dsimp only; rw [ht]; exact hM⟩, hS.F ht⟩) hS.2.2 dX4_owner_23
set_option maxHeartbeats 4000000 in
set_option maxRecDepth 100000 in
theorem w_x_st_owner {p : Program} {l : Launch} {e : Env} {s : State} {m : MethodId} {args : Array Value} {below : List Frame} {meth : Method} {c : Code} {D : va_G} {C : Nat → Nat} {a0 : Array Value} {s0 : State} {ad : Rl → Nat} {so : Nat → Option hS} {pr : hPr} {t : hSt} {lt : Rl → Nat → Int64} (CX : hCx D C a0 s0 p s m args meth c cX4_owner 3 RX4 (some .int)) (hIx : hI (hA s0) ad (Sum.elim (xSH C pr) so)) (g : hSt) (b : Nat) (p0 : Int32) (h_b : xSt C (xSH C pr) b) {o : Int32} (hf : x_st_owner g b p0 = some o) {H : Heap} {locs : List Loc} (hM : hW D vwCl ad (Sum.elim (xSH C pr) so) (Sum.elim g t) lt H) (hS : va_S (hA s0) s.heap H locs) {ls : Array Slot} (hl : lv_has ls 3 [(0, .ref (ad (.inl b))), (1, .int p0)]) : W p l e rm_x_st_owner s m args below meth c H locs 0 0 (MQ below (va_Qi (fun (r : Int32) (_ : Unit) => r = o) (fun (_ : Unit) (U : State) => hW D vwCl ad (Sum.elim (xSH C pr) so) (Sum.elim g t) lt U.heap) (hA s0)) args s 0 0 (hA s0)) (F0 m 0 ls []) := by
  obtain ⟨hx, hb, hr, hml, hown, hts, hlocks, hK, hZ0, hA0⟩ := CX
  unfold x_st_owner at hf
  refine lv_iconst (v := 0) hx hb dX4_owner_0 (by decide) ?_
  refine lv_istore_n (lv' := [(2, .int (0 : Int32)), (0, .ref (ad (.inl b))), (1, .int p0)]) hx hb dX4_owner_1 rfl hl (by decide) rfl (fun ls hl => ?_)
  obtain ⟨x3, hq, hf⟩ := hbind hf
  refine w_x_st_owner_L2 ⟨hx, hb, hr, hml, hown, hts, hlocks, hK, hZ0, hA0⟩ hIx g b p0 h_b x3 hFU (0 : Int32) hq (fun e4 ex1 H locs ls hM hS hl => ?_) (fun r er => ?_) H locs ls hM hS (lv_sub hl [1, 2, 0] rfl)
  · subst ex1
    replace hf := hcase_l hf
    refine lv_iconst (v := -1) hx hb dX4_owner_30 (by decide) ?_
    have eo := Option.some.inj hf
    subst eo
    exact W.iret (v := (-1 : Int32)) hx hb hr (fun T ht hW => ⟨⟨(-1 : Int32), (), rfl, rfl, by dsimp only; rw [ht]; exact hM⟩, hS.F ht⟩) hS.2.2 dX4_owner_31
  · subst er
    first | exact Option.some.inj (hcase_r hf) | exact Option.some.inj hf
set_option maxHeartbeats 4000000 in
set_option maxRecDepth 100000 in
theorem met_x_st_owner (l : Launch) (D : va_G) (C : Nat → Nat) (a0 : Array Value) (s0 : State) (ad : Rl → Nat) (so : Nat → Option hS) (pr : hPr) (t : hSt) (lt : Rl → Nat → Int64) (g : hSt) (b : Nat) (p0 : Int32) (h_b : xSt C (xSH C pr) b) {o : Int32} (hf : x_st_owner g b p0 = some o) : Met l yX4_owner (ws_ yX4_owner cX4_owner 3 (some .int)) rm_x_st_owner (va_Pc [.ref (ad (.inl b)), .int p0] (hB D vwCl (hT C) (hA s0) (hZ a0 s0) ad (Sum.elim (xSH C pr) so) (Sum.elim g t) lt)) (va_Qi (fun (r : Int32) (_ : Unit) => r = o) (fun (_ : Unit) (U : State) => hW D vwCl ad (Sum.elim (xSH C pr) so) (Sum.elim g t) lt U.heap) (hA s0)) 0 0 (hA s0) := by
  refine Met.ofW (cc := cX4_owner) (maxL := 3) (ret := (some .int)) (by decide) rfl ?_
  intro p e s m args below meth c s₁ B hml hv
  obtain ⟨rfl, hM, hIx, hK, hZ0, hA0⟩ := hv
  have hl := lv_entry ([.ref (ad (.inl b)), .int p0]) (n := 3) (Nat.le_of_ble_eq_true rfl)
  rw [lg_entry_eq]
  generalize (lg_sl ([.ref (ad (.inl b)), .int p0]) ++ List.replicate (3 - (lg_sl ([.ref (ad (.inl b)), .int p0])).length) Slot.unset).toArray = ls at hl ⊢
  have hl : lv_has ls 3 [(0, .ref (ad (.inl b))), (1, .int p0)] := hl
  exact w_x_st_owner ⟨B.exec, B.bytes, B.returns, hml, findClass_of_methodNamed B.named, fun w h => atoms_spec (ws := ws_ yX4_owner cX4_owner 3 (some .int)) B.pre w (List.mem_cons_of_mem _ h), B.notSynchronized, hK, hZ0, hA0⟩ hIx g b p0 h_b hf hM va_S.rf hl

def rm_x_st_spot : Room := { frames := 1, cells := 0, slots := 0, locals := 16 }
set_option maxHeartbeats 4000000 in
set_option maxRecDepth 100000 in
theorem w_x_st_spot_L4 {p : Program} {l : Launch} {e : Env} {s : State} {m : MethodId} {args : Array Value} {below : List Frame} {meth : Method} {c : Code} {D : va_G} {C : Nat → Nat} {a0 : Array Value} {s0 : State} {ad : Rl → Nat} {so : Nat → Option hS} {pr : hPr} {t : hSt} {lt : Rl → Nat → Int64} (CX : hCx D C a0 s0 p s m args meth c cX4_spot 3 RX4 (some .int)) (hIx : hI (hA s0) ad (Sum.elim (xSH C pr) so)) (g : hSt) (b : Nat) (h_b : xSt C (xSH C pr) b) {oM : Int32} (x : Int32) (n : Nat) (q0 : Int32 × Int32) (h0 : hiter (fun q : Int32 × Int32 => x_st_spot_L4 g b q.1 q.2) n q0 = some x) (kx0 : ∀ (H : Heap) (locs : List Loc) (ls : Array Slot), hW D vwCl ad (Sum.elim (xSH C pr) so) (Sum.elim g t) lt H → va_S (hA s0) s.heap H locs → lv_has ls 3 [(1, .int x)] → W p l e rm_x_st_spot s m args below meth c H locs 0 0 (MQ below (va_Qi (fun (r : Int32) (_ : Unit) => r = oM) (fun (_ : Unit) (U : State) => hW D vwCl ad (Sum.elim (xSH C pr) so) (Sum.elim g t) lt U.heap) (hA s0)) args s 0 0 (hA s0)) (F0 m 58 ls [])) : ∀ (H : Heap) (locs : List Loc) (ls : Array Slot), hW D vwCl ad (Sum.elim (xSH C pr) so) (Sum.elim g t) lt H → va_S (hA s0) s.heap H locs → lv_has ls 3 [(0, .ref (ad (.inl b))), (1, .int q0.1), (2, .int q0.2)] → W p l e rm_x_st_spot s m args below meth c H locs 0 0 (MQ below (va_Qi (fun (r : Int32) (_ : Unit) => r = oM) (fun (_ : Unit) (U : State) => hW D vwCl ad (Sum.elim (xSH C pr) so) (Sum.elim g t) lt U.heap) (hA s0)) args s 0 0 (hA s0)) (F0 m 4 ls []) := by
  obtain ⟨hx, hb, hr, hml, hown, hts, hlocks, hK, hZ0, hA0⟩ := CX
  refine hiter_W (Wh := fun q => ∀ (H : Heap) (locs : List Loc) (ls : Array Slot), hW D vwCl ad (Sum.elim (xSH C pr) so) (Sum.elim g t) lt H → va_S (hA s0) s.heap H locs → lv_has ls 3 [(0, .ref (ad (.inl b))), (1, .int q.1), (2, .int q.2)] → W p l e rm_x_st_spot s m args below meth c H locs 0 0 (MQ below (va_Qi (fun (r : Int32) (_ : Unit) => r = oM) (fun (_ : Unit) (U : State) => hW D vwCl ad (Sum.elim (xSH C pr) so) (Sum.elim g t) lt U.heap) (hA s0)) args s 0 0 (hA s0)) (F0 m 4 ls [])) ?_ n q0 h0
  intro q o hf kc kx1 H locs ls hM hS hl
  obtain ⟨v1_4, v2_4⟩ := q
  replace hf : x_st_spot_L4 g b v1_4 v2_4 = some o := hf
  have kx : ∀ x' : Int32, o = .inr x' → ∀ (H : Heap) (locs : List Loc) (ls : Array Slot), hW D vwCl ad (Sum.elim (xSH C pr) so) (Sum.elim g t) lt H → va_S (hA s0) s.heap H locs → lv_has ls 3 [(1, .int x')] → W p l e rm_x_st_spot s m args below meth c H locs 0 0 (MQ below (va_Qi (fun (r : Int32) (_ : Unit) => r = oM) (fun (_ : Unit) (U : State) => hW D vwCl ad (Sum.elim (xSH C pr) so) (Sum.elim g t) lt U.heap) (hA s0)) args s 0 0 (hA s0)) (F0 m 58 ls []) := fun x' ex => by rw [kx1 _ ex]; exact kx0
  unfold x_st_spot_L4 at hf
  refine lv_iload_n hx hb dX4_spot_4 rfl (lv_at hl 2 rfl) ?_
  refine lv_bipush (v := 6) hx hb dX4_spot_5 (by decide) ?_
  refine hb_icmp_ge (tgt := 58) hx hb dX4_spot_7 (by decide) hf (fun hf => ?_) (fun hf => ?_)
  · exact kx v1_4 (Option.some.inj hf).symm H locs ls hM hS (lv_sub hl [1] rfl)
  · refine lv_iload_n hx hb dX4_spot_10 rfl (lv_at hl 1 rfl) ?_
    refine lv_bipush (v := 31) hx hb dX4_spot_11 (by decide) ?_
    refine lv_imul hx hb dX4_spot_13 ?_
    refine lv_aload_n hx hb dX4_spot_14 rfl (lv_at hl 0 rfl) ?_
    refine hr_get (ci := 1) (C := RX4) (T := TX4) (N := 6) (r := .inl b) hx hb hts in_X4 hown hK hM h_b.o rfl 0 (by decide) (hts _ q509) rfl (v := .ref (ad (.inl (b + 1)))) rfl dX4_spot_15 ?_
    refine lv_iload_n hx hb dX4_spot_18 rfl (lv_at hl 2 rfl) ?_
    refine hx_iald (r := (b + 1)) hx hb hK hM 0 h_b.a1 rfl hf dX4_spot_19 (fun x1 hf => ?_)
    refine lv_iadd hx hb dX4_spot_20 ?_
    refine lv_bipush (v := 31) hx hb dX4_spot_21 (by decide) ?_
    refine lv_imul hx hb dX4_spot_23 ?_
    refine lv_aload_n hx hb dX4_spot_24 rfl (lv_at hl 0 rfl) ?_
    refine hr_get (ci := 1) (C := RX4) (T := TX4) (N := 6) (r := .inl b) hx hb hts in_X4 hown hK hM h_b.o rfl 1 (by decide) (hts _ q512) rfl (v := .ref (ad (.inl (b + 2)))) rfl dX4_spot_25 ?_
    refine lv_iload_n hx hb dX4_spot_28 rfl (lv_at hl 2 rfl) ?_
    refine hx_iald (r := (b + 2)) hx hb hK hM 0 h_b.a2 rfl hf dX4_spot_29 (fun x2 hf => ?_)
    refine lv_iadd hx hb dX4_spot_30 ?_
    refine lv_bipush (v := 31) hx hb dX4_spot_31 (by decide) ?_
    refine lv_imul hx hb dX4_spot_33 ?_
    refine lv_aload_n hx hb dX4_spot_34 rfl (lv_at hl 0 rfl) ?_
    refine hr_get (ci := 1) (C := RX4) (T := TX4) (N := 6) (r := .inl b) hx hb hts in_X4 hown hK hM h_b.o rfl 2 (by decide) (hts _ q515) rfl (v := .ref (ad (.inl (b + 3)))) rfl dX4_spot_35 ?_
    refine lv_iload_n hx hb dX4_spot_38 rfl (lv_at hl 2 rfl) ?_
    refine hx_iald (r := (b + 3)) hx hb hK hM 0 h_b.a3 rfl hf dX4_spot_39 (fun x3 hf => ?_)
    refine lv_bipush (v := 7) hx hb dX4_spot_40 (by decide) ?_
    refine lv_imul hx hb dX4_spot_42 ?_
    refine lv_iadd hx hb dX4_spot_43 ?_
    refine lv_aload_n hx hb dX4_spot_44 rfl (lv_at hl 0 rfl) ?_
    refine hr_get (ci := 1) (C := RX4) (T := TX4) (N := 6) (r := .inl b) hx hb hts in_X4 hown hK hM h_b.o rfl 3 (by decide) (hts _ q519) rfl (v := .ref (ad (.inl (b + 4)))) rfl dX4_spot_45 ?_
    refine lv_iload_n hx hb dX4_spot_48 rfl (lv_at hl 2 rfl) ?_
    refine hx_iald (r := (b + 4)) hx hb hK hM 0 h_b.a4 rfl hf dX4_spot_49 (fun x4 hf => ?_)
    refine lv_iadd hx hb dX4_spot_50 ?_
    refine hb_top hf (fun y1_5 hf => ?_)
    refine lv_istore_n (lv' := [(1, .int y1_5), (0, .ref (ad (.inl b))), (2, .int v2_4)]) hx hb dX4_spot_51 rfl hl (by decide) rfl (fun ls hl => ?_)
    obtain ⟨y2_6, ey, hf⟩ := hlet_ex hf
    refine lv_iinc (v := y2_6) (lv' := [(2, .int y2_6), (1, .int y1_5), (0, .ref (ad (.inl b)))]) hx hb dX4_spot_52 hl (k := 2) rfl (by rw [ey]; rfl) (by decide) rfl (fun ls hl => ?_)
    refine lv_goto (tgt := 4) hx hb dX4_spot_55 (by decide) ?_
    exact kc (y1_5, y2_6) (Option.some.inj hf).symm H locs ls hM hS (lv_sub hl [2, 1, 0] rfl)
set_option maxHeartbeats 4000000 in
set_option maxRecDepth 100000 in
theorem w_x_st_spot {p : Program} {l : Launch} {e : Env} {s : State} {m : MethodId} {args : Array Value} {below : List Frame} {meth : Method} {c : Code} {D : va_G} {C : Nat → Nat} {a0 : Array Value} {s0 : State} {ad : Rl → Nat} {so : Nat → Option hS} {pr : hPr} {t : hSt} {lt : Rl → Nat → Int64} (CX : hCx D C a0 s0 p s m args meth c cX4_spot 3 RX4 (some .int)) (hIx : hI (hA s0) ad (Sum.elim (xSH C pr) so)) (g : hSt) (b : Nat) (h_b : xSt C (xSH C pr) b) {o : Int32} (hf : x_st_spot g b = some o) {H : Heap} {locs : List Loc} (hM : hW D vwCl ad (Sum.elim (xSH C pr) so) (Sum.elim g t) lt H) (hS : va_S (hA s0) s.heap H locs) {ls : Array Slot} (hl : lv_has ls 3 [(0, .ref (ad (.inl b)))]) : W p l e rm_x_st_spot s m args below meth c H locs 0 0 (MQ below (va_Qi (fun (r : Int32) (_ : Unit) => r = o) (fun (_ : Unit) (U : State) => hW D vwCl ad (Sum.elim (xSH C pr) so) (Sum.elim g t) lt U.heap) (hA s0)) args s 0 0 (hA s0)) (F0 m 0 ls []) := by
  obtain ⟨hx, hb, hr, hml, hown, hts, hlocks, hK, hZ0, hA0⟩ := CX
  unfold x_st_spot at hf
  refine lv_iconst (v := 0) hx hb dX4_spot_0 (by decide) ?_
  refine lv_istore_n (lv' := [(1, .int (0 : Int32)), (0, .ref (ad (.inl b)))]) hx hb dX4_spot_1 rfl hl (by decide) rfl (fun ls hl => ?_)
  refine lv_iconst (v := 0) hx hb dX4_spot_2 (by decide) ?_
  refine lv_istore_n (lv' := [(2, .int (0 : Int32)), (1, .int (0 : Int32)), (0, .ref (ad (.inl b)))]) hx hb dX4_spot_3 rfl hl (by decide) rfl (fun ls hl => ?_)
  obtain ⟨x7, hq, hf⟩ := hbind hf
  refine w_x_st_spot_L4 ⟨hx, hb, hr, hml, hown, hts, hlocks, hK, hZ0, hA0⟩ hIx g b h_b x7 hFU ((0 : Int32), (0 : Int32)) hq (fun H locs ls hM hS hl => ?_) H locs ls hM hS (lv_sub hl [2, 1, 0] rfl)
  refine lv_iload_n hx hb dX4_spot_58 rfl (lv_at hl 0 rfl) ?_
  refine lv_iload_n hx hb dX4_spot_59 rfl (lv_at hl 0 rfl) ?_
  refine lv_bipush (v := 12) hx hb dX4_spot_60 (by decide) ?_
  refine lv_iushr hx hb dX4_spot_62 rfl ?_
  refine lv_ixor hx hb dX4_spot_63 ?_
  refine lv_sipush (v := 4095) hx hb dX4_spot_64 (by decide) ?_
  refine lv_iand hx hb dX4_spot_67 ?_
  have eo := Option.some.inj hf
  subst eo
  exact W.iret (v := ((x7 ^^^ (x7.toUInt32 >>> ((12 : Int32).toUInt32 &&& Int32.toUInt32 31)).toInt32) &&& (4095 : Int32))) hx hb hr (fun T ht hW => ⟨⟨((x7 ^^^ (x7.toUInt32 >>> ((12 : Int32).toUInt32 &&& Int32.toUInt32 31)).toInt32) &&& (4095 : Int32)), (), rfl, rfl, by dsimp only; rw [ht]; exact hM⟩, hS.F ht⟩) hS.2.2 dX4_spot_68
set_option maxHeartbeats 4000000 in
set_option maxRecDepth 100000 in
theorem met_x_st_spot (l : Launch) (D : va_G) (C : Nat → Nat) (a0 : Array Value) (s0 : State) (ad : Rl → Nat) (so : Nat → Option hS) (pr : hPr) (t : hSt) (lt : Rl → Nat → Int64) (g : hSt) (b : Nat) (h_b : xSt C (xSH C pr) b) {o : Int32} (hf : x_st_spot g b = some o) : Met l yX4_spot (ws_ yX4_spot cX4_spot 3 (some .int)) rm_x_st_spot (va_Pc [.ref (ad (.inl b))] (hB D vwCl (hT C) (hA s0) (hZ a0 s0) ad (Sum.elim (xSH C pr) so) (Sum.elim g t) lt)) (va_Qi (fun (r : Int32) (_ : Unit) => r = o) (fun (_ : Unit) (U : State) => hW D vwCl ad (Sum.elim (xSH C pr) so) (Sum.elim g t) lt U.heap) (hA s0)) 0 0 (hA s0) := by
  refine Met.ofW (cc := cX4_spot) (maxL := 3) (ret := (some .int)) (by decide) rfl ?_
  intro p e s m args below meth c s₁ B hml hv
  obtain ⟨rfl, hM, hIx, hK, hZ0, hA0⟩ := hv
  have hl := lv_entry ([.ref (ad (.inl b))]) (n := 3) (Nat.le_of_ble_eq_true rfl)
  rw [lg_entry_eq]
  generalize (lg_sl ([.ref (ad (.inl b))]) ++ List.replicate (3 - (lg_sl ([.ref (ad (.inl b))])).length) Slot.unset).toArray = ls at hl ⊢
  have hl : lv_has ls 3 [(0, .ref (ad (.inl b)))] := hl
  exact w_x_st_spot ⟨B.exec, B.bytes, B.returns, hml, findClass_of_methodNamed B.named, fun w h => atoms_spec (ws := ws_ yX4_spot cX4_spot 3 (some .int)) B.pre w (List.mem_cons_of_mem _ h), B.notSynchronized, hK, hZ0, hA0⟩ hIx g b h_b hf hM va_S.rf hl

def rm_x_st_isLike : Room := { frames := 1, cells := 0, slots := 0, locals := 16 }
set_option maxHeartbeats 4000000 in
set_option maxRecDepth 100000 in
theorem w_x_st_isLike_L2 {p : Program} {l : Launch} {e : Env} {s : State} {m : MethodId} {args : Array Value} {below : List Frame} {meth : Method} {c : Code} {D : va_G} {C : Nat → Nat} {a0 : Array Value} {s0 : State} {ad : Rl → Nat} {so : Nat → Option hS} {pr : hPr} {t : hSt} {lt : Rl → Nat → Int64} (CX : hCx D C a0 s0 p s m args meth c cX4_isLike 3 RX4 (some .boolean)) (hIx : hI (hA s0) ad (Sum.elim (xSH C pr) so)) (g : hSt) (b : Nat) (b0 : Nat) (h_b : xSt C (xSH C pr) b) (h_b0 : xSt C (xSH C pr) b0) {oM : Int32} (x : (Unit) ⊕ (Int32)) (n : Nat) (q0 : Int32) (h0 : hiter (fun q : Int32 => x_st_isLike_L2 g b b0 q) n q0 = some x) (kx0 : ∀ x' : Unit, x = .inl x' → ∀ (H : Heap) (locs : List Loc) (ls : Array Slot), hW D vwCl ad (Sum.elim (xSH C pr) so) (Sum.elim g t) lt H → va_S (hA s0) s.heap H locs → lv_has ls 3 [] → W p l e rm_x_st_isLike s m args below meth c H locs 0 0 (MQ below (va_Qi (fun (r : Int32) (_ : Unit) => r = oM) (fun (_ : Unit) (U : State) => hW D vwCl ad (Sum.elim (xSH C pr) so) (Sum.elim g t) lt U.heap) (hA s0)) args s 0 0 (hA s0)) (F0 m 76 ls [])) (kr0 : ∀ r : Int32, x = .inr r → r = oM) : ∀ (H : Heap) (locs : List Loc) (ls : Array Slot), hW D vwCl ad (Sum.elim (xSH C pr) so) (Sum.elim g t) lt H → va_S (hA s0) s.heap H locs → lv_has ls 3 [(0, .ref (ad (.inl b))), (1, .ref (ad (.inl b0))), (2, .int q0)] → W p l e rm_x_st_isLike s m args below meth c H locs 0 0 (MQ below (va_Qi (fun (r : Int32) (_ : Unit) => r = oM) (fun (_ : Unit) (U : State) => hW D vwCl ad (Sum.elim (xSH C pr) so) (Sum.elim g t) lt U.heap) (hA s0)) args s 0 0 (hA s0)) (F0 m 2 ls []) := by
  obtain ⟨hx, hb, hr, hml, hown, hts, hlocks, hK, hZ0, hA0⟩ := CX
  refine hiter_W (Wh := fun q => ∀ (H : Heap) (locs : List Loc) (ls : Array Slot), hW D vwCl ad (Sum.elim (xSH C pr) so) (Sum.elim g t) lt H → va_S (hA s0) s.heap H locs → lv_has ls 3 [(0, .ref (ad (.inl b))), (1, .ref (ad (.inl b0))), (2, .int q)] → W p l e rm_x_st_isLike s m args below meth c H locs 0 0 (MQ below (va_Qi (fun (r : Int32) (_ : Unit) => r = oM) (fun (_ : Unit) (U : State) => hW D vwCl ad (Sum.elim (xSH C pr) so) (Sum.elim g t) lt U.heap) (hA s0)) args s 0 0 (hA s0)) (F0 m 2 ls [])) ?_ n q0 h0
  intro q o hf kc kx1 H locs ls hM hS hl
  obtain ⟨v2_2, rfl⟩ : ∃ z, z = q := ⟨_, rfl⟩
  replace hf : x_st_isLike_L2 g b b0 v2_2 = some o := hf
  have kx : ∀ x' : Unit, o = .inr (.inl x') → ∀ (H : Heap) (locs : List Loc) (ls : Array Slot), hW D vwCl ad (Sum.elim (xSH C pr) so) (Sum.elim g t) lt H → va_S (hA s0) s.heap H locs → lv_has ls 3 [] → W p l e rm_x_st_isLike s m args below meth c H locs 0 0 (MQ below (va_Qi (fun (r : Int32) (_ : Unit) => r = oM) (fun (_ : Unit) (U : State) => hW D vwCl ad (Sum.elim (xSH C pr) so) (Sum.elim g t) lt U.heap) (hA s0)) args s 0 0 (hA s0)) (F0 m 76 ls []) := fun x' ex => kx0 x' (kx1 _ ex).symm
  have kr : ∀ r : Int32, o = .inr (.inr r) → r = oM := fun r ex => kr0 r (kx1 _ ex).symm
  unfold x_st_isLike_L2 at hf
  refine lv_iload_n hx hb dX4_isLike_2 rfl (lv_at hl 2 rfl) ?_
  refine lv_bipush (v := 6) hx hb dX4_isLike_3 (by decide) ?_
  refine hb_icmp_ge (tgt := 76) hx hb dX4_isLike_5 (by decide) hf (fun hf => ?_) (fun hf => ?_)
  · exact kx () (Option.some.inj hf).symm H locs ls hM hS (lv_sub hl [] rfl)
  · refine lv_aload_n hx hb dX4_isLike_8 rfl (lv_at hl 0 rfl) ?_
    refine hr_get (ci := 1) (C := RX4) (T := TX4) (N := 6) (r := .inl b) hx hb hts in_X4 hown hK hM h_b.o rfl 0 (by decide) (hts _ q509) rfl (v := .ref (ad (.inl (b + 1)))) rfl dX4_isLike_9 ?_
    refine lv_iload_n hx hb dX4_isLike_12 rfl (lv_at hl 2 rfl) ?_
    refine hx_iald (r := (b + 1)) hx hb hK hM 0 h_b.a1 rfl hf dX4_isLike_13 (fun x1 hf => ?_)
    refine lv_aload_n hx hb dX4_isLike_14 rfl (lv_at hl 1 rfl) ?_
    refine hr_get (ci := 1) (C := RX4) (T := TX4) (N := 6) (r := .inl b0) hx hb hts in_X4 hown hK hM h_b0.o rfl 0 (by decide) (hts _ q509) rfl (v := .ref (ad (.inl (b0 + 1)))) rfl dX4_isLike_15 ?_
    refine lv_iload_n hx hb dX4_isLike_18 rfl (lv_at hl 2 rfl) ?_
    refine hx_iald (r := (b0 + 1)) hx hb hK hM 0 h_b0.a1 rfl hf dX4_isLike_19 (fun x2 hf => ?_)
    refine hb_icmp_ne (tgt := 68) hx hb dX4_isLike_20 (by decide) hf (fun hf => ?_) (fun hf => ?_)
    · refine lv_iconst (v := 0) hx hb dX4_isLike_68 (by decide) ?_
      have eo := kr (0 : Int32) (Option.some.inj hf).symm
      subst eo
      exact W.zret (v := (0 : Int32)) hx hb hr rfl (fun T ht hW => ⟨⟨(0 : Int32), (), rfl, rfl, by dsimp only; rw [ht]; exact hM⟩, hS.F ht⟩) hS.2.2 dX4_isLike_69
    · refine lv_aload_n hx hb dX4_isLike_23 rfl (lv_at hl 0 rfl) ?_
      refine hr_get (ci := 1) (C := RX4) (T := TX4) (N := 6) (r := .inl b) hx hb hts in_X4 hown hK hM h_b.o rfl 1 (by decide) (hts _ q512) rfl (v := .ref (ad (.inl (b + 2)))) rfl dX4_isLike_24 ?_
      refine lv_iload_n hx hb dX4_isLike_27 rfl (lv_at hl 2 rfl) ?_
      refine hx_iald (r := (b + 2)) hx hb hK hM 0 h_b.a2 rfl hf dX4_isLike_28 (fun x3 hf => ?_)
      refine lv_aload_n hx hb dX4_isLike_29 rfl (lv_at hl 1 rfl) ?_
      refine hr_get (ci := 1) (C := RX4) (T := TX4) (N := 6) (r := .inl b0) hx hb hts in_X4 hown hK hM h_b0.o rfl 1 (by decide) (hts _ q512) rfl (v := .ref (ad (.inl (b0 + 2)))) rfl dX4_isLike_30 ?_
      refine lv_iload_n hx hb dX4_isLike_33 rfl (lv_at hl 2 rfl) ?_
      refine hx_iald (r := (b0 + 2)) hx hb hK hM 0 h_b0.a2 rfl hf dX4_isLike_34 (fun x4 hf => ?_)
      refine hb_icmp_ne (tgt := 68) hx hb dX4_isLike_35 (by decide) hf (fun hf => ?_) (fun hf => ?_)
      · refine lv_iconst (v := 0) hx hb dX4_isLike_68 (by decide) ?_
        have eo := kr (0 : Int32) (Option.some.inj hf).symm
        subst eo
        exact W.zret (v := (0 : Int32)) hx hb hr rfl (fun T ht hW => ⟨⟨(0 : Int32), (), rfl, rfl, by dsimp only; rw [ht]; exact hM⟩, hS.F ht⟩) hS.2.2 dX4_isLike_69
      · refine lv_aload_n hx hb dX4_isLike_38 rfl (lv_at hl 0 rfl) ?_
        refine hr_get (ci := 1) (C := RX4) (T := TX4) (N := 6) (r := .inl b) hx hb hts in_X4 hown hK hM h_b.o rfl 2 (by decide) (hts _ q515) rfl (v := .ref (ad (.inl (b + 3)))) rfl dX4_isLike_39 ?_
        refine lv_iload_n hx hb dX4_isLike_42 rfl (lv_at hl 2 rfl) ?_
        refine hx_iald (r := (b + 3)) hx hb hK hM 0 h_b.a3 rfl hf dX4_isLike_43 (fun x5 hf => ?_)
        refine lv_aload_n hx hb dX4_isLike_44 rfl (lv_at hl 1 rfl) ?_
        refine hr_get (ci := 1) (C := RX4) (T := TX4) (N := 6) (r := .inl b0) hx hb hts in_X4 hown hK hM h_b0.o rfl 2 (by decide) (hts _ q515) rfl (v := .ref (ad (.inl (b0 + 3)))) rfl dX4_isLike_45 ?_
        refine lv_iload_n hx hb dX4_isLike_48 rfl (lv_at hl 2 rfl) ?_
        refine hx_iald (r := (b0 + 3)) hx hb hK hM 0 h_b0.a3 rfl hf dX4_isLike_49 (fun x6 hf => ?_)
        refine hb_icmp_ne (tgt := 68) hx hb dX4_isLike_50 (by decide) hf (fun hf => ?_) (fun hf => ?_)
        · refine lv_iconst (v := 0) hx hb dX4_isLike_68 (by decide) ?_
          have eo := kr (0 : Int32) (Option.some.inj hf).symm
          subst eo
          exact W.zret (v := (0 : Int32)) hx hb hr rfl (fun T ht hW => ⟨⟨(0 : Int32), (), rfl, rfl, by dsimp only; rw [ht]; exact hM⟩, hS.F ht⟩) hS.2.2 dX4_isLike_69
        · refine lv_aload_n hx hb dX4_isLike_53 rfl (lv_at hl 0 rfl) ?_
          refine hr_get (ci := 1) (C := RX4) (T := TX4) (N := 6) (r := .inl b) hx hb hts in_X4 hown hK hM h_b.o rfl 3 (by decide) (hts _ q519) rfl (v := .ref (ad (.inl (b + 4)))) rfl dX4_isLike_54 ?_
          refine lv_iload_n hx hb dX4_isLike_57 rfl (lv_at hl 2 rfl) ?_
          refine hx_iald (r := (b + 4)) hx hb hK hM 0 h_b.a4 rfl hf dX4_isLike_58 (fun x7 hf => ?_)
          refine lv_aload_n hx hb dX4_isLike_59 rfl (lv_at hl 1 rfl) ?_
          refine hr_get (ci := 1) (C := RX4) (T := TX4) (N := 6) (r := .inl b0) hx hb hts in_X4 hown hK hM h_b0.o rfl 3 (by decide) (hts _ q519) rfl (v := .ref (ad (.inl (b0 + 4)))) rfl dX4_isLike_60 ?_
          refine lv_iload_n hx hb dX4_isLike_63 rfl (lv_at hl 2 rfl) ?_
          refine hx_iald (r := (b0 + 4)) hx hb hK hM 0 h_b0.a4 rfl hf dX4_isLike_64 (fun x8 hf => ?_)
          refine hb_icmp_eq (tgt := 70) hx hb dX4_isLike_65 (by decide) hf (fun hf => ?_) (fun hf => ?_)
          · obtain ⟨y2_9, ey, hf⟩ := hlet_ex hf
            refine lv_iinc (v := y2_9) (lv' := [(2, .int y2_9), (0, .ref (ad (.inl b))), (1, .ref (ad (.inl b0)))]) hx hb dX4_isLike_70 hl (k := 2) rfl (by rw [ey]; rfl) (by decide) rfl (fun ls hl => ?_)
            refine lv_goto (tgt := 2) hx hb dX4_isLike_73 (by decide) ?_
            exact kc y2_9 (Option.some.inj hf).symm H locs ls hM hS (lv_sub hl [1, 2, 0] rfl)
          · refine lv_iconst (v := 0) hx hb dX4_isLike_68 (by decide) ?_
            have eo := kr (0 : Int32) (Option.some.inj hf).symm
            subst eo
            exact W.zret (v := (0 : Int32)) hx hb hr rfl (fun T ht hW => ⟨⟨(0 : Int32), (), rfl, rfl, by dsimp only; rw [ht]; exact hM⟩, hS.F ht⟩) hS.2.2 dX4_isLike_69
set_option maxHeartbeats 4000000 in
set_option maxRecDepth 100000 in
theorem w_x_st_isLike {p : Program} {l : Launch} {e : Env} {s : State} {m : MethodId} {args : Array Value} {below : List Frame} {meth : Method} {c : Code} {D : va_G} {C : Nat → Nat} {a0 : Array Value} {s0 : State} {ad : Rl → Nat} {so : Nat → Option hS} {pr : hPr} {t : hSt} {lt : Rl → Nat → Int64} (CX : hCx D C a0 s0 p s m args meth c cX4_isLike 3 RX4 (some .boolean)) (hIx : hI (hA s0) ad (Sum.elim (xSH C pr) so)) (g : hSt) (b : Nat) (b0 : Nat) (h_b : xSt C (xSH C pr) b) (h_b0 : xSt C (xSH C pr) b0) {o : Int32} (hf : x_st_isLike g b b0 = some o) {H : Heap} {locs : List Loc} (hM : hW D vwCl ad (Sum.elim (xSH C pr) so) (Sum.elim g t) lt H) (hS : va_S (hA s0) s.heap H locs) {ls : Array Slot} (hl : lv_has ls 3 [(0, .ref (ad (.inl b))), (1, .ref (ad (.inl b0)))]) : W p l e rm_x_st_isLike s m args below meth c H locs 0 0 (MQ below (va_Qi (fun (r : Int32) (_ : Unit) => r = o) (fun (_ : Unit) (U : State) => hW D vwCl ad (Sum.elim (xSH C pr) so) (Sum.elim g t) lt U.heap) (hA s0)) args s 0 0 (hA s0)) (F0 m 0 ls []) := by
  obtain ⟨hx, hb, hr, hml, hown, hts, hlocks, hK, hZ0, hA0⟩ := CX
  unfold x_st_isLike at hf
  refine lv_iconst (v := 0) hx hb dX4_isLike_0 (by decide) ?_
  refine lv_istore_n (lv' := [(2, .int (0 : Int32)), (0, .ref (ad (.inl b))), (1, .ref (ad (.inl b0)))]) hx hb dX4_isLike_1 rfl hl (by decide) rfl (fun ls hl => ?_)
  obtain ⟨x10, hq, hf⟩ := hbind hf
  refine w_x_st_isLike_L2 ⟨hx, hb, hr, hml, hown, hts, hlocks, hK, hZ0, hA0⟩ hIx g b b0 h_b h_b0 x10 hFU (0 : Int32) hq (fun e11 ex1 H locs ls hM hS hl => ?_) (fun r er => ?_) H locs ls hM hS (lv_sub hl [1, 2, 0] rfl)
  · subst ex1
    replace hf := hcase_l hf
    refine lv_iconst (v := 1) hx hb dX4_isLike_76 (by decide) ?_
    have eo := Option.some.inj hf
    subst eo
    exact W.zret (v := (1 : Int32)) hx hb hr rfl (fun T ht hW => ⟨⟨(1 : Int32), (), rfl, rfl, by dsimp only; rw [ht]; exact hM⟩, hS.F ht⟩) hS.2.2 dX4_isLike_77
  · subst er
    first | exact Option.some.inj (hcase_r hf) | exact Option.some.inj hf
set_option maxHeartbeats 4000000 in
set_option maxRecDepth 100000 in
theorem met_x_st_isLike (l : Launch) (D : va_G) (C : Nat → Nat) (a0 : Array Value) (s0 : State) (ad : Rl → Nat) (so : Nat → Option hS) (pr : hPr) (t : hSt) (lt : Rl → Nat → Int64) (g : hSt) (b : Nat) (b0 : Nat) (h_b : xSt C (xSH C pr) b) (h_b0 : xSt C (xSH C pr) b0) {o : Int32} (hf : x_st_isLike g b b0 = some o) : Met l yX4_isLike (ws_ yX4_isLike cX4_isLike 3 (some .boolean)) rm_x_st_isLike (va_Pc [.ref (ad (.inl b)), .ref (ad (.inl b0))] (hB D vwCl (hT C) (hA s0) (hZ a0 s0) ad (Sum.elim (xSH C pr) so) (Sum.elim g t) lt)) (va_Qi (fun (r : Int32) (_ : Unit) => r = o) (fun (_ : Unit) (U : State) => hW D vwCl ad (Sum.elim (xSH C pr) so) (Sum.elim g t) lt U.heap) (hA s0)) 0 0 (hA s0) := by
  refine Met.ofW (cc := cX4_isLike) (maxL := 3) (ret := (some .boolean)) (by decide) rfl ?_
  intro p e s m args below meth c s₁ B hml hv
  obtain ⟨rfl, hM, hIx, hK, hZ0, hA0⟩ := hv
  have hl := lv_entry ([.ref (ad (.inl b)), .ref (ad (.inl b0))]) (n := 3) (Nat.le_of_ble_eq_true rfl)
  rw [lg_entry_eq]
  generalize (lg_sl ([.ref (ad (.inl b)), .ref (ad (.inl b0))]) ++ List.replicate (3 - (lg_sl ([.ref (ad (.inl b)), .ref (ad (.inl b0))])).length) Slot.unset).toArray = ls at hl ⊢
  have hl : lv_has ls 3 [(0, .ref (ad (.inl b))), (1, .ref (ad (.inl b0)))] := hl
  exact w_x_st_isLike ⟨B.exec, B.bytes, B.returns, hml, findClass_of_methodNamed B.named, fun w h => atoms_spec (ws := ws_ yX4_isLike cX4_isLike 3 (some .boolean)) B.pre w (List.mem_cons_of_mem _ h), B.notSynchronized, hK, hZ0, hA0⟩ hIx g b b0 h_b h_b0 hf hM va_S.rf hl

def rm_x_tn_all : Room := { frames := 1, cells := 0, slots := 0, locals := 16 }
set_option maxHeartbeats 4000000 in
set_option maxRecDepth 100000 in
theorem w_x_tn_all {p : Program} {l : Launch} {e : Env} {s : State} {m : MethodId} {args : Array Value} {below : List Frame} {meth : Method} {c : Code} {D : va_G} {C : Nat → Nat} {a0 : Array Value} {s0 : State} {ad : Rl → Nat} {so : Nat → Option hS} {pr : hPr} {t : hSt} {lt : Rl → Nat → Int64} (CX : hCx D C a0 s0 p s m args meth c cX2_all 1 RX2 (some .int)) (hIx : hI (hA s0) ad (Sum.elim (xSH C pr) so)) (g : hSt) {o : Int32} (hf : x_tn_all g = some o) {H : Heap} {locs : List Loc} (hM : hW D vwCl ad (Sum.elim (xSH C pr) so) (Sum.elim g t) lt H) (hS : va_S (hA s0) s.heap H locs) {ls : Array Slot} (hl : lv_has ls 1 [(0, .ref (ad (.inl 10)))]) : W p l e rm_x_tn_all s m args below meth c H locs 0 0 (MQ below (va_Qi (fun (r : Int32) (_ : Unit) => r = o) (fun (_ : Unit) (U : State) => hW D vwCl ad (Sum.elim (xSH C pr) so) (Sum.elim g t) lt U.heap) (hA s0)) args s 0 0 (hA s0)) (F0 m 0 ls []) := by
  obtain ⟨hx, hb, hr, hml, hown, hts, hlocks, hK, hZ0, hA0⟩ := CX
  unfold x_tn_all at hf
  refine lv_iconst (v := 1) hx hb dX2_all_0 (by decide) ?_
  refine lv_aload_n hx hb dX2_all_1 rfl (lv_at hl 0 rfl) ?_
  refine hr_get (ci := 2) (C := RX2) (T := TX2) (N := 6) (r := .inl 10) hx hb hts in_X2 hown hK hM xS_10 rfl 2 (by decide) (hts _ q474) rfl (v := .int (g 10 2)) rfl dX2_all_2 ?_
  refine lv_ishl hx hb dX2_all_5 ?_
  refine lv_iconst (v := 1) hx hb dX2_all_6 (by decide) ?_
  refine lv_isub hx hb dX2_all_7 ?_
  have eo := Option.some.inj hf
  subst eo
  exact W.iret (v := (((1 : Int32) <<< ((g 10 2) &&& (31 : Int32))) - (1 : Int32))) hx hb hr (fun T ht hW => ⟨⟨(((1 : Int32) <<< ((g 10 2) &&& (31 : Int32))) - (1 : Int32)), (), rfl, rfl, by dsimp only; rw [ht]; exact hM⟩, hS.F ht⟩) hS.2.2 dX2_all_8
set_option maxHeartbeats 4000000 in
set_option maxRecDepth 100000 in
theorem met_x_tn_all (l : Launch) (D : va_G) (C : Nat → Nat) (a0 : Array Value) (s0 : State) (ad : Rl → Nat) (so : Nat → Option hS) (pr : hPr) (t : hSt) (lt : Rl → Nat → Int64) (g : hSt) {o : Int32} (hf : x_tn_all g = some o) : Met l yX2_all (ws_ yX2_all cX2_all 1 (some .int)) rm_x_tn_all (va_Pc [.ref (ad (.inl 10))] (hB D vwCl (hT C) (hA s0) (hZ a0 s0) ad (Sum.elim (xSH C pr) so) (Sum.elim g t) lt)) (va_Qi (fun (r : Int32) (_ : Unit) => r = o) (fun (_ : Unit) (U : State) => hW D vwCl ad (Sum.elim (xSH C pr) so) (Sum.elim g t) lt U.heap) (hA s0)) 0 0 (hA s0) := by
  refine Met.ofW (cc := cX2_all) (maxL := 1) (ret := (some .int)) (by decide) rfl ?_
  intro p e s m args below meth c s₁ B hml hv
  obtain ⟨rfl, hM, hIx, hK, hZ0, hA0⟩ := hv
  have hl := lv_entry ([.ref (ad (.inl 10))]) (n := 1) (Nat.le_of_ble_eq_true rfl)
  rw [lg_entry_eq]
  generalize (lg_sl ([.ref (ad (.inl 10))]) ++ List.replicate (1 - (lg_sl ([.ref (ad (.inl 10))])).length) Slot.unset).toArray = ls at hl ⊢
  have hl : lv_has ls 1 [(0, .ref (ad (.inl 10)))] := hl
  exact w_x_tn_all ⟨B.exec, B.bytes, B.returns, hml, findClass_of_methodNamed B.named, fun w h => atoms_spec (ws := ws_ yX2_all cX2_all 1 (some .int)) B.pre w (List.mem_cons_of_mem _ h), B.notSynchronized, hK, hZ0, hA0⟩ hIx g hf hM va_S.rf hl

def rm_x_lst_worth : Room := { frames := 1, cells := 0, slots := 0, locals := 16 }
set_option maxHeartbeats 4000000 in
set_option maxRecDepth 100000 in
theorem w_x_lst_worth_L4 {p : Program} {l : Launch} {e : Env} {s : State} {m : MethodId} {args : Array Value} {below : List Frame} {meth : Method} {c : Code} {D : va_G} {C : Nat → Nat} {a0 : Array Value} {s0 : State} {ad : Rl → Nat} {so : Nat → Option hS} {pr : hPr} {t : hSt} {lt : Rl → Nat → Int64} (CX : hCx D C a0 s0 p s m args meth c cX12_worth 4 RX12 (some .int)) (hIx : hI (hA s0) ad (Sum.elim (xSH C pr) so)) (g : hSt) (p0 : Int32) {oM : Int32} (x : Int32) (n : Nat) (q0 : Int32 × Int32) (h0 : hiter (fun q : Int32 × Int32 => x_lst_worth_L4 g p0 q.1 q.2) n q0 = some x) (kx0 : ∀ (H : Heap) (locs : List Loc) (ls : Array Slot), hW D vwCl ad (Sum.elim (xSH C pr) so) (Sum.elim g t) lt H → va_S (hA s0) s.heap H locs → lv_has ls 4 [(2, .int x)] → W p l e rm_x_lst_worth s m args below meth c H locs 0 0 (MQ below (va_Qi (fun (r : Int32) (_ : Unit) => r = oM) (fun (_ : Unit) (U : State) => hW D vwCl ad (Sum.elim (xSH C pr) so) (Sum.elim g t) lt U.heap) (hA s0)) args s 0 0 (hA s0)) (F0 m 34 ls [])) : ∀ (H : Heap) (locs : List Loc) (ls : Array Slot), hW D vwCl ad (Sum.elim (xSH C pr) so) (Sum.elim g t) lt H → va_S (hA s0) s.heap H locs → lv_has ls 4 [(0, .int p0), (1, .ref (ad (.inl 10))), (2, .int q0.1), (3, .int q0.2)] → W p l e rm_x_lst_worth s m args below meth c H locs 0 0 (MQ below (va_Qi (fun (r : Int32) (_ : Unit) => r = oM) (fun (_ : Unit) (U : State) => hW D vwCl ad (Sum.elim (xSH C pr) so) (Sum.elim g t) lt U.heap) (hA s0)) args s 0 0 (hA s0)) (F0 m 4 ls []) := by
  obtain ⟨hx, hb, hr, hml, hown, hts, hlocks, hK, hZ0, hA0⟩ := CX
  refine hiter_W (Wh := fun q => ∀ (H : Heap) (locs : List Loc) (ls : Array Slot), hW D vwCl ad (Sum.elim (xSH C pr) so) (Sum.elim g t) lt H → va_S (hA s0) s.heap H locs → lv_has ls 4 [(0, .int p0), (1, .ref (ad (.inl 10))), (2, .int q.1), (3, .int q.2)] → W p l e rm_x_lst_worth s m args below meth c H locs 0 0 (MQ below (va_Qi (fun (r : Int32) (_ : Unit) => r = oM) (fun (_ : Unit) (U : State) => hW D vwCl ad (Sum.elim (xSH C pr) so) (Sum.elim g t) lt U.heap) (hA s0)) args s 0 0 (hA s0)) (F0 m 4 ls [])) ?_ n q0 h0
  intro q o hf kc kx1 H locs ls hM hS hl
  obtain ⟨v2_4, v3_4⟩ := q
  replace hf : x_lst_worth_L4 g p0 v2_4 v3_4 = some o := hf
  have kx : ∀ x' : Int32, o = .inr x' → ∀ (H : Heap) (locs : List Loc) (ls : Array Slot), hW D vwCl ad (Sum.elim (xSH C pr) so) (Sum.elim g t) lt H → va_S (hA s0) s.heap H locs → lv_has ls 4 [(2, .int x')] → W p l e rm_x_lst_worth s m args below meth c H locs 0 0 (MQ below (va_Qi (fun (r : Int32) (_ : Unit) => r = oM) (fun (_ : Unit) (U : State) => hW D vwCl ad (Sum.elim (xSH C pr) so) (Sum.elim g t) lt U.heap) (hA s0)) args s 0 0 (hA s0)) (F0 m 34 ls []) := fun x' ex => by rw [kx1 _ ex]; exact kx0
  unfold x_lst_worth_L4 at hf
  refine lv_iload_n hx hb dX12_worth_4 rfl (lv_at hl 3 rfl) ?_
  refine lv_bipush (v := 12) hx hb dX12_worth_5 (by decide) ?_
  refine hb_icmp_ge (tgt := 34) hx hb dX12_worth_7 (by decide) hf (fun hf => ?_) (fun hf => ?_)
  · exact kx v2_4 (Option.some.inj hf).symm H locs ls hM hS (lv_sub hl [2] rfl)
  · refine lv_iload_n hx hb dX12_worth_10 rfl (lv_at hl 0 rfl) ?_
    refine lv_iload_n hx hb dX12_worth_11 rfl (lv_at hl 3 rfl) ?_
    refine lv_ishr hx hb dX12_worth_12 ?_
    refine lv_iconst (v := 1) hx hb dX12_worth_13 (by decide) ?_
    refine lv_iand hx hb dX12_worth_14 ?_
    refine lv_iconst (v := 1) hx hb dX12_worth_15 (by decide) ?_
    refine hb_icmp_ne (tgt := 28) hx hb dX12_worth_16 (by decide) hf (fun hf => ?_) (fun hf => ?_)
    · obtain ⟨y3_1, ey, hf⟩ := hlet_ex hf
      refine lv_iinc (v := y3_1) (lv' := [(3, .int y3_1), (0, .int p0), (1, .ref (ad (.inl 10))), (2, .int v2_4)]) hx hb dX12_worth_28 hl (k := 3) rfl (by rw [ey]; rfl) (by decide) rfl (fun ls hl => ?_)
      refine lv_goto (tgt := 4) hx hb dX12_worth_31 (by decide) ?_
      exact kc (v2_4, y3_1) (Option.some.inj hf).symm H locs ls hM hS (lv_sub hl [1, 2, 3, 0] rfl)
    · refine lv_iload_n hx hb dX12_worth_19 rfl (lv_at hl 2 rfl) ?_
      refine lv_aload_n hx hb dX12_worth_20 rfl (lv_at hl 1 rfl) ?_
      refine hr_getN (ci := 2) (C := RX2) (T := TX2) (N := 6) (r := .inl 10) hx hb hts in_X2 hown hK hM xS_10 rfl 1 (by decide) (hZ_nest hZ0 q471 rfl) rfl (v := .ref (ad (.inl 13))) rfl dX12_worth_21 ?_
      refine lv_iload_n hx hb dX12_worth_24 rfl (lv_at hl 3 rfl) ?_
      refine hx_iald (r := 13) hx hb hK hM 0 xS_13 rfl hf dX12_worth_25 (fun x2 hf => ?_)
      refine lv_iadd hx hb dX12_worth_26 ?_
      refine hb_top hf (fun y2_3 hf => ?_)
      refine lv_istore_n (lv' := [(2, .int y2_3), (0, .int p0), (1, .ref (ad (.inl 10))), (3, .int v3_4)]) hx hb dX12_worth_27 rfl hl (by decide) rfl (fun ls hl => ?_)
      obtain ⟨y3_4, ey, hf⟩ := hlet_ex hf
      refine lv_iinc (v := y3_4) (lv' := [(3, .int y3_4), (2, .int y2_3), (0, .int p0), (1, .ref (ad (.inl 10)))]) hx hb dX12_worth_28 hl (k := 3) rfl (by rw [ey]; rfl) (by decide) rfl (fun ls hl => ?_)
      refine lv_goto (tgt := 4) hx hb dX12_worth_31 (by decide) ?_
      exact kc (y2_3, y3_4) (Option.some.inj hf).symm H locs ls hM hS (lv_sub hl [2, 3, 1, 0] rfl)
set_option maxHeartbeats 4000000 in
set_option maxRecDepth 100000 in
theorem w_x_lst_worth {p : Program} {l : Launch} {e : Env} {s : State} {m : MethodId} {args : Array Value} {below : List Frame} {meth : Method} {c : Code} {D : va_G} {C : Nat → Nat} {a0 : Array Value} {s0 : State} {ad : Rl → Nat} {so : Nat → Option hS} {pr : hPr} {t : hSt} {lt : Rl → Nat → Int64} (CX : hCx D C a0 s0 p s m args meth c cX12_worth 4 RX12 (some .int)) (hIx : hI (hA s0) ad (Sum.elim (xSH C pr) so)) (g : hSt) (p0 : Int32) {o : Int32} (hf : x_lst_worth g p0 = some o) {H : Heap} {locs : List Loc} (hM : hW D vwCl ad (Sum.elim (xSH C pr) so) (Sum.elim g t) lt H) (hS : va_S (hA s0) s.heap H locs) {ls : Array Slot} (hl : lv_has ls 4 [(0, .int p0), (1, .ref (ad (.inl 10)))]) : W p l e rm_x_lst_worth s m args below meth c H locs 0 0 (MQ below (va_Qi (fun (r : Int32) (_ : Unit) => r = o) (fun (_ : Unit) (U : State) => hW D vwCl ad (Sum.elim (xSH C pr) so) (Sum.elim g t) lt U.heap) (hA s0)) args s 0 0 (hA s0)) (F0 m 0 ls []) := by
  obtain ⟨hx, hb, hr, hml, hown, hts, hlocks, hK, hZ0, hA0⟩ := CX
  unfold x_lst_worth at hf
  refine lv_iconst (v := 0) hx hb dX12_worth_0 (by decide) ?_
  refine lv_istore_n (lv' := [(2, .int (0 : Int32)), (0, .int p0), (1, .ref (ad (.inl 10)))]) hx hb dX12_worth_1 rfl hl (by decide) rfl (fun ls hl => ?_)
  refine lv_iconst (v := 0) hx hb dX12_worth_2 (by decide) ?_
  refine lv_istore_n (lv' := [(3, .int (0 : Int32)), (2, .int (0 : Int32)), (0, .int p0), (1, .ref (ad (.inl 10)))]) hx hb dX12_worth_3 rfl hl (by decide) rfl (fun ls hl => ?_)
  obtain ⟨x5, hq, hf⟩ := hbind hf
  refine w_x_lst_worth_L4 ⟨hx, hb, hr, hml, hown, hts, hlocks, hK, hZ0, hA0⟩ hIx g p0 x5 hFU ((0 : Int32), (0 : Int32)) hq (fun H locs ls hM hS hl => ?_) H locs ls hM hS (lv_sub hl [2, 3, 1, 0] rfl)
  refine lv_iload_n hx hb dX12_worth_34 rfl (lv_at hl 0 rfl) ?_
  have eo := Option.some.inj hf
  subst eo
  exact W.iret (v := x5) hx hb hr (fun T ht hW => ⟨⟨x5, (), rfl, rfl, by dsimp only; rw [ht]; exact hM⟩, hS.F ht⟩) hS.2.2 dX12_worth_35
set_option maxHeartbeats 4000000 in
set_option maxRecDepth 100000 in
theorem met_x_lst_worth (l : Launch) (D : va_G) (C : Nat → Nat) (a0 : Array Value) (s0 : State) (ad : Rl → Nat) (so : Nat → Option hS) (pr : hPr) (t : hSt) (lt : Rl → Nat → Int64) (g : hSt) (p0 : Int32) {o : Int32} (hf : x_lst_worth g p0 = some o) : Met l yX12_worth (ws_ yX12_worth cX12_worth 4 (some .int)) rm_x_lst_worth (va_Pc [.int p0, .ref (ad (.inl 10))] (hB D vwCl (hT C) (hA s0) (hZ a0 s0) ad (Sum.elim (xSH C pr) so) (Sum.elim g t) lt)) (va_Qi (fun (r : Int32) (_ : Unit) => r = o) (fun (_ : Unit) (U : State) => hW D vwCl ad (Sum.elim (xSH C pr) so) (Sum.elim g t) lt U.heap) (hA s0)) 0 0 (hA s0) := by
  refine Met.ofW (cc := cX12_worth) (maxL := 4) (ret := (some .int)) (by decide) rfl ?_
  intro p e s m args below meth c s₁ B hml hv
  obtain ⟨rfl, hM, hIx, hK, hZ0, hA0⟩ := hv
  have hl := lv_entry ([.int p0, .ref (ad (.inl 10))]) (n := 4) (Nat.le_of_ble_eq_true rfl)
  rw [lg_entry_eq]
  generalize (lg_sl ([.int p0, .ref (ad (.inl 10))]) ++ List.replicate (4 - (lg_sl ([.int p0, .ref (ad (.inl 10))])).length) Slot.unset).toArray = ls at hl ⊢
  have hl : lv_has ls 4 [(0, .int p0), (1, .ref (ad (.inl 10)))] := hl
  exact w_x_lst_worth ⟨B.exec, B.bytes, B.returns, hml, findClass_of_methodNamed B.named, fun w h => atoms_spec (ws := ws_ yX12_worth cX12_worth 4 (some .int)) B.pre w (List.mem_cons_of_mem _ h), B.notSynchronized, hK, hZ0, hA0⟩ hIx g p0 hf hM va_S.rf hl

def rm_x_gv0_isReady : Room := { frames := 1, cells := 0, slots := 0, locals := 16 }
set_option maxHeartbeats 4000000 in
set_option maxRecDepth 100000 in
theorem w_x_gv0_isReady {p : Program} {l : Launch} {e : Env} {s : State} {m : MethodId} {args : Array Value} {below : List Frame} {meth : Method} {c : Code} {D : va_G} {C : Nat → Nat} {a0 : Array Value} {s0 : State} {ad : Rl → Nat} {so : Nat → Option hS} {pr : hPr} {st : Rl → Nat → Int32} {lt : Rl → Nat → Int64} (CX : hCx D C a0 s0 p s m args meth c cX8_isReady 2 RX8 (some .boolean)) (hIx : hI (hA s0) ad (Sum.elim (xSH C pr) so)) (b : Nat) (p0 : Int32) {o : Int32} (hf : x_gv0_isReady b p0 = some o) {H : Heap} {locs : List Loc} (hM : hW D vwCl ad (Sum.elim (xSH C pr) so) st lt H) (hS : va_S (hA s0) s.heap H locs) {ls : Array Slot} (hl : lv_has ls 2 [(0, .ref (ad (.inl b))), (1, .int p0)]) : W p l e rm_x_gv0_isReady s m args below meth c H locs 0 0 (MQ below (va_Qi (fun (r : Int32) (_ : Unit) => r = o) (fun (_ : Unit) (U : State) => hW D vwCl ad (Sum.elim (xSH C pr) so) st lt U.heap) (hA s0)) args s 0 0 (hA s0)) (F0 m 0 ls []) := by
  obtain ⟨hx, hb, hr, hml, hown, hts, hlocks, hK, hZ0, hA0⟩ := CX
  unfold x_gv0_isReady at hf
  refine lv_iconst (v := 1) hx hb dX8_isReady_0 (by decide) ?_
  have eo := Option.some.inj hf
  subst eo
  exact W.zret (v := (1 : Int32)) hx hb hr rfl (fun T ht hW => ⟨⟨(1 : Int32), (), rfl, rfl, by dsimp only; rw [ht]; exact hM⟩, hS.F ht⟩) hS.2.2 dX8_isReady_1
set_option maxHeartbeats 4000000 in
set_option maxRecDepth 100000 in
theorem met_x_gv0_isReady (l : Launch) (D : va_G) (C : Nat → Nat) (a0 : Array Value) (s0 : State) (ad : Rl → Nat) (so : Nat → Option hS) (pr : hPr) (st : Rl → Nat → Int32) (lt : Rl → Nat → Int64) (b : Nat) (p0 : Int32) {o : Int32} (hf : x_gv0_isReady b p0 = some o) : Met l yX8_isReady (ws_ yX8_isReady cX8_isReady 2 (some .boolean)) rm_x_gv0_isReady (va_Pc [.ref (ad (.inl b)), .int p0] (hB D vwCl (hT C) (hA s0) (hZ a0 s0) ad (Sum.elim (xSH C pr) so) st lt)) (va_Qi (fun (r : Int32) (_ : Unit) => r = o) (fun (_ : Unit) (U : State) => hW D vwCl ad (Sum.elim (xSH C pr) so) st lt U.heap) (hA s0)) 0 0 (hA s0) := by
  refine Met.ofW (cc := cX8_isReady) (maxL := 2) (ret := (some .boolean)) (by decide) rfl ?_
  intro p e s m args below meth c s₁ B hml hv
  obtain ⟨rfl, hM, hIx, hK, hZ0, hA0⟩ := hv
  have hl := lv_entry ([.ref (ad (.inl b)), .int p0]) (n := 2) (Nat.le_of_ble_eq_true rfl)
  rw [lg_entry_eq]
  generalize (lg_sl ([.ref (ad (.inl b)), .int p0]) ++ List.replicate (2 - (lg_sl ([.ref (ad (.inl b)), .int p0])).length) Slot.unset).toArray = ls at hl ⊢
  have hl : lv_has ls 2 [(0, .ref (ad (.inl b))), (1, .int p0)] := hl
  exact w_x_gv0_isReady ⟨B.exec, B.bytes, B.returns, hml, findClass_of_methodNamed B.named, fun w h => atoms_spec (ws := ws_ yX8_isReady cX8_isReady 2 (some .boolean)) B.pre w (List.mem_cons_of_mem _ h), B.notSynchronized, hK, hZ0, hA0⟩ hIx b p0 hf hM va_S.rf hl

def rm_x_gv0_mayTake : Room := { frames := 1, cells := 0, slots := 0, locals := 16 }
set_option maxHeartbeats 4000000 in
set_option maxRecDepth 100000 in
theorem w_x_gv0_mayTake {p : Program} {l : Launch} {e : Env} {s : State} {m : MethodId} {args : Array Value} {below : List Frame} {meth : Method} {c : Code} {D : va_G} {C : Nat → Nat} {a0 : Array Value} {s0 : State} {ad : Rl → Nat} {so : Nat → Option hS} {pr : hPr} {st : Rl → Nat → Int32} {lt : Rl → Nat → Int64} (CX : hCx D C a0 s0 p s m args meth c cX8_mayTake 2 RX8 (some .boolean)) (hIx : hI (hA s0) ad (Sum.elim (xSH C pr) so)) (b : Nat) (p0 : Int32) {o : Int32} (hf : x_gv0_mayTake b p0 = some o) {H : Heap} {locs : List Loc} (hM : hW D vwCl ad (Sum.elim (xSH C pr) so) st lt H) (hS : va_S (hA s0) s.heap H locs) {ls : Array Slot} (hl : lv_has ls 2 [(0, .ref (ad (.inl b))), (1, .int p0)]) : W p l e rm_x_gv0_mayTake s m args below meth c H locs 0 0 (MQ below (va_Qi (fun (r : Int32) (_ : Unit) => r = o) (fun (_ : Unit) (U : State) => hW D vwCl ad (Sum.elim (xSH C pr) so) st lt U.heap) (hA s0)) args s 0 0 (hA s0)) (F0 m 0 ls []) := by
  obtain ⟨hx, hb, hr, hml, hown, hts, hlocks, hK, hZ0, hA0⟩ := CX
  unfold x_gv0_mayTake at hf
  refine lv_iconst (v := 1) hx hb dX8_mayTake_0 (by decide) ?_
  have eo := Option.some.inj hf
  subst eo
  exact W.zret (v := (1 : Int32)) hx hb hr rfl (fun T ht hW => ⟨⟨(1 : Int32), (), rfl, rfl, by dsimp only; rw [ht]; exact hM⟩, hS.F ht⟩) hS.2.2 dX8_mayTake_1
set_option maxHeartbeats 4000000 in
set_option maxRecDepth 100000 in
theorem met_x_gv0_mayTake (l : Launch) (D : va_G) (C : Nat → Nat) (a0 : Array Value) (s0 : State) (ad : Rl → Nat) (so : Nat → Option hS) (pr : hPr) (st : Rl → Nat → Int32) (lt : Rl → Nat → Int64) (b : Nat) (p0 : Int32) {o : Int32} (hf : x_gv0_mayTake b p0 = some o) : Met l yX8_mayTake (ws_ yX8_mayTake cX8_mayTake 2 (some .boolean)) rm_x_gv0_mayTake (va_Pc [.ref (ad (.inl b)), .int p0] (hB D vwCl (hT C) (hA s0) (hZ a0 s0) ad (Sum.elim (xSH C pr) so) st lt)) (va_Qi (fun (r : Int32) (_ : Unit) => r = o) (fun (_ : Unit) (U : State) => hW D vwCl ad (Sum.elim (xSH C pr) so) st lt U.heap) (hA s0)) 0 0 (hA s0) := by
  refine Met.ofW (cc := cX8_mayTake) (maxL := 2) (ret := (some .boolean)) (by decide) rfl ?_
  intro p e s m args below meth c s₁ B hml hv
  obtain ⟨rfl, hM, hIx, hK, hZ0, hA0⟩ := hv
  have hl := lv_entry ([.ref (ad (.inl b)), .int p0]) (n := 2) (Nat.le_of_ble_eq_true rfl)
  rw [lg_entry_eq]
  generalize (lg_sl ([.ref (ad (.inl b)), .int p0]) ++ List.replicate (2 - (lg_sl ([.ref (ad (.inl b)), .int p0])).length) Slot.unset).toArray = ls at hl ⊢
  have hl : lv_has ls 2 [(0, .ref (ad (.inl b))), (1, .int p0)] := hl
  exact w_x_gv0_mayTake ⟨B.exec, B.bytes, B.returns, hml, findClass_of_methodNamed B.named, fun w h => atoms_spec (ws := ws_ yX8_mayTake cX8_mayTake 2 (some .boolean)) B.pre w (List.mem_cons_of_mem _ h), B.notSynchronized, hK, hZ0, hA0⟩ hIx b p0 hf hM va_S.rf hl

def rm_x_gv0_isBetter : Room := { frames := 1, cells := 0, slots := 0, locals := 16 }
set_option maxHeartbeats 4000000 in
set_option maxRecDepth 100000 in
theorem w_x_gv0_isBetter {p : Program} {l : Launch} {e : Env} {s : State} {m : MethodId} {args : Array Value} {below : List Frame} {meth : Method} {c : Code} {D : va_G} {C : Nat → Nat} {a0 : Array Value} {s0 : State} {ad : Rl → Nat} {so : Nat → Option hS} {pr : hPr} {st : Rl → Nat → Int32} {lt : Rl → Nat → Int64} (CX : hCx D C a0 s0 p s m args meth c cX8_isBetter 4 RX8 (some .boolean)) (hIx : hI (hA s0) ad (Sum.elim (xSH C pr) so)) (b : Nat) (p0 : Int32) (p1 : Int32) {o : Int32} (hf : x_gv0_isBetter b p0 p1 = some o) {H : Heap} {locs : List Loc} (hM : hW D vwCl ad (Sum.elim (xSH C pr) so) st lt H) (hS : va_S (hA s0) s.heap H locs) {ls : Array Slot} (hl : lv_has ls 4 [(0, .ref (ad (.inl b))), (1, .int p0), (2, .int p1), (3, .ref (ad (.inl 10)))]) : W p l e rm_x_gv0_isBetter s m args below meth c H locs 0 0 (MQ below (va_Qi (fun (r : Int32) (_ : Unit) => r = o) (fun (_ : Unit) (U : State) => hW D vwCl ad (Sum.elim (xSH C pr) so) st lt U.heap) (hA s0)) args s 0 0 (hA s0)) (F0 m 0 ls []) := by
  obtain ⟨hx, hb, hr, hml, hown, hts, hlocks, hK, hZ0, hA0⟩ := CX
  unfold x_gv0_isBetter at hf
  refine lv_iconst (v := 0) hx hb dX8_isBetter_0 (by decide) ?_
  have eo := Option.some.inj hf
  subst eo
  exact W.zret (v := (0 : Int32)) hx hb hr rfl (fun T ht hW => ⟨⟨(0 : Int32), (), rfl, rfl, by dsimp only; rw [ht]; exact hM⟩, hS.F ht⟩) hS.2.2 dX8_isBetter_1
set_option maxHeartbeats 4000000 in
set_option maxRecDepth 100000 in
theorem met_x_gv0_isBetter (l : Launch) (D : va_G) (C : Nat → Nat) (a0 : Array Value) (s0 : State) (ad : Rl → Nat) (so : Nat → Option hS) (pr : hPr) (st : Rl → Nat → Int32) (lt : Rl → Nat → Int64) (b : Nat) (p0 : Int32) (p1 : Int32) {o : Int32} (hf : x_gv0_isBetter b p0 p1 = some o) : Met l yX8_isBetter (ws_ yX8_isBetter cX8_isBetter 4 (some .boolean)) rm_x_gv0_isBetter (va_Pc [.ref (ad (.inl b)), .int p0, .int p1, .ref (ad (.inl 10))] (hB D vwCl (hT C) (hA s0) (hZ a0 s0) ad (Sum.elim (xSH C pr) so) st lt)) (va_Qi (fun (r : Int32) (_ : Unit) => r = o) (fun (_ : Unit) (U : State) => hW D vwCl ad (Sum.elim (xSH C pr) so) st lt U.heap) (hA s0)) 0 0 (hA s0) := by
  refine Met.ofW (cc := cX8_isBetter) (maxL := 4) (ret := (some .boolean)) (by decide) rfl ?_
  intro p e s m args below meth c s₁ B hml hv
  obtain ⟨rfl, hM, hIx, hK, hZ0, hA0⟩ := hv
  have hl := lv_entry ([.ref (ad (.inl b)), .int p0, .int p1, .ref (ad (.inl 10))]) (n := 4) (Nat.le_of_ble_eq_true rfl)
  rw [lg_entry_eq]
  generalize (lg_sl ([.ref (ad (.inl b)), .int p0, .int p1, .ref (ad (.inl 10))]) ++ List.replicate (4 - (lg_sl ([.ref (ad (.inl b)), .int p0, .int p1, .ref (ad (.inl 10))])).length) Slot.unset).toArray = ls at hl ⊢
  have hl : lv_has ls 4 [(0, .ref (ad (.inl b))), (1, .int p0), (2, .int p1), (3, .ref (ad (.inl 10)))] := hl
  exact w_x_gv0_isBetter ⟨B.exec, B.bytes, B.returns, hml, findClass_of_methodNamed B.named, fun w h => atoms_spec (ws := ws_ yX8_isBetter cX8_isBetter 4 (some .boolean)) B.pre w (List.mem_cons_of_mem _ h), B.notSynchronized, hK, hZ0, hA0⟩ hIx b p0 p1 hf hM va_S.rf hl

def rm_x_gv0_likes : Room := { frames := 1, cells := 0, slots := 0, locals := 16 }
set_option maxHeartbeats 4000000 in
set_option maxRecDepth 100000 in
theorem w_x_gv0_likes {p : Program} {l : Launch} {e : Env} {s : State} {m : MethodId} {args : Array Value} {below : List Frame} {meth : Method} {c : Code} {D : va_G} {C : Nat → Nat} {a0 : Array Value} {s0 : State} {ad : Rl → Nat} {so : Nat → Option hS} {pr : hPr} {st : Rl → Nat → Int32} {lt : Rl → Nat → Int64} (CX : hCx D C a0 s0 p s m args meth c cX8_likes 2 RX8 (some .int)) (hIx : hI (hA s0) ad (Sum.elim (xSH C pr) so)) (b : Nat) (b0 : Nat) (h_b0 : xSt C (xSH C pr) b0) {o : Int32} (hf : x_gv0_likes b b0 = some o) {H : Heap} {locs : List Loc} (hM : hW D vwCl ad (Sum.elim (xSH C pr) so) st lt H) (hS : va_S (hA s0) s.heap H locs) {ls : Array Slot} (hl : lv_has ls 2 [(0, .ref (ad (.inl b))), (1, .ref (ad (.inl b0)))]) : W p l e rm_x_gv0_likes s m args below meth c H locs 0 0 (MQ below (va_Qi (fun (r : Int32) (_ : Unit) => r = o) (fun (_ : Unit) (U : State) => hW D vwCl ad (Sum.elim (xSH C pr) so) st lt U.heap) (hA s0)) args s 0 0 (hA s0)) (F0 m 0 ls []) := by
  obtain ⟨hx, hb, hr, hml, hown, hts, hlocks, hK, hZ0, hA0⟩ := CX
  unfold x_gv0_likes at hf
  refine lv_iconst (v := -1) hx hb dX8_likes_0 (by decide) ?_
  have eo := Option.some.inj hf
  subst eo
  exact W.iret (v := (-1 : Int32)) hx hb hr (fun T ht hW => ⟨⟨(-1 : Int32), (), rfl, rfl, by dsimp only; rw [ht]; exact hM⟩, hS.F ht⟩) hS.2.2 dX8_likes_1
set_option maxHeartbeats 4000000 in
set_option maxRecDepth 100000 in
theorem met_x_gv0_likes (l : Launch) (D : va_G) (C : Nat → Nat) (a0 : Array Value) (s0 : State) (ad : Rl → Nat) (so : Nat → Option hS) (pr : hPr) (st : Rl → Nat → Int32) (lt : Rl → Nat → Int64) (b : Nat) (b0 : Nat) (h_b0 : xSt C (xSH C pr) b0) {o : Int32} (hf : x_gv0_likes b b0 = some o) : Met l yX8_likes (ws_ yX8_likes cX8_likes 2 (some .int)) rm_x_gv0_likes (va_Pc [.ref (ad (.inl b)), .ref (ad (.inl b0))] (hB D vwCl (hT C) (hA s0) (hZ a0 s0) ad (Sum.elim (xSH C pr) so) st lt)) (va_Qi (fun (r : Int32) (_ : Unit) => r = o) (fun (_ : Unit) (U : State) => hW D vwCl ad (Sum.elim (xSH C pr) so) st lt U.heap) (hA s0)) 0 0 (hA s0) := by
  refine Met.ofW (cc := cX8_likes) (maxL := 2) (ret := (some .int)) (by decide) rfl ?_
  intro p e s m args below meth c s₁ B hml hv
  obtain ⟨rfl, hM, hIx, hK, hZ0, hA0⟩ := hv
  have hl := lv_entry ([.ref (ad (.inl b)), .ref (ad (.inl b0))]) (n := 2) (Nat.le_of_ble_eq_true rfl)
  rw [lg_entry_eq]
  generalize (lg_sl ([.ref (ad (.inl b)), .ref (ad (.inl b0))]) ++ List.replicate (2 - (lg_sl ([.ref (ad (.inl b)), .ref (ad (.inl b0))])).length) Slot.unset).toArray = ls at hl ⊢
  have hl : lv_has ls 2 [(0, .ref (ad (.inl b))), (1, .ref (ad (.inl b0)))] := hl
  exact w_x_gv0_likes ⟨B.exec, B.bytes, B.returns, hml, findClass_of_methodNamed B.named, fun w h => atoms_spec (ws := ws_ yX8_likes cX8_likes 2 (some .int)) B.pre w (List.mem_cons_of_mem _ h), B.notSynchronized, hK, hZ0, hA0⟩ hIx b b0 h_b0 hf hM va_S.rf hl

def rm_x_pl_kind : Room := { frames := 1, cells := 0, slots := 0, locals := 16 }
set_option maxHeartbeats 4000000 in
set_option maxRecDepth 100000 in
theorem w_x_pl_kind {p : Program} {l : Launch} {e : Env} {s : State} {m : MethodId} {args : Array Value} {below : List Frame} {meth : Method} {c : Code} {D : va_G} {C : Nat → Nat} {a0 : Array Value} {s0 : State} {ad : Rl → Nat} {so : Nat → Option hS} {pr : hPr} {st : Rl → Nat → Int32} {lt : Rl → Nat → Int64} (CX : hCx D C a0 s0 p s m args meth c cX9_kind 1 RX9 (some .int)) (hIx : hI (hA s0) ad (Sum.elim (xSH C pr) so)) (b : Nat) (h_b : xSH C pr b = some (.inr (.inr (7, [])))) {o : Int32} (hf : x_pl_kind b = some o) {H : Heap} {locs : List Loc} (hM : hW D vwCl ad (Sum.elim (xSH C pr) so) st lt H) (hS : va_S (hA s0) s.heap H locs) {ls : Array Slot} (hl : lv_has ls 1 [(0, .ref (ad (.inl b)))]) : W p l e rm_x_pl_kind s m args below meth c H locs 0 0 (MQ below (va_Qi (fun (r : Int32) (_ : Unit) => r = o) (fun (_ : Unit) (U : State) => hW D vwCl ad (Sum.elim (xSH C pr) so) st lt U.heap) (hA s0)) args s 0 0 (hA s0)) (F0 m 0 ls []) := by
  obtain ⟨hx, hb, hr, hml, hown, hts, hlocks, hK, hZ0, hA0⟩ := CX
  unfold x_pl_kind at hf
  refine lv_iconst (v := 0) hx hb dX9_kind_0 (by decide) ?_
  have eo := Option.some.inj hf
  subst eo
  exact W.iret (v := (0 : Int32)) hx hb hr (fun T ht hW => ⟨⟨(0 : Int32), (), rfl, rfl, by dsimp only; rw [ht]; exact hM⟩, hS.F ht⟩) hS.2.2 dX9_kind_1
set_option maxHeartbeats 4000000 in
set_option maxRecDepth 100000 in
theorem met_x_pl_kind (l : Launch) (D : va_G) (C : Nat → Nat) (a0 : Array Value) (s0 : State) (ad : Rl → Nat) (so : Nat → Option hS) (pr : hPr) (st : Rl → Nat → Int32) (lt : Rl → Nat → Int64) (b : Nat) (h_b : xSH C pr b = some (.inr (.inr (7, [])))) {o : Int32} (hf : x_pl_kind b = some o) : Met l yX9_kind (ws_ yX9_kind cX9_kind 1 (some .int)) rm_x_pl_kind (va_Pc [.ref (ad (.inl b))] (hB D vwCl (hT C) (hA s0) (hZ a0 s0) ad (Sum.elim (xSH C pr) so) st lt)) (va_Qi (fun (r : Int32) (_ : Unit) => r = o) (fun (_ : Unit) (U : State) => hW D vwCl ad (Sum.elim (xSH C pr) so) st lt U.heap) (hA s0)) 0 0 (hA s0) := by
  refine Met.ofW (cc := cX9_kind) (maxL := 1) (ret := (some .int)) (by decide) rfl ?_
  intro p e s m args below meth c s₁ B hml hv
  obtain ⟨rfl, hM, hIx, hK, hZ0, hA0⟩ := hv
  have hl := lv_entry ([.ref (ad (.inl b))]) (n := 1) (Nat.le_of_ble_eq_true rfl)
  rw [lg_entry_eq]
  generalize (lg_sl ([.ref (ad (.inl b))]) ++ List.replicate (1 - (lg_sl ([.ref (ad (.inl b))])).length) Slot.unset).toArray = ls at hl ⊢
  have hl : lv_has ls 1 [(0, .ref (ad (.inl b)))] := hl
  exact w_x_pl_kind ⟨B.exec, B.bytes, B.returns, hml, findClass_of_methodNamed B.named, fun w h => atoms_spec (ws := ws_ yX9_kind cX9_kind 1 (some .int)) B.pre w (List.mem_cons_of_mem _ h), B.notSynchronized, hK, hZ0, hA0⟩ hIx b h_b hf hM va_S.rf hl

def rm_x_aim_kind : Room := { frames := 1, cells := 0, slots := 0, locals := 16 }
set_option maxHeartbeats 4000000 in
set_option maxRecDepth 100000 in
theorem w_x_aim_kind {p : Program} {l : Launch} {e : Env} {s : State} {m : MethodId} {args : Array Value} {below : List Frame} {meth : Method} {c : Code} {D : va_G} {C : Nat → Nat} {a0 : Array Value} {s0 : State} {ad : Rl → Nat} {so : Nat → Option hS} {pr : hPr} {st : Rl → Nat → Int32} {lt : Rl → Nat → Int64} (CX : hCx D C a0 s0 p s m args meth c cX10_kind 1 RX10 (some .int)) (hIx : hI (hA s0) ad (Sum.elim (xSH C pr) so)) (b : Nat) (h_b : xSH C pr b = some (.inr (.inr (10, [none])))) {o : Int32} (hf : x_aim_kind b = some o) {H : Heap} {locs : List Loc} (hM : hW D vwCl ad (Sum.elim (xSH C pr) so) st lt H) (hS : va_S (hA s0) s.heap H locs) {ls : Array Slot} (hl : lv_has ls 1 [(0, .ref (ad (.inl b)))]) : W p l e rm_x_aim_kind s m args below meth c H locs 0 0 (MQ below (va_Qi (fun (r : Int32) (_ : Unit) => r = o) (fun (_ : Unit) (U : State) => hW D vwCl ad (Sum.elim (xSH C pr) so) st lt U.heap) (hA s0)) args s 0 0 (hA s0)) (F0 m 0 ls []) := by
  obtain ⟨hx, hb, hr, hml, hown, hts, hlocks, hK, hZ0, hA0⟩ := CX
  unfold x_aim_kind at hf
  refine lv_iconst (v := 3) hx hb dX10_kind_0 (by decide) ?_
  have eo := Option.some.inj hf
  subst eo
  exact W.iret (v := (3 : Int32)) hx hb hr (fun T ht hW => ⟨⟨(3 : Int32), (), rfl, rfl, by dsimp only; rw [ht]; exact hM⟩, hS.F ht⟩) hS.2.2 dX10_kind_1
set_option maxHeartbeats 4000000 in
set_option maxRecDepth 100000 in
theorem met_x_aim_kind (l : Launch) (D : va_G) (C : Nat → Nat) (a0 : Array Value) (s0 : State) (ad : Rl → Nat) (so : Nat → Option hS) (pr : hPr) (st : Rl → Nat → Int32) (lt : Rl → Nat → Int64) (b : Nat) (h_b : xSH C pr b = some (.inr (.inr (10, [none])))) {o : Int32} (hf : x_aim_kind b = some o) : Met l yX10_kind (ws_ yX10_kind cX10_kind 1 (some .int)) rm_x_aim_kind (va_Pc [.ref (ad (.inl b))] (hB D vwCl (hT C) (hA s0) (hZ a0 s0) ad (Sum.elim (xSH C pr) so) st lt)) (va_Qi (fun (r : Int32) (_ : Unit) => r = o) (fun (_ : Unit) (U : State) => hW D vwCl ad (Sum.elim (xSH C pr) so) st lt U.heap) (hA s0)) 0 0 (hA s0) := by
  refine Met.ofW (cc := cX10_kind) (maxL := 1) (ret := (some .int)) (by decide) rfl ?_
  intro p e s m args below meth c s₁ B hml hv
  obtain ⟨rfl, hM, hIx, hK, hZ0, hA0⟩ := hv
  have hl := lv_entry ([.ref (ad (.inl b))]) (n := 1) (Nat.le_of_ble_eq_true rfl)
  rw [lg_entry_eq]
  generalize (lg_sl ([.ref (ad (.inl b))]) ++ List.replicate (1 - (lg_sl ([.ref (ad (.inl b))])).length) Slot.unset).toArray = ls at hl ⊢
  have hl : lv_has ls 1 [(0, .ref (ad (.inl b)))] := hl
  exact w_x_aim_kind ⟨B.exec, B.bytes, B.returns, hml, findClass_of_methodNamed B.named, fun w h => atoms_spec (ws := ws_ yX10_kind cX10_kind 1 (some .int)) B.pre w (List.mem_cons_of_mem _ h), B.notSynchronized, hK, hZ0, hA0⟩ hIx b h_b hf hM va_S.rf hl

def rm_x_aim_mayTake : Room := { frames := 3, cells := 0, slots := 0, locals := 38 }
set_option maxHeartbeats 4000000 in
set_option maxRecDepth 100000 in
theorem w_x_aim_mayTake_B23 {p : Program} {l : Launch} {e : Env} {s : State} {m : MethodId} {args : Array Value} {below : List Frame} {meth : Method} {c : Code} {D : va_G} {C : Nat → Nat} {a0 : Array Value} {s0 : State} {ad : Rl → Nat} {so : Nat → Option hS} {pr : hPr} {t : hSt} {lt : Rl → Nat → Int64} (CX : hCx D C a0 s0 p s m args meth c cX10_mayTake 2 RX10 (some .boolean)) (hIx : hI (hA s0) ad (Sum.elim (xSH C pr) so)) (g : hSt) (b : Nat) (p0 : Int32) (y1 : Int32) (h_b : xSH C pr b = some (.inr (.inr (10, [none])))) {o : Int32} (hf : x_aim_mayTake_B23 = some o) {H : Heap} {locs : List Loc} (hM : hW D vwCl ad (Sum.elim (xSH C pr) so) (Sum.elim g t) lt H) (hS : va_S (hA s0) s.heap H locs) {ls : Array Slot} (hl : lv_has ls 2 []) : W p l e rm_x_aim_mayTake s m args below meth c H locs 0 0 (MQ below (va_Qi (fun (r : Int32) (_ : Unit) => r = o) (fun (_ : Unit) (U : State) => hW D vwCl ad (Sum.elim (xSH C pr) so) (Sum.elim g t) lt U.heap) (hA s0)) args s 0 0 (hA s0)) (F0 m 23 ls []) := by
  obtain ⟨hx, hb, hr, hml, hown, hts, hlocks, hK, hZ0, hA0⟩ := CX
  unfold x_aim_mayTake_B23 at hf
  refine lv_iconst (v := 0) hx hb dX10_mayTake_23 (by decide) ?_
  have eo := Option.some.inj hf
  subst eo
  exact W.zret (v := (0 : Int32)) hx hb hr rfl (fun T ht hW => ⟨⟨(0 : Int32), (), rfl, rfl, by dsimp only; rw [ht]; exact hM⟩, hS.F ht⟩) hS.2.2 dX10_mayTake_24
set_option maxHeartbeats 4000000 in
set_option maxRecDepth 100000 in
theorem w_x_aim_mayTake {p : Program} {l : Launch} {e : Env} {s : State} {m : MethodId} {args : Array Value} {below : List Frame} {meth : Method} {c : Code} {D : va_G} {C : Nat → Nat} {a0 : Array Value} {s0 : State} {ad : Rl → Nat} {so : Nat → Option hS} {pr : hPr} {t : hSt} {lt : Rl → Nat → Int64} (CX : hCx D C a0 s0 p s m args meth c cX10_mayTake 2 RX10 (some .boolean)) (hIx : hI (hA s0) ad (Sum.elim (xSH C pr) so)) (g : hSt) (b : Nat) (p0 : Int32) (h_b : xSH C pr b = some (.inr (.inr (10, [none])))) {o : Int32} (hf : x_aim_mayTake g b p0 = some o) {H : Heap} {locs : List Loc} (hM : hW D vwCl ad (Sum.elim (xSH C pr) so) (Sum.elim g t) lt H) (hS : va_S (hA s0) s.heap H locs) {ls : Array Slot} (hl : lv_has ls 2 [(0, .ref (ad (.inl b))), (1, .int p0)]) : W p l e rm_x_aim_mayTake s m args below meth c H locs 0 0 (MQ below (va_Qi (fun (r : Int32) (_ : Unit) => r = o) (fun (_ : Unit) (U : State) => hW D vwCl ad (Sum.elim (xSH C pr) so) (Sum.elim g t) lt U.heap) (hA s0)) args s 0 0 (hA s0)) (F0 m 0 ls []) := by
  obtain ⟨hx, hb, hr, hml, hown, hts, hlocks, hK, hZ0, hA0⟩ := CX
  unfold x_aim_mayTake at hf
  refine lv_aload_n hx hb dX10_mayTake_0 rfl (lv_at hl 0 rfl) ?_
  refine lv_iload_n hx hb dX10_mayTake_1 rfl (lv_at hl 1 rfl) ?_
  obtain ⟨y1, hq, hf⟩ := hbind hf
  refine hr_calli0 (h_runSI (n := 1) (As := [.int p0]) (rest := []) (hK.1 10 _ rfl).2 ⟨hx, hb, hml, hown, hts⟩ (met_x_gv0_mayTake l D C a0 s0 ad so pr (Sum.elim g t) lt b p0 hq) rfl ⟨rfl, rfl, Nat.le_of_ble_eq_true rfl, Nat.le_of_ble_eq_true rfl⟩ (pay_in hts (lw_meth q837)) List.mem_cons_self (hts _ q833) (hts _ q834) (hts _ q836) (hts _ q825) (hts _ q828) (hts _ q104) (hts _ q837) (by decide) (by decide +kernel) (hr_preV hZ_c hM hIx hK hZ0 hA0 hS (r := .inl b) h_b (q := (RX10, TX10, 1)) rfl) rfl rfl hl.1 rfl (lv_room (Nat.le_of_ble_eq_true rfl)) dX10_mayTake_2 ⟨Nat.le_of_ble_eq_true rfl, Nat.le_of_ble_eq_true rfl⟩) hS (fun H locs hM hS => ?_)
  refine hb_if_eq (tgt := 23) hx hb dX10_mayTake_5 (by decide) hf (fun hf => ?_) (fun hf => ?_)
  · exact w_x_aim_mayTake_B23 ⟨hx, hb, hr, hml, hown, hts, hlocks, hK, hZ0, hA0⟩ hIx g b p0 y1 h_b hf hM hS (lv_sub hl [] rfl)
  · refine lv_iload_n hx hb dX10_mayTake_8 rfl (lv_at hl 1 rfl) ?_
    refine lv_aload_n hx hb dX10_mayTake_9 rfl (lv_at hl 0 rfl) ?_
    refine hr_get (ci := 10) (C := RX10) (T := TX10) (N := 1) (r := .inl b) hx hb hts in_X10 hown hK hM h_b rfl 0 (by decide) (hts _ q1097) rfl (v := .int (g b 0)) rfl dX10_mayTake_10 ?_
    refine lv_ishr hx hb dX10_mayTake_13 ?_
    refine lv_iconst (v := 1) hx hb dX10_mayTake_14 (by decide) ?_
    refine lv_iand hx hb dX10_mayTake_15 ?_
    refine hb_if_ne (tgt := 23) hx hb dX10_mayTake_16 (by decide) hf (fun hf => ?_) (fun hf => ?_)
    · exact w_x_aim_mayTake_B23 ⟨hx, hb, hr, hml, hown, hts, hlocks, hK, hZ0, hA0⟩ hIx g b p0 y1 h_b hf hM hS (lv_sub hl [] rfl)
    · refine lv_iconst (v := 1) hx hb dX10_mayTake_19 (by decide) ?_
      refine lv_goto (tgt := 24) hx hb dX10_mayTake_20 (by decide) ?_
      have eo := Option.some.inj hf
      subst eo
      exact W.zret (v := (1 : Int32)) hx hb hr rfl (fun T ht hW => ⟨⟨(1 : Int32), (), rfl, rfl, by dsimp only; rw [ht]; exact hM⟩, hS.F ht⟩) hS.2.2 dX10_mayTake_24
set_option maxHeartbeats 4000000 in
set_option maxRecDepth 100000 in
theorem met_x_aim_mayTake (l : Launch) (D : va_G) (C : Nat → Nat) (a0 : Array Value) (s0 : State) (ad : Rl → Nat) (so : Nat → Option hS) (pr : hPr) (t : hSt) (lt : Rl → Nat → Int64) (g : hSt) (b : Nat) (p0 : Int32) (h_b : xSH C pr b = some (.inr (.inr (10, [none])))) {o : Int32} (hf : x_aim_mayTake g b p0 = some o) : Met l yX10_mayTake (ws_ yX10_mayTake cX10_mayTake 2 (some .boolean)) rm_x_aim_mayTake (va_Pc [.ref (ad (.inl b)), .int p0] (hB D vwCl (hT C) (hA s0) (hZ a0 s0) ad (Sum.elim (xSH C pr) so) (Sum.elim g t) lt)) (va_Qi (fun (r : Int32) (_ : Unit) => r = o) (fun (_ : Unit) (U : State) => hW D vwCl ad (Sum.elim (xSH C pr) so) (Sum.elim g t) lt U.heap) (hA s0)) 0 0 (hA s0) := by
  refine Met.ofW (cc := cX10_mayTake) (maxL := 2) (ret := (some .boolean)) (by decide) rfl ?_
  intro p e s m args below meth c s₁ B hml hv
  obtain ⟨rfl, hM, hIx, hK, hZ0, hA0⟩ := hv
  have hl := lv_entry ([.ref (ad (.inl b)), .int p0]) (n := 2) (Nat.le_of_ble_eq_true rfl)
  rw [lg_entry_eq]
  generalize (lg_sl ([.ref (ad (.inl b)), .int p0]) ++ List.replicate (2 - (lg_sl ([.ref (ad (.inl b)), .int p0])).length) Slot.unset).toArray = ls at hl ⊢
  have hl : lv_has ls 2 [(0, .ref (ad (.inl b))), (1, .int p0)] := hl
  exact w_x_aim_mayTake ⟨B.exec, B.bytes, B.returns, hml, findClass_of_methodNamed B.named, fun w h => atoms_spec (ws := ws_ yX10_mayTake cX10_mayTake 2 (some .boolean)) B.pre w (List.mem_cons_of_mem _ h), B.notSynchronized, hK, hZ0, hA0⟩ hIx g b p0 h_b hf hM va_S.rf hl

def rm_x_aim_likes : Room := { frames := 3, cells := 0, slots := 0, locals := 39 }
set_option maxHeartbeats 4000000 in
set_option maxRecDepth 100000 in
theorem w_x_aim_likes {p : Program} {l : Launch} {e : Env} {s : State} {m : MethodId} {args : Array Value} {below : List Frame} {meth : Method} {c : Code} {D : va_G} {C : Nat → Nat} {a0 : Array Value} {s0 : State} {ad : Rl → Nat} {so : Nat → Option hS} {pr : hPr} {t : hSt} {lt : Rl → Nat → Int64} (CX : hCx D C a0 s0 p s m args meth c cX10_likes 2 RX10 (some .int)) (hIx : hI (hA s0) ad (Sum.elim (xSH C pr) so)) (g : hSt) (b : Nat) (b0 : Nat) (h_b : xSH C pr b = some (.inr (.inr (10, [none])))) (h_b0 : xSt C (xSH C pr) b0) {o : Int32} (hf : x_aim_likes g b b0 = some o) {H : Heap} {locs : List Loc} (hM : hW D vwCl ad (Sum.elim (xSH C pr) so) (Sum.elim g t) lt H) (hS : va_S (hA s0) s.heap H locs) {ls : Array Slot} (hl : lv_has ls 2 [(0, .ref (ad (.inl b))), (1, .ref (ad (.inl b0)))]) : W p l e rm_x_aim_likes s m args below meth c H locs 0 0 (MQ below (va_Qi (fun (r : Int32) (_ : Unit) => r = o) (fun (_ : Unit) (U : State) => hW D vwCl ad (Sum.elim (xSH C pr) so) (Sum.elim g t) lt U.heap) (hA s0)) args s 0 0 (hA s0)) (F0 m 0 ls []) := by
  obtain ⟨hx, hb, hr, hml, hown, hts, hlocks, hK, hZ0, hA0⟩ := CX
  unfold x_aim_likes at hf
  refine lv_aload_n hx hb dX10_likes_0 rfl (lv_at hl 1 rfl) ?_
  refine lv_aload_n hx hb dX10_likes_1 rfl (lv_at hl 0 rfl) ?_
  refine hr_get (ci := 10) (C := RX10) (T := TX10) (N := 1) (r := .inl b) hx hb hts in_X10 hown hK hM h_b rfl 0 (by decide) (hts _ q1097) rfl (v := .int (g b 0)) rfl dX10_likes_2 ?_
  obtain ⟨y1, hq, hf⟩ := hbind hf
  refine hr_calli0 (va_runV (As := [.int (g b 0)]) (rest := []) ⟨hx, hb, hml, hown, hts⟩ (met_x_st_owner l D C a0 s0 ad so pr t lt g b0 (g b 0) h_b0 hq) (cwV 1 hts (lw_V q881 q882 q883 q98 q884) rfl rfl rfl (by decide +kernel) ⟨Nat.le_of_ble_eq_true rfl, Nat.le_of_ble_eq_true rfl⟩) (hr_preV hZ_c hM hIx hK hZ0 hA0 hS (r := .inl b0) h_b0.o (q := (RX4, TX4, 6)) rfl) rfl rfl hl.1 rfl (lv_room (Nat.le_of_ble_eq_true rfl)) dX10_likes_5 ⟨Nat.le_of_ble_eq_true rfl, Nat.le_of_ble_eq_true rfl⟩) hS (fun H locs hM hS => ?_)
  have eo := Option.some.inj hf
  subst eo
  exact W.iret (v := y1) hx hb hr (fun T ht hW => ⟨⟨y1, (), rfl, rfl, by dsimp only; rw [ht]; exact hM⟩, hS.F ht⟩) hS.2.2 dX10_likes_8
set_option maxHeartbeats 4000000 in
set_option maxRecDepth 100000 in
theorem met_x_aim_likes (l : Launch) (D : va_G) (C : Nat → Nat) (a0 : Array Value) (s0 : State) (ad : Rl → Nat) (so : Nat → Option hS) (pr : hPr) (t : hSt) (lt : Rl → Nat → Int64) (g : hSt) (b : Nat) (b0 : Nat) (h_b : xSH C pr b = some (.inr (.inr (10, [none])))) (h_b0 : xSt C (xSH C pr) b0) {o : Int32} (hf : x_aim_likes g b b0 = some o) : Met l yX10_likes (ws_ yX10_likes cX10_likes 2 (some .int)) rm_x_aim_likes (va_Pc [.ref (ad (.inl b)), .ref (ad (.inl b0))] (hB D vwCl (hT C) (hA s0) (hZ a0 s0) ad (Sum.elim (xSH C pr) so) (Sum.elim g t) lt)) (va_Qi (fun (r : Int32) (_ : Unit) => r = o) (fun (_ : Unit) (U : State) => hW D vwCl ad (Sum.elim (xSH C pr) so) (Sum.elim g t) lt U.heap) (hA s0)) 0 0 (hA s0) := by
  refine Met.ofW (cc := cX10_likes) (maxL := 2) (ret := (some .int)) (by decide) rfl ?_
  intro p e s m args below meth c s₁ B hml hv
  obtain ⟨rfl, hM, hIx, hK, hZ0, hA0⟩ := hv
  have hl := lv_entry ([.ref (ad (.inl b)), .ref (ad (.inl b0))]) (n := 2) (Nat.le_of_ble_eq_true rfl)
  rw [lg_entry_eq]
  generalize (lg_sl ([.ref (ad (.inl b)), .ref (ad (.inl b0))]) ++ List.replicate (2 - (lg_sl ([.ref (ad (.inl b)), .ref (ad (.inl b0))])).length) Slot.unset).toArray = ls at hl ⊢
  have hl : lv_has ls 2 [(0, .ref (ad (.inl b))), (1, .ref (ad (.inl b0)))] := hl
  exact w_x_aim_likes ⟨B.exec, B.bytes, B.returns, hml, findClass_of_methodNamed B.named, fun w h => atoms_spec (ws := ws_ yX10_likes cX10_likes 2 (some .int)) B.pre w (List.mem_cons_of_mem _ h), B.notSynchronized, hK, hZ0, hA0⟩ hIx g b b0 h_b h_b0 hf hM va_S.rf hl

def rm_x_wait_kind : Room := { frames := 1, cells := 0, slots := 0, locals := 16 }
set_option maxHeartbeats 4000000 in
set_option maxRecDepth 100000 in
theorem w_x_wait_kind {p : Program} {l : Launch} {e : Env} {s : State} {m : MethodId} {args : Array Value} {below : List Frame} {meth : Method} {c : Code} {D : va_G} {C : Nat → Nat} {a0 : Array Value} {s0 : State} {ad : Rl → Nat} {so : Nat → Option hS} {pr : hPr} {st : Rl → Nat → Int32} {lt : Rl → Nat → Int64} (CX : hCx D C a0 s0 p s m args meth c cX11_kind 1 RX11 (some .int)) (hIx : hI (hA s0) ad (Sum.elim (xSH C pr) so)) (b : Nat) (h_b : xSH C pr b = some (.inr (.inr (11, [none])))) {o : Int32} (hf : x_wait_kind b = some o) {H : Heap} {locs : List Loc} (hM : hW D vwCl ad (Sum.elim (xSH C pr) so) st lt H) (hS : va_S (hA s0) s.heap H locs) {ls : Array Slot} (hl : lv_has ls 1 [(0, .ref (ad (.inl b)))]) : W p l e rm_x_wait_kind s m args below meth c H locs 0 0 (MQ below (va_Qi (fun (r : Int32) (_ : Unit) => r = o) (fun (_ : Unit) (U : State) => hW D vwCl ad (Sum.elim (xSH C pr) so) st lt U.heap) (hA s0)) args s 0 0 (hA s0)) (F0 m 0 ls []) := by
  obtain ⟨hx, hb, hr, hml, hown, hts, hlocks, hK, hZ0, hA0⟩ := CX
  unfold x_wait_kind at hf
  refine lv_iconst (v := 4) hx hb dX11_kind_0 (by decide) ?_
  have eo := Option.some.inj hf
  subst eo
  exact W.iret (v := (4 : Int32)) hx hb hr (fun T ht hW => ⟨⟨(4 : Int32), (), rfl, rfl, by dsimp only; rw [ht]; exact hM⟩, hS.F ht⟩) hS.2.2 dX11_kind_1
set_option maxHeartbeats 4000000 in
set_option maxRecDepth 100000 in
theorem met_x_wait_kind (l : Launch) (D : va_G) (C : Nat → Nat) (a0 : Array Value) (s0 : State) (ad : Rl → Nat) (so : Nat → Option hS) (pr : hPr) (st : Rl → Nat → Int32) (lt : Rl → Nat → Int64) (b : Nat) (h_b : xSH C pr b = some (.inr (.inr (11, [none])))) {o : Int32} (hf : x_wait_kind b = some o) : Met l yX11_kind (ws_ yX11_kind cX11_kind 1 (some .int)) rm_x_wait_kind (va_Pc [.ref (ad (.inl b))] (hB D vwCl (hT C) (hA s0) (hZ a0 s0) ad (Sum.elim (xSH C pr) so) st lt)) (va_Qi (fun (r : Int32) (_ : Unit) => r = o) (fun (_ : Unit) (U : State) => hW D vwCl ad (Sum.elim (xSH C pr) so) st lt U.heap) (hA s0)) 0 0 (hA s0) := by
  refine Met.ofW (cc := cX11_kind) (maxL := 1) (ret := (some .int)) (by decide) rfl ?_
  intro p e s m args below meth c s₁ B hml hv
  obtain ⟨rfl, hM, hIx, hK, hZ0, hA0⟩ := hv
  have hl := lv_entry ([.ref (ad (.inl b))]) (n := 1) (Nat.le_of_ble_eq_true rfl)
  rw [lg_entry_eq]
  generalize (lg_sl ([.ref (ad (.inl b))]) ++ List.replicate (1 - (lg_sl ([.ref (ad (.inl b))])).length) Slot.unset).toArray = ls at hl ⊢
  have hl : lv_has ls 1 [(0, .ref (ad (.inl b)))] := hl
  exact w_x_wait_kind ⟨B.exec, B.bytes, B.returns, hml, findClass_of_methodNamed B.named, fun w h => atoms_spec (ws := ws_ yX11_kind cX11_kind 1 (some .int)) B.pre w (List.mem_cons_of_mem _ h), B.notSynchronized, hK, hZ0, hA0⟩ hIx b h_b hf hM va_S.rf hl

def rm_x_wait_isReady : Room := { frames := 3, cells := 0, slots := 0, locals := 38 }
set_option maxHeartbeats 4000000 in
set_option maxRecDepth 100000 in
theorem w_x_wait_isReady_B20 {p : Program} {l : Launch} {e : Env} {s : State} {m : MethodId} {args : Array Value} {below : List Frame} {meth : Method} {c : Code} {D : va_G} {C : Nat → Nat} {a0 : Array Value} {s0 : State} {ad : Rl → Nat} {so : Nat → Option hS} {pr : hPr} {t : hSt} {lt : Rl → Nat → Int64} (CX : hCx D C a0 s0 p s m args meth c cX11_isReady 2 RX11 (some .boolean)) (hIx : hI (hA s0) ad (Sum.elim (xSH C pr) so)) (g : hSt) (b : Nat) (p0 : Int32) (y1 : Int32) (h_b : xSH C pr b = some (.inr (.inr (11, [none])))) {o : Int32} (hf : x_wait_isReady_B20 = some o) {H : Heap} {locs : List Loc} (hM : hW D vwCl ad (Sum.elim (xSH C pr) so) (Sum.elim g t) lt H) (hS : va_S (hA s0) s.heap H locs) {ls : Array Slot} (hl : lv_has ls 2 []) : W p l e rm_x_wait_isReady s m args below meth c H locs 0 0 (MQ below (va_Qi (fun (r : Int32) (_ : Unit) => r = o) (fun (_ : Unit) (U : State) => hW D vwCl ad (Sum.elim (xSH C pr) so) (Sum.elim g t) lt U.heap) (hA s0)) args s 0 0 (hA s0)) (F0 m 20 ls []) := by
  obtain ⟨hx, hb, hr, hml, hown, hts, hlocks, hK, hZ0, hA0⟩ := CX
  unfold x_wait_isReady_B20 at hf
  refine lv_iconst (v := 0) hx hb dX11_isReady_20 (by decide) ?_
  have eo := Option.some.inj hf
  subst eo
  exact W.zret (v := (0 : Int32)) hx hb hr rfl (fun T ht hW => ⟨⟨(0 : Int32), (), rfl, rfl, by dsimp only; rw [ht]; exact hM⟩, hS.F ht⟩) hS.2.2 dX11_isReady_21
set_option maxHeartbeats 4000000 in
set_option maxRecDepth 100000 in
theorem w_x_wait_isReady {p : Program} {l : Launch} {e : Env} {s : State} {m : MethodId} {args : Array Value} {below : List Frame} {meth : Method} {c : Code} {D : va_G} {C : Nat → Nat} {a0 : Array Value} {s0 : State} {ad : Rl → Nat} {so : Nat → Option hS} {pr : hPr} {t : hSt} {lt : Rl → Nat → Int64} (CX : hCx D C a0 s0 p s m args meth c cX11_isReady 2 RX11 (some .boolean)) (hIx : hI (hA s0) ad (Sum.elim (xSH C pr) so)) (g : hSt) (b : Nat) (p0 : Int32) (h_b : xSH C pr b = some (.inr (.inr (11, [none])))) {o : Int32} (hf : x_wait_isReady g b p0 = some o) {H : Heap} {locs : List Loc} (hM : hW D vwCl ad (Sum.elim (xSH C pr) so) (Sum.elim g t) lt H) (hS : va_S (hA s0) s.heap H locs) {ls : Array Slot} (hl : lv_has ls 2 [(0, .ref (ad (.inl b))), (1, .int p0)]) : W p l e rm_x_wait_isReady s m args below meth c H locs 0 0 (MQ below (va_Qi (fun (r : Int32) (_ : Unit) => r = o) (fun (_ : Unit) (U : State) => hW D vwCl ad (Sum.elim (xSH C pr) so) (Sum.elim g t) lt U.heap) (hA s0)) args s 0 0 (hA s0)) (F0 m 0 ls []) := by
  obtain ⟨hx, hb, hr, hml, hown, hts, hlocks, hK, hZ0, hA0⟩ := CX
  unfold x_wait_isReady at hf
  refine lv_aload_n hx hb dX11_isReady_0 rfl (lv_at hl 0 rfl) ?_
  refine lv_iload_n hx hb dX11_isReady_1 rfl (lv_at hl 1 rfl) ?_
  obtain ⟨y1, hq, hf⟩ := hbind hf
  refine hr_calli0 (h_runSI (n := 1) (As := [.int p0]) (rest := []) (hK.1 11 _ rfl).2 ⟨hx, hb, hml, hown, hts⟩ (met_x_gv0_isReady l D C a0 s0 ad so pr (Sum.elim g t) lt b p0 hq) rfl ⟨rfl, rfl, Nat.le_of_ble_eq_true rfl, Nat.le_of_ble_eq_true rfl⟩ (pay_in hts (lw_meth q826)) List.mem_cons_self (hts _ q821) (hts _ q822) (hts _ q824) (hts _ q825) (hts _ q812) (hts _ q104) (hts _ q826) (by decide) (by decide +kernel) (hr_preV hZ_c hM hIx hK hZ0 hA0 hS (r := .inl b) h_b (q := (RX11, TX11, 1)) rfl) rfl rfl hl.1 rfl (lv_room (Nat.le_of_ble_eq_true rfl)) dX11_isReady_2 ⟨Nat.le_of_ble_eq_true rfl, Nat.le_of_ble_eq_true rfl⟩) hS (fun H locs hM hS => ?_)
  refine hb_if_eq (tgt := 20) hx hb dX11_isReady_5 (by decide) hf (fun hf => ?_) (fun hf => ?_)
  · exact w_x_wait_isReady_B20 ⟨hx, hb, hr, hml, hown, hts, hlocks, hK, hZ0, hA0⟩ hIx g b p0 y1 h_b hf hM hS (lv_sub hl [] rfl)
  · refine lv_iload_n hx hb dX11_isReady_8 rfl (lv_at hl 1 rfl) ?_
    refine lv_aload_n hx hb dX11_isReady_9 rfl (lv_at hl 0 rfl) ?_
    refine hr_get (ci := 11) (C := RX11) (T := TX11) (N := 1) (r := .inl b) hx hb hts in_X11 hown hK hM h_b rfl 0 (by decide) (hts _ q1106) rfl (v := .int (g b 0)) rfl dX11_isReady_10 ?_
    refine hb_icmp_lt (tgt := 20) hx hb dX11_isReady_13 (by decide) hf (fun hf => ?_) (fun hf => ?_)
    · exact w_x_wait_isReady_B20 ⟨hx, hb, hr, hml, hown, hts, hlocks, hK, hZ0, hA0⟩ hIx g b p0 y1 h_b hf hM hS (lv_sub hl [] rfl)
    · refine lv_iconst (v := 1) hx hb dX11_isReady_16 (by decide) ?_
      refine lv_goto (tgt := 21) hx hb dX11_isReady_17 (by decide) ?_
      have eo := Option.some.inj hf
      subst eo
      exact W.zret (v := (1 : Int32)) hx hb hr rfl (fun T ht hW => ⟨⟨(1 : Int32), (), rfl, rfl, by dsimp only; rw [ht]; exact hM⟩, hS.F ht⟩) hS.2.2 dX11_isReady_21
set_option maxHeartbeats 4000000 in
set_option maxRecDepth 100000 in
theorem met_x_wait_isReady (l : Launch) (D : va_G) (C : Nat → Nat) (a0 : Array Value) (s0 : State) (ad : Rl → Nat) (so : Nat → Option hS) (pr : hPr) (t : hSt) (lt : Rl → Nat → Int64) (g : hSt) (b : Nat) (p0 : Int32) (h_b : xSH C pr b = some (.inr (.inr (11, [none])))) {o : Int32} (hf : x_wait_isReady g b p0 = some o) : Met l yX11_isReady (ws_ yX11_isReady cX11_isReady 2 (some .boolean)) rm_x_wait_isReady (va_Pc [.ref (ad (.inl b)), .int p0] (hB D vwCl (hT C) (hA s0) (hZ a0 s0) ad (Sum.elim (xSH C pr) so) (Sum.elim g t) lt)) (va_Qi (fun (r : Int32) (_ : Unit) => r = o) (fun (_ : Unit) (U : State) => hW D vwCl ad (Sum.elim (xSH C pr) so) (Sum.elim g t) lt U.heap) (hA s0)) 0 0 (hA s0) := by
  refine Met.ofW (cc := cX11_isReady) (maxL := 2) (ret := (some .boolean)) (by decide) rfl ?_
  intro p e s m args below meth c s₁ B hml hv
  obtain ⟨rfl, hM, hIx, hK, hZ0, hA0⟩ := hv
  have hl := lv_entry ([.ref (ad (.inl b)), .int p0]) (n := 2) (Nat.le_of_ble_eq_true rfl)
  rw [lg_entry_eq]
  generalize (lg_sl ([.ref (ad (.inl b)), .int p0]) ++ List.replicate (2 - (lg_sl ([.ref (ad (.inl b)), .int p0])).length) Slot.unset).toArray = ls at hl ⊢
  have hl : lv_has ls 2 [(0, .ref (ad (.inl b))), (1, .int p0)] := hl
  exact w_x_wait_isReady ⟨B.exec, B.bytes, B.returns, hml, findClass_of_methodNamed B.named, fun w h => atoms_spec (ws := ws_ yX11_isReady cX11_isReady 2 (some .boolean)) B.pre w (List.mem_cons_of_mem _ h), B.notSynchronized, hK, hZ0, hA0⟩ hIx g b p0 h_b hf hM va_S.rf hl

def rm_x_lst_kind : Room := { frames := 1, cells := 0, slots := 0, locals := 16 }
set_option maxHeartbeats 4000000 in
set_option maxRecDepth 100000 in
theorem w_x_lst_kind {p : Program} {l : Launch} {e : Env} {s : State} {m : MethodId} {args : Array Value} {below : List Frame} {meth : Method} {c : Code} {D : va_G} {C : Nat → Nat} {a0 : Array Value} {s0 : State} {ad : Rl → Nat} {so : Nat → Option hS} {pr : hPr} {st : Rl → Nat → Int32} {lt : Rl → Nat → Int64} (CX : hCx D C a0 s0 p s m args meth c cX12_kind 1 RX12 (some .int)) (hIx : hI (hA s0) ad (Sum.elim (xSH C pr) so)) (b : Nat) (h_b : xSH C pr b = some (.inr (.inr (8, [])))) {o : Int32} (hf : x_lst_kind b = some o) {H : Heap} {locs : List Loc} (hM : hW D vwCl ad (Sum.elim (xSH C pr) so) st lt H) (hS : va_S (hA s0) s.heap H locs) {ls : Array Slot} (hl : lv_has ls 1 [(0, .ref (ad (.inl b)))]) : W p l e rm_x_lst_kind s m args below meth c H locs 0 0 (MQ below (va_Qi (fun (r : Int32) (_ : Unit) => r = o) (fun (_ : Unit) (U : State) => hW D vwCl ad (Sum.elim (xSH C pr) so) st lt U.heap) (hA s0)) args s 0 0 (hA s0)) (F0 m 0 ls []) := by
  obtain ⟨hx, hb, hr, hml, hown, hts, hlocks, hK, hZ0, hA0⟩ := CX
  unfold x_lst_kind at hf
  refine lv_iconst (v := 1) hx hb dX12_kind_0 (by decide) ?_
  have eo := Option.some.inj hf
  subst eo
  exact W.iret (v := (1 : Int32)) hx hb hr (fun T ht hW => ⟨⟨(1 : Int32), (), rfl, rfl, by dsimp only; rw [ht]; exact hM⟩, hS.F ht⟩) hS.2.2 dX12_kind_1
set_option maxHeartbeats 4000000 in
set_option maxRecDepth 100000 in
theorem met_x_lst_kind (l : Launch) (D : va_G) (C : Nat → Nat) (a0 : Array Value) (s0 : State) (ad : Rl → Nat) (so : Nat → Option hS) (pr : hPr) (st : Rl → Nat → Int32) (lt : Rl → Nat → Int64) (b : Nat) (h_b : xSH C pr b = some (.inr (.inr (8, [])))) {o : Int32} (hf : x_lst_kind b = some o) : Met l yX12_kind (ws_ yX12_kind cX12_kind 1 (some .int)) rm_x_lst_kind (va_Pc [.ref (ad (.inl b))] (hB D vwCl (hT C) (hA s0) (hZ a0 s0) ad (Sum.elim (xSH C pr) so) st lt)) (va_Qi (fun (r : Int32) (_ : Unit) => r = o) (fun (_ : Unit) (U : State) => hW D vwCl ad (Sum.elim (xSH C pr) so) st lt U.heap) (hA s0)) 0 0 (hA s0) := by
  refine Met.ofW (cc := cX12_kind) (maxL := 1) (ret := (some .int)) (by decide) rfl ?_
  intro p e s m args below meth c s₁ B hml hv
  obtain ⟨rfl, hM, hIx, hK, hZ0, hA0⟩ := hv
  have hl := lv_entry ([.ref (ad (.inl b))]) (n := 1) (Nat.le_of_ble_eq_true rfl)
  rw [lg_entry_eq]
  generalize (lg_sl ([.ref (ad (.inl b))]) ++ List.replicate (1 - (lg_sl ([.ref (ad (.inl b))])).length) Slot.unset).toArray = ls at hl ⊢
  have hl : lv_has ls 1 [(0, .ref (ad (.inl b)))] := hl
  exact w_x_lst_kind ⟨B.exec, B.bytes, B.returns, hml, findClass_of_methodNamed B.named, fun w h => atoms_spec (ws := ws_ yX12_kind cX12_kind 1 (some .int)) B.pre w (List.mem_cons_of_mem _ h), B.notSynchronized, hK, hZ0, hA0⟩ hIx b h_b hf hM va_S.rf hl

def rm_x_lst_isBetter : Room := { frames := 3, cells := 0, slots := 0, locals := 40 }
set_option maxHeartbeats 4000000 in
set_option maxRecDepth 100000 in
theorem w_x_lst_isBetter {p : Program} {l : Launch} {e : Env} {s : State} {m : MethodId} {args : Array Value} {below : List Frame} {meth : Method} {c : Code} {D : va_G} {C : Nat → Nat} {a0 : Array Value} {s0 : State} {ad : Rl → Nat} {so : Nat → Option hS} {pr : hPr} {t : hSt} {lt : Rl → Nat → Int64} (CX : hCx D C a0 s0 p s m args meth c cX12_isBetter 4 RX12 (some .boolean)) (hIx : hI (hA s0) ad (Sum.elim (xSH C pr) so)) (g : hSt) (b : Nat) (p0 : Int32) (p1 : Int32) (h_b : xSH C pr b = some (.inr (.inr (8, [])))) {o : Int32} (hf : x_lst_isBetter g b p0 p1 = some o) {H : Heap} {locs : List Loc} (hM : hW D vwCl ad (Sum.elim (xSH C pr) so) (Sum.elim g t) lt H) (hS : va_S (hA s0) s.heap H locs) {ls : Array Slot} (hl : lv_has ls 4 [(0, .ref (ad (.inl b))), (1, .int p0), (2, .int p1), (3, .ref (ad (.inl 10)))]) : W p l e rm_x_lst_isBetter s m args below meth c H locs 0 0 (MQ below (va_Qi (fun (r : Int32) (_ : Unit) => r = o) (fun (_ : Unit) (U : State) => hW D vwCl ad (Sum.elim (xSH C pr) so) (Sum.elim g t) lt U.heap) (hA s0)) args s 0 0 (hA s0)) (F0 m 0 ls []) := by
  obtain ⟨hx, hb, hr, hml, hown, hts, hlocks, hK, hZ0, hA0⟩ := CX
  unfold x_lst_isBetter at hf
  refine lv_iload_n hx hb dX12_isBetter_0 rfl (lv_at hl 1 rfl) ?_
  refine lv_aload_n hx hb dX12_isBetter_1 rfl (lv_at hl 3 rfl) ?_
  obtain ⟨y1, hq, hf⟩ := hbind hf
  refine hr_calli0 (va_runS (As := [.int p0, .ref (ad (.inl 10))]) (rest := []) ⟨hx, hb, hml, hown, hts⟩ (met_x_lst_worth l D C a0 s0 ad so pr t lt g p0 hq) (va_cwS 2 hts (lw_S q862 q863 q108 q864) rfl rfl rfl (by decide +kernel) ⟨Nat.le_of_ble_eq_true rfl, Nat.le_of_ble_eq_true rfl⟩) (hr_preS hZ_c hM hIx hK hZ0 hA0 hS) rfl rfl hl.1 rfl (lv_room (Nat.le_of_ble_eq_true rfl)) dX12_isBetter_2 ⟨Nat.le_of_ble_eq_true rfl, Nat.le_of_ble_eq_true rfl⟩) hS (fun H locs hM hS => ?_)
  refine lv_iload_n hx hb dX12_isBetter_5 rfl (lv_at hl 2 rfl) ?_
  refine lv_aload_n hx hb dX12_isBetter_6 rfl (lv_at hl 3 rfl) ?_
  obtain ⟨y2, hq, hf⟩ := hbind hf
  refine hr_calli0 (va_runS (As := [.int p1, .ref (ad (.inl 10))]) (rest := [.int y1]) ⟨hx, hb, hml, hown, hts⟩ (met_x_lst_worth l D C a0 s0 ad so pr t lt g p1 hq) (va_cwS 2 hts (lw_S q862 q863 q108 q864) rfl rfl rfl (by decide +kernel) ⟨Nat.le_of_ble_eq_true rfl, Nat.le_of_ble_eq_true rfl⟩) (hr_preS hZ_c hM hIx hK hZ0 hA0 hS) rfl rfl hl.1 rfl (lv_room (Nat.le_of_ble_eq_true rfl)) dX12_isBetter_7 ⟨Nat.le_of_ble_eq_true rfl, Nat.le_of_ble_eq_true rfl⟩) hS (fun H locs hM hS => ?_)
  refine hb_icmp_ge (tgt := 17) hx hb dX12_isBetter_10 (by decide) hf (fun hf => ?_) (fun hf => ?_)
  · refine lv_iconst (v := 0) hx hb dX12_isBetter_17 (by decide) ?_
    have eo := Option.some.inj hf
    subst eo
    exact W.zret (v := (0 : Int32)) hx hb hr rfl (fun T ht hW => ⟨⟨(0 : Int32), (), rfl, rfl, by dsimp only; rw [ht]; exact hM⟩, hS.F ht⟩) hS.2.2 dX12_isBetter_18
  · refine lv_iconst (v := 1) hx hb dX12_isBetter_13 (by decide) ?_
    refine lv_goto (tgt := 18) hx hb dX12_isBetter_14 (by decide) ?_
    have eo := Option.some.inj hf
    subst eo
    exact W.zret (v := (1 : Int32)) hx hb hr rfl (fun T ht hW => ⟨⟨(1 : Int32), (), rfl, rfl, by dsimp only; rw [ht]; exact hM⟩, hS.F ht⟩) hS.2.2 dX12_isBetter_18
set_option maxHeartbeats 4000000 in
set_option maxRecDepth 100000 in
theorem met_x_lst_isBetter (l : Launch) (D : va_G) (C : Nat → Nat) (a0 : Array Value) (s0 : State) (ad : Rl → Nat) (so : Nat → Option hS) (pr : hPr) (t : hSt) (lt : Rl → Nat → Int64) (g : hSt) (b : Nat) (p0 : Int32) (p1 : Int32) (h_b : xSH C pr b = some (.inr (.inr (8, [])))) {o : Int32} (hf : x_lst_isBetter g b p0 p1 = some o) : Met l yX12_isBetter (ws_ yX12_isBetter cX12_isBetter 4 (some .boolean)) rm_x_lst_isBetter (va_Pc [.ref (ad (.inl b)), .int p0, .int p1, .ref (ad (.inl 10))] (hB D vwCl (hT C) (hA s0) (hZ a0 s0) ad (Sum.elim (xSH C pr) so) (Sum.elim g t) lt)) (va_Qi (fun (r : Int32) (_ : Unit) => r = o) (fun (_ : Unit) (U : State) => hW D vwCl ad (Sum.elim (xSH C pr) so) (Sum.elim g t) lt U.heap) (hA s0)) 0 0 (hA s0) := by
  refine Met.ofW (cc := cX12_isBetter) (maxL := 4) (ret := (some .boolean)) (by decide) rfl ?_
  intro p e s m args below meth c s₁ B hml hv
  obtain ⟨rfl, hM, hIx, hK, hZ0, hA0⟩ := hv
  have hl := lv_entry ([.ref (ad (.inl b)), .int p0, .int p1, .ref (ad (.inl 10))]) (n := 4) (Nat.le_of_ble_eq_true rfl)
  rw [lg_entry_eq]
  generalize (lg_sl ([.ref (ad (.inl b)), .int p0, .int p1, .ref (ad (.inl 10))]) ++ List.replicate (4 - (lg_sl ([.ref (ad (.inl b)), .int p0, .int p1, .ref (ad (.inl 10))])).length) Slot.unset).toArray = ls at hl ⊢
  have hl : lv_has ls 4 [(0, .ref (ad (.inl b))), (1, .int p0), (2, .int p1), (3, .ref (ad (.inl 10)))] := hl
  exact w_x_lst_isBetter ⟨B.exec, B.bytes, B.returns, hml, findClass_of_methodNamed B.named, fun w h => atoms_spec (ws := ws_ yX12_isBetter cX12_isBetter 4 (some .boolean)) B.pre w (List.mem_cons_of_mem _ h), B.notSynchronized, hK, hZ0, hA0⟩ hIx g b p0 p1 h_b hf hM va_S.rf hl

def rm_x_few_kind : Room := { frames := 1, cells := 0, slots := 0, locals := 16 }
set_option maxHeartbeats 4000000 in
set_option maxRecDepth 100000 in
theorem w_x_few_kind {p : Program} {l : Launch} {e : Env} {s : State} {m : MethodId} {args : Array Value} {below : List Frame} {meth : Method} {c : Code} {D : va_G} {C : Nat → Nat} {a0 : Array Value} {s0 : State} {ad : Rl → Nat} {so : Nat → Option hS} {pr : hPr} {st : Rl → Nat → Int32} {lt : Rl → Nat → Int64} (CX : hCx D C a0 s0 p s m args meth c cX13_kind 1 RX13 (some .int)) (hIx : hI (hA s0) ad (Sum.elim (xSH C pr) so)) (b : Nat) (h_b : xSH C pr b = some (.inr (.inr (9, [])))) {o : Int32} (hf : x_few_kind b = some o) {H : Heap} {locs : List Loc} (hM : hW D vwCl ad (Sum.elim (xSH C pr) so) st lt H) (hS : va_S (hA s0) s.heap H locs) {ls : Array Slot} (hl : lv_has ls 1 [(0, .ref (ad (.inl b)))]) : W p l e rm_x_few_kind s m args below meth c H locs 0 0 (MQ below (va_Qi (fun (r : Int32) (_ : Unit) => r = o) (fun (_ : Unit) (U : State) => hW D vwCl ad (Sum.elim (xSH C pr) so) st lt U.heap) (hA s0)) args s 0 0 (hA s0)) (F0 m 0 ls []) := by
  obtain ⟨hx, hb, hr, hml, hown, hts, hlocks, hK, hZ0, hA0⟩ := CX
  unfold x_few_kind at hf
  refine lv_iconst (v := 2) hx hb dX13_kind_0 (by decide) ?_
  have eo := Option.some.inj hf
  subst eo
  exact W.iret (v := (2 : Int32)) hx hb hr (fun T ht hW => ⟨⟨(2 : Int32), (), rfl, rfl, by dsimp only; rw [ht]; exact hM⟩, hS.F ht⟩) hS.2.2 dX13_kind_1
set_option maxHeartbeats 4000000 in
set_option maxRecDepth 100000 in
theorem met_x_few_kind (l : Launch) (D : va_G) (C : Nat → Nat) (a0 : Array Value) (s0 : State) (ad : Rl → Nat) (so : Nat → Option hS) (pr : hPr) (st : Rl → Nat → Int32) (lt : Rl → Nat → Int64) (b : Nat) (h_b : xSH C pr b = some (.inr (.inr (9, [])))) {o : Int32} (hf : x_few_kind b = some o) : Met l yX13_kind (ws_ yX13_kind cX13_kind 1 (some .int)) rm_x_few_kind (va_Pc [.ref (ad (.inl b))] (hB D vwCl (hT C) (hA s0) (hZ a0 s0) ad (Sum.elim (xSH C pr) so) st lt)) (va_Qi (fun (r : Int32) (_ : Unit) => r = o) (fun (_ : Unit) (U : State) => hW D vwCl ad (Sum.elim (xSH C pr) so) st lt U.heap) (hA s0)) 0 0 (hA s0) := by
  refine Met.ofW (cc := cX13_kind) (maxL := 1) (ret := (some .int)) (by decide) rfl ?_
  intro p e s m args below meth c s₁ B hml hv
  obtain ⟨rfl, hM, hIx, hK, hZ0, hA0⟩ := hv
  have hl := lv_entry ([.ref (ad (.inl b))]) (n := 1) (Nat.le_of_ble_eq_true rfl)
  rw [lg_entry_eq]
  generalize (lg_sl ([.ref (ad (.inl b))]) ++ List.replicate (1 - (lg_sl ([.ref (ad (.inl b))])).length) Slot.unset).toArray = ls at hl ⊢
  have hl : lv_has ls 1 [(0, .ref (ad (.inl b)))] := hl
  exact w_x_few_kind ⟨B.exec, B.bytes, B.returns, hml, findClass_of_methodNamed B.named, fun w h => atoms_spec (ws := ws_ yX13_kind cX13_kind 1 (some .int)) B.pre w (List.mem_cons_of_mem _ h), B.notSynchronized, hK, hZ0, hA0⟩ hIx b h_b hf hM va_S.rf hl

def rm_x_few_isBetter : Room := { frames := 3, cells := 0, slots := 0, locals := 37 }
set_option maxHeartbeats 4000000 in
set_option maxRecDepth 100000 in
theorem w_x_few_isBetter {p : Program} {l : Launch} {e : Env} {s : State} {m : MethodId} {args : Array Value} {below : List Frame} {meth : Method} {c : Code} {D : va_G} {C : Nat → Nat} {a0 : Array Value} {s0 : State} {ad : Rl → Nat} {so : Nat → Option hS} {pr : hPr} {st : Rl → Nat → Int32} {lt : Rl → Nat → Int64} (CX : hCx D C a0 s0 p s m args meth c cX13_isBetter 4 RX13 (some .boolean)) (hIx : hI (hA s0) ad (Sum.elim (xSH C pr) so)) (b : Nat) (p0 : Int32) (p1 : Int32) (h_b : xSH C pr b = some (.inr (.inr (9, [])))) {o : Int32} (hf : x_few_isBetter b p0 p1 = some o) {H : Heap} {locs : List Loc} (hM : hW D vwCl ad (Sum.elim (xSH C pr) so) st lt H) (hS : va_S (hA s0) s.heap H locs) {ls : Array Slot} (hl : lv_has ls 4 [(0, .ref (ad (.inl b))), (1, .int p0), (2, .int p1), (3, .ref (ad (.inl 10)))]) : W p l e rm_x_few_isBetter s m args below meth c H locs 0 0 (MQ below (va_Qi (fun (r : Int32) (_ : Unit) => r = o) (fun (_ : Unit) (U : State) => hW D vwCl ad (Sum.elim (xSH C pr) so) st lt U.heap) (hA s0)) args s 0 0 (hA s0)) (F0 m 0 ls []) := by
  obtain ⟨hx, hb, hr, hml, hown, hts, hlocks, hK, hZ0, hA0⟩ := CX
  unfold x_few_isBetter at hf
  refine lv_iload_n hx hb dX13_isBetter_0 rfl (lv_at hl 1 rfl) ?_
  obtain ⟨y1, hq, hf⟩ := hbind hf
  refine hr_calli0 (va_runS (As := [.int p0]) (rest := []) ⟨hx, hb, hml, hown, hts⟩ (met_x_jI_bitCount l D C a0 s0 ad so pr st lt p0 hq) (va_cwS 1 hts (lw_S q853 q854 q96 q855) rfl rfl rfl (by decide +kernel) ⟨Nat.le_of_ble_eq_true rfl, Nat.le_of_ble_eq_true rfl⟩) (hr_preS hZ_c hM hIx hK hZ0 hA0 hS) rfl rfl hl.1 rfl (lv_room (Nat.le_of_ble_eq_true rfl)) dX13_isBetter_1 ⟨Nat.le_of_ble_eq_true rfl, Nat.le_of_ble_eq_true rfl⟩) hS (fun H locs hM hS => ?_)
  refine lv_iload_n hx hb dX13_isBetter_4 rfl (lv_at hl 2 rfl) ?_
  obtain ⟨y2, hq, hf⟩ := hbind hf
  refine hr_calli0 (va_runS (As := [.int p1]) (rest := [.int y1]) ⟨hx, hb, hml, hown, hts⟩ (met_x_jI_bitCount l D C a0 s0 ad so pr st lt p1 hq) (va_cwS 1 hts (lw_S q853 q854 q96 q855) rfl rfl rfl (by decide +kernel) ⟨Nat.le_of_ble_eq_true rfl, Nat.le_of_ble_eq_true rfl⟩) (hr_preS hZ_c hM hIx hK hZ0 hA0 hS) rfl rfl hl.1 rfl (lv_room (Nat.le_of_ble_eq_true rfl)) dX13_isBetter_5 ⟨Nat.le_of_ble_eq_true rfl, Nat.le_of_ble_eq_true rfl⟩) hS (fun H locs hM hS => ?_)
  refine hb_icmp_ge (tgt := 15) hx hb dX13_isBetter_8 (by decide) hf (fun hf => ?_) (fun hf => ?_)
  · refine lv_iconst (v := 0) hx hb dX13_isBetter_15 (by decide) ?_
    have eo := Option.some.inj hf
    subst eo
    exact W.zret (v := (0 : Int32)) hx hb hr rfl (fun T ht hW => ⟨⟨(0 : Int32), (), rfl, rfl, by dsimp only; rw [ht]; exact hM⟩, hS.F ht⟩) hS.2.2 dX13_isBetter_16
  · refine lv_iconst (v := 1) hx hb dX13_isBetter_11 (by decide) ?_
    refine lv_goto (tgt := 16) hx hb dX13_isBetter_12 (by decide) ?_
    have eo := Option.some.inj hf
    subst eo
    exact W.zret (v := (1 : Int32)) hx hb hr rfl (fun T ht hW => ⟨⟨(1 : Int32), (), rfl, rfl, by dsimp only; rw [ht]; exact hM⟩, hS.F ht⟩) hS.2.2 dX13_isBetter_16
set_option maxHeartbeats 4000000 in
set_option maxRecDepth 100000 in
theorem met_x_few_isBetter (l : Launch) (D : va_G) (C : Nat → Nat) (a0 : Array Value) (s0 : State) (ad : Rl → Nat) (so : Nat → Option hS) (pr : hPr) (st : Rl → Nat → Int32) (lt : Rl → Nat → Int64) (b : Nat) (p0 : Int32) (p1 : Int32) (h_b : xSH C pr b = some (.inr (.inr (9, [])))) {o : Int32} (hf : x_few_isBetter b p0 p1 = some o) : Met l yX13_isBetter (ws_ yX13_isBetter cX13_isBetter 4 (some .boolean)) rm_x_few_isBetter (va_Pc [.ref (ad (.inl b)), .int p0, .int p1, .ref (ad (.inl 10))] (hB D vwCl (hT C) (hA s0) (hZ a0 s0) ad (Sum.elim (xSH C pr) so) st lt)) (va_Qi (fun (r : Int32) (_ : Unit) => r = o) (fun (_ : Unit) (U : State) => hW D vwCl ad (Sum.elim (xSH C pr) so) st lt U.heap) (hA s0)) 0 0 (hA s0) := by
  refine Met.ofW (cc := cX13_isBetter) (maxL := 4) (ret := (some .boolean)) (by decide) rfl ?_
  intro p e s m args below meth c s₁ B hml hv
  obtain ⟨rfl, hM, hIx, hK, hZ0, hA0⟩ := hv
  have hl := lv_entry ([.ref (ad (.inl b)), .int p0, .int p1, .ref (ad (.inl 10))]) (n := 4) (Nat.le_of_ble_eq_true rfl)
  rw [lg_entry_eq]
  generalize (lg_sl ([.ref (ad (.inl b)), .int p0, .int p1, .ref (ad (.inl 10))]) ++ List.replicate (4 - (lg_sl ([.ref (ad (.inl b)), .int p0, .int p1, .ref (ad (.inl 10))])).length) Slot.unset).toArray = ls at hl ⊢
  have hl : lv_has ls 4 [(0, .ref (ad (.inl b))), (1, .int p0), (2, .int p1), (3, .ref (ad (.inl 10)))] := hl
  exact w_x_few_isBetter ⟨B.exec, B.bytes, B.returns, hml, findClass_of_methodNamed B.named, fun w h => atoms_spec (ws := ws_ yX13_isBetter cX13_isBetter 4 (some .boolean)) B.pre w (List.mem_cons_of_mem _ h), B.notSynchronized, hK, hZ0, hA0⟩ hIx b p0 p1 h_b hf hM va_S.rf hl

/-- what a call of an inherited method asks -/
theorem lw_U {own : String} {idx : Nat} {C owner : String} {x y : MethodName} {b : ByteArray} {L : Nat} {r : Option FieldType} (h1 : Cond.methodLink own idx x ∈ lw_all) (h2 : Cond.sameMethod x.cls owner x.name x.desc ∈ lw_all) (h3 : Cond.selects C x y ∈ lw_all) (h4 : Cond.instanceMethod y ∈ lw_all) (h5 : Cond.initialized y.cls ∈ lw_all) (h6 : Cond.code y b L r ∈ lw_all) : GoodIn lw_all (va_wsU own idx C owner x y (ws_ y b L r)) := by
  refine lw_app ?_ (lw_meth h6)
  intro w hw
  simp only [List.mem_cons, List.not_mem_nil, or_false] at hw
  rcases hw with e | e | e | e | e
  · rw [e]; exact h1
  · rw [e]; exact h2
  · rw [e]; exact h3
  · rw [e]; exact h4
  · rw [e]; exact h5
theorem lw_O {own : String} {idx : Nat} {C owner : String} {x y : MethodName} {b : ByteArray} {L : Nat} {r : Option FieldType} (h1 : Cond.methodLink own idx x ∈ lw_all) (h2 : Cond.sameMethod x.cls owner x.name x.desc ∈ lw_all) (h0 : Cond.instanceMethod ⟨owner, x.name, x.desc⟩ ∈ lw_all) (h3 : Cond.selects C x y ∈ lw_all) (h4 : Cond.instanceMethod y ∈ lw_all) (h5 : Cond.initialized y.cls ∈ lw_all) (h6 : Cond.code y b L r ∈ lw_all) : GoodIn lw_all (va_wsO own idx C owner x y (ws_ y b L r)) := by
  refine lw_app ?_ (lw_meth h6)
  intro w hw
  simp only [List.mem_cons, List.not_mem_nil, or_false] at hw
  rcases hw with e | e | e | e | e | e
  · rw [e]; exact h1
  · rw [e]; exact h2
  · rw [e]; exact h0
  · rw [e]; exact h3
  · rw [e]; exact h4
  · rw [e]; exact h5
set_option maxHeartbeats 1000000 in
theorem hx_gv_kind {p : Program} {l : Launch} {e : Env} {R : Room} {s : State} {m : MethodId} {args : Array Value} {below : List Frame} {meth : Method} {c : Code} {cells slots : Nat} {Q : State → Prop} {D : va_G} {C : Nat → Nat} {a0 : Array Value} {s0 : State} {ad : Rl → Nat} {so : Nat → Option hS} {pr : hPr} {g t : hSt} {lt : Rl → Nat → Int64} {cc : ByteArray} {nL pc index : Nat} {own : String} {ret : Option FieldType} {H : Heap} {locs : List Loc} {ls : Array Slot} {rest : List Value} (CX : hCx D C a0 s0 p s m args meth c cc nL own ret) (hIx : hI (hA s0) ad (Sum.elim (xSH C pr) so)) {r : Nat} (h_r : hGv C pr r)  (hlink : Cond.methodLink own index ⟨"HeavyGifts$Giver", "kind", "()I"⟩ ∈ lw_all) {v : Int32} (hq : x_gv_kind pr g r = some v) (hM : hW D vwCl ad (Sum.elim (xSH C pr) so) (Sum.elim g t) lt H) (hS : va_S (hA s0) s.heap H locs) (hsz : ls.size = nL) (hroom : 2 * (F0 m pc ls (.ref (ad (.inl r)) :: rest)).monitorRoom + (rest.map fun v => v.category).sum ≤ 8) (hfr : 8 ≤ R.frames) (hlo : 240 ≤ R.locals) (hce : cells ≤ R.cells) (hsl : slots ≤ R.slots) (hdg : decode cc pc = .ok (.invokevirtual index, 3))
    (kk : ∀ (H1 : Heap) (locs1 : List Loc), hW D vwCl ad (Sum.elim (xSH C pr) so) (Sum.elim g t) lt H1 → va_S (hA s0) s.heap H1 locs1 → W p l e R s m args below meth c H1 locs1 cells slots Q (F0 m (pc + 3) ls (.int v :: rest))) : W p l e R s m args below meth c H locs cells slots Q (F0 m pc ls (.ref (ad (.inl r)) :: rest)) := by
  obtain ⟨hx, hb, hr, hml, hown, hts, hlocks, hK, hZ0, hA0⟩ := CX
  obtain ⟨hr1, hk⟩ := h_r
  unfold x_gv_kind at hq
  rcases (show pr r 0 = 0 ∨ pr r 0 = 1 ∨ pr r 0 = 2 ∨ pr r 0 = 3 ∨ pr r 0 = 4 by omega) with k | k | k | k | k
  · rw [k] at hr1 hq
    simp only [Nat.reduceEqDiff, if_true, if_false, ite_true, ite_false] at hq
    exact hr_calli0 (va_runU (As := []) (rest := rest) ⟨hx, hb, hml, hown, hts⟩ (met_x_pl_kind l D C a0 s0 ad so pr (Sum.elim g t) lt r hr1 hq) (va_cwA 0 hts (lw_U (owner := "HeavyGifts$Giver") hlink q1190 q1200 q1201 q105 q1202) rfl rfl rfl (hZ_nest hZ0 q1189 rfl) (by decide +kernel) ⟨Nat.le_trans (Nat.le_of_ble_eq_true rfl) hfr, Nat.le_trans (Nat.le_of_ble_eq_true rfl) hlo⟩) (hr_preV hZ_c hM hIx hK hZ0 hA0 hS (r := .inl r) hr1 (q := (RX9, T_no, 0)) rfl) rfl rfl hsz rfl hroom hdg ⟨hce, hsl⟩) hS kk
  · rw [k] at hr1 hq
    simp only [Nat.reduceEqDiff, if_true, if_false, ite_true, ite_false] at hq
    exact hr_calli0 (va_runU (As := []) (rest := rest) ⟨hx, hb, hml, hown, hts⟩ (met_x_lst_kind l D C a0 s0 ad so pr (Sum.elim g t) lt r hr1 hq) (va_cwA 0 hts (lw_U (owner := "HeavyGifts$Giver") hlink q1190 q1197 q1198 q108 q1199) rfl rfl rfl (hZ_nest hZ0 q1189 rfl) (by decide +kernel) ⟨Nat.le_trans (Nat.le_of_ble_eq_true rfl) hfr, Nat.le_trans (Nat.le_of_ble_eq_true rfl) hlo⟩) (hr_preV hZ_c hM hIx hK hZ0 hA0 hS (r := .inl r) hr1 (q := (RX12, T_no, 0)) rfl) rfl rfl hsz rfl hroom hdg ⟨hce, hsl⟩) hS kk
  · rw [k] at hr1 hq
    simp only [Nat.reduceEqDiff, if_true, if_false, ite_true, ite_false] at hq
    exact hr_calli0 (va_runU (As := []) (rest := rest) ⟨hx, hb, hml, hown, hts⟩ (met_x_few_kind l D C a0 s0 ad so pr (Sum.elim g t) lt r hr1 hq) (va_cwA 0 hts (lw_U (owner := "HeavyGifts$Giver") hlink q1190 q1194 q1195 q109 q1196) rfl rfl rfl (hZ_nest hZ0 q1189 rfl) (by decide +kernel) ⟨Nat.le_trans (Nat.le_of_ble_eq_true rfl) hfr, Nat.le_trans (Nat.le_of_ble_eq_true rfl) hlo⟩) (hr_preV hZ_c hM hIx hK hZ0 hA0 hS (r := .inl r) hr1 (q := (RX13, T_no, 0)) rfl) rfl rfl hsz rfl hroom hdg ⟨hce, hsl⟩) hS kk
  · rw [k] at hr1 hq
    simp only [Nat.reduceEqDiff, if_true, if_false, ite_true, ite_false] at hq
    exact hr_calli0 (va_runU (As := []) (rest := rest) ⟨hx, hb, hml, hown, hts⟩ (met_x_aim_kind l D C a0 s0 ad so pr (Sum.elim g t) lt r hr1 hq) (va_cwA 0 hts (lw_U (owner := "HeavyGifts$Giver") hlink q1190 q1191 q1192 q106 q1193) rfl rfl rfl (hZ_nest hZ0 q1189 rfl) (by decide +kernel) ⟨Nat.le_trans (Nat.le_of_ble_eq_true rfl) hfr, Nat.le_trans (Nat.le_of_ble_eq_true rfl) hlo⟩) (hr_preV hZ_c hM hIx hK hZ0 hA0 hS (r := .inl r) hr1 (q := (RX10, TX10, 1)) rfl) rfl rfl hsz rfl hroom hdg ⟨hce, hsl⟩) hS kk
  · rw [k] at hr1 hq
    simp only [Nat.reduceEqDiff, if_true, if_false, ite_true, ite_false] at hq
    exact hr_calli0 (va_runU (As := []) (rest := rest) ⟨hx, hb, hml, hown, hts⟩ (met_x_wait_kind l D C a0 s0 ad so pr (Sum.elim g t) lt r hr1 hq) (va_cwA 0 hts (lw_U (owner := "HeavyGifts$Giver") hlink q1190 q1203 q1204 q107 q1205) rfl rfl rfl (hZ_nest hZ0 q1189 rfl) (by decide +kernel) ⟨Nat.le_trans (Nat.le_of_ble_eq_true rfl) hfr, Nat.le_trans (Nat.le_of_ble_eq_true rfl) hlo⟩) (hr_preV hZ_c hM hIx hK hZ0 hA0 hS (r := .inl r) hr1 (q := (RX11, TX11, 1)) rfl) rfl rfl hsz rfl hroom hdg ⟨hce, hsl⟩) hS kk
set_option maxHeartbeats 1000000 in
theorem hx_gv_isReady {p : Program} {l : Launch} {e : Env} {R : Room} {s : State} {m : MethodId} {args : Array Value} {below : List Frame} {meth : Method} {c : Code} {cells slots : Nat} {Q : State → Prop} {D : va_G} {C : Nat → Nat} {a0 : Array Value} {s0 : State} {ad : Rl → Nat} {so : Nat → Option hS} {pr : hPr} {g t : hSt} {lt : Rl → Nat → Int64} {cc : ByteArray} {nL pc index : Nat} {own : String} {ret : Option FieldType} {H : Heap} {locs : List Loc} {ls : Array Slot} {rest : List Value} (CX : hCx D C a0 s0 p s m args meth c cc nL own ret) (hIx : hI (hA s0) ad (Sum.elim (xSH C pr) so)) {r : Nat} (h_r : hGv C pr r) {p0 : Int32} (hlink : Cond.methodLink own index ⟨"HeavyGifts$Giver", "isReady", "(I)Z"⟩ ∈ lw_all) {v : Int32} (hq : x_gv_isReady pr g r p0 = some v) (hM : hW D vwCl ad (Sum.elim (xSH C pr) so) (Sum.elim g t) lt H) (hS : va_S (hA s0) s.heap H locs) (hsz : ls.size = nL) (hroom : 2 * (F0 m pc ls (.int p0 :: .ref (ad (.inl r)) :: rest)).monitorRoom + (rest.map fun v => v.category).sum ≤ 8) (hfr : 8 ≤ R.frames) (hlo : 240 ≤ R.locals) (hce : cells ≤ R.cells) (hsl : slots ≤ R.slots) (hdg : decode cc pc = .ok (.invokevirtual index, 3))
    (kk : ∀ (H1 : Heap) (locs1 : List Loc), hW D vwCl ad (Sum.elim (xSH C pr) so) (Sum.elim g t) lt H1 → va_S (hA s0) s.heap H1 locs1 → W p l e R s m args below meth c H1 locs1 cells slots Q (F0 m (pc + 3) ls (.int v :: rest))) : W p l e R s m args below meth c H locs cells slots Q (F0 m pc ls (.int p0 :: .ref (ad (.inl r)) :: rest)) := by
  obtain ⟨hx, hb, hr, hml, hown, hts, hlocks, hK, hZ0, hA0⟩ := CX
  obtain ⟨hr1, hk⟩ := h_r
  unfold x_gv_isReady at hq
  rcases (show pr r 0 = 0 ∨ pr r 0 = 1 ∨ pr r 0 = 2 ∨ pr r 0 = 3 ∨ pr r 0 = 4 by omega) with k | k | k | k | k
  · rw [k] at hr1 hq
    simp only [Nat.reduceEqDiff, if_true, if_false, ite_true, ite_false] at hq
    exact hr_calli0 (va_runU (As := [.int p0]) (rest := rest) ⟨hx, hb, hml, hown, hts⟩ (met_x_gv0_isReady l D C a0 s0 ad so pr (Sum.elim g t) lt r p0  hq) (va_cwU 1 hts (lw_U (owner := "HeavyGifts$Giver") hlink q813 q817 q812 q104 q826) rfl rfl rfl rfl (by decide +kernel) ⟨Nat.le_trans (Nat.le_of_ble_eq_true rfl) hfr, Nat.le_trans (Nat.le_of_ble_eq_true rfl) hlo⟩) (hr_preV hZ_c hM hIx hK hZ0 hA0 hS (r := .inl r) hr1 (q := (RX9, T_no, 0)) rfl) rfl rfl hsz rfl hroom hdg ⟨hce, hsl⟩) hS kk
  · rw [k] at hr1 hq
    simp only [Nat.reduceEqDiff, if_true, if_false, ite_true, ite_false] at hq
    exact hr_calli0 (va_runU (As := [.int p0]) (rest := rest) ⟨hx, hb, hml, hown, hts⟩ (met_x_gv0_isReady l D C a0 s0 ad so pr (Sum.elim g t) lt r p0  hq) (va_cwU 1 hts (lw_U (owner := "HeavyGifts$Giver") hlink q813 q816 q812 q104 q826) rfl rfl rfl rfl (by decide +kernel) ⟨Nat.le_trans (Nat.le_of_ble_eq_true rfl) hfr, Nat.le_trans (Nat.le_of_ble_eq_true rfl) hlo⟩) (hr_preV hZ_c hM hIx hK hZ0 hA0 hS (r := .inl r) hr1 (q := (RX12, T_no, 0)) rfl) rfl rfl hsz rfl hroom hdg ⟨hce, hsl⟩) hS kk
  · rw [k] at hr1 hq
    simp only [Nat.reduceEqDiff, if_true, if_false, ite_true, ite_false] at hq
    exact hr_calli0 (va_runU (As := [.int p0]) (rest := rest) ⟨hx, hb, hml, hown, hts⟩ (met_x_gv0_isReady l D C a0 s0 ad so pr (Sum.elim g t) lt r p0  hq) (va_cwU 1 hts (lw_U (owner := "HeavyGifts$Giver") hlink q813 q815 q812 q104 q826) rfl rfl rfl rfl (by decide +kernel) ⟨Nat.le_trans (Nat.le_of_ble_eq_true rfl) hfr, Nat.le_trans (Nat.le_of_ble_eq_true rfl) hlo⟩) (hr_preV hZ_c hM hIx hK hZ0 hA0 hS (r := .inl r) hr1 (q := (RX13, T_no, 0)) rfl) rfl rfl hsz rfl hroom hdg ⟨hce, hsl⟩) hS kk
  · rw [k] at hr1 hq
    simp only [Nat.reduceEqDiff, if_true, if_false, ite_true, ite_false] at hq
    exact hr_calli0 (va_runU (As := [.int p0]) (rest := rest) ⟨hx, hb, hml, hown, hts⟩ (met_x_gv0_isReady l D C a0 s0 ad so pr (Sum.elim g t) lt r p0  hq) (va_cwU 1 hts (lw_U (owner := "HeavyGifts$Giver") hlink q813 q814 q812 q104 q826) rfl rfl rfl rfl (by decide +kernel) ⟨Nat.le_trans (Nat.le_of_ble_eq_true rfl) hfr, Nat.le_trans (Nat.le_of_ble_eq_true rfl) hlo⟩) (hr_preV hZ_c hM hIx hK hZ0 hA0 hS (r := .inl r) hr1 (q := (RX10, TX10, 1)) rfl) rfl rfl hsz rfl hroom hdg ⟨hce, hsl⟩) hS kk
  · rw [k] at hr1 hq
    simp only [Nat.reduceEqDiff, if_true, if_false, ite_true, ite_false] at hq
    exact hr_calli0 (va_runU (As := [.int p0]) (rest := rest) ⟨hx, hb, hml, hown, hts⟩ (met_x_wait_isReady l D C a0 s0 ad so pr t lt g r p0 hr1 hq) (va_cwO 1 hts (lw_O (owner := "HeavyGifts$Giver") hlink q813 q812 q818 q819 q107 q820) rfl rfl rfl q826 (by decide +kernel) ⟨Nat.le_trans (Nat.le_of_ble_eq_true rfl) hfr, Nat.le_trans (Nat.le_of_ble_eq_true rfl) hlo⟩) (hr_preV hZ_c hM hIx hK hZ0 hA0 hS (r := .inl r) hr1 (q := (RX11, TX11, 1)) rfl) rfl rfl hsz rfl hroom hdg ⟨hce, hsl⟩) hS kk
set_option maxHeartbeats 1000000 in
theorem hx_gv_mayTake {p : Program} {l : Launch} {e : Env} {R : Room} {s : State} {m : MethodId} {args : Array Value} {below : List Frame} {meth : Method} {c : Code} {cells slots : Nat} {Q : State → Prop} {D : va_G} {C : Nat → Nat} {a0 : Array Value} {s0 : State} {ad : Rl → Nat} {so : Nat → Option hS} {pr : hPr} {g t : hSt} {lt : Rl → Nat → Int64} {cc : ByteArray} {nL pc index : Nat} {own : String} {ret : Option FieldType} {H : Heap} {locs : List Loc} {ls : Array Slot} {rest : List Value} (CX : hCx D C a0 s0 p s m args meth c cc nL own ret) (hIx : hI (hA s0) ad (Sum.elim (xSH C pr) so)) {r : Nat} (h_r : hGv C pr r) {p0 : Int32} (hlink : Cond.methodLink own index ⟨"HeavyGifts$Giver", "mayTake", "(I)Z"⟩ ∈ lw_all) {v : Int32} (hq : x_gv_mayTake pr g r p0 = some v) (hM : hW D vwCl ad (Sum.elim (xSH C pr) so) (Sum.elim g t) lt H) (hS : va_S (hA s0) s.heap H locs) (hsz : ls.size = nL) (hroom : 2 * (F0 m pc ls (.int p0 :: .ref (ad (.inl r)) :: rest)).monitorRoom + (rest.map fun v => v.category).sum ≤ 8) (hfr : 8 ≤ R.frames) (hlo : 240 ≤ R.locals) (hce : cells ≤ R.cells) (hsl : slots ≤ R.slots) (hdg : decode cc pc = .ok (.invokevirtual index, 3))
    (kk : ∀ (H1 : Heap) (locs1 : List Loc), hW D vwCl ad (Sum.elim (xSH C pr) so) (Sum.elim g t) lt H1 → va_S (hA s0) s.heap H1 locs1 → W p l e R s m args below meth c H1 locs1 cells slots Q (F0 m (pc + 3) ls (.int v :: rest))) : W p l e R s m args below meth c H locs cells slots Q (F0 m pc ls (.int p0 :: .ref (ad (.inl r)) :: rest)) := by
  obtain ⟨hx, hb, hr, hml, hown, hts, hlocks, hK, hZ0, hA0⟩ := CX
  obtain ⟨hr1, hk⟩ := h_r
  unfold x_gv_mayTake at hq
  rcases (show pr r 0 = 0 ∨ pr r 0 = 1 ∨ pr r 0 = 2 ∨ pr r 0 = 3 ∨ pr r 0 = 4 by omega) with k | k | k | k | k
  · rw [k] at hr1 hq
    simp only [Nat.reduceEqDiff, if_true, if_false, ite_true, ite_false] at hq
    exact hr_calli0 (va_runU (As := [.int p0]) (rest := rest) ⟨hx, hb, hml, hown, hts⟩ (met_x_gv0_mayTake l D C a0 s0 ad so pr (Sum.elim g t) lt r p0  hq) (va_cwU 1 hts (lw_U (owner := "HeavyGifts$Giver") hlink q829 q840 q828 q104 q837) rfl rfl rfl rfl (by decide +kernel) ⟨Nat.le_trans (Nat.le_of_ble_eq_true rfl) hfr, Nat.le_trans (Nat.le_of_ble_eq_true rfl) hlo⟩) (hr_preV hZ_c hM hIx hK hZ0 hA0 hS (r := .inl r) hr1 (q := (RX9, T_no, 0)) rfl) rfl rfl hsz rfl hroom hdg ⟨hce, hsl⟩) hS kk
  · rw [k] at hr1 hq
    simp only [Nat.reduceEqDiff, if_true, if_false, ite_true, ite_false] at hq
    exact hr_calli0 (va_runU (As := [.int p0]) (rest := rest) ⟨hx, hb, hml, hown, hts⟩ (met_x_gv0_mayTake l D C a0 s0 ad so pr (Sum.elim g t) lt r p0  hq) (va_cwU 1 hts (lw_U (owner := "HeavyGifts$Giver") hlink q829 q839 q828 q104 q837) rfl rfl rfl rfl (by decide +kernel) ⟨Nat.le_trans (Nat.le_of_ble_eq_true rfl) hfr, Nat.le_trans (Nat.le_of_ble_eq_true rfl) hlo⟩) (hr_preV hZ_c hM hIx hK hZ0 hA0 hS (r := .inl r) hr1 (q := (RX12, T_no, 0)) rfl) rfl rfl hsz rfl hroom hdg ⟨hce, hsl⟩) hS kk
  · rw [k] at hr1 hq
    simp only [Nat.reduceEqDiff, if_true, if_false, ite_true, ite_false] at hq
    exact hr_calli0 (va_runU (As := [.int p0]) (rest := rest) ⟨hx, hb, hml, hown, hts⟩ (met_x_gv0_mayTake l D C a0 s0 ad so pr (Sum.elim g t) lt r p0  hq) (va_cwU 1 hts (lw_U (owner := "HeavyGifts$Giver") hlink q829 q838 q828 q104 q837) rfl rfl rfl rfl (by decide +kernel) ⟨Nat.le_trans (Nat.le_of_ble_eq_true rfl) hfr, Nat.le_trans (Nat.le_of_ble_eq_true rfl) hlo⟩) (hr_preV hZ_c hM hIx hK hZ0 hA0 hS (r := .inl r) hr1 (q := (RX13, T_no, 0)) rfl) rfl rfl hsz rfl hroom hdg ⟨hce, hsl⟩) hS kk
  · rw [k] at hr1 hq
    simp only [Nat.reduceEqDiff, if_true, if_false, ite_true, ite_false] at hq
    exact hr_calli0 (va_runU (As := [.int p0]) (rest := rest) ⟨hx, hb, hml, hown, hts⟩ (met_x_aim_mayTake l D C a0 s0 ad so pr t lt g r p0 hr1 hq) (va_cwO 1 hts (lw_O (owner := "HeavyGifts$Giver") hlink q829 q828 q830 q831 q106 q832) rfl rfl rfl q837 (by decide +kernel) ⟨Nat.le_trans (Nat.le_of_ble_eq_true rfl) hfr, Nat.le_trans (Nat.le_of_ble_eq_true rfl) hlo⟩) (hr_preV hZ_c hM hIx hK hZ0 hA0 hS (r := .inl r) hr1 (q := (RX10, TX10, 1)) rfl) rfl rfl hsz rfl hroom hdg ⟨hce, hsl⟩) hS kk
  · rw [k] at hr1 hq
    simp only [Nat.reduceEqDiff, if_true, if_false, ite_true, ite_false] at hq
    exact hr_calli0 (va_runU (As := [.int p0]) (rest := rest) ⟨hx, hb, hml, hown, hts⟩ (met_x_gv0_mayTake l D C a0 s0 ad so pr (Sum.elim g t) lt r p0  hq) (va_cwU 1 hts (lw_U (owner := "HeavyGifts$Giver") hlink q829 q841 q828 q104 q837) rfl rfl rfl rfl (by decide +kernel) ⟨Nat.le_trans (Nat.le_of_ble_eq_true rfl) hfr, Nat.le_trans (Nat.le_of_ble_eq_true rfl) hlo⟩) (hr_preV hZ_c hM hIx hK hZ0 hA0 hS (r := .inl r) hr1 (q := (RX11, TX11, 1)) rfl) rfl rfl hsz rfl hroom hdg ⟨hce, hsl⟩) hS kk
set_option maxHeartbeats 1000000 in
theorem hx_gv_likes {p : Program} {l : Launch} {e : Env} {R : Room} {s : State} {m : MethodId} {args : Array Value} {below : List Frame} {meth : Method} {c : Code} {cells slots : Nat} {Q : State → Prop} {D : va_G} {C : Nat → Nat} {a0 : Array Value} {s0 : State} {ad : Rl → Nat} {so : Nat → Option hS} {pr : hPr} {g t : hSt} {lt : Rl → Nat → Int64} {cc : ByteArray} {nL pc index : Nat} {own : String} {ret : Option FieldType} {H : Heap} {locs : List Loc} {ls : Array Slot} {rest : List Value} (CX : hCx D C a0 s0 p s m args meth c cc nL own ret) (hIx : hI (hA s0) ad (Sum.elim (xSH C pr) so)) {r : Nat} (h_r : hGv C pr r) {b0 : Nat} (h_b0 : xSt C (xSH C pr) b0) (hlink : Cond.methodLink own index ⟨"HeavyGifts$Giver", "likes", "(LHeavyGifts$State;)I"⟩ ∈ lw_all) {v : Int32} (hq : x_gv_likes pr g r b0 = some v) (hM : hW D vwCl ad (Sum.elim (xSH C pr) so) (Sum.elim g t) lt H) (hS : va_S (hA s0) s.heap H locs) (hsz : ls.size = nL) (hroom : 2 * (F0 m pc ls (.ref (ad (.inl b0)) :: .ref (ad (.inl r)) :: rest)).monitorRoom + (rest.map fun v => v.category).sum ≤ 8) (hfr : 8 ≤ R.frames) (hlo : 240 ≤ R.locals) (hce : cells ≤ R.cells) (hsl : slots ≤ R.slots) (hdg : decode cc pc = .ok (.invokevirtual index, 3))
    (kk : ∀ (H1 : Heap) (locs1 : List Loc), hW D vwCl ad (Sum.elim (xSH C pr) so) (Sum.elim g t) lt H1 → va_S (hA s0) s.heap H1 locs1 → W p l e R s m args below meth c H1 locs1 cells slots Q (F0 m (pc + 3) ls (.int v :: rest))) : W p l e R s m args below meth c H locs cells slots Q (F0 m pc ls (.ref (ad (.inl b0)) :: .ref (ad (.inl r)) :: rest)) := by
  obtain ⟨hx, hb, hr, hml, hown, hts, hlocks, hK, hZ0, hA0⟩ := CX
  obtain ⟨hr1, hk⟩ := h_r
  unfold x_gv_likes at hq
  rcases (show pr r 0 = 0 ∨ pr r 0 = 1 ∨ pr r 0 = 2 ∨ pr r 0 = 3 ∨ pr r 0 = 4 by omega) with k | k | k | k | k
  · rw [k] at hr1 hq
    simp only [Nat.reduceEqDiff, if_true, if_false, ite_true, ite_false] at hq
    exact hr_calli0 (va_runU (As := [.ref (ad (.inl b0))]) (rest := rest) ⟨hx, hb, hml, hown, hts⟩ (met_x_gv0_likes l D C a0 s0 ad so pr (Sum.elim g t) lt r b0 h_b0 hq) (va_cwU 1 hts (lw_U (owner := "HeavyGifts$Giver") hlink q877 q887 q876 q104 q889) rfl rfl rfl rfl (by decide +kernel) ⟨Nat.le_trans (Nat.le_of_ble_eq_true rfl) hfr, Nat.le_trans (Nat.le_of_ble_eq_true rfl) hlo⟩) (hr_preV hZ_c hM hIx hK hZ0 hA0 hS (r := .inl r) hr1 (q := (RX9, T_no, 0)) rfl) rfl rfl hsz rfl hroom hdg ⟨hce, hsl⟩) hS kk
  · rw [k] at hr1 hq
    simp only [Nat.reduceEqDiff, if_true, if_false, ite_true, ite_false] at hq
    exact hr_calli0 (va_runU (As := [.ref (ad (.inl b0))]) (rest := rest) ⟨hx, hb, hml, hown, hts⟩ (met_x_gv0_likes l D C a0 s0 ad so pr (Sum.elim g t) lt r b0 h_b0 hq) (va_cwU 1 hts (lw_U (owner := "HeavyGifts$Giver") hlink q877 q886 q876 q104 q889) rfl rfl rfl rfl (by decide +kernel) ⟨Nat.le_trans (Nat.le_of_ble_eq_true rfl) hfr, Nat.le_trans (Nat.le_of_ble_eq_true rfl) hlo⟩) (hr_preV hZ_c hM hIx hK hZ0 hA0 hS (r := .inl r) hr1 (q := (RX12, T_no, 0)) rfl) rfl rfl hsz rfl hroom hdg ⟨hce, hsl⟩) hS kk
  · rw [k] at hr1 hq
    simp only [Nat.reduceEqDiff, if_true, if_false, ite_true, ite_false] at hq
    exact hr_calli0 (va_runU (As := [.ref (ad (.inl b0))]) (rest := rest) ⟨hx, hb, hml, hown, hts⟩ (met_x_gv0_likes l D C a0 s0 ad so pr (Sum.elim g t) lt r b0 h_b0 hq) (va_cwU 1 hts (lw_U (owner := "HeavyGifts$Giver") hlink q877 q885 q876 q104 q889) rfl rfl rfl rfl (by decide +kernel) ⟨Nat.le_trans (Nat.le_of_ble_eq_true rfl) hfr, Nat.le_trans (Nat.le_of_ble_eq_true rfl) hlo⟩) (hr_preV hZ_c hM hIx hK hZ0 hA0 hS (r := .inl r) hr1 (q := (RX13, T_no, 0)) rfl) rfl rfl hsz rfl hroom hdg ⟨hce, hsl⟩) hS kk
  · rw [k] at hr1 hq
    simp only [Nat.reduceEqDiff, if_true, if_false, ite_true, ite_false] at hq
    exact hr_calli0 (va_runU (As := [.ref (ad (.inl b0))]) (rest := rest) ⟨hx, hb, hml, hown, hts⟩ (met_x_aim_likes l D C a0 s0 ad so pr t lt g r b0 hr1 h_b0 hq) (va_cwO 1 hts (lw_O (owner := "HeavyGifts$Giver") hlink q877 q876 q878 q879 q106 q880) rfl rfl rfl q889 (by decide +kernel) ⟨Nat.le_trans (Nat.le_of_ble_eq_true rfl) hfr, Nat.le_trans (Nat.le_of_ble_eq_true rfl) hlo⟩) (hr_preV hZ_c hM hIx hK hZ0 hA0 hS (r := .inl r) hr1 (q := (RX10, TX10, 1)) rfl) rfl rfl hsz rfl hroom hdg ⟨hce, hsl⟩) hS kk
  · rw [k] at hr1 hq
    simp only [Nat.reduceEqDiff, if_true, if_false, ite_true, ite_false] at hq
    exact hr_calli0 (va_runU (As := [.ref (ad (.inl b0))]) (rest := rest) ⟨hx, hb, hml, hown, hts⟩ (met_x_gv0_likes l D C a0 s0 ad so pr (Sum.elim g t) lt r b0 h_b0 hq) (va_cwU 1 hts (lw_U (owner := "HeavyGifts$Giver") hlink q877 q888 q876 q104 q889) rfl rfl rfl rfl (by decide +kernel) ⟨Nat.le_trans (Nat.le_of_ble_eq_true rfl) hfr, Nat.le_trans (Nat.le_of_ble_eq_true rfl) hlo⟩) (hr_preV hZ_c hM hIx hK hZ0 hA0 hS (r := .inl r) hr1 (q := (RX11, TX11, 1)) rfl) rfl rfl hsz rfl hroom hdg ⟨hce, hsl⟩) hS kk
set_option maxHeartbeats 1000000 in
theorem hx_gv_isBetter {p : Program} {l : Launch} {e : Env} {R : Room} {s : State} {m : MethodId} {args : Array Value} {below : List Frame} {meth : Method} {c : Code} {cells slots : Nat} {Q : State → Prop} {D : va_G} {C : Nat → Nat} {a0 : Array Value} {s0 : State} {ad : Rl → Nat} {so : Nat → Option hS} {pr : hPr} {g t : hSt} {lt : Rl → Nat → Int64} {cc : ByteArray} {nL pc index : Nat} {own : String} {ret : Option FieldType} {H : Heap} {locs : List Loc} {ls : Array Slot} {rest : List Value} (CX : hCx D C a0 s0 p s m args meth c cc nL own ret) (hIx : hI (hA s0) ad (Sum.elim (xSH C pr) so)) {r : Nat} (h_r : hGv C pr r) {p0 : Int32} {p1 : Int32} (hlink : Cond.methodLink own index ⟨"HeavyGifts$Giver", "isBetter", "(IILHeavyGifts$Town;)Z"⟩ ∈ lw_all) {v : Int32} (hq : x_gv_isBetter pr g r p0 p1 = some v) (hM : hW D vwCl ad (Sum.elim (xSH C pr) so) (Sum.elim g t) lt H) (hS : va_S (hA s0) s.heap H locs) (hsz : ls.size = nL) (hroom : 2 * (F0 m pc ls (.ref (ad (.inl 10)) :: .int p1 :: .int p0 :: .ref (ad (.inl r)) :: rest)).monitorRoom + (rest.map fun v => v.category).sum ≤ 8) (hfr : 8 ≤ R.frames) (hlo : 240 ≤ R.locals) (hce : cells ≤ R.cells) (hsl : slots ≤ R.slots) (hdg : decode cc pc = .ok (.invokevirtual index, 3))
    (kk : ∀ (H1 : Heap) (locs1 : List Loc), hW D vwCl ad (Sum.elim (xSH C pr) so) (Sum.elim g t) lt H1 → va_S (hA s0) s.heap H1 locs1 → W p l e R s m args below meth c H1 locs1 cells slots Q (F0 m (pc + 3) ls (.int v :: rest))) : W p l e R s m args below meth c H locs cells slots Q (F0 m pc ls (.ref (ad (.inl 10)) :: .int p1 :: .int p0 :: .ref (ad (.inl r)) :: rest)) := by
  obtain ⟨hx, hb, hr, hml, hown, hts, hlocks, hK, hZ0, hA0⟩ := CX
  obtain ⟨hr1, hk⟩ := h_r
  unfold x_gv_isBetter at hq
  rcases (show pr r 0 = 0 ∨ pr r 0 = 1 ∨ pr r 0 = 2 ∨ pr r 0 = 3 ∨ pr r 0 = 4 by omega) with k | k | k | k | k
  · rw [k] at hr1 hq
    simp only [Nat.reduceEqDiff, if_true, if_false, ite_true, ite_false] at hq
    exact hr_calli0 (va_runU (As := [.int p0, .int p1, .ref (ad (.inl 10))]) (rest := rest) ⟨hx, hb, hml, hown, hts⟩ (met_x_gv0_isBetter l D C a0 s0 ad so pr (Sum.elim g t) lt r p0 p1  hq) (va_cwU 3 hts (lw_U (owner := "HeavyGifts$Giver") hlink q848 q865 q847 q104 q867) rfl rfl rfl rfl (by decide +kernel) ⟨Nat.le_trans (Nat.le_of_ble_eq_true rfl) hfr, Nat.le_trans (Nat.le_of_ble_eq_true rfl) hlo⟩) (hr_preV hZ_c hM hIx hK hZ0 hA0 hS (r := .inl r) hr1 (q := (RX9, T_no, 0)) rfl) rfl rfl hsz rfl hroom hdg ⟨hce, hsl⟩) hS kk
  · rw [k] at hr1 hq
    simp only [Nat.reduceEqDiff, if_true, if_false, ite_true, ite_false] at hq
    exact hr_calli0 (va_runU (As := [.int p0, .int p1, .ref (ad (.inl 10))]) (rest := rest) ⟨hx, hb, hml, hown, hts⟩ (met_x_lst_isBetter l D C a0 s0 ad so pr t lt g r p0 p1 hr1 hq) (va_cwO 3 hts (lw_O (owner := "HeavyGifts$Giver") hlink q848 q847 q859 q860 q108 q861) rfl rfl rfl q867 (by decide +kernel) ⟨Nat.le_trans (Nat.le_of_ble_eq_true rfl) hfr, Nat.le_trans (Nat.le_of_ble_eq_true rfl) hlo⟩) (hr_preV hZ_c hM hIx hK hZ0 hA0 hS (r := .inl r) hr1 (q := (RX12, T_no, 0)) rfl) rfl rfl hsz rfl hroom hdg ⟨hce, hsl⟩) hS kk
  · rw [k] at hr1 hq
    simp only [Nat.reduceEqDiff, if_true, if_false, ite_true, ite_false] at hq
    exact hr_calli0 (va_runU (As := [.int p0, .int p1, .ref (ad (.inl 10))]) (rest := rest) ⟨hx, hb, hml, hown, hts⟩ (met_x_few_isBetter l D C a0 s0 ad so pr (Sum.elim g t) lt r p0 p1 hr1 hq) (va_cwO 3 hts (lw_O (owner := "HeavyGifts$Giver") hlink q848 q847 q850 q851 q109 q852) rfl rfl rfl q867 (by decide +kernel) ⟨Nat.le_trans (Nat.le_of_ble_eq_true rfl) hfr, Nat.le_trans (Nat.le_of_ble_eq_true rfl) hlo⟩) (hr_preV hZ_c hM hIx hK hZ0 hA0 hS (r := .inl r) hr1 (q := (RX13, T_no, 0)) rfl) rfl rfl hsz rfl hroom hdg ⟨hce, hsl⟩) hS kk
  · rw [k] at hr1 hq
    simp only [Nat.reduceEqDiff, if_true, if_false, ite_true, ite_false] at hq
    exact hr_calli0 (va_runU (As := [.int p0, .int p1, .ref (ad (.inl 10))]) (rest := rest) ⟨hx, hb, hml, hown, hts⟩ (met_x_gv0_isBetter l D C a0 s0 ad so pr (Sum.elim g t) lt r p0 p1  hq) (va_cwU 3 hts (lw_U (owner := "HeavyGifts$Giver") hlink q848 q849 q847 q104 q867) rfl rfl rfl rfl (by decide +kernel) ⟨Nat.le_trans (Nat.le_of_ble_eq_true rfl) hfr, Nat.le_trans (Nat.le_of_ble_eq_true rfl) hlo⟩) (hr_preV hZ_c hM hIx hK hZ0 hA0 hS (r := .inl r) hr1 (q := (RX10, TX10, 1)) rfl) rfl rfl hsz rfl hroom hdg ⟨hce, hsl⟩) hS kk
  · rw [k] at hr1 hq
    simp only [Nat.reduceEqDiff, if_true, if_false, ite_true, ite_false] at hq
    exact hr_calli0 (va_runU (As := [.int p0, .int p1, .ref (ad (.inl 10))]) (rest := rest) ⟨hx, hb, hml, hown, hts⟩ (met_x_gv0_isBetter l D C a0 s0 ad so pr (Sum.elim g t) lt r p0 p1  hq) (va_cwU 3 hts (lw_U (owner := "HeavyGifts$Giver") hlink q848 q866 q847 q104 q867) rfl rfl rfl rfl (by decide +kernel) ⟨Nat.le_trans (Nat.le_of_ble_eq_true rfl) hfr, Nat.le_trans (Nat.le_of_ble_eq_true rfl) hlo⟩) (hr_preV hZ_c hM hIx hK hZ0 hA0 hS (r := .inl r) hr1 (q := (RX11, TX11, 1)) rfl) rfl rfl hsz rfl hroom hdg ⟨hce, hsl⟩) hS kk
theorem hx_castGv {p : Program} {l : Launch} {e : Env} {R : Room} {s : State} {m : MethodId} {args : Array Value} {below : List Frame} {meth : Method} {c : Code} {cells slots : Nat} {Q : State → Prop} {D : va_G} {C : Nat → Nat} {a0 : Array Value} {s0 : State} {ad : Rl → Nat} {so : Nat → Option hS} {pr : hPr} {g t : hSt} {lt : Rl → Nat → Int64} {cc : ByteArray} {pc index : Nat} {own : String} {H : Heap} {locs : List Loc} {ls : Array Slot} {rest : List Value} (hx : p.tables.exec = Jvm.exec) (hb : c.code = cc) (hown : s.vm.findClass own = some m.cls) (hK : va_K D vwCl (hT C) s) (hZ0 : hZ a0 s0 s s.heap) (hlink : (Cond.classLink own index "HeavyGifts$Giver").before args s = true) {r : Nat} (h_r : hGv C pr r) (hM : hW D vwCl ad (Sum.elim (xSH C pr) so) (Sum.elim g t) lt H) (hdg : decode cc pc = .ok (.checkcast index, 3))
    (kk : W p l e R s m args below meth c H locs cells slots Q (F0 m (pc + 3) ls (.ref (ad (.inl r)) :: rest))) : W p l e R s m args below meth c H locs cells slots Q (F0 m pc ls (.ref (ad (.inl r)) :: rest)) := by
  obtain ⟨hr1, hk⟩ := h_r
  rcases (show pr r 0 = 0 ∨ pr r 0 = 1 ∨ pr r 0 = 2 ∨ pr r 0 = 3 ∨ pr r 0 = 4 by omega) with k | k | k | k | k
  · rw [k] at hr1
    exact va_castY (C := "HeavyGifts$Plain") hx hb hown hlink (hZ_nest hZ0 q1870 rfl) (hr_recv (q := (RX9, T_no, 0)) hK hM (r := .inl r) hr1 rfl) hdg kk
  · rw [k] at hr1
    exact va_castY (C := "HeavyGifts$Least") hx hb hown hlink (hZ_nest hZ0 q1869 rfl) (hr_recv (q := (RX12, T_no, 0)) hK hM (r := .inl r) hr1 rfl) hdg kk
  · rw [k] at hr1
    exact va_castY (C := "HeavyGifts$Fewest") hx hb hown hlink (hZ_nest hZ0 q1868 rfl) (hr_recv (q := (RX13, T_no, 0)) hK hM (r := .inl r) hr1 rfl) hdg kk
  · rw [k] at hr1
    exact va_castY (C := "HeavyGifts$Aim") hx hb hown hlink (hZ_nest hZ0 q1867 rfl) (hr_recv (q := (RX10, TX10, 1)) hK hM (r := .inl r) hr1 rfl) hdg kk
  · rw [k] at hr1
    exact va_castY (C := "HeavyGifts$Wait") hx hb hown hlink (hZ_nest hZ0 q1871 rfl) (hr_recv (q := (RX11, TX11, 1)) hK hM (r := .inl r) hr1 rfl) hdg kk
theorem hx_castGf {p : Program} {l : Launch} {e : Env} {R : Room} {s : State} {m : MethodId} {args : Array Value} {below : List Frame} {meth : Method} {c : Code} {cells slots : Nat} {Q : State → Prop} {D : va_G} {C : Nat → Nat} {a0 : Array Value} {s0 : State} {ad : Rl → Nat} {so : Nat → Option hS} {pr : hPr} {g t : hSt} {lt : Rl → Nat → Int64} {cc : ByteArray} {pc index : Nat} {own : String} {H : Heap} {locs : List Loc} {ls : Array Slot} {rest : List Value} (hx : p.tables.exec = Jvm.exec) (hb : c.code = cc) (hown : s.vm.findClass own = some m.cls) (hK : va_K D vwCl (hT C) s) (hZ0 : hZ a0 s0 s s.heap) (hlink : (Cond.classLink own index "HeavyGifts$Gift").before args s = true) {r : Nat} (h_r : xSH C pr r = some (.inr (.inr (4, x_gf)))) (hM : hW D vwCl ad (Sum.elim (xSH C pr) so) (Sum.elim g t) lt H) (hdg : decode cc pc = .ok (.checkcast index, 3))
    (kk : W p l e R s m args below meth c H locs cells slots Q (F0 m (pc + 3) ls (.ref (ad (.inl r)) :: rest))) : W p l e R s m args below meth c H locs cells slots Q (F0 m pc ls (.ref (ad (.inl r)) :: rest)) := va_castS hx hb hown hlink (hK.1 4 _ rfl).2 (hr_recv (q := (RX14, TX14, 9)) hK hM (r := .inl r) h_r rfl) hdg kk
theorem hx_bel {p : Program} {l : Launch} {e : Env} {R : Room} {s : State} {m : MethodId} {args : Array Value} {below : List Frame} {meth : Method} {c : Code} {cells slots : Nat} {Q : State → Prop} {D : va_G} {C : Nat → Nat} {ad : Rl → Nat} {so : Nat → Option hS} {pr : hPr} {g t : hSt} {lt : Rl → Nat → Int64} {cc : ByteArray} {pc : Nat} {H : Heap} {locs : List Loc} {ls : Array Slot} {rest : List Value} (hx : p.tables.exec = Jvm.exec) (hb : c.code = cc) (hK : va_K D vwCl (hT C) s) (hM : hW D vwCl ad (Sum.elim (xSH C pr) so) (Sum.elim g t) lt H) {i : Int32} {r : Nat} (hq : hbel i = some r) (hdg : decode cc pc = .ok (.aaload, 1))
    (kk : xSt C (xSH C pr) r → W p l e R s m args below meth c H locs cells slots Q (F0 m (pc + 1) ls (.ref (ad (.inl r)) :: rest))) : W p l e R s m args below meth c H locs cells slots Q (F0 m pc ls (.int i :: .ref (ad (.inl 2)) :: rest)) := by
  unfold hbel at hq
  obtain ⟨hc, hq⟩ := hif_n hq
  cases hq
  have h7 : i.toNatClampNeg < 7 := Nat.not_le.mp fun z => hc (Or.inr z)
  exact hr_aald hx hb hK hM 5 (r := .inl 2) (C := "HeavyGifts$State") xS_2 rfl hc (by rw [if_pos h7]; rfl) hdg (kk (xs_below h7))
theorem hx_sts {p : Program} {l : Launch} {e : Env} {R : Room} {s : State} {m : MethodId} {args : Array Value} {below : List Frame} {meth : Method} {c : Code} {cells slots : Nat} {Q : State → Prop} {D : va_G} {C : Nat → Nat} {ad : Rl → Nat} {so : Nat → Option hS} {pr : hPr} {g t : hSt} {lt : Rl → Nat → Int64} {cc : ByteArray} {pc : Nat} {H : Heap} {locs : List Loc} {ls : Array Slot} {rest : List Value} (hx : p.tables.exec = Jvm.exec) (hb : c.code = cc) (hK : va_K D vwCl (hT C) s) (hM : hW D vwCl ad (Sum.elim (xSH C pr) so) (Sum.elim g t) lt H) {i : Int32} {r : Nat} (hq : hsts pr i = some r) (hdg : decode cc pc = .ok (.aaload, 1))
    (kk : xSt C (xSH C pr) r → W p l e R s m args below meth c H locs cells slots Q (F0 m (pc + 1) ls (.ref (ad (.inl r)) :: rest))) : W p l e R s m args below meth c H locs cells slots Q (F0 m pc ls (.int i :: .ref (ad (.inl 5)) :: rest)) := by
  unfold hsts at hq
  obtain ⟨hc, hq⟩ := hif_n hq
  cases hq
  have h1 : i.toNatClampNeg < 1000 := Nat.not_le.mp fun z => hc (Or.inr (Or.inl z))
  have h2 : i.toNatClampNeg < pr 9 2 := Nat.not_le.mp fun z => hc (Or.inr (Or.inr z))
  exact hr_aald hx hb hK hM 5 (r := .inl 5) (C := "HeavyGifts$State") xS_5 rfl (fun z => z.elim (fun z => hc (Or.inl z)) (fun z => hc (Or.inr (Or.inl z)))) (by rw [if_pos h2]; rfl) hdg (kk (xs_states h2 h1))
def rm_ed : Room := { frames := 1, cells := 0, slots := 0, locals := 16 }
set_option maxHeartbeats 1000000 in
theorem met_al_elementData (l : Launch) (D : va_G) (C : Nat → Nat) (a0 : Array Value) (s0 : State) (ad : Rl → Nat) (so : Nat → Option hS) (pr : hPr) (st : Rl → Nat → Int32) (lt : Rl → Nat → Int64) (b : Nat) (i : Int32) (r : Nat) (hb1 : xSH C pr b = some (.inr (.inr (6, x_al b)))) (hb2 : xSH C pr (b + 1) = some (xLst C pr b)) (hi : ¬ (i < 0 ∨ pr b 0 ≤ i.toNatClampNeg)) (hi2 : i.toNatClampNeg < pr b 1) (hr2 : pr b (2 + i.toNatClampNeg) = r) : Met l yJ2_elementData (ws_ yJ2_elementData cJ2_elementData 2 (some (.object "java/lang/Object"))) rm_ed (va_Pc [.ref (ad (.inl b)), .int i] (hB D vwCl (hT C) (hA s0) (hZ a0 s0) ad (Sum.elim (xSH C pr) so) st lt)) (va_Qr (fun (_ : Unit) => True) (fun _ a U => a = ad (.inl r) ∧ hW D vwCl ad (Sum.elim (xSH C pr) so) st lt U.heap) (hA s0)) 0 0 (hA s0) := by
  refine Met.ofW (cc := cJ2_elementData) (maxL := 2) (ret := some (.object "java/lang/Object")) (by decide) rfl ?_
  intro p e s m args below meth c s₁ B hml hv
  obtain ⟨rfl, hM, hIx, hK, hZ0, hA0⟩ := hv
  have hl := lv_entry ([.ref (ad (.inl b)), .int i]) (n := 2) (Nat.le_of_ble_eq_true rfl)
  rw [lg_entry_eq]
  generalize (lg_sl ([.ref (ad (.inl b)), .int i]) ++ List.replicate (2 - (lg_sl ([.ref (ad (.inl b)), .int i])).length) Slot.unset).toArray = ls at hl ⊢
  have hl : lv_has ls 2 [(0, .ref (ad (.inl b))), (1, .int i)] := hl
  have hx := B.exec
  have hb := B.bytes
  have hr := B.returns
  have hlocks := B.notSynchronized
  have hown : s.vm.findClass RJ2 = some m.cls := findClass_of_methodNamed B.named
  have hts : ∀ w ∈ lw_all, w.before _ s = true := fun w h => atoms_spec (ws := ws_ yJ2_elementData cJ2_elementData 2 (some (.object "java/lang/Object"))) B.pre w (List.mem_cons_of_mem _ h)
  refine lv_aload_n hx hb dJ2_elementData_0 rfl (lv_at hl 0 rfl) ?_
  refine hr_get (ci := 6) (C := RJ2) (T := TJ2) (N := 3) (r := .inl b) hx hb hts in_J2 hown hK hM hb1 rfl 1 (by decide) (hts _ q455) rfl (v := .ref (ad (.inl (b + 1)))) rfl dJ2_elementData_1 ?_
  refine lv_iload_n hx hb dJ2_elementData_4 rfl (lv_at hl 1 rfl) ?_
  refine hr_aald hx hb hK hM 4 (r := .inl (b + 1)) (C := "java/lang/Object") hb2 rfl hi (v := .ref (ad (.inl r))) (by rw [if_pos hi2, hr2]; rfl) dJ2_elementData_5 ?_
  exact W.aret (v := .ref (ad (.inl r))) hx hb hr (Or.inl ⟨_, rfl⟩) (Or.inr ⟨_, rfl⟩) (fun T ht hW => ⟨⟨(), _, rfl, trivial, rfl, by rw [ht]; exact hM⟩, va_S.rf.F ht⟩) (fun _ h => by cases h) dJ2_elementData_6
def rm_al_get : Room := { frames := 5, cells := 0, slots := 0, locals := 120 }
set_option maxHeartbeats 1000000 in
theorem met_al_get (l : Launch) (D : va_G) (C : Nat → Nat) (a0 : Array Value) (s0 : State) (ad : Rl → Nat) (so : Nat → Option hS) (pr : hPr) (t : hSt) (lt : Rl → Nat → Int64) (g : hSt) (b : Nat) (i : Int32) (r : Nat) (hb1 : xSH C pr b = some (.inr (.inr (6, x_al b)))) (hb2 : xSH C pr (b + 1) = some (xLst C pr b)) (hi0 : ¬ i < 0) (hi1 : ¬ g b 2 ≤ i) (hi : ¬ pr b 0 ≤ i.toNatClampNeg) (hi2 : i.toNatClampNeg < pr b 1) (hr2 : pr b (2 + i.toNatClampNeg) = r) : Met l yJ2_get (ws_ yJ2_get cJ2_get 2 (some (.object "java/lang/Object"))) rm_al_get (va_Pc [.ref (ad (.inl b)), .int i] (hB D vwCl (hT C) (hA s0) (hZ a0 s0) ad (Sum.elim (xSH C pr) so) (Sum.elim g t) lt)) (va_Qr (fun (_ : Unit) => True) (fun _ a U => a = ad (.inl r) ∧ hW D vwCl ad (Sum.elim (xSH C pr) so) (Sum.elim g t) lt U.heap) (hA s0)) 0 0 (hA s0) := by
  refine Met.ofW (cc := cJ2_get) (maxL := 2) (ret := some (.object "java/lang/Object")) (by decide) rfl ?_
  intro p e s m args below meth c s₁ B hml hv
  obtain ⟨rfl, hM, hIx, hK, hZ0, hA0⟩ := hv
  have hl := lv_entry ([.ref (ad (.inl b)), .int i]) (n := 2) (Nat.le_of_ble_eq_true rfl)
  rw [lg_entry_eq]
  generalize (lg_sl ([.ref (ad (.inl b)), .int i]) ++ List.replicate (2 - (lg_sl ([.ref (ad (.inl b)), .int i])).length) Slot.unset).toArray = ls at hl ⊢
  have hl : lv_has ls 2 [(0, .ref (ad (.inl b))), (1, .int i)] := hl
  have hx := B.exec
  have hb := B.bytes
  have hr := B.returns
  have hlocks := B.notSynchronized
  have hown : s.vm.findClass RJ2 = some m.cls := findClass_of_methodNamed B.named
  have hts : ∀ w ∈ lw_all, w.before _ s = true := fun w h => atoms_spec (ws := ws_ yJ2_get cJ2_get 2 (some (.object "java/lang/Object"))) B.pre w (List.mem_cons_of_mem _ h)
  have hS : va_S (hA s0) s.heap s.heap [] := va_S.rf
  refine lv_iload_n hx hb dJ2_get_0 rfl (lv_at hl 1 rfl) ?_
  refine lv_aload_n hx hb dJ2_get_1 rfl (lv_at hl 0 rfl) ?_
  refine hr_get (ci := 6) (C := RJ2) (T := TJ2) (N := 3) (r := .inl b) hx hb hts in_J2 hown hK hM hb1 rfl 2 (by decide) (hts _ q456) rfl (v := .int (g b 2)) rfl dJ2_get_2 ?_
  have hq : x_jO_checkIndex i (g b 2) = some i := by
    unfold x_jO_checkIndex x_jP_checkIndex
    simp only [if_neg hi0, if_pos (Int32.not_le.mp hi1)]
    try rfl
  refine hr_calli0 (va_runS (As := [.int i, .int (g b 2)]) (rest := []) ⟨hx, hb, hml, hown, hts⟩ (met_x_jO_checkIndex l D C a0 s0 ad so pr (Sum.elim g t) lt i (g b 2) hq) (va_cwS 2 hts (lw_S q778 q779 q111 q780) rfl rfl rfl (by decide +kernel) ⟨Nat.le_of_ble_eq_true rfl, Nat.le_of_ble_eq_true rfl⟩) (hr_preS hZ_c hM hIx hK hZ0 hA0 hS) rfl rfl hl.1 rfl (lv_room (Nat.le_of_ble_eq_true rfl)) dJ2_get_5 ⟨Nat.le_refl _, Nat.le_refl _⟩) hS (fun H locs hM hS => ?_)
  refine lv_pop hx hb dJ2_get_8 rfl ?_
  refine lv_aload_n hx hb dJ2_get_9 rfl (lv_at hl 0 rfl) ?_
  refine lv_iload_n hx hb dJ2_get_10 rfl (lv_at hl 1 rfl) ?_
  refine va_callr (va_runV (As := [.int i]) (rest := []) ⟨hx, hb, hml, hown, hts⟩ (met_al_elementData l D C a0 s0 ad so pr (Sum.elim g t) lt b i r hb1 hb2 (fun z => z.elim hi0 hi) hi2 hr2) (cwV 1 hts (lw_V q806 q807 q808 q80 q809) rfl rfl rfl (by decide +kernel) ⟨Nat.le_of_ble_eq_true rfl, Nat.le_of_ble_eq_true rfl⟩) (hr_preV hZ_c hM hIx hK hZ0 hA0 hS (r := .inl b) hb1 (q := (RJ2, TJ2, 3)) rfl) rfl rfl hl.1 rfl (lv_room (Nat.le_of_ble_eq_true rfl)) dJ2_get_11 ⟨Nat.le_refl _, Nat.le_refl _⟩) hS (fun _ _ h => h) (fun _ h => h) (fun u ra T H1 locs1 ht hvm hp hB0 hz1 hk1 hS => ?_)
  obtain ⟨hra, hM⟩ := hB0
  subst hra
  rw [ht] at hM
  exact W.aret (v := .ref (ad (.inl r))) hx hb hr (Or.inl ⟨_, rfl⟩) (Or.inr ⟨_, rfl⟩) (fun T ht hW => ⟨⟨(), _, rfl, trivial, rfl, by rw [ht]; exact hM⟩, hS.F ht⟩) hS.2.2 dJ2_get_14
set_option maxHeartbeats 1000000 in
theorem hx_getP {p : Program} {l : Launch} {e : Env} {R : Room} {s : State} {m : MethodId} {args : Array Value} {below : List Frame} {meth : Method} {c : Code} {cells slots : Nat} {Q : State → Prop} {D : va_G} {C : Nat → Nat} {a0 : Array Value} {s0 : State} {ad : Rl → Nat} {so : Nat → Option hS} {pr : hPr} {g t : hSt} {lt : Rl → Nat → Int64} {cc : ByteArray} {nL pc index : Nat} {own : String} {ret : Option FieldType} {H : Heap} {locs : List Loc} {ls : Array Slot} {rest : List Value} (CX : hCx D C a0 s0 p s m args meth c cc nL own ret) (hIx : hI (hA s0) ad (Sum.elim (xSH C pr) so)) (hlink : Cond.methodLink own index yJ2_get ∈ lw_all) {i : Int32} {r : Nat} (hq : hgv pr g i = some r) (hM : hW D vwCl ad (Sum.elim (xSH C pr) so) (Sum.elim g t) lt H) (hS : va_S (hA s0) s.heap H locs) (hsz : ls.size = nL) (hroom : 2 * (F0 m pc ls (.int i :: .ref (ad (.inl 11)) :: rest)).monitorRoom + (rest.map fun v => v.category).sum ≤ 8) (hfr : 6 ≤ R.frames) (hlo : 160 ≤ R.locals) (hce : cells ≤ R.cells) (hsl : slots ≤ R.slots) (hdg : decode cc pc = .ok (.invokevirtual index, 3))
    (kk : hGv C pr r → ∀ (H1 : Heap) (locs1 : List Loc), hW D vwCl ad (Sum.elim (xSH C pr) so) (Sum.elim g t) lt H1 → va_S (hA s0) s.heap H1 locs1 → W p l e R s m args below meth c H1 locs1 cells slots Q (F0 m (pc + 3) ls (.ref (ad (.inl r)) :: rest))) : W p l e R s m args below meth c H locs cells slots Q (F0 m pc ls (.int i :: .ref (ad (.inl 11)) :: rest)) := by
  obtain ⟨hx, hb, hr, hml, hown, hts, hlocks, hK, hZ0, hA0⟩ := CX
  unfold hgv at hq
  obtain ⟨hc, hq⟩ := hif_n hq
  simp only [not_or] at hc
  obtain ⟨h1, h2, h3, h4, h5, h6, h7⟩ := hc
  cases hq
  have hv : hGv C pr (70 + i.toNatClampNeg) := ⟨xs_giver (by omega) (by omega) (by omega), by omega⟩
  have e6 : pr 11 (2 + i.toNatClampNeg) = 70 + i.toNatClampNeg := Decidable.not_not.mp h6
  refine va_callr (va_runV (As := [.int i]) (rest := rest) ⟨hx, hb, hml, hown, hts⟩ (met_al_get l D C a0 s0 ad so pr t lt g 11 i _ (xs_11 (C := C) (pr := pr)) (xs_12 (C := C) (pr := pr)) h1 h2 h3 (by omega) e6) (cwV 1 hts (lw_V hlink q803 q804 q80 q805) rfl rfl rfl (by decide +kernel) ⟨Nat.le_trans (Nat.le_of_ble_eq_true rfl) hfr, Nat.le_trans (Nat.le_of_ble_eq_true rfl) hlo⟩) (hr_preV hZ_c hM hIx hK hZ0 hA0 hS (r := .inl 11) xS_11 (q := (RJ2, TJ2, 3)) rfl) rfl rfl hsz rfl hroom hdg ⟨hce, hsl⟩) hS (fun _ _ h => h) (fun _ h => h) (fun u ra T H1 locs1 ht hvm hp hB0 hz1 hk1 hS => ?_)
  obtain ⟨hra, hM⟩ := hB0
  subst hra
  rw [ht] at hM
  exact kk hv H1 locs1 hM hS
set_option maxHeartbeats 1000000 in
theorem hx_getG {p : Program} {l : Launch} {e : Env} {R : Room} {s : State} {m : MethodId} {args : Array Value} {below : List Frame} {meth : Method} {c : Code} {cells slots : Nat} {Q : State → Prop} {D : va_G} {C : Nat → Nat} {a0 : Array Value} {s0 : State} {ad : Rl → Nat} {so : Nat → Option hS} {pr : hPr} {g t : hSt} {lt : Rl → Nat → Int64} {cc : ByteArray} {nL pc index : Nat} {own : String} {ret : Option FieldType} {H : Heap} {locs : List Loc} {ls : Array Slot} {rest : List Value} (CX : hCx D C a0 s0 p s m args meth c cc nL own ret) (hIx : hI (hA s0) ad (Sum.elim (xSH C pr) so)) (hlink : Cond.methodLink own index yJ2_get ∈ lw_all) {i : Int32} {r : Nat} (hq : hgf pr g i = some r) (hM : hW D vwCl ad (Sum.elim (xSH C pr) so) (Sum.elim g t) lt H) (hS : va_S (hA s0) s.heap H locs) (hsz : ls.size = nL) (hroom : 2 * (F0 m pc ls (.int i :: .ref (ad (.inl 21)) :: rest)).monitorRoom + (rest.map fun v => v.category).sum ≤ 8) (hfr : 6 ≤ R.frames) (hlo : 160 ≤ R.locals) (hce : cells ≤ R.cells) (hsl : slots ≤ R.slots) (hdg : decode cc pc = .ok (.invokevirtual index, 3))
    (kk : xSH C pr r = some (.inr (.inr (4, x_gf))) → ∀ (H1 : Heap) (locs1 : List Loc), hW D vwCl ad (Sum.elim (xSH C pr) so) (Sum.elim g t) lt H1 → va_S (hA s0) s.heap H1 locs1 → W p l e R s m args below meth c H1 locs1 cells slots Q (F0 m (pc + 3) ls (.ref (ad (.inl r)) :: rest))) : W p l e R s m args below meth c H locs cells slots Q (F0 m pc ls (.int i :: .ref (ad (.inl 21)) :: rest)) := by
  obtain ⟨hx, hb, hr, hml, hown, hts, hlocks, hK, hZ0, hA0⟩ := CX
  unfold hgf at hq
  obtain ⟨hc, hq⟩ := hif_n hq
  simp only [not_or] at hc
  obtain ⟨h1, h2, h3, h4, h5, h6⟩ := hc
  cases hq
  have hv : xSH C pr (pr 21 (2 + i.toNatClampNeg)) = some (.inr (.inr (4, x_gf))) := xs_gift (by omega) (by omega)
  refine va_callr (va_runV (As := [.int i]) (rest := rest) ⟨hx, hb, hml, hown, hts⟩ (met_al_get l D C a0 s0 ad so pr t lt g 21 i _ (xs_21 (C := C) (pr := pr)) (xs_22 (C := C) (pr := pr)) h1 h2 h3 (by omega) rfl) (cwV 1 hts (lw_V hlink q803 q804 q80 q805) rfl rfl rfl (by decide +kernel) ⟨Nat.le_trans (Nat.le_of_ble_eq_true rfl) hfr, Nat.le_trans (Nat.le_of_ble_eq_true rfl) hlo⟩) (hr_preV hZ_c hM hIx hK hZ0 hA0 hS (r := .inl 21) xS_21 (q := (RJ2, TJ2, 3)) rfl) rfl rfl hsz rfl hroom hdg ⟨hce, hsl⟩) hS (fun _ _ h => h) (fun _ h => h) (fun u ra T H1 locs1 ht hvm hp hB0 hz1 hk1 hS => ?_)
  obtain ⟨hra, hM⟩ := hB0
  subst hra
  rw [ht] at hM
  exact kk hv H1 locs1 hM hS
