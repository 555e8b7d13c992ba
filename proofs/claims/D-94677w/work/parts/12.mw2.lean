/-! WALKS (printed by tools/gen.py): 12.mw 2 -/
set_option maxRecDepth 100000
def rm_m_isPerson : Room := { frames := 3, cells := 0, slots := 0, locals := 39 }
set_option maxHeartbeats 4000000 in
set_option maxRecDepth 100000 in
theorem w_m_isPerson {p : Program} {l : Launch} {e : Env} {s : State} {m : MethodId} {args : Array Value} {below : List Frame} {meth : Method} {c : Code} {D : va_G} {C : Nat → Nat} {a0 : Array Value} {s0 : State} {ad : Rl → Nat} {so : Nat → Option hS} {t : hSt} {lt : Rl → Nat → Int64} (CX : hCx D C a0 s0 p s m args meth c cX5_isPerson 2 RX5 (some .boolean)) (hIx : hI (hA s0) ad (Sum.elim so (mSH C))) (g : hSt) (p0 : Int32) {o : Int32} (hf : m_isPerson g p0 = some o) {H : Heap} {locs : List Loc} (hM : hW D vwCl ad (Sum.elim so (mSH C)) (Sum.elim t g) lt H) (hS : va_S (hA s0) s.heap H locs) {ls : Array Slot} (hl : lv_has ls 2 [(0, .ref (ad (.inr 0))), (1, .int p0)]) : W p l e rm_m_isPerson s m args below meth c H locs 0 0 (MQ below (va_Qi (fun (r : Int32) (_ : Unit) => r = o) (fun (_ : Unit) (U : State) => hW D vwCl ad (Sum.elim so (mSH C)) (Sum.elim t g) lt U.heap) (hA s0)) args s 0 0 (hA s0)) (F0 m 0 ls []) := by
  obtain ⟨hx, hb, hr, hml, hown, hts, hlocks, hK, hZ0, hA0⟩ := CX
  unfold m_isPerson at hf
  refine lv_iload_n hx hb dX5_isPerson_0 rfl (lv_at hl 1 rfl) ?_
  refine lv_iconst (v := 0) hx hb dX5_isPerson_1 (by decide) ?_
  refine lv_aload_n hx hb dX5_isPerson_2 rfl (lv_at hl 0 rfl) ?_
  refine hr_get (ci := 5) (C := RX5) (T := TX5) (N := 55) (r := .inr 0) hx hb hts in_X5 hown hK hM mS_0 rfl 2 (by decide) (hts _ q1370) rfl (v := .ref (ad (.inr 3))) rfl dX5_isPerson_3 ?_
  refine lv_iconst (v := 0) hx hb dX5_isPerson_6 (by decide) ?_
  refine hm_iald (r := 3) hx hb hK hM 0 mS_3 rfl hf dX5_isPerson_7 (fun x1 hf => ?_)
  refine lv_iconst (v := 1) hx hb dX5_isPerson_8 (by decide) ?_
  refine lv_isub hx hb dX5_isPerson_9 ?_
  obtain ⟨y2, hq, hf⟩ := hbind hf
  refine hr_calli0 (va_runS (As := [.int p0, .int (0 : Int32), .int (x1 - (1 : Int32))]) (rest := []) ⟨hx, hb, hml, hown, hts⟩ (met_m_isIn l D C a0 s0 ad so (Sum.elim t g) lt p0 (0 : Int32) (x1 - (1 : Int32)) hq) (va_cwS 3 hts (lw_S q1648 q1649 q99 q1650) rfl rfl rfl (by decide +kernel) ⟨Nat.le_of_ble_eq_true rfl, Nat.le_of_ble_eq_true rfl⟩) (hr_preS hZ_c hM hIx hK hZ0 hA0 hS) rfl rfl hl.1 rfl (lv_room (Nat.le_of_ble_eq_true rfl)) dX5_isPerson_10 ⟨Nat.le_of_ble_eq_true rfl, Nat.le_of_ble_eq_true rfl⟩) hS (fun H locs hM hS => ?_)
  obtain ⟨hbv, hf⟩ := hif_s hf
  have eo := Option.some.inj hf
  subst eo
  exact W.zret (v := y2) hx hb hr (hz_n hbv).1 (fun T ht hW => ⟨⟨y2, (), rfl, rfl, by dsimp only; rw [ht]; exact hM⟩, hS.F ht⟩) hS.2.2 dX5_isPerson_13
set_option maxHeartbeats 4000000 in
set_option maxRecDepth 100000 in
theorem met_m_isPerson (l : Launch) (D : va_G) (C : Nat → Nat) (a0 : Array Value) (s0 : State) (ad : Rl → Nat) (so : Nat → Option hS) (t : hSt) (lt : Rl → Nat → Int64) (g : hSt) (p0 : Int32) {o : Int32} (hf : m_isPerson g p0 = some o) : Met l yX5_isPerson (ws_ yX5_isPerson cX5_isPerson 2 (some .boolean)) rm_m_isPerson (va_Pc [.ref (ad (.inr 0)), .int p0] (hB D vwCl (hT C) (hA s0) (hZ a0 s0) ad (Sum.elim so (mSH C)) (Sum.elim t g) lt)) (va_Qi (fun (r : Int32) (_ : Unit) => r = o) (fun (_ : Unit) (U : State) => hW D vwCl ad (Sum.elim so (mSH C)) (Sum.elim t g) lt U.heap) (hA s0)) 0 0 (hA s0) := by
  refine Met.ofW (cc := cX5_isPerson) (maxL := 2) (ret := (some .boolean)) (by decide) rfl ?_
  intro p e s m args below meth c s₁ B hml hv
  obtain ⟨rfl, hM, hIx, hK, hZ0, hA0⟩ := hv
  have hl := lv_entry ([.ref (ad (.inr 0)), .int p0]) (n := 2) (Nat.le_of_ble_eq_true rfl)
  rw [lg_entry_eq]
  generalize (lg_sl ([.ref (ad (.inr 0)), .int p0]) ++ List.replicate (2 - (lg_sl ([.ref (ad (.inr 0)), .int p0])).length) Slot.unset).toArray = ls at hl ⊢
  have hl : lv_has ls 2 [(0, .ref (ad (.inr 0))), (1, .int p0)] := hl
  exact w_m_isPerson ⟨B.exec, B.bytes, B.returns, hml, findClass_of_methodNamed B.named, fun w h => atoms_spec (ws := ws_ yX5_isPerson cX5_isPerson 2 (some .boolean)) B.pre w (List.mem_cons_of_mem _ h), B.notSynchronized, hK, hZ0, hA0⟩ hIx g p0 hf hM va_S.rf hl

def rm_m_hasOf : Room := { frames := 1, cells := 0, slots := 0, locals := 16 }
set_option maxHeartbeats 4000000 in
set_option maxRecDepth 100000 in
theorem w_m_hasOf_B33 {p : Program} {l : Launch} {e : Env} {s : State} {m : MethodId} {args : Array Value} {below : List Frame} {meth : Method} {c : Code} {D : va_G} {C : Nat → Nat} {a0 : Array Value} {s0 : State} {ad : Rl → Nat} {so : Nat → Option hS} {t : hSt} {lt : Rl → Nat → Int64} (CX : hCx D C a0 s0 p s m args meth c cX5_hasOf 5 RX5 (some .int)) (hIx : hI (hA s0) ad (Sum.elim so (mSH C))) (g : hSt) (r0 : Nat) (p1 : Int32) (v3_5 : Int32) (v4_5 : Int32) (x1 : Int32) (x2 : Int32) (k0_33 : Int32) (k1_33 : Int32) (h_r0 : mSH C r0 = some (.inl (C 0, 30, false))) {oM : Int32} {o : (Int32 × Int32) ⊕ (Int32)} (hf : m_hasOf_B33 v4_5 k0_33 k1_33 = some o) (kc : ∀ s' : Int32 × Int32, o = .inl s' → ∀ (H : Heap) (locs : List Loc) (ls : Array Slot), hW D vwCl ad (Sum.elim so (mSH C)) (Sum.elim t g) lt H → va_S (hA s0) s.heap H locs → lv_has ls 5 [(0, .ref (ad (.inr 0))), (1, .ref (ad (.inr r0))), (2, .int p1), (3, .int s'.1), (4, .int s'.2)] → W p l e rm_m_hasOf s m args below meth c H locs 0 0 (MQ below (va_Qi (fun (r : Int32) (_ : Unit) => r = oM) (fun (_ : Unit) (U : State) => hW D vwCl ad (Sum.elim so (mSH C)) (Sum.elim t g) lt U.heap) (hA s0)) args s 0 0 (hA s0)) (F0 m 5 ls [])) (kx : ∀ x' : Int32, o = .inr x' → ∀ (H : Heap) (locs : List Loc) (ls : Array Slot), hW D vwCl ad (Sum.elim so (mSH C)) (Sum.elim t g) lt H → va_S (hA s0) s.heap H locs → lv_has ls 5 [(3, .int x')] → W p l e rm_m_hasOf s m args below meth c H locs 0 0 (MQ below (va_Qi (fun (r : Int32) (_ : Unit) => r = oM) (fun (_ : Unit) (U : State) => hW D vwCl ad (Sum.elim so (mSH C)) (Sum.elim t g) lt U.heap) (hA s0)) args s 0 0 (hA s0)) (F0 m 41 ls [])) {H : Heap} {locs : List Loc} (hM : hW D vwCl ad (Sum.elim so (mSH C)) (Sum.elim t g) lt H) (hS : va_S (hA s0) s.heap H locs) {ls : Array Slot} (hl : lv_has ls 5 [(0, .ref (ad (.inr 0))), (1, .ref (ad (.inr r0))), (2, .int p1), (4, .int v4_5)]) : W p l e rm_m_hasOf s m args below meth c H locs 0 0 (MQ below (va_Qi (fun (r : Int32) (_ : Unit) => r = oM) (fun (_ : Unit) (U : State) => hW D vwCl ad (Sum.elim so (mSH C)) (Sum.elim t g) lt U.heap) (hA s0)) args s 0 0 (hA s0)) (F0 m 33 ls [.int k0_33, .int k1_33]) := by
  obtain ⟨hx, hb, hr, hml, hown, hts, hlocks, hK, hZ0, hA0⟩ := CX
  unfold m_hasOf_B33 at hf
  refine lv_ior hx hb dX5_hasOf_33 ?_
  refine hb_top hf (fun y3_3 hf => ?_)
  refine lv_istore_n (lv' := [(3, .int y3_3), (0, .ref (ad (.inr 0))), (1, .ref (ad (.inr r0))), (2, .int p1), (4, .int v4_5)]) hx hb dX5_hasOf_34 rfl hl (by decide) rfl (fun ls hl => ?_)
  obtain ⟨y4_4, ey, hf⟩ := hlet_ex hf
  refine lv_iinc (v := y4_4) (lv' := [(4, .int y4_4), (3, .int y3_3), (0, .ref (ad (.inr 0))), (1, .ref (ad (.inr r0))), (2, .int p1)]) hx hb dX5_hasOf_35 hl (k := 4) rfl (by rw [ey]; rfl) (by decide) rfl (fun ls hl => ?_)
  refine lv_goto (tgt := 5) hx hb dX5_hasOf_38 (by decide) ?_
  exact kc (y3_3, y4_4) (Option.some.inj hf).symm H locs ls hM hS (lv_sub hl [2, 3, 4, 1, 0] rfl)
set_option maxHeartbeats 4000000 in
set_option maxRecDepth 100000 in
theorem w_m_hasOf_L5 {p : Program} {l : Launch} {e : Env} {s : State} {m : MethodId} {args : Array Value} {below : List Frame} {meth : Method} {c : Code} {D : va_G} {C : Nat → Nat} {a0 : Array Value} {s0 : State} {ad : Rl → Nat} {so : Nat → Option hS} {t : hSt} {lt : Rl → Nat → Int64} (CX : hCx D C a0 s0 p s m args meth c cX5_hasOf 5 RX5 (some .int)) (hIx : hI (hA s0) ad (Sum.elim so (mSH C))) (g : hSt) (r0 : Nat) (p1 : Int32) (h_r0 : mSH C r0 = some (.inl (C 0, 30, false))) {oM : Int32} (x : Int32) (n : Nat) (q0 : Int32 × Int32) (h0 : hiter (fun q : Int32 × Int32 => m_hasOf_L5 g r0 p1 q.1 q.2) n q0 = some x) (kx0 : ∀ (H : Heap) (locs : List Loc) (ls : Array Slot), hW D vwCl ad (Sum.elim so (mSH C)) (Sum.elim t g) lt H → va_S (hA s0) s.heap H locs → lv_has ls 5 [(3, .int x)] → W p l e rm_m_hasOf s m args below meth c H locs 0 0 (MQ below (va_Qi (fun (r : Int32) (_ : Unit) => r = oM) (fun (_ : Unit) (U : State) => hW D vwCl ad (Sum.elim so (mSH C)) (Sum.elim t g) lt U.heap) (hA s0)) args s 0 0 (hA s0)) (F0 m 41 ls [])) : ∀ (H : Heap) (locs : List Loc) (ls : Array Slot), hW D vwCl ad (Sum.elim so (mSH C)) (Sum.elim t g) lt H → va_S (hA s0) s.heap H locs → lv_has ls 5 [(0, .ref (ad (.inr 0))), (1, .ref (ad (.inr r0))), (2, .int p1), (3, .int q0.1), (4, .int q0.2)] → W p l e rm_m_hasOf s m args below meth c H locs 0 0 (MQ below (va_Qi (fun (r : Int32) (_ : Unit) => r = oM) (fun (_ : Unit) (U : State) => hW D vwCl ad (Sum.elim so (mSH C)) (Sum.elim t g) lt U.heap) (hA s0)) args s 0 0 (hA s0)) (F0 m 5 ls []) := by
  obtain ⟨hx, hb, hr, hml, hown, hts, hlocks, hK, hZ0, hA0⟩ := CX
  refine hiter_W (Wh := fun q => ∀ (H : Heap) (locs : List Loc) (ls : Array Slot), hW D vwCl ad (Sum.elim so (mSH C)) (Sum.elim t g) lt H → va_S (hA s0) s.heap H locs → lv_has ls 5 [(0, .ref (ad (.inr 0))), (1, .ref (ad (.inr r0))), (2, .int p1), (3, .int q.1), (4, .int q.2)] → W p l e rm_m_hasOf s m args below meth c H locs 0 0 (MQ below (va_Qi (fun (r : Int32) (_ : Unit) => r = oM) (fun (_ : Unit) (U : State) => hW D vwCl ad (Sum.elim so (mSH C)) (Sum.elim t g) lt U.heap) (hA s0)) args s 0 0 (hA s0)) (F0 m 5 ls [])) ?_ n q0 h0
  intro q o hf kc kx1 H locs ls hM hS hl
  obtain ⟨v3_5, v4_5⟩ := q
  replace hf : m_hasOf_L5 g r0 p1 v3_5 v4_5 = some o := hf
  have kx : ∀ x' : Int32, o = .inr x' → ∀ (H : Heap) (locs : List Loc) (ls : Array Slot), hW D vwCl ad (Sum.elim so (mSH C)) (Sum.elim t g) lt H → va_S (hA s0) s.heap H locs → lv_has ls 5 [(3, .int x')] → W p l e rm_m_hasOf s m args below meth c H locs 0 0 (MQ below (va_Qi (fun (r : Int32) (_ : Unit) => r = oM) (fun (_ : Unit) (U : State) => hW D vwCl ad (Sum.elim so (mSH C)) (Sum.elim t g) lt U.heap) (hA s0)) args s 0 0 (hA s0)) (F0 m 41 ls []) := fun x' ex => by rw [kx1 _ ex]; exact kx0
  unfold m_hasOf_L5 at hf
  refine lv_iload hx hb dX5_hasOf_5 (lv_at hl 4 rfl) ?_
  refine lv_aload_n hx hb dX5_hasOf_7 rfl (lv_at hl 0 rfl) ?_
  refine hr_get (ci := 5) (C := RX5) (T := TX5) (N := 55) (r := .inr 0) hx hb hts in_X5 hown hK hM mS_0 rfl 2 (by decide) (hts _ q1370) rfl (v := .ref (ad (.inr 3))) rfl dX5_hasOf_8 ?_
  refine lv_iconst (v := 1) hx hb dX5_hasOf_11 (by decide) ?_
  refine hm_iald (r := 3) hx hb hK hM 0 mS_3 rfl hf dX5_hasOf_12 (fun x1 hf => ?_)
  refine hb_icmp_ge (tgt := 41) hx hb dX5_hasOf_13 (by decide) hf (fun hf => ?_) (fun hf => ?_)
  · exact kx v3_5 (Option.some.inj hf).symm H locs ls hM hS (lv_sub hl [3] rfl)
  · refine lv_iload_n hx hb dX5_hasOf_16 rfl (lv_at hl 3 rfl) ?_
    refine lv_aload_n hx hb dX5_hasOf_17 rfl (lv_at hl 1 rfl) ?_
    refine lv_iload hx hb dX5_hasOf_18 (lv_at hl 4 rfl) ?_
    refine hm_iald (r := r0) hx hb hK hM 0 h_r0 rfl hf dX5_hasOf_20 (fun x2 hf => ?_)
    refine lv_iload_n hx hb dX5_hasOf_21 rfl (lv_at hl 2 rfl) ?_
    refine hb_icmp_ne (tgt := 32) hx hb dX5_hasOf_22 (by decide) hf (fun hf => ?_) (fun hf => ?_)
    · refine lv_iconst (v := 0) hx hb dX5_hasOf_32 (by decide) ?_
      exact w_m_hasOf_B33 ⟨hx, hb, hr, hml, hown, hts, hlocks, hK, hZ0, hA0⟩ hIx g r0 p1 v3_5 v4_5 x1 x2 (0 : Int32) v3_5 h_r0 hf kc kx hM hS (lv_sub hl [0, 1, 2, 4] rfl)
    · refine lv_iconst (v := 1) hx hb dX5_hasOf_25 (by decide) ?_
      refine lv_iload hx hb dX5_hasOf_26 (lv_at hl 4 rfl) ?_
      refine lv_ishl hx hb dX5_hasOf_28 ?_
      refine lv_goto (tgt := 33) hx hb dX5_hasOf_29 (by decide) ?_
      exact w_m_hasOf_B33 ⟨hx, hb, hr, hml, hown, hts, hlocks, hK, hZ0, hA0⟩ hIx g r0 p1 v3_5 v4_5 x1 x2 ((1 : Int32) <<< (v4_5 &&& (31 : Int32))) v3_5 h_r0 hf kc kx hM hS (lv_sub hl [0, 1, 2, 4] rfl)
set_option maxHeartbeats 4000000 in
set_option maxRecDepth 100000 in
theorem w_m_hasOf {p : Program} {l : Launch} {e : Env} {s : State} {m : MethodId} {args : Array Value} {below : List Frame} {meth : Method} {c : Code} {D : va_G} {C : Nat → Nat} {a0 : Array Value} {s0 : State} {ad : Rl → Nat} {so : Nat → Option hS} {t : hSt} {lt : Rl → Nat → Int64} (CX : hCx D C a0 s0 p s m args meth c cX5_hasOf 5 RX5 (some .int)) (hIx : hI (hA s0) ad (Sum.elim so (mSH C))) (g : hSt) (r0 : Nat) (p1 : Int32) (h_r0 : mSH C r0 = some (.inl (C 0, 30, false))) {o : Int32} (hf : m_hasOf g r0 p1 = some o) {H : Heap} {locs : List Loc} (hM : hW D vwCl ad (Sum.elim so (mSH C)) (Sum.elim t g) lt H) (hS : va_S (hA s0) s.heap H locs) {ls : Array Slot} (hl : lv_has ls 5 [(0, .ref (ad (.inr 0))), (1, .ref (ad (.inr r0))), (2, .int p1)]) : W p l e rm_m_hasOf s m args below meth c H locs 0 0 (MQ below (va_Qi (fun (r : Int32) (_ : Unit) => r = o) (fun (_ : Unit) (U : State) => hW D vwCl ad (Sum.elim so (mSH C)) (Sum.elim t g) lt U.heap) (hA s0)) args s 0 0 (hA s0)) (F0 m 0 ls []) := by
  obtain ⟨hx, hb, hr, hml, hown, hts, hlocks, hK, hZ0, hA0⟩ := CX
  unfold m_hasOf at hf
  refine lv_iconst (v := 0) hx hb dX5_hasOf_0 (by decide) ?_
  refine lv_istore_n (lv' := [(3, .int (0 : Int32)), (0, .ref (ad (.inr 0))), (1, .ref (ad (.inr r0))), (2, .int p1)]) hx hb dX5_hasOf_1 rfl hl (by decide) rfl (fun ls hl => ?_)
  refine lv_iconst (v := 0) hx hb dX5_hasOf_2 (by decide) ?_
  refine lv_istore (lv' := [(4, .int (0 : Int32)), (3, .int (0 : Int32)), (0, .ref (ad (.inr 0))), (1, .ref (ad (.inr r0))), (2, .int p1)]) hx hb dX5_hasOf_3 hl (by decide) rfl (fun ls hl => ?_)
  obtain ⟨x5, hq, hf⟩ := hbind hf
  refine w_m_hasOf_L5 ⟨hx, hb, hr, hml, hown, hts, hlocks, hK, hZ0, hA0⟩ hIx g r0 p1 h_r0 x5 hFU ((0 : Int32), (0 : Int32)) hq (fun H locs ls hM hS hl => ?_) H locs ls hM hS (lv_sub hl [2, 3, 4, 1, 0] rfl)
  refine lv_iload_n hx hb dX5_hasOf_41 rfl (lv_at hl 0 rfl) ?_
  have eo := Option.some.inj hf
  subst eo
  exact W.iret (v := x5) hx hb hr (fun T ht hW => ⟨⟨x5, (), rfl, rfl, by dsimp only; rw [ht]; exact hM⟩, hS.F ht⟩) hS.2.2 dX5_hasOf_42
set_option maxHeartbeats 4000000 in
set_option maxRecDepth 100000 in
theorem met_m_hasOf (l : Launch) (D : va_G) (C : Nat → Nat) (a0 : Array Value) (s0 : State) (ad : Rl → Nat) (so : Nat → Option hS) (t : hSt) (lt : Rl → Nat → Int64) (g : hSt) (r0 : Nat) (p1 : Int32) (h_r0 : mSH C r0 = some (.inl (C 0, 30, false))) {o : Int32} (hf : m_hasOf g r0 p1 = some o) : Met l yX5_hasOf (ws_ yX5_hasOf cX5_hasOf 5 (some .int)) rm_m_hasOf (va_Pc [.ref (ad (.inr 0)), .ref (ad (.inr r0)), .int p1] (hB D vwCl (hT C) (hA s0) (hZ a0 s0) ad (Sum.elim so (mSH C)) (Sum.elim t g) lt)) (va_Qi (fun (r : Int32) (_ : Unit) => r = o) (fun (_ : Unit) (U : State) => hW D vwCl ad (Sum.elim so (mSH C)) (Sum.elim t g) lt U.heap) (hA s0)) 0 0 (hA s0) := by
  refine Met.ofW (cc := cX5_hasOf) (maxL := 5) (ret := (some .int)) (by decide) rfl ?_
  intro p e s m args below meth c s₁ B hml hv
  obtain ⟨rfl, hM, hIx, hK, hZ0, hA0⟩ := hv
  have hl := lv_entry ([.ref (ad (.inr 0)), .ref (ad (.inr r0)), .int p1]) (n := 5) (Nat.le_of_ble_eq_true rfl)
  rw [lg_entry_eq]
  generalize (lg_sl ([.ref (ad (.inr 0)), .ref (ad (.inr r0)), .int p1]) ++ List.replicate (5 - (lg_sl ([.ref (ad (.inr 0)), .ref (ad (.inr r0)), .int p1])).length) Slot.unset).toArray = ls at hl ⊢
  have hl : lv_has ls 5 [(0, .ref (ad (.inr 0))), (1, .ref (ad (.inr r0))), (2, .int p1)] := hl
  exact w_m_hasOf ⟨B.exec, B.bytes, B.returns, hml, findClass_of_methodNamed B.named, fun w h => atoms_spec (ws := ws_ yX5_hasOf cX5_hasOf 5 (some .int)) B.pre w (List.mem_cons_of_mem _ h), B.notSynchronized, hK, hZ0, hA0⟩ hIx g r0 p1 h_r0 hf hM va_S.rf hl

def rm_m_worthOf : Room := { frames := 1, cells := 0, slots := 0, locals := 16 }
set_option maxHeartbeats 4000000 in
set_option maxRecDepth 100000 in
theorem w_m_worthOf_B34 {p : Program} {l : Launch} {e : Env} {s : State} {m : MethodId} {args : Array Value} {below : List Frame} {meth : Method} {c : Code} {D : va_G} {C : Nat → Nat} {a0 : Array Value} {s0 : State} {ad : Rl → Nat} {so : Nat → Option hS} {t : hSt} {lt : Rl → Nat → Int64} (CX : hCx D C a0 s0 p s m args meth c cX5_worthOf 4 RX5 (some .int)) (hIx : hI (hA s0) ad (Sum.elim so (mSH C))) (g : hSt) (p0 : Int32) (v2_4 : Int32) (v3_4 : Int32) (x1 : Int32) (k0_34 : Int32) (k1_34 : Int32) {oM : Int32} {o : (Int32 × Int32) ⊕ (Int32)} (hf : m_worthOf_B34 v3_4 k0_34 k1_34 = some o) (kc : ∀ s' : Int32 × Int32, o = .inl s' → ∀ (H : Heap) (locs : List Loc) (ls : Array Slot), hW D vwCl ad (Sum.elim so (mSH C)) (Sum.elim t g) lt H → va_S (hA s0) s.heap H locs → lv_has ls 4 [(0, .ref (ad (.inr 0))), (1, .int p0), (2, .int s'.1), (3, .int s'.2)] → W p l e rm_m_worthOf s m args below meth c H locs 0 0 (MQ below (va_Qi (fun (r : Int32) (_ : Unit) => r = oM) (fun (_ : Unit) (U : State) => hW D vwCl ad (Sum.elim so (mSH C)) (Sum.elim t g) lt U.heap) (hA s0)) args s 0 0 (hA s0)) (F0 m 4 ls [])) (kx : ∀ x' : Int32, o = .inr x' → ∀ (H : Heap) (locs : List Loc) (ls : Array Slot), hW D vwCl ad (Sum.elim so (mSH C)) (Sum.elim t g) lt H → va_S (hA s0) s.heap H locs → lv_has ls 4 [(2, .int x')] → W p l e rm_m_worthOf s m args below meth c H locs 0 0 (MQ below (va_Qi (fun (r : Int32) (_ : Unit) => r = oM) (fun (_ : Unit) (U : State) => hW D vwCl ad (Sum.elim so (mSH C)) (Sum.elim t g) lt U.heap) (hA s0)) args s 0 0 (hA s0)) (F0 m 42 ls [])) {H : Heap} {locs : List Loc} (hM : hW D vwCl ad (Sum.elim so (mSH C)) (Sum.elim t g) lt H) (hS : va_S (hA s0) s.heap H locs) {ls : Array Slot} (hl : lv_has ls 4 [(0, .ref (ad (.inr 0))), (1, .int p0), (3, .int v3_4)]) : W p l e rm_m_worthOf s m args below meth c H locs 0 0 (MQ below (va_Qi (fun (r : Int32) (_ : Unit) => r = oM) (fun (_ : Unit) (U : State) => hW D vwCl ad (Sum.elim so (mSH C)) (Sum.elim t g) lt U.heap) (hA s0)) args s 0 0 (hA s0)) (F0 m 34 ls [.int k0_34, .int k1_34]) := by
  obtain ⟨hx, hb, hr, hml, hown, hts, hlocks, hK, hZ0, hA0⟩ := CX
  unfold m_worthOf_B34 at hf
  refine lv_iadd hx hb dX5_worthOf_34 ?_
  refine hb_top hf (fun y2_2 hf => ?_)
  refine lv_istore_n (lv' := [(2, .int y2_2), (0, .ref (ad (.inr 0))), (1, .int p0), (3, .int v3_4)]) hx hb dX5_worthOf_35 rfl hl (by decide) rfl (fun ls hl => ?_)
  obtain ⟨y3_3, ey, hf⟩ := hlet_ex hf
  refine lv_iinc (v := y3_3) (lv' := [(3, .int y3_3), (2, .int y2_2), (0, .ref (ad (.inr 0))), (1, .int p0)]) hx hb dX5_worthOf_36 hl (k := 3) rfl (by rw [ey]; rfl) (by decide) rfl (fun ls hl => ?_)
  refine lv_goto (tgt := 4) hx hb dX5_worthOf_39 (by decide) ?_
  exact kc (y2_2, y3_3) (Option.some.inj hf).symm H locs ls hM hS (lv_sub hl [2, 3, 1, 0] rfl)
set_option maxHeartbeats 4000000 in
set_option maxRecDepth 100000 in
theorem w_m_worthOf_L4 {p : Program} {l : Launch} {e : Env} {s : State} {m : MethodId} {args : Array Value} {below : List Frame} {meth : Method} {c : Code} {D : va_G} {C : Nat → Nat} {a0 : Array Value} {s0 : State} {ad : Rl → Nat} {so : Nat → Option hS} {t : hSt} {lt : Rl → Nat → Int64} (CX : hCx D C a0 s0 p s m args meth c cX5_worthOf 4 RX5 (some .int)) (hIx : hI (hA s0) ad (Sum.elim so (mSH C))) (g : hSt) (p0 : Int32) {oM : Int32} (x : Int32) (n : Nat) (q0 : Int32 × Int32) (h0 : hiter (fun q : Int32 × Int32 => m_worthOf_L4 g p0 q.1 q.2) n q0 = some x) (kx0 : ∀ (H : Heap) (locs : List Loc) (ls : Array Slot), hW D vwCl ad (Sum.elim so (mSH C)) (Sum.elim t g) lt H → va_S (hA s0) s.heap H locs → lv_has ls 4 [(2, .int x)] → W p l e rm_m_worthOf s m args below meth c H locs 0 0 (MQ below (va_Qi (fun (r : Int32) (_ : Unit) => r = oM) (fun (_ : Unit) (U : State) => hW D vwCl ad (Sum.elim so (mSH C)) (Sum.elim t g) lt U.heap) (hA s0)) args s 0 0 (hA s0)) (F0 m 42 ls [])) : ∀ (H : Heap) (locs : List Loc) (ls : Array Slot), hW D vwCl ad (Sum.elim so (mSH C)) (Sum.elim t g) lt H → va_S (hA s0) s.heap H locs → lv_has ls 4 [(0, .ref (ad (.inr 0))), (1, .int p0), (2, .int q0.1), (3, .int q0.2)] → W p l e rm_m_worthOf s m args below meth c H locs 0 0 (MQ below (va_Qi (fun (r : Int32) (_ : Unit) => r = oM) (fun (_ : Unit) (U : State) => hW D vwCl ad (Sum.elim so (mSH C)) (Sum.elim t g) lt U.heap) (hA s0)) args s 0 0 (hA s0)) (F0 m 4 ls []) := by
  obtain ⟨hx, hb, hr, hml, hown, hts, hlocks, hK, hZ0, hA0⟩ := CX
  refine hiter_W (Wh := fun q => ∀ (H : Heap) (locs : List Loc) (ls : Array Slot), hW D vwCl ad (Sum.elim so (mSH C)) (Sum.elim t g) lt H → va_S (hA s0) s.heap H locs → lv_has ls 4 [(0, .ref (ad (.inr 0))), (1, .int p0), (2, .int q.1), (3, .int q.2)] → W p l e rm_m_worthOf s m args below meth c H locs 0 0 (MQ below (va_Qi (fun (r : Int32) (_ : Unit) => r = oM) (fun (_ : Unit) (U : State) => hW D vwCl ad (Sum.elim so (mSH C)) (Sum.elim t g) lt U.heap) (hA s0)) args s 0 0 (hA s0)) (F0 m 4 ls [])) ?_ n q0 h0
  intro q o hf kc kx1 H locs ls hM hS hl
  obtain ⟨v2_4, v3_4⟩ := q
  replace hf : m_worthOf_L4 g p0 v2_4 v3_4 = some o := hf
  have kx : ∀ x' : Int32, o = .inr x' → ∀ (H : Heap) (locs : List Loc) (ls : Array Slot), hW D vwCl ad (Sum.elim so (mSH C)) (Sum.elim t g) lt H → va_S (hA s0) s.heap H locs → lv_has ls 4 [(2, .int x')] → W p l e rm_m_worthOf s m args below meth c H locs 0 0 (MQ below (va_Qi (fun (r : Int32) (_ : Unit) => r = oM) (fun (_ : Unit) (U : State) => hW D vwCl ad (Sum.elim so (mSH C)) (Sum.elim t g) lt U.heap) (hA s0)) args s 0 0 (hA s0)) (F0 m 42 ls []) := fun x' ex => by rw [kx1 _ ex]; exact kx0
  unfold m_worthOf_L4 at hf
  refine lv_iload_n hx hb dX5_worthOf_4 rfl (lv_at hl 3 rfl) ?_
  refine lv_aload_n hx hb dX5_worthOf_5 rfl (lv_at hl 0 rfl) ?_
  refine hr_get (ci := 5) (C := RX5) (T := TX5) (N := 55) (r := .inr 0) hx hb hts in_X5 hown hK hM mS_0 rfl 2 (by decide) (hts _ q1370) rfl (v := .ref (ad (.inr 3))) rfl dX5_worthOf_6 ?_
  refine lv_iconst (v := 1) hx hb dX5_worthOf_9 (by decide) ?_
  refine hm_iald (r := 3) hx hb hK hM 0 mS_3 rfl hf dX5_worthOf_10 (fun x1 hf => ?_)
  refine hb_icmp_ge (tgt := 42) hx hb dX5_worthOf_11 (by decide) hf (fun hf => ?_) (fun hf => ?_)
  · exact kx v2_4 (Option.some.inj hf).symm H locs ls hM hS (lv_sub hl [2] rfl)
  · refine lv_iload_n hx hb dX5_worthOf_14 rfl (lv_at hl 2 rfl) ?_
    refine lv_iload_n hx hb dX5_worthOf_15 rfl (lv_at hl 1 rfl) ?_
    refine lv_iload_n hx hb dX5_worthOf_16 rfl (lv_at hl 3 rfl) ?_
    refine lv_ishr hx hb dX5_worthOf_17 ?_
    refine lv_iconst (v := 1) hx hb dX5_worthOf_18 (by decide) ?_
    refine lv_iand hx hb dX5_worthOf_19 ?_
    refine lv_iconst (v := 1) hx hb dX5_worthOf_20 (by decide) ?_
    refine hb_icmp_ne (tgt := 33) hx hb dX5_worthOf_21 (by decide) hf (fun hf => ?_) (fun hf => ?_)
    · refine lv_iconst (v := 0) hx hb dX5_worthOf_33 (by decide) ?_
      exact w_m_worthOf_B34 ⟨hx, hb, hr, hml, hown, hts, hlocks, hK, hZ0, hA0⟩ hIx g p0 v2_4 v3_4 x1 (0 : Int32) v2_4 hf kc kx hM hS (lv_sub hl [0, 1, 3] rfl)
    · refine lv_aload_n hx hb dX5_worthOf_24 rfl (lv_at hl 0 rfl) ?_
      refine hr_get (ci := 5) (C := RX5) (T := TX5) (N := 55) (r := .inr 0) hx hb hts in_X5 hown hK hM mS_0 rfl 5 (by decide) (hts _ q1373) rfl (v := .ref (ad (.inr 6))) rfl dX5_worthOf_25 ?_
      refine lv_iload_n hx hb dX5_worthOf_28 rfl (lv_at hl 3 rfl) ?_
      refine hm_iald (r := 6) hx hb hK hM 0 mS_6 rfl hf dX5_worthOf_29 (fun x4 hf => ?_)
      refine lv_goto (tgt := 34) hx hb dX5_worthOf_30 (by decide) ?_
      exact w_m_worthOf_B34 ⟨hx, hb, hr, hml, hown, hts, hlocks, hK, hZ0, hA0⟩ hIx g p0 v2_4 v3_4 x1 x4 v2_4 hf kc kx hM hS (lv_sub hl [0, 1, 3] rfl)
set_option maxHeartbeats 4000000 in
set_option maxRecDepth 100000 in
theorem w_m_worthOf {p : Program} {l : Launch} {e : Env} {s : State} {m : MethodId} {args : Array Value} {below : List Frame} {meth : Method} {c : Code} {D : va_G} {C : Nat → Nat} {a0 : Array Value} {s0 : State} {ad : Rl → Nat} {so : Nat → Option hS} {t : hSt} {lt : Rl → Nat → Int64} (CX : hCx D C a0 s0 p s m args meth c cX5_worthOf 4 RX5 (some .int)) (hIx : hI (hA s0) ad (Sum.elim so (mSH C))) (g : hSt) (p0 : Int32) {o : Int32} (hf : m_worthOf g p0 = some o) {H : Heap} {locs : List Loc} (hM : hW D vwCl ad (Sum.elim so (mSH C)) (Sum.elim t g) lt H) (hS : va_S (hA s0) s.heap H locs) {ls : Array Slot} (hl : lv_has ls 4 [(0, .ref (ad (.inr 0))), (1, .int p0)]) : W p l e rm_m_worthOf s m args below meth c H locs 0 0 (MQ below (va_Qi (fun (r : Int32) (_ : Unit) => r = o) (fun (_ : Unit) (U : State) => hW D vwCl ad (Sum.elim so (mSH C)) (Sum.elim t g) lt U.heap) (hA s0)) args s 0 0 (hA s0)) (F0 m 0 ls []) := by
  obtain ⟨hx, hb, hr, hml, hown, hts, hlocks, hK, hZ0, hA0⟩ := CX
  unfold m_worthOf at hf
  refine lv_iconst (v := 0) hx hb dX5_worthOf_0 (by decide) ?_
  refine lv_istore_n (lv' := [(2, .int (0 : Int32)), (0, .ref (ad (.inr 0))), (1, .int p0)]) hx hb dX5_worthOf_1 rfl hl (by decide) rfl (fun ls hl => ?_)
  refine lv_iconst (v := 0) hx hb dX5_worthOf_2 (by decide) ?_
  refine lv_istore_n (lv' := [(3, .int (0 : Int32)), (2, .int (0 : Int32)), (0, .ref (ad (.inr 0))), (1, .int p0)]) hx hb dX5_worthOf_3 rfl hl (by decide) rfl (fun ls hl => ?_)
  obtain ⟨x5, hq, hf⟩ := hbind hf
  refine w_m_worthOf_L4 ⟨hx, hb, hr, hml, hown, hts, hlocks, hK, hZ0, hA0⟩ hIx g p0 x5 hFU ((0 : Int32), (0 : Int32)) hq (fun H locs ls hM hS hl => ?_) H locs ls hM hS (lv_sub hl [2, 3, 1, 0] rfl)
  refine lv_iload_n hx hb dX5_worthOf_42 rfl (lv_at hl 0 rfl) ?_
  have eo := Option.some.inj hf
  subst eo
  exact W.iret (v := x5) hx hb hr (fun T ht hW => ⟨⟨x5, (), rfl, rfl, by dsimp only; rw [ht]; exact hM⟩, hS.F ht⟩) hS.2.2 dX5_worthOf_43
set_option maxHeartbeats 4000000 in
set_option maxRecDepth 100000 in
theorem met_m_worthOf (l : Launch) (D : va_G) (C : Nat → Nat) (a0 : Array Value) (s0 : State) (ad : Rl → Nat) (so : Nat → Option hS) (t : hSt) (lt : Rl → Nat → Int64) (g : hSt) (p0 : Int32) {o : Int32} (hf : m_worthOf g p0 = some o) : Met l yX5_worthOf (ws_ yX5_worthOf cX5_worthOf 4 (some .int)) rm_m_worthOf (va_Pc [.ref (ad (.inr 0)), .int p0] (hB D vwCl (hT C) (hA s0) (hZ a0 s0) ad (Sum.elim so (mSH C)) (Sum.elim t g) lt)) (va_Qi (fun (r : Int32) (_ : Unit) => r = o) (fun (_ : Unit) (U : State) => hW D vwCl ad (Sum.elim so (mSH C)) (Sum.elim t g) lt U.heap) (hA s0)) 0 0 (hA s0) := by
  refine Met.ofW (cc := cX5_worthOf) (maxL := 4) (ret := (some .int)) (by decide) rfl ?_
  intro p e s m args below meth c s₁ B hml hv
  obtain ⟨rfl, hM, hIx, hK, hZ0, hA0⟩ := hv
  have hl := lv_entry ([.ref (ad (.inr 0)), .int p0]) (n := 4) (Nat.le_of_ble_eq_true rfl)
  rw [lg_entry_eq]
  generalize (lg_sl ([.ref (ad (.inr 0)), .int p0]) ++ List.replicate (4 - (lg_sl ([.ref (ad (.inr 0)), .int p0])).length) Slot.unset).toArray = ls at hl ⊢
  have hl : lv_has ls 4 [(0, .ref (ad (.inr 0))), (1, .int p0)] := hl
  exact w_m_worthOf ⟨B.exec, B.bytes, B.returns, hml, findClass_of_methodNamed B.named, fun w h => atoms_spec (ws := ws_ yX5_worthOf cX5_worthOf 4 (some .int)) B.pre w (List.mem_cons_of_mem _ h), B.notSynchronized, hK, hZ0, hA0⟩ hIx g p0 hf hM va_S.rf hl

def rm_m_weightOf : Room := { frames := 1, cells := 0, slots := 0, locals := 16 }
set_option maxHeartbeats 4000000 in
set_option maxRecDepth 100000 in
theorem w_m_weightOf_B34 {p : Program} {l : Launch} {e : Env} {s : State} {m : MethodId} {args : Array Value} {below : List Frame} {meth : Method} {c : Code} {D : va_G} {C : Nat → Nat} {a0 : Array Value} {s0 : State} {ad : Rl → Nat} {so : Nat → Option hS} {t : hSt} {lt : Rl → Nat → Int64} (CX : hCx D C a0 s0 p s m args meth c cX5_weightOf 4 RX5 (some .int)) (hIx : hI (hA s0) ad (Sum.elim so (mSH C))) (g : hSt) (p0 : Int32) (v2_4 : Int32) (v3_4 : Int32) (x1 : Int32) (k0_34 : Int32) (k1_34 : Int32) {oM : Int32} {o : (Int32 × Int32) ⊕ (Int32)} (hf : m_weightOf_B34 v3_4 k0_34 k1_34 = some o) (kc : ∀ s' : Int32 × Int32, o = .inl s' → ∀ (H : Heap) (locs : List Loc) (ls : Array Slot), hW D vwCl ad (Sum.elim so (mSH C)) (Sum.elim t g) lt H → va_S (hA s0) s.heap H locs → lv_has ls 4 [(0, .ref (ad (.inr 0))), (1, .int p0), (2, .int s'.1), (3, .int s'.2)] → W p l e rm_m_weightOf s m args below meth c H locs 0 0 (MQ below (va_Qi (fun (r : Int32) (_ : Unit) => r = oM) (fun (_ : Unit) (U : State) => hW D vwCl ad (Sum.elim so (mSH C)) (Sum.elim t g) lt U.heap) (hA s0)) args s 0 0 (hA s0)) (F0 m 4 ls [])) (kx : ∀ x' : Int32, o = .inr x' → ∀ (H : Heap) (locs : List Loc) (ls : Array Slot), hW D vwCl ad (Sum.elim so (mSH C)) (Sum.elim t g) lt H → va_S (hA s0) s.heap H locs → lv_has ls 4 [(2, .int x')] → W p l e rm_m_weightOf s m args below meth c H locs 0 0 (MQ below (va_Qi (fun (r : Int32) (_ : Unit) => r = oM) (fun (_ : Unit) (U : State) => hW D vwCl ad (Sum.elim so (mSH C)) (Sum.elim t g) lt U.heap) (hA s0)) args s 0 0 (hA s0)) (F0 m 42 ls [])) {H : Heap} {locs : List Loc} (hM : hW D vwCl ad (Sum.elim so (mSH C)) (Sum.elim t g) lt H) (hS : va_S (hA s0) s.heap H locs) {ls : Array Slot} (hl : lv_has ls 4 [(0, .ref (ad (.inr 0))), (1, .int p0), (3, .int v3_4)]) : W p l e rm_m_weightOf s m args below meth c H locs 0 0 (MQ below (va_Qi (fun (r : Int32) (_ : Unit) => r = oM) (fun (_ : Unit) (U : State) => hW D vwCl ad (Sum.elim so (mSH C)) (Sum.elim t g) lt U.heap) (hA s0)) args s 0 0 (hA s0)) (F0 m 34 ls [.int k0_34, .int k1_34]) := by
  obtain ⟨hx, hb, hr, hml, hown, hts, hlocks, hK, hZ0, hA0⟩ := CX
  unfold m_weightOf_B34 at hf
  refine lv_iadd hx hb dX5_weightOf_34 ?_
  refine hb_top hf (fun y2_2 hf => ?_)
  refine lv_istore_n (lv' := [(2, .int y2_2), (0, .ref (ad (.inr 0))), (1, .int p0), (3, .int v3_4)]) hx hb dX5_weightOf_35 rfl hl (by decide) rfl (fun ls hl => ?_)
  obtain ⟨y3_3, ey, hf⟩ := hlet_ex hf
  refine lv_iinc (v := y3_3) (lv' := [(3, .int y3_3), (2, .int y2_2), (0, .ref (ad (.inr 0))), (1, .int p0)]) hx hb dX5_weightOf_36 hl (k := 3) rfl (by rw [ey]; rfl) (by decide) rfl (fun ls hl => ?_)
  refine lv_goto (tgt := 4) hx hb dX5_weightOf_39 (by decide) ?_
  exact kc (y2_2, y3_3) (Option.some.inj hf).symm H locs ls hM hS (lv_sub hl [2, 3, 1, 0] rfl)
set_option maxHeartbeats 4000000 in
set_option maxRecDepth 100000 in
theorem w_m_weightOf_L4 {p : Program} {l : Launch} {e : Env} {s : State} {m : MethodId} {args : Array Value} {below : List Frame} {meth : Method} {c : Code} {D : va_G} {C : Nat → Nat} {a0 : Array Value} {s0 : State} {ad : Rl → Nat} {so : Nat → Option hS} {t : hSt} {lt : Rl → Nat → Int64} (CX : hCx D C a0 s0 p s m args meth c cX5_weightOf 4 RX5 (some .int)) (hIx : hI (hA s0) ad (Sum.elim so (mSH C))) (g : hSt) (p0 : Int32) {oM : Int32} (x : Int32) (n : Nat) (q0 : Int32 × Int32) (h0 : hiter (fun q : Int32 × Int32 => m_weightOf_L4 g p0 q.1 q.2) n q0 = some x) (kx0 : ∀ (H : Heap) (locs : List Loc) (ls : Array Slot), hW D vwCl ad (Sum.elim so (mSH C)) (Sum.elim t g) lt H → va_S (hA s0) s.heap H locs → lv_has ls 4 [(2, .int x)] → W p l e rm_m_weightOf s m args below meth c H locs 0 0 (MQ below (va_Qi (fun (r : Int32) (_ : Unit) => r = oM) (fun (_ : Unit) (U : State) => hW D vwCl ad (Sum.elim so (mSH C)) (Sum.elim t g) lt U.heap) (hA s0)) args s 0 0 (hA s0)) (F0 m 42 ls [])) : ∀ (H : Heap) (locs : List Loc) (ls : Array Slot), hW D vwCl ad (Sum.elim so (mSH C)) (Sum.elim t g) lt H → va_S (hA s0) s.heap H locs → lv_has ls 4 [(0, .ref (ad (.inr 0))), (1, .int p0), (2, .int q0.1), (3, .int q0.2)] → W p l e rm_m_weightOf s m args below meth c H locs 0 0 (MQ below (va_Qi (fun (r : Int32) (_ : Unit) => r = oM) (fun (_ : Unit) (U : State) => hW D vwCl ad (Sum.elim so (mSH C)) (Sum.elim t g) lt U.heap) (hA s0)) args s 0 0 (hA s0)) (F0 m 4 ls []) := by
  obtain ⟨hx, hb, hr, hml, hown, hts, hlocks, hK, hZ0, hA0⟩ := CX
  refine hiter_W (Wh := fun q => ∀ (H : Heap) (locs : List Loc) (ls : Array Slot), hW D vwCl ad (Sum.elim so (mSH C)) (Sum.elim t g) lt H → va_S (hA s0) s.heap H locs → lv_has ls 4 [(0, .ref (ad (.inr 0))), (1, .int p0), (2, .int q.1), (3, .int q.2)] → W p l e rm_m_weightOf s m args below meth c H locs 0 0 (MQ below (va_Qi (fun (r : Int32) (_ : Unit) => r = oM) (fun (_ : Unit) (U : State) => hW D vwCl ad (Sum.elim so (mSH C)) (Sum.elim t g) lt U.heap) (hA s0)) args s 0 0 (hA s0)) (F0 m 4 ls [])) ?_ n q0 h0
  intro q o hf kc kx1 H locs ls hM hS hl
  obtain ⟨v2_4, v3_4⟩ := q
  replace hf : m_weightOf_L4 g p0 v2_4 v3_4 = some o := hf
  have kx : ∀ x' : Int32, o = .inr x' → ∀ (H : Heap) (locs : List Loc) (ls : Array Slot), hW D vwCl ad (Sum.elim so (mSH C)) (Sum.elim t g) lt H → va_S (hA s0) s.heap H locs → lv_has ls 4 [(2, .int x')] → W p l e rm_m_weightOf s m args below meth c H locs 0 0 (MQ below (va_Qi (fun (r : Int32) (_ : Unit) => r = oM) (fun (_ : Unit) (U : State) => hW D vwCl ad (Sum.elim so (mSH C)) (Sum.elim t g) lt U.heap) (hA s0)) args s 0 0 (hA s0)) (F0 m 42 ls []) := fun x' ex => by rw [kx1 _ ex]; exact kx0
  unfold m_weightOf_L4 at hf
  refine lv_iload_n hx hb dX5_weightOf_4 rfl (lv_at hl 3 rfl) ?_
  refine lv_aload_n hx hb dX5_weightOf_5 rfl (lv_at hl 0 rfl) ?_
  refine hr_get (ci := 5) (C := RX5) (T := TX5) (N := 55) (r := .inr 0) hx hb hts in_X5 hown hK hM mS_0 rfl 2 (by decide) (hts _ q1370) rfl (v := .ref (ad (.inr 3))) rfl dX5_weightOf_6 ?_
  refine lv_iconst (v := 1) hx hb dX5_weightOf_9 (by decide) ?_
  refine hm_iald (r := 3) hx hb hK hM 0 mS_3 rfl hf dX5_weightOf_10 (fun x1 hf => ?_)
  refine hb_icmp_ge (tgt := 42) hx hb dX5_weightOf_11 (by decide) hf (fun hf => ?_) (fun hf => ?_)
  · exact kx v2_4 (Option.some.inj hf).symm H locs ls hM hS (lv_sub hl [2] rfl)
  · refine lv_iload_n hx hb dX5_weightOf_14 rfl (lv_at hl 2 rfl) ?_
    refine lv_iload_n hx hb dX5_weightOf_15 rfl (lv_at hl 1 rfl) ?_
    refine lv_iload_n hx hb dX5_weightOf_16 rfl (lv_at hl 3 rfl) ?_
    refine lv_ishr hx hb dX5_weightOf_17 ?_
    refine lv_iconst (v := 1) hx hb dX5_weightOf_18 (by decide) ?_
    refine lv_iand hx hb dX5_weightOf_19 ?_
    refine lv_iconst (v := 1) hx hb dX5_weightOf_20 (by decide) ?_
    refine hb_icmp_ne (tgt := 33) hx hb dX5_weightOf_21 (by decide) hf (fun hf => ?_) (fun hf => ?_)
    · refine lv_iconst (v := 0) hx hb dX5_weightOf_33 (by decide) ?_
      exact w_m_weightOf_B34 ⟨hx, hb, hr, hml, hown, hts, hlocks, hK, hZ0, hA0⟩ hIx g p0 v2_4 v3_4 x1 (0 : Int32) v2_4 hf kc kx hM hS (lv_sub hl [0, 1, 3] rfl)
    · refine lv_aload_n hx hb dX5_weightOf_24 rfl (lv_at hl 0 rfl) ?_
      refine hr_get (ci := 5) (C := RX5) (T := TX5) (N := 55) (r := .inr 0) hx hb hts in_X5 hown hK hM mS_0 rfl 9 (by decide) (hts _ q1377) rfl (v := .ref (ad (.inr 10))) rfl dX5_weightOf_25 ?_
      refine lv_iload_n hx hb dX5_weightOf_28 rfl (lv_at hl 3 rfl) ?_
      refine hm_iald (r := 10) hx hb hK hM 0 mS_10 rfl hf dX5_weightOf_29 (fun x4 hf => ?_)
      refine lv_goto (tgt := 34) hx hb dX5_weightOf_30 (by decide) ?_
      exact w_m_weightOf_B34 ⟨hx, hb, hr, hml, hown, hts, hlocks, hK, hZ0, hA0⟩ hIx g p0 v2_4 v3_4 x1 x4 v2_4 hf kc kx hM hS (lv_sub hl [0, 1, 3] rfl)
set_option maxHeartbeats 4000000 in
set_option maxRecDepth 100000 in
theorem w_m_weightOf {p : Program} {l : Launch} {e : Env} {s : State} {m : MethodId} {args : Array Value} {below : List Frame} {meth : Method} {c : Code} {D : va_G} {C : Nat → Nat} {a0 : Array Value} {s0 : State} {ad : Rl → Nat} {so : Nat → Option hS} {t : hSt} {lt : Rl → Nat → Int64} (CX : hCx D C a0 s0 p s m args meth c cX5_weightOf 4 RX5 (some .int)) (hIx : hI (hA s0) ad (Sum.elim so (mSH C))) (g : hSt) (p0 : Int32) {o : Int32} (hf : m_weightOf g p0 = some o) {H : Heap} {locs : List Loc} (hM : hW D vwCl ad (Sum.elim so (mSH C)) (Sum.elim t g) lt H) (hS : va_S (hA s0) s.heap H locs) {ls : Array Slot} (hl : lv_has ls 4 [(0, .ref (ad (.inr 0))), (1, .int p0)]) : W p l e rm_m_weightOf s m args below meth c H locs 0 0 (MQ below (va_Qi (fun (r : Int32) (_ : Unit) => r = o) (fun (_ : Unit) (U : State) => hW D vwCl ad (Sum.elim so (mSH C)) (Sum.elim t g) lt U.heap) (hA s0)) args s 0 0 (hA s0)) (F0 m 0 ls []) := by
  obtain ⟨hx, hb, hr, hml, hown, hts, hlocks, hK, hZ0, hA0⟩ := CX
  unfold m_weightOf at hf
  refine lv_iconst (v := 0) hx hb dX5_weightOf_0 (by decide) ?_
  refine lv_istore_n (lv' := [(2, .int (0 : Int32)), (0, .ref (ad (.inr 0))), (1, .int p0)]) hx hb dX5_weightOf_1 rfl hl (by decide) rfl (fun ls hl => ?_)
  refine lv_iconst (v := 0) hx hb dX5_weightOf_2 (by decide) ?_
  refine lv_istore_n (lv' := [(3, .int (0 : Int32)), (2, .int (0 : Int32)), (0, .ref (ad (.inr 0))), (1, .int p0)]) hx hb dX5_weightOf_3 rfl hl (by decide) rfl (fun ls hl => ?_)
  obtain ⟨x5, hq, hf⟩ := hbind hf
  refine w_m_weightOf_L4 ⟨hx, hb, hr, hml, hown, hts, hlocks, hK, hZ0, hA0⟩ hIx g p0 x5 hFU ((0 : Int32), (0 : Int32)) hq (fun H locs ls hM hS hl => ?_) H locs ls hM hS (lv_sub hl [2, 3, 1, 0] rfl)
  refine lv_iload_n hx hb dX5_weightOf_42 rfl (lv_at hl 0 rfl) ?_
  have eo := Option.some.inj hf
  subst eo
  exact W.iret (v := x5) hx hb hr (fun T ht hW => ⟨⟨x5, (), rfl, rfl, by dsimp only; rw [ht]; exact hM⟩, hS.F ht⟩) hS.2.2 dX5_weightOf_43
set_option maxHeartbeats 4000000 in
set_option maxRecDepth 100000 in
theorem met_m_weightOf (l : Launch) (D : va_G) (C : Nat → Nat) (a0 : Array Value) (s0 : State) (ad : Rl → Nat) (so : Nat → Option hS) (t : hSt) (lt : Rl → Nat → Int64) (g : hSt) (p0 : Int32) {o : Int32} (hf : m_weightOf g p0 = some o) : Met l yX5_weightOf (ws_ yX5_weightOf cX5_weightOf 4 (some .int)) rm_m_weightOf (va_Pc [.ref (ad (.inr 0)), .int p0] (hB D vwCl (hT C) (hA s0) (hZ a0 s0) ad (Sum.elim so (mSH C)) (Sum.elim t g) lt)) (va_Qi (fun (r : Int32) (_ : Unit) => r = o) (fun (_ : Unit) (U : State) => hW D vwCl ad (Sum.elim so (mSH C)) (Sum.elim t g) lt U.heap) (hA s0)) 0 0 (hA s0) := by
  refine Met.ofW (cc := cX5_weightOf) (maxL := 4) (ret := (some .int)) (by decide) rfl ?_
  intro p e s m args below meth c s₁ B hml hv
  obtain ⟨rfl, hM, hIx, hK, hZ0, hA0⟩ := hv
  have hl := lv_entry ([.ref (ad (.inr 0)), .int p0]) (n := 4) (Nat.le_of_ble_eq_true rfl)
  rw [lg_entry_eq]
  generalize (lg_sl ([.ref (ad (.inr 0)), .int p0]) ++ List.replicate (4 - (lg_sl ([.ref (ad (.inr 0)), .int p0])).length) Slot.unset).toArray = ls at hl ⊢
  have hl : lv_has ls 4 [(0, .ref (ad (.inr 0))), (1, .int p0)] := hl
  exact w_m_weightOf ⟨B.exec, B.bytes, B.returns, hml, findClass_of_methodNamed B.named, fun w h => atoms_spec (ws := ws_ yX5_weightOf cX5_weightOf 4 (some .int)) B.pre w (List.mem_cons_of_mem _ h), B.notSynchronized, hK, hZ0, hA0⟩ hIx g p0 hf hM va_S.rf hl

def rm_m_person : Room := { frames := 5, cells := 0, slots := 0, locals := 61 }
set_option maxHeartbeats 4000000 in
set_option maxRecDepth 100000 in
theorem w_m_person {p : Program} {l : Launch} {e : Env} {s : State} {m : MethodId} {args : Array Value} {below : List Frame} {meth : Method} {c : Code} {D : va_G} {C : Nat → Nat} {a0 : Array Value} {s0 : State} {ad : Rl → Nat} {so : Nat → Option hS} {t : hSt} {lt : Rl → Nat → Int64} (CX : hCx D C a0 s0 p s m args meth c cX5_person 3 RX5 (some .int)) (hIx : hI (hA s0) ad (Sum.elim so (mSH C))) (g : hSt) (p0 : Int32) (p1 : Int32) {o : Int32 × hSt} (hf : m_person g p0 p1 = some o) {H : Heap} {locs : List Loc} (hM : hW D vwCl ad (Sum.elim so (mSH C)) (Sum.elim t g) lt H) (hS : va_S (hA s0) s.heap H locs) {ls : Array Slot} (hl : lv_has ls 3 [(0, .ref (ad (.inr 0))), (1, .int p0), (2, .int p1)]) : W p l e rm_m_person s m args below meth c H locs 0 0 (MQ below (va_Qi (fun (r : Int32) (_ : Unit) => r = o.1) (fun (_ : Unit) (U : State) => hW D vwCl ad (Sum.elim so (mSH C)) (Sum.elim t o.2) lt U.heap) (hA s0)) args s 0 0 (hA s0)) (F0 m 0 ls []) := by
  obtain ⟨hx, hb, hr, hml, hown, hts, hlocks, hK, hZ0, hA0⟩ := CX
  unfold m_person at hf
  refine lv_aload_n hx hb dX5_person_0 rfl (lv_at hl 0 rfl) ?_
  refine lv_iconst (v := 0) hx hb dX5_person_1 (by decide) ?_
  refine hm_put (r := 0) (ci := 5) (C := RX5) (T := TX5) (N := 55) hx hb hts in_X5 tyX5 tyX5_ok nmX5 hown hK hM hIx hS mS_0 rfl 1 (by decide) (hts _ q1369) rfl rfl rfl hf dX5_person_2 (fun g1 H locs hf hM hS => ?_)
  refine lv_aload_n hx hb dX5_person_5 rfl (lv_at hl 0 rfl) ?_
  refine lv_iload_n hx hb dX5_person_6 rfl (lv_at hl 1 rfl) ?_
  obtain ⟨y2, hq, hf⟩ := hbind hf
  refine hr_calli0 (va_runV (As := [.int p0]) (rest := []) ⟨hx, hb, hml, hown, hts⟩ (met_m_isPerson l D C a0 s0 ad so t lt g1 p0 hq) (cwV 1 hts (lw_V q1655 q1657 qs47 q99 q1658) rfl rfl rfl (by decide +kernel) ⟨Nat.le_of_ble_eq_true rfl, Nat.le_of_ble_eq_true rfl⟩) (hr_preV hZ_c hM hIx hK hZ0 hA0 hS (r := .inr 0) mS_0 (q := (RX5, TX5, 55)) rfl) rfl rfl hl.1 rfl (lv_room (Nat.le_of_ble_eq_true rfl)) dX5_person_7 ⟨Nat.le_of_ble_eq_true rfl, Nat.le_of_ble_eq_true rfl⟩) hS (fun H locs hM hS => ?_)
  refine hb_if_ne (tgt := 19) hx hb dX5_person_10 (by decide) hf (fun hf => ?_) (fun hf => ?_)
  · refine lv_iload_n hx hb dX5_person_19 rfl (lv_at hl 2 rfl) ?_
    by_cases hc0 : p1 = 0
    · replace hf := hif_t hf hc0
      refine lv_tableIn (x := p1) (tgt := 64) hx hb dX5_person_20 (by rw [hc0]; decide) (by rw [hc0]; decide) (by rw [hc0]; rfl) (by decide) ?_
      refine lv_aload_n hx hb dX5_person_64 rfl (lv_at hl 0 rfl) ?_
      refine hr_get (ci := 5) (C := RX5) (T := TX5) (N := 55) (r := .inr 0) hx hb hts in_X5 hown hK hM mS_0 rfl 3 (by decide) (hts _ q1371) rfl (v := .ref (ad (.inr 4))) rfl dX5_person_65 ?_
      refine lv_iload_n hx hb dX5_person_68 rfl (lv_at hl 1 rfl) ?_
      refine hm_iald (r := 4) hx hb hK hM 0 mS_4 rfl hf dX5_person_69 (fun x4 hf => ?_)
      have eo := Option.some.inj hf
      subst eo
      exact W.iret (v := x4) hx hb hr (fun T ht hW => ⟨⟨x4, (), rfl, rfl, by dsimp only; rw [ht]; exact hM⟩, hS.F ht⟩) hS.2.2 dX5_person_70
    replace hf := hif_f hf hc0
    by_cases hc1 : p1 = 1
    · replace hf := hif_t hf hc1
      refine lv_tableIn (x := p1) (tgt := 71) hx hb dX5_person_20 (by rw [hc1]; decide) (by rw [hc1]; decide) (by rw [hc1]; rfl) (by decide) ?_
      refine lv_aload_n hx hb dX5_person_71 rfl (lv_at hl 0 rfl) ?_
      refine hr_get (ci := 5) (C := RX5) (T := TX5) (N := 55) (r := .inr 0) hx hb hts in_X5 hown hK hM mS_0 rfl 7 (by decide) (hts _ q1375) rfl (v := .ref (ad (.inr 8))) rfl dX5_person_72 ?_
      refine lv_bipush (v := 12) hx hb dX5_person_75 (by decide) ?_
      refine lv_iload_n hx hb dX5_person_77 rfl (lv_at hl 1 rfl) ?_
      refine lv_iadd hx hb dX5_person_78 ?_
      refine hm_iald (r := 8) hx hb hK hM 0 mS_8 rfl hf dX5_person_79 (fun x5 hf => ?_)
      have eo := Option.some.inj hf
      subst eo
      exact W.iret (v := x5) hx hb hr (fun T ht hW => ⟨⟨x5, (), rfl, rfl, by dsimp only; rw [ht]; exact hM⟩, hS.F ht⟩) hS.2.2 dX5_person_80
    replace hf := hif_f hf hc1
    by_cases hc2 : p1 = 2
    · replace hf := hif_t hf hc2
      refine lv_tableIn (x := p1) (tgt := 81) hx hb dX5_person_20 (by rw [hc2]; decide) (by rw [hc2]; decide) (by rw [hc2]; rfl) (by decide) ?_
      refine lv_aload_n hx hb dX5_person_81 rfl (lv_at hl 0 rfl) ?_
      refine hr_get (ci := 5) (C := RX5) (T := TX5) (N := 55) (r := .inr 0) hx hb hts in_X5 hown hK hM mS_0 rfl 7 (by decide) (hts _ q1375) rfl (v := .ref (ad (.inr 8))) rfl dX5_person_82 ?_
      refine lv_bipush (v := 18) hx hb dX5_person_85 (by decide) ?_
      refine lv_iload_n hx hb dX5_person_87 rfl (lv_at hl 1 rfl) ?_
      refine lv_iadd hx hb dX5_person_88 ?_
      refine hm_iald (r := 8) hx hb hK hM 0 mS_8 rfl hf dX5_person_89 (fun x6 hf => ?_)
      have eo := Option.some.inj hf
      subst eo
      exact W.iret (v := x6) hx hb hr (fun T ht hW => ⟨⟨x6, (), rfl, rfl, by dsimp only; rw [ht]; exact hM⟩, hS.F ht⟩) hS.2.2 dX5_person_90
    replace hf := hif_f hf hc2
    by_cases hc3 : p1 = 3
    · replace hf := hif_t hf hc3
      refine lv_tableIn (x := p1) (tgt := 91) hx hb dX5_person_20 (by rw [hc3]; decide) (by rw [hc3]; decide) (by rw [hc3]; rfl) (by decide) ?_
      refine lv_aload_n hx hb dX5_person_91 rfl (lv_at hl 0 rfl) ?_
      refine hr_get (ci := 5) (C := RX5) (T := TX5) (N := 55) (r := .inr 0) hx hb hts in_X5 hown hK hM mS_0 rfl 7 (by decide) (hts _ q1375) rfl (v := .ref (ad (.inr 8))) rfl dX5_person_92 ?_
      refine lv_bipush (v := 24) hx hb dX5_person_95 (by decide) ?_
      refine lv_iload_n hx hb dX5_person_97 rfl (lv_at hl 1 rfl) ?_
      refine lv_iadd hx hb dX5_person_98 ?_
      refine hm_iald (r := 8) hx hb hK hM 0 mS_8 rfl hf dX5_person_99 (fun x7 hf => ?_)
      have eo := Option.some.inj hf
      subst eo
      exact W.iret (v := x7) hx hb hr (fun T ht hW => ⟨⟨x7, (), rfl, rfl, by dsimp only; rw [ht]; exact hM⟩, hS.F ht⟩) hS.2.2 dX5_person_100
    replace hf := hif_f hf hc3
    by_cases hc4 : p1 = 4
    · replace hf := hif_t hf hc4
      refine lv_tableIn (x := p1) (tgt := 101) hx hb dX5_person_20 (by rw [hc4]; decide) (by rw [hc4]; decide) (by rw [hc4]; rfl) (by decide) ?_
      refine lv_aload_n hx hb dX5_person_101 rfl (lv_at hl 0 rfl) ?_
      refine lv_aload_n hx hb dX5_person_102 rfl (lv_at hl 0 rfl) ?_
      refine hr_get (ci := 5) (C := RX5) (T := TX5) (N := 55) (r := .inr 0) hx hb hts in_X5 hown hK hM mS_0 rfl 7 (by decide) (hts _ q1375) rfl (v := .ref (ad (.inr 8))) rfl dX5_person_103 ?_
      refine lv_iload_n hx hb dX5_person_106 rfl (lv_at hl 1 rfl) ?_
      obtain ⟨y8, hq, hf⟩ := hbind hf
      refine hr_calli0 (va_runV (As := [.ref (ad (.inr 8)), .int p0]) (rest := []) ⟨hx, hb, hml, hown, hts⟩ (met_m_hasOf l D C a0 s0 ad so t lt g1 8 p0 ms_8 hq) (cwV 2 hts (lw_V q1659 q1661 qs48 q99 q1662) rfl rfl rfl (by decide +kernel) ⟨Nat.le_of_ble_eq_true rfl, Nat.le_of_ble_eq_true rfl⟩) (hr_preV hZ_c hM hIx hK hZ0 hA0 hS (r := .inr 0) mS_0 (q := (RX5, TX5, 55)) rfl) rfl rfl hl.1 rfl (lv_room (Nat.le_of_ble_eq_true rfl)) dX5_person_107 ⟨Nat.le_of_ble_eq_true rfl, Nat.le_of_ble_eq_true rfl⟩) hS (fun H locs hM hS => ?_)
      have eo := Option.some.inj hf
      subst eo
      exact W.iret (v := y8) hx hb hr (fun T ht hW => ⟨⟨y8, (), rfl, rfl, by dsimp only; rw [ht]; exact hM⟩, hS.F ht⟩) hS.2.2 dX5_person_110
    replace hf := hif_f hf hc4
    by_cases hc5 : p1 = 5
    · replace hf := hif_t hf hc5
      refine lv_tableIn (x := p1) (tgt := 111) hx hb dX5_person_20 (by rw [hc5]; decide) (by rw [hc5]; decide) (by rw [hc5]; rfl) (by decide) ?_
      refine lv_aload_n hx hb dX5_person_111 rfl (lv_at hl 0 rfl) ?_
      refine lv_aload_n hx hb dX5_person_112 rfl (lv_at hl 0 rfl) ?_
      refine lv_aload_n hx hb dX5_person_113 rfl (lv_at hl 0 rfl) ?_
      refine hr_get (ci := 5) (C := RX5) (T := TX5) (N := 55) (r := .inr 0) hx hb hts in_X5 hown hK hM mS_0 rfl 7 (by decide) (hts _ q1375) rfl (v := .ref (ad (.inr 8))) rfl dX5_person_114 ?_
      refine lv_iload_n hx hb dX5_person_117 rfl (lv_at hl 1 rfl) ?_
      obtain ⟨y9, hq, hf⟩ := hbind hf
      refine hr_calli0 (va_runV (As := [.ref (ad (.inr 8)), .int p0]) (rest := [.ref (ad (.inr 0))]) ⟨hx, hb, hml, hown, hts⟩ (met_m_hasOf l D C a0 s0 ad so t lt g1 8 p0 ms_8 hq) (cwV 2 hts (lw_V q1659 q1661 qs48 q99 q1662) rfl rfl rfl (by decide +kernel) ⟨Nat.le_of_ble_eq_true rfl, Nat.le_of_ble_eq_true rfl⟩) (hr_preV hZ_c hM hIx hK hZ0 hA0 hS (r := .inr 0) mS_0 (q := (RX5, TX5, 55)) rfl) rfl rfl hl.1 rfl (lv_room (Nat.le_of_ble_eq_true rfl)) dX5_person_118 ⟨Nat.le_of_ble_eq_true rfl, Nat.le_of_ble_eq_true rfl⟩) hS (fun H locs hM hS => ?_)
      obtain ⟨y10, hq, hf⟩ := hbind hf
      refine hr_calli0 (va_runV (As := [.int y9]) (rest := []) ⟨hx, hb, hml, hown, hts⟩ (met_m_worthOf l D C a0 s0 ad so t lt g1 y9 hq) (cwV 1 hts (lw_V q1663 q1665 qs49 q99 q1666) rfl rfl rfl (by decide +kernel) ⟨Nat.le_of_ble_eq_true rfl, Nat.le_of_ble_eq_true rfl⟩) (hr_preV hZ_c hM hIx hK hZ0 hA0 hS (r := .inr 0) mS_0 (q := (RX5, TX5, 55)) rfl) rfl rfl hl.1 rfl (lv_room (Nat.le_of_ble_eq_true rfl)) dX5_person_121 ⟨Nat.le_of_ble_eq_true rfl, Nat.le_of_ble_eq_true rfl⟩) hS (fun H locs hM hS => ?_)
      have eo := Option.some.inj hf
      subst eo
      exact W.iret (v := y10) hx hb hr (fun T ht hW => ⟨⟨y10, (), rfl, rfl, by dsimp only; rw [ht]; exact hM⟩, hS.F ht⟩) hS.2.2 dX5_person_124
    replace hf := hif_f hf hc5
    by_cases hc6 : p1 = 6
    · replace hf := hif_t hf hc6
      refine lv_tableIn (x := p1) (tgt := 125) hx hb dX5_person_20 (by rw [hc6]; decide) (by rw [hc6]; decide) (by rw [hc6]; rfl) (by decide) ?_
      refine lv_aload_n hx hb dX5_person_125 rfl (lv_at hl 0 rfl) ?_
      refine lv_aload_n hx hb dX5_person_126 rfl (lv_at hl 0 rfl) ?_
      refine lv_aload_n hx hb dX5_person_127 rfl (lv_at hl 0 rfl) ?_
      refine hr_get (ci := 5) (C := RX5) (T := TX5) (N := 55) (r := .inr 0) hx hb hts in_X5 hown hK hM mS_0 rfl 7 (by decide) (hts _ q1375) rfl (v := .ref (ad (.inr 8))) rfl dX5_person_128 ?_
      refine lv_iload_n hx hb dX5_person_131 rfl (lv_at hl 1 rfl) ?_
      obtain ⟨y11, hq, hf⟩ := hbind hf
      refine hr_calli0 (va_runV (As := [.ref (ad (.inr 8)), .int p0]) (rest := [.ref (ad (.inr 0))]) ⟨hx, hb, hml, hown, hts⟩ (met_m_hasOf l D C a0 s0 ad so t lt g1 8 p0 ms_8 hq) (cwV 2 hts (lw_V q1659 q1661 qs48 q99 q1662) rfl rfl rfl (by decide +kernel) ⟨Nat.le_of_ble_eq_true rfl, Nat.le_of_ble_eq_true rfl⟩) (hr_preV hZ_c hM hIx hK hZ0 hA0 hS (r := .inr 0) mS_0 (q := (RX5, TX5, 55)) rfl) rfl rfl hl.1 rfl (lv_room (Nat.le_of_ble_eq_true rfl)) dX5_person_132 ⟨Nat.le_of_ble_eq_true rfl, Nat.le_of_ble_eq_true rfl⟩) hS (fun H locs hM hS => ?_)
      obtain ⟨y12, hq, hf⟩ := hbind hf
      refine hr_calli0 (va_runV (As := [.int y11]) (rest := []) ⟨hx, hb, hml, hown, hts⟩ (met_m_weightOf l D C a0 s0 ad so t lt g1 y11 hq) (cwV 1 hts (lw_V q1667 q1669 qs50 q99 q1670) rfl rfl rfl (by decide +kernel) ⟨Nat.le_of_ble_eq_true rfl, Nat.le_of_ble_eq_true rfl⟩) (hr_preV hZ_c hM hIx hK hZ0 hA0 hS (r := .inr 0) mS_0 (q := (RX5, TX5, 55)) rfl) rfl rfl hl.1 rfl (lv_room (Nat.le_of_ble_eq_true rfl)) dX5_person_135 ⟨Nat.le_of_ble_eq_true rfl, Nat.le_of_ble_eq_true rfl⟩) hS (fun H locs hM hS => ?_)
      have eo := Option.some.inj hf
      subst eo
      exact W.iret (v := y12) hx hb hr (fun T ht hW => ⟨⟨y12, (), rfl, rfl, by dsimp only; rw [ht]; exact hM⟩, hS.F ht⟩) hS.2.2 dX5_person_138
    replace hf := hif_f hf hc6
    refine lv_tableOut (x := p1) (tgt := 139) hx hb dX5_person_20 (h_sw0_6 hc0 hc1 hc2 hc3 hc4 hc5 hc6) (by decide) ?_
    refine lv_aload_n hx hb dX5_person_139 rfl (lv_at hl 0 rfl) ?_
    refine lv_iconst (v := 1) hx hb dX5_person_140 (by decide) ?_
    obtain ⟨y3, hq, hf⟩ := hbind hf
    refine hr_calli0 (va_runV (As := [.int (1 : Int32)]) (rest := []) ⟨hx, hb, hml, hown, hts⟩ (met_m_fail l D C a0 s0 ad so t lt g1 (1 : Int32) hq) (cwV 1 hts (lw_V q1547 q1549 qs33 q99 q1550) rfl rfl rfl (by decide +kernel) ⟨Nat.le_of_ble_eq_true rfl, Nat.le_of_ble_eq_true rfl⟩) (hr_preV hZ_c hM hIx hK hZ0 hA0 hS (r := .inr 0) mS_0 (q := (RX5, TX5, 55)) rfl) rfl rfl hl.1 rfl (lv_room (Nat.le_of_ble_eq_true rfl)) dX5_person_141 ⟨Nat.le_of_ble_eq_true rfl, Nat.le_of_ble_eq_true rfl⟩) hS (fun H locs hM hS => ?_)
    have eo := Option.some.inj hf
    subst eo
    exact W.iret (v := y3.1) hx hb hr (fun T ht hW => ⟨⟨y3.1, (), rfl, rfl, by dsimp only; rw [ht]; exact hM⟩, hS.F ht⟩) hS.2.2 dX5_person_144
  · refine lv_aload_n hx hb dX5_person_13 rfl (lv_at hl 0 rfl) ?_
    refine lv_iconst (v := 1) hx hb dX5_person_14 (by decide) ?_
    obtain ⟨y13, hq, hf⟩ := hbind hf
    refine hr_calli0 (va_runV (As := [.int (1 : Int32)]) (rest := []) ⟨hx, hb, hml, hown, hts⟩ (met_m_fail l D C a0 s0 ad so t lt g1 (1 : Int32) hq) (cwV 1 hts (lw_V q1547 q1549 qs33 q99 q1550) rfl rfl rfl (by decide +kernel) ⟨Nat.le_of_ble_eq_true rfl, Nat.le_of_ble_eq_true rfl⟩) (hr_preV hZ_c hM hIx hK hZ0 hA0 hS (r := .inr 0) mS_0 (q := (RX5, TX5, 55)) rfl) rfl rfl hl.1 rfl (lv_room (Nat.le_of_ble_eq_true rfl)) dX5_person_15 ⟨Nat.le_of_ble_eq_true rfl, Nat.le_of_ble_eq_true rfl⟩) hS (fun H locs hM hS => ?_)
    have eo := Option.some.inj hf
    subst eo
    exact W.iret (v := y13.1) hx hb hr (fun T ht hW => ⟨⟨y13.1, (), rfl, rfl, by dsimp only; rw [ht]; exact hM⟩, hS.F ht⟩) hS.2.2 dX5_person_18
set_option maxHeartbeats 4000000 in
set_option maxRecDepth 100000 in
theorem met_m_person (l : Launch) (D : va_G) (C : Nat → Nat) (a0 : Array Value) (s0 : State) (ad : Rl → Nat) (so : Nat → Option hS) (t : hSt) (lt : Rl → Nat → Int64) (g : hSt) (p0 : Int32) (p1 : Int32) {o : Int32 × hSt} (hf : m_person g p0 p1 = some o) : Met l yX5_person (ws_ yX5_person cX5_person 3 (some .int)) rm_m_person (va_Pc [.ref (ad (.inr 0)), .int p0, .int p1] (hB D vwCl (hT C) (hA s0) (hZ a0 s0) ad (Sum.elim so (mSH C)) (Sum.elim t g) lt)) (va_Qi (fun (r : Int32) (_ : Unit) => r = o.1) (fun (_ : Unit) (U : State) => hW D vwCl ad (Sum.elim so (mSH C)) (Sum.elim t o.2) lt U.heap) (hA s0)) 0 0 (hA s0) := by
  refine Met.ofW (cc := cX5_person) (maxL := 3) (ret := (some .int)) (by decide) rfl ?_
  intro p e s m args below meth c s₁ B hml hv
  obtain ⟨rfl, hM, hIx, hK, hZ0, hA0⟩ := hv
  have hl := lv_entry ([.ref (ad (.inr 0)), .int p0, .int p1]) (n := 3) (Nat.le_of_ble_eq_true rfl)
  rw [lg_entry_eq]
  generalize (lg_sl ([.ref (ad (.inr 0)), .int p0, .int p1]) ++ List.replicate (3 - (lg_sl ([.ref (ad (.inr 0)), .int p0, .int p1])).length) Slot.unset).toArray = ls at hl ⊢
  have hl : lv_has ls 3 [(0, .ref (ad (.inr 0))), (1, .int p0), (2, .int p1)] := hl
  exact w_m_person ⟨B.exec, B.bytes, B.returns, hml, findClass_of_methodNamed B.named, fun w h => atoms_spec (ws := ws_ yX5_person cX5_person 3 (some .int)) B.pre w (List.mem_cons_of_mem _ h), B.notSynchronized, hK, hZ0, hA0⟩ hIx g p0 p1 hf hM va_S.rf hl

def rm_m_isThing : Room := { frames := 3, cells := 0, slots := 0, locals := 39 }
set_option maxHeartbeats 4000000 in
set_option maxRecDepth 100000 in
theorem w_m_isThing {p : Program} {l : Launch} {e : Env} {s : State} {m : MethodId} {args : Array Value} {below : List Frame} {meth : Method} {c : Code} {D : va_G} {C : Nat → Nat} {a0 : Array Value} {s0 : State} {ad : Rl → Nat} {so : Nat → Option hS} {t : hSt} {lt : Rl → Nat → Int64} (CX : hCx D C a0 s0 p s m args meth c cX5_isThing 2 RX5 (some .boolean)) (hIx : hI (hA s0) ad (Sum.elim so (mSH C))) (g : hSt) (p0 : Int32) {o : Int32} (hf : m_isThing g p0 = some o) {H : Heap} {locs : List Loc} (hM : hW D vwCl ad (Sum.elim so (mSH C)) (Sum.elim t g) lt H) (hS : va_S (hA s0) s.heap H locs) {ls : Array Slot} (hl : lv_has ls 2 [(0, .ref (ad (.inr 0))), (1, .int p0)]) : W p l e rm_m_isThing s m args below meth c H locs 0 0 (MQ below (va_Qi (fun (r : Int32) (_ : Unit) => r = o) (fun (_ : Unit) (U : State) => hW D vwCl ad (Sum.elim so (mSH C)) (Sum.elim t g) lt U.heap) (hA s0)) args s 0 0 (hA s0)) (F0 m 0 ls []) := by
  obtain ⟨hx, hb, hr, hml, hown, hts, hlocks, hK, hZ0, hA0⟩ := CX
  unfold m_isThing at hf
  refine lv_iload_n hx hb dX5_isThing_0 rfl (lv_at hl 1 rfl) ?_
  refine lv_iconst (v := 0) hx hb dX5_isThing_1 (by decide) ?_
  refine lv_aload_n hx hb dX5_isThing_2 rfl (lv_at hl 0 rfl) ?_
  refine hr_get (ci := 5) (C := RX5) (T := TX5) (N := 55) (r := .inr 0) hx hb hts in_X5 hown hK hM mS_0 rfl 2 (by decide) (hts _ q1370) rfl (v := .ref (ad (.inr 3))) rfl dX5_isThing_3 ?_
  refine lv_iconst (v := 1) hx hb dX5_isThing_6 (by decide) ?_
  refine hm_iald (r := 3) hx hb hK hM 0 mS_3 rfl hf dX5_isThing_7 (fun x1 hf => ?_)
  refine lv_iconst (v := 1) hx hb dX5_isThing_8 (by decide) ?_
  refine lv_isub hx hb dX5_isThing_9 ?_
  obtain ⟨y2, hq, hf⟩ := hbind hf
  refine hr_calli0 (va_runS (As := [.int p0, .int (0 : Int32), .int (x1 - (1 : Int32))]) (rest := []) ⟨hx, hb, hml, hown, hts⟩ (met_m_isIn l D C a0 s0 ad so (Sum.elim t g) lt p0 (0 : Int32) (x1 - (1 : Int32)) hq) (va_cwS 3 hts (lw_S q1648 q1649 q99 q1650) rfl rfl rfl (by decide +kernel) ⟨Nat.le_of_ble_eq_true rfl, Nat.le_of_ble_eq_true rfl⟩) (hr_preS hZ_c hM hIx hK hZ0 hA0 hS) rfl rfl hl.1 rfl (lv_room (Nat.le_of_ble_eq_true rfl)) dX5_isThing_10 ⟨Nat.le_of_ble_eq_true rfl, Nat.le_of_ble_eq_true rfl⟩) hS (fun H locs hM hS => ?_)
  obtain ⟨hbv, hf⟩ := hif_s hf
  have eo := Option.some.inj hf
  subst eo
  exact W.zret (v := y2) hx hb hr (hz_n hbv).1 (fun T ht hW => ⟨⟨y2, (), rfl, rfl, by dsimp only; rw [ht]; exact hM⟩, hS.F ht⟩) hS.2.2 dX5_isThing_13
set_option maxHeartbeats 4000000 in
set_option maxRecDepth 100000 in
theorem met_m_isThing (l : Launch) (D : va_G) (C : Nat → Nat) (a0 : Array Value) (s0 : State) (ad : Rl → Nat) (so : Nat → Option hS) (t : hSt) (lt : Rl → Nat → Int64) (g : hSt) (p0 : Int32) {o : Int32} (hf : m_isThing g p0 = some o) : Met l yX5_isThing (ws_ yX5_isThing cX5_isThing 2 (some .boolean)) rm_m_isThing (va_Pc [.ref (ad (.inr 0)), .int p0] (hB D vwCl (hT C) (hA s0) (hZ a0 s0) ad (Sum.elim so (mSH C)) (Sum.elim t g) lt)) (va_Qi (fun (r : Int32) (_ : Unit) => r = o) (fun (_ : Unit) (U : State) => hW D vwCl ad (Sum.elim so (mSH C)) (Sum.elim t g) lt U.heap) (hA s0)) 0 0 (hA s0) := by
  refine Met.ofW (cc := cX5_isThing) (maxL := 2) (ret := (some .boolean)) (by decide) rfl ?_
  intro p e s m args below meth c s₁ B hml hv
  obtain ⟨rfl, hM, hIx, hK, hZ0, hA0⟩ := hv
  have hl := lv_entry ([.ref (ad (.inr 0)), .int p0]) (n := 2) (Nat.le_of_ble_eq_true rfl)
  rw [lg_entry_eq]
  generalize (lg_sl ([.ref (ad (.inr 0)), .int p0]) ++ List.replicate (2 - (lg_sl ([.ref (ad (.inr 0)), .int p0])).length) Slot.unset).toArray = ls at hl ⊢
  have hl : lv_has ls 2 [(0, .ref (ad (.inr 0))), (1, .int p0)] := hl
  exact w_m_isThing ⟨B.exec, B.bytes, B.returns, hml, findClass_of_methodNamed B.named, fun w h => atoms_spec (ws := ws_ yX5_isThing cX5_isThing 2 (some .boolean)) B.pre w (List.mem_cons_of_mem _ h), B.notSynchronized, hK, hZ0, hA0⟩ hIx g p0 hf hM va_S.rf hl

def rm_m_thing : Room := { frames := 5, cells := 0, slots := 0, locals := 61 }
set_option maxHeartbeats 4000000 in
set_option maxRecDepth 100000 in
theorem w_m_thing {p : Program} {l : Launch} {e : Env} {s : State} {m : MethodId} {args : Array Value} {below : List Frame} {meth : Method} {c : Code} {D : va_G} {C : Nat → Nat} {a0 : Array Value} {s0 : State} {ad : Rl → Nat} {so : Nat → Option hS} {t : hSt} {lt : Rl → Nat → Int64} (CX : hCx D C a0 s0 p s m args meth c cX5_thing 3 RX5 (some .int)) (hIx : hI (hA s0) ad (Sum.elim so (mSH C))) (g : hSt) (p0 : Int32) (p1 : Int32) {o : Int32 × hSt} (hf : m_thing g p0 p1 = some o) {H : Heap} {locs : List Loc} (hM : hW D vwCl ad (Sum.elim so (mSH C)) (Sum.elim t g) lt H) (hS : va_S (hA s0) s.heap H locs) {ls : Array Slot} (hl : lv_has ls 3 [(0, .ref (ad (.inr 0))), (1, .int p0), (2, .int p1)]) : W p l e rm_m_thing s m args below meth c H locs 0 0 (MQ below (va_Qi (fun (r : Int32) (_ : Unit) => r = o.1) (fun (_ : Unit) (U : State) => hW D vwCl ad (Sum.elim so (mSH C)) (Sum.elim t o.2) lt U.heap) (hA s0)) args s 0 0 (hA s0)) (F0 m 0 ls []) := by
  obtain ⟨hx, hb, hr, hml, hown, hts, hlocks, hK, hZ0, hA0⟩ := CX
  unfold m_thing at hf
  refine lv_aload_n hx hb dX5_thing_0 rfl (lv_at hl 0 rfl) ?_
  refine lv_iconst (v := 0) hx hb dX5_thing_1 (by decide) ?_
  refine hm_put (r := 0) (ci := 5) (C := RX5) (T := TX5) (N := 55) hx hb hts in_X5 tyX5 tyX5_ok nmX5 hown hK hM hIx hS mS_0 rfl 1 (by decide) (hts _ q1369) rfl rfl rfl hf dX5_thing_2 (fun g1 H locs hf hM hS => ?_)
  refine lv_aload_n hx hb dX5_thing_5 rfl (lv_at hl 0 rfl) ?_
  refine lv_iload_n hx hb dX5_thing_6 rfl (lv_at hl 1 rfl) ?_
  obtain ⟨y2, hq, hf⟩ := hbind hf
  refine hr_calli0 (va_runV (As := [.int p0]) (rest := []) ⟨hx, hb, hml, hown, hts⟩ (met_m_isThing l D C a0 s0 ad so t lt g1 p0 hq) (cwV 1 hts (lw_V q1675 q1677 qs51 q99 q1678) rfl rfl rfl (by decide +kernel) ⟨Nat.le_of_ble_eq_true rfl, Nat.le_of_ble_eq_true rfl⟩) (hr_preV hZ_c hM hIx hK hZ0 hA0 hS (r := .inr 0) mS_0 (q := (RX5, TX5, 55)) rfl) rfl rfl hl.1 rfl (lv_room (Nat.le_of_ble_eq_true rfl)) dX5_thing_7 ⟨Nat.le_of_ble_eq_true rfl, Nat.le_of_ble_eq_true rfl⟩) hS (fun H locs hM hS => ?_)
  refine hb_if_ne (tgt := 19) hx hb dX5_thing_10 (by decide) hf (fun hf => ?_) (fun hf => ?_)
  · refine lv_iload_n hx hb dX5_thing_19 rfl (lv_at hl 2 rfl) ?_
    refine hb_if_ne (tgt := 32) hx hb dX5_thing_20 (by decide) hf (fun hf => ?_) (fun hf => ?_)
    · refine lv_iload_n hx hb dX5_thing_32 rfl (lv_at hl 2 rfl) ?_
      refine lv_iconst (v := 1) hx hb dX5_thing_33 (by decide) ?_
      refine hb_icmp_ne (tgt := 46) hx hb dX5_thing_34 (by decide) hf (fun hf => ?_) (fun hf => ?_)
      · refine lv_iload_n hx hb dX5_thing_46 rfl (lv_at hl 2 rfl) ?_
        refine lv_iconst (v := 2) hx hb dX5_thing_47 (by decide) ?_
        refine hb_icmp_ne (tgt := 60) hx hb dX5_thing_48 (by decide) hf (fun hf => ?_) (fun hf => ?_)
        · refine lv_iload_n hx hb dX5_thing_60 rfl (lv_at hl 2 rfl) ?_
          refine lv_iconst (v := 3) hx hb dX5_thing_61 (by decide) ?_
          refine hb_icmp_ne (tgt := 82) hx hb dX5_thing_62 (by decide) hf (fun hf => ?_) (fun hf => ?_)
          · refine lv_aload_n hx hb dX5_thing_82 rfl (lv_at hl 0 rfl) ?_
            refine lv_iconst (v := 1) hx hb dX5_thing_83 (by decide) ?_
            obtain ⟨y3, hq, hf⟩ := hbind hf
            refine hr_calli0 (va_runV (As := [.int (1 : Int32)]) (rest := []) ⟨hx, hb, hml, hown, hts⟩ (met_m_fail l D C a0 s0 ad so t lt g1 (1 : Int32) hq) (cwV 1 hts (lw_V q1547 q1549 qs33 q99 q1550) rfl rfl rfl (by decide +kernel) ⟨Nat.le_of_ble_eq_true rfl, Nat.le_of_ble_eq_true rfl⟩) (hr_preV hZ_c hM hIx hK hZ0 hA0 hS (r := .inr 0) mS_0 (q := (RX5, TX5, 55)) rfl) rfl rfl hl.1 rfl (lv_room (Nat.le_of_ble_eq_true rfl)) dX5_thing_84 ⟨Nat.le_of_ble_eq_true rfl, Nat.le_of_ble_eq_true rfl⟩) hS (fun H locs hM hS => ?_)
            have eo := Option.some.inj hf
            subst eo
            exact W.iret (v := y3.1) hx hb hr (fun T ht hW => ⟨⟨y3.1, (), rfl, rfl, by dsimp only; rw [ht]; exact hM⟩, hS.F ht⟩) hS.2.2 dX5_thing_87
          · refine lv_aload_n hx hb dX5_thing_65 rfl (lv_at hl 0 rfl) ?_
            refine hr_get (ci := 5) (C := RX5) (T := TX5) (N := 55) (r := .inr 0) hx hb hts in_X5 hown hK hM mS_0 rfl 11 (by decide) (hts _ q1379) rfl (v := .ref (ad (.inr 12))) rfl dX5_thing_66 ?_
            refine lv_iload_n hx hb dX5_thing_69 rfl (lv_at hl 1 rfl) ?_
            refine hm_zald (r := 12) hx hb hK hM 2 mS_12 rfl hf dX5_thing_70 (fun x4 hf => ?_)
            refine hb_if_eq (tgt := 78) hx hb dX5_thing_71 (by decide) hf (fun hf => ?_) (fun hf => ?_)
            · refine lv_iconst (v := 0) hx hb dX5_thing_78 (by decide) ?_
              refine lv_goto (tgt := 87) hx hb dX5_thing_79 (by decide) ?_
              have eo := Option.some.inj hf
              subst eo
              exact W.iret (v := (0 : Int32)) hx hb hr (fun T ht hW => ⟨⟨(0 : Int32), (), rfl, rfl, by dsimp only; rw [ht]; exact hM⟩, hS.F ht⟩) hS.2.2 dX5_thing_87
            · refine lv_iconst (v := 1) hx hb dX5_thing_74 (by decide) ?_
              refine lv_goto (tgt := 87) hx hb dX5_thing_75 (by decide) ?_
              have eo := Option.some.inj hf
              subst eo
              exact W.iret (v := (1 : Int32)) hx hb hr (fun T ht hW => ⟨⟨(1 : Int32), (), rfl, rfl, by dsimp only; rw [ht]; exact hM⟩, hS.F ht⟩) hS.2.2 dX5_thing_87
        · refine lv_aload_n hx hb dX5_thing_51 rfl (lv_at hl 0 rfl) ?_
          refine hr_get (ci := 5) (C := RX5) (T := TX5) (N := 55) (r := .inr 0) hx hb hts in_X5 hown hK hM mS_0 rfl 7 (by decide) (hts _ q1375) rfl (v := .ref (ad (.inr 8))) rfl dX5_thing_52 ?_
          refine lv_iload_n hx hb dX5_thing_55 rfl (lv_at hl 1 rfl) ?_
          refine hm_iald (r := 8) hx hb hK hM 0 mS_8 rfl hf dX5_thing_56 (fun x5 hf => ?_)
          refine lv_goto (tgt := 87) hx hb dX5_thing_57 (by decide) ?_
          have eo := Option.some.inj hf
          subst eo
          exact W.iret (v := x5) hx hb hr (fun T ht hW => ⟨⟨x5, (), rfl, rfl, by dsimp only; rw [ht]; exact hM⟩, hS.F ht⟩) hS.2.2 dX5_thing_87
      · refine lv_aload_n hx hb dX5_thing_37 rfl (lv_at hl 0 rfl) ?_
        refine hr_get (ci := 5) (C := RX5) (T := TX5) (N := 55) (r := .inr 0) hx hb hts in_X5 hown hK hM mS_0 rfl 5 (by decide) (hts _ q1373) rfl (v := .ref (ad (.inr 6))) rfl dX5_thing_38 ?_
        refine lv_iload_n hx hb dX5_thing_41 rfl (lv_at hl 1 rfl) ?_
        refine hm_iald (r := 6) hx hb hK hM 0 mS_6 rfl hf dX5_thing_42 (fun x6 hf => ?_)
        refine lv_goto (tgt := 87) hx hb dX5_thing_43 (by decide) ?_
        have eo := Option.some.inj hf
        subst eo
        exact W.iret (v := x6) hx hb hr (fun T ht hW => ⟨⟨x6, (), rfl, rfl, by dsimp only; rw [ht]; exact hM⟩, hS.F ht⟩) hS.2.2 dX5_thing_87
    · refine lv_aload_n hx hb dX5_thing_23 rfl (lv_at hl 0 rfl) ?_
      refine hr_get (ci := 5) (C := RX5) (T := TX5) (N := 55) (r := .inr 0) hx hb hts in_X5 hown hK hM mS_0 rfl 9 (by decide) (hts _ q1377) rfl (v := .ref (ad (.inr 10))) rfl dX5_thing_24 ?_
      refine lv_iload_n hx hb dX5_thing_27 rfl (lv_at hl 1 rfl) ?_
      refine hm_iald (r := 10) hx hb hK hM 0 mS_10 rfl hf dX5_thing_28 (fun x7 hf => ?_)
      refine lv_goto (tgt := 87) hx hb dX5_thing_29 (by decide) ?_
      have eo := Option.some.inj hf
      subst eo
      exact W.iret (v := x7) hx hb hr (fun T ht hW => ⟨⟨x7, (), rfl, rfl, by dsimp only; rw [ht]; exact hM⟩, hS.F ht⟩) hS.2.2 dX5_thing_87
  · refine lv_aload_n hx hb dX5_thing_13 rfl (lv_at hl 0 rfl) ?_
    refine lv_iconst (v := 1) hx hb dX5_thing_14 (by decide) ?_
    obtain ⟨y8, hq, hf⟩ := hbind hf
    refine hr_calli0 (va_runV (As := [.int (1 : Int32)]) (rest := []) ⟨hx, hb, hml, hown, hts⟩ (met_m_fail l D C a0 s0 ad so t lt g1 (1 : Int32) hq) (cwV 1 hts (lw_V q1547 q1549 qs33 q99 q1550) rfl rfl rfl (by decide +kernel) ⟨Nat.le_of_ble_eq_true rfl, Nat.le_of_ble_eq_true rfl⟩) (hr_preV hZ_c hM hIx hK hZ0 hA0 hS (r := .inr 0) mS_0 (q := (RX5, TX5, 55)) rfl) rfl rfl hl.1 rfl (lv_room (Nat.le_of_ble_eq_true rfl)) dX5_thing_15 ⟨Nat.le_of_ble_eq_true rfl, Nat.le_of_ble_eq_true rfl⟩) hS (fun H locs hM hS => ?_)
    have eo := Option.some.inj hf
    subst eo
    exact W.iret (v := y8.1) hx hb hr (fun T ht hW => ⟨⟨y8.1, (), rfl, rfl, by dsimp only; rw [ht]; exact hM⟩, hS.F ht⟩) hS.2.2 dX5_thing_18
set_option maxHeartbeats 4000000 in
set_option maxRecDepth 100000 in
theorem met_m_thing (l : Launch) (D : va_G) (C : Nat → Nat) (a0 : Array Value) (s0 : State) (ad : Rl → Nat) (so : Nat → Option hS) (t : hSt) (lt : Rl → Nat → Int64) (g : hSt) (p0 : Int32) (p1 : Int32) {o : Int32 × hSt} (hf : m_thing g p0 p1 = some o) : Met l yX5_thing (ws_ yX5_thing cX5_thing 3 (some .int)) rm_m_thing (va_Pc [.ref (ad (.inr 0)), .int p0, .int p1] (hB D vwCl (hT C) (hA s0) (hZ a0 s0) ad (Sum.elim so (mSH C)) (Sum.elim t g) lt)) (va_Qi (fun (r : Int32) (_ : Unit) => r = o.1) (fun (_ : Unit) (U : State) => hW D vwCl ad (Sum.elim so (mSH C)) (Sum.elim t o.2) lt U.heap) (hA s0)) 0 0 (hA s0) := by
  refine Met.ofW (cc := cX5_thing) (maxL := 3) (ret := (some .int)) (by decide) rfl ?_
  intro p e s m args below meth c s₁ B hml hv
  obtain ⟨rfl, hM, hIx, hK, hZ0, hA0⟩ := hv
  have hl := lv_entry ([.ref (ad (.inr 0)), .int p0, .int p1]) (n := 3) (Nat.le_of_ble_eq_true rfl)
  rw [lg_entry_eq]
  generalize (lg_sl ([.ref (ad (.inr 0)), .int p0, .int p1]) ++ List.replicate (3 - (lg_sl ([.ref (ad (.inr 0)), .int p0, .int p1])).length) Slot.unset).toArray = ls at hl ⊢
  have hl : lv_has ls 3 [(0, .ref (ad (.inr 0))), (1, .int p0), (2, .int p1)] := hl
  exact w_m_thing ⟨B.exec, B.bytes, B.returns, hml, findClass_of_methodNamed B.named, fun w h => atoms_spec (ws := ws_ yX5_thing cX5_thing 3 (some .int)) B.pre w (List.mem_cons_of_mem _ h), B.notSynchronized, hK, hZ0, hA0⟩ hIx g p0 p1 hf hM va_S.rf hl

def rm_m_lightest : Room := { frames := 3, cells := 0, slots := 0, locals := 32 }
set_option maxHeartbeats 4000000 in
set_option maxRecDepth 100000 in
theorem w_m_lightest {p : Program} {l : Launch} {e : Env} {s : State} {m : MethodId} {args : Array Value} {below : List Frame} {meth : Method} {c : Code} {D : va_G} {C : Nat → Nat} {a0 : Array Value} {s0 : State} {ad : Rl → Nat} {so : Nat → Option hS} {t : hSt} {lt : Rl → Nat → Int64} (CX : hCx D C a0 s0 p s m args meth c cX5_lightest 2 RX5 (some .int)) (hIx : hI (hA s0) ad (Sum.elim so (mSH C))) (g : hSt) (p0 : Int32) {o : Int32} (hf : m_lightest g p0 = some o) {H : Heap} {locs : List Loc} (hM : hW D vwCl ad (Sum.elim so (mSH C)) (Sum.elim t g) lt H) (hS : va_S (hA s0) s.heap H locs) {ls : Array Slot} (hl : lv_has ls 2 [(0, .ref (ad (.inr 0))), (1, .int p0)]) : W p l e rm_m_lightest s m args below meth c H locs 0 0 (MQ below (va_Qi (fun (r : Int32) (_ : Unit) => r = o) (fun (_ : Unit) (U : State) => hW D vwCl ad (Sum.elim so (mSH C)) (Sum.elim t g) lt U.heap) (hA s0)) args s 0 0 (hA s0)) (F0 m 0 ls []) := by
  obtain ⟨hx, hb, hr, hml, hown, hts, hlocks, hK, hZ0, hA0⟩ := CX
  unfold m_lightest at hf
  refine lv_iconst (v := 1) hx hb dX5_lightest_0 (by decide) ?_
  refine lv_iload_n hx hb dX5_lightest_1 rfl (lv_at hl 1 rfl) ?_
  refine lv_aload_n hx hb dX5_lightest_2 rfl (lv_at hl 0 rfl) ?_
  refine hr_get (ci := 5) (C := RX5) (T := TX5) (N := 55) (r := .inr 0) hx hb hts in_X5 hown hK hM mS_0 rfl 2 (by decide) (hts _ q1370) rfl (v := .ref (ad (.inr 3))) rfl dX5_lightest_3 ?_
  refine lv_iconst (v := 3) hx hb dX5_lightest_6 (by decide) ?_
  refine hm_iald (r := 3) hx hb hK hM 0 mS_3 rfl hf dX5_lightest_7 (fun x1 hf => ?_)
  refine lv_isub hx hb dX5_lightest_8 ?_
  refine va_mmax hx hb (by rw [hml]; exact hl.1.symm) hown (hts _ q1691) (hts _ q240) (hts _ q90) (hts _ q241) (Nat.le_of_ble_eq_true rfl) (Nat.le_of_ble_eq_true rfl) (Nat.le_of_ble_eq_true rfl) (Nat.le_of_ble_eq_true rfl) dX5_lightest_9 ?_
  have eo := Option.some.inj hf
  subst eo
  exact W.iret (v := (hmax (1 : Int32) (p0 - x1))) hx hb hr (fun T ht hW => ⟨⟨(hmax (1 : Int32) (p0 - x1)), (), rfl, rfl, by dsimp only; rw [ht]; exact hM⟩, hS.F ht⟩) hS.2.2 dX5_lightest_12
set_option maxHeartbeats 4000000 in
set_option maxRecDepth 100000 in
theorem met_m_lightest (l : Launch) (D : va_G) (C : Nat → Nat) (a0 : Array Value) (s0 : State) (ad : Rl → Nat) (so : Nat → Option hS) (t : hSt) (lt : Rl → Nat → Int64) (g : hSt) (p0 : Int32) {o : Int32} (hf : m_lightest g p0 = some o) : Met l yX5_lightest (ws_ yX5_lightest cX5_lightest 2 (some .int)) rm_m_lightest (va_Pc [.ref (ad (.inr 0)), .int p0] (hB D vwCl (hT C) (hA s0) (hZ a0 s0) ad (Sum.elim so (mSH C)) (Sum.elim t g) lt)) (va_Qi (fun (r : Int32) (_ : Unit) => r = o) (fun (_ : Unit) (U : State) => hW D vwCl ad (Sum.elim so (mSH C)) (Sum.elim t g) lt U.heap) (hA s0)) 0 0 (hA s0) := by
  refine Met.ofW (cc := cX5_lightest) (maxL := 2) (ret := (some .int)) (by decide) rfl ?_
  intro p e s m args below meth c s₁ B hml hv
  obtain ⟨rfl, hM, hIx, hK, hZ0, hA0⟩ := hv
  have hl := lv_entry ([.ref (ad (.inr 0)), .int p0]) (n := 2) (Nat.le_of_ble_eq_true rfl)
  rw [lg_entry_eq]
  generalize (lg_sl ([.ref (ad (.inr 0)), .int p0]) ++ List.replicate (2 - (lg_sl ([.ref (ad (.inr 0)), .int p0])).length) Slot.unset).toArray = ls at hl ⊢
  have hl : lv_has ls 2 [(0, .ref (ad (.inr 0))), (1, .int p0)] := hl
  exact w_m_lightest ⟨B.exec, B.bytes, B.returns, hml, findClass_of_methodNamed B.named, fun w h => atoms_spec (ws := ws_ yX5_lightest cX5_lightest 2 (some .int)) B.pre w (List.mem_cons_of_mem _ h), B.notSynchronized, hK, hZ0, hA0⟩ hIx g p0 hf hM va_S.rf hl

def rm_m_troubleOf : Room := { frames := 5, cells := 0, slots := 0, locals := 61 }
set_option maxHeartbeats 4000000 in
set_option maxRecDepth 100000 in
theorem w_m_troubleOf_B119 {p : Program} {l : Launch} {e : Env} {s : State} {m : MethodId} {args : Array Value} {below : List Frame} {meth : Method} {c : Code} {D : va_G} {C : Nat → Nat} {a0 : Array Value} {s0 : State} {ad : Rl → Nat} {so : Nat → Option hS} {t : hSt} {lt : Rl → Nat → Int64} (CX : hCx D C a0 s0 p s m args meth c cX5_troubleOf 6 RX5 (some .int)) (hIx : hI (hA s0) ad (Sum.elim so (mSH C))) (g : hSt) (p0 : Int32) (p1 : Int32) (p2 : Int32) (p3 : Int32) (y1 : Int32) (y2 : Int32) (x3 : Int32) (x4 : Int32) (y5 : Int32) (x6 : Int32) (x7 : Int32) {o : Int32} (hf : m_troubleOf_B119 g p0 p1 p2 = some o) {H : Heap} {locs : List Loc} (hM : hW D vwCl ad (Sum.elim so (mSH C)) (Sum.elim t g) lt H) (hS : va_S (hA s0) s.heap H locs) {ls : Array Slot} (hl : lv_has ls 6 [(0, .ref (ad (.inr 0))), (1, .int p0), (2, .int p1), (3, .int p2)]) : W p l e rm_m_troubleOf s m args below meth c H locs 0 0 (MQ below (va_Qi (fun (r : Int32) (_ : Unit) => r = o) (fun (_ : Unit) (U : State) => hW D vwCl ad (Sum.elim so (mSH C)) (Sum.elim t g) lt U.heap) (hA s0)) args s 0 0 (hA s0)) (F0 m 119 ls []) := by
  obtain ⟨hx, hb, hr, hml, hown, hts, hlocks, hK, hZ0, hA0⟩ := CX
  unfold m_troubleOf_B119 at hf
  refine lv_aload_n hx hb dX5_troubleOf_119 rfl (lv_at hl 0 rfl) ?_
  refine lv_iload_n hx hb dX5_troubleOf_120 rfl (lv_at hl 2 rfl) ?_
  obtain ⟨y8, hq, hf⟩ := hbind hf
  refine hr_calli0 (va_runV (As := [.int p1]) (rest := []) ⟨hx, hb, hml, hown, hts⟩ (met_m_weightOf l D C a0 s0 ad so t lt g p1 hq) (cwV 1 hts (lw_V q1667 q1669 qs50 q99 q1670) rfl rfl rfl (by decide +kernel) ⟨Nat.le_of_ble_eq_true rfl, Nat.le_of_ble_eq_true rfl⟩) (hr_preV hZ_c hM hIx hK hZ0 hA0 hS (r := .inr 0) mS_0 (q := (RX5, TX5, 55)) rfl) rfl rfl hl.1 rfl (lv_room (Nat.le_of_ble_eq_true rfl)) dX5_troubleOf_121 ⟨Nat.le_of_ble_eq_true rfl, Nat.le_of_ble_eq_true rfl⟩) hS (fun H locs hM hS => ?_)
  refine lv_iload_n hx hb dX5_troubleOf_124 rfl (lv_at hl 3 rfl) ?_
  refine lv_iadd hx hb dX5_troubleOf_125 ?_
  refine hb_top hf (fun y5_9 hf => ?_)
  refine lv_istore (lv' := [(5, .int y5_9), (0, .ref (ad (.inr 0))), (1, .int p0), (2, .int p1), (3, .int p2)]) hx hb dX5_troubleOf_126 hl (by decide) rfl (fun ls hl => ?_)
  refine lv_iload hx hb dX5_troubleOf_128 (lv_at hl 0 rfl) ?_
  refine lv_aload_n hx hb dX5_troubleOf_130 rfl (lv_at hl 1 rfl) ?_
  refine lv_aload_n hx hb dX5_troubleOf_131 rfl (lv_at hl 1 rfl) ?_
  refine hr_get (ci := 5) (C := RX5) (T := TX5) (N := 55) (r := .inr 0) hx hb hts in_X5 hown hK hM mS_0 rfl 7 (by decide) (hts _ q1375) rfl (v := .ref (ad (.inr 8))) rfl dX5_troubleOf_132 ?_
  refine lv_bipush (v := 18) hx hb dX5_troubleOf_135 (by decide) ?_
  refine lv_iload_n hx hb dX5_troubleOf_137 rfl (lv_at hl 2 rfl) ?_
  refine lv_iadd hx hb dX5_troubleOf_138 ?_
  refine hm_iald (r := 8) hx hb hK hM 0 mS_8 rfl hf dX5_troubleOf_139 (fun x10 hf => ?_)
  obtain ⟨y11, hq, hf⟩ := hbind hf
  refine hr_calli0 (va_runV (As := [.int x10]) (rest := [.int y5_9]) ⟨hx, hb, hml, hown, hts⟩ (met_m_lightest l D C a0 s0 ad so t lt g x10 hq) (cwV 1 hts (lw_V q1687 q1689 qs53 q99 q1690) rfl rfl rfl (by decide +kernel) ⟨Nat.le_of_ble_eq_true rfl, Nat.le_of_ble_eq_true rfl⟩) (hr_preV hZ_c hM hIx hK hZ0 hA0 hS (r := .inr 0) mS_0 (q := (RX5, TX5, 55)) rfl) rfl rfl hl.1 rfl (lv_room (Nat.le_of_ble_eq_true rfl)) dX5_troubleOf_140 ⟨Nat.le_of_ble_eq_true rfl, Nat.le_of_ble_eq_true rfl⟩) hS (fun H locs hM hS => ?_)
  refine hb_icmp_ge (tgt := 150) hx hb dX5_troubleOf_143 (by decide) hf (fun hf => ?_) (fun hf => ?_)
  · refine lv_iload hx hb dX5_troubleOf_150 (lv_at hl 0 rfl) ?_
    refine lv_aload_n hx hb dX5_troubleOf_152 rfl (lv_at hl 1 rfl) ?_
    refine hr_get (ci := 5) (C := RX5) (T := TX5) (N := 55) (r := .inr 0) hx hb hts in_X5 hown hK hM mS_0 rfl 7 (by decide) (hts _ q1375) rfl (v := .ref (ad (.inr 8))) rfl dX5_troubleOf_153 ?_
    refine lv_bipush (v := 18) hx hb dX5_troubleOf_156 (by decide) ?_
    refine lv_iload_n hx hb dX5_troubleOf_158 rfl (lv_at hl 2 rfl) ?_
    refine lv_iadd hx hb dX5_troubleOf_159 ?_
    refine hm_iald (r := 8) hx hb hK hM 0 mS_8 rfl hf dX5_troubleOf_160 (fun x12 hf => ?_)
    refine lv_aload_n hx hb dX5_troubleOf_161 rfl (lv_at hl 1 rfl) ?_
    refine hr_get (ci := 5) (C := RX5) (T := TX5) (N := 55) (r := .inr 0) hx hb hts in_X5 hown hK hM mS_0 rfl 2 (by decide) (hts _ q1370) rfl (v := .ref (ad (.inr 3))) rfl dX5_troubleOf_162 ?_
    refine lv_iconst (v := 3) hx hb dX5_troubleOf_165 (by decide) ?_
    refine hm_iald (r := 3) hx hb hK hM 0 mS_3 rfl hf dX5_troubleOf_166 (fun x13 hf => ?_)
    refine lv_iadd hx hb dX5_troubleOf_167 ?_
    refine hb_icmp_le (tgt := 176) hx hb dX5_troubleOf_168 (by decide) hf (fun hf => ?_) (fun hf => ?_)
    · refine lv_iconst (v := 0) hx hb dX5_troubleOf_176 (by decide) ?_
      have eo := Option.some.inj hf
      subst eo
      exact W.iret (v := (0 : Int32)) hx hb hr (fun T ht hW => ⟨⟨(0 : Int32), (), rfl, rfl, by dsimp only; rw [ht]; exact hM⟩, hS.F ht⟩) hS.2.2 dX5_troubleOf_177
    · refine lv_bipush (v := 6) hx hb dX5_troubleOf_171 (by decide) ?_
      refine lv_goto (tgt := 177) hx hb dX5_troubleOf_173 (by decide) ?_
      have eo := Option.some.inj hf
      subst eo
      exact W.iret (v := (6 : Int32)) hx hb hr (fun T ht hW => ⟨⟨(6 : Int32), (), rfl, rfl, by dsimp only; rw [ht]; exact hM⟩, hS.F ht⟩) hS.2.2 dX5_troubleOf_177
  · refine lv_iconst (v := 5) hx hb dX5_troubleOf_146 (by decide) ?_
    refine lv_goto (tgt := 177) hx hb dX5_troubleOf_147 (by decide) ?_
    have eo := Option.some.inj hf
    subst eo
    exact W.iret (v := (5 : Int32)) hx hb hr (fun T ht hW => ⟨⟨(5 : Int32), (), rfl, rfl, by dsimp only; rw [ht]; exact hM⟩, hS.F ht⟩) hS.2.2 dX5_troubleOf_177
set_option maxHeartbeats 4000000 in
set_option maxRecDepth 100000 in
theorem w_m_troubleOf {p : Program} {l : Launch} {e : Env} {s : State} {m : MethodId} {args : Array Value} {below : List Frame} {meth : Method} {c : Code} {D : va_G} {C : Nat → Nat} {a0 : Array Value} {s0 : State} {ad : Rl → Nat} {so : Nat → Option hS} {t : hSt} {lt : Rl → Nat → Int64} (CX : hCx D C a0 s0 p s m args meth c cX5_troubleOf 6 RX5 (some .int)) (hIx : hI (hA s0) ad (Sum.elim so (mSH C))) (g : hSt) (p0 : Int32) (p1 : Int32) (p2 : Int32) (p3 : Int32) {o : Int32} (hf : m_troubleOf g p0 p1 p2 p3 = some o) {H : Heap} {locs : List Loc} (hM : hW D vwCl ad (Sum.elim so (mSH C)) (Sum.elim t g) lt H) (hS : va_S (hA s0) s.heap H locs) {ls : Array Slot} (hl : lv_has ls 6 [(0, .ref (ad (.inr 0))), (1, .int p0), (2, .int p1), (3, .int p2), (4, .int p3)]) : W p l e rm_m_troubleOf s m args below meth c H locs 0 0 (MQ below (va_Qi (fun (r : Int32) (_ : Unit) => r = o) (fun (_ : Unit) (U : State) => hW D vwCl ad (Sum.elim so (mSH C)) (Sum.elim t g) lt U.heap) (hA s0)) args s 0 0 (hA s0)) (F0 m 0 ls []) := by
  obtain ⟨hx, hb, hr, hml, hown, hts, hlocks, hK, hZ0, hA0⟩ := CX
  unfold m_troubleOf at hf
  refine lv_aload_n hx hb dX5_troubleOf_0 rfl (lv_at hl 0 rfl) ?_
  refine lv_iload_n hx hb dX5_troubleOf_1 rfl (lv_at hl 1 rfl) ?_
  obtain ⟨y1, hq, hf⟩ := hbind hf
  refine hr_calli0 (va_runV (As := [.int p0]) (rest := []) ⟨hx, hb, hml, hown, hts⟩ (met_m_isPerson l D C a0 s0 ad so t lt g p0 hq) (cwV 1 hts (lw_V q1655 q1657 qs47 q99 q1658) rfl rfl rfl (by decide +kernel) ⟨Nat.le_of_ble_eq_true rfl, Nat.le_of_ble_eq_true rfl⟩) (hr_preV hZ_c hM hIx hK hZ0 hA0 hS (r := .inr 0) mS_0 (q := (RX5, TX5, 55)) rfl) rfl rfl hl.1 rfl (lv_room (Nat.le_of_ble_eq_true rfl)) dX5_troubleOf_2 ⟨Nat.le_of_ble_eq_true rfl, Nat.le_of_ble_eq_true rfl⟩) hS (fun H locs hM hS => ?_)
  refine hb_if_eq (tgt := 37) hx hb dX5_troubleOf_5 (by decide) hf (fun hf => ?_) (fun hf => ?_)
  · refine lv_iconst (v := 1) hx hb dX5_troubleOf_37 (by decide) ?_
    have eo := Option.some.inj hf
    subst eo
    exact W.iret (v := (1 : Int32)) hx hb hr (fun T ht hW => ⟨⟨(1 : Int32), (), rfl, rfl, by dsimp only; rw [ht]; exact hM⟩, hS.F ht⟩) hS.2.2 dX5_troubleOf_38
  · refine lv_aload_n hx hb dX5_troubleOf_8 rfl (lv_at hl 0 rfl) ?_
    refine lv_iload hx hb dX5_troubleOf_9 (lv_at hl 4 rfl) ?_
    obtain ⟨y2, hq, hf⟩ := hbind hf
    refine hr_calli0 (va_runV (As := [.int p3]) (rest := []) ⟨hx, hb, hml, hown, hts⟩ (met_m_isPerson l D C a0 s0 ad so t lt g p3 hq) (cwV 1 hts (lw_V q1655 q1657 qs47 q99 q1658) rfl rfl rfl (by decide +kernel) ⟨Nat.le_of_ble_eq_true rfl, Nat.le_of_ble_eq_true rfl⟩) (hr_preV hZ_c hM hIx hK hZ0 hA0 hS (r := .inr 0) mS_0 (q := (RX5, TX5, 55)) rfl) rfl rfl hl.1 rfl (lv_room (Nat.le_of_ble_eq_true rfl)) dX5_troubleOf_11 ⟨Nat.le_of_ble_eq_true rfl, Nat.le_of_ble_eq_true rfl⟩) hS (fun H locs hM hS => ?_)
    refine hb_if_eq (tgt := 37) hx hb dX5_troubleOf_14 (by decide) hf (fun hf => ?_) (fun hf => ?_)
    · refine lv_iconst (v := 1) hx hb dX5_troubleOf_37 (by decide) ?_
      have eo := Option.some.inj hf
      subst eo
      exact W.iret (v := (1 : Int32)) hx hb hr (fun T ht hW => ⟨⟨(1 : Int32), (), rfl, rfl, by dsimp only; rw [ht]; exact hM⟩, hS.F ht⟩) hS.2.2 dX5_troubleOf_38
    · refine lv_iload_n hx hb dX5_troubleOf_17 rfl (lv_at hl 2 rfl) ?_
      refine hb_if_lt (tgt := 37) hx hb dX5_troubleOf_18 (by decide) hf (fun hf => ?_) (fun hf => ?_)
      · refine lv_iconst (v := 1) hx hb dX5_troubleOf_37 (by decide) ?_
        have eo := Option.some.inj hf
        subst eo
        exact W.iret (v := (1 : Int32)) hx hb hr (fun T ht hW => ⟨⟨(1 : Int32), (), rfl, rfl, by dsimp only; rw [ht]; exact hM⟩, hS.F ht⟩) hS.2.2 dX5_troubleOf_38
      · refine lv_iload_n hx hb dX5_troubleOf_21 rfl (lv_at hl 2 rfl) ?_
        refine lv_iconst (v := 1) hx hb dX5_troubleOf_22 (by decide) ?_
        refine lv_aload_n hx hb dX5_troubleOf_23 rfl (lv_at hl 0 rfl) ?_
        refine hr_get (ci := 5) (C := RX5) (T := TX5) (N := 55) (r := .inr 0) hx hb hts in_X5 hown hK hM mS_0 rfl 2 (by decide) (hts _ q1370) rfl (v := .ref (ad (.inr 3))) rfl dX5_troubleOf_24 ?_
        refine lv_iconst (v := 1) hx hb dX5_troubleOf_27 (by decide) ?_
        refine hm_iald (r := 3) hx hb hK hM 0 mS_3 rfl hf dX5_troubleOf_28 (fun x3 hf => ?_)
        refine lv_ishl hx hb dX5_troubleOf_29 ?_
        refine hb_icmp_ge (tgt := 37) hx hb dX5_troubleOf_30 (by decide) hf (fun hf => ?_) (fun hf => ?_)
        · refine lv_iconst (v := 1) hx hb dX5_troubleOf_37 (by decide) ?_
          have eo := Option.some.inj hf
          subst eo
          exact W.iret (v := (1 : Int32)) hx hb hr (fun T ht hW => ⟨⟨(1 : Int32), (), rfl, rfl, by dsimp only; rw [ht]; exact hM⟩, hS.F ht⟩) hS.2.2 dX5_troubleOf_38
        · refine lv_iload_n hx hb dX5_troubleOf_33 rfl (lv_at hl 3 rfl) ?_
          refine hb_if_ge (tgt := 39) hx hb dX5_troubleOf_34 (by decide) hf (fun hf => ?_) (fun hf => ?_)
          · refine lv_aload_n hx hb dX5_troubleOf_39 rfl (lv_at hl 0 rfl) ?_
            refine hr_get (ci := 5) (C := RX5) (T := TX5) (N := 55) (r := .inr 0) hx hb hts in_X5 hown hK hM mS_0 rfl 7 (by decide) (hts _ q1375) rfl (v := .ref (ad (.inr 8))) rfl dX5_troubleOf_40 ?_
            refine lv_bipush (v := 18) hx hb dX5_troubleOf_43 (by decide) ?_
            refine lv_iload_n hx hb dX5_troubleOf_45 rfl (lv_at hl 1 rfl) ?_
            refine lv_iadd hx hb dX5_troubleOf_46 ?_
            refine hm_iald (r := 8) hx hb hK hM 0 mS_8 rfl hf dX5_troubleOf_47 (fun x4 hf => ?_)
            refine hb_if_ne (tgt := 53) hx hb dX5_troubleOf_48 (by decide) hf (fun hf => ?_) (fun hf => ?_)
            · refine lv_iload_n hx hb dX5_troubleOf_53 rfl (lv_at hl 2 rfl) ?_
              refine lv_aload_n hx hb dX5_troubleOf_54 rfl (lv_at hl 0 rfl) ?_
              refine lv_aload_n hx hb dX5_troubleOf_55 rfl (lv_at hl 0 rfl) ?_
              refine hr_get (ci := 5) (C := RX5) (T := TX5) (N := 55) (r := .inr 0) hx hb hts in_X5 hown hK hM mS_0 rfl 7 (by decide) (hts _ q1375) rfl (v := .ref (ad (.inr 8))) rfl dX5_troubleOf_56 ?_
              refine lv_iload_n hx hb dX5_troubleOf_59 rfl (lv_at hl 1 rfl) ?_
              obtain ⟨y5, hq, hf⟩ := hbind hf
              refine hr_calli0 (va_runV (As := [.ref (ad (.inr 8)), .int p0]) (rest := [.int p1]) ⟨hx, hb, hml, hown, hts⟩ (met_m_hasOf l D C a0 s0 ad so t lt g 8 p0 ms_8 hq) (cwV 2 hts (lw_V q1659 q1661 qs48 q99 q1662) rfl rfl rfl (by decide +kernel) ⟨Nat.le_of_ble_eq_true rfl, Nat.le_of_ble_eq_true rfl⟩) (hr_preV hZ_c hM hIx hK hZ0 hA0 hS (r := .inr 0) mS_0 (q := (RX5, TX5, 55)) rfl) rfl rfl hl.1 rfl (lv_room (Nat.le_of_ble_eq_true rfl)) dX5_troubleOf_60 ⟨Nat.le_of_ble_eq_true rfl, Nat.le_of_ble_eq_true rfl⟩) hS (fun H locs hM hS => ?_)
              refine lv_iconst (v := -1) hx hb dX5_troubleOf_63 (by decide) ?_
              refine lv_ixor hx hb dX5_troubleOf_64 ?_
              refine lv_iand hx hb dX5_troubleOf_65 ?_
              refine hb_if_ne (tgt := 82) hx hb dX5_troubleOf_66 (by decide) hf (fun hf => ?_) (fun hf => ?_)
              · refine lv_iconst (v := 3) hx hb dX5_troubleOf_82 (by decide) ?_
                have eo := Option.some.inj hf
                subst eo
                exact W.iret (v := (3 : Int32)) hx hb hr (fun T ht hW => ⟨⟨(3 : Int32), (), rfl, rfl, by dsimp only; rw [ht]; exact hM⟩, hS.F ht⟩) hS.2.2 dX5_troubleOf_83
              · refine lv_iload_n hx hb dX5_troubleOf_69 rfl (lv_at hl 3 rfl) ?_
                refine lv_aload_n hx hb dX5_troubleOf_70 rfl (lv_at hl 0 rfl) ?_
                refine hr_get (ci := 5) (C := RX5) (T := TX5) (N := 55) (r := .inr 0) hx hb hts in_X5 hown hK hM mS_0 rfl 7 (by decide) (hts _ q1375) rfl (v := .ref (ad (.inr 8))) rfl dX5_troubleOf_71 ?_
                refine lv_bipush (v := 12) hx hb dX5_troubleOf_74 (by decide) ?_
                refine lv_iload_n hx hb dX5_troubleOf_76 rfl (lv_at hl 1 rfl) ?_
                refine lv_iadd hx hb dX5_troubleOf_77 ?_
                refine hm_iald (r := 8) hx hb hK hM 0 mS_8 rfl hf dX5_troubleOf_78 (fun x6 hf => ?_)
                refine hb_icmp_le (tgt := 84) hx hb dX5_troubleOf_79 (by decide) hf (fun hf => ?_) (fun hf => ?_)
                · refine lv_iload hx hb dX5_troubleOf_84 (lv_at hl 4 rfl) ?_
                  refine lv_iload_n hx hb dX5_troubleOf_86 rfl (lv_at hl 1 rfl) ?_
                  refine hb_icmp_eq (tgt := 117) hx hb dX5_troubleOf_87 (by decide) hf (fun hf => ?_) (fun hf => ?_)
                  · refine lv_iconst (v := 4) hx hb dX5_troubleOf_117 (by decide) ?_
                    have eo := Option.some.inj hf
                    subst eo
                    exact W.iret (v := (4 : Int32)) hx hb hr (fun T ht hW => ⟨⟨(4 : Int32), (), rfl, rfl, by dsimp only; rw [ht]; exact hM⟩, hS.F ht⟩) hS.2.2 dX5_troubleOf_118
                  · refine lv_aload_n hx hb dX5_troubleOf_90 rfl (lv_at hl 0 rfl) ?_
                    refine hr_get (ci := 5) (C := RX5) (T := TX5) (N := 55) (r := .inr 0) hx hb hts in_X5 hown hK hM mS_0 rfl 7 (by decide) (hts _ q1375) rfl (v := .ref (ad (.inr 8))) rfl dX5_troubleOf_91 ?_
                    refine lv_bipush (v := 24) hx hb dX5_troubleOf_94 (by decide) ?_
                    refine lv_iload_n hx hb dX5_troubleOf_96 rfl (lv_at hl 1 rfl) ?_
                    refine lv_iadd hx hb dX5_troubleOf_97 ?_
                    refine hm_iald (r := 8) hx hb hK hM 0 mS_8 rfl hf dX5_troubleOf_98 (fun x7 hf => ?_)
                    refine lv_iconst (v := -1) hx hb dX5_troubleOf_99 (by decide) ?_
                    refine hb_icmp_eq (tgt := 119) hx hb dX5_troubleOf_100 (by decide) hf (fun hf => ?_) (fun hf => ?_)
                    · exact w_m_troubleOf_B119 ⟨hx, hb, hr, hml, hown, hts, hlocks, hK, hZ0, hA0⟩ hIx g p0 p1 p2 p3 y1 y2 x3 x4 y5 x6 x7 hf hM hS (lv_sub hl [0, 1, 2, 3] rfl)
                    · refine lv_aload_n hx hb dX5_troubleOf_103 rfl (lv_at hl 0 rfl) ?_
                      refine hr_get (ci := 5) (C := RX5) (T := TX5) (N := 55) (r := .inr 0) hx hb hts in_X5 hown hK hM mS_0 rfl 7 (by decide) (hts _ q1375) rfl (v := .ref (ad (.inr 8))) rfl dX5_troubleOf_104 ?_
                      refine lv_bipush (v := 24) hx hb dX5_troubleOf_107 (by decide) ?_
                      refine lv_iload_n hx hb dX5_troubleOf_109 rfl (lv_at hl 1 rfl) ?_
                      refine lv_iadd hx hb dX5_troubleOf_110 ?_
                      refine hm_iald (r := 8) hx hb hK hM 0 mS_8 rfl hf dX5_troubleOf_111 (fun x14 hf => ?_)
                      refine lv_iload hx hb dX5_troubleOf_112 (lv_at hl 4 rfl) ?_
                      refine hb_icmp_eq (tgt := 119) hx hb dX5_troubleOf_114 (by decide) hf (fun hf => ?_) (fun hf => ?_)
                      · exact w_m_troubleOf_B119 ⟨hx, hb, hr, hml, hown, hts, hlocks, hK, hZ0, hA0⟩ hIx g p0 p1 p2 p3 y1 y2 x3 x4 y5 x6 x7 hf hM hS (lv_sub hl [0, 1, 2, 3] rfl)
                      · refine lv_iconst (v := 4) hx hb dX5_troubleOf_117 (by decide) ?_
                        have eo := Option.some.inj hf
                        subst eo
                        exact W.iret (v := (4 : Int32)) hx hb hr (fun T ht hW => ⟨⟨(4 : Int32), (), rfl, rfl, by dsimp only; rw [ht]; exact hM⟩, hS.F ht⟩) hS.2.2 dX5_troubleOf_118
                · refine lv_iconst (v := 3) hx hb dX5_troubleOf_82 (by decide) ?_
                  have eo := Option.some.inj hf
                  subst eo
                  exact W.iret (v := (3 : Int32)) hx hb hr (fun T ht hW => ⟨⟨(3 : Int32), (), rfl, rfl, by dsimp only; rw [ht]; exact hM⟩, hS.F ht⟩) hS.2.2 dX5_troubleOf_83
            · refine lv_iconst (v := 2) hx hb dX5_troubleOf_51 (by decide) ?_
              have eo := Option.some.inj hf
              subst eo
              exact W.iret (v := (2 : Int32)) hx hb hr (fun T ht hW => ⟨⟨(2 : Int32), (), rfl, rfl, by dsimp only; rw [ht]; exact hM⟩, hS.F ht⟩) hS.2.2 dX5_troubleOf_52
          · refine lv_iconst (v := 1) hx hb dX5_troubleOf_37 (by decide) ?_
            have eo := Option.some.inj hf
            subst eo
            exact W.iret (v := (1 : Int32)) hx hb hr (fun T ht hW => ⟨⟨(1 : Int32), (), rfl, rfl, by dsimp only; rw [ht]; exact hM⟩, hS.F ht⟩) hS.2.2 dX5_troubleOf_38
set_option maxHeartbeats 4000000 in
set_option maxRecDepth 100000 in
theorem met_m_troubleOf (l : Launch) (D : va_G) (C : Nat → Nat) (a0 : Array Value) (s0 : State) (ad : Rl → Nat) (so : Nat → Option hS) (t : hSt) (lt : Rl → Nat → Int64) (g : hSt) (p0 : Int32) (p1 : Int32) (p2 : Int32) (p3 : Int32) {o : Int32} (hf : m_troubleOf g p0 p1 p2 p3 = some o) : Met l yX5_troubleOf (ws_ yX5_troubleOf cX5_troubleOf 6 (some .int)) rm_m_troubleOf (va_Pc [.ref (ad (.inr 0)), .int p0, .int p1, .int p2, .int p3] (hB D vwCl (hT C) (hA s0) (hZ a0 s0) ad (Sum.elim so (mSH C)) (Sum.elim t g) lt)) (va_Qi (fun (r : Int32) (_ : Unit) => r = o) (fun (_ : Unit) (U : State) => hW D vwCl ad (Sum.elim so (mSH C)) (Sum.elim t g) lt U.heap) (hA s0)) 0 0 (hA s0) := by
  refine Met.ofW (cc := cX5_troubleOf) (maxL := 6) (ret := (some .int)) (by decide) rfl ?_
  intro p e s m args below meth c s₁ B hml hv
  obtain ⟨rfl, hM, hIx, hK, hZ0, hA0⟩ := hv
  have hl := lv_entry ([.ref (ad (.inr 0)), .int p0, .int p1, .int p2, .int p3]) (n := 6) (Nat.le_of_ble_eq_true rfl)
  rw [lg_entry_eq]
  generalize (lg_sl ([.ref (ad (.inr 0)), .int p0, .int p1, .int p2, .int p3]) ++ List.replicate (6 - (lg_sl ([.ref (ad (.inr 0)), .int p0, .int p1, .int p2, .int p3])).length) Slot.unset).toArray = ls at hl ⊢
  have hl : lv_has ls 6 [(0, .ref (ad (.inr 0))), (1, .int p0), (2, .int p1), (3, .int p2), (4, .int p3)] := hl
  exact w_m_troubleOf ⟨B.exec, B.bytes, B.returns, hml, findClass_of_methodNamed B.named, fun w h => atoms_spec (ws := ws_ yX5_troubleOf cX5_troubleOf 6 (some .int)) B.pre w (List.mem_cons_of_mem _ h), B.notSynchronized, hK, hZ0, hA0⟩ hIx g p0 p1 p2 p3 hf hM va_S.rf hl

def rm_m_judge : Room := { frames := 7, cells := 0, slots := 0, locals := 87 }
set_option maxHeartbeats 4000000 in
set_option maxRecDepth 100000 in
theorem w_m_judge {p : Program} {l : Launch} {e : Env} {s : State} {m : MethodId} {args : Array Value} {below : List Frame} {meth : Method} {c : Code} {D : va_G} {C : Nat → Nat} {a0 : Array Value} {s0 : State} {ad : Rl → Nat} {so : Nat → Option hS} {t : hSt} {lt : Rl → Nat → Int64} (CX : hCx D C a0 s0 p s m args meth c cX5_judge 5 RX5 (some .int)) (hIx : hI (hA s0) ad (Sum.elim so (mSH C))) (g : hSt) (p0 : Int32) (p1 : Int32) (p2 : Int32) (p3 : Int32) {o : Int32 × hSt} (hf : m_judge g p0 p1 p2 p3 = some o) {H : Heap} {locs : List Loc} (hM : hW D vwCl ad (Sum.elim so (mSH C)) (Sum.elim t g) lt H) (hS : va_S (hA s0) s.heap H locs) {ls : Array Slot} (hl : lv_has ls 5 [(0, .ref (ad (.inr 0))), (1, .int p0), (2, .int p1), (3, .int p2), (4, .int p3)]) : W p l e rm_m_judge s m args below meth c H locs 0 0 (MQ below (va_Qi (fun (r : Int32) (_ : Unit) => r = o.1) (fun (_ : Unit) (U : State) => hW D vwCl ad (Sum.elim so (mSH C)) (Sum.elim t o.2) lt U.heap) (hA s0)) args s 0 0 (hA s0)) (F0 m 0 ls []) := by
  obtain ⟨hx, hb, hr, hml, hown, hts, hlocks, hK, hZ0, hA0⟩ := CX
  unfold m_judge at hf
  refine lv_aload_n hx hb dX5_judge_0 rfl (lv_at hl 0 rfl) ?_
  refine lv_iconst (v := 0) hx hb dX5_judge_1 (by decide) ?_
  refine hm_put (r := 0) (ci := 5) (C := RX5) (T := TX5) (N := 55) hx hb hts in_X5 tyX5 tyX5_ok nmX5 hown hK hM hIx hS mS_0 rfl 1 (by decide) (hts _ q1369) rfl rfl rfl hf dX5_judge_2 (fun g1 H locs hf hM hS => ?_)
  refine lv_aload_n hx hb dX5_judge_5 rfl (lv_at hl 0 rfl) ?_
  refine lv_iload_n hx hb dX5_judge_6 rfl (lv_at hl 1 rfl) ?_
  refine lv_iload_n hx hb dX5_judge_7 rfl (lv_at hl 2 rfl) ?_
  refine lv_iload_n hx hb dX5_judge_8 rfl (lv_at hl 3 rfl) ?_
  refine lv_iload hx hb dX5_judge_9 (lv_at hl 4 rfl) ?_
  obtain ⟨y2, hq, hf⟩ := hbind hf
  refine hr_calli0 (va_runV (As := [.int p0, .int p1, .int p2, .int p3]) (rest := []) ⟨hx, hb, hml, hown, hts⟩ (met_m_troubleOf l D C a0 s0 ad so t lt g1 p0 p1 p2 p3 hq) (cwV 4 hts (lw_V q1683 q1685 qs52 q99 q1686) rfl rfl rfl (by decide +kernel) ⟨Nat.le_of_ble_eq_true rfl, Nat.le_of_ble_eq_true rfl⟩) (hr_preV hZ_c hM hIx hK hZ0 hA0 hS (r := .inr 0) mS_0 (q := (RX5, TX5, 55)) rfl) rfl rfl hl.1 rfl (lv_room (Nat.le_of_ble_eq_true rfl)) dX5_judge_11 ⟨Nat.le_of_ble_eq_true rfl, Nat.le_of_ble_eq_true rfl⟩) hS (fun H locs hM hS => ?_)
  have eo := Option.some.inj hf
  subst eo
  exact W.iret (v := y2) hx hb hr (fun T ht hW => ⟨⟨y2, (), rfl, rfl, by dsimp only; rw [ht]; exact hM⟩, hS.F ht⟩) hS.2.2 dX5_judge_14
set_option maxHeartbeats 4000000 in
set_option maxRecDepth 100000 in
theorem met_m_judge (l : Launch) (D : va_G) (C : Nat → Nat) (a0 : Array Value) (s0 : State) (ad : Rl → Nat) (so : Nat → Option hS) (t : hSt) (lt : Rl → Nat → Int64) (g : hSt) (p0 : Int32) (p1 : Int32) (p2 : Int32) (p3 : Int32) {o : Int32 × hSt} (hf : m_judge g p0 p1 p2 p3 = some o) : Met l yX5_judge (ws_ yX5_judge cX5_judge 5 (some .int)) rm_m_judge (va_Pc [.ref (ad (.inr 0)), .int p0, .int p1, .int p2, .int p3] (hB D vwCl (hT C) (hA s0) (hZ a0 s0) ad (Sum.elim so (mSH C)) (Sum.elim t g) lt)) (va_Qi (fun (r : Int32) (_ : Unit) => r = o.1) (fun (_ : Unit) (U : State) => hW D vwCl ad (Sum.elim so (mSH C)) (Sum.elim t o.2) lt U.heap) (hA s0)) 0 0 (hA s0) := by
  refine Met.ofW (cc := cX5_judge) (maxL := 5) (ret := (some .int)) (by decide) rfl ?_
  intro p e s m args below meth c s₁ B hml hv
  obtain ⟨rfl, hM, hIx, hK, hZ0, hA0⟩ := hv
  have hl := lv_entry ([.ref (ad (.inr 0)), .int p0, .int p1, .int p2, .int p3]) (n := 5) (Nat.le_of_ble_eq_true rfl)
  rw [lg_entry_eq]
  generalize (lg_sl ([.ref (ad (.inr 0)), .int p0, .int p1, .int p2, .int p3]) ++ List.replicate (5 - (lg_sl ([.ref (ad (.inr 0)), .int p0, .int p1, .int p2, .int p3])).length) Slot.unset).toArray = ls at hl ⊢
  have hl : lv_has ls 5 [(0, .ref (ad (.inr 0))), (1, .int p0), (2, .int p1), (3, .int p2), (4, .int p3)] := hl
  exact w_m_judge ⟨B.exec, B.bytes, B.returns, hml, findClass_of_methodNamed B.named, fun w h => atoms_spec (ws := ws_ yX5_judge cX5_judge 5 (some .int)) B.pre w (List.mem_cons_of_mem _ h), B.notSynchronized, hK, hZ0, hA0⟩ hIx g p0 p1 p2 p3 hf hM va_S.rf hl

def rm_m_make : Room := { frames := 3, cells := 0, slots := 0, locals := 40 }
set_option maxHeartbeats 4000000 in
set_option maxRecDepth 100000 in
theorem w_m_make_L13 {p : Program} {l : Launch} {e : Env} {s : State} {m : MethodId} {args : Array Value} {below : List Frame} {meth : Method} {c : Code} {D : va_G} {C : Nat → Nat} {a0 : Array Value} {s0 : State} {ad : Rl → Nat} {so : Nat → Option hS} {t : hSt} {lt : Rl → Nat → Int64} (CX : hCx D C a0 s0 p s m args meth c cX5_make 8 RX5 (some .int)) (hIx : hI (hA s0) ad (Sum.elim so (mSH C))) (g : hSt) (r0 : Nat) (p1 : Int32) (p2 : Int32) (p3 : Int32) (p4 : Int32) (y1 : Int32) (y6_2 : Int32) (h_r0 : mSH C r0 = some (.inl (C 0, 30, false))) {oM : Int32 × hSt} (x : hSt) (n : Nat) (q0 : Int32 × hSt) (h0 : hiter (fun q : Int32 × hSt => m_make_L13 r0 p2 p4 q.1 q.2) n q0 = some x) (kx0 : ∀ (H : Heap) (locs : List Loc) (ls : Array Slot), hW D vwCl ad (Sum.elim so (mSH C)) (Sum.elim t x) lt H → va_S (hA s0) s.heap H locs → lv_has ls 8 [(0, .ref (ad (.inr 0))), (1, .ref (ad (.inr r0))), (2, .int p1), (4, .int p3), (5, .int p4), (6, .int y6_2)] → W p l e rm_m_make s m args below meth c H locs 0 0 (MQ below (va_Qi (fun (r : Int32) (_ : Unit) => r = oM.1) (fun (_ : Unit) (U : State) => hW D vwCl ad (Sum.elim so (mSH C)) (Sum.elim t oM.2) lt U.heap) (hA s0)) args s 0 0 (hA s0)) (F0 m 46 ls [])) : ∀ (H : Heap) (locs : List Loc) (ls : Array Slot), hW D vwCl ad (Sum.elim so (mSH C)) (Sum.elim t q0.2) lt H → va_S (hA s0) s.heap H locs → lv_has ls 8 [(0, .ref (ad (.inr 0))), (1, .ref (ad (.inr r0))), (2, .int p1), (3, .int p2), (4, .int p3), (5, .int p4), (6, .int y6_2), (7, .int q0.1)] → W p l e rm_m_make s m args below meth c H locs 0 0 (MQ below (va_Qi (fun (r : Int32) (_ : Unit) => r = oM.1) (fun (_ : Unit) (U : State) => hW D vwCl ad (Sum.elim so (mSH C)) (Sum.elim t oM.2) lt U.heap) (hA s0)) args s 0 0 (hA s0)) (F0 m 13 ls []) := by
  obtain ⟨hx, hb, hr, hml, hown, hts, hlocks, hK, hZ0, hA0⟩ := CX
  refine hiter_W (Wh := fun q => ∀ (H : Heap) (locs : List Loc) (ls : Array Slot), hW D vwCl ad (Sum.elim so (mSH C)) (Sum.elim t q.2) lt H → va_S (hA s0) s.heap H locs → lv_has ls 8 [(0, .ref (ad (.inr 0))), (1, .ref (ad (.inr r0))), (2, .int p1), (3, .int p2), (4, .int p3), (5, .int p4), (6, .int y6_2), (7, .int q.1)] → W p l e rm_m_make s m args below meth c H locs 0 0 (MQ below (va_Qi (fun (r : Int32) (_ : Unit) => r = oM.1) (fun (_ : Unit) (U : State) => hW D vwCl ad (Sum.elim so (mSH C)) (Sum.elim t oM.2) lt U.heap) (hA s0)) args s 0 0 (hA s0)) (F0 m 13 ls [])) ?_ n q0 h0
  intro q o hf kc kx1 H locs ls hM hS hl
  obtain ⟨v7_13, g_13⟩ := q
  replace hf : m_make_L13 r0 p2 p4 v7_13 g_13 = some o := hf
  have kx : ∀ x' : hSt, o = .inr x' → ∀ (H : Heap) (locs : List Loc) (ls : Array Slot), hW D vwCl ad (Sum.elim so (mSH C)) (Sum.elim t x') lt H → va_S (hA s0) s.heap H locs → lv_has ls 8 [(0, .ref (ad (.inr 0))), (1, .ref (ad (.inr r0))), (2, .int p1), (4, .int p3), (5, .int p4), (6, .int y6_2)] → W p l e rm_m_make s m args below meth c H locs 0 0 (MQ below (va_Qi (fun (r : Int32) (_ : Unit) => r = oM.1) (fun (_ : Unit) (U : State) => hW D vwCl ad (Sum.elim so (mSH C)) (Sum.elim t oM.2) lt U.heap) (hA s0)) args s 0 0 (hA s0)) (F0 m 46 ls []) := fun x' ex => by rw [kx1 _ ex]; exact kx0
  unfold m_make_L13 at hf
  refine lv_iload hx hb dX5_make_13 (lv_at hl 7 rfl) ?_
  refine lv_aload_n hx hb dX5_make_15 rfl (lv_at hl 0 rfl) ?_
  refine hr_get (ci := 5) (C := RX5) (T := TX5) (N := 55) (r := .inr 0) hx hb hts in_X5 hown hK hM mS_0 rfl 2 (by decide) (hts _ q1370) rfl (v := .ref (ad (.inr 3))) rfl dX5_make_16 ?_
  refine lv_iconst (v := 1) hx hb dX5_make_19 (by decide) ?_
  refine hm_iald (r := 3) hx hb hK hM 0 mS_3 rfl hf dX5_make_20 (fun x3 hf => ?_)
  refine hb_icmp_ge (tgt := 46) hx hb dX5_make_21 (by decide) hf (fun hf => ?_) (fun hf => ?_)
  · exact kx g_13 (Option.some.inj hf).symm H locs ls hM hS (lv_sub hl [0, 1, 2, 4, 5, 6] rfl)
  · refine lv_iload_n hx hb dX5_make_24 rfl (lv_at hl 3 rfl) ?_
    refine lv_iload hx hb dX5_make_25 (lv_at hl 7 rfl) ?_
    refine lv_ishr hx hb dX5_make_27 ?_
    refine lv_iconst (v := 1) hx hb dX5_make_28 (by decide) ?_
    refine lv_iand hx hb dX5_make_29 ?_
    refine lv_iconst (v := 1) hx hb dX5_make_30 (by decide) ?_
    refine hb_icmp_ne (tgt := 40) hx hb dX5_make_31 (by decide) hf (fun hf => ?_) (fun hf => ?_)
    · obtain ⟨y7_4, ey, hf⟩ := hlet_ex hf
      refine lv_iinc (v := y7_4) (lv' := [(7, .int y7_4), (0, .ref (ad (.inr 0))), (1, .ref (ad (.inr r0))), (2, .int p1), (3, .int p2), (4, .int p3), (5, .int p4), (6, .int y6_2)]) hx hb dX5_make_40 hl (k := 7) rfl (by rw [ey]; rfl) (by decide) rfl (fun ls hl => ?_)
      refine lv_goto (tgt := 13) hx hb dX5_make_43 (by decide) ?_
      exact kc (y7_4, g_13) (Option.some.inj hf).symm H locs ls hM hS (lv_sub hl [1, 2, 3, 4, 5, 6, 7, 0] rfl)
    · refine lv_aload_n hx hb dX5_make_34 rfl (lv_at hl 1 rfl) ?_
      refine lv_iload hx hb dX5_make_35 (lv_at hl 7 rfl) ?_
      refine lv_iload hx hb dX5_make_37 (lv_at hl 5 rfl) ?_
      refine hm_iast (r := r0) hx hb hK hM hIx hS 0 h_r0 rfl hf dX5_make_39 (fun g5 H locs hf hM hS => ?_)
      obtain ⟨y7_6, ey, hf⟩ := hlet_ex hf
      refine lv_iinc (v := y7_6) (lv' := [(7, .int y7_6), (0, .ref (ad (.inr 0))), (1, .ref (ad (.inr r0))), (2, .int p1), (3, .int p2), (4, .int p3), (5, .int p4), (6, .int y6_2)]) hx hb dX5_make_40 hl (k := 7) rfl (by rw [ey]; rfl) (by decide) rfl (fun ls hl => ?_)
      refine lv_goto (tgt := 13) hx hb dX5_make_43 (by decide) ?_
      exact kc (y7_6, g5) (Option.some.inj hf).symm H locs ls hM hS (lv_sub hl [1, 2, 3, 4, 5, 6, 7, 0] rfl)
set_option maxHeartbeats 4000000 in
set_option maxRecDepth 100000 in
theorem w_m_make {p : Program} {l : Launch} {e : Env} {s : State} {m : MethodId} {args : Array Value} {below : List Frame} {meth : Method} {c : Code} {D : va_G} {C : Nat → Nat} {a0 : Array Value} {s0 : State} {ad : Rl → Nat} {so : Nat → Option hS} {t : hSt} {lt : Rl → Nat → Int64} (CX : hCx D C a0 s0 p s m args meth c cX5_make 8 RX5 (some .int)) (hIx : hI (hA s0) ad (Sum.elim so (mSH C))) (g : hSt) (r0 : Nat) (p1 : Int32) (p2 : Int32) (p3 : Int32) (p4 : Int32) (h_r0 : mSH C r0 = some (.inl (C 0, 30, false))) {o : Int32 × hSt} (hf : m_make g r0 p1 p2 p3 p4 = some o) {H : Heap} {locs : List Loc} (hM : hW D vwCl ad (Sum.elim so (mSH C)) (Sum.elim t g) lt H) (hS : va_S (hA s0) s.heap H locs) {ls : Array Slot} (hl : lv_has ls 8 [(0, .ref (ad (.inr 0))), (1, .ref (ad (.inr r0))), (2, .int p1), (3, .int p2), (4, .int p3), (5, .int p4)]) : W p l e rm_m_make s m args below meth c H locs 0 0 (MQ below (va_Qi (fun (r : Int32) (_ : Unit) => r = o.1) (fun (_ : Unit) (U : State) => hW D vwCl ad (Sum.elim so (mSH C)) (Sum.elim t o.2) lt U.heap) (hA s0)) args s 0 0 (hA s0)) (F0 m 0 ls []) := by
  obtain ⟨hx, hb, hr, hml, hown, hts, hlocks, hK, hZ0, hA0⟩ := CX
  unfold m_make at hf
  refine lv_aload_n hx hb dX5_make_0 rfl (lv_at hl 0 rfl) ?_
  refine lv_iload_n hx hb dX5_make_1 rfl (lv_at hl 3 rfl) ?_
  obtain ⟨y1, hq, hf⟩ := hbind hf
  refine hr_calli0 (va_runV (As := [.int p2]) (rest := []) ⟨hx, hb, hml, hown, hts⟩ (met_m_weightOf l D C a0 s0 ad so t lt g p2 hq) (cwV 1 hts (lw_V q1667 q1669 qs50 q99 q1670) rfl rfl rfl (by decide +kernel) ⟨Nat.le_of_ble_eq_true rfl, Nat.le_of_ble_eq_true rfl⟩) (hr_preV hZ_c hM hIx hK hZ0 hA0 hS (r := .inr 0) mS_0 (q := (RX5, TX5, 55)) rfl) rfl rfl hl.1 rfl (lv_room (Nat.le_of_ble_eq_true rfl)) dX5_make_2 ⟨Nat.le_of_ble_eq_true rfl, Nat.le_of_ble_eq_true rfl⟩) hS (fun H locs hM hS => ?_)
  refine lv_iload hx hb dX5_make_5 (lv_at hl 4 rfl) ?_
  refine lv_iadd hx hb dX5_make_7 ?_
  refine hb_top hf (fun y6_2 hf => ?_)
  refine lv_istore (lv' := [(6, .int y6_2), (0, .ref (ad (.inr 0))), (1, .ref (ad (.inr r0))), (2, .int p1), (3, .int p2), (4, .int p3), (5, .int p4)]) hx hb dX5_make_8 hl (by decide) rfl (fun ls hl => ?_)
  refine lv_iconst (v := 0) hx hb dX5_make_10 (by decide) ?_
  refine lv_istore (lv' := [(7, .int (0 : Int32)), (6, .int y6_2), (0, .ref (ad (.inr 0))), (1, .ref (ad (.inr r0))), (2, .int p1), (3, .int p2), (4, .int p3), (5, .int p4)]) hx hb dX5_make_11 hl (by decide) rfl (fun ls hl => ?_)
  obtain ⟨x7, hq, hf⟩ := hbind hf
  refine w_m_make_L13 ⟨hx, hb, hr, hml, hown, hts, hlocks, hK, hZ0, hA0⟩ hIx g r0 p1 p2 p3 p4 y1 y6_2 h_r0 x7 hFU ((0 : Int32), g) hq (fun H locs ls hM hS hl => ?_) H locs ls hM hS (lv_sub hl [2, 3, 4, 5, 6, 7, 1, 0] rfl)
  refine lv_aload_n hx hb dX5_make_46 rfl (lv_at hl 1 rfl) ?_
  refine lv_bipush (v := 12) hx hb dX5_make_47 (by decide) ?_
  refine lv_iload_n hx hb dX5_make_49 rfl (lv_at hl 2 rfl) ?_
  refine lv_iadd hx hb dX5_make_50 ?_
  refine lv_dup2_11 hx hb dX5_make_51 rfl rfl ?_
  refine hm_iald (r := r0) hx hb hK hM 0 h_r0 rfl hf dX5_make_52 (fun x8 hf => ?_)
  refine lv_iload hx hb dX5_make_53 (lv_at hl 3 rfl) ?_
  refine lv_isub hx hb dX5_make_55 ?_
  refine hm_iast (r := r0) hx hb hK hM hIx hS 0 h_r0 rfl hf dX5_make_56 (fun g9 H locs hf hM hS => ?_)
  refine lv_aload_n hx hb dX5_make_57 rfl (lv_at hl 1 rfl) ?_
  refine lv_bipush (v := 12) hx hb dX5_make_58 (by decide) ?_
  refine lv_iload hx hb dX5_make_60 (lv_at hl 4 rfl) ?_
  refine lv_iadd hx hb dX5_make_62 ?_
  refine lv_dup2_11 hx hb dX5_make_63 rfl rfl ?_
  refine hm_iald (r := r0) hx hb hK hM 0 h_r0 rfl hf dX5_make_64 (fun x10 hf => ?_)
  refine lv_iload hx hb dX5_make_65 (lv_at hl 3 rfl) ?_
  refine lv_iadd hx hb dX5_make_67 ?_
  refine hm_iast (r := r0) hx hb hK hM hIx hS 0 h_r0 rfl hf dX5_make_68 (fun g11 H locs hf hM hS => ?_)
  refine lv_aload_n hx hb dX5_make_69 rfl (lv_at hl 1 rfl) ?_
  refine lv_bipush (v := 18) hx hb dX5_make_70 (by decide) ?_
  refine lv_iload_n hx hb dX5_make_72 rfl (lv_at hl 2 rfl) ?_
  refine lv_iadd hx hb dX5_make_73 ?_
  refine lv_iconst (v := 0) hx hb dX5_make_74 (by decide) ?_
  refine hm_iast (r := r0) hx hb hK hM hIx hS 0 h_r0 rfl hf dX5_make_75 (fun g12 H locs hf hM hS => ?_)
  refine lv_aload_n hx hb dX5_make_76 rfl (lv_at hl 1 rfl) ?_
  refine lv_bipush (v := 24) hx hb dX5_make_77 (by decide) ?_
  refine lv_iload_n hx hb dX5_make_79 rfl (lv_at hl 2 rfl) ?_
  refine lv_iadd hx hb dX5_make_80 ?_
  refine lv_iconst (v := -1) hx hb dX5_make_81 (by decide) ?_
  refine hm_iast (r := r0) hx hb hK hM hIx hS 0 h_r0 rfl hf dX5_make_82 (fun g13 H locs hf hM hS => ?_)
  refine lv_aload_n hx hb dX5_make_83 rfl (lv_at hl 1 rfl) ?_
  refine lv_bipush (v := 18) hx hb dX5_make_84 (by decide) ?_
  refine lv_iload hx hb dX5_make_86 (lv_at hl 4 rfl) ?_
  refine lv_iadd hx hb dX5_make_88 ?_
  refine lv_iload hx hb dX5_make_89 (lv_at hl 5 rfl) ?_
  refine hm_iast (r := r0) hx hb hK hM hIx hS 0 h_r0 rfl hf dX5_make_91 (fun g14 H locs hf hM hS => ?_)
  refine lv_aload_n hx hb dX5_make_92 rfl (lv_at hl 1 rfl) ?_
  refine lv_bipush (v := 24) hx hb dX5_make_93 (by decide) ?_
  refine lv_iload hx hb dX5_make_95 (lv_at hl 4 rfl) ?_
  refine lv_iadd hx hb dX5_make_97 ?_
  refine lv_aload_n hx hb dX5_make_98 rfl (lv_at hl 0 rfl) ?_
  refine hr_get (ci := 5) (C := RX5) (T := TX5) (N := 55) (r := .inr 0) hx hb hts in_X5 hown hK hM mS_0 rfl 2 (by decide) (hts _ q1370) rfl (v := .ref (ad (.inr 3))) rfl dX5_make_99 ?_
  refine lv_iconst (v := 2) hx hb dX5_make_102 (by decide) ?_
  refine hm_iald (r := 3) hx hb hK hM 0 mS_3 rfl hf dX5_make_103 (fun x15 hf => ?_)
  refine hb_if_ne (tgt := 111) hx hb dX5_make_104 (by decide) hf (fun hf => ?_) (fun hf => ?_)
  · refine lv_iconst (v := -1) hx hb dX5_make_111 (by decide) ?_
    refine hm_iast (r := r0) hx hb hK hM hIx hS 0 h_r0 rfl hf dX5_make_112 (fun g16 H locs hf hM hS => ?_)
    refine lv_iload hx hb dX5_make_113 (lv_at hl 5 rfl) ?_
    have eo := Option.some.inj hf
    subst eo
    exact W.iret (v := y6_2) hx hb hr (fun T ht hW => ⟨⟨y6_2, (), rfl, rfl, by dsimp only; rw [ht]; exact hM⟩, hS.F ht⟩) hS.2.2 dX5_make_115
  · refine lv_iload_n hx hb dX5_make_107 rfl (lv_at hl 2 rfl) ?_
    refine lv_goto (tgt := 112) hx hb dX5_make_108 (by decide) ?_
    refine hm_iast (r := r0) hx hb hK hM hIx hS 0 h_r0 rfl hf dX5_make_112 (fun g17 H locs hf hM hS => ?_)
    refine lv_iload hx hb dX5_make_113 (lv_at hl 5 rfl) ?_
    have eo := Option.some.inj hf
    subst eo
    exact W.iret (v := y6_2) hx hb hr (fun T ht hW => ⟨⟨y6_2, (), rfl, rfl, by dsimp only; rw [ht]; exact hM⟩, hS.F ht⟩) hS.2.2 dX5_make_115
set_option maxHeartbeats 4000000 in
set_option maxRecDepth 100000 in
theorem met_m_make (l : Launch) (D : va_G) (C : Nat → Nat) (a0 : Array Value) (s0 : State) (ad : Rl → Nat) (so : Nat → Option hS) (t : hSt) (lt : Rl → Nat → Int64) (g : hSt) (r0 : Nat) (p1 : Int32) (p2 : Int32) (p3 : Int32) (p4 : Int32) (h_r0 : mSH C r0 = some (.inl (C 0, 30, false))) {o : Int32 × hSt} (hf : m_make g r0 p1 p2 p3 p4 = some o) : Met l yX5_make (ws_ yX5_make cX5_make 8 (some .int)) rm_m_make (va_Pc [.ref (ad (.inr 0)), .ref (ad (.inr r0)), .int p1, .int p2, .int p3, .int p4] (hB D vwCl (hT C) (hA s0) (hZ a0 s0) ad (Sum.elim so (mSH C)) (Sum.elim t g) lt)) (va_Qi (fun (r : Int32) (_ : Unit) => r = o.1) (fun (_ : Unit) (U : State) => hW D vwCl ad (Sum.elim so (mSH C)) (Sum.elim t o.2) lt U.heap) (hA s0)) 0 0 (hA s0) := by
  refine Met.ofW (cc := cX5_make) (maxL := 8) (ret := (some .int)) (by decide) rfl ?_
  intro p e s m args below meth c s₁ B hml hv
  obtain ⟨rfl, hM, hIx, hK, hZ0, hA0⟩ := hv
  have hl := lv_entry ([.ref (ad (.inr 0)), .ref (ad (.inr r0)), .int p1, .int p2, .int p3, .int p4]) (n := 8) (Nat.le_of_ble_eq_true rfl)
  rw [lg_entry_eq]
  generalize (lg_sl ([.ref (ad (.inr 0)), .ref (ad (.inr r0)), .int p1, .int p2, .int p3, .int p4]) ++ List.replicate (8 - (lg_sl ([.ref (ad (.inr 0)), .ref (ad (.inr r0)), .int p1, .int p2, .int p3, .int p4])).length) Slot.unset).toArray = ls at hl ⊢
  have hl : lv_has ls 8 [(0, .ref (ad (.inr 0))), (1, .ref (ad (.inr r0))), (2, .int p1), (3, .int p2), (4, .int p3), (5, .int p4)] := hl
  exact w_m_make ⟨B.exec, B.bytes, B.returns, hml, findClass_of_methodNamed B.named, fun w h => atoms_spec (ws := ws_ yX5_make cX5_make 8 (some .int)) B.pre w (List.mem_cons_of_mem _ h), B.notSynchronized, hK, hZ0, hA0⟩ hIx g r0 p1 p2 p3 p4 h_r0 hf hM va_S.rf hl

def rm_m_makeNow : Room := { frames := 5, cells := 0, slots := 0, locals := 68 }
set_option maxHeartbeats 4000000 in
set_option maxRecDepth 100000 in
theorem w_m_makeNow {p : Program} {l : Launch} {e : Env} {s : State} {m : MethodId} {args : Array Value} {below : List Frame} {meth : Method} {c : Code} {D : va_G} {C : Nat → Nat} {a0 : Array Value} {s0 : State} {ad : Rl → Nat} {so : Nat → Option hS} {t : hSt} {lt : Rl → Nat → Int64} (CX : hCx D C a0 s0 p s m args meth c cX5_makeNow 6 RX5 (none)) (hIx : hI (hA s0) ad (Sum.elim so (mSH C))) (g : hSt) (p0 : Int32) (p1 : Int32) (p2 : Int32) (p3 : Int32) {o : hSt} (hf : m_makeNow g p0 p1 p2 p3 = some o) {H : Heap} {locs : List Loc} (hM : hW D vwCl ad (Sum.elim so (mSH C)) (Sum.elim t g) lt H) (hS : va_S (hA s0) s.heap H locs) {ls : Array Slot} (hl : lv_has ls 6 [(0, .ref (ad (.inr 0))), (1, .int p0), (2, .int p1), (3, .int p2), (4, .int p3)]) : W p l e rm_m_makeNow s m args below meth c H locs 0 0 (MQ below (va_Qv (fun (_ : Unit) => True) (fun (_ : Unit) (U : State) => hW D vwCl ad (Sum.elim so (mSH C)) (Sum.elim t o) lt U.heap) (hA s0)) args s 0 0 (hA s0)) (F0 m 0 ls []) := by
  obtain ⟨hx, hb, hr, hml, hown, hts, hlocks, hK, hZ0, hA0⟩ := CX
  unfold m_makeNow at hf
  refine lv_bipush (v := 9) hx hb dX5_makeNow_0 (by decide) ?_
  refine lv_aload_n hx hb dX5_makeNow_2 rfl (lv_at hl 0 rfl) ?_
  refine hr_get (ci := 5) (C := RX5) (T := TX5) (N := 55) (r := .inr 0) hx hb hts in_X5 hown hK hM mS_0 rfl 24 (by decide) (hts _ q1392) rfl (v := .int (g 0 24)) rfl dX5_makeNow_3 ?_
  refine lv_imul hx hb dX5_makeNow_6 ?_
  refine hb_top hf (fun y5_1 hf => ?_)
  refine lv_istore (lv' := [(5, .int y5_1), (0, .ref (ad (.inr 0))), (1, .int p0), (2, .int p1), (3, .int p2), (4, .int p3)]) hx hb dX5_makeNow_7 hl (by decide) rfl (fun ls hl => ?_)
  refine lv_aload_n hx hb dX5_makeNow_9 rfl (lv_at hl 1 rfl) ?_
  refine hr_get (ci := 5) (C := RX5) (T := TX5) (N := 55) (r := .inr 0) hx hb hts in_X5 hown hK hM mS_0 rfl 25 (by decide) (hts _ q1393) rfl (v := .ref (ad (.inr 26))) rfl dX5_makeNow_10 ?_
  refine lv_iload hx hb dX5_makeNow_13 (lv_at hl 0 rfl) ?_
  refine lv_iload_n hx hb dX5_makeNow_15 rfl (lv_at hl 2 rfl) ?_
  refine hm_iast (r := 26) hx hb hK hM hIx hS 0 mS_26 rfl hf dX5_makeNow_16 (fun g2 H locs hf hM hS => ?_)
  refine lv_aload_n hx hb dX5_makeNow_17 rfl (lv_at hl 1 rfl) ?_
  refine hr_get (ci := 5) (C := RX5) (T := TX5) (N := 55) (r := .inr 0) hx hb hts in_X5 hown hK hM mS_0 rfl 25 (by decide) (hts _ q1393) rfl (v := .ref (ad (.inr 26))) rfl dX5_makeNow_18 ?_
  refine lv_iload hx hb dX5_makeNow_21 (lv_at hl 0 rfl) ?_
  refine lv_iconst (v := 1) hx hb dX5_makeNow_23 (by decide) ?_
  refine lv_iadd hx hb dX5_makeNow_24 ?_
  refine lv_iload_n hx hb dX5_makeNow_25 rfl (lv_at hl 3 rfl) ?_
  refine hm_iast (r := 26) hx hb hK hM hIx hS 0 mS_26 rfl hf dX5_makeNow_26 (fun g3 H locs hf hM hS => ?_)
  refine lv_aload_n hx hb dX5_makeNow_27 rfl (lv_at hl 1 rfl) ?_
  refine hr_get (ci := 5) (C := RX5) (T := TX5) (N := 55) (r := .inr 0) hx hb hts in_X5 hown hK hM mS_0 rfl 25 (by decide) (hts _ q1393) rfl (v := .ref (ad (.inr 26))) rfl dX5_makeNow_28 ?_
  refine lv_iload hx hb dX5_makeNow_31 (lv_at hl 0 rfl) ?_
  refine lv_iconst (v := 2) hx hb dX5_makeNow_33 (by decide) ?_
  refine lv_iadd hx hb dX5_makeNow_34 ?_
  refine lv_iload_n hx hb dX5_makeNow_35 rfl (lv_at hl 4 rfl) ?_
  refine hm_iast (r := 26) hx hb hK hM hIx hS 0 mS_26 rfl hf dX5_makeNow_36 (fun g4 H locs hf hM hS => ?_)
  refine lv_aload_n hx hb dX5_makeNow_37 rfl (lv_at hl 1 rfl) ?_
  refine hr_get (ci := 5) (C := RX5) (T := TX5) (N := 55) (r := .inr 0) hx hb hts in_X5 hown hK hM mS_0 rfl 25 (by decide) (hts _ q1393) rfl (v := .ref (ad (.inr 26))) rfl dX5_makeNow_38 ?_
  refine lv_iload hx hb dX5_makeNow_41 (lv_at hl 0 rfl) ?_
  refine lv_iconst (v := 3) hx hb dX5_makeNow_43 (by decide) ?_
  refine lv_iadd hx hb dX5_makeNow_44 ?_
  refine lv_iload hx hb dX5_makeNow_45 (lv_at hl 5 rfl) ?_
  refine hm_iast (r := 26) hx hb hK hM hIx hS 0 mS_26 rfl hf dX5_makeNow_47 (fun g5 H locs hf hM hS => ?_)
  refine lv_aload_n hx hb dX5_makeNow_48 rfl (lv_at hl 1 rfl) ?_
  refine hr_get (ci := 5) (C := RX5) (T := TX5) (N := 55) (r := .inr 0) hx hb hts in_X5 hown hK hM mS_0 rfl 25 (by decide) (hts _ q1393) rfl (v := .ref (ad (.inr 26))) rfl dX5_makeNow_49 ?_
  refine lv_iload hx hb dX5_makeNow_52 (lv_at hl 0 rfl) ?_
  refine lv_iconst (v := 5) hx hb dX5_makeNow_54 (by decide) ?_
  refine lv_iadd hx hb dX5_makeNow_55 ?_
  refine lv_aload_n hx hb dX5_makeNow_56 rfl (lv_at hl 1 rfl) ?_
  refine hr_get (ci := 5) (C := RX5) (T := TX5) (N := 55) (r := .inr 0) hx hb hts in_X5 hown hK hM mS_0 rfl 7 (by decide) (hts _ q1375) rfl (v := .ref (ad (.inr 8))) rfl dX5_makeNow_57 ?_
  refine lv_bipush (v := 18) hx hb dX5_makeNow_60 (by decide) ?_
  refine lv_iload_n hx hb dX5_makeNow_62 rfl (lv_at hl 2 rfl) ?_
  refine lv_iadd hx hb dX5_makeNow_63 ?_
  refine hm_iald (r := 8) hx hb hK hM 0 mS_8 rfl hf dX5_makeNow_64 (fun x6 hf => ?_)
  refine hm_iast (r := 26) hx hb hK hM hIx hS 0 mS_26 rfl hf dX5_makeNow_65 (fun g7 H locs hf hM hS => ?_)
  refine lv_aload_n hx hb dX5_makeNow_66 rfl (lv_at hl 1 rfl) ?_
  refine hr_get (ci := 5) (C := RX5) (T := TX5) (N := 55) (r := .inr 0) hx hb hts in_X5 hown hK hM mS_0 rfl 25 (by decide) (hts _ q1393) rfl (v := .ref (ad (.inr 26))) rfl dX5_makeNow_67 ?_
  refine lv_iload hx hb dX5_makeNow_70 (lv_at hl 0 rfl) ?_
  refine lv_bipush (v := 6) hx hb dX5_makeNow_72 (by decide) ?_
  refine lv_iadd hx hb dX5_makeNow_74 ?_
  refine lv_aload_n hx hb dX5_makeNow_75 rfl (lv_at hl 1 rfl) ?_
  refine hr_get (ci := 5) (C := RX5) (T := TX5) (N := 55) (r := .inr 0) hx hb hts in_X5 hown hK hM mS_0 rfl 7 (by decide) (hts _ q1375) rfl (v := .ref (ad (.inr 8))) rfl dX5_makeNow_76 ?_
  refine lv_bipush (v := 24) hx hb dX5_makeNow_79 (by decide) ?_
  refine lv_iload_n hx hb dX5_makeNow_81 rfl (lv_at hl 2 rfl) ?_
  refine lv_iadd hx hb dX5_makeNow_82 ?_
  refine hm_iald (r := 8) hx hb hK hM 0 mS_8 rfl hf dX5_makeNow_83 (fun x8 hf => ?_)
  refine hm_iast (r := 26) hx hb hK hM hIx hS 0 mS_26 rfl hf dX5_makeNow_84 (fun g9 H locs hf hM hS => ?_)
  refine lv_aload_n hx hb dX5_makeNow_85 rfl (lv_at hl 1 rfl) ?_
  refine hr_get (ci := 5) (C := RX5) (T := TX5) (N := 55) (r := .inr 0) hx hb hts in_X5 hown hK hM mS_0 rfl 25 (by decide) (hts _ q1393) rfl (v := .ref (ad (.inr 26))) rfl dX5_makeNow_86 ?_
  refine lv_iload hx hb dX5_makeNow_89 (lv_at hl 0 rfl) ?_
  refine lv_bipush (v := 7) hx hb dX5_makeNow_91 (by decide) ?_
  refine lv_iadd hx hb dX5_makeNow_93 ?_
  refine lv_aload_n hx hb dX5_makeNow_94 rfl (lv_at hl 1 rfl) ?_
  refine hr_get (ci := 5) (C := RX5) (T := TX5) (N := 55) (r := .inr 0) hx hb hts in_X5 hown hK hM mS_0 rfl 7 (by decide) (hts _ q1375) rfl (v := .ref (ad (.inr 8))) rfl dX5_makeNow_95 ?_
  refine lv_bipush (v := 18) hx hb dX5_makeNow_98 (by decide) ?_
  refine lv_iload hx hb dX5_makeNow_100 (lv_at hl 5 rfl) ?_
  refine lv_iadd hx hb dX5_makeNow_102 ?_
  refine hm_iald (r := 8) hx hb hK hM 0 mS_8 rfl hf dX5_makeNow_103 (fun x10 hf => ?_)
  refine hm_iast (r := 26) hx hb hK hM hIx hS 0 mS_26 rfl hf dX5_makeNow_104 (fun g11 H locs hf hM hS => ?_)
  refine lv_aload_n hx hb dX5_makeNow_105 rfl (lv_at hl 1 rfl) ?_
  refine hr_get (ci := 5) (C := RX5) (T := TX5) (N := 55) (r := .inr 0) hx hb hts in_X5 hown hK hM mS_0 rfl 25 (by decide) (hts _ q1393) rfl (v := .ref (ad (.inr 26))) rfl dX5_makeNow_106 ?_
  refine lv_iload hx hb dX5_makeNow_109 (lv_at hl 0 rfl) ?_
  refine lv_bipush (v := 8) hx hb dX5_makeNow_111 (by decide) ?_
  refine lv_iadd hx hb dX5_makeNow_113 ?_
  refine lv_aload_n hx hb dX5_makeNow_114 rfl (lv_at hl 1 rfl) ?_
  refine hr_get (ci := 5) (C := RX5) (T := TX5) (N := 55) (r := .inr 0) hx hb hts in_X5 hown hK hM mS_0 rfl 7 (by decide) (hts _ q1375) rfl (v := .ref (ad (.inr 8))) rfl dX5_makeNow_115 ?_
  refine lv_bipush (v := 24) hx hb dX5_makeNow_118 (by decide) ?_
  refine lv_iload hx hb dX5_makeNow_120 (lv_at hl 5 rfl) ?_
  refine lv_iadd hx hb dX5_makeNow_122 ?_
  refine hm_iald (r := 8) hx hb hK hM 0 mS_8 rfl hf dX5_makeNow_123 (fun x12 hf => ?_)
  refine hm_iast (r := 26) hx hb hK hM hIx hS 0 mS_26 rfl hf dX5_makeNow_124 (fun g13 H locs hf hM hS => ?_)
  refine lv_aload_n hx hb dX5_makeNow_125 rfl (lv_at hl 1 rfl) ?_
  refine hr_get (ci := 5) (C := RX5) (T := TX5) (N := 55) (r := .inr 0) hx hb hts in_X5 hown hK hM mS_0 rfl 25 (by decide) (hts _ q1393) rfl (v := .ref (ad (.inr 26))) rfl dX5_makeNow_126 ?_
  refine lv_iload hx hb dX5_makeNow_129 (lv_at hl 0 rfl) ?_
  refine lv_iconst (v := 4) hx hb dX5_makeNow_131 (by decide) ?_
  refine lv_iadd hx hb dX5_makeNow_132 ?_
  refine lv_aload_n hx hb dX5_makeNow_133 rfl (lv_at hl 1 rfl) ?_
  refine lv_aload_n hx hb dX5_makeNow_134 rfl (lv_at hl 1 rfl) ?_
  refine hr_get (ci := 5) (C := RX5) (T := TX5) (N := 55) (r := .inr 0) hx hb hts in_X5 hown hK hM mS_0 rfl 7 (by decide) (hts _ q1375) rfl (v := .ref (ad (.inr 8))) rfl dX5_makeNow_135 ?_
  refine lv_iload_n hx hb dX5_makeNow_138 rfl (lv_at hl 2 rfl) ?_
  refine lv_iload_n hx hb dX5_makeNow_139 rfl (lv_at hl 3 rfl) ?_
  refine lv_iload_n hx hb dX5_makeNow_140 rfl (lv_at hl 4 rfl) ?_
  refine lv_iload hx hb dX5_makeNow_141 (lv_at hl 5 rfl) ?_
  obtain ⟨y14, hq, hf⟩ := hbind hf
  refine hr_calli0 (va_runV (As := [.ref (ad (.inr 8)), .int p0, .int p1, .int p2, .int p3]) (rest := [.int (y5_1 + (4 : Int32)), .ref (ad (.inr 26))]) ⟨hx, hb, hml, hown, hts⟩ (met_m_make l D C a0 s0 ad so t lt g13 8 p0 p1 p2 p3 ms_8 hq) (cwV 5 hts (lw_V q1700 q1702 qs55 q99 q1703) rfl rfl rfl (by decide +kernel) ⟨Nat.le_of_ble_eq_true rfl, Nat.le_of_ble_eq_true rfl⟩) (hr_preV hZ_c hM hIx hK hZ0 hA0 hS (r := .inr 0) mS_0 (q := (RX5, TX5, 55)) rfl) rfl rfl hl.1 rfl (lv_room (Nat.le_of_ble_eq_true rfl)) dX5_makeNow_143 ⟨Nat.le_of_ble_eq_true rfl, Nat.le_of_ble_eq_true rfl⟩) hS (fun H locs hM hS => ?_)
  refine hm_iast (r := 26) hx hb hK hM hIx hS 0 mS_26 rfl hf dX5_makeNow_146 (fun g15 H locs hf hM hS => ?_)
  refine lv_aload_n hx hb dX5_makeNow_147 rfl (lv_at hl 1 rfl) ?_
  refine lv_dup hx hb dX5_makeNow_148 rfl ?_
  refine hr_get (ci := 5) (C := RX5) (T := TX5) (N := 55) (r := .inr 0) hx hb hts in_X5 hown hK hM mS_0 rfl 24 (by decide) (hts _ q1392) rfl (v := .int (g15 0 24)) rfl dX5_makeNow_149 ?_
  refine lv_iconst (v := 1) hx hb dX5_makeNow_152 (by decide) ?_
  refine lv_iadd hx hb dX5_makeNow_153 ?_
  refine hm_put (r := 0) (ci := 5) (C := RX5) (T := TX5) (N := 55) hx hb hts in_X5 tyX5 tyX5_ok nmX5 hown hK hM hIx hS mS_0 rfl 24 (by decide) (hts _ q1392) rfl rfl rfl hf dX5_makeNow_154 (fun g16 H locs hf hM hS => ?_)
  have eo := Option.some.inj hf
  subst eo
  exact W.vret hx hb hr (fun T ht hW => ⟨⟨(), rfl, trivial, by dsimp only; rw [ht]; exact hM⟩, hS.F ht⟩) hS.2.2 dX5_makeNow_157
set_option maxHeartbeats 4000000 in
set_option maxRecDepth 100000 in
theorem met_m_makeNow (l : Launch) (D : va_G) (C : Nat → Nat) (a0 : Array Value) (s0 : State) (ad : Rl → Nat) (so : Nat → Option hS) (t : hSt) (lt : Rl → Nat → Int64) (g : hSt) (p0 : Int32) (p1 : Int32) (p2 : Int32) (p3 : Int32) {o : hSt} (hf : m_makeNow g p0 p1 p2 p3 = some o) : Met l yX5_makeNow (ws_ yX5_makeNow cX5_makeNow 6 (none)) rm_m_makeNow (va_Pc [.ref (ad (.inr 0)), .int p0, .int p1, .int p2, .int p3] (hB D vwCl (hT C) (hA s0) (hZ a0 s0) ad (Sum.elim so (mSH C)) (Sum.elim t g) lt)) (va_Qv (fun (_ : Unit) => True) (fun (_ : Unit) (U : State) => hW D vwCl ad (Sum.elim so (mSH C)) (Sum.elim t o) lt U.heap) (hA s0)) 0 0 (hA s0) := by
  refine Met.ofW (cc := cX5_makeNow) (maxL := 6) (ret := (none)) (by decide) rfl ?_
  intro p e s m args below meth c s₁ B hml hv
  obtain ⟨rfl, hM, hIx, hK, hZ0, hA0⟩ := hv
  have hl := lv_entry ([.ref (ad (.inr 0)), .int p0, .int p1, .int p2, .int p3]) (n := 6) (Nat.le_of_ble_eq_true rfl)
  rw [lg_entry_eq]
  generalize (lg_sl ([.ref (ad (.inr 0)), .int p0, .int p1, .int p2, .int p3]) ++ List.replicate (6 - (lg_sl ([.ref (ad (.inr 0)), .int p0, .int p1, .int p2, .int p3])).length) Slot.unset).toArray = ls at hl ⊢
  have hl : lv_has ls 6 [(0, .ref (ad (.inr 0))), (1, .int p0), (2, .int p1), (3, .int p2), (4, .int p3)] := hl
  exact w_m_makeNow ⟨B.exec, B.bytes, B.returns, hml, findClass_of_methodNamed B.named, fun w h => atoms_spec (ws := ws_ yX5_makeNow cX5_makeNow 6 (none)) B.pre w (List.mem_cons_of_mem _ h), B.notSynchronized, hK, hZ0, hA0⟩ hIx g p0 p1 p2 p3 hf hM va_S.rf hl

def rm_m_give : Room := { frames := 7, cells := 0, slots := 0, locals := 94 }
set_option maxHeartbeats 4000000 in
set_option maxRecDepth 100000 in
theorem w_m_give_B38 {p : Program} {l : Launch} {e : Env} {s : State} {m : MethodId} {args : Array Value} {below : List Frame} {meth : Method} {c : Code} {D : va_G} {C : Nat → Nat} {a0 : Array Value} {s0 : State} {ad : Rl → Nat} {so : Nat → Option hS} {t : hSt} {lt : Rl → Nat → Int64} (CX : hCx D C a0 s0 p s m args meth c cX5_give 6 RX5 (some .int)) (hIx : hI (hA s0) ad (Sum.elim so (mSH C))) (g : hSt) (p0 : Int32) (p1 : Int32) (p2 : Int32) (p3 : Int32) (g1 : hSt) (y2 : Int32) (k0_38 : Int32) {o : Int32 × hSt} (hf : m_give_B38 p0 p1 p2 p3 g1 k0_38 = some o) {H : Heap} {locs : List Loc} (hM : hW D vwCl ad (Sum.elim so (mSH C)) (Sum.elim t g1) lt H) (hS : va_S (hA s0) s.heap H locs) {ls : Array Slot} (hl : lv_has ls 6 [(0, .ref (ad (.inr 0))), (1, .int p0), (2, .int p1), (3, .int p2), (4, .int p3)]) : W p l e rm_m_give s m args below meth c H locs 0 0 (MQ below (va_Qi (fun (r : Int32) (_ : Unit) => r = o.1) (fun (_ : Unit) (U : State) => hW D vwCl ad (Sum.elim so (mSH C)) (Sum.elim t o.2) lt U.heap) (hA s0)) args s 0 0 (hA s0)) (F0 m 38 ls [.int k0_38]) := by
  obtain ⟨hx, hb, hr, hml, hown, hts, hlocks, hK, hZ0, hA0⟩ := CX
  unfold m_give_B38 at hf
  refine lv_istore (lv' := [(5, .int k0_38), (0, .ref (ad (.inr 0))), (1, .int p0), (2, .int p1), (3, .int p2), (4, .int p3)]) hx hb dX5_give_38 hl (by decide) rfl (fun ls hl => ?_)
  refine lv_iload hx hb dX5_give_40 (lv_at hl 0 rfl) ?_
  refine hb_if_eq (tgt := 58) hx hb dX5_give_42 (by decide) hf (fun hf => ?_) (fun hf => ?_)
  · refine lv_aload_n hx hb dX5_give_58 rfl (lv_at hl 1 rfl) ?_
    refine lv_iload_n hx hb dX5_give_59 rfl (lv_at hl 2 rfl) ?_
    refine lv_iload_n hx hb dX5_give_60 rfl (lv_at hl 3 rfl) ?_
    refine lv_iload_n hx hb dX5_give_61 rfl (lv_at hl 4 rfl) ?_
    refine lv_iload hx hb dX5_give_62 (lv_at hl 5 rfl) ?_
    obtain ⟨y3, hq, hf⟩ := hbind hf
    refine hr_callv0 (va_runV (As := [.int p0, .int p1, .int p2, .int p3]) (rest := []) ⟨hx, hb, hml, hown, hts⟩ (met_m_makeNow l D C a0 s0 ad so t lt g1 p0 p1 p2 p3 hq) (cwV 4 hts (lw_V q1696 q1698 qs54 q99 q1699) rfl rfl rfl (by decide +kernel) ⟨Nat.le_of_ble_eq_true rfl, Nat.le_of_ble_eq_true rfl⟩) (hr_preV hZ_c hM hIx hK hZ0 hA0 hS (r := .inr 0) mS_0 (q := (RX5, TX5, 55)) rfl) rfl rfl hl.1 rfl (lv_room (Nat.le_of_ble_eq_true rfl)) dX5_give_64 ⟨Nat.le_of_ble_eq_true rfl, Nat.le_of_ble_eq_true rfl⟩) hS (fun H locs hM hS => ?_)
    refine lv_iconst (v := 0) hx hb dX5_give_67 (by decide) ?_
    have eo := Option.some.inj hf
    subst eo
    exact W.iret (v := (0 : Int32)) hx hb hr (fun T ht hW => ⟨⟨(0 : Int32), (), rfl, rfl, by dsimp only; rw [ht]; exact hM⟩, hS.F ht⟩) hS.2.2 dX5_give_68
  · refine lv_aload_n hx hb dX5_give_45 rfl (lv_at hl 1 rfl) ?_
    refine hr_get (ci := 5) (C := RX5) (T := TX5) (N := 55) (r := .inr 0) hx hb hts in_X5 hown hK hM mS_0 rfl 6 (by decide) (hts _ q1374) rfl (v := .ref (ad (.inr 7))) rfl dX5_give_46 ?_
    refine lv_iconst (v := 1) hx hb dX5_give_49 (by decide) ?_
    refine lv_dup2_11 hx hb dX5_give_50 rfl rfl ?_
    refine hm_iald (r := 7) hx hb hK hM 0 mS_7 rfl hf dX5_give_51 (fun x4 hf => ?_)
    refine lv_iconst (v := 1) hx hb dX5_give_52 (by decide) ?_
    refine lv_iadd hx hb dX5_give_53 ?_
    refine hm_iast (r := 7) hx hb hK hM hIx hS 0 mS_7 rfl hf dX5_give_54 (fun g5 H locs hf hM hS => ?_)
    refine lv_iload hx hb dX5_give_55 (lv_at hl 0 rfl) ?_
    have eo := Option.some.inj hf
    subst eo
    exact W.iret (v := k0_38) hx hb hr (fun T ht hW => ⟨⟨k0_38, (), rfl, rfl, by dsimp only; rw [ht]; exact hM⟩, hS.F ht⟩) hS.2.2 dX5_give_57
set_option maxHeartbeats 4000000 in
set_option maxRecDepth 100000 in
theorem w_m_give_B36 {p : Program} {l : Launch} {e : Env} {s : State} {m : MethodId} {args : Array Value} {below : List Frame} {meth : Method} {c : Code} {D : va_G} {C : Nat → Nat} {a0 : Array Value} {s0 : State} {ad : Rl → Nat} {so : Nat → Option hS} {t : hSt} {lt : Rl → Nat → Int64} (CX : hCx D C a0 s0 p s m args meth c cX5_give 6 RX5 (some .int)) (hIx : hI (hA s0) ad (Sum.elim so (mSH C))) (g : hSt) (p0 : Int32) (p1 : Int32) (p2 : Int32) (p3 : Int32) (g1 : hSt) (y2 : Int32) {o : Int32 × hSt} (hf : m_give_B36 p0 p1 p2 p3 g1 y2 = some o) {H : Heap} {locs : List Loc} (hM : hW D vwCl ad (Sum.elim so (mSH C)) (Sum.elim t g1) lt H) (hS : va_S (hA s0) s.heap H locs) {ls : Array Slot} (hl : lv_has ls 6 [(0, .ref (ad (.inr 0))), (1, .int p0), (2, .int p1), (3, .int p2), (4, .int p3), (5, .int y2)]) : W p l e rm_m_give s m args below meth c H locs 0 0 (MQ below (va_Qi (fun (r : Int32) (_ : Unit) => r = o.1) (fun (_ : Unit) (U : State) => hW D vwCl ad (Sum.elim so (mSH C)) (Sum.elim t o.2) lt U.heap) (hA s0)) args s 0 0 (hA s0)) (F0 m 36 ls []) := by
  obtain ⟨hx, hb, hr, hml, hown, hts, hlocks, hK, hZ0, hA0⟩ := CX
  unfold m_give_B36 at hf
  refine lv_iload hx hb dX5_give_36 (lv_at hl 5 rfl) ?_
  exact w_m_give_B38 ⟨hx, hb, hr, hml, hown, hts, hlocks, hK, hZ0, hA0⟩ hIx g p0 p1 p2 p3 g1 y2 y2 hf hM hS (lv_sub hl [0, 1, 2, 3, 4] rfl)
set_option maxHeartbeats 4000000 in
set_option maxRecDepth 100000 in
theorem w_m_give {p : Program} {l : Launch} {e : Env} {s : State} {m : MethodId} {args : Array Value} {below : List Frame} {meth : Method} {c : Code} {D : va_G} {C : Nat → Nat} {a0 : Array Value} {s0 : State} {ad : Rl → Nat} {so : Nat → Option hS} {t : hSt} {lt : Rl → Nat → Int64} (CX : hCx D C a0 s0 p s m args meth c cX5_give 6 RX5 (some .int)) (hIx : hI (hA s0) ad (Sum.elim so (mSH C))) (g : hSt) (p0 : Int32) (p1 : Int32) (p2 : Int32) (p3 : Int32) {o : Int32 × hSt} (hf : m_give g p0 p1 p2 p3 = some o) {H : Heap} {locs : List Loc} (hM : hW D vwCl ad (Sum.elim so (mSH C)) (Sum.elim t g) lt H) (hS : va_S (hA s0) s.heap H locs) {ls : Array Slot} (hl : lv_has ls 6 [(0, .ref (ad (.inr 0))), (1, .int p0), (2, .int p1), (3, .int p2), (4, .int p3)]) : W p l e rm_m_give s m args below meth c H locs 0 0 (MQ below (va_Qi (fun (r : Int32) (_ : Unit) => r = o.1) (fun (_ : Unit) (U : State) => hW D vwCl ad (Sum.elim so (mSH C)) (Sum.elim t o.2) lt U.heap) (hA s0)) args s 0 0 (hA s0)) (F0 m 0 ls []) := by
  obtain ⟨hx, hb, hr, hml, hown, hts, hlocks, hK, hZ0, hA0⟩ := CX
  unfold m_give at hf
  refine lv_aload_n hx hb dX5_give_0 rfl (lv_at hl 0 rfl) ?_
  refine lv_iconst (v := 0) hx hb dX5_give_1 (by decide) ?_
  refine hm_put (r := 0) (ci := 5) (C := RX5) (T := TX5) (N := 55) hx hb hts in_X5 tyX5 tyX5_ok nmX5 hown hK hM hIx hS mS_0 rfl 1 (by decide) (hts _ q1369) rfl rfl rfl hf dX5_give_2 (fun g1 H locs hf hM hS => ?_)
  refine lv_aload_n hx hb dX5_give_5 rfl (lv_at hl 0 rfl) ?_
  refine lv_iload_n hx hb dX5_give_6 rfl (lv_at hl 1 rfl) ?_
  refine lv_iload_n hx hb dX5_give_7 rfl (lv_at hl 2 rfl) ?_
  refine lv_iload_n hx hb dX5_give_8 rfl (lv_at hl 3 rfl) ?_
  refine lv_iload hx hb dX5_give_9 (lv_at hl 4 rfl) ?_
  obtain ⟨y2, hq, hf⟩ := hbind hf
  refine hr_calli0 (va_runV (As := [.int p0, .int p1, .int p2, .int p3]) (rest := []) ⟨hx, hb, hml, hown, hts⟩ (met_m_troubleOf l D C a0 s0 ad so t lt g1 p0 p1 p2 p3 hq) (cwV 4 hts (lw_V q1683 q1685 qs52 q99 q1686) rfl rfl rfl (by decide +kernel) ⟨Nat.le_of_ble_eq_true rfl, Nat.le_of_ble_eq_true rfl⟩) (hr_preV hZ_c hM hIx hK hZ0 hA0 hS (r := .inr 0) mS_0 (q := (RX5, TX5, 55)) rfl) rfl rfl hl.1 rfl (lv_room (Nat.le_of_ble_eq_true rfl)) dX5_give_11 ⟨Nat.le_of_ble_eq_true rfl, Nat.le_of_ble_eq_true rfl⟩) hS (fun H locs hM hS => ?_)
  refine lv_istore (lv' := [(5, .int y2), (0, .ref (ad (.inr 0))), (1, .int p0), (2, .int p1), (3, .int p2), (4, .int p3)]) hx hb dX5_give_14 hl (by decide) rfl (fun ls hl => ?_)
  refine lv_iload hx hb dX5_give_16 (lv_at hl 0 rfl) ?_
  refine hb_if_ne (tgt := 36) hx hb dX5_give_18 (by decide) hf (fun hf => ?_) (fun hf => ?_)
  · exact w_m_give_B36 ⟨hx, hb, hr, hml, hown, hts, hlocks, hK, hZ0, hA0⟩ hIx g p0 p1 p2 p3 g1 y2 hf hM hS (lv_sub hl [1, 2, 3, 4, 5, 0] rfl)
  · refine lv_aload_n hx hb dX5_give_21 rfl (lv_at hl 1 rfl) ?_
    refine hr_get (ci := 5) (C := RX5) (T := TX5) (N := 55) (r := .inr 0) hx hb hts in_X5 hown hK hM mS_0 rfl 24 (by decide) (hts _ q1392) rfl (v := .int (g1 0 24)) rfl dX5_give_22 ?_
    refine lv_sipush (v := 200) hx hb dX5_give_25 (by decide) ?_
    refine hb_icmp_ne (tgt := 36) hx hb dX5_give_28 (by decide) hf (fun hf => ?_) (fun hf => ?_)
    · exact w_m_give_B36 ⟨hx, hb, hr, hml, hown, hts, hlocks, hK, hZ0, hA0⟩ hIx g p0 p1 p2 p3 g1 y2 hf hM hS (lv_sub hl [1, 2, 3, 4, 5, 0] rfl)
    · refine lv_bipush (v := 7) hx hb dX5_give_31 (by decide) ?_
      refine lv_goto (tgt := 38) hx hb dX5_give_33 (by decide) ?_
      exact w_m_give_B38 ⟨hx, hb, hr, hml, hown, hts, hlocks, hK, hZ0, hA0⟩ hIx g p0 p1 p2 p3 g1 y2 (7 : Int32) hf hM hS (lv_sub hl [1, 2, 3, 4, 5] rfl)
set_option maxHeartbeats 4000000 in
set_option maxRecDepth 100000 in
theorem met_m_give (l : Launch) (D : va_G) (C : Nat → Nat) (a0 : Array Value) (s0 : State) (ad : Rl → Nat) (so : Nat → Option hS) (t : hSt) (lt : Rl → Nat → Int64) (g : hSt) (p0 : Int32) (p1 : Int32) (p2 : Int32) (p3 : Int32) {o : Int32 × hSt} (hf : m_give g p0 p1 p2 p3 = some o) : Met l yX5_give (ws_ yX5_give cX5_give 6 (some .int)) rm_m_give (va_Pc [.ref (ad (.inr 0)), .int p0, .int p1, .int p2, .int p3] (hB D vwCl (hT C) (hA s0) (hZ a0 s0) ad (Sum.elim so (mSH C)) (Sum.elim t g) lt)) (va_Qi (fun (r : Int32) (_ : Unit) => r = o.1) (fun (_ : Unit) (U : State) => hW D vwCl ad (Sum.elim so (mSH C)) (Sum.elim t o.2) lt U.heap) (hA s0)) 0 0 (hA s0) := by
  refine Met.ofW (cc := cX5_give) (maxL := 6) (ret := (some .int)) (by decide) rfl ?_
  intro p e s m args below meth c s₁ B hml hv
  obtain ⟨rfl, hM, hIx, hK, hZ0, hA0⟩ := hv
  have hl := lv_entry ([.ref (ad (.inr 0)), .int p0, .int p1, .int p2, .int p3]) (n := 6) (Nat.le_of_ble_eq_true rfl)
  rw [lg_entry_eq]
  generalize (lg_sl ([.ref (ad (.inr 0)), .int p0, .int p1, .int p2, .int p3]) ++ List.replicate (6 - (lg_sl ([.ref (ad (.inr 0)), .int p0, .int p1, .int p2, .int p3])).length) Slot.unset).toArray = ls at hl ⊢
  have hl : lv_has ls 6 [(0, .ref (ad (.inr 0))), (1, .int p0), (2, .int p1), (3, .int p2), (4, .int p3)] := hl
  exact w_m_give ⟨B.exec, B.bytes, B.returns, hml, findClass_of_methodNamed B.named, fun w h => atoms_spec (ws := ws_ yX5_give cX5_give 6 (some .int)) B.pre w (List.mem_cons_of_mem _ h), B.notSynchronized, hK, hZ0, hA0⟩ hIx g p0 p1 p2 p3 hf hM va_S.rf hl

def rm_m_undo : Room := { frames := 1, cells := 0, slots := 0, locals := 16 }
set_option maxHeartbeats 4000000 in
set_option maxRecDepth 100000 in
theorem w_m_undo_L51 {p : Program} {l : Launch} {e : Env} {s : State} {m : MethodId} {args : Array Value} {below : List Frame} {meth : Method} {c : Code} {D : va_G} {C : Nat → Nat} {a0 : Array Value} {s0 : State} {ad : Rl → Nat} {so : Nat → Option hS} {t : hSt} {lt : Rl → Nat → Int64} (CX : hCx D C a0 s0 p s m args meth c cX5_undo 5 RX5 (some .int)) (hIx : hI (hA s0) ad (Sum.elim so (mSH C))) (g : hSt) (g1 : hSt) (g2 : hSt) (y1_3 : Int32) (x4 : Int32) (x5 : Int32) {oM : Int32 × hSt} (x : hSt) (n : Nat) (q0 : Int32 × hSt) (h0 : hiter (fun q : Int32 × hSt => m_undo_L51 y1_3 x4 q.1 q.2) n q0 = some x) (kx0 : ∀ (H : Heap) (locs : List Loc) (ls : Array Slot), hW D vwCl ad (Sum.elim so (mSH C)) (Sum.elim t x) lt H → va_S (hA s0) s.heap H locs → lv_has ls 5 [(0, .ref (ad (.inr 0))), (1, .int y1_3), (2, .int x4), (3, .int x5)] → W p l e rm_m_undo s m args below meth c H locs 0 0 (MQ below (va_Qi (fun (r : Int32) (_ : Unit) => r = oM.1) (fun (_ : Unit) (U : State) => hW D vwCl ad (Sum.elim so (mSH C)) (Sum.elim t oM.2) lt U.heap) (hA s0)) args s 0 0 (hA s0)) (F0 m 93 ls [])) : ∀ (H : Heap) (locs : List Loc) (ls : Array Slot), hW D vwCl ad (Sum.elim so (mSH C)) (Sum.elim t q0.2) lt H → va_S (hA s0) s.heap H locs → lv_has ls 5 [(0, .ref (ad (.inr 0))), (1, .int y1_3), (2, .int x4), (3, .int x5), (4, .int q0.1)] → W p l e rm_m_undo s m args below meth c H locs 0 0 (MQ below (va_Qi (fun (r : Int32) (_ : Unit) => r = oM.1) (fun (_ : Unit) (U : State) => hW D vwCl ad (Sum.elim so (mSH C)) (Sum.elim t oM.2) lt U.heap) (hA s0)) args s 0 0 (hA s0)) (F0 m 51 ls []) := by
  obtain ⟨hx, hb, hr, hml, hown, hts, hlocks, hK, hZ0, hA0⟩ := CX
  refine hiter_W (Wh := fun q => ∀ (H : Heap) (locs : List Loc) (ls : Array Slot), hW D vwCl ad (Sum.elim so (mSH C)) (Sum.elim t q.2) lt H → va_S (hA s0) s.heap H locs → lv_has ls 5 [(0, .ref (ad (.inr 0))), (1, .int y1_3), (2, .int x4), (3, .int x5), (4, .int q.1)] → W p l e rm_m_undo s m args below meth c H locs 0 0 (MQ below (va_Qi (fun (r : Int32) (_ : Unit) => r = oM.1) (fun (_ : Unit) (U : State) => hW D vwCl ad (Sum.elim so (mSH C)) (Sum.elim t oM.2) lt U.heap) (hA s0)) args s 0 0 (hA s0)) (F0 m 51 ls [])) ?_ n q0 h0
  intro q o hf kc kx1 H locs ls hM hS hl
  obtain ⟨v4_51, g_51⟩ := q
  replace hf : m_undo_L51 y1_3 x4 v4_51 g_51 = some o := hf
  have kx : ∀ x' : hSt, o = .inr x' → ∀ (H : Heap) (locs : List Loc) (ls : Array Slot), hW D vwCl ad (Sum.elim so (mSH C)) (Sum.elim t x') lt H → va_S (hA s0) s.heap H locs → lv_has ls 5 [(0, .ref (ad (.inr 0))), (1, .int y1_3), (2, .int x4), (3, .int x5)] → W p l e rm_m_undo s m args below meth c H locs 0 0 (MQ below (va_Qi (fun (r : Int32) (_ : Unit) => r = oM.1) (fun (_ : Unit) (U : State) => hW D vwCl ad (Sum.elim so (mSH C)) (Sum.elim t oM.2) lt U.heap) (hA s0)) args s 0 0 (hA s0)) (F0 m 93 ls []) := fun x' ex => by rw [kx1 _ ex]; exact kx0
  unfold m_undo_L51 at hf
  refine lv_iload hx hb dX5_undo_51 (lv_at hl 4 rfl) ?_
  refine lv_aload_n hx hb dX5_undo_53 rfl (lv_at hl 0 rfl) ?_
  refine hr_get (ci := 5) (C := RX5) (T := TX5) (N := 55) (r := .inr 0) hx hb hts in_X5 hown hK hM mS_0 rfl 2 (by decide) (hts _ q1370) rfl (v := .ref (ad (.inr 3))) rfl dX5_undo_54 ?_
  refine lv_iconst (v := 1) hx hb dX5_undo_57 (by decide) ?_
  refine hm_iald (r := 3) hx hb hK hM 0 mS_3 rfl hf dX5_undo_58 (fun x6 hf => ?_)
  refine hb_icmp_ge (tgt := 93) hx hb dX5_undo_59 (by decide) hf (fun hf => ?_) (fun hf => ?_)
  · exact kx g_51 (Option.some.inj hf).symm H locs ls hM hS (lv_sub hl [0, 1, 2, 3] rfl)
  · refine lv_aload_n hx hb dX5_undo_62 rfl (lv_at hl 0 rfl) ?_
    refine hr_get (ci := 5) (C := RX5) (T := TX5) (N := 55) (r := .inr 0) hx hb hts in_X5 hown hK hM mS_0 rfl 25 (by decide) (hts _ q1393) rfl (v := .ref (ad (.inr 26))) rfl dX5_undo_63 ?_
    refine lv_iload_n hx hb dX5_undo_66 rfl (lv_at hl 1 rfl) ?_
    refine lv_iconst (v := 1) hx hb dX5_undo_67 (by decide) ?_
    refine lv_iadd hx hb dX5_undo_68 ?_
    refine hm_iald (r := 26) hx hb hK hM 0 mS_26 rfl hf dX5_undo_69 (fun x7 hf => ?_)
    refine lv_iload hx hb dX5_undo_70 (lv_at hl 4 rfl) ?_
    refine lv_ishr hx hb dX5_undo_72 ?_
    refine lv_iconst (v := 1) hx hb dX5_undo_73 (by decide) ?_
    refine lv_iand hx hb dX5_undo_74 ?_
    refine lv_iconst (v := 1) hx hb dX5_undo_75 (by decide) ?_
    refine hb_icmp_ne (tgt := 87) hx hb dX5_undo_76 (by decide) hf (fun hf => ?_) (fun hf => ?_)
    · obtain ⟨y4_8, ey, hf⟩ := hlet_ex hf
      refine lv_iinc (v := y4_8) (lv' := [(4, .int y4_8), (0, .ref (ad (.inr 0))), (1, .int y1_3), (2, .int x4), (3, .int x5)]) hx hb dX5_undo_87 hl (k := 4) rfl (by rw [ey]; rfl) (by decide) rfl (fun ls hl => ?_)
      refine lv_goto (tgt := 51) hx hb dX5_undo_90 (by decide) ?_
      exact kc (y4_8, g_51) (Option.some.inj hf).symm H locs ls hM hS (lv_sub hl [1, 2, 3, 4, 0] rfl)
    · refine lv_aload_n hx hb dX5_undo_79 rfl (lv_at hl 0 rfl) ?_
      refine hr_get (ci := 5) (C := RX5) (T := TX5) (N := 55) (r := .inr 0) hx hb hts in_X5 hown hK hM mS_0 rfl 7 (by decide) (hts _ q1375) rfl (v := .ref (ad (.inr 8))) rfl dX5_undo_80 ?_
      refine lv_iload hx hb dX5_undo_83 (lv_at hl 4 rfl) ?_
      refine lv_iload_n hx hb dX5_undo_85 rfl (lv_at hl 2 rfl) ?_
      refine hm_iast (r := 8) hx hb hK hM hIx hS 0 mS_8 rfl hf dX5_undo_86 (fun g9 H locs hf hM hS => ?_)
      obtain ⟨y4_10, ey, hf⟩ := hlet_ex hf
      refine lv_iinc (v := y4_10) (lv' := [(4, .int y4_10), (0, .ref (ad (.inr 0))), (1, .int y1_3), (2, .int x4), (3, .int x5)]) hx hb dX5_undo_87 hl (k := 4) rfl (by rw [ey]; rfl) (by decide) rfl (fun ls hl => ?_)
      refine lv_goto (tgt := 51) hx hb dX5_undo_90 (by decide) ?_
      exact kc (y4_10, g9) (Option.some.inj hf).symm H locs ls hM hS (lv_sub hl [1, 2, 3, 4, 0] rfl)
set_option maxHeartbeats 4000000 in
set_option maxRecDepth 100000 in
theorem w_m_undo {p : Program} {l : Launch} {e : Env} {s : State} {m : MethodId} {args : Array Value} {below : List Frame} {meth : Method} {c : Code} {D : va_G} {C : Nat → Nat} {a0 : Array Value} {s0 : State} {ad : Rl → Nat} {so : Nat → Option hS} {t : hSt} {lt : Rl → Nat → Int64} (CX : hCx D C a0 s0 p s m args meth c cX5_undo 5 RX5 (some .int)) (hIx : hI (hA s0) ad (Sum.elim so (mSH C))) (g : hSt) {o : Int32 × hSt} (hf : m_undo g = some o) {H : Heap} {locs : List Loc} (hM : hW D vwCl ad (Sum.elim so (mSH C)) (Sum.elim t g) lt H) (hS : va_S (hA s0) s.heap H locs) {ls : Array Slot} (hl : lv_has ls 5 [(0, .ref (ad (.inr 0)))]) : W p l e rm_m_undo s m args below meth c H locs 0 0 (MQ below (va_Qi (fun (r : Int32) (_ : Unit) => r = o.1) (fun (_ : Unit) (U : State) => hW D vwCl ad (Sum.elim so (mSH C)) (Sum.elim t o.2) lt U.heap) (hA s0)) args s 0 0 (hA s0)) (F0 m 0 ls []) := by
  obtain ⟨hx, hb, hr, hml, hown, hts, hlocks, hK, hZ0, hA0⟩ := CX
  unfold m_undo at hf
  refine lv_aload_n hx hb dX5_undo_0 rfl (lv_at hl 0 rfl) ?_
  refine lv_iconst (v := 0) hx hb dX5_undo_1 (by decide) ?_
  refine hm_put (r := 0) (ci := 5) (C := RX5) (T := TX5) (N := 55) hx hb hts in_X5 tyX5 tyX5_ok nmX5 hown hK hM hIx hS mS_0 rfl 1 (by decide) (hts _ q1369) rfl rfl rfl hf dX5_undo_2 (fun g1 H locs hf hM hS => ?_)
  refine lv_aload_n hx hb dX5_undo_5 rfl (lv_at hl 0 rfl) ?_
  refine hr_get (ci := 5) (C := RX5) (T := TX5) (N := 55) (r := .inr 0) hx hb hts in_X5 hown hK hM mS_0 rfl 24 (by decide) (hts _ q1392) rfl (v := .int (g1 0 24)) rfl dX5_undo_6 ?_
  refine hb_if_ne (tgt := 14) hx hb dX5_undo_9 (by decide) hf (fun hf => ?_) (fun hf => ?_)
  · refine lv_aload_n hx hb dX5_undo_14 rfl (lv_at hl 0 rfl) ?_
    refine lv_dup hx hb dX5_undo_15 rfl ?_
    refine hr_get (ci := 5) (C := RX5) (T := TX5) (N := 55) (r := .inr 0) hx hb hts in_X5 hown hK hM mS_0 rfl 24 (by decide) (hts _ q1392) rfl (v := .int (g1 0 24)) rfl dX5_undo_16 ?_
    refine lv_iconst (v := 1) hx hb dX5_undo_19 (by decide) ?_
    refine lv_isub hx hb dX5_undo_20 ?_
    refine hm_put (r := 0) (ci := 5) (C := RX5) (T := TX5) (N := 55) hx hb hts in_X5 tyX5 tyX5_ok nmX5 hown hK hM hIx hS mS_0 rfl 24 (by decide) (hts _ q1392) rfl rfl rfl hf dX5_undo_21 (fun g2 H locs hf hM hS => ?_)
    refine lv_bipush (v := 9) hx hb dX5_undo_24 (by decide) ?_
    refine lv_aload_n hx hb dX5_undo_26 rfl (lv_at hl 0 rfl) ?_
    refine hr_get (ci := 5) (C := RX5) (T := TX5) (N := 55) (r := .inr 0) hx hb hts in_X5 hown hK hM mS_0 rfl 24 (by decide) (hts _ q1392) rfl (v := .int (g2 0 24)) rfl dX5_undo_27 ?_
    refine lv_imul hx hb dX5_undo_30 ?_
    refine hb_top hf (fun y1_3 hf => ?_)
    refine lv_istore_n (lv' := [(1, .int y1_3), (0, .ref (ad (.inr 0)))]) hx hb dX5_undo_31 rfl hl (by decide) rfl (fun ls hl => ?_)
    refine lv_aload_n hx hb dX5_undo_32 rfl (lv_at hl 1 rfl) ?_
    refine hr_get (ci := 5) (C := RX5) (T := TX5) (N := 55) (r := .inr 0) hx hb hts in_X5 hown hK hM mS_0 rfl 25 (by decide) (hts _ q1393) rfl (v := .ref (ad (.inr 26))) rfl dX5_undo_33 ?_
    refine lv_iload_n hx hb dX5_undo_36 rfl (lv_at hl 0 rfl) ?_
    refine hm_iald (r := 26) hx hb hK hM 0 mS_26 rfl hf dX5_undo_37 (fun x4 hf => ?_)
    refine lv_istore_n (lv' := [(2, .int x4), (1, .int y1_3), (0, .ref (ad (.inr 0)))]) hx hb dX5_undo_38 rfl hl (by decide) rfl (fun ls hl => ?_)
    refine lv_aload_n hx hb dX5_undo_39 rfl (lv_at hl 2 rfl) ?_
    refine hr_get (ci := 5) (C := RX5) (T := TX5) (N := 55) (r := .inr 0) hx hb hts in_X5 hown hK hM mS_0 rfl 25 (by decide) (hts _ q1393) rfl (v := .ref (ad (.inr 26))) rfl dX5_undo_40 ?_
    refine lv_iload_n hx hb dX5_undo_43 rfl (lv_at hl 1 rfl) ?_
    refine lv_iconst (v := 3) hx hb dX5_undo_44 (by decide) ?_
    refine lv_iadd hx hb dX5_undo_45 ?_
    refine hm_iald (r := 26) hx hb hK hM 0 mS_26 rfl hf dX5_undo_46 (fun x5 hf => ?_)
    refine lv_istore_n (lv' := [(3, .int x5), (2, .int x4), (1, .int y1_3), (0, .ref (ad (.inr 0)))]) hx hb dX5_undo_47 rfl hl (by decide) rfl (fun ls hl => ?_)
    refine lv_iconst (v := 0) hx hb dX5_undo_48 (by decide) ?_
    refine lv_istore (lv' := [(4, .int (0 : Int32)), (3, .int x5), (2, .int x4), (1, .int y1_3), (0, .ref (ad (.inr 0)))]) hx hb dX5_undo_49 hl (by decide) rfl (fun ls hl => ?_)
    obtain ⟨x11, hq, hf⟩ := hbind hf
    refine w_m_undo_L51 ⟨hx, hb, hr, hml, hown, hts, hlocks, hK, hZ0, hA0⟩ hIx g g1 g2 y1_3 x4 x5 x11 hFU ((0 : Int32), g2) hq (fun H locs ls hM hS hl => ?_) H locs ls hM hS (lv_sub hl [4, 3, 2, 1, 0] rfl)
    refine lv_aload_n hx hb dX5_undo_93 rfl (lv_at hl 0 rfl) ?_
    refine hr_get (ci := 5) (C := RX5) (T := TX5) (N := 55) (r := .inr 0) hx hb hts in_X5 hown hK hM mS_0 rfl 7 (by decide) (hts _ q1375) rfl (v := .ref (ad (.inr 8))) rfl dX5_undo_94 ?_
    refine lv_bipush (v := 12) hx hb dX5_undo_97 (by decide) ?_
    refine lv_iload_n hx hb dX5_undo_99 rfl (lv_at hl 2 rfl) ?_
    refine lv_iadd hx hb dX5_undo_100 ?_
    refine lv_dup2_11 hx hb dX5_undo_101 rfl rfl ?_
    refine hm_iald (r := 8) hx hb hK hM 0 mS_8 rfl hf dX5_undo_102 (fun x12 hf => ?_)
    refine lv_aload_n hx hb dX5_undo_103 rfl (lv_at hl 0 rfl) ?_
    refine hr_get (ci := 5) (C := RX5) (T := TX5) (N := 55) (r := .inr 0) hx hb hts in_X5 hown hK hM mS_0 rfl 25 (by decide) (hts _ q1393) rfl (v := .ref (ad (.inr 26))) rfl dX5_undo_104 ?_
    refine lv_iload_n hx hb dX5_undo_107 rfl (lv_at hl 1 rfl) ?_
    refine lv_iconst (v := 2) hx hb dX5_undo_108 (by decide) ?_
    refine lv_iadd hx hb dX5_undo_109 ?_
    refine hm_iald (r := 26) hx hb hK hM 0 mS_26 rfl hf dX5_undo_110 (fun x13 hf => ?_)
    refine lv_iadd hx hb dX5_undo_111 ?_
    refine hm_iast (r := 8) hx hb hK hM hIx hS 0 mS_8 rfl hf dX5_undo_112 (fun g14 H locs hf hM hS => ?_)
    refine lv_aload_n hx hb dX5_undo_113 rfl (lv_at hl 0 rfl) ?_
    refine hr_get (ci := 5) (C := RX5) (T := TX5) (N := 55) (r := .inr 0) hx hb hts in_X5 hown hK hM mS_0 rfl 7 (by decide) (hts _ q1375) rfl (v := .ref (ad (.inr 8))) rfl dX5_undo_114 ?_
    refine lv_bipush (v := 12) hx hb dX5_undo_117 (by decide) ?_
    refine lv_iload_n hx hb dX5_undo_119 rfl (lv_at hl 3 rfl) ?_
    refine lv_iadd hx hb dX5_undo_120 ?_
    refine lv_dup2_11 hx hb dX5_undo_121 rfl rfl ?_
    refine hm_iald (r := 8) hx hb hK hM 0 mS_8 rfl hf dX5_undo_122 (fun x15 hf => ?_)
    refine lv_aload_n hx hb dX5_undo_123 rfl (lv_at hl 0 rfl) ?_
    refine hr_get (ci := 5) (C := RX5) (T := TX5) (N := 55) (r := .inr 0) hx hb hts in_X5 hown hK hM mS_0 rfl 25 (by decide) (hts _ q1393) rfl (v := .ref (ad (.inr 26))) rfl dX5_undo_124 ?_
    refine lv_iload_n hx hb dX5_undo_127 rfl (lv_at hl 1 rfl) ?_
    refine lv_iconst (v := 2) hx hb dX5_undo_128 (by decide) ?_
    refine lv_iadd hx hb dX5_undo_129 ?_
    refine hm_iald (r := 26) hx hb hK hM 0 mS_26 rfl hf dX5_undo_130 (fun x16 hf => ?_)
    refine lv_isub hx hb dX5_undo_131 ?_
    refine hm_iast (r := 8) hx hb hK hM hIx hS 0 mS_8 rfl hf dX5_undo_132 (fun g17 H locs hf hM hS => ?_)
    refine lv_aload_n hx hb dX5_undo_133 rfl (lv_at hl 0 rfl) ?_
    refine hr_get (ci := 5) (C := RX5) (T := TX5) (N := 55) (r := .inr 0) hx hb hts in_X5 hown hK hM mS_0 rfl 7 (by decide) (hts _ q1375) rfl (v := .ref (ad (.inr 8))) rfl dX5_undo_134 ?_
    refine lv_bipush (v := 18) hx hb dX5_undo_137 (by decide) ?_
    refine lv_iload_n hx hb dX5_undo_139 rfl (lv_at hl 2 rfl) ?_
    refine lv_iadd hx hb dX5_undo_140 ?_
    refine lv_aload_n hx hb dX5_undo_141 rfl (lv_at hl 0 rfl) ?_
    refine hr_get (ci := 5) (C := RX5) (T := TX5) (N := 55) (r := .inr 0) hx hb hts in_X5 hown hK hM mS_0 rfl 25 (by decide) (hts _ q1393) rfl (v := .ref (ad (.inr 26))) rfl dX5_undo_142 ?_
    refine lv_iload_n hx hb dX5_undo_145 rfl (lv_at hl 1 rfl) ?_
    refine lv_iconst (v := 5) hx hb dX5_undo_146 (by decide) ?_
    refine lv_iadd hx hb dX5_undo_147 ?_
    refine hm_iald (r := 26) hx hb hK hM 0 mS_26 rfl hf dX5_undo_148 (fun x18 hf => ?_)
    refine hm_iast (r := 8) hx hb hK hM hIx hS 0 mS_8 rfl hf dX5_undo_149 (fun g19 H locs hf hM hS => ?_)
    refine lv_aload_n hx hb dX5_undo_150 rfl (lv_at hl 0 rfl) ?_
    refine hr_get (ci := 5) (C := RX5) (T := TX5) (N := 55) (r := .inr 0) hx hb hts in_X5 hown hK hM mS_0 rfl 7 (by decide) (hts _ q1375) rfl (v := .ref (ad (.inr 8))) rfl dX5_undo_151 ?_
    refine lv_bipush (v := 24) hx hb dX5_undo_154 (by decide) ?_
    refine lv_iload_n hx hb dX5_undo_156 rfl (lv_at hl 2 rfl) ?_
    refine lv_iadd hx hb dX5_undo_157 ?_
    refine lv_aload_n hx hb dX5_undo_158 rfl (lv_at hl 0 rfl) ?_
    refine hr_get (ci := 5) (C := RX5) (T := TX5) (N := 55) (r := .inr 0) hx hb hts in_X5 hown hK hM mS_0 rfl 25 (by decide) (hts _ q1393) rfl (v := .ref (ad (.inr 26))) rfl dX5_undo_159 ?_
    refine lv_iload_n hx hb dX5_undo_162 rfl (lv_at hl 1 rfl) ?_
    refine lv_bipush (v := 6) hx hb dX5_undo_163 (by decide) ?_
    refine lv_iadd hx hb dX5_undo_165 ?_
    refine hm_iald (r := 26) hx hb hK hM 0 mS_26 rfl hf dX5_undo_166 (fun x20 hf => ?_)
    refine hm_iast (r := 8) hx hb hK hM hIx hS 0 mS_8 rfl hf dX5_undo_167 (fun g21 H locs hf hM hS => ?_)
    refine lv_aload_n hx hb dX5_undo_168 rfl (lv_at hl 0 rfl) ?_
    refine hr_get (ci := 5) (C := RX5) (T := TX5) (N := 55) (r := .inr 0) hx hb hts in_X5 hown hK hM mS_0 rfl 7 (by decide) (hts _ q1375) rfl (v := .ref (ad (.inr 8))) rfl dX5_undo_169 ?_
    refine lv_bipush (v := 18) hx hb dX5_undo_172 (by decide) ?_
    refine lv_iload_n hx hb dX5_undo_174 rfl (lv_at hl 3 rfl) ?_
    refine lv_iadd hx hb dX5_undo_175 ?_
    refine lv_aload_n hx hb dX5_undo_176 rfl (lv_at hl 0 rfl) ?_
    refine hr_get (ci := 5) (C := RX5) (T := TX5) (N := 55) (r := .inr 0) hx hb hts in_X5 hown hK hM mS_0 rfl 25 (by decide) (hts _ q1393) rfl (v := .ref (ad (.inr 26))) rfl dX5_undo_177 ?_
    refine lv_iload_n hx hb dX5_undo_180 rfl (lv_at hl 1 rfl) ?_
    refine lv_bipush (v := 7) hx hb dX5_undo_181 (by decide) ?_
    refine lv_iadd hx hb dX5_undo_183 ?_
    refine hm_iald (r := 26) hx hb hK hM 0 mS_26 rfl hf dX5_undo_184 (fun x22 hf => ?_)
    refine hm_iast (r := 8) hx hb hK hM hIx hS 0 mS_8 rfl hf dX5_undo_185 (fun g23 H locs hf hM hS => ?_)
    refine lv_aload_n hx hb dX5_undo_186 rfl (lv_at hl 0 rfl) ?_
    refine hr_get (ci := 5) (C := RX5) (T := TX5) (N := 55) (r := .inr 0) hx hb hts in_X5 hown hK hM mS_0 rfl 7 (by decide) (hts _ q1375) rfl (v := .ref (ad (.inr 8))) rfl dX5_undo_187 ?_
    refine lv_bipush (v := 24) hx hb dX5_undo_190 (by decide) ?_
    refine lv_iload_n hx hb dX5_undo_192 rfl (lv_at hl 3 rfl) ?_
    refine lv_iadd hx hb dX5_undo_193 ?_
    refine lv_aload_n hx hb dX5_undo_194 rfl (lv_at hl 0 rfl) ?_
    refine hr_get (ci := 5) (C := RX5) (T := TX5) (N := 55) (r := .inr 0) hx hb hts in_X5 hown hK hM mS_0 rfl 25 (by decide) (hts _ q1393) rfl (v := .ref (ad (.inr 26))) rfl dX5_undo_195 ?_
    refine lv_iload_n hx hb dX5_undo_198 rfl (lv_at hl 1 rfl) ?_
    refine lv_bipush (v := 8) hx hb dX5_undo_199 (by decide) ?_
    refine lv_iadd hx hb dX5_undo_201 ?_
    refine hm_iald (r := 26) hx hb hK hM 0 mS_26 rfl hf dX5_undo_202 (fun x24 hf => ?_)
    refine hm_iast (r := 8) hx hb hK hM hIx hS 0 mS_8 rfl hf dX5_undo_203 (fun g25 H locs hf hM hS => ?_)
    refine lv_aload_n hx hb dX5_undo_204 rfl (lv_at hl 0 rfl) ?_
    refine hr_get (ci := 5) (C := RX5) (T := TX5) (N := 55) (r := .inr 0) hx hb hts in_X5 hown hK hM mS_0 rfl 24 (by decide) (hts _ q1392) rfl (v := .int (g25 0 24)) rfl dX5_undo_205 ?_
    have eo := Option.some.inj hf
    subst eo
    exact W.iret (v := (g25 0 24)) hx hb hr (fun T ht hW => ⟨⟨(g25 0 24), (), rfl, rfl, by dsimp only; rw [ht]; exact hM⟩, hS.F ht⟩) hS.2.2 dX5_undo_208
  · refine lv_iconst (v := -1) hx hb dX5_undo_12 (by decide) ?_
    have eo := Option.some.inj hf
    subst eo
    exact W.iret (v := (-1 : Int32)) hx hb hr (fun T ht hW => ⟨⟨(-1 : Int32), (), rfl, rfl, by dsimp only; rw [ht]; exact hM⟩, hS.F ht⟩) hS.2.2 dX5_undo_13
set_option maxHeartbeats 4000000 in
set_option maxRecDepth 100000 in
theorem met_m_undo (l : Launch) (D : va_G) (C : Nat → Nat) (a0 : Array Value) (s0 : State) (ad : Rl → Nat) (so : Nat → Option hS) (t : hSt) (lt : Rl → Nat → Int64) (g : hSt) {o : Int32 × hSt} (hf : m_undo g = some o) : Met l yX5_undo (ws_ yX5_undo cX5_undo 5 (some .int)) rm_m_undo (va_Pc [.ref (ad (.inr 0))] (hB D vwCl (hT C) (hA s0) (hZ a0 s0) ad (Sum.elim so (mSH C)) (Sum.elim t g) lt)) (va_Qi (fun (r : Int32) (_ : Unit) => r = o.1) (fun (_ : Unit) (U : State) => hW D vwCl ad (Sum.elim so (mSH C)) (Sum.elim t o.2) lt U.heap) (hA s0)) 0 0 (hA s0) := by
  refine Met.ofW (cc := cX5_undo) (maxL := 5) (ret := (some .int)) (by decide) rfl ?_
  intro p e s m args below meth c s₁ B hml hv
  obtain ⟨rfl, hM, hIx, hK, hZ0, hA0⟩ := hv
  have hl := lv_entry ([.ref (ad (.inr 0))]) (n := 5) (Nat.le_of_ble_eq_true rfl)
  rw [lg_entry_eq]
  generalize (lg_sl ([.ref (ad (.inr 0))]) ++ List.replicate (5 - (lg_sl ([.ref (ad (.inr 0))])).length) Slot.unset).toArray = ls at hl ⊢
  have hl : lv_has ls 5 [(0, .ref (ad (.inr 0)))] := hl
  exact w_m_undo ⟨B.exec, B.bytes, B.returns, hml, findClass_of_methodNamed B.named, fun w h => atoms_spec (ws := ws_ yX5_undo cX5_undo 5 (some .int)) B.pre w (List.mem_cons_of_mem _ h), B.notSynchronized, hK, hZ0, hA0⟩ hIx g hf hM va_S.rf hl

def rm_m_gift : Room := { frames := 3, cells := 0, slots := 0, locals := 39 }
set_option maxHeartbeats 4000000 in
set_option maxRecDepth 100000 in
theorem w_m_gift_B42 {p : Program} {l : Launch} {e : Env} {s : State} {m : MethodId} {args : Array Value} {below : List Frame} {meth : Method} {c : Code} {D : va_G} {C : Nat → Nat} {a0 : Array Value} {s0 : State} {ad : Rl → Nat} {so : Nat → Option hS} {t : hSt} {lt : Rl → Nat → Int64} (CX : hCx D C a0 s0 p s m args meth c cX5_gift 3 RX5 (some .int)) (hIx : hI (hA s0) ad (Sum.elim so (mSH C))) (g : hSt) (p0 : Int32) (p1 : Int32) (g1 : hSt) (y2 : Int32) {o : Int32 × hSt} (hf : m_gift_B42 g1 = some o) {H : Heap} {locs : List Loc} (hM : hW D vwCl ad (Sum.elim so (mSH C)) (Sum.elim t g1) lt H) (hS : va_S (hA s0) s.heap H locs) {ls : Array Slot} (hl : lv_has ls 3 [(0, .ref (ad (.inr 0)))]) : W p l e rm_m_gift s m args below meth c H locs 0 0 (MQ below (va_Qi (fun (r : Int32) (_ : Unit) => r = o.1) (fun (_ : Unit) (U : State) => hW D vwCl ad (Sum.elim so (mSH C)) (Sum.elim t o.2) lt U.heap) (hA s0)) args s 0 0 (hA s0)) (F0 m 42 ls []) := by
  obtain ⟨hx, hb, hr, hml, hown, hts, hlocks, hK, hZ0, hA0⟩ := CX
  unfold m_gift_B42 at hf
  refine lv_aload_n hx hb dX5_gift_42 rfl (lv_at hl 0 rfl) ?_
  refine lv_iconst (v := 1) hx hb dX5_gift_43 (by decide) ?_
  obtain ⟨y3, hq, hf⟩ := hbind hf
  refine hr_calli0 (va_runV (As := [.int (1 : Int32)]) (rest := []) ⟨hx, hb, hml, hown, hts⟩ (met_m_fail l D C a0 s0 ad so t lt g1 (1 : Int32) hq) (cwV 1 hts (lw_V q1547 q1549 qs33 q99 q1550) rfl rfl rfl (by decide +kernel) ⟨Nat.le_of_ble_eq_true rfl, Nat.le_of_ble_eq_true rfl⟩) (hr_preV hZ_c hM hIx hK hZ0 hA0 hS (r := .inr 0) mS_0 (q := (RX5, TX5, 55)) rfl) rfl rfl hl.1 rfl (lv_room (Nat.le_of_ble_eq_true rfl)) dX5_gift_44 ⟨Nat.le_of_ble_eq_true rfl, Nat.le_of_ble_eq_true rfl⟩) hS (fun H locs hM hS => ?_)
  have eo := Option.some.inj hf
  subst eo
  exact W.iret (v := y3.1) hx hb hr (fun T ht hW => ⟨⟨y3.1, (), rfl, rfl, by dsimp only; rw [ht]; exact hM⟩, hS.F ht⟩) hS.2.2 dX5_gift_47
set_option maxHeartbeats 4000000 in
set_option maxRecDepth 100000 in
theorem w_m_gift {p : Program} {l : Launch} {e : Env} {s : State} {m : MethodId} {args : Array Value} {below : List Frame} {meth : Method} {c : Code} {D : va_G} {C : Nat → Nat} {a0 : Array Value} {s0 : State} {ad : Rl → Nat} {so : Nat → Option hS} {t : hSt} {lt : Rl → Nat → Int64} (CX : hCx D C a0 s0 p s m args meth c cX5_gift 3 RX5 (some .int)) (hIx : hI (hA s0) ad (Sum.elim so (mSH C))) (g : hSt) (p0 : Int32) (p1 : Int32) {o : Int32 × hSt} (hf : m_gift g p0 p1 = some o) {H : Heap} {locs : List Loc} (hM : hW D vwCl ad (Sum.elim so (mSH C)) (Sum.elim t g) lt H) (hS : va_S (hA s0) s.heap H locs) {ls : Array Slot} (hl : lv_has ls 3 [(0, .ref (ad (.inr 0))), (1, .int p0), (2, .int p1)]) : W p l e rm_m_gift s m args below meth c H locs 0 0 (MQ below (va_Qi (fun (r : Int32) (_ : Unit) => r = o.1) (fun (_ : Unit) (U : State) => hW D vwCl ad (Sum.elim so (mSH C)) (Sum.elim t o.2) lt U.heap) (hA s0)) args s 0 0 (hA s0)) (F0 m 0 ls []) := by
  obtain ⟨hx, hb, hr, hml, hown, hts, hlocks, hK, hZ0, hA0⟩ := CX
  unfold m_gift at hf
  refine lv_aload_n hx hb dX5_gift_0 rfl (lv_at hl 0 rfl) ?_
  refine lv_iconst (v := 0) hx hb dX5_gift_1 (by decide) ?_
  refine hm_put (r := 0) (ci := 5) (C := RX5) (T := TX5) (N := 55) hx hb hts in_X5 tyX5 tyX5_ok nmX5 hown hK hM hIx hS mS_0 rfl 1 (by decide) (hts _ q1369) rfl rfl rfl hf dX5_gift_2 (fun g1 H locs hf hM hS => ?_)
  refine lv_iload_n hx hb dX5_gift_5 rfl (lv_at hl 1 rfl) ?_
  refine lv_iconst (v := 0) hx hb dX5_gift_6 (by decide) ?_
  refine lv_aload_n hx hb dX5_gift_7 rfl (lv_at hl 0 rfl) ?_
  refine hr_get (ci := 5) (C := RX5) (T := TX5) (N := 55) (r := .inr 0) hx hb hts in_X5 hown hK hM mS_0 rfl 24 (by decide) (hts _ q1392) rfl (v := .int (g1 0 24)) rfl dX5_gift_8 ?_
  refine lv_iconst (v := 1) hx hb dX5_gift_11 (by decide) ?_
  refine lv_isub hx hb dX5_gift_12 ?_
  obtain ⟨y2, hq, hf⟩ := hbind hf
  refine hr_calli0 (va_runS (As := [.int p0, .int (0 : Int32), .int ((g1 0 24) - (1 : Int32))]) (rest := []) ⟨hx, hb, hml, hown, hts⟩ (met_m_isIn l D C a0 s0 ad so (Sum.elim t g1) lt p0 (0 : Int32) ((g1 0 24) - (1 : Int32)) hq) (va_cwS 3 hts (lw_S q1648 q1649 q99 q1650) rfl rfl rfl (by decide +kernel) ⟨Nat.le_of_ble_eq_true rfl, Nat.le_of_ble_eq_true rfl⟩) (hr_preS hZ_c hM hIx hK hZ0 hA0 hS) rfl rfl hl.1 rfl (lv_room (Nat.le_of_ble_eq_true rfl)) dX5_gift_13 ⟨Nat.le_of_ble_eq_true rfl, Nat.le_of_ble_eq_true rfl⟩) hS (fun H locs hM hS => ?_)
  refine hb_if_eq (tgt := 42) hx hb dX5_gift_16 (by decide) hf (fun hf => ?_) (fun hf => ?_)
  · exact w_m_gift_B42 ⟨hx, hb, hr, hml, hown, hts, hlocks, hK, hZ0, hA0⟩ hIx g p0 p1 g1 y2 hf hM hS (lv_sub hl [0] rfl)
  · refine lv_iload_n hx hb dX5_gift_19 rfl (lv_at hl 2 rfl) ?_
    refine lv_iconst (v := 0) hx hb dX5_gift_20 (by decide) ?_
    refine lv_iconst (v := 4) hx hb dX5_gift_21 (by decide) ?_
    obtain ⟨y4, hq, hf⟩ := hbind hf
    refine hr_calli0 (va_runS (As := [.int p1, .int (0 : Int32), .int (4 : Int32)]) (rest := []) ⟨hx, hb, hml, hown, hts⟩ (met_m_isIn l D C a0 s0 ad so (Sum.elim t g1) lt p1 (0 : Int32) (4 : Int32) hq) (va_cwS 3 hts (lw_S q1648 q1649 q99 q1650) rfl rfl rfl (by decide +kernel) ⟨Nat.le_of_ble_eq_true rfl, Nat.le_of_ble_eq_true rfl⟩) (hr_preS hZ_c hM hIx hK hZ0 hA0 hS) rfl rfl hl.1 rfl (lv_room (Nat.le_of_ble_eq_true rfl)) dX5_gift_22 ⟨Nat.le_of_ble_eq_true rfl, Nat.le_of_ble_eq_true rfl⟩) hS (fun H locs hM hS => ?_)
    refine hb_if_eq (tgt := 42) hx hb dX5_gift_25 (by decide) hf (fun hf => ?_) (fun hf => ?_)
    · exact w_m_gift_B42 ⟨hx, hb, hr, hml, hown, hts, hlocks, hK, hZ0, hA0⟩ hIx g p0 p1 g1 y2 hf hM hS (lv_sub hl [0] rfl)
    · refine lv_aload_n hx hb dX5_gift_28 rfl (lv_at hl 0 rfl) ?_
      refine hr_get (ci := 5) (C := RX5) (T := TX5) (N := 55) (r := .inr 0) hx hb hts in_X5 hown hK hM mS_0 rfl 25 (by decide) (hts _ q1393) rfl (v := .ref (ad (.inr 26))) rfl dX5_gift_29 ?_
      refine lv_bipush (v := 9) hx hb dX5_gift_32 (by decide) ?_
      refine lv_iload_n hx hb dX5_gift_34 rfl (lv_at hl 1 rfl) ?_
      refine lv_imul hx hb dX5_gift_35 ?_
      refine lv_iload_n hx hb dX5_gift_36 rfl (lv_at hl 2 rfl) ?_
      refine lv_iadd hx hb dX5_gift_37 ?_
      refine hm_iald (r := 26) hx hb hK hM 0 mS_26 rfl hf dX5_gift_38 (fun x5 hf => ?_)
      refine lv_goto (tgt := 47) hx hb dX5_gift_39 (by decide) ?_
      have eo := Option.some.inj hf
      subst eo
      exact W.iret (v := x5) hx hb hr (fun T ht hW => ⟨⟨x5, (), rfl, rfl, by dsimp only; rw [ht]; exact hM⟩, hS.F ht⟩) hS.2.2 dX5_gift_47
set_option maxHeartbeats 4000000 in
set_option maxRecDepth 100000 in
theorem met_m_gift (l : Launch) (D : va_G) (C : Nat → Nat) (a0 : Array Value) (s0 : State) (ad : Rl → Nat) (so : Nat → Option hS) (t : hSt) (lt : Rl → Nat → Int64) (g : hSt) (p0 : Int32) (p1 : Int32) {o : Int32 × hSt} (hf : m_gift g p0 p1 = some o) : Met l yX5_gift (ws_ yX5_gift cX5_gift 3 (some .int)) rm_m_gift (va_Pc [.ref (ad (.inr 0)), .int p0, .int p1] (hB D vwCl (hT C) (hA s0) (hZ a0 s0) ad (Sum.elim so (mSH C)) (Sum.elim t g) lt)) (va_Qi (fun (r : Int32) (_ : Unit) => r = o.1) (fun (_ : Unit) (U : State) => hW D vwCl ad (Sum.elim so (mSH C)) (Sum.elim t o.2) lt U.heap) (hA s0)) 0 0 (hA s0) := by
  refine Met.ofW (cc := cX5_gift) (maxL := 3) (ret := (some .int)) (by decide) rfl ?_
  intro p e s m args below meth c s₁ B hml hv
  obtain ⟨rfl, hM, hIx, hK, hZ0, hA0⟩ := hv
  have hl := lv_entry ([.ref (ad (.inr 0)), .int p0, .int p1]) (n := 3) (Nat.le_of_ble_eq_true rfl)
  rw [lg_entry_eq]
  generalize (lg_sl ([.ref (ad (.inr 0)), .int p0, .int p1]) ++ List.replicate (3 - (lg_sl ([.ref (ad (.inr 0)), .int p0, .int p1])).length) Slot.unset).toArray = ls at hl ⊢
  have hl : lv_has ls 3 [(0, .ref (ad (.inr 0))), (1, .int p0), (2, .int p1)] := hl
  exact w_m_gift ⟨B.exec, B.bytes, B.returns, hml, findClass_of_methodNamed B.named, fun w h => atoms_spec (ws := ws_ yX5_gift cX5_gift 3 (some .int)) B.pre w (List.mem_cons_of_mem _ h), B.notSynchronized, hK, hZ0, hA0⟩ hIx g p0 p1 hf hM va_S.rf hl

def rm_m_sandFor : Room := { frames := 5, cells := 0, slots := 0, locals := 54 }
set_option maxHeartbeats 4000000 in
set_option maxRecDepth 100000 in
theorem w_m_sandFor_B85 {p : Program} {l : Launch} {e : Env} {s : State} {m : MethodId} {args : Array Value} {below : List Frame} {meth : Method} {c : Code} {D : va_G} {C : Nat → Nat} {a0 : Array Value} {s0 : State} {ad : Rl → Nat} {so : Nat → Option hS} {t : hSt} {lt : Rl → Nat → Int64} (CX : hCx D C a0 s0 p s m args meth c cX5_sandFor 7 RX5 (some .int)) (hIx : hI (hA s0) ad (Sum.elim so (mSH C))) (g : hSt) (r0 : Nat) (p1 : Int32) (p2 : Int32) (p3 : Int32) (x1 : Int32) (y2 : Int32) (y3 : Int32) (y4 : Int32) (y6_5 : Int32) (x6 : Int32) (h_r0 : mSH C r0 = some (.inl (C 0, 30, false))) {o : Int32} (hf : m_sandFor_B85 = some o) {H : Heap} {locs : List Loc} (hM : hW D vwCl ad (Sum.elim so (mSH C)) (Sum.elim t g) lt H) (hS : va_S (hA s0) s.heap H locs) {ls : Array Slot} (hl : lv_has ls 7 []) : W p l e rm_m_sandFor s m args below meth c H locs 0 0 (MQ below (va_Qi (fun (r : Int32) (_ : Unit) => r = o) (fun (_ : Unit) (U : State) => hW D vwCl ad (Sum.elim so (mSH C)) (Sum.elim t g) lt U.heap) (hA s0)) args s 0 0 (hA s0)) (F0 m 85 ls []) := by
  obtain ⟨hx, hb, hr, hml, hown, hts, hlocks, hK, hZ0, hA0⟩ := CX
  unfold m_sandFor_B85 at hf
  refine lv_iconst (v := -1) hx hb dX5_sandFor_85 (by decide) ?_
  have eo := Option.some.inj hf
  subst eo
  exact W.iret (v := (-1 : Int32)) hx hb hr (fun T ht hW => ⟨⟨(-1 : Int32), (), rfl, rfl, by dsimp only; rw [ht]; exact hM⟩, hS.F ht⟩) hS.2.2 dX5_sandFor_86
set_option maxHeartbeats 4000000 in
set_option maxRecDepth 100000 in
theorem w_m_sandFor {p : Program} {l : Launch} {e : Env} {s : State} {m : MethodId} {args : Array Value} {below : List Frame} {meth : Method} {c : Code} {D : va_G} {C : Nat → Nat} {a0 : Array Value} {s0 : State} {ad : Rl → Nat} {so : Nat → Option hS} {t : hSt} {lt : Rl → Nat → Int64} (CX : hCx D C a0 s0 p s m args meth c cX5_sandFor 7 RX5 (some .int)) (hIx : hI (hA s0) ad (Sum.elim so (mSH C))) (g : hSt) (r0 : Nat) (p1 : Int32) (p2 : Int32) (p3 : Int32) (h_r0 : mSH C r0 = some (.inl (C 0, 30, false))) {o : Int32} (hf : m_sandFor g r0 p1 p2 p3 = some o) {H : Heap} {locs : List Loc} (hM : hW D vwCl ad (Sum.elim so (mSH C)) (Sum.elim t g) lt H) (hS : va_S (hA s0) s.heap H locs) {ls : Array Slot} (hl : lv_has ls 7 [(0, .ref (ad (.inr 0))), (1, .ref (ad (.inr r0))), (2, .int p1), (3, .int p2), (4, .int p3)]) : W p l e rm_m_sandFor s m args below meth c H locs 0 0 (MQ below (va_Qi (fun (r : Int32) (_ : Unit) => r = o) (fun (_ : Unit) (U : State) => hW D vwCl ad (Sum.elim so (mSH C)) (Sum.elim t g) lt U.heap) (hA s0)) args s 0 0 (hA s0)) (F0 m 0 ls []) := by
  obtain ⟨hx, hb, hr, hml, hown, hts, hlocks, hK, hZ0, hA0⟩ := CX
  unfold m_sandFor at hf
  refine lv_iload hx hb dX5_sandFor_0 (lv_at hl 4 rfl) ?_
  refine hb_if_eq (tgt := 28) hx hb dX5_sandFor_2 (by decide) hf (fun hf => ?_) (fun hf => ?_)
  · refine lv_iconst (v := -1) hx hb dX5_sandFor_28 (by decide) ?_
    have eo := Option.some.inj hf
    subst eo
    exact W.iret (v := (-1 : Int32)) hx hb hr (fun T ht hW => ⟨⟨(-1 : Int32), (), rfl, rfl, by dsimp only; rw [ht]; exact hM⟩, hS.F ht⟩) hS.2.2 dX5_sandFor_29
  · refine lv_aload_n hx hb dX5_sandFor_5 rfl (lv_at hl 0 rfl) ?_
    refine hr_get (ci := 5) (C := RX5) (T := TX5) (N := 55) (r := .inr 0) hx hb hts in_X5 hown hK hM mS_0 rfl 2 (by decide) (hts _ q1370) rfl (v := .ref (ad (.inr 3))) rfl dX5_sandFor_6 ?_
    refine lv_iconst (v := 0) hx hb dX5_sandFor_9 (by decide) ?_
    refine hm_iald (r := 3) hx hb hK hM 0 mS_3 rfl hf dX5_sandFor_10 (fun x1 hf => ?_)
    refine lv_iconst (v := 2) hx hb dX5_sandFor_11 (by decide) ?_
    refine hb_icmp_lt (tgt := 28) hx hb dX5_sandFor_12 (by decide) hf (fun hf => ?_) (fun hf => ?_)
    · refine lv_iconst (v := -1) hx hb dX5_sandFor_28 (by decide) ?_
      have eo := Option.some.inj hf
      subst eo
      exact W.iret (v := (-1 : Int32)) hx hb hr (fun T ht hW => ⟨⟨(-1 : Int32), (), rfl, rfl, by dsimp only; rw [ht]; exact hM⟩, hS.F ht⟩) hS.2.2 dX5_sandFor_29
    · refine lv_iload_n hx hb dX5_sandFor_15 rfl (lv_at hl 3 rfl) ?_
      refine lv_aload_n hx hb dX5_sandFor_16 rfl (lv_at hl 0 rfl) ?_
      refine lv_aload_n hx hb dX5_sandFor_17 rfl (lv_at hl 1 rfl) ?_
      refine lv_iload_n hx hb dX5_sandFor_18 rfl (lv_at hl 2 rfl) ?_
      obtain ⟨y2, hq, hf⟩ := hbind hf
      refine hr_calli0 (va_runV (As := [.ref (ad (.inr r0)), .int p1]) (rest := [.int p2]) ⟨hx, hb, hml, hown, hts⟩ (met_m_hasOf l D C a0 s0 ad so t lt g r0 p1 h_r0 hq) (cwV 2 hts (lw_V q1659 q1661 qs48 q99 q1662) rfl rfl rfl (by decide +kernel) ⟨Nat.le_of_ble_eq_true rfl, Nat.le_of_ble_eq_true rfl⟩) (hr_preV hZ_c hM hIx hK hZ0 hA0 hS (r := .inr 0) mS_0 (q := (RX5, TX5, 55)) rfl) rfl rfl hl.1 rfl (lv_room (Nat.le_of_ble_eq_true rfl)) dX5_sandFor_19 ⟨Nat.le_of_ble_eq_true rfl, Nat.le_of_ble_eq_true rfl⟩) hS (fun H locs hM hS => ?_)
      refine lv_iconst (v := -1) hx hb dX5_sandFor_22 (by decide) ?_
      refine lv_ixor hx hb dX5_sandFor_23 ?_
      refine lv_iand hx hb dX5_sandFor_24 ?_
      refine hb_if_eq (tgt := 30) hx hb dX5_sandFor_25 (by decide) hf (fun hf => ?_) (fun hf => ?_)
      · refine lv_aload_n hx hb dX5_sandFor_30 rfl (lv_at hl 0 rfl) ?_
        refine lv_iload_n hx hb dX5_sandFor_31 rfl (lv_at hl 3 rfl) ?_
        obtain ⟨y3, hq, hf⟩ := hbind hf
        refine hr_calli0 (va_runV (As := [.int p2]) (rest := []) ⟨hx, hb, hml, hown, hts⟩ (met_m_weightOf l D C a0 s0 ad so t lt g p2 hq) (cwV 1 hts (lw_V q1667 q1669 qs50 q99 q1670) rfl rfl rfl (by decide +kernel) ⟨Nat.le_of_ble_eq_true rfl, Nat.le_of_ble_eq_true rfl⟩) (hr_preV hZ_c hM hIx hK hZ0 hA0 hS (r := .inr 0) mS_0 (q := (RX5, TX5, 55)) rfl) rfl rfl hl.1 rfl (lv_room (Nat.le_of_ble_eq_true rfl)) dX5_sandFor_32 ⟨Nat.le_of_ble_eq_true rfl, Nat.le_of_ble_eq_true rfl⟩) hS (fun H locs hM hS => ?_)
        refine lv_istore (lv' := [(5, .int y3), (0, .ref (ad (.inr 0))), (1, .ref (ad (.inr r0))), (2, .int p1), (3, .int p2), (4, .int p3)]) hx hb dX5_sandFor_35 hl (by decide) rfl (fun ls hl => ?_)
        refine lv_iconst (v := 0) hx hb dX5_sandFor_37 (by decide) ?_
        refine lv_aload_n hx hb dX5_sandFor_38 rfl (lv_at hl 1 rfl) ?_
        refine lv_iload hx hb dX5_sandFor_39 (lv_at hl 5 rfl) ?_
        obtain ⟨y4, hq, hf⟩ := hbind hf
        refine hr_calli0 (va_runV (As := [.int p3]) (rest := [.int (0 : Int32)]) ⟨hx, hb, hml, hown, hts⟩ (met_m_lightest l D C a0 s0 ad so t lt g p3 hq) (cwV 1 hts (lw_V q1687 q1689 qs53 q99 q1690) rfl rfl rfl (by decide +kernel) ⟨Nat.le_of_ble_eq_true rfl, Nat.le_of_ble_eq_true rfl⟩) (hr_preV hZ_c hM hIx hK hZ0 hA0 hS (r := .inr 0) mS_0 (q := (RX5, TX5, 55)) rfl) rfl rfl hl.1 rfl (lv_room (Nat.le_of_ble_eq_true rfl)) dX5_sandFor_41 ⟨Nat.le_of_ble_eq_true rfl, Nat.le_of_ble_eq_true rfl⟩) hS (fun H locs hM hS => ?_)
        refine lv_iload hx hb dX5_sandFor_44 (lv_at hl 0 rfl) ?_
        refine lv_isub hx hb dX5_sandFor_46 ?_
        refine va_mmax hx hb (by rw [hml]; exact hl.1.symm) hown (hts _ q1691) (hts _ q240) (hts _ q90) (hts _ q241) (Nat.le_of_ble_eq_true rfl) (Nat.le_of_ble_eq_true rfl) (Nat.le_of_ble_eq_true rfl) (Nat.le_of_ble_eq_true rfl) dX5_sandFor_47 ?_
        refine hb_top hf (fun y6_5 hf => ?_)
        refine lv_istore (lv' := [(6, .int y6_5), (5, .int y3), (0, .ref (ad (.inr 0))), (1, .ref (ad (.inr r0))), (2, .int p1), (3, .int p2), (4, .int p3)]) hx hb dX5_sandFor_50 hl (by decide) rfl (fun ls hl => ?_)
        refine lv_iload hx hb dX5_sandFor_52 (lv_at hl 1 rfl) ?_
        refine lv_iload hx hb dX5_sandFor_54 (lv_at hl 0 rfl) ?_
        refine lv_iadd hx hb dX5_sandFor_56 ?_
        refine lv_iload hx hb dX5_sandFor_57 (lv_at hl 6 rfl) ?_
        refine lv_aload_n hx hb dX5_sandFor_59 rfl (lv_at hl 2 rfl) ?_
        refine hr_get (ci := 5) (C := RX5) (T := TX5) (N := 55) (r := .inr 0) hx hb hts in_X5 hown hK hM mS_0 rfl 2 (by decide) (hts _ q1370) rfl (v := .ref (ad (.inr 3))) rfl dX5_sandFor_60 ?_
        refine lv_iconst (v := 3) hx hb dX5_sandFor_63 (by decide) ?_
        refine hm_iald (r := 3) hx hb hK hM 0 mS_3 rfl hf dX5_sandFor_64 (fun x6 hf => ?_)
        refine lv_iadd hx hb dX5_sandFor_65 ?_
        refine hb_icmp_gt (tgt := 85) hx hb dX5_sandFor_66 (by decide) hf (fun hf => ?_) (fun hf => ?_)
        · exact w_m_sandFor_B85 ⟨hx, hb, hr, hml, hown, hts, hlocks, hK, hZ0, hA0⟩ hIx g r0 p1 p2 p3 x1 y2 y3 y4 y6_5 x6 h_r0 hf hM hS (lv_sub hl [] rfl)
        · refine lv_iload hx hb dX5_sandFor_69 (lv_at hl 0 rfl) ?_
          refine lv_aload_n hx hb dX5_sandFor_71 rfl (lv_at hl 3 rfl) ?_
          refine lv_bipush (v := 12) hx hb dX5_sandFor_72 (by decide) ?_
          refine lv_iload_n hx hb dX5_sandFor_74 rfl (lv_at hl 4 rfl) ?_
          refine lv_iadd hx hb dX5_sandFor_75 ?_
          refine hm_iald (r := r0) hx hb hK hM 0 h_r0 rfl hf dX5_sandFor_76 (fun x7 hf => ?_)
          refine hb_icmp_gt (tgt := 85) hx hb dX5_sandFor_77 (by decide) hf (fun hf => ?_) (fun hf => ?_)
          · exact w_m_sandFor_B85 ⟨hx, hb, hr, hml, hown, hts, hlocks, hK, hZ0, hA0⟩ hIx g r0 p1 p2 p3 x1 y2 y3 y4 y6_5 x6 h_r0 hf hM hS (lv_sub hl [] rfl)
          · refine lv_iload hx hb dX5_sandFor_80 (lv_at hl 0 rfl) ?_
            refine lv_goto (tgt := 86) hx hb dX5_sandFor_82 (by decide) ?_
            have eo := Option.some.inj hf
            subst eo
            exact W.iret (v := y6_5) hx hb hr (fun T ht hW => ⟨⟨y6_5, (), rfl, rfl, by dsimp only; rw [ht]; exact hM⟩, hS.F ht⟩) hS.2.2 dX5_sandFor_86
      · refine lv_iconst (v := -1) hx hb dX5_sandFor_28 (by decide) ?_
        have eo := Option.some.inj hf
        subst eo
        exact W.iret (v := (-1 : Int32)) hx hb hr (fun T ht hW => ⟨⟨(-1 : Int32), (), rfl, rfl, by dsimp only; rw [ht]; exact hM⟩, hS.F ht⟩) hS.2.2 dX5_sandFor_29
set_option maxHeartbeats 4000000 in
set_option maxRecDepth 100000 in
theorem met_m_sandFor (l : Launch) (D : va_G) (C : Nat → Nat) (a0 : Array Value) (s0 : State) (ad : Rl → Nat) (so : Nat → Option hS) (t : hSt) (lt : Rl → Nat → Int64) (g : hSt) (r0 : Nat) (p1 : Int32) (p2 : Int32) (p3 : Int32) (h_r0 : mSH C r0 = some (.inl (C 0, 30, false))) {o : Int32} (hf : m_sandFor g r0 p1 p2 p3 = some o) : Met l yX5_sandFor (ws_ yX5_sandFor cX5_sandFor 7 (some .int)) rm_m_sandFor (va_Pc [.ref (ad (.inr 0)), .ref (ad (.inr r0)), .int p1, .int p2, .int p3] (hB D vwCl (hT C) (hA s0) (hZ a0 s0) ad (Sum.elim so (mSH C)) (Sum.elim t g) lt)) (va_Qi (fun (r : Int32) (_ : Unit) => r = o) (fun (_ : Unit) (U : State) => hW D vwCl ad (Sum.elim so (mSH C)) (Sum.elim t g) lt U.heap) (hA s0)) 0 0 (hA s0) := by
  refine Met.ofW (cc := cX5_sandFor) (maxL := 7) (ret := (some .int)) (by decide) rfl ?_
  intro p e s m args below meth c s₁ B hml hv
  obtain ⟨rfl, hM, hIx, hK, hZ0, hA0⟩ := hv
  have hl := lv_entry ([.ref (ad (.inr 0)), .ref (ad (.inr r0)), .int p1, .int p2, .int p3]) (n := 7) (Nat.le_of_ble_eq_true rfl)
  rw [lg_entry_eq]
  generalize (lg_sl ([.ref (ad (.inr 0)), .ref (ad (.inr r0)), .int p1, .int p2, .int p3]) ++ List.replicate (7 - (lg_sl ([.ref (ad (.inr 0)), .ref (ad (.inr r0)), .int p1, .int p2, .int p3])).length) Slot.unset).toArray = ls at hl ⊢
  have hl : lv_has ls 7 [(0, .ref (ad (.inr 0))), (1, .ref (ad (.inr r0))), (2, .int p1), (3, .int p2), (4, .int p3)] := hl
  exact w_m_sandFor ⟨B.exec, B.bytes, B.returns, hml, findClass_of_methodNamed B.named, fun w h => atoms_spec (ws := ws_ yX5_sandFor cX5_sandFor 7 (some .int)) B.pre w (List.mem_cons_of_mem _ h), B.notSynchronized, hK, hZ0, hA0⟩ hIx g r0 p1 p2 p3 h_r0 hf hM va_S.rf hl

