/-! WALKS (printed by tools/gen.py): 12.mw 1 -/
set_option maxRecDepth 100000
def rm_m_begin : Room := { frames := 1, cells := 0, slots := 0, locals := 16 }
set_option maxHeartbeats 4000000 in
set_option maxRecDepth 100000 in
theorem w_m_begin_B27 {p : Program} {l : Launch} {e : Env} {s : State} {m : MethodId} {args : Array Value} {below : List Frame} {meth : Method} {c : Code} {D : va_G} {C : Nat → Nat} {a0 : Array Value} {s0 : State} {ad : Rl → Nat} {so : Nat → Option hS} {t : hSt} {lt : Rl → Nat → Int64} (CX : hCx D C a0 s0 p s m args meth c cX5_begin 2 RX5 (none)) (hIx : hI (hA s0) ad (Sum.elim so (mSH C))) (g : hSt) (r0 : Nat) (v1_2 : Int32) (g_2 : hSt) (k0_27 : Int32) (k1_27 : Int32) (h_r0 : mSH C r0 = some (.inl (C 0, 30, false))) {oM : hSt} {o : (Int32 × hSt) ⊕ (hSt)} (hf : m_begin_B27 r0 v1_2 g_2 k0_27 k1_27 = some o) (kc : ∀ s' : Int32 × hSt, o = .inl s' → ∀ (H : Heap) (locs : List Loc) (ls : Array Slot), hW D vwCl ad (Sum.elim so (mSH C)) (Sum.elim t s'.2) lt H → va_S (hA s0) s.heap H locs → lv_has ls 2 [(0, .ref (ad (.inr r0))), (1, .int s'.1)] → W p l e rm_m_begin s m args below meth c H locs 0 0 (MQ below (va_Qv (fun (_ : Unit) => True) (fun (_ : Unit) (U : State) => hW D vwCl ad (Sum.elim so (mSH C)) (Sum.elim t oM) lt U.heap) (hA s0)) args s 0 0 (hA s0)) (F0 m 2 ls [])) (kx : ∀ x' : hSt, o = .inr x' → ∀ (H : Heap) (locs : List Loc) (ls : Array Slot), hW D vwCl ad (Sum.elim so (mSH C)) (Sum.elim t x') lt H → va_S (hA s0) s.heap H locs → lv_has ls 2 [] → W p l e rm_m_begin s m args below meth c H locs 0 0 (MQ below (va_Qv (fun (_ : Unit) => True) (fun (_ : Unit) (U : State) => hW D vwCl ad (Sum.elim so (mSH C)) (Sum.elim t oM) lt U.heap) (hA s0)) args s 0 0 (hA s0)) (F0 m 34 ls [])) {H : Heap} {locs : List Loc} (hM : hW D vwCl ad (Sum.elim so (mSH C)) (Sum.elim t g_2) lt H) (hS : va_S (hA s0) s.heap H locs) {ls : Array Slot} (hl : lv_has ls 2 [(0, .ref (ad (.inr r0))), (1, .int v1_2)]) : W p l e rm_m_begin s m args below meth c H locs 0 0 (MQ below (va_Qv (fun (_ : Unit) => True) (fun (_ : Unit) (U : State) => hW D vwCl ad (Sum.elim so (mSH C)) (Sum.elim t oM) lt U.heap) (hA s0)) args s 0 0 (hA s0)) (F0 m 27 ls [.int k0_27, .int k1_27, .ref (ad (.inr r0))]) := by
  obtain ⟨hx, hb, hr, hml, hown, hts, hlocks, hK, hZ0, hA0⟩ := CX
  unfold m_begin_B27 at hf
  refine hm_iast (r := r0) hx hb hK hM hIx hS 0 h_r0 rfl hf dX5_begin_27 (fun g1 H locs hf hM hS => ?_)
  obtain ⟨y1_2, ey, hf⟩ := hlet_ex hf
  refine lv_iinc (v := y1_2) (lv' := [(1, .int y1_2), (0, .ref (ad (.inr r0)))]) hx hb dX5_begin_28 hl (k := 1) rfl (by rw [ey]; rfl) (by decide) rfl (fun ls hl => ?_)
  refine lv_goto (tgt := 2) hx hb dX5_begin_31 (by decide) ?_
  exact kc (y1_2, g1) (Option.some.inj hf).symm H locs ls hM hS (lv_sub hl [1, 0] rfl)
set_option maxHeartbeats 4000000 in
set_option maxRecDepth 100000 in
theorem w_m_begin_L2 {p : Program} {l : Launch} {e : Env} {s : State} {m : MethodId} {args : Array Value} {below : List Frame} {meth : Method} {c : Code} {D : va_G} {C : Nat → Nat} {a0 : Array Value} {s0 : State} {ad : Rl → Nat} {so : Nat → Option hS} {t : hSt} {lt : Rl → Nat → Int64} (CX : hCx D C a0 s0 p s m args meth c cX5_begin 2 RX5 (none)) (hIx : hI (hA s0) ad (Sum.elim so (mSH C))) (g : hSt) (r0 : Nat) (h_r0 : mSH C r0 = some (.inl (C 0, 30, false))) {oM : hSt} (x : hSt) (n : Nat) (q0 : Int32 × hSt) (h0 : hiter (fun q : Int32 × hSt => m_begin_L2 r0 q.1 q.2) n q0 = some x) (kx0 : ∀ (H : Heap) (locs : List Loc) (ls : Array Slot), hW D vwCl ad (Sum.elim so (mSH C)) (Sum.elim t x) lt H → va_S (hA s0) s.heap H locs → lv_has ls 2 [] → W p l e rm_m_begin s m args below meth c H locs 0 0 (MQ below (va_Qv (fun (_ : Unit) => True) (fun (_ : Unit) (U : State) => hW D vwCl ad (Sum.elim so (mSH C)) (Sum.elim t oM) lt U.heap) (hA s0)) args s 0 0 (hA s0)) (F0 m 34 ls [])) : ∀ (H : Heap) (locs : List Loc) (ls : Array Slot), hW D vwCl ad (Sum.elim so (mSH C)) (Sum.elim t q0.2) lt H → va_S (hA s0) s.heap H locs → lv_has ls 2 [(0, .ref (ad (.inr r0))), (1, .int q0.1)] → W p l e rm_m_begin s m args below meth c H locs 0 0 (MQ below (va_Qv (fun (_ : Unit) => True) (fun (_ : Unit) (U : State) => hW D vwCl ad (Sum.elim so (mSH C)) (Sum.elim t oM) lt U.heap) (hA s0)) args s 0 0 (hA s0)) (F0 m 2 ls []) := by
  obtain ⟨hx, hb, hr, hml, hown, hts, hlocks, hK, hZ0, hA0⟩ := CX
  refine hiter_W (Wh := fun q => ∀ (H : Heap) (locs : List Loc) (ls : Array Slot), hW D vwCl ad (Sum.elim so (mSH C)) (Sum.elim t q.2) lt H → va_S (hA s0) s.heap H locs → lv_has ls 2 [(0, .ref (ad (.inr r0))), (1, .int q.1)] → W p l e rm_m_begin s m args below meth c H locs 0 0 (MQ below (va_Qv (fun (_ : Unit) => True) (fun (_ : Unit) (U : State) => hW D vwCl ad (Sum.elim so (mSH C)) (Sum.elim t oM) lt U.heap) (hA s0)) args s 0 0 (hA s0)) (F0 m 2 ls [])) ?_ n q0 h0
  intro q o hf kc kx1 H locs ls hM hS hl
  obtain ⟨v1_2, g_2⟩ := q
  replace hf : m_begin_L2 r0 v1_2 g_2 = some o := hf
  have kx : ∀ x' : hSt, o = .inr x' → ∀ (H : Heap) (locs : List Loc) (ls : Array Slot), hW D vwCl ad (Sum.elim so (mSH C)) (Sum.elim t x') lt H → va_S (hA s0) s.heap H locs → lv_has ls 2 [] → W p l e rm_m_begin s m args below meth c H locs 0 0 (MQ below (va_Qv (fun (_ : Unit) => True) (fun (_ : Unit) (U : State) => hW D vwCl ad (Sum.elim so (mSH C)) (Sum.elim t oM) lt U.heap) (hA s0)) args s 0 0 (hA s0)) (F0 m 34 ls []) := fun x' ex => by rw [kx1 _ ex]; exact kx0
  unfold m_begin_L2 at hf
  refine lv_iload_n hx hb dX5_begin_2 rfl (lv_at hl 1 rfl) ?_
  refine lv_bipush (v := 30) hx hb dX5_begin_3 (by decide) ?_
  refine hb_icmp_ge (tgt := 34) hx hb dX5_begin_5 (by decide) hf (fun hf => ?_) (fun hf => ?_)
  · exact kx g_2 (Option.some.inj hf).symm H locs ls hM hS (lv_sub hl [] rfl)
  · refine lv_aload_n hx hb dX5_begin_8 rfl (lv_at hl 0 rfl) ?_
    refine lv_iload_n hx hb dX5_begin_9 rfl (lv_at hl 1 rfl) ?_
    refine lv_iload_n hx hb dX5_begin_10 rfl (lv_at hl 1 rfl) ?_
    refine lv_bipush (v := 12) hx hb dX5_begin_11 (by decide) ?_
    refine hb_icmp_lt (tgt := 22) hx hb dX5_begin_13 (by decide) hf (fun hf => ?_) (fun hf => ?_)
    · refine lv_iconst (v := -1) hx hb dX5_begin_22 (by decide) ?_
      refine lv_goto (tgt := 27) hx hb dX5_begin_23 (by decide) ?_
      exact w_m_begin_B27 ⟨hx, hb, hr, hml, hown, hts, hlocks, hK, hZ0, hA0⟩ hIx g r0 v1_2 g_2 (-1 : Int32) v1_2 h_r0 hf kc kx hM hS (lv_sub hl [0, 1] rfl)
    · refine lv_iload_n hx hb dX5_begin_16 rfl (lv_at hl 1 rfl) ?_
      refine lv_bipush (v := 24) hx hb dX5_begin_17 (by decide) ?_
      refine hb_icmp_lt (tgt := 26) hx hb dX5_begin_19 (by decide) hf (fun hf => ?_) (fun hf => ?_)
      · refine lv_iconst (v := 0) hx hb dX5_begin_26 (by decide) ?_
        exact w_m_begin_B27 ⟨hx, hb, hr, hml, hown, hts, hlocks, hK, hZ0, hA0⟩ hIx g r0 v1_2 g_2 (0 : Int32) v1_2 h_r0 hf kc kx hM hS (lv_sub hl [0, 1] rfl)
      · refine lv_iconst (v := -1) hx hb dX5_begin_22 (by decide) ?_
        refine lv_goto (tgt := 27) hx hb dX5_begin_23 (by decide) ?_
        exact w_m_begin_B27 ⟨hx, hb, hr, hml, hown, hts, hlocks, hK, hZ0, hA0⟩ hIx g r0 v1_2 g_2 (-1 : Int32) v1_2 h_r0 hf kc kx hM hS (lv_sub hl [0, 1] rfl)
set_option maxHeartbeats 4000000 in
set_option maxRecDepth 100000 in
theorem w_m_begin {p : Program} {l : Launch} {e : Env} {s : State} {m : MethodId} {args : Array Value} {below : List Frame} {meth : Method} {c : Code} {D : va_G} {C : Nat → Nat} {a0 : Array Value} {s0 : State} {ad : Rl → Nat} {so : Nat → Option hS} {t : hSt} {lt : Rl → Nat → Int64} (CX : hCx D C a0 s0 p s m args meth c cX5_begin 2 RX5 (none)) (hIx : hI (hA s0) ad (Sum.elim so (mSH C))) (g : hSt) (r0 : Nat) (h_r0 : mSH C r0 = some (.inl (C 0, 30, false))) {o : hSt} (hf : m_begin g r0 = some o) {H : Heap} {locs : List Loc} (hM : hW D vwCl ad (Sum.elim so (mSH C)) (Sum.elim t g) lt H) (hS : va_S (hA s0) s.heap H locs) {ls : Array Slot} (hl : lv_has ls 2 [(0, .ref (ad (.inr r0)))]) : W p l e rm_m_begin s m args below meth c H locs 0 0 (MQ below (va_Qv (fun (_ : Unit) => True) (fun (_ : Unit) (U : State) => hW D vwCl ad (Sum.elim so (mSH C)) (Sum.elim t o) lt U.heap) (hA s0)) args s 0 0 (hA s0)) (F0 m 0 ls []) := by
  obtain ⟨hx, hb, hr, hml, hown, hts, hlocks, hK, hZ0, hA0⟩ := CX
  unfold m_begin at hf
  refine lv_iconst (v := 0) hx hb dX5_begin_0 (by decide) ?_
  refine lv_istore_n (lv' := [(1, .int (0 : Int32)), (0, .ref (ad (.inr r0)))]) hx hb dX5_begin_1 rfl hl (by decide) rfl (fun ls hl => ?_)
  obtain ⟨x3, hq, hf⟩ := hbind hf
  refine w_m_begin_L2 ⟨hx, hb, hr, hml, hown, hts, hlocks, hK, hZ0, hA0⟩ hIx g r0 h_r0 x3 hFU ((0 : Int32), g) hq (fun H locs ls hM hS hl => ?_) H locs ls hM hS (lv_sub hl [1, 0] rfl)
  have eo := Option.some.inj hf
  subst eo
  exact W.vret hx hb hr (fun T ht hW => ⟨⟨(), rfl, trivial, by dsimp only; rw [ht]; exact hM⟩, hS.F ht⟩) hS.2.2 dX5_begin_34
set_option maxHeartbeats 4000000 in
set_option maxRecDepth 100000 in
theorem met_m_begin (l : Launch) (D : va_G) (C : Nat → Nat) (a0 : Array Value) (s0 : State) (ad : Rl → Nat) (so : Nat → Option hS) (t : hSt) (lt : Rl → Nat → Int64) (g : hSt) (r0 : Nat) (h_r0 : mSH C r0 = some (.inl (C 0, 30, false))) {o : hSt} (hf : m_begin g r0 = some o) : Met l yX5_begin (ws_ yX5_begin cX5_begin 2 (none)) rm_m_begin (va_Pc [.ref (ad (.inr r0))] (hB D vwCl (hT C) (hA s0) (hZ a0 s0) ad (Sum.elim so (mSH C)) (Sum.elim t g) lt)) (va_Qv (fun (_ : Unit) => True) (fun (_ : Unit) (U : State) => hW D vwCl ad (Sum.elim so (mSH C)) (Sum.elim t o) lt U.heap) (hA s0)) 0 0 (hA s0) := by
  refine Met.ofW (cc := cX5_begin) (maxL := 2) (ret := (none)) (by decide) rfl ?_
  intro p e s m args below meth c s₁ B hml hv
  obtain ⟨rfl, hM, hIx, hK, hZ0, hA0⟩ := hv
  have hl := lv_entry ([.ref (ad (.inr r0))]) (n := 2) (Nat.le_of_ble_eq_true rfl)
  rw [lg_entry_eq]
  generalize (lg_sl ([.ref (ad (.inr r0))]) ++ List.replicate (2 - (lg_sl ([.ref (ad (.inr r0))])).length) Slot.unset).toArray = ls at hl ⊢
  have hl : lv_has ls 2 [(0, .ref (ad (.inr r0)))] := hl
  exact w_m_begin ⟨B.exec, B.bytes, B.returns, hml, findClass_of_methodNamed B.named, fun w h => atoms_spec (ws := ws_ yX5_begin cX5_begin 2 (none)) B.pre w (List.mem_cons_of_mem _ h), B.notSynchronized, hK, hZ0, hA0⟩ hIx g r0 h_r0 hf hM va_S.rf hl

def rm_m_thrown : Room := { frames := 1, cells := 0, slots := 0, locals := 16 }
set_option maxHeartbeats 4000000 in
set_option maxRecDepth 100000 in
theorem w_m_thrown {p : Program} {l : Launch} {e : Env} {s : State} {m : MethodId} {args : Array Value} {below : List Frame} {meth : Method} {c : Code} {D : va_G} {C : Nat → Nat} {a0 : Array Value} {s0 : State} {ad : Rl → Nat} {so : Nat → Option hS} {t : hSt} {lt : Rl → Nat → Int64} (CX : hCx D C a0 s0 p s m args meth c cX5_thrown 1 RX5 (some .int)) (hIx : hI (hA s0) ad (Sum.elim so (mSH C))) (g : hSt) {o : Int32} (hf : m_thrown g = some o) {H : Heap} {locs : List Loc} (hM : hW D vwCl ad (Sum.elim so (mSH C)) (Sum.elim t g) lt H) (hS : va_S (hA s0) s.heap H locs) {ls : Array Slot} (hl : lv_has ls 1 [(0, .ref (ad (.inr 0)))]) : W p l e rm_m_thrown s m args below meth c H locs 0 0 (MQ below (va_Qi (fun (r : Int32) (_ : Unit) => r = o) (fun (_ : Unit) (U : State) => hW D vwCl ad (Sum.elim so (mSH C)) (Sum.elim t g) lt U.heap) (hA s0)) args s 0 0 (hA s0)) (F0 m 0 ls []) := by
  obtain ⟨hx, hb, hr, hml, hown, hts, hlocks, hK, hZ0, hA0⟩ := CX
  unfold m_thrown at hf
  refine lv_aload_n hx hb dX5_thrown_0 rfl (lv_at hl 0 rfl) ?_
  refine hr_get (ci := 5) (C := RX5) (T := TX5) (N := 55) (r := .inr 0) hx hb hts in_X5 hown hK hM mS_0 rfl 1 (by decide) (hts _ q1369) rfl (v := .int (g 0 1)) rfl dX5_thrown_1 ?_
  have eo := Option.some.inj hf
  subst eo
  exact W.iret (v := (g 0 1)) hx hb hr (fun T ht hW => ⟨⟨(g 0 1), (), rfl, rfl, by dsimp only; rw [ht]; exact hM⟩, hS.F ht⟩) hS.2.2 dX5_thrown_4
set_option maxHeartbeats 4000000 in
set_option maxRecDepth 100000 in
theorem met_m_thrown (l : Launch) (D : va_G) (C : Nat → Nat) (a0 : Array Value) (s0 : State) (ad : Rl → Nat) (so : Nat → Option hS) (t : hSt) (lt : Rl → Nat → Int64) (g : hSt) {o : Int32} (hf : m_thrown g = some o) : Met l yX5_thrown (ws_ yX5_thrown cX5_thrown 1 (some .int)) rm_m_thrown (va_Pc [.ref (ad (.inr 0))] (hB D vwCl (hT C) (hA s0) (hZ a0 s0) ad (Sum.elim so (mSH C)) (Sum.elim t g) lt)) (va_Qi (fun (r : Int32) (_ : Unit) => r = o) (fun (_ : Unit) (U : State) => hW D vwCl ad (Sum.elim so (mSH C)) (Sum.elim t g) lt U.heap) (hA s0)) 0 0 (hA s0) := by
  refine Met.ofW (cc := cX5_thrown) (maxL := 1) (ret := (some .int)) (by decide) rfl ?_
  intro p e s m args below meth c s₁ B hml hv
  obtain ⟨rfl, hM, hIx, hK, hZ0, hA0⟩ := hv
  have hl := lv_entry ([.ref (ad (.inr 0))]) (n := 1) (Nat.le_of_ble_eq_true rfl)
  rw [lg_entry_eq]
  generalize (lg_sl ([.ref (ad (.inr 0))]) ++ List.replicate (1 - (lg_sl ([.ref (ad (.inr 0))])).length) Slot.unset).toArray = ls at hl ⊢
  have hl : lv_has ls 1 [(0, .ref (ad (.inr 0)))] := hl
  exact w_m_thrown ⟨B.exec, B.bytes, B.returns, hml, findClass_of_methodNamed B.named, fun w h => atoms_spec (ws := ws_ yX5_thrown cX5_thrown 1 (some .int)) B.pre w (List.mem_cons_of_mem _ h), B.notSynchronized, hK, hZ0, hA0⟩ hIx g hf hM va_S.rf hl

def rm_m_feed : Room := { frames := 1, cells := 0, slots := 0, locals := 16 }
set_option maxHeartbeats 4000000 in
set_option maxRecDepth 100000 in
theorem w_m_feed_B76 {p : Program} {l : Launch} {e : Env} {s : State} {m : MethodId} {args : Array Value} {below : List Frame} {meth : Method} {c : Code} {D : va_G} {C : Nat → Nat} {a0 : Array Value} {s0 : State} {ad : Rl → Nat} {so : Nat → Option hS} {t : hSt} {lt : Rl → Nat → Int64} (CX : hCx D C a0 s0 p s m args meth c cX5_feed 8 RX5 (some .int)) (hIx : hI (hA s0) ad (Sum.elim so (mSH C))) (g : hSt) (p0 : Int32) (p1 : Int32) (p2 : Int32) (p3 : Int32) (p4 : Int32) (g1 : hSt) (v6_23 : Int32) (g_23 : hSt) (k0_76 : Int32) {oM : Int32 × hSt} {o : (Int32 × hSt) ⊕ (hSt)} (hf : m_feed_B76 v6_23 g_23 k0_76 = some o) (kc : ∀ s' : Int32 × hSt, o = .inl s' → ∀ (H : Heap) (locs : List Loc) (ls : Array Slot), hW D vwCl ad (Sum.elim so (mSH C)) (Sum.elim t s'.2) lt H → va_S (hA s0) s.heap H locs → lv_has ls 8 [(0, .ref (ad (.inr 0))), (1, .int p0), (2, .int p1), (3, .int p2), (4, .int p3), (5, .int p4), (6, .int s'.1)] → W p l e rm_m_feed s m args below meth c H locs 0 0 (MQ below (va_Qi (fun (r : Int32) (_ : Unit) => r = oM.1) (fun (_ : Unit) (U : State) => hW D vwCl ad (Sum.elim so (mSH C)) (Sum.elim t oM.2) lt U.heap) (hA s0)) args s 0 0 (hA s0)) (F0 m 23 ls [])) (kx : ∀ x' : hSt, o = .inr x' → ∀ (H : Heap) (locs : List Loc) (ls : Array Slot), hW D vwCl ad (Sum.elim so (mSH C)) (Sum.elim t x') lt H → va_S (hA s0) s.heap H locs → lv_has ls 8 [(0, .ref (ad (.inr 0)))] → W p l e rm_m_feed s m args below meth c H locs 0 0 (MQ below (va_Qi (fun (r : Int32) (_ : Unit) => r = oM.1) (fun (_ : Unit) (U : State) => hW D vwCl ad (Sum.elim so (mSH C)) (Sum.elim t oM.2) lt U.heap) (hA s0)) args s 0 0 (hA s0)) (F0 m 120 ls [])) {H : Heap} {locs : List Loc} (hM : hW D vwCl ad (Sum.elim so (mSH C)) (Sum.elim t g_23) lt H) (hS : va_S (hA s0) s.heap H locs) {ls : Array Slot} (hl : lv_has ls 8 [(0, .ref (ad (.inr 0))), (1, .int p0), (2, .int p1), (3, .int p2), (4, .int p3), (5, .int p4), (6, .int v6_23)]) : W p l e rm_m_feed s m args below meth c H locs 0 0 (MQ below (va_Qi (fun (r : Int32) (_ : Unit) => r = oM.1) (fun (_ : Unit) (U : State) => hW D vwCl ad (Sum.elim so (mSH C)) (Sum.elim t oM.2) lt U.heap) (hA s0)) args s 0 0 (hA s0)) (F0 m 76 ls [.int k0_76]) := by
  obtain ⟨hx, hb, hr, hml, hown, hts, hlocks, hK, hZ0, hA0⟩ := CX
  unfold m_feed_B76 at hf
  refine lv_istore (lv' := [(7, .int k0_76), (0, .ref (ad (.inr 0))), (1, .int p0), (2, .int p1), (3, .int p2), (4, .int p3), (5, .int p4), (6, .int v6_23)]) hx hb dX5_feed_76 hl (by decide) rfl (fun ls hl => ?_)
  refine lv_aload_n hx hb dX5_feed_78 rfl (lv_at hl 1 rfl) ?_
  refine hr_get (ci := 5) (C := RX5) (T := TX5) (N := 55) (r := .inr 0) hx hb hts in_X5 hown hK hM mS_0 rfl 13 (by decide) (hts _ q1381) rfl (v := .ref (ad (.inr 14))) rfl dX5_feed_79 ?_
  refine lv_aload_n hx hb dX5_feed_82 rfl (lv_at hl 1 rfl) ?_
  refine hr_get (ci := 5) (C := RX5) (T := TX5) (N := 55) (r := .inr 0) hx hb hts in_X5 hown hK hM mS_0 rfl 14 (by decide) (hts _ q1382) rfl (v := .int (g_23 0 14)) rfl dX5_feed_83 ?_
  refine lv_iload hx hb dX5_feed_86 (lv_at hl 0 rfl) ?_
  refine lv_bipush (v := 24) hx hb dX5_feed_88 (by decide) ?_
  refine lv_bipush (v := 8) hx hb dX5_feed_90 (by decide) ?_
  refine lv_iload hx hb dX5_feed_92 (lv_at hl 7 rfl) ?_
  refine lv_iconst (v := 4) hx hb dX5_feed_94 (by decide) ?_
  refine lv_irem hx hb dX5_feed_95 (by decide) ?_
  refine lv_imul hx hb dX5_feed_96 ?_
  refine lv_isub hx hb dX5_feed_97 ?_
  refine lv_ishr hx hb dX5_feed_98 ?_
  refine lv_sipush (v := 255) hx hb dX5_feed_99 (by decide) ?_
  refine lv_iand hx hb dX5_feed_102 ?_
  refine hm_iast (r := 14) hx hb hK hM hIx hS 0 mS_14 rfl hf dX5_feed_103 (fun g2 H locs hf hM hS => ?_)
  refine lv_aload_n hx hb dX5_feed_104 rfl (lv_at hl 1 rfl) ?_
  refine lv_dup hx hb dX5_feed_105 rfl ?_
  refine hr_get (ci := 5) (C := RX5) (T := TX5) (N := 55) (r := .inr 0) hx hb hts in_X5 hown hK hM mS_0 rfl 14 (by decide) (hts _ q1382) rfl (v := .int (g2 0 14)) rfl dX5_feed_106 ?_
  refine lv_iconst (v := 1) hx hb dX5_feed_109 (by decide) ?_
  refine lv_iadd hx hb dX5_feed_110 ?_
  refine hm_put (r := 0) (ci := 5) (C := RX5) (T := TX5) (N := 55) hx hb hts in_X5 tyX5 tyX5_ok nmX5 hown hK hM hIx hS mS_0 rfl 14 (by decide) (hts _ q1382) rfl rfl rfl hf dX5_feed_111 (fun g3 H locs hf hM hS => ?_)
  obtain ⟨y6_4, ey, hf⟩ := hlet_ex hf
  refine lv_iinc (v := y6_4) (lv' := [(6, .int y6_4), (7, .int k0_76), (0, .ref (ad (.inr 0))), (1, .int p0), (2, .int p1), (3, .int p2), (4, .int p3), (5, .int p4)]) hx hb dX5_feed_114 hl (k := 7) rfl (by rw [ey]; rfl) (by decide) rfl (fun ls hl => ?_)
  refine lv_goto (tgt := 23) hx hb dX5_feed_117 (by decide) ?_
  exact kc (y6_4, g3) (Option.some.inj hf).symm H locs ls hM hS (lv_sub hl [2, 3, 4, 5, 6, 7, 0] rfl)
set_option maxHeartbeats 4000000 in
set_option maxRecDepth 100000 in
theorem w_m_feed_L23 {p : Program} {l : Launch} {e : Env} {s : State} {m : MethodId} {args : Array Value} {below : List Frame} {meth : Method} {c : Code} {D : va_G} {C : Nat → Nat} {a0 : Array Value} {s0 : State} {ad : Rl → Nat} {so : Nat → Option hS} {t : hSt} {lt : Rl → Nat → Int64} (CX : hCx D C a0 s0 p s m args meth c cX5_feed 8 RX5 (some .int)) (hIx : hI (hA s0) ad (Sum.elim so (mSH C))) (g : hSt) (p0 : Int32) (p1 : Int32) (p2 : Int32) (p3 : Int32) (p4 : Int32) (g1 : hSt) {oM : Int32 × hSt} (x : hSt) (n : Nat) (q0 : Int32 × hSt) (h0 : hiter (fun q : Int32 × hSt => m_feed_L23 p0 p1 p2 p3 p4 q.1 q.2) n q0 = some x) (kx0 : ∀ (H : Heap) (locs : List Loc) (ls : Array Slot), hW D vwCl ad (Sum.elim so (mSH C)) (Sum.elim t x) lt H → va_S (hA s0) s.heap H locs → lv_has ls 8 [(0, .ref (ad (.inr 0)))] → W p l e rm_m_feed s m args below meth c H locs 0 0 (MQ below (va_Qi (fun (r : Int32) (_ : Unit) => r = oM.1) (fun (_ : Unit) (U : State) => hW D vwCl ad (Sum.elim so (mSH C)) (Sum.elim t oM.2) lt U.heap) (hA s0)) args s 0 0 (hA s0)) (F0 m 120 ls [])) : ∀ (H : Heap) (locs : List Loc) (ls : Array Slot), hW D vwCl ad (Sum.elim so (mSH C)) (Sum.elim t q0.2) lt H → va_S (hA s0) s.heap H locs → lv_has ls 8 [(0, .ref (ad (.inr 0))), (1, .int p0), (2, .int p1), (3, .int p2), (4, .int p3), (5, .int p4), (6, .int q0.1)] → W p l e rm_m_feed s m args below meth c H locs 0 0 (MQ below (va_Qi (fun (r : Int32) (_ : Unit) => r = oM.1) (fun (_ : Unit) (U : State) => hW D vwCl ad (Sum.elim so (mSH C)) (Sum.elim t oM.2) lt U.heap) (hA s0)) args s 0 0 (hA s0)) (F0 m 23 ls []) := by
  obtain ⟨hx, hb, hr, hml, hown, hts, hlocks, hK, hZ0, hA0⟩ := CX
  refine hiter_W (Wh := fun q => ∀ (H : Heap) (locs : List Loc) (ls : Array Slot), hW D vwCl ad (Sum.elim so (mSH C)) (Sum.elim t q.2) lt H → va_S (hA s0) s.heap H locs → lv_has ls 8 [(0, .ref (ad (.inr 0))), (1, .int p0), (2, .int p1), (3, .int p2), (4, .int p3), (5, .int p4), (6, .int q.1)] → W p l e rm_m_feed s m args below meth c H locs 0 0 (MQ below (va_Qi (fun (r : Int32) (_ : Unit) => r = oM.1) (fun (_ : Unit) (U : State) => hW D vwCl ad (Sum.elim so (mSH C)) (Sum.elim t oM.2) lt U.heap) (hA s0)) args s 0 0 (hA s0)) (F0 m 23 ls [])) ?_ n q0 h0
  intro q o hf kc kx1 H locs ls hM hS hl
  obtain ⟨v6_23, g_23⟩ := q
  replace hf : m_feed_L23 p0 p1 p2 p3 p4 v6_23 g_23 = some o := hf
  have kx : ∀ x' : hSt, o = .inr x' → ∀ (H : Heap) (locs : List Loc) (ls : Array Slot), hW D vwCl ad (Sum.elim so (mSH C)) (Sum.elim t x') lt H → va_S (hA s0) s.heap H locs → lv_has ls 8 [(0, .ref (ad (.inr 0)))] → W p l e rm_m_feed s m args below meth c H locs 0 0 (MQ below (va_Qi (fun (r : Int32) (_ : Unit) => r = oM.1) (fun (_ : Unit) (U : State) => hW D vwCl ad (Sum.elim so (mSH C)) (Sum.elim t oM.2) lt U.heap) (hA s0)) args s 0 0 (hA s0)) (F0 m 120 ls []) := fun x' ex => by rw [kx1 _ ex]; exact kx0
  unfold m_feed_L23 at hf
  refine lv_iload hx hb dX5_feed_23 (lv_at hl 6 rfl) ?_
  refine lv_bipush (v := 20) hx hb dX5_feed_25 (by decide) ?_
  refine hb_icmp_ge (tgt := 120) hx hb dX5_feed_27 (by decide) hf (fun hf => ?_) (fun hf => ?_)
  · exact kx g_23 (Option.some.inj hf).symm H locs ls hM hS (lv_sub hl [0] rfl)
  · refine lv_iload hx hb dX5_feed_30 (lv_at hl 6 rfl) ?_
    refine lv_iconst (v := 4) hx hb dX5_feed_32 (by decide) ?_
    refine hb_icmp_ge (tgt := 40) hx hb dX5_feed_33 (by decide) hf (fun hf => ?_) (fun hf => ?_)
    · refine lv_iload hx hb dX5_feed_40 (lv_at hl 6 rfl) ?_
      refine lv_bipush (v := 8) hx hb dX5_feed_42 (by decide) ?_
      refine hb_icmp_ge (tgt := 51) hx hb dX5_feed_44 (by decide) hf (fun hf => ?_) (fun hf => ?_)
      · refine lv_iload hx hb dX5_feed_51 (lv_at hl 6 rfl) ?_
        refine lv_bipush (v := 12) hx hb dX5_feed_53 (by decide) ?_
        refine hb_icmp_ge (tgt := 62) hx hb dX5_feed_55 (by decide) hf (fun hf => ?_) (fun hf => ?_)
        · refine lv_iload hx hb dX5_feed_62 (lv_at hl 6 rfl) ?_
          refine lv_bipush (v := 16) hx hb dX5_feed_64 (by decide) ?_
          refine hb_icmp_ge (tgt := 74) hx hb dX5_feed_66 (by decide) hf (fun hf => ?_) (fun hf => ?_)
          · refine lv_iload hx hb dX5_feed_74 (lv_at hl 5 rfl) ?_
            exact w_m_feed_B76 ⟨hx, hb, hr, hml, hown, hts, hlocks, hK, hZ0, hA0⟩ hIx g p0 p1 p2 p3 p4 g1 v6_23 g_23 p4 hf kc kx hM hS (lv_sub hl [0, 1, 2, 3, 4, 5, 6] rfl)
          · refine lv_iload hx hb dX5_feed_69 (lv_at hl 4 rfl) ?_
            refine lv_goto (tgt := 76) hx hb dX5_feed_71 (by decide) ?_
            exact w_m_feed_B76 ⟨hx, hb, hr, hml, hown, hts, hlocks, hK, hZ0, hA0⟩ hIx g p0 p1 p2 p3 p4 g1 v6_23 g_23 p3 hf kc kx hM hS (lv_sub hl [0, 1, 2, 3, 4, 5, 6] rfl)
        · refine lv_iload_n hx hb dX5_feed_58 rfl (lv_at hl 3 rfl) ?_
          refine lv_goto (tgt := 76) hx hb dX5_feed_59 (by decide) ?_
          exact w_m_feed_B76 ⟨hx, hb, hr, hml, hown, hts, hlocks, hK, hZ0, hA0⟩ hIx g p0 p1 p2 p3 p4 g1 v6_23 g_23 p2 hf kc kx hM hS (lv_sub hl [0, 1, 2, 3, 4, 5, 6] rfl)
      · refine lv_iload_n hx hb dX5_feed_47 rfl (lv_at hl 2 rfl) ?_
        refine lv_goto (tgt := 76) hx hb dX5_feed_48 (by decide) ?_
        exact w_m_feed_B76 ⟨hx, hb, hr, hml, hown, hts, hlocks, hK, hZ0, hA0⟩ hIx g p0 p1 p2 p3 p4 g1 v6_23 g_23 p1 hf kc kx hM hS (lv_sub hl [0, 1, 2, 3, 4, 5, 6] rfl)
    · refine lv_iload_n hx hb dX5_feed_36 rfl (lv_at hl 1 rfl) ?_
      refine lv_goto (tgt := 76) hx hb dX5_feed_37 (by decide) ?_
      exact w_m_feed_B76 ⟨hx, hb, hr, hml, hown, hts, hlocks, hK, hZ0, hA0⟩ hIx g p0 p1 p2 p3 p4 g1 v6_23 g_23 p0 hf kc kx hM hS (lv_sub hl [0, 1, 2, 3, 4, 5, 6] rfl)
set_option maxHeartbeats 4000000 in
set_option maxRecDepth 100000 in
theorem w_m_feed {p : Program} {l : Launch} {e : Env} {s : State} {m : MethodId} {args : Array Value} {below : List Frame} {meth : Method} {c : Code} {D : va_G} {C : Nat → Nat} {a0 : Array Value} {s0 : State} {ad : Rl → Nat} {so : Nat → Option hS} {t : hSt} {lt : Rl → Nat → Int64} (CX : hCx D C a0 s0 p s m args meth c cX5_feed 8 RX5 (some .int)) (hIx : hI (hA s0) ad (Sum.elim so (mSH C))) (g : hSt) (p0 : Int32) (p1 : Int32) (p2 : Int32) (p3 : Int32) (p4 : Int32) {o : Int32 × hSt} (hf : m_feed g p0 p1 p2 p3 p4 = some o) {H : Heap} {locs : List Loc} (hM : hW D vwCl ad (Sum.elim so (mSH C)) (Sum.elim t g) lt H) (hS : va_S (hA s0) s.heap H locs) {ls : Array Slot} (hl : lv_has ls 8 [(0, .ref (ad (.inr 0))), (1, .int p0), (2, .int p1), (3, .int p2), (4, .int p3), (5, .int p4)]) : W p l e rm_m_feed s m args below meth c H locs 0 0 (MQ below (va_Qi (fun (r : Int32) (_ : Unit) => r = o.1) (fun (_ : Unit) (U : State) => hW D vwCl ad (Sum.elim so (mSH C)) (Sum.elim t o.2) lt U.heap) (hA s0)) args s 0 0 (hA s0)) (F0 m 0 ls []) := by
  obtain ⟨hx, hb, hr, hml, hown, hts, hlocks, hK, hZ0, hA0⟩ := CX
  unfold m_feed at hf
  refine lv_aload_n hx hb dX5_feed_0 rfl (lv_at hl 0 rfl) ?_
  refine lv_iconst (v := 0) hx hb dX5_feed_1 (by decide) ?_
  refine hm_put (r := 0) (ci := 5) (C := RX5) (T := TX5) (N := 55) hx hb hts in_X5 tyX5 tyX5_ok nmX5 hown hK hM hIx hS mS_0 rfl 1 (by decide) (hts _ q1369) rfl rfl rfl hf dX5_feed_2 (fun g1 H locs hf hM hS => ?_)
  refine lv_aload_n hx hb dX5_feed_5 rfl (lv_at hl 0 rfl) ?_
  refine hr_get (ci := 5) (C := RX5) (T := TX5) (N := 55) (r := .inr 0) hx hb hts in_X5 hown hK hM mS_0 rfl 14 (by decide) (hts _ q1382) rfl (v := .int (g1 0 14)) rfl dX5_feed_6 ?_
  refine lv_bipush (v := 20) hx hb dX5_feed_9 (by decide) ?_
  refine lv_iadd hx hb dX5_feed_11 ?_
  refine lv_sipush (v := 700) hx hb dX5_feed_12 (by decide) ?_
  refine hb_icmp_le (tgt := 20) hx hb dX5_feed_15 (by decide) hf (fun hf => ?_) (fun hf => ?_)
  · refine lv_iconst (v := 0) hx hb dX5_feed_20 (by decide) ?_
    refine lv_istore (lv' := [(6, .int (0 : Int32)), (0, .ref (ad (.inr 0))), (1, .int p0), (2, .int p1), (3, .int p2), (4, .int p3), (5, .int p4)]) hx hb dX5_feed_21 hl (by decide) rfl (fun ls hl => ?_)
    obtain ⟨x5, hq, hf⟩ := hbind hf
    refine w_m_feed_L23 ⟨hx, hb, hr, hml, hown, hts, hlocks, hK, hZ0, hA0⟩ hIx g p0 p1 p2 p3 p4 g1 x5 hFU ((0 : Int32), g1) hq (fun H locs ls hM hS hl => ?_) H locs ls hM hS (lv_sub hl [1, 2, 3, 4, 5, 6, 0] rfl)
    refine lv_aload_n hx hb dX5_feed_120 rfl (lv_at hl 0 rfl) ?_
    refine hr_get (ci := 5) (C := RX5) (T := TX5) (N := 55) (r := .inr 0) hx hb hts in_X5 hown hK hM mS_0 rfl 14 (by decide) (hts _ q1382) rfl (v := .int (x5 0 14)) rfl dX5_feed_121 ?_
    have eo := Option.some.inj hf
    subst eo
    exact W.iret (v := (x5 0 14)) hx hb hr (fun T ht hW => ⟨⟨(x5 0 14), (), rfl, rfl, by dsimp only; rw [ht]; exact hM⟩, hS.F ht⟩) hS.2.2 dX5_feed_124
  · refine lv_iconst (v := -1) hx hb dX5_feed_18 (by decide) ?_
    have eo := Option.some.inj hf
    subst eo
    exact W.iret (v := (-1 : Int32)) hx hb hr (fun T ht hW => ⟨⟨(-1 : Int32), (), rfl, rfl, by dsimp only; rw [ht]; exact hM⟩, hS.F ht⟩) hS.2.2 dX5_feed_19
set_option maxHeartbeats 4000000 in
set_option maxRecDepth 100000 in
theorem met_m_feed (l : Launch) (D : va_G) (C : Nat → Nat) (a0 : Array Value) (s0 : State) (ad : Rl → Nat) (so : Nat → Option hS) (t : hSt) (lt : Rl → Nat → Int64) (g : hSt) (p0 : Int32) (p1 : Int32) (p2 : Int32) (p3 : Int32) (p4 : Int32) {o : Int32 × hSt} (hf : m_feed g p0 p1 p2 p3 p4 = some o) : Met l yX5_feed (ws_ yX5_feed cX5_feed 8 (some .int)) rm_m_feed (va_Pc [.ref (ad (.inr 0)), .int p0, .int p1, .int p2, .int p3, .int p4] (hB D vwCl (hT C) (hA s0) (hZ a0 s0) ad (Sum.elim so (mSH C)) (Sum.elim t g) lt)) (va_Qi (fun (r : Int32) (_ : Unit) => r = o.1) (fun (_ : Unit) (U : State) => hW D vwCl ad (Sum.elim so (mSH C)) (Sum.elim t o.2) lt U.heap) (hA s0)) 0 0 (hA s0) := by
  refine Met.ofW (cc := cX5_feed) (maxL := 8) (ret := (some .int)) (by decide) rfl ?_
  intro p e s m args below meth c s₁ B hml hv
  obtain ⟨rfl, hM, hIx, hK, hZ0, hA0⟩ := hv
  have hl := lv_entry ([.ref (ad (.inr 0)), .int p0, .int p1, .int p2, .int p3, .int p4]) (n := 8) (Nat.le_of_ble_eq_true rfl)
  rw [lg_entry_eq]
  generalize (lg_sl ([.ref (ad (.inr 0)), .int p0, .int p1, .int p2, .int p3, .int p4]) ++ List.replicate (8 - (lg_sl ([.ref (ad (.inr 0)), .int p0, .int p1, .int p2, .int p3, .int p4])).length) Slot.unset).toArray = ls at hl ⊢
  have hl : lv_has ls 8 [(0, .ref (ad (.inr 0))), (1, .int p0), (2, .int p1), (3, .int p2), (4, .int p3), (5, .int p4)] := hl
  exact w_m_feed ⟨B.exec, B.bytes, B.returns, hml, findClass_of_methodNamed B.named, fun w h => atoms_spec (ws := ws_ yX5_feed cX5_feed 8 (some .int)) B.pre w (List.mem_cons_of_mem _ h), B.notSynchronized, hK, hZ0, hA0⟩ hIx g p0 p1 p2 p3 p4 hf hM va_S.rf hl

def rm_m_fail : Room := { frames := 1, cells := 0, slots := 0, locals := 16 }
set_option maxHeartbeats 4000000 in
set_option maxRecDepth 100000 in
theorem w_m_fail {p : Program} {l : Launch} {e : Env} {s : State} {m : MethodId} {args : Array Value} {below : List Frame} {meth : Method} {c : Code} {D : va_G} {C : Nat → Nat} {a0 : Array Value} {s0 : State} {ad : Rl → Nat} {so : Nat → Option hS} {t : hSt} {lt : Rl → Nat → Int64} (CX : hCx D C a0 s0 p s m args meth c cX5_fail 2 RX5 (some .int)) (hIx : hI (hA s0) ad (Sum.elim so (mSH C))) (g : hSt) (p0 : Int32) {o : Int32 × hSt} (hf : m_fail g p0 = some o) {H : Heap} {locs : List Loc} (hM : hW D vwCl ad (Sum.elim so (mSH C)) (Sum.elim t g) lt H) (hS : va_S (hA s0) s.heap H locs) {ls : Array Slot} (hl : lv_has ls 2 [(0, .ref (ad (.inr 0))), (1, .int p0)]) : W p l e rm_m_fail s m args below meth c H locs 0 0 (MQ below (va_Qi (fun (r : Int32) (_ : Unit) => r = o.1) (fun (_ : Unit) (U : State) => hW D vwCl ad (Sum.elim so (mSH C)) (Sum.elim t o.2) lt U.heap) (hA s0)) args s 0 0 (hA s0)) (F0 m 0 ls []) := by
  obtain ⟨hx, hb, hr, hml, hown, hts, hlocks, hK, hZ0, hA0⟩ := CX
  unfold m_fail at hf
  refine lv_aload_n hx hb dX5_fail_0 rfl (lv_at hl 0 rfl) ?_
  refine lv_iload_n hx hb dX5_fail_1 rfl (lv_at hl 1 rfl) ?_
  refine hm_put (r := 0) (ci := 5) (C := RX5) (T := TX5) (N := 55) hx hb hts in_X5 tyX5 tyX5_ok nmX5 hown hK hM hIx hS mS_0 rfl 1 (by decide) (hts _ q1369) rfl rfl rfl hf dX5_fail_2 (fun g1 H locs hf hM hS => ?_)
  refine lv_iconst (v := 0) hx hb dX5_fail_5 (by decide) ?_
  have eo := Option.some.inj hf
  subst eo
  exact W.iret (v := (0 : Int32)) hx hb hr (fun T ht hW => ⟨⟨(0 : Int32), (), rfl, rfl, by dsimp only; rw [ht]; exact hM⟩, hS.F ht⟩) hS.2.2 dX5_fail_6
set_option maxHeartbeats 4000000 in
set_option maxRecDepth 100000 in
theorem met_m_fail (l : Launch) (D : va_G) (C : Nat → Nat) (a0 : Array Value) (s0 : State) (ad : Rl → Nat) (so : Nat → Option hS) (t : hSt) (lt : Rl → Nat → Int64) (g : hSt) (p0 : Int32) {o : Int32 × hSt} (hf : m_fail g p0 = some o) : Met l yX5_fail (ws_ yX5_fail cX5_fail 2 (some .int)) rm_m_fail (va_Pc [.ref (ad (.inr 0)), .int p0] (hB D vwCl (hT C) (hA s0) (hZ a0 s0) ad (Sum.elim so (mSH C)) (Sum.elim t g) lt)) (va_Qi (fun (r : Int32) (_ : Unit) => r = o.1) (fun (_ : Unit) (U : State) => hW D vwCl ad (Sum.elim so (mSH C)) (Sum.elim t o.2) lt U.heap) (hA s0)) 0 0 (hA s0) := by
  refine Met.ofW (cc := cX5_fail) (maxL := 2) (ret := (some .int)) (by decide) rfl ?_
  intro p e s m args below meth c s₁ B hml hv
  obtain ⟨rfl, hM, hIx, hK, hZ0, hA0⟩ := hv
  have hl := lv_entry ([.ref (ad (.inr 0)), .int p0]) (n := 2) (Nat.le_of_ble_eq_true rfl)
  rw [lg_entry_eq]
  generalize (lg_sl ([.ref (ad (.inr 0)), .int p0]) ++ List.replicate (2 - (lg_sl ([.ref (ad (.inr 0)), .int p0])).length) Slot.unset).toArray = ls at hl ⊢
  have hl : lv_has ls 2 [(0, .ref (ad (.inr 0))), (1, .int p0)] := hl
  exact w_m_fail ⟨B.exec, B.bytes, B.returns, hml, findClass_of_methodNamed B.named, fun w h => atoms_spec (ws := ws_ yX5_fail cX5_fail 2 (some .int)) B.pre w (List.mem_cons_of_mem _ h), B.notSynchronized, hK, hZ0, hA0⟩ hIx g p0 hf hM va_S.rf hl

def rm_m_byteAt : Room := { frames := 1, cells := 0, slots := 0, locals := 16 }
set_option maxHeartbeats 4000000 in
set_option maxRecDepth 100000 in
theorem w_m_byteAt {p : Program} {l : Launch} {e : Env} {s : State} {m : MethodId} {args : Array Value} {below : List Frame} {meth : Method} {c : Code} {D : va_G} {C : Nat → Nat} {a0 : Array Value} {s0 : State} {ad : Rl → Nat} {so : Nat → Option hS} {t : hSt} {lt : Rl → Nat → Int64} (CX : hCx D C a0 s0 p s m args meth c cX5_byteAt 2 RX5 (some .int)) (hIx : hI (hA s0) ad (Sum.elim so (mSH C))) (g : hSt) (p0 : Int32) {o : Int32} (hf : m_byteAt g p0 = some o) {H : Heap} {locs : List Loc} (hM : hW D vwCl ad (Sum.elim so (mSH C)) (Sum.elim t g) lt H) (hS : va_S (hA s0) s.heap H locs) {ls : Array Slot} (hl : lv_has ls 2 [(0, .ref (ad (.inr 0))), (1, .int p0)]) : W p l e rm_m_byteAt s m args below meth c H locs 0 0 (MQ below (va_Qi (fun (r : Int32) (_ : Unit) => r = o) (fun (_ : Unit) (U : State) => hW D vwCl ad (Sum.elim so (mSH C)) (Sum.elim t g) lt U.heap) (hA s0)) args s 0 0 (hA s0)) (F0 m 0 ls []) := by
  obtain ⟨hx, hb, hr, hml, hown, hts, hlocks, hK, hZ0, hA0⟩ := CX
  unfold m_byteAt at hf
  refine lv_iload_n hx hb dX5_byteAt_0 rfl (lv_at hl 1 rfl) ?_
  refine lv_aload_n hx hb dX5_byteAt_1 rfl (lv_at hl 0 rfl) ?_
  refine hr_get (ci := 5) (C := RX5) (T := TX5) (N := 55) (r := .inr 0) hx hb hts in_X5 hown hK hM mS_0 rfl 16 (by decide) (hts _ q1384) rfl (v := .int (g 0 16)) rfl dX5_byteAt_2 ?_
  refine hb_icmp_ge (tgt := 17) hx hb dX5_byteAt_5 (by decide) hf (fun hf => ?_) (fun hf => ?_)
  · refine lv_iconst (v := -1) hx hb dX5_byteAt_17 (by decide) ?_
    have eo := Option.some.inj hf
    subst eo
    exact W.iret (v := (-1 : Int32)) hx hb hr (fun T ht hW => ⟨⟨(-1 : Int32), (), rfl, rfl, by dsimp only; rw [ht]; exact hM⟩, hS.F ht⟩) hS.2.2 dX5_byteAt_18
  · refine lv_aload_n hx hb dX5_byteAt_8 rfl (lv_at hl 0 rfl) ?_
    refine hr_get (ci := 5) (C := RX5) (T := TX5) (N := 55) (r := .inr 0) hx hb hts in_X5 hown hK hM mS_0 rfl 13 (by decide) (hts _ q1381) rfl (v := .ref (ad (.inr 14))) rfl dX5_byteAt_9 ?_
    refine lv_iload_n hx hb dX5_byteAt_12 rfl (lv_at hl 1 rfl) ?_
    refine hm_iald (r := 14) hx hb hK hM 0 mS_14 rfl hf dX5_byteAt_13 (fun x1 hf => ?_)
    refine lv_goto (tgt := 18) hx hb dX5_byteAt_14 (by decide) ?_
    have eo := Option.some.inj hf
    subst eo
    exact W.iret (v := x1) hx hb hr (fun T ht hW => ⟨⟨x1, (), rfl, rfl, by dsimp only; rw [ht]; exact hM⟩, hS.F ht⟩) hS.2.2 dX5_byteAt_18
set_option maxHeartbeats 4000000 in
set_option maxRecDepth 100000 in
theorem met_m_byteAt (l : Launch) (D : va_G) (C : Nat → Nat) (a0 : Array Value) (s0 : State) (ad : Rl → Nat) (so : Nat → Option hS) (t : hSt) (lt : Rl → Nat → Int64) (g : hSt) (p0 : Int32) {o : Int32} (hf : m_byteAt g p0 = some o) : Met l yX5_byteAt (ws_ yX5_byteAt cX5_byteAt 2 (some .int)) rm_m_byteAt (va_Pc [.ref (ad (.inr 0)), .int p0] (hB D vwCl (hT C) (hA s0) (hZ a0 s0) ad (Sum.elim so (mSH C)) (Sum.elim t g) lt)) (va_Qi (fun (r : Int32) (_ : Unit) => r = o) (fun (_ : Unit) (U : State) => hW D vwCl ad (Sum.elim so (mSH C)) (Sum.elim t g) lt U.heap) (hA s0)) 0 0 (hA s0) := by
  refine Met.ofW (cc := cX5_byteAt) (maxL := 2) (ret := (some .int)) (by decide) rfl ?_
  intro p e s m args below meth c s₁ B hml hv
  obtain ⟨rfl, hM, hIx, hK, hZ0, hA0⟩ := hv
  have hl := lv_entry ([.ref (ad (.inr 0)), .int p0]) (n := 2) (Nat.le_of_ble_eq_true rfl)
  rw [lg_entry_eq]
  generalize (lg_sl ([.ref (ad (.inr 0)), .int p0]) ++ List.replicate (2 - (lg_sl ([.ref (ad (.inr 0)), .int p0])).length) Slot.unset).toArray = ls at hl ⊢
  have hl : lv_has ls 2 [(0, .ref (ad (.inr 0))), (1, .int p0)] := hl
  exact w_m_byteAt ⟨B.exec, B.bytes, B.returns, hml, findClass_of_methodNamed B.named, fun w h => atoms_spec (ws := ws_ yX5_byteAt cX5_byteAt 2 (some .int)) B.pre w (List.mem_cons_of_mem _ h), B.notSynchronized, hK, hZ0, hA0⟩ hIx g p0 hf hM va_S.rf hl

def rm_m_isLetter : Room := { frames := 1, cells := 0, slots := 0, locals := 16 }
set_option maxHeartbeats 4000000 in
set_option maxRecDepth 100000 in
theorem w_m_isLetter_B16 {p : Program} {l : Launch} {e : Env} {s : State} {m : MethodId} {args : Array Value} {below : List Frame} {meth : Method} {c : Code} {D : va_G} {C : Nat → Nat} {a0 : Array Value} {s0 : State} {ad : Rl → Nat} {so : Nat → Option hS} {st : Rl → Nat → Int32} {lt : Rl → Nat → Int64} (CX : hCx D C a0 s0 p s m args meth c cX5_isLetter 1 RX5 (some .boolean)) (hIx : hI (hA s0) ad (Sum.elim so (mSH C))) (p0 : Int32) {o : Int32} (hf : m_isLetter_B16 = some o) {H : Heap} {locs : List Loc} (hM : hW D vwCl ad (Sum.elim so (mSH C)) st lt H) (hS : va_S (hA s0) s.heap H locs) {ls : Array Slot} (hl : lv_has ls 1 []) : W p l e rm_m_isLetter s m args below meth c H locs 0 0 (MQ below (va_Qi (fun (r : Int32) (_ : Unit) => r = o) (fun (_ : Unit) (U : State) => hW D vwCl ad (Sum.elim so (mSH C)) st lt U.heap) (hA s0)) args s 0 0 (hA s0)) (F0 m 16 ls []) := by
  obtain ⟨hx, hb, hr, hml, hown, hts, hlocks, hK, hZ0, hA0⟩ := CX
  unfold m_isLetter_B16 at hf
  refine lv_iconst (v := 0) hx hb dX5_isLetter_16 (by decide) ?_
  have eo := Option.some.inj hf
  subst eo
  exact W.zret (v := (0 : Int32)) hx hb hr rfl (fun T ht hW => ⟨⟨(0 : Int32), (), rfl, rfl, by dsimp only; rw [ht]; exact hM⟩, hS.F ht⟩) hS.2.2 dX5_isLetter_17
set_option maxHeartbeats 4000000 in
set_option maxRecDepth 100000 in
theorem w_m_isLetter {p : Program} {l : Launch} {e : Env} {s : State} {m : MethodId} {args : Array Value} {below : List Frame} {meth : Method} {c : Code} {D : va_G} {C : Nat → Nat} {a0 : Array Value} {s0 : State} {ad : Rl → Nat} {so : Nat → Option hS} {st : Rl → Nat → Int32} {lt : Rl → Nat → Int64} (CX : hCx D C a0 s0 p s m args meth c cX5_isLetter 1 RX5 (some .boolean)) (hIx : hI (hA s0) ad (Sum.elim so (mSH C))) (p0 : Int32) {o : Int32} (hf : m_isLetter p0 = some o) {H : Heap} {locs : List Loc} (hM : hW D vwCl ad (Sum.elim so (mSH C)) st lt H) (hS : va_S (hA s0) s.heap H locs) {ls : Array Slot} (hl : lv_has ls 1 [(0, .int p0)]) : W p l e rm_m_isLetter s m args below meth c H locs 0 0 (MQ below (va_Qi (fun (r : Int32) (_ : Unit) => r = o) (fun (_ : Unit) (U : State) => hW D vwCl ad (Sum.elim so (mSH C)) st lt U.heap) (hA s0)) args s 0 0 (hA s0)) (F0 m 0 ls []) := by
  obtain ⟨hx, hb, hr, hml, hown, hts, hlocks, hK, hZ0, hA0⟩ := CX
  unfold m_isLetter at hf
  refine lv_iload_n hx hb dX5_isLetter_0 rfl (lv_at hl 0 rfl) ?_
  refine lv_bipush (v := 97) hx hb dX5_isLetter_1 (by decide) ?_
  refine hb_icmp_lt (tgt := 16) hx hb dX5_isLetter_3 (by decide) hf (fun hf => ?_) (fun hf => ?_)
  · exact w_m_isLetter_B16 ⟨hx, hb, hr, hml, hown, hts, hlocks, hK, hZ0, hA0⟩ hIx p0 hf hM hS (lv_sub hl [] rfl)
  · refine lv_iload_n hx hb dX5_isLetter_6 rfl (lv_at hl 0 rfl) ?_
    refine lv_bipush (v := 122) hx hb dX5_isLetter_7 (by decide) ?_
    refine hb_icmp_gt (tgt := 16) hx hb dX5_isLetter_9 (by decide) hf (fun hf => ?_) (fun hf => ?_)
    · exact w_m_isLetter_B16 ⟨hx, hb, hr, hml, hown, hts, hlocks, hK, hZ0, hA0⟩ hIx p0 hf hM hS (lv_sub hl [] rfl)
    · refine lv_iconst (v := 1) hx hb dX5_isLetter_12 (by decide) ?_
      refine lv_goto (tgt := 17) hx hb dX5_isLetter_13 (by decide) ?_
      have eo := Option.some.inj hf
      subst eo
      exact W.zret (v := (1 : Int32)) hx hb hr rfl (fun T ht hW => ⟨⟨(1 : Int32), (), rfl, rfl, by dsimp only; rw [ht]; exact hM⟩, hS.F ht⟩) hS.2.2 dX5_isLetter_17
set_option maxHeartbeats 4000000 in
set_option maxRecDepth 100000 in
theorem met_m_isLetter (l : Launch) (D : va_G) (C : Nat → Nat) (a0 : Array Value) (s0 : State) (ad : Rl → Nat) (so : Nat → Option hS) (st : Rl → Nat → Int32) (lt : Rl → Nat → Int64) (p0 : Int32) {o : Int32} (hf : m_isLetter p0 = some o) : Met l yX5_isLetter (ws_ yX5_isLetter cX5_isLetter 1 (some .boolean)) rm_m_isLetter (va_Pc [.int p0] (hB D vwCl (hT C) (hA s0) (hZ a0 s0) ad (Sum.elim so (mSH C)) st lt)) (va_Qi (fun (r : Int32) (_ : Unit) => r = o) (fun (_ : Unit) (U : State) => hW D vwCl ad (Sum.elim so (mSH C)) st lt U.heap) (hA s0)) 0 0 (hA s0) := by
  refine Met.ofW (cc := cX5_isLetter) (maxL := 1) (ret := (some .boolean)) (by decide) rfl ?_
  intro p e s m args below meth c s₁ B hml hv
  obtain ⟨rfl, hM, hIx, hK, hZ0, hA0⟩ := hv
  have hl := lv_entry ([.int p0]) (n := 1) (Nat.le_of_ble_eq_true rfl)
  rw [lg_entry_eq]
  generalize (lg_sl ([.int p0]) ++ List.replicate (1 - (lg_sl ([.int p0])).length) Slot.unset).toArray = ls at hl ⊢
  have hl : lv_has ls 1 [(0, .int p0)] := hl
  exact w_m_isLetter ⟨B.exec, B.bytes, B.returns, hml, findClass_of_methodNamed B.named, fun w h => atoms_spec (ws := ws_ yX5_isLetter cX5_isLetter 1 (some .boolean)) B.pre w (List.mem_cons_of_mem _ h), B.notSynchronized, hK, hZ0, hA0⟩ hIx p0 hf hM va_S.rf hl

def rm_m_isDigit : Room := { frames := 1, cells := 0, slots := 0, locals := 16 }
set_option maxHeartbeats 4000000 in
set_option maxRecDepth 100000 in
theorem w_m_isDigit_B16 {p : Program} {l : Launch} {e : Env} {s : State} {m : MethodId} {args : Array Value} {below : List Frame} {meth : Method} {c : Code} {D : va_G} {C : Nat → Nat} {a0 : Array Value} {s0 : State} {ad : Rl → Nat} {so : Nat → Option hS} {st : Rl → Nat → Int32} {lt : Rl → Nat → Int64} (CX : hCx D C a0 s0 p s m args meth c cX5_isDigit 1 RX5 (some .boolean)) (hIx : hI (hA s0) ad (Sum.elim so (mSH C))) (p0 : Int32) {o : Int32} (hf : m_isDigit_B16 = some o) {H : Heap} {locs : List Loc} (hM : hW D vwCl ad (Sum.elim so (mSH C)) st lt H) (hS : va_S (hA s0) s.heap H locs) {ls : Array Slot} (hl : lv_has ls 1 []) : W p l e rm_m_isDigit s m args below meth c H locs 0 0 (MQ below (va_Qi (fun (r : Int32) (_ : Unit) => r = o) (fun (_ : Unit) (U : State) => hW D vwCl ad (Sum.elim so (mSH C)) st lt U.heap) (hA s0)) args s 0 0 (hA s0)) (F0 m 16 ls []) := by
  obtain ⟨hx, hb, hr, hml, hown, hts, hlocks, hK, hZ0, hA0⟩ := CX
  unfold m_isDigit_B16 at hf
  refine lv_iconst (v := 0) hx hb dX5_isDigit_16 (by decide) ?_
  have eo := Option.some.inj hf
  subst eo
  exact W.zret (v := (0 : Int32)) hx hb hr rfl (fun T ht hW => ⟨⟨(0 : Int32), (), rfl, rfl, by dsimp only; rw [ht]; exact hM⟩, hS.F ht⟩) hS.2.2 dX5_isDigit_17
set_option maxHeartbeats 4000000 in
set_option maxRecDepth 100000 in
theorem w_m_isDigit {p : Program} {l : Launch} {e : Env} {s : State} {m : MethodId} {args : Array Value} {below : List Frame} {meth : Method} {c : Code} {D : va_G} {C : Nat → Nat} {a0 : Array Value} {s0 : State} {ad : Rl → Nat} {so : Nat → Option hS} {st : Rl → Nat → Int32} {lt : Rl → Nat → Int64} (CX : hCx D C a0 s0 p s m args meth c cX5_isDigit 1 RX5 (some .boolean)) (hIx : hI (hA s0) ad (Sum.elim so (mSH C))) (p0 : Int32) {o : Int32} (hf : m_isDigit p0 = some o) {H : Heap} {locs : List Loc} (hM : hW D vwCl ad (Sum.elim so (mSH C)) st lt H) (hS : va_S (hA s0) s.heap H locs) {ls : Array Slot} (hl : lv_has ls 1 [(0, .int p0)]) : W p l e rm_m_isDigit s m args below meth c H locs 0 0 (MQ below (va_Qi (fun (r : Int32) (_ : Unit) => r = o) (fun (_ : Unit) (U : State) => hW D vwCl ad (Sum.elim so (mSH C)) st lt U.heap) (hA s0)) args s 0 0 (hA s0)) (F0 m 0 ls []) := by
  obtain ⟨hx, hb, hr, hml, hown, hts, hlocks, hK, hZ0, hA0⟩ := CX
  unfold m_isDigit at hf
  refine lv_iload_n hx hb dX5_isDigit_0 rfl (lv_at hl 0 rfl) ?_
  refine lv_bipush (v := 48) hx hb dX5_isDigit_1 (by decide) ?_
  refine hb_icmp_lt (tgt := 16) hx hb dX5_isDigit_3 (by decide) hf (fun hf => ?_) (fun hf => ?_)
  · exact w_m_isDigit_B16 ⟨hx, hb, hr, hml, hown, hts, hlocks, hK, hZ0, hA0⟩ hIx p0 hf hM hS (lv_sub hl [] rfl)
  · refine lv_iload_n hx hb dX5_isDigit_6 rfl (lv_at hl 0 rfl) ?_
    refine lv_bipush (v := 57) hx hb dX5_isDigit_7 (by decide) ?_
    refine hb_icmp_gt (tgt := 16) hx hb dX5_isDigit_9 (by decide) hf (fun hf => ?_) (fun hf => ?_)
    · exact w_m_isDigit_B16 ⟨hx, hb, hr, hml, hown, hts, hlocks, hK, hZ0, hA0⟩ hIx p0 hf hM hS (lv_sub hl [] rfl)
    · refine lv_iconst (v := 1) hx hb dX5_isDigit_12 (by decide) ?_
      refine lv_goto (tgt := 17) hx hb dX5_isDigit_13 (by decide) ?_
      have eo := Option.some.inj hf
      subst eo
      exact W.zret (v := (1 : Int32)) hx hb hr rfl (fun T ht hW => ⟨⟨(1 : Int32), (), rfl, rfl, by dsimp only; rw [ht]; exact hM⟩, hS.F ht⟩) hS.2.2 dX5_isDigit_17
set_option maxHeartbeats 4000000 in
set_option maxRecDepth 100000 in
theorem met_m_isDigit (l : Launch) (D : va_G) (C : Nat → Nat) (a0 : Array Value) (s0 : State) (ad : Rl → Nat) (so : Nat → Option hS) (st : Rl → Nat → Int32) (lt : Rl → Nat → Int64) (p0 : Int32) {o : Int32} (hf : m_isDigit p0 = some o) : Met l yX5_isDigit (ws_ yX5_isDigit cX5_isDigit 1 (some .boolean)) rm_m_isDigit (va_Pc [.int p0] (hB D vwCl (hT C) (hA s0) (hZ a0 s0) ad (Sum.elim so (mSH C)) st lt)) (va_Qi (fun (r : Int32) (_ : Unit) => r = o) (fun (_ : Unit) (U : State) => hW D vwCl ad (Sum.elim so (mSH C)) st lt U.heap) (hA s0)) 0 0 (hA s0) := by
  refine Met.ofW (cc := cX5_isDigit) (maxL := 1) (ret := (some .boolean)) (by decide) rfl ?_
  intro p e s m args below meth c s₁ B hml hv
  obtain ⟨rfl, hM, hIx, hK, hZ0, hA0⟩ := hv
  have hl := lv_entry ([.int p0]) (n := 1) (Nat.le_of_ble_eq_true rfl)
  rw [lg_entry_eq]
  generalize (lg_sl ([.int p0]) ++ List.replicate (1 - (lg_sl ([.int p0])).length) Slot.unset).toArray = ls at hl ⊢
  have hl : lv_has ls 1 [(0, .int p0)] := hl
  exact w_m_isDigit ⟨B.exec, B.bytes, B.returns, hml, findClass_of_methodNamed B.named, fun w h => atoms_spec (ws := ws_ yX5_isDigit cX5_isDigit 1 (some .boolean)) B.pre w (List.mem_cons_of_mem _ h), B.notSynchronized, hK, hZ0, hA0⟩ hIx p0 hf hM va_S.rf hl

def rm_m_stepOn : Room := { frames := 3, cells := 0, slots := 0, locals := 38 }
set_option maxHeartbeats 4000000 in
set_option maxRecDepth 100000 in
theorem w_m_stepOn_B26 {p : Program} {l : Launch} {e : Env} {s : State} {m : MethodId} {args : Array Value} {below : List Frame} {meth : Method} {c : Code} {D : va_G} {C : Nat → Nat} {a0 : Array Value} {s0 : State} {ad : Rl → Nat} {so : Nat → Option hS} {t : hSt} {lt : Rl → Nat → Int64} (CX : hCx D C a0 s0 p s m args meth c cX5_stepOn 2 RX5 (none)) (hIx : hI (hA s0) ad (Sum.elim so (mSH C))) (g : hSt) (g_0 : hSt) (y1 : Int32) {oM : hSt} {o : (hSt) ⊕ (hSt)} (hf : m_stepOn_B26 g_0 = some o) (kc : ∀ s' : hSt, o = .inl s' → ∀ (H : Heap) (locs : List Loc) (ls : Array Slot), hW D vwCl ad (Sum.elim so (mSH C)) (Sum.elim t s') lt H → va_S (hA s0) s.heap H locs → lv_has ls 2 [(0, .ref (ad (.inr 0)))] → W p l e rm_m_stepOn s m args below meth c H locs 0 0 (MQ below (va_Qv (fun (_ : Unit) => True) (fun (_ : Unit) (U : State) => hW D vwCl ad (Sum.elim so (mSH C)) (Sum.elim t oM) lt U.heap) (hA s0)) args s 0 0 (hA s0)) (F0 m 0 ls [])) (kx : ∀ x' : hSt, o = .inr x' → ∀ (H : Heap) (locs : List Loc) (ls : Array Slot), hW D vwCl ad (Sum.elim so (mSH C)) (Sum.elim t x') lt H → va_S (hA s0) s.heap H locs → lv_has ls 2 [(0, .ref (ad (.inr 0)))] → W p l e rm_m_stepOn s m args below meth c H locs 0 0 (MQ below (va_Qv (fun (_ : Unit) => True) (fun (_ : Unit) (U : State) => hW D vwCl ad (Sum.elim so (mSH C)) (Sum.elim t oM) lt U.heap) (hA s0)) args s 0 0 (hA s0)) (F0 m 39 ls [])) {H : Heap} {locs : List Loc} (hM : hW D vwCl ad (Sum.elim so (mSH C)) (Sum.elim t g_0) lt H) (hS : va_S (hA s0) s.heap H locs) {ls : Array Slot} (hl : lv_has ls 2 [(0, .ref (ad (.inr 0)))]) : W p l e rm_m_stepOn s m args below meth c H locs 0 0 (MQ below (va_Qv (fun (_ : Unit) => True) (fun (_ : Unit) (U : State) => hW D vwCl ad (Sum.elim so (mSH C)) (Sum.elim t oM) lt U.heap) (hA s0)) args s 0 0 (hA s0)) (F0 m 26 ls []) := by
  obtain ⟨hx, hb, hr, hml, hown, hts, hlocks, hK, hZ0, hA0⟩ := CX
  unfold m_stepOn_B26 at hf
  refine lv_aload_n hx hb dX5_stepOn_26 rfl (lv_at hl 0 rfl) ?_
  refine lv_dup hx hb dX5_stepOn_27 rfl ?_
  refine hr_get (ci := 5) (C := RX5) (T := TX5) (N := 55) (r := .inr 0) hx hb hts in_X5 hown hK hM mS_0 rfl 15 (by decide) (hts _ q1383) rfl (v := .int (g_0 0 15)) rfl dX5_stepOn_28 ?_
  refine lv_iconst (v := 1) hx hb dX5_stepOn_31 (by decide) ?_
  refine lv_iadd hx hb dX5_stepOn_32 ?_
  refine hm_put (r := 0) (ci := 5) (C := RX5) (T := TX5) (N := 55) hx hb hts in_X5 tyX5 tyX5_ok nmX5 hown hK hM hIx hS mS_0 rfl 15 (by decide) (hts _ q1383) rfl rfl rfl hf dX5_stepOn_33 (fun g2 H locs hf hM hS => ?_)
  refine lv_goto (tgt := 0) hx hb dX5_stepOn_36 (by decide) ?_
  exact kc g2 (Option.some.inj hf).symm H locs ls hM hS (lv_sub hl [0] rfl)
set_option maxHeartbeats 4000000 in
set_option maxRecDepth 100000 in
theorem w_m_stepOn_L0 {p : Program} {l : Launch} {e : Env} {s : State} {m : MethodId} {args : Array Value} {below : List Frame} {meth : Method} {c : Code} {D : va_G} {C : Nat → Nat} {a0 : Array Value} {s0 : State} {ad : Rl → Nat} {so : Nat → Option hS} {t : hSt} {lt : Rl → Nat → Int64} (CX : hCx D C a0 s0 p s m args meth c cX5_stepOn 2 RX5 (none)) (hIx : hI (hA s0) ad (Sum.elim so (mSH C))) (g : hSt) {oM : hSt} (x : hSt) (n : Nat) (q0 : hSt) (h0 : hiter (fun q : hSt => m_stepOn_L0 q) n q0 = some x) (kx0 : ∀ (H : Heap) (locs : List Loc) (ls : Array Slot), hW D vwCl ad (Sum.elim so (mSH C)) (Sum.elim t x) lt H → va_S (hA s0) s.heap H locs → lv_has ls 2 [(0, .ref (ad (.inr 0)))] → W p l e rm_m_stepOn s m args below meth c H locs 0 0 (MQ below (va_Qv (fun (_ : Unit) => True) (fun (_ : Unit) (U : State) => hW D vwCl ad (Sum.elim so (mSH C)) (Sum.elim t oM) lt U.heap) (hA s0)) args s 0 0 (hA s0)) (F0 m 39 ls [])) : ∀ (H : Heap) (locs : List Loc) (ls : Array Slot), hW D vwCl ad (Sum.elim so (mSH C)) (Sum.elim t q0) lt H → va_S (hA s0) s.heap H locs → lv_has ls 2 [(0, .ref (ad (.inr 0)))] → W p l e rm_m_stepOn s m args below meth c H locs 0 0 (MQ below (va_Qv (fun (_ : Unit) => True) (fun (_ : Unit) (U : State) => hW D vwCl ad (Sum.elim so (mSH C)) (Sum.elim t oM) lt U.heap) (hA s0)) args s 0 0 (hA s0)) (F0 m 0 ls []) := by
  obtain ⟨hx, hb, hr, hml, hown, hts, hlocks, hK, hZ0, hA0⟩ := CX
  refine hiter_W (Wh := fun q => ∀ (H : Heap) (locs : List Loc) (ls : Array Slot), hW D vwCl ad (Sum.elim so (mSH C)) (Sum.elim t q) lt H → va_S (hA s0) s.heap H locs → lv_has ls 2 [(0, .ref (ad (.inr 0)))] → W p l e rm_m_stepOn s m args below meth c H locs 0 0 (MQ below (va_Qv (fun (_ : Unit) => True) (fun (_ : Unit) (U : State) => hW D vwCl ad (Sum.elim so (mSH C)) (Sum.elim t oM) lt U.heap) (hA s0)) args s 0 0 (hA s0)) (F0 m 0 ls [])) ?_ n q0 h0
  intro q o hf kc kx1 H locs ls hM hS hl
  obtain ⟨g_0, rfl⟩ : ∃ z, z = q := ⟨_, rfl⟩
  replace hf : m_stepOn_L0 g_0 = some o := hf
  have kx : ∀ x' : hSt, o = .inr x' → ∀ (H : Heap) (locs : List Loc) (ls : Array Slot), hW D vwCl ad (Sum.elim so (mSH C)) (Sum.elim t x') lt H → va_S (hA s0) s.heap H locs → lv_has ls 2 [(0, .ref (ad (.inr 0)))] → W p l e rm_m_stepOn s m args below meth c H locs 0 0 (MQ below (va_Qv (fun (_ : Unit) => True) (fun (_ : Unit) (U : State) => hW D vwCl ad (Sum.elim so (mSH C)) (Sum.elim t oM) lt U.heap) (hA s0)) args s 0 0 (hA s0)) (F0 m 39 ls []) := fun x' ex => by rw [kx1 _ ex]; exact kx0
  unfold m_stepOn_L0 at hf
  refine lv_aload_n hx hb dX5_stepOn_0 rfl (lv_at hl 0 rfl) ?_
  refine lv_aload_n hx hb dX5_stepOn_1 rfl (lv_at hl 0 rfl) ?_
  refine hr_get (ci := 5) (C := RX5) (T := TX5) (N := 55) (r := .inr 0) hx hb hts in_X5 hown hK hM mS_0 rfl 15 (by decide) (hts _ q1383) rfl (v := .int (g_0 0 15)) rfl dX5_stepOn_2 ?_
  obtain ⟨y1, hq, hf⟩ := hbind hf
  refine hr_calli0 (va_runV (As := [.int (g_0 0 15)]) (rest := []) ⟨hx, hb, hml, hown, hts⟩ (met_m_byteAt l D C a0 s0 ad so t lt g_0 (g_0 0 15) hq) (cwV 1 hts (lw_V q1555 q1557 qs35 q99 q1558) rfl rfl rfl (by decide +kernel) ⟨Nat.le_of_ble_eq_true rfl, Nat.le_of_ble_eq_true rfl⟩) (hr_preV hZ_c hM hIx hK hZ0 hA0 hS (r := .inr 0) mS_0 (q := (RX5, TX5, 55)) rfl) rfl rfl hl.1 rfl (lv_room (Nat.le_of_ble_eq_true rfl)) dX5_stepOn_5 ⟨Nat.le_of_ble_eq_true rfl, Nat.le_of_ble_eq_true rfl⟩) hS (fun H locs hM hS => ?_)
  refine lv_bipush (v := 32) hx hb dX5_stepOn_8 (by decide) ?_
  refine hb_icmp_eq (tgt := 26) hx hb dX5_stepOn_10 (by decide) hf (fun hf => ?_) (fun hf => ?_)
  · exact w_m_stepOn_B26 ⟨hx, hb, hr, hml, hown, hts, hlocks, hK, hZ0, hA0⟩ hIx g g_0 y1 hf kc kx hM hS (lv_sub hl [0] rfl)
  · refine lv_aload_n hx hb dX5_stepOn_13 rfl (lv_at hl 0 rfl) ?_
    refine lv_aload_n hx hb dX5_stepOn_14 rfl (lv_at hl 0 rfl) ?_
    refine hr_get (ci := 5) (C := RX5) (T := TX5) (N := 55) (r := .inr 0) hx hb hts in_X5 hown hK hM mS_0 rfl 15 (by decide) (hts _ q1383) rfl (v := .int (g_0 0 15)) rfl dX5_stepOn_15 ?_
    obtain ⟨y3, hq, hf⟩ := hbind hf
    refine hr_calli0 (va_runV (As := [.int (g_0 0 15)]) (rest := []) ⟨hx, hb, hml, hown, hts⟩ (met_m_byteAt l D C a0 s0 ad so t lt g_0 (g_0 0 15) hq) (cwV 1 hts (lw_V q1555 q1557 qs35 q99 q1558) rfl rfl rfl (by decide +kernel) ⟨Nat.le_of_ble_eq_true rfl, Nat.le_of_ble_eq_true rfl⟩) (hr_preV hZ_c hM hIx hK hZ0 hA0 hS (r := .inr 0) mS_0 (q := (RX5, TX5, 55)) rfl) rfl rfl hl.1 rfl (lv_room (Nat.le_of_ble_eq_true rfl)) dX5_stepOn_18 ⟨Nat.le_of_ble_eq_true rfl, Nat.le_of_ble_eq_true rfl⟩) hS (fun H locs hM hS => ?_)
    refine lv_bipush (v := 10) hx hb dX5_stepOn_21 (by decide) ?_
    refine hb_icmp_ne (tgt := 39) hx hb dX5_stepOn_23 (by decide) hf (fun hf => ?_) (fun hf => ?_)
    · exact kx g_0 (Option.some.inj hf).symm H locs ls hM hS (lv_sub hl [0] rfl)
    · exact w_m_stepOn_B26 ⟨hx, hb, hr, hml, hown, hts, hlocks, hK, hZ0, hA0⟩ hIx g g_0 y1 hf kc kx hM hS (lv_sub hl [0] rfl)
set_option maxHeartbeats 4000000 in
set_option maxRecDepth 100000 in
theorem w_m_stepOn_B211 {p : Program} {l : Launch} {e : Env} {s : State} {m : MethodId} {args : Array Value} {below : List Frame} {meth : Method} {c : Code} {D : va_G} {C : Nat → Nat} {a0 : Array Value} {s0 : State} {ad : Rl → Nat} {so : Nat → Option hS} {t : hSt} {lt : Rl → Nat → Int64} (CX : hCx D C a0 s0 p s m args meth c cX5_stepOn 2 RX5 (none)) (hIx : hI (hA s0) ad (Sum.elim so (mSH C))) (g : hSt) (x4 : hSt) (g5 : hSt) (y6 : Int32) (g_211 : hSt) {o : hSt} (hf : m_stepOn_B211 g_211 = some o) {H : Heap} {locs : List Loc} (hM : hW D vwCl ad (Sum.elim so (mSH C)) (Sum.elim t g_211) lt H) (hS : va_S (hA s0) s.heap H locs) {ls : Array Slot} (hl : lv_has ls 2 [(0, .ref (ad (.inr 0)))]) : W p l e rm_m_stepOn s m args below meth c H locs 0 0 (MQ below (va_Qv (fun (_ : Unit) => True) (fun (_ : Unit) (U : State) => hW D vwCl ad (Sum.elim so (mSH C)) (Sum.elim t o) lt U.heap) (hA s0)) args s 0 0 (hA s0)) (F0 m 211 ls []) := by
  obtain ⟨hx, hb, hr, hml, hown, hts, hlocks, hK, hZ0, hA0⟩ := CX
  unfold m_stepOn_B211 at hf
  refine lv_aload_n hx hb dX5_stepOn_211 rfl (lv_at hl 0 rfl) ?_
  refine lv_aload_n hx hb dX5_stepOn_212 rfl (lv_at hl 0 rfl) ?_
  refine hr_get (ci := 5) (C := RX5) (T := TX5) (N := 55) (r := .inr 0) hx hb hts in_X5 hown hK hM mS_0 rfl 15 (by decide) (hts _ q1383) rfl (v := .int (g_211 0 15)) rfl dX5_stepOn_213 ?_
  refine hm_put (r := 0) (ci := 5) (C := RX5) (T := TX5) (N := 55) hx hb hts in_X5 tyX5 tyX5_ok nmX5 hown hK hM hIx hS mS_0 rfl 20 (by decide) (hts _ q1388) rfl rfl rfl hf dX5_stepOn_216 (fun g11 H locs hf hM hS => ?_)
  have eo := Option.some.inj hf
  subst eo
  exact W.vret hx hb hr (fun T ht hW => ⟨⟨(), rfl, trivial, by dsimp only; rw [ht]; exact hM⟩, hS.F ht⟩) hS.2.2 dX5_stepOn_219
set_option maxHeartbeats 4000000 in
set_option maxRecDepth 100000 in
theorem w_m_stepOn_B208 {p : Program} {l : Launch} {e : Env} {s : State} {m : MethodId} {args : Array Value} {below : List Frame} {meth : Method} {c : Code} {D : va_G} {C : Nat → Nat} {a0 : Array Value} {s0 : State} {ad : Rl → Nat} {so : Nat → Option hS} {t : hSt} {lt : Rl → Nat → Int64} (CX : hCx D C a0 s0 p s m args meth c cX5_stepOn 2 RX5 (none)) (hIx : hI (hA s0) ad (Sum.elim so (mSH C))) (g : hSt) (x4 : hSt) (g5 : hSt) (y6 : Int32) (y7 : Int32) (y8 : Int32) (g9 : hSt) (k0_208 : Int32) {o : hSt} (hf : m_stepOn_B208 g9 k0_208 = some o) {H : Heap} {locs : List Loc} (hM : hW D vwCl ad (Sum.elim so (mSH C)) (Sum.elim t g9) lt H) (hS : va_S (hA s0) s.heap H locs) {ls : Array Slot} (hl : lv_has ls 2 [(0, .ref (ad (.inr 0)))]) : W p l e rm_m_stepOn s m args below meth c H locs 0 0 (MQ below (va_Qv (fun (_ : Unit) => True) (fun (_ : Unit) (U : State) => hW D vwCl ad (Sum.elim so (mSH C)) (Sum.elim t o) lt U.heap) (hA s0)) args s 0 0 (hA s0)) (F0 m 208 ls [.int k0_208, .ref (ad (.inr 0))]) := by
  obtain ⟨hx, hb, hr, hml, hown, hts, hlocks, hK, hZ0, hA0⟩ := CX
  unfold m_stepOn_B208 at hf
  refine hm_put (r := 0) (ci := 5) (C := RX5) (T := TX5) (N := 55) hx hb hts in_X5 tyX5 tyX5_ok nmX5 hown hK hM hIx hS mS_0 rfl 17 (by decide) (hts _ q1385) rfl rfl rfl hf dX5_stepOn_208 (fun g10 H locs hf hM hS => ?_)
  exact w_m_stepOn_B211 ⟨hx, hb, hr, hml, hown, hts, hlocks, hK, hZ0, hA0⟩ hIx g x4 g5 y6 g10 hf hM hS (lv_sub hl [0] rfl)
set_option maxHeartbeats 4000000 in
set_option maxRecDepth 100000 in
theorem w_m_stepOn_L123 {p : Program} {l : Launch} {e : Env} {s : State} {m : MethodId} {args : Array Value} {below : List Frame} {meth : Method} {c : Code} {D : va_G} {C : Nat → Nat} {a0 : Array Value} {s0 : State} {ad : Rl → Nat} {so : Nat → Option hS} {t : hSt} {lt : Rl → Nat → Int64} (CX : hCx D C a0 s0 p s m args meth c cX5_stepOn 2 RX5 (none)) (hIx : hI (hA s0) ad (Sum.elim so (mSH C))) (g : hSt) (x4 : hSt) (g5 : hSt) (y6 : Int32) (y7 : Int32) (y8 : Int32) (g12 : hSt) {oM : hSt} (x : hSt) (n : Nat) (q0 : hSt) (h0 : hiter (fun q : hSt => m_stepOn_L123 q) n q0 = some x) (kx0 : ∀ (H : Heap) (locs : List Loc) (ls : Array Slot), hW D vwCl ad (Sum.elim so (mSH C)) (Sum.elim t x) lt H → va_S (hA s0) s.heap H locs → lv_has ls 2 [(0, .ref (ad (.inr 0)))] → W p l e rm_m_stepOn s m args below meth c H locs 0 0 (MQ below (va_Qv (fun (_ : Unit) => True) (fun (_ : Unit) (U : State) => hW D vwCl ad (Sum.elim so (mSH C)) (Sum.elim t oM) lt U.heap) (hA s0)) args s 0 0 (hA s0)) (F0 m 178 ls [])) : ∀ (H : Heap) (locs : List Loc) (ls : Array Slot), hW D vwCl ad (Sum.elim so (mSH C)) (Sum.elim t q0) lt H → va_S (hA s0) s.heap H locs → lv_has ls 2 [(0, .ref (ad (.inr 0)))] → W p l e rm_m_stepOn s m args below meth c H locs 0 0 (MQ below (va_Qv (fun (_ : Unit) => True) (fun (_ : Unit) (U : State) => hW D vwCl ad (Sum.elim so (mSH C)) (Sum.elim t oM) lt U.heap) (hA s0)) args s 0 0 (hA s0)) (F0 m 123 ls []) := by
  obtain ⟨hx, hb, hr, hml, hown, hts, hlocks, hK, hZ0, hA0⟩ := CX
  refine hiter_W (Wh := fun q => ∀ (H : Heap) (locs : List Loc) (ls : Array Slot), hW D vwCl ad (Sum.elim so (mSH C)) (Sum.elim t q) lt H → va_S (hA s0) s.heap H locs → lv_has ls 2 [(0, .ref (ad (.inr 0)))] → W p l e rm_m_stepOn s m args below meth c H locs 0 0 (MQ below (va_Qv (fun (_ : Unit) => True) (fun (_ : Unit) (U : State) => hW D vwCl ad (Sum.elim so (mSH C)) (Sum.elim t oM) lt U.heap) (hA s0)) args s 0 0 (hA s0)) (F0 m 123 ls [])) ?_ n q0 h0
  intro q o hf kc kx1 H locs ls hM hS hl
  obtain ⟨g_123, rfl⟩ : ∃ z, z = q := ⟨_, rfl⟩
  replace hf : m_stepOn_L123 g_123 = some o := hf
  have kx : ∀ x' : hSt, o = .inr x' → ∀ (H : Heap) (locs : List Loc) (ls : Array Slot), hW D vwCl ad (Sum.elim so (mSH C)) (Sum.elim t x') lt H → va_S (hA s0) s.heap H locs → lv_has ls 2 [(0, .ref (ad (.inr 0)))] → W p l e rm_m_stepOn s m args below meth c H locs 0 0 (MQ below (va_Qv (fun (_ : Unit) => True) (fun (_ : Unit) (U : State) => hW D vwCl ad (Sum.elim so (mSH C)) (Sum.elim t oM) lt U.heap) (hA s0)) args s 0 0 (hA s0)) (F0 m 178 ls []) := fun x' ex => by rw [kx1 _ ex]; exact kx0
  unfold m_stepOn_L123 at hf
  refine lv_aload_n hx hb dX5_stepOn_123 rfl (lv_at hl 0 rfl) ?_
  refine lv_aload_n hx hb dX5_stepOn_124 rfl (lv_at hl 0 rfl) ?_
  refine hr_get (ci := 5) (C := RX5) (T := TX5) (N := 55) (r := .inr 0) hx hb hts in_X5 hown hK hM mS_0 rfl 15 (by decide) (hts _ q1383) rfl (v := .int (g_123 0 15)) rfl dX5_stepOn_125 ?_
  obtain ⟨y13, hq, hf⟩ := hbind hf
  refine hr_calli0 (va_runV (As := [.int (g_123 0 15)]) (rest := []) ⟨hx, hb, hml, hown, hts⟩ (met_m_byteAt l D C a0 s0 ad so t lt g_123 (g_123 0 15) hq) (cwV 1 hts (lw_V q1555 q1557 qs35 q99 q1558) rfl rfl rfl (by decide +kernel) ⟨Nat.le_of_ble_eq_true rfl, Nat.le_of_ble_eq_true rfl⟩) (hr_preV hZ_c hM hIx hK hZ0 hA0 hS (r := .inr 0) mS_0 (q := (RX5, TX5, 55)) rfl) rfl rfl hl.1 rfl (lv_room (Nat.le_of_ble_eq_true rfl)) dX5_stepOn_128 ⟨Nat.le_of_ble_eq_true rfl, Nat.le_of_ble_eq_true rfl⟩) hS (fun H locs hM hS => ?_)
  obtain ⟨y14, hq, hf⟩ := hbind hf
  refine hr_calli0 (va_runS (As := [.int y13]) (rest := []) ⟨hx, hb, hml, hown, hts⟩ (met_m_isDigit l D C a0 s0 ad so (Sum.elim t g_123) lt y13 hq) (va_cwS 1 hts (lw_S q1562 q1563 q99 q1564) rfl rfl rfl (by decide +kernel) ⟨Nat.le_of_ble_eq_true rfl, Nat.le_of_ble_eq_true rfl⟩) (hr_preS hZ_c hM hIx hK hZ0 hA0 hS) rfl rfl hl.1 rfl (lv_room (Nat.le_of_ble_eq_true rfl)) dX5_stepOn_131 ⟨Nat.le_of_ble_eq_true rfl, Nat.le_of_ble_eq_true rfl⟩) hS (fun H locs hM hS => ?_)
  refine hb_if_eq (tgt := 178) hx hb dX5_stepOn_134 (by decide) hf (fun hf => ?_) (fun hf => ?_)
  · exact kx g_123 (Option.some.inj hf).symm H locs ls hM hS (lv_sub hl [0] rfl)
  · refine lv_aload_n hx hb dX5_stepOn_137 rfl (lv_at hl 0 rfl) ?_
    refine lv_ldc (v := 100000) hx hb hown (hts _ q1565) dX5_stepOn_138 ?_
    refine lv_bipush (v := 10) hx hb dX5_stepOn_140 (by decide) ?_
    refine lv_aload_n hx hb dX5_stepOn_142 rfl (lv_at hl 0 rfl) ?_
    refine hr_get (ci := 5) (C := RX5) (T := TX5) (N := 55) (r := .inr 0) hx hb hts in_X5 hown hK hM mS_0 rfl 18 (by decide) (hts _ q1386) rfl (v := .int (g_123 0 18)) rfl dX5_stepOn_143 ?_
    refine lv_imul hx hb dX5_stepOn_146 ?_
    refine lv_aload_n hx hb dX5_stepOn_147 rfl (lv_at hl 0 rfl) ?_
    refine lv_aload_n hx hb dX5_stepOn_148 rfl (lv_at hl 0 rfl) ?_
    refine hr_get (ci := 5) (C := RX5) (T := TX5) (N := 55) (r := .inr 0) hx hb hts in_X5 hown hK hM mS_0 rfl 15 (by decide) (hts _ q1383) rfl (v := .int (g_123 0 15)) rfl dX5_stepOn_149 ?_
    obtain ⟨y15, hq, hf⟩ := hbind hf
    refine hr_calli0 (va_runV (As := [.int (g_123 0 15)]) (rest := [.int ((10 : Int32) * (g_123 0 18)), .int (100000 : Int32), .ref (ad (.inr 0))]) ⟨hx, hb, hml, hown, hts⟩ (met_m_byteAt l D C a0 s0 ad so t lt g_123 (g_123 0 15) hq) (cwV 1 hts (lw_V q1555 q1557 qs35 q99 q1558) rfl rfl rfl (by decide +kernel) ⟨Nat.le_of_ble_eq_true rfl, Nat.le_of_ble_eq_true rfl⟩) (hr_preV hZ_c hM hIx hK hZ0 hA0 hS (r := .inr 0) mS_0 (q := (RX5, TX5, 55)) rfl) rfl rfl hl.1 rfl (lv_room (Nat.le_of_ble_eq_true rfl)) dX5_stepOn_152 ⟨Nat.le_of_ble_eq_true rfl, Nat.le_of_ble_eq_true rfl⟩) hS (fun H locs hM hS => ?_)
    refine lv_iadd hx hb dX5_stepOn_155 ?_
    refine lv_bipush (v := 48) hx hb dX5_stepOn_156 (by decide) ?_
    refine lv_isub hx hb dX5_stepOn_158 ?_
    refine va_mmin hx hb (by rw [hml]; exact hl.1.symm) hown (hts _ q1566) (hts _ q258) (hts _ q90) (hts _ q259) (Nat.le_of_ble_eq_true rfl) (Nat.le_of_ble_eq_true rfl) (Nat.le_of_ble_eq_true rfl) (Nat.le_of_ble_eq_true rfl) dX5_stepOn_159 ?_
    refine hm_put (r := 0) (ci := 5) (C := RX5) (T := TX5) (N := 55) hx hb hts in_X5 tyX5 tyX5_ok nmX5 hown hK hM hIx hS mS_0 rfl 18 (by decide) (hts _ q1386) rfl rfl rfl hf dX5_stepOn_162 (fun g16 H locs hf hM hS => ?_)
    refine lv_aload_n hx hb dX5_stepOn_165 rfl (lv_at hl 0 rfl) ?_
    refine lv_dup hx hb dX5_stepOn_166 rfl ?_
    refine hr_get (ci := 5) (C := RX5) (T := TX5) (N := 55) (r := .inr 0) hx hb hts in_X5 hown hK hM mS_0 rfl 15 (by decide) (hts _ q1383) rfl (v := .int (g16 0 15)) rfl dX5_stepOn_167 ?_
    refine lv_iconst (v := 1) hx hb dX5_stepOn_170 (by decide) ?_
    refine lv_iadd hx hb dX5_stepOn_171 ?_
    refine hm_put (r := 0) (ci := 5) (C := RX5) (T := TX5) (N := 55) hx hb hts in_X5 tyX5 tyX5_ok nmX5 hown hK hM hIx hS mS_0 rfl 15 (by decide) (hts _ q1383) rfl rfl rfl hf dX5_stepOn_172 (fun g17 H locs hf hM hS => ?_)
    refine lv_goto (tgt := 123) hx hb dX5_stepOn_175 (by decide) ?_
    exact kc g17 (Option.some.inj hf).symm H locs ls hM hS (lv_sub hl [0] rfl)
set_option maxHeartbeats 4000000 in
set_option maxRecDepth 100000 in
theorem w_m_stepOn_L76 {p : Program} {l : Launch} {e : Env} {s : State} {m : MethodId} {args : Array Value} {below : List Frame} {meth : Method} {c : Code} {D : va_G} {C : Nat → Nat} {a0 : Array Value} {s0 : State} {ad : Rl → Nat} {so : Nat → Option hS} {t : hSt} {lt : Rl → Nat → Int64} (CX : hCx D C a0 s0 p s m args meth c cX5_stepOn 2 RX5 (none)) (hIx : hI (hA s0) ad (Sum.elim so (mSH C))) (g : hSt) (x4 : hSt) (g5 : hSt) (y6 : Int32) (y7 : Int32) {oM : hSt} (x : hSt) (n : Nat) (q0 : hSt) (h0 : hiter (fun q : hSt => m_stepOn_L76 q) n q0 = some x) (kx0 : ∀ (H : Heap) (locs : List Loc) (ls : Array Slot), hW D vwCl ad (Sum.elim so (mSH C)) (Sum.elim t x) lt H → va_S (hA s0) s.heap H locs → lv_has ls 2 [(0, .ref (ad (.inr 0)))] → W p l e rm_m_stepOn s m args below meth c H locs 0 0 (MQ below (va_Qv (fun (_ : Unit) => True) (fun (_ : Unit) (U : State) => hW D vwCl ad (Sum.elim so (mSH C)) (Sum.elim t oM) lt U.heap) (hA s0)) args s 0 0 (hA s0)) (F0 m 103 ls [])) : ∀ (H : Heap) (locs : List Loc) (ls : Array Slot), hW D vwCl ad (Sum.elim so (mSH C)) (Sum.elim t q0) lt H → va_S (hA s0) s.heap H locs → lv_has ls 2 [(0, .ref (ad (.inr 0)))] → W p l e rm_m_stepOn s m args below meth c H locs 0 0 (MQ below (va_Qv (fun (_ : Unit) => True) (fun (_ : Unit) (U : State) => hW D vwCl ad (Sum.elim so (mSH C)) (Sum.elim t oM) lt U.heap) (hA s0)) args s 0 0 (hA s0)) (F0 m 76 ls []) := by
  obtain ⟨hx, hb, hr, hml, hown, hts, hlocks, hK, hZ0, hA0⟩ := CX
  refine hiter_W (Wh := fun q => ∀ (H : Heap) (locs : List Loc) (ls : Array Slot), hW D vwCl ad (Sum.elim so (mSH C)) (Sum.elim t q) lt H → va_S (hA s0) s.heap H locs → lv_has ls 2 [(0, .ref (ad (.inr 0)))] → W p l e rm_m_stepOn s m args below meth c H locs 0 0 (MQ below (va_Qv (fun (_ : Unit) => True) (fun (_ : Unit) (U : State) => hW D vwCl ad (Sum.elim so (mSH C)) (Sum.elim t oM) lt U.heap) (hA s0)) args s 0 0 (hA s0)) (F0 m 76 ls [])) ?_ n q0 h0
  intro q o hf kc kx1 H locs ls hM hS hl
  obtain ⟨g_76, rfl⟩ : ∃ z, z = q := ⟨_, rfl⟩
  replace hf : m_stepOn_L76 g_76 = some o := hf
  have kx : ∀ x' : hSt, o = .inr x' → ∀ (H : Heap) (locs : List Loc) (ls : Array Slot), hW D vwCl ad (Sum.elim so (mSH C)) (Sum.elim t x') lt H → va_S (hA s0) s.heap H locs → lv_has ls 2 [(0, .ref (ad (.inr 0)))] → W p l e rm_m_stepOn s m args below meth c H locs 0 0 (MQ below (va_Qv (fun (_ : Unit) => True) (fun (_ : Unit) (U : State) => hW D vwCl ad (Sum.elim so (mSH C)) (Sum.elim t oM) lt U.heap) (hA s0)) args s 0 0 (hA s0)) (F0 m 103 ls []) := fun x' ex => by rw [kx1 _ ex]; exact kx0
  unfold m_stepOn_L76 at hf
  refine lv_aload_n hx hb dX5_stepOn_76 rfl (lv_at hl 0 rfl) ?_
  refine lv_aload_n hx hb dX5_stepOn_77 rfl (lv_at hl 0 rfl) ?_
  refine hr_get (ci := 5) (C := RX5) (T := TX5) (N := 55) (r := .inr 0) hx hb hts in_X5 hown hK hM mS_0 rfl 15 (by decide) (hts _ q1383) rfl (v := .int (g_76 0 15)) rfl dX5_stepOn_78 ?_
  obtain ⟨y20, hq, hf⟩ := hbind hf
  refine hr_calli0 (va_runV (As := [.int (g_76 0 15)]) (rest := []) ⟨hx, hb, hml, hown, hts⟩ (met_m_byteAt l D C a0 s0 ad so t lt g_76 (g_76 0 15) hq) (cwV 1 hts (lw_V q1555 q1557 qs35 q99 q1558) rfl rfl rfl (by decide +kernel) ⟨Nat.le_of_ble_eq_true rfl, Nat.le_of_ble_eq_true rfl⟩) (hr_preV hZ_c hM hIx hK hZ0 hA0 hS (r := .inr 0) mS_0 (q := (RX5, TX5, 55)) rfl) rfl rfl hl.1 rfl (lv_room (Nat.le_of_ble_eq_true rfl)) dX5_stepOn_81 ⟨Nat.le_of_ble_eq_true rfl, Nat.le_of_ble_eq_true rfl⟩) hS (fun H locs hM hS => ?_)
  obtain ⟨y21, hq, hf⟩ := hbind hf
  refine hr_calli0 (va_runS (As := [.int y20]) (rest := []) ⟨hx, hb, hml, hown, hts⟩ (met_m_isLetter l D C a0 s0 ad so (Sum.elim t g_76) lt y20 hq) (va_cwS 1 hts (lw_S q1559 q1560 q99 q1561) rfl rfl rfl (by decide +kernel) ⟨Nat.le_of_ble_eq_true rfl, Nat.le_of_ble_eq_true rfl⟩) (hr_preS hZ_c hM hIx hK hZ0 hA0 hS) rfl rfl hl.1 rfl (lv_room (Nat.le_of_ble_eq_true rfl)) dX5_stepOn_84 ⟨Nat.le_of_ble_eq_true rfl, Nat.le_of_ble_eq_true rfl⟩) hS (fun H locs hM hS => ?_)
  refine hb_if_eq (tgt := 103) hx hb dX5_stepOn_87 (by decide) hf (fun hf => ?_) (fun hf => ?_)
  · exact kx g_76 (Option.some.inj hf).symm H locs ls hM hS (lv_sub hl [0] rfl)
  · refine lv_aload_n hx hb dX5_stepOn_90 rfl (lv_at hl 0 rfl) ?_
    refine lv_dup hx hb dX5_stepOn_91 rfl ?_
    refine hr_get (ci := 5) (C := RX5) (T := TX5) (N := 55) (r := .inr 0) hx hb hts in_X5 hown hK hM mS_0 rfl 15 (by decide) (hts _ q1383) rfl (v := .int (g_76 0 15)) rfl dX5_stepOn_92 ?_
    refine lv_iconst (v := 1) hx hb dX5_stepOn_95 (by decide) ?_
    refine lv_iadd hx hb dX5_stepOn_96 ?_
    refine hm_put (r := 0) (ci := 5) (C := RX5) (T := TX5) (N := 55) hx hb hts in_X5 tyX5 tyX5_ok nmX5 hown hK hM hIx hS mS_0 rfl 15 (by decide) (hts _ q1383) rfl rfl rfl hf dX5_stepOn_97 (fun g22 H locs hf hM hS => ?_)
    refine lv_goto (tgt := 76) hx hb dX5_stepOn_100 (by decide) ?_
    exact kc g22 (Option.some.inj hf).symm H locs ls hM hS (lv_sub hl [0] rfl)
set_option maxHeartbeats 4000000 in
set_option maxRecDepth 100000 in
theorem w_m_stepOn {p : Program} {l : Launch} {e : Env} {s : State} {m : MethodId} {args : Array Value} {below : List Frame} {meth : Method} {c : Code} {D : va_G} {C : Nat → Nat} {a0 : Array Value} {s0 : State} {ad : Rl → Nat} {so : Nat → Option hS} {t : hSt} {lt : Rl → Nat → Int64} (CX : hCx D C a0 s0 p s m args meth c cX5_stepOn 2 RX5 (none)) (hIx : hI (hA s0) ad (Sum.elim so (mSH C))) (g : hSt) {o : hSt} (hf : m_stepOn g = some o) {H : Heap} {locs : List Loc} (hM : hW D vwCl ad (Sum.elim so (mSH C)) (Sum.elim t g) lt H) (hS : va_S (hA s0) s.heap H locs) {ls : Array Slot} (hl : lv_has ls 2 [(0, .ref (ad (.inr 0)))]) : W p l e rm_m_stepOn s m args below meth c H locs 0 0 (MQ below (va_Qv (fun (_ : Unit) => True) (fun (_ : Unit) (U : State) => hW D vwCl ad (Sum.elim so (mSH C)) (Sum.elim t o) lt U.heap) (hA s0)) args s 0 0 (hA s0)) (F0 m 0 ls []) := by
  obtain ⟨hx, hb, hr, hml, hown, hts, hlocks, hK, hZ0, hA0⟩ := CX
  unfold m_stepOn at hf
  obtain ⟨x4, hq, hf⟩ := hbind hf
  refine w_m_stepOn_L0 ⟨hx, hb, hr, hml, hown, hts, hlocks, hK, hZ0, hA0⟩ hIx g x4 hFU g hq (fun H locs ls hM hS hl => ?_) H locs ls hM hS (lv_sub hl [0] rfl)
  refine lv_aload_n hx hb dX5_stepOn_39 rfl (lv_at hl 0 rfl) ?_
  refine lv_aload_n hx hb dX5_stepOn_40 rfl (lv_at hl 0 rfl) ?_
  refine hr_get (ci := 5) (C := RX5) (T := TX5) (N := 55) (r := .inr 0) hx hb hts in_X5 hown hK hM mS_0 rfl 15 (by decide) (hts _ q1383) rfl (v := .int (x4 0 15)) rfl dX5_stepOn_41 ?_
  refine hm_put (r := 0) (ci := 5) (C := RX5) (T := TX5) (N := 55) hx hb hts in_X5 tyX5 tyX5_ok nmX5 hown hK hM hIx hS mS_0 rfl 19 (by decide) (hts _ q1387) rfl rfl rfl hf dX5_stepOn_44 (fun g5 H locs hf hM hS => ?_)
  refine lv_aload_n hx hb dX5_stepOn_47 rfl (lv_at hl 0 rfl) ?_
  refine lv_aload_n hx hb dX5_stepOn_48 rfl (lv_at hl 0 rfl) ?_
  refine hr_get (ci := 5) (C := RX5) (T := TX5) (N := 55) (r := .inr 0) hx hb hts in_X5 hown hK hM mS_0 rfl 15 (by decide) (hts _ q1383) rfl (v := .int (g5 0 15)) rfl dX5_stepOn_49 ?_
  obtain ⟨y6, hq, hf⟩ := hbind hf
  refine hr_calli0 (va_runV (As := [.int (g5 0 15)]) (rest := []) ⟨hx, hb, hml, hown, hts⟩ (met_m_byteAt l D C a0 s0 ad so t lt g5 (g5 0 15) hq) (cwV 1 hts (lw_V q1555 q1557 qs35 q99 q1558) rfl rfl rfl (by decide +kernel) ⟨Nat.le_of_ble_eq_true rfl, Nat.le_of_ble_eq_true rfl⟩) (hr_preV hZ_c hM hIx hK hZ0 hA0 hS (r := .inr 0) mS_0 (q := (RX5, TX5, 55)) rfl) rfl rfl hl.1 rfl (lv_room (Nat.le_of_ble_eq_true rfl)) dX5_stepOn_52 ⟨Nat.le_of_ble_eq_true rfl, Nat.le_of_ble_eq_true rfl⟩) hS (fun H locs hM hS => ?_)
  refine lv_istore_n (lv' := [(1, .int y6), (0, .ref (ad (.inr 0)))]) hx hb dX5_stepOn_55 rfl hl (by decide) rfl (fun ls hl => ?_)
  refine lv_iload_n hx hb dX5_stepOn_56 rfl (lv_at hl 0 rfl) ?_
  refine lv_iconst (v := -1) hx hb dX5_stepOn_57 (by decide) ?_
  refine hb_icmp_ne (tgt := 69) hx hb dX5_stepOn_58 (by decide) hf (fun hf => ?_) (fun hf => ?_)
  · refine lv_iload_n hx hb dX5_stepOn_69 rfl (lv_at hl 0 rfl) ?_
    obtain ⟨y7, hq, hf⟩ := hbind hf
    refine hr_calli0 (va_runS (As := [.int y6]) (rest := []) ⟨hx, hb, hml, hown, hts⟩ (met_m_isLetter l D C a0 s0 ad so (Sum.elim t g5) lt y6 hq) (va_cwS 1 hts (lw_S q1559 q1560 q99 q1561) rfl rfl rfl (by decide +kernel) ⟨Nat.le_of_ble_eq_true rfl, Nat.le_of_ble_eq_true rfl⟩) (hr_preS hZ_c hM hIx hK hZ0 hA0 hS) rfl rfl hl.1 rfl (lv_room (Nat.le_of_ble_eq_true rfl)) dX5_stepOn_70 ⟨Nat.le_of_ble_eq_true rfl, Nat.le_of_ble_eq_true rfl⟩) hS (fun H locs hM hS => ?_)
    refine hb_if_eq (tgt := 111) hx hb dX5_stepOn_73 (by decide) hf (fun hf => ?_) (fun hf => ?_)
    · refine lv_iload_n hx hb dX5_stepOn_111 rfl (lv_at hl 0 rfl) ?_
      obtain ⟨y8, hq, hf⟩ := hbind hf
      refine hr_calli0 (va_runS (As := [.int y6]) (rest := []) ⟨hx, hb, hml, hown, hts⟩ (met_m_isDigit l D C a0 s0 ad so (Sum.elim t g5) lt y6 hq) (va_cwS 1 hts (lw_S q1562 q1563 q99 q1564) rfl rfl rfl (by decide +kernel) ⟨Nat.le_of_ble_eq_true rfl, Nat.le_of_ble_eq_true rfl⟩) (hr_preS hZ_c hM hIx hK hZ0 hA0 hS) rfl rfl hl.1 rfl (lv_room (Nat.le_of_ble_eq_true rfl)) dX5_stepOn_112 ⟨Nat.le_of_ble_eq_true rfl, Nat.le_of_ble_eq_true rfl⟩) hS (fun H locs hM hS => ?_)
      refine hb_if_eq (tgt := 186) hx hb dX5_stepOn_115 (by decide) hf (fun hf => ?_) (fun hf => ?_)
      · refine lv_aload_n hx hb dX5_stepOn_186 rfl (lv_at hl 1 rfl) ?_
        refine lv_dup hx hb dX5_stepOn_187 rfl ?_
        refine hr_get (ci := 5) (C := RX5) (T := TX5) (N := 55) (r := .inr 0) hx hb hts in_X5 hown hK hM mS_0 rfl 15 (by decide) (hts _ q1383) rfl (v := .int (g5 0 15)) rfl dX5_stepOn_188 ?_
        refine lv_iconst (v := 1) hx hb dX5_stepOn_191 (by decide) ?_
        refine lv_iadd hx hb dX5_stepOn_192 ?_
        refine hm_put (r := 0) (ci := 5) (C := RX5) (T := TX5) (N := 55) hx hb hts in_X5 tyX5 tyX5_ok nmX5 hown hK hM hIx hS mS_0 rfl 15 (by decide) (hts _ q1383) rfl rfl rfl hf dX5_stepOn_193 (fun g9 H locs hf hM hS => ?_)
        refine lv_aload_n hx hb dX5_stepOn_196 rfl (lv_at hl 1 rfl) ?_
        refine lv_iload_n hx hb dX5_stepOn_197 rfl (lv_at hl 0 rfl) ?_
        refine lv_bipush (v := 59) hx hb dX5_stepOn_198 (by decide) ?_
        refine hb_icmp_ne (tgt := 207) hx hb dX5_stepOn_200 (by decide) hf (fun hf => ?_) (fun hf => ?_)
        · refine lv_iconst (v := 4) hx hb dX5_stepOn_207 (by decide) ?_
          exact w_m_stepOn_B208 ⟨hx, hb, hr, hml, hown, hts, hlocks, hK, hZ0, hA0⟩ hIx g x4 g5 y6 y7 y8 g9 (4 : Int32) hf hM hS (lv_sub hl [1] rfl)
        · refine lv_iconst (v := 3) hx hb dX5_stepOn_203 (by decide) ?_
          refine lv_goto (tgt := 208) hx hb dX5_stepOn_204 (by decide) ?_
          exact w_m_stepOn_B208 ⟨hx, hb, hr, hml, hown, hts, hlocks, hK, hZ0, hA0⟩ hIx g x4 g5 y6 y7 y8 g9 (3 : Int32) hf hM hS (lv_sub hl [1] rfl)
      · refine lv_aload_n hx hb dX5_stepOn_118 rfl (lv_at hl 1 rfl) ?_
        refine lv_iconst (v := 0) hx hb dX5_stepOn_119 (by decide) ?_
        refine hm_put (r := 0) (ci := 5) (C := RX5) (T := TX5) (N := 55) hx hb hts in_X5 tyX5 tyX5_ok nmX5 hown hK hM hIx hS mS_0 rfl 18 (by decide) (hts _ q1386) rfl rfl rfl hf dX5_stepOn_120 (fun g12 H locs hf hM hS => ?_)
        obtain ⟨x18, hq, hf⟩ := hbind hf
        refine w_m_stepOn_L123 ⟨hx, hb, hr, hml, hown, hts, hlocks, hK, hZ0, hA0⟩ hIx g x4 g5 y6 y7 y8 g12 x18 hFU g12 hq (fun H locs ls hM hS hl => ?_) H locs ls hM hS (lv_sub hl [1] rfl)
        refine lv_aload_n hx hb dX5_stepOn_178 rfl (lv_at hl 0 rfl) ?_
        refine lv_iconst (v := 2) hx hb dX5_stepOn_179 (by decide) ?_
        refine hm_put (r := 0) (ci := 5) (C := RX5) (T := TX5) (N := 55) hx hb hts in_X5 tyX5 tyX5_ok nmX5 hown hK hM hIx hS mS_0 rfl 17 (by decide) (hts _ q1385) rfl rfl rfl hf dX5_stepOn_180 (fun g19 H locs hf hM hS => ?_)
        refine lv_goto (tgt := 211) hx hb dX5_stepOn_183 (by decide) ?_
        exact w_m_stepOn_B211 ⟨hx, hb, hr, hml, hown, hts, hlocks, hK, hZ0, hA0⟩ hIx g x4 g5 y6 g19 hf hM hS (lv_sub hl [0] rfl)
    · obtain ⟨x23, hq, hf⟩ := hbind hf
      refine w_m_stepOn_L76 ⟨hx, hb, hr, hml, hown, hts, hlocks, hK, hZ0, hA0⟩ hIx g x4 g5 y6 y7 x23 hFU g5 hq (fun H locs ls hM hS hl => ?_) H locs ls hM hS (lv_sub hl [1] rfl)
      refine lv_aload_n hx hb dX5_stepOn_103 rfl (lv_at hl 0 rfl) ?_
      refine lv_iconst (v := 1) hx hb dX5_stepOn_104 (by decide) ?_
      refine hm_put (r := 0) (ci := 5) (C := RX5) (T := TX5) (N := 55) hx hb hts in_X5 tyX5 tyX5_ok nmX5 hown hK hM hIx hS mS_0 rfl 17 (by decide) (hts _ q1385) rfl rfl rfl hf dX5_stepOn_105 (fun g24 H locs hf hM hS => ?_)
      refine lv_goto (tgt := 211) hx hb dX5_stepOn_108 (by decide) ?_
      exact w_m_stepOn_B211 ⟨hx, hb, hr, hml, hown, hts, hlocks, hK, hZ0, hA0⟩ hIx g x4 g5 y6 g24 hf hM hS (lv_sub hl [0] rfl)
  · refine lv_aload_n hx hb dX5_stepOn_61 rfl (lv_at hl 1 rfl) ?_
    refine lv_iconst (v := 0) hx hb dX5_stepOn_62 (by decide) ?_
    refine hm_put (r := 0) (ci := 5) (C := RX5) (T := TX5) (N := 55) hx hb hts in_X5 tyX5 tyX5_ok nmX5 hown hK hM hIx hS mS_0 rfl 17 (by decide) (hts _ q1385) rfl rfl rfl hf dX5_stepOn_63 (fun g25 H locs hf hM hS => ?_)
    refine lv_goto (tgt := 211) hx hb dX5_stepOn_66 (by decide) ?_
    exact w_m_stepOn_B211 ⟨hx, hb, hr, hml, hown, hts, hlocks, hK, hZ0, hA0⟩ hIx g x4 g5 y6 g25 hf hM hS (lv_sub hl [1] rfl)
set_option maxHeartbeats 4000000 in
set_option maxRecDepth 100000 in
theorem met_m_stepOn (l : Launch) (D : va_G) (C : Nat → Nat) (a0 : Array Value) (s0 : State) (ad : Rl → Nat) (so : Nat → Option hS) (t : hSt) (lt : Rl → Nat → Int64) (g : hSt) {o : hSt} (hf : m_stepOn g = some o) : Met l yX5_stepOn (ws_ yX5_stepOn cX5_stepOn 2 (none)) rm_m_stepOn (va_Pc [.ref (ad (.inr 0))] (hB D vwCl (hT C) (hA s0) (hZ a0 s0) ad (Sum.elim so (mSH C)) (Sum.elim t g) lt)) (va_Qv (fun (_ : Unit) => True) (fun (_ : Unit) (U : State) => hW D vwCl ad (Sum.elim so (mSH C)) (Sum.elim t o) lt U.heap) (hA s0)) 0 0 (hA s0) := by
  refine Met.ofW (cc := cX5_stepOn) (maxL := 2) (ret := (none)) (by decide) rfl ?_
  intro p e s m args below meth c s₁ B hml hv
  obtain ⟨rfl, hM, hIx, hK, hZ0, hA0⟩ := hv
  have hl := lv_entry ([.ref (ad (.inr 0))]) (n := 2) (Nat.le_of_ble_eq_true rfl)
  rw [lg_entry_eq]
  generalize (lg_sl ([.ref (ad (.inr 0))]) ++ List.replicate (2 - (lg_sl ([.ref (ad (.inr 0))])).length) Slot.unset).toArray = ls at hl ⊢
  have hl : lv_has ls 2 [(0, .ref (ad (.inr 0)))] := hl
  exact w_m_stepOn ⟨B.exec, B.bytes, B.returns, hml, findClass_of_methodNamed B.named, fun w h => atoms_spec (ws := ws_ yX5_stepOn cX5_stepOn 2 (none)) B.pre w (List.mem_cons_of_mem _ h), B.notSynchronized, hK, hZ0, hA0⟩ hIx g hf hM va_S.rf hl

def rm_m_wrong : Room := { frames := 1, cells := 0, slots := 0, locals := 16 }
set_option maxHeartbeats 4000000 in
set_option maxRecDepth 100000 in
theorem w_m_wrong {p : Program} {l : Launch} {e : Env} {s : State} {m : MethodId} {args : Array Value} {below : List Frame} {meth : Method} {c : Code} {D : va_G} {C : Nat → Nat} {a0 : Array Value} {s0 : State} {ad : Rl → Nat} {so : Nat → Option hS} {t : hSt} {lt : Rl → Nat → Int64} (CX : hCx D C a0 s0 p s m args meth c cX5_wrong 2 RX5 (none)) (hIx : hI (hA s0) ad (Sum.elim so (mSH C))) (g : hSt) (p0 : Int32) {o : hSt} (hf : m_wrong g p0 = some o) {H : Heap} {locs : List Loc} (hM : hW D vwCl ad (Sum.elim so (mSH C)) (Sum.elim t g) lt H) (hS : va_S (hA s0) s.heap H locs) {ls : Array Slot} (hl : lv_has ls 2 [(0, .ref (ad (.inr 0))), (1, .int p0)]) : W p l e rm_m_wrong s m args below meth c H locs 0 0 (MQ below (va_Qv (fun (_ : Unit) => True) (fun (_ : Unit) (U : State) => hW D vwCl ad (Sum.elim so (mSH C)) (Sum.elim t o) lt U.heap) (hA s0)) args s 0 0 (hA s0)) (F0 m 0 ls []) := by
  obtain ⟨hx, hb, hr, hml, hown, hts, hlocks, hK, hZ0, hA0⟩ := CX
  unfold m_wrong at hf
  refine lv_aload_n hx hb dX5_wrong_0 rfl (lv_at hl 0 rfl) ?_
  refine hr_get (ci := 5) (C := RX5) (T := TX5) (N := 55) (r := .inr 0) hx hb hts in_X5 hown hK hM mS_0 rfl 21 (by decide) (hts _ q1389) rfl (v := .int (g 0 21)) rfl dX5_wrong_1 ?_
  refine hb_if_eq (tgt := 8) hx hb dX5_wrong_4 (by decide) hf (fun hf => ?_) (fun hf => ?_)
  · refine lv_aload_n hx hb dX5_wrong_8 rfl (lv_at hl 0 rfl) ?_
    refine lv_iload_n hx hb dX5_wrong_9 rfl (lv_at hl 1 rfl) ?_
    refine hm_put (r := 0) (ci := 5) (C := RX5) (T := TX5) (N := 55) hx hb hts in_X5 tyX5 tyX5_ok nmX5 hown hK hM hIx hS mS_0 rfl 21 (by decide) (hts _ q1389) rfl rfl rfl hf dX5_wrong_10 (fun g1 H locs hf hM hS => ?_)
    refine lv_aload_n hx hb dX5_wrong_13 rfl (lv_at hl 0 rfl) ?_
    refine lv_aload_n hx hb dX5_wrong_14 rfl (lv_at hl 0 rfl) ?_
    refine hr_get (ci := 5) (C := RX5) (T := TX5) (N := 55) (r := .inr 0) hx hb hts in_X5 hown hK hM mS_0 rfl 19 (by decide) (hts _ q1387) rfl (v := .int (g1 0 19)) rfl dX5_wrong_15 ?_
    refine hm_put (r := 0) (ci := 5) (C := RX5) (T := TX5) (N := 55) hx hb hts in_X5 tyX5 tyX5_ok nmX5 hown hK hM hIx hS mS_0 rfl 22 (by decide) (hts _ q1390) rfl rfl rfl hf dX5_wrong_18 (fun g2 H locs hf hM hS => ?_)
    have eo := Option.some.inj hf
    subst eo
    exact W.vret hx hb hr (fun T ht hW => ⟨⟨(), rfl, trivial, by dsimp only; rw [ht]; exact hM⟩, hS.F ht⟩) hS.2.2 dX5_wrong_21
  · have eo := Option.some.inj hf
    subst eo
    exact W.vret hx hb hr (fun T ht hW => ⟨⟨(), rfl, trivial, by dsimp only; rw [ht]; exact hM⟩, hS.F ht⟩) hS.2.2 dX5_wrong_7
set_option maxHeartbeats 4000000 in
set_option maxRecDepth 100000 in
theorem met_m_wrong (l : Launch) (D : va_G) (C : Nat → Nat) (a0 : Array Value) (s0 : State) (ad : Rl → Nat) (so : Nat → Option hS) (t : hSt) (lt : Rl → Nat → Int64) (g : hSt) (p0 : Int32) {o : hSt} (hf : m_wrong g p0 = some o) : Met l yX5_wrong (ws_ yX5_wrong cX5_wrong 2 (none)) rm_m_wrong (va_Pc [.ref (ad (.inr 0)), .int p0] (hB D vwCl (hT C) (hA s0) (hZ a0 s0) ad (Sum.elim so (mSH C)) (Sum.elim t g) lt)) (va_Qv (fun (_ : Unit) => True) (fun (_ : Unit) (U : State) => hW D vwCl ad (Sum.elim so (mSH C)) (Sum.elim t o) lt U.heap) (hA s0)) 0 0 (hA s0) := by
  refine Met.ofW (cc := cX5_wrong) (maxL := 2) (ret := (none)) (by decide) rfl ?_
  intro p e s m args below meth c s₁ B hml hv
  obtain ⟨rfl, hM, hIx, hK, hZ0, hA0⟩ := hv
  have hl := lv_entry ([.ref (ad (.inr 0)), .int p0]) (n := 2) (Nat.le_of_ble_eq_true rfl)
  rw [lg_entry_eq]
  generalize (lg_sl ([.ref (ad (.inr 0)), .int p0]) ++ List.replicate (2 - (lg_sl ([.ref (ad (.inr 0)), .int p0])).length) Slot.unset).toArray = ls at hl ⊢
  have hl : lv_has ls 2 [(0, .ref (ad (.inr 0))), (1, .int p0)] := hl
  exact w_m_wrong ⟨B.exec, B.bytes, B.returns, hml, findClass_of_methodNamed B.named, fun w h => atoms_spec (ws := ws_ yX5_wrong cX5_wrong 2 (none)) B.pre w (List.mem_cons_of_mem _ h), B.notSynchronized, hK, hZ0, hA0⟩ hIx g p0 hf hM va_S.rf hl

def rm_m_readNumber : Room := { frames := 5, cells := 0, slots := 0, locals := 60 }
set_option maxHeartbeats 4000000 in
set_option maxRecDepth 100000 in
theorem w_m_readNumber_B59 {p : Program} {l : Launch} {e : Env} {s : State} {m : MethodId} {args : Array Value} {below : List Frame} {meth : Method} {c : Code} {D : va_G} {C : Nat → Nat} {a0 : Array Value} {s0 : State} {ad : Rl → Nat} {so : Nat → Option hS} {t : hSt} {lt : Rl → Nat → Int64} (CX : hCx D C a0 s0 p s m args meth c cX5_readNumber 4 RX5 (some .int)) (hIx : hI (hA s0) ad (Sum.elim so (mSH C))) (g : hSt) (p0 : Int32) (p1 : Int32) (g_59 : hSt) {o : Int32 × hSt} (hf : m_readNumber_B59 g_59 = some o) {H : Heap} {locs : List Loc} (hM : hW D vwCl ad (Sum.elim so (mSH C)) (Sum.elim t g_59) lt H) (hS : va_S (hA s0) s.heap H locs) {ls : Array Slot} (hl : lv_has ls 4 [(0, .ref (ad (.inr 0)))]) : W p l e rm_m_readNumber s m args below meth c H locs 0 0 (MQ below (va_Qi (fun (r : Int32) (_ : Unit) => r = o.1) (fun (_ : Unit) (U : State) => hW D vwCl ad (Sum.elim so (mSH C)) (Sum.elim t o.2) lt U.heap) (hA s0)) args s 0 0 (hA s0)) (F0 m 59 ls []) := by
  obtain ⟨hx, hb, hr, hml, hown, hts, hlocks, hK, hZ0, hA0⟩ := CX
  unfold m_readNumber_B59 at hf
  refine lv_aload_n hx hb dX5_readNumber_59 rfl (lv_at hl 0 rfl) ?_
  refine hr_get (ci := 5) (C := RX5) (T := TX5) (N := 55) (r := .inr 0) hx hb hts in_X5 hown hK hM mS_0 rfl 18 (by decide) (hts _ q1386) rfl (v := .int (g_59 0 18)) rfl dX5_readNumber_60 ?_
  refine hb_top hf (fun y3_2 hf => ?_)
  refine lv_istore_n (lv' := [(3, .int y3_2), (0, .ref (ad (.inr 0)))]) hx hb dX5_readNumber_63 rfl hl (by decide) rfl (fun ls hl => ?_)
  refine lv_aload_n hx hb dX5_readNumber_64 rfl (lv_at hl 1 rfl) ?_
  refine hr_get (ci := 5) (C := RX5) (T := TX5) (N := 55) (r := .inr 0) hx hb hts in_X5 hown hK hM mS_0 rfl 21 (by decide) (hts _ q1389) rfl (v := .int (g_59 0 21)) rfl dX5_readNumber_65 ?_
  refine hb_if_ne (tgt := 75) hx hb dX5_readNumber_68 (by decide) hf (fun hf => ?_) (fun hf => ?_)
  · refine lv_iload_n hx hb dX5_readNumber_75 rfl (lv_at hl 0 rfl) ?_
    have eo := Option.some.inj hf
    subst eo
    exact W.iret (v := y3_2) hx hb hr (fun T ht hW => ⟨⟨y3_2, (), rfl, rfl, by dsimp only; rw [ht]; exact hM⟩, hS.F ht⟩) hS.2.2 dX5_readNumber_76
  · refine lv_aload_n hx hb dX5_readNumber_71 rfl (lv_at hl 1 rfl) ?_
    obtain ⟨y3, hq, hf⟩ := hbind hf
    refine hr_callv0 (va_runV (As := []) (rest := []) ⟨hx, hb, hml, hown, hts⟩ (met_m_stepOn l D C a0 s0 ad so t lt g_59 hq) (cwV 0 hts (lw_V q1551 q1553 qs34 q99 q1554) rfl rfl rfl (by decide +kernel) ⟨Nat.le_of_ble_eq_true rfl, Nat.le_of_ble_eq_true rfl⟩) (hr_preV hZ_c hM hIx hK hZ0 hA0 hS (r := .inr 0) mS_0 (q := (RX5, TX5, 55)) rfl) rfl rfl hl.1 rfl (lv_room (Nat.le_of_ble_eq_true rfl)) dX5_readNumber_72 ⟨Nat.le_of_ble_eq_true rfl, Nat.le_of_ble_eq_true rfl⟩) hS (fun H locs hM hS => ?_)
    refine lv_iload_n hx hb dX5_readNumber_75 rfl (lv_at hl 0 rfl) ?_
    have eo := Option.some.inj hf
    subst eo
    exact W.iret (v := y3_2) hx hb hr (fun T ht hW => ⟨⟨y3_2, (), rfl, rfl, by dsimp only; rw [ht]; exact hM⟩, hS.F ht⟩) hS.2.2 dX5_readNumber_76
set_option maxHeartbeats 4000000 in
set_option maxRecDepth 100000 in
theorem w_m_readNumber_B54 {p : Program} {l : Launch} {e : Env} {s : State} {m : MethodId} {args : Array Value} {below : List Frame} {meth : Method} {c : Code} {D : va_G} {C : Nat → Nat} {a0 : Array Value} {s0 : State} {ad : Rl → Nat} {so : Nat → Option hS} {t : hSt} {lt : Rl → Nat → Int64} (CX : hCx D C a0 s0 p s m args meth c cX5_readNumber 4 RX5 (some .int)) (hIx : hI (hA s0) ad (Sum.elim so (mSH C))) (g : hSt) (p0 : Int32) (p1 : Int32) {o : Int32 × hSt} (hf : m_readNumber_B54 g = some o) {H : Heap} {locs : List Loc} (hM : hW D vwCl ad (Sum.elim so (mSH C)) (Sum.elim t g) lt H) (hS : va_S (hA s0) s.heap H locs) {ls : Array Slot} (hl : lv_has ls 4 [(0, .ref (ad (.inr 0)))]) : W p l e rm_m_readNumber s m args below meth c H locs 0 0 (MQ below (va_Qi (fun (r : Int32) (_ : Unit) => r = o.1) (fun (_ : Unit) (U : State) => hW D vwCl ad (Sum.elim so (mSH C)) (Sum.elim t o.2) lt U.heap) (hA s0)) args s 0 0 (hA s0)) (F0 m 54 ls []) := by
  obtain ⟨hx, hb, hr, hml, hown, hts, hlocks, hK, hZ0, hA0⟩ := CX
  unfold m_readNumber_B54 at hf
  refine lv_aload_n hx hb dX5_readNumber_54 rfl (lv_at hl 0 rfl) ?_
  refine lv_iconst (v := 2) hx hb dX5_readNumber_55 (by decide) ?_
  obtain ⟨y1, hq, hf⟩ := hbind hf
  refine hr_callv0 (va_runV (As := [.int (2 : Int32)]) (rest := []) ⟨hx, hb, hml, hown, hts⟩ (met_m_wrong l D C a0 s0 ad so t lt g (2 : Int32) hq) (cwV 1 hts (lw_V q1593 q1595 qs38 q99 q1596) rfl rfl rfl (by decide +kernel) ⟨Nat.le_of_ble_eq_true rfl, Nat.le_of_ble_eq_true rfl⟩) (hr_preV hZ_c hM hIx hK hZ0 hA0 hS (r := .inr 0) mS_0 (q := (RX5, TX5, 55)) rfl) rfl rfl hl.1 rfl (lv_room (Nat.le_of_ble_eq_true rfl)) dX5_readNumber_56 ⟨Nat.le_of_ble_eq_true rfl, Nat.le_of_ble_eq_true rfl⟩) hS (fun H locs hM hS => ?_)
  exact w_m_readNumber_B59 ⟨hx, hb, hr, hml, hown, hts, hlocks, hK, hZ0, hA0⟩ hIx g p0 p1 y1 hf hM hS (lv_sub hl [0] rfl)
set_option maxHeartbeats 4000000 in
set_option maxRecDepth 100000 in
theorem w_m_readNumber {p : Program} {l : Launch} {e : Env} {s : State} {m : MethodId} {args : Array Value} {below : List Frame} {meth : Method} {c : Code} {D : va_G} {C : Nat → Nat} {a0 : Array Value} {s0 : State} {ad : Rl → Nat} {so : Nat → Option hS} {t : hSt} {lt : Rl → Nat → Int64} (CX : hCx D C a0 s0 p s m args meth c cX5_readNumber 4 RX5 (some .int)) (hIx : hI (hA s0) ad (Sum.elim so (mSH C))) (g : hSt) (p0 : Int32) (p1 : Int32) {o : Int32 × hSt} (hf : m_readNumber g p0 p1 = some o) {H : Heap} {locs : List Loc} (hM : hW D vwCl ad (Sum.elim so (mSH C)) (Sum.elim t g) lt H) (hS : va_S (hA s0) s.heap H locs) {ls : Array Slot} (hl : lv_has ls 4 [(0, .ref (ad (.inr 0))), (1, .int p0), (2, .int p1)]) : W p l e rm_m_readNumber s m args below meth c H locs 0 0 (MQ below (va_Qi (fun (r : Int32) (_ : Unit) => r = o.1) (fun (_ : Unit) (U : State) => hW D vwCl ad (Sum.elim so (mSH C)) (Sum.elim t o.2) lt U.heap) (hA s0)) args s 0 0 (hA s0)) (F0 m 0 ls []) := by
  obtain ⟨hx, hb, hr, hml, hown, hts, hlocks, hK, hZ0, hA0⟩ := CX
  unfold m_readNumber at hf
  refine lv_aload_n hx hb dX5_readNumber_0 rfl (lv_at hl 0 rfl) ?_
  refine hr_get (ci := 5) (C := RX5) (T := TX5) (N := 55) (r := .inr 0) hx hb hts in_X5 hown hK hM mS_0 rfl 21 (by decide) (hts _ q1389) rfl (v := .int (g 0 21)) rfl dX5_readNumber_1 ?_
  refine hb_if_eq (tgt := 9) hx hb dX5_readNumber_4 (by decide) hf (fun hf => ?_) (fun hf => ?_)
  · refine lv_aload_n hx hb dX5_readNumber_9 rfl (lv_at hl 0 rfl) ?_
    refine hr_get (ci := 5) (C := RX5) (T := TX5) (N := 55) (r := .inr 0) hx hb hts in_X5 hown hK hM mS_0 rfl 17 (by decide) (hts _ q1385) rfl (v := .int (g 0 17)) rfl dX5_readNumber_10 ?_
    refine lv_iconst (v := 2) hx hb dX5_readNumber_13 (by decide) ?_
    refine hb_icmp_eq (tgt := 25) hx hb dX5_readNumber_14 (by decide) hf (fun hf => ?_) (fun hf => ?_)
    · refine lv_aload_n hx hb dX5_readNumber_25 rfl (lv_at hl 0 rfl) ?_
      refine hr_get (ci := 5) (C := RX5) (T := TX5) (N := 55) (r := .inr 0) hx hb hts in_X5 hown hK hM mS_0 rfl 20 (by decide) (hts _ q1388) rfl (v := .int (g 0 20)) rfl dX5_readNumber_26 ?_
      refine lv_aload_n hx hb dX5_readNumber_29 rfl (lv_at hl 0 rfl) ?_
      refine hr_get (ci := 5) (C := RX5) (T := TX5) (N := 55) (r := .inr 0) hx hb hts in_X5 hown hK hM mS_0 rfl 19 (by decide) (hts _ q1387) rfl (v := .int (g 0 19)) rfl dX5_readNumber_30 ?_
      refine lv_isub hx hb dX5_readNumber_33 ?_
      refine lv_iconst (v := 4) hx hb dX5_readNumber_34 (by decide) ?_
      refine hb_icmp_gt (tgt := 54) hx hb dX5_readNumber_35 (by decide) hf (fun hf => ?_) (fun hf => ?_)
      · exact w_m_readNumber_B54 ⟨hx, hb, hr, hml, hown, hts, hlocks, hK, hZ0, hA0⟩ hIx g p0 p1 hf hM hS (lv_sub hl [0] rfl)
      · refine lv_aload_n hx hb dX5_readNumber_38 rfl (lv_at hl 0 rfl) ?_
        refine hr_get (ci := 5) (C := RX5) (T := TX5) (N := 55) (r := .inr 0) hx hb hts in_X5 hown hK hM mS_0 rfl 18 (by decide) (hts _ q1386) rfl (v := .int (g 0 18)) rfl dX5_readNumber_39 ?_
        refine lv_iload_n hx hb dX5_readNumber_42 rfl (lv_at hl 1 rfl) ?_
        refine hb_icmp_lt (tgt := 54) hx hb dX5_readNumber_43 (by decide) hf (fun hf => ?_) (fun hf => ?_)
        · exact w_m_readNumber_B54 ⟨hx, hb, hr, hml, hown, hts, hlocks, hK, hZ0, hA0⟩ hIx g p0 p1 hf hM hS (lv_sub hl [0] rfl)
        · refine lv_aload_n hx hb dX5_readNumber_46 rfl (lv_at hl 0 rfl) ?_
          refine hr_get (ci := 5) (C := RX5) (T := TX5) (N := 55) (r := .inr 0) hx hb hts in_X5 hown hK hM mS_0 rfl 18 (by decide) (hts _ q1386) rfl (v := .int (g 0 18)) rfl dX5_readNumber_47 ?_
          refine lv_iload_n hx hb dX5_readNumber_50 rfl (lv_at hl 2 rfl) ?_
          refine hb_icmp_le (tgt := 59) hx hb dX5_readNumber_51 (by decide) hf (fun hf => ?_) (fun hf => ?_)
          · exact w_m_readNumber_B59 ⟨hx, hb, hr, hml, hown, hts, hlocks, hK, hZ0, hA0⟩ hIx g p0 p1 g hf hM hS (lv_sub hl [0] rfl)
          · exact w_m_readNumber_B54 ⟨hx, hb, hr, hml, hown, hts, hlocks, hK, hZ0, hA0⟩ hIx g p0 p1 hf hM hS (lv_sub hl [0] rfl)
    · refine lv_aload_n hx hb dX5_readNumber_17 rfl (lv_at hl 0 rfl) ?_
      refine lv_iconst (v := 1) hx hb dX5_readNumber_18 (by decide) ?_
      obtain ⟨y4, hq, hf⟩ := hbind hf
      refine hr_callv0 (va_runV (As := [.int (1 : Int32)]) (rest := []) ⟨hx, hb, hml, hown, hts⟩ (met_m_wrong l D C a0 s0 ad so t lt g (1 : Int32) hq) (cwV 1 hts (lw_V q1593 q1595 qs38 q99 q1596) rfl rfl rfl (by decide +kernel) ⟨Nat.le_of_ble_eq_true rfl, Nat.le_of_ble_eq_true rfl⟩) (hr_preV hZ_c hM hIx hK hZ0 hA0 hS (r := .inr 0) mS_0 (q := (RX5, TX5, 55)) rfl) rfl rfl hl.1 rfl (lv_room (Nat.le_of_ble_eq_true rfl)) dX5_readNumber_19 ⟨Nat.le_of_ble_eq_true rfl, Nat.le_of_ble_eq_true rfl⟩) hS (fun H locs hM hS => ?_)
      refine lv_goto (tgt := 59) hx hb dX5_readNumber_22 (by decide) ?_
      exact w_m_readNumber_B59 ⟨hx, hb, hr, hml, hown, hts, hlocks, hK, hZ0, hA0⟩ hIx g p0 p1 y4 hf hM hS (lv_sub hl [0] rfl)
  · refine lv_iconst (v := 0) hx hb dX5_readNumber_7 (by decide) ?_
    have eo := Option.some.inj hf
    subst eo
    exact W.iret (v := (0 : Int32)) hx hb hr (fun T ht hW => ⟨⟨(0 : Int32), (), rfl, rfl, by dsimp only; rw [ht]; exact hM⟩, hS.F ht⟩) hS.2.2 dX5_readNumber_8
set_option maxHeartbeats 4000000 in
set_option maxRecDepth 100000 in
theorem met_m_readNumber (l : Launch) (D : va_G) (C : Nat → Nat) (a0 : Array Value) (s0 : State) (ad : Rl → Nat) (so : Nat → Option hS) (t : hSt) (lt : Rl → Nat → Int64) (g : hSt) (p0 : Int32) (p1 : Int32) {o : Int32 × hSt} (hf : m_readNumber g p0 p1 = some o) : Met l yX5_readNumber (ws_ yX5_readNumber cX5_readNumber 4 (some .int)) rm_m_readNumber (va_Pc [.ref (ad (.inr 0)), .int p0, .int p1] (hB D vwCl (hT C) (hA s0) (hZ a0 s0) ad (Sum.elim so (mSH C)) (Sum.elim t g) lt)) (va_Qi (fun (r : Int32) (_ : Unit) => r = o.1) (fun (_ : Unit) (U : State) => hW D vwCl ad (Sum.elim so (mSH C)) (Sum.elim t o.2) lt U.heap) (hA s0)) 0 0 (hA s0) := by
  refine Met.ofW (cc := cX5_readNumber) (maxL := 4) (ret := (some .int)) (by decide) rfl ?_
  intro p e s m args below meth c s₁ B hml hv
  obtain ⟨rfl, hM, hIx, hK, hZ0, hA0⟩ := hv
  have hl := lv_entry ([.ref (ad (.inr 0)), .int p0, .int p1]) (n := 4) (Nat.le_of_ble_eq_true rfl)
  rw [lg_entry_eq]
  generalize (lg_sl ([.ref (ad (.inr 0)), .int p0, .int p1]) ++ List.replicate (4 - (lg_sl ([.ref (ad (.inr 0)), .int p0, .int p1])).length) Slot.unset).toArray = ls at hl ⊢
  have hl : lv_has ls 4 [(0, .ref (ad (.inr 0))), (1, .int p0), (2, .int p1)] := hl
  exact w_m_readNumber ⟨B.exec, B.bytes, B.returns, hml, findClass_of_methodNamed B.named, fun w h => atoms_spec (ws := ws_ yX5_readNumber cX5_readNumber 4 (some .int)) B.pre w (List.mem_cons_of_mem _ h), B.notSynchronized, hK, hZ0, hA0⟩ hIx g p0 p1 hf hM va_S.rf hl

def rm_m_personNow : Room := { frames := 3, cells := 0, slots := 0, locals := 38 }
set_option maxHeartbeats 4000000 in
set_option maxRecDepth 100000 in
theorem w_m_personNow_B64 {p : Program} {l : Launch} {e : Env} {s : State} {m : MethodId} {args : Array Value} {below : List Frame} {meth : Method} {c : Code} {D : va_G} {C : Nat → Nat} {a0 : Array Value} {s0 : State} {ad : Rl → Nat} {so : Nat → Option hS} {t : hSt} {lt : Rl → Nat → Int64} (CX : hCx D C a0 s0 p s m args meth c cX5_personNow 1 RX5 (some .int)) (hIx : hI (hA s0) ad (Sum.elim so (mSH C))) (g : hSt) (g_64 : hSt) {o : Int32 × hSt} (hf : m_personNow_B64 g_64 = some o) {H : Heap} {locs : List Loc} (hM : hW D vwCl ad (Sum.elim so (mSH C)) (Sum.elim t g_64) lt H) (hS : va_S (hA s0) s.heap H locs) {ls : Array Slot} (hl : lv_has ls 1 [(0, .ref (ad (.inr 0)))]) : W p l e rm_m_personNow s m args below meth c H locs 0 0 (MQ below (va_Qi (fun (r : Int32) (_ : Unit) => r = o.1) (fun (_ : Unit) (U : State) => hW D vwCl ad (Sum.elim so (mSH C)) (Sum.elim t o.2) lt U.heap) (hA s0)) args s 0 0 (hA s0)) (F0 m 64 ls []) := by
  obtain ⟨hx, hb, hr, hml, hown, hts, hlocks, hK, hZ0, hA0⟩ := CX
  unfold m_personNow_B64 at hf
  refine lv_aload_n hx hb dX5_personNow_64 rfl (lv_at hl 0 rfl) ?_
  refine hr_get (ci := 5) (C := RX5) (T := TX5) (N := 55) (r := .inr 0) hx hb hts in_X5 hown hK hM mS_0 rfl 21 (by decide) (hts _ q1389) rfl (v := .int (g_64 0 21)) rfl dX5_personNow_65 ?_
  refine hb_if_ne (tgt := 78) hx hb dX5_personNow_68 (by decide) hf (fun hf => ?_) (fun hf => ?_)
  · refine lv_iconst (v := 0) hx hb dX5_personNow_78 (by decide) ?_
    have eo := Option.some.inj hf
    subst eo
    exact W.iret (v := (0 : Int32)) hx hb hr (fun T ht hW => ⟨⟨(0 : Int32), (), rfl, rfl, by dsimp only; rw [ht]; exact hM⟩, hS.F ht⟩) hS.2.2 dX5_personNow_79
  · refine lv_aload_n hx hb dX5_personNow_71 rfl (lv_at hl 0 rfl) ?_
    refine hr_get (ci := 5) (C := RX5) (T := TX5) (N := 55) (r := .inr 0) hx hb hts in_X5 hown hK hM mS_0 rfl 18 (by decide) (hts _ q1386) rfl (v := .int (g_64 0 18)) rfl dX5_personNow_72 ?_
    refine lv_goto (tgt := 79) hx hb dX5_personNow_75 (by decide) ?_
    have eo := Option.some.inj hf
    subst eo
    exact W.iret (v := (g_64 0 18)) hx hb hr (fun T ht hW => ⟨⟨(g_64 0 18), (), rfl, rfl, by dsimp only; rw [ht]; exact hM⟩, hS.F ht⟩) hS.2.2 dX5_personNow_79
set_option maxHeartbeats 4000000 in
set_option maxRecDepth 100000 in
theorem w_m_personNow {p : Program} {l : Launch} {e : Env} {s : State} {m : MethodId} {args : Array Value} {below : List Frame} {meth : Method} {c : Code} {D : va_G} {C : Nat → Nat} {a0 : Array Value} {s0 : State} {ad : Rl → Nat} {so : Nat → Option hS} {t : hSt} {lt : Rl → Nat → Int64} (CX : hCx D C a0 s0 p s m args meth c cX5_personNow 1 RX5 (some .int)) (hIx : hI (hA s0) ad (Sum.elim so (mSH C))) (g : hSt) {o : Int32 × hSt} (hf : m_personNow g = some o) {H : Heap} {locs : List Loc} (hM : hW D vwCl ad (Sum.elim so (mSH C)) (Sum.elim t g) lt H) (hS : va_S (hA s0) s.heap H locs) {ls : Array Slot} (hl : lv_has ls 1 [(0, .ref (ad (.inr 0)))]) : W p l e rm_m_personNow s m args below meth c H locs 0 0 (MQ below (va_Qi (fun (r : Int32) (_ : Unit) => r = o.1) (fun (_ : Unit) (U : State) => hW D vwCl ad (Sum.elim so (mSH C)) (Sum.elim t o.2) lt U.heap) (hA s0)) args s 0 0 (hA s0)) (F0 m 0 ls []) := by
  obtain ⟨hx, hb, hr, hml, hown, hts, hlocks, hK, hZ0, hA0⟩ := CX
  unfold m_personNow at hf
  refine lv_aload_n hx hb dX5_personNow_0 rfl (lv_at hl 0 rfl) ?_
  refine hr_get (ci := 5) (C := RX5) (T := TX5) (N := 55) (r := .inr 0) hx hb hts in_X5 hown hK hM mS_0 rfl 21 (by decide) (hts _ q1389) rfl (v := .int (g 0 21)) rfl dX5_personNow_1 ?_
  refine hb_if_eq (tgt := 9) hx hb dX5_personNow_4 (by decide) hf (fun hf => ?_) (fun hf => ?_)
  · refine lv_aload_n hx hb dX5_personNow_9 rfl (lv_at hl 0 rfl) ?_
    refine hr_get (ci := 5) (C := RX5) (T := TX5) (N := 55) (r := .inr 0) hx hb hts in_X5 hown hK hM mS_0 rfl 17 (by decide) (hts _ q1385) rfl (v := .int (g 0 17)) rfl dX5_personNow_10 ?_
    refine lv_iconst (v := 2) hx hb dX5_personNow_13 (by decide) ?_
    refine hb_icmp_eq (tgt := 25) hx hb dX5_personNow_14 (by decide) hf (fun hf => ?_) (fun hf => ?_)
    · refine lv_aload_n hx hb dX5_personNow_25 rfl (lv_at hl 0 rfl) ?_
      refine hr_get (ci := 5) (C := RX5) (T := TX5) (N := 55) (r := .inr 0) hx hb hts in_X5 hown hK hM mS_0 rfl 20 (by decide) (hts _ q1388) rfl (v := .int (g 0 20)) rfl dX5_personNow_26 ?_
      refine lv_aload_n hx hb dX5_personNow_29 rfl (lv_at hl 0 rfl) ?_
      refine hr_get (ci := 5) (C := RX5) (T := TX5) (N := 55) (r := .inr 0) hx hb hts in_X5 hown hK hM mS_0 rfl 19 (by decide) (hts _ q1387) rfl (v := .int (g 0 19)) rfl dX5_personNow_30 ?_
      refine lv_isub hx hb dX5_personNow_33 ?_
      refine lv_iconst (v := 4) hx hb dX5_personNow_34 (by decide) ?_
      refine hb_icmp_le (tgt := 46) hx hb dX5_personNow_35 (by decide) hf (fun hf => ?_) (fun hf => ?_)
      · refine lv_aload_n hx hb dX5_personNow_46 rfl (lv_at hl 0 rfl) ?_
        refine hr_get (ci := 5) (C := RX5) (T := TX5) (N := 55) (r := .inr 0) hx hb hts in_X5 hown hK hM mS_0 rfl 18 (by decide) (hts _ q1386) rfl (v := .int (g 0 18)) rfl dX5_personNow_47 ?_
        refine lv_aload_n hx hb dX5_personNow_50 rfl (lv_at hl 0 rfl) ?_
        refine hr_get (ci := 5) (C := RX5) (T := TX5) (N := 55) (r := .inr 0) hx hb hts in_X5 hown hK hM mS_0 rfl 2 (by decide) (hts _ q1370) rfl (v := .ref (ad (.inr 3))) rfl dX5_personNow_51 ?_
        refine lv_iconst (v := 4) hx hb dX5_personNow_54 (by decide) ?_
        refine hm_iald (r := 3) hx hb hK hM 0 mS_3 rfl hf dX5_personNow_55 (fun x1 hf => ?_)
        refine hb_icmp_lt (tgt := 64) hx hb dX5_personNow_56 (by decide) hf (fun hf => ?_) (fun hf => ?_)
        · exact w_m_personNow_B64 ⟨hx, hb, hr, hml, hown, hts, hlocks, hK, hZ0, hA0⟩ hIx g g hf hM hS (lv_sub hl [0] rfl)
        · refine lv_aload_n hx hb dX5_personNow_59 rfl (lv_at hl 0 rfl) ?_
          refine lv_iconst (v := 3) hx hb dX5_personNow_60 (by decide) ?_
          obtain ⟨y2, hq, hf⟩ := hbind hf
          refine hr_callv0 (va_runV (As := [.int (3 : Int32)]) (rest := []) ⟨hx, hb, hml, hown, hts⟩ (met_m_wrong l D C a0 s0 ad so t lt g (3 : Int32) hq) (cwV 1 hts (lw_V q1593 q1595 qs38 q99 q1596) rfl rfl rfl (by decide +kernel) ⟨Nat.le_of_ble_eq_true rfl, Nat.le_of_ble_eq_true rfl⟩) (hr_preV hZ_c hM hIx hK hZ0 hA0 hS (r := .inr 0) mS_0 (q := (RX5, TX5, 55)) rfl) rfl rfl hl.1 rfl (lv_room (Nat.le_of_ble_eq_true rfl)) dX5_personNow_61 ⟨Nat.le_of_ble_eq_true rfl, Nat.le_of_ble_eq_true rfl⟩) hS (fun H locs hM hS => ?_)
          exact w_m_personNow_B64 ⟨hx, hb, hr, hml, hown, hts, hlocks, hK, hZ0, hA0⟩ hIx g y2 hf hM hS (lv_sub hl [0] rfl)
      · refine lv_aload_n hx hb dX5_personNow_38 rfl (lv_at hl 0 rfl) ?_
        refine lv_iconst (v := 2) hx hb dX5_personNow_39 (by decide) ?_
        obtain ⟨y3, hq, hf⟩ := hbind hf
        refine hr_callv0 (va_runV (As := [.int (2 : Int32)]) (rest := []) ⟨hx, hb, hml, hown, hts⟩ (met_m_wrong l D C a0 s0 ad so t lt g (2 : Int32) hq) (cwV 1 hts (lw_V q1593 q1595 qs38 q99 q1596) rfl rfl rfl (by decide +kernel) ⟨Nat.le_of_ble_eq_true rfl, Nat.le_of_ble_eq_true rfl⟩) (hr_preV hZ_c hM hIx hK hZ0 hA0 hS (r := .inr 0) mS_0 (q := (RX5, TX5, 55)) rfl) rfl rfl hl.1 rfl (lv_room (Nat.le_of_ble_eq_true rfl)) dX5_personNow_40 ⟨Nat.le_of_ble_eq_true rfl, Nat.le_of_ble_eq_true rfl⟩) hS (fun H locs hM hS => ?_)
        refine lv_goto (tgt := 64) hx hb dX5_personNow_43 (by decide) ?_
        exact w_m_personNow_B64 ⟨hx, hb, hr, hml, hown, hts, hlocks, hK, hZ0, hA0⟩ hIx g y3 hf hM hS (lv_sub hl [0] rfl)
    · refine lv_aload_n hx hb dX5_personNow_17 rfl (lv_at hl 0 rfl) ?_
      refine lv_iconst (v := 1) hx hb dX5_personNow_18 (by decide) ?_
      obtain ⟨y4, hq, hf⟩ := hbind hf
      refine hr_callv0 (va_runV (As := [.int (1 : Int32)]) (rest := []) ⟨hx, hb, hml, hown, hts⟩ (met_m_wrong l D C a0 s0 ad so t lt g (1 : Int32) hq) (cwV 1 hts (lw_V q1593 q1595 qs38 q99 q1596) rfl rfl rfl (by decide +kernel) ⟨Nat.le_of_ble_eq_true rfl, Nat.le_of_ble_eq_true rfl⟩) (hr_preV hZ_c hM hIx hK hZ0 hA0 hS (r := .inr 0) mS_0 (q := (RX5, TX5, 55)) rfl) rfl rfl hl.1 rfl (lv_room (Nat.le_of_ble_eq_true rfl)) dX5_personNow_19 ⟨Nat.le_of_ble_eq_true rfl, Nat.le_of_ble_eq_true rfl⟩) hS (fun H locs hM hS => ?_)
      refine lv_goto (tgt := 64) hx hb dX5_personNow_22 (by decide) ?_
      exact w_m_personNow_B64 ⟨hx, hb, hr, hml, hown, hts, hlocks, hK, hZ0, hA0⟩ hIx g y4 hf hM hS (lv_sub hl [0] rfl)
  · refine lv_iconst (v := 0) hx hb dX5_personNow_7 (by decide) ?_
    have eo := Option.some.inj hf
    subst eo
    exact W.iret (v := (0 : Int32)) hx hb hr (fun T ht hW => ⟨⟨(0 : Int32), (), rfl, rfl, by dsimp only; rw [ht]; exact hM⟩, hS.F ht⟩) hS.2.2 dX5_personNow_8
set_option maxHeartbeats 4000000 in
set_option maxRecDepth 100000 in
theorem met_m_personNow (l : Launch) (D : va_G) (C : Nat → Nat) (a0 : Array Value) (s0 : State) (ad : Rl → Nat) (so : Nat → Option hS) (t : hSt) (lt : Rl → Nat → Int64) (g : hSt) {o : Int32 × hSt} (hf : m_personNow g = some o) : Met l yX5_personNow (ws_ yX5_personNow cX5_personNow 1 (some .int)) rm_m_personNow (va_Pc [.ref (ad (.inr 0))] (hB D vwCl (hT C) (hA s0) (hZ a0 s0) ad (Sum.elim so (mSH C)) (Sum.elim t g) lt)) (va_Qi (fun (r : Int32) (_ : Unit) => r = o.1) (fun (_ : Unit) (U : State) => hW D vwCl ad (Sum.elim so (mSH C)) (Sum.elim t o.2) lt U.heap) (hA s0)) 0 0 (hA s0) := by
  refine Met.ofW (cc := cX5_personNow) (maxL := 1) (ret := (some .int)) (by decide) rfl ?_
  intro p e s m args below meth c s₁ B hml hv
  obtain ⟨rfl, hM, hIx, hK, hZ0, hA0⟩ := hv
  have hl := lv_entry ([.ref (ad (.inr 0))]) (n := 1) (Nat.le_of_ble_eq_true rfl)
  rw [lg_entry_eq]
  generalize (lg_sl ([.ref (ad (.inr 0))]) ++ List.replicate (1 - (lg_sl ([.ref (ad (.inr 0))])).length) Slot.unset).toArray = ls at hl ⊢
  have hl : lv_has ls 1 [(0, .ref (ad (.inr 0)))] := hl
  exact w_m_personNow ⟨B.exec, B.bytes, B.returns, hml, findClass_of_methodNamed B.named, fun w h => atoms_spec (ws := ws_ yX5_personNow cX5_personNow 1 (some .int)) B.pre w (List.mem_cons_of_mem _ h), B.notSynchronized, hK, hZ0, hA0⟩ hIx g hf hM va_S.rf hl

def rm_m_readPerson : Room := { frames := 5, cells := 0, slots := 0, locals := 60 }
set_option maxHeartbeats 4000000 in
set_option maxRecDepth 100000 in
theorem w_m_readPerson {p : Program} {l : Launch} {e : Env} {s : State} {m : MethodId} {args : Array Value} {below : List Frame} {meth : Method} {c : Code} {D : va_G} {C : Nat → Nat} {a0 : Array Value} {s0 : State} {ad : Rl → Nat} {so : Nat → Option hS} {t : hSt} {lt : Rl → Nat → Int64} (CX : hCx D C a0 s0 p s m args meth c cX5_readPerson 2 RX5 (some .int)) (hIx : hI (hA s0) ad (Sum.elim so (mSH C))) (g : hSt) {o : Int32 × hSt} (hf : m_readPerson g = some o) {H : Heap} {locs : List Loc} (hM : hW D vwCl ad (Sum.elim so (mSH C)) (Sum.elim t g) lt H) (hS : va_S (hA s0) s.heap H locs) {ls : Array Slot} (hl : lv_has ls 2 [(0, .ref (ad (.inr 0)))]) : W p l e rm_m_readPerson s m args below meth c H locs 0 0 (MQ below (va_Qi (fun (r : Int32) (_ : Unit) => r = o.1) (fun (_ : Unit) (U : State) => hW D vwCl ad (Sum.elim so (mSH C)) (Sum.elim t o.2) lt U.heap) (hA s0)) args s 0 0 (hA s0)) (F0 m 0 ls []) := by
  obtain ⟨hx, hb, hr, hml, hown, hts, hlocks, hK, hZ0, hA0⟩ := CX
  unfold m_readPerson at hf
  refine lv_aload_n hx hb dX5_readPerson_0 rfl (lv_at hl 0 rfl) ?_
  obtain ⟨y1, hq, hf⟩ := hbind hf
  refine hr_calli0 (va_runV (As := []) (rest := []) ⟨hx, hb, hml, hown, hts⟩ (met_m_personNow l D C a0 s0 ad so t lt g hq) (cwV 0 hts (lw_V q1620 q1622 qs44 q99 q1623) rfl rfl rfl (by decide +kernel) ⟨Nat.le_of_ble_eq_true rfl, Nat.le_of_ble_eq_true rfl⟩) (hr_preV hZ_c hM hIx hK hZ0 hA0 hS (r := .inr 0) mS_0 (q := (RX5, TX5, 55)) rfl) rfl rfl hl.1 rfl (lv_room (Nat.le_of_ble_eq_true rfl)) dX5_readPerson_1 ⟨Nat.le_of_ble_eq_true rfl, Nat.le_of_ble_eq_true rfl⟩) hS (fun H locs hM hS => ?_)
  refine lv_istore_n (lv' := [(1, .int y1.1), (0, .ref (ad (.inr 0)))]) hx hb dX5_readPerson_4 rfl hl (by decide) rfl (fun ls hl => ?_)
  refine lv_aload_n hx hb dX5_readPerson_5 rfl (lv_at hl 1 rfl) ?_
  refine hr_get (ci := 5) (C := RX5) (T := TX5) (N := 55) (r := .inr 0) hx hb hts in_X5 hown hK hM mS_0 rfl 21 (by decide) (hts _ q1389) rfl (v := .int (y1.2 0 21)) rfl dX5_readPerson_6 ?_
  refine hb_if_ne (tgt := 16) hx hb dX5_readPerson_9 (by decide) hf (fun hf => ?_) (fun hf => ?_)
  · refine lv_iload_n hx hb dX5_readPerson_16 rfl (lv_at hl 0 rfl) ?_
    have eo := Option.some.inj hf
    subst eo
    exact W.iret (v := y1.1) hx hb hr (fun T ht hW => ⟨⟨y1.1, (), rfl, rfl, by dsimp only; rw [ht]; exact hM⟩, hS.F ht⟩) hS.2.2 dX5_readPerson_17
  · refine lv_aload_n hx hb dX5_readPerson_12 rfl (lv_at hl 1 rfl) ?_
    obtain ⟨y2, hq, hf⟩ := hbind hf
    refine hr_callv0 (va_runV (As := []) (rest := []) ⟨hx, hb, hml, hown, hts⟩ (met_m_stepOn l D C a0 s0 ad so t lt y1.2 hq) (cwV 0 hts (lw_V q1551 q1553 qs34 q99 q1554) rfl rfl rfl (by decide +kernel) ⟨Nat.le_of_ble_eq_true rfl, Nat.le_of_ble_eq_true rfl⟩) (hr_preV hZ_c hM hIx hK hZ0 hA0 hS (r := .inr 0) mS_0 (q := (RX5, TX5, 55)) rfl) rfl rfl hl.1 rfl (lv_room (Nat.le_of_ble_eq_true rfl)) dX5_readPerson_13 ⟨Nat.le_of_ble_eq_true rfl, Nat.le_of_ble_eq_true rfl⟩) hS (fun H locs hM hS => ?_)
    refine lv_iload_n hx hb dX5_readPerson_16 rfl (lv_at hl 0 rfl) ?_
    have eo := Option.some.inj hf
    subst eo
    exact W.iret (v := y1.1) hx hb hr (fun T ht hW => ⟨⟨y1.1, (), rfl, rfl, by dsimp only; rw [ht]; exact hM⟩, hS.F ht⟩) hS.2.2 dX5_readPerson_17
set_option maxHeartbeats 4000000 in
set_option maxRecDepth 100000 in
theorem met_m_readPerson (l : Launch) (D : va_G) (C : Nat → Nat) (a0 : Array Value) (s0 : State) (ad : Rl → Nat) (so : Nat → Option hS) (t : hSt) (lt : Rl → Nat → Int64) (g : hSt) {o : Int32 × hSt} (hf : m_readPerson g = some o) : Met l yX5_readPerson (ws_ yX5_readPerson cX5_readPerson 2 (some .int)) rm_m_readPerson (va_Pc [.ref (ad (.inr 0))] (hB D vwCl (hT C) (hA s0) (hZ a0 s0) ad (Sum.elim so (mSH C)) (Sum.elim t g) lt)) (va_Qi (fun (r : Int32) (_ : Unit) => r = o.1) (fun (_ : Unit) (U : State) => hW D vwCl ad (Sum.elim so (mSH C)) (Sum.elim t o.2) lt U.heap) (hA s0)) 0 0 (hA s0) := by
  refine Met.ofW (cc := cX5_readPerson) (maxL := 2) (ret := (some .int)) (by decide) rfl ?_
  intro p e s m args below meth c s₁ B hml hv
  obtain ⟨rfl, hM, hIx, hK, hZ0, hA0⟩ := hv
  have hl := lv_entry ([.ref (ad (.inr 0))]) (n := 2) (Nat.le_of_ble_eq_true rfl)
  rw [lg_entry_eq]
  generalize (lg_sl ([.ref (ad (.inr 0))]) ++ List.replicate (2 - (lg_sl ([.ref (ad (.inr 0))])).length) Slot.unset).toArray = ls at hl ⊢
  have hl : lv_has ls 2 [(0, .ref (ad (.inr 0)))] := hl
  exact w_m_readPerson ⟨B.exec, B.bytes, B.returns, hml, findClass_of_methodNamed B.named, fun w h => atoms_spec (ws := ws_ yX5_readPerson cX5_readPerson 2 (some .int)) B.pre w (List.mem_cons_of_mem _ h), B.notSynchronized, hK, hZ0, hA0⟩ hIx g hf hM va_S.rf hl

def rm_m_copy : Room := { frames := 1, cells := 0, slots := 0, locals := 16 }
set_option maxHeartbeats 4000000 in
set_option maxRecDepth 100000 in
theorem w_m_copy_L2 {p : Program} {l : Launch} {e : Env} {s : State} {m : MethodId} {args : Array Value} {below : List Frame} {meth : Method} {c : Code} {D : va_G} {C : Nat → Nat} {a0 : Array Value} {s0 : State} {ad : Rl → Nat} {so : Nat → Option hS} {t : hSt} {lt : Rl → Nat → Int64} (CX : hCx D C a0 s0 p s m args meth c cX5_copy 3 RX5 (none)) (hIx : hI (hA s0) ad (Sum.elim so (mSH C))) (g : hSt) (r0 : Nat) (r1 : Nat) (h_r0 : mSH C r0 = some (.inl (C 0, 30, false))) (h_r1 : mSH C r1 = some (.inl (C 0, 30, false))) {oM : hSt} (x : hSt) (n : Nat) (q0 : Int32 × hSt) (h0 : hiter (fun q : Int32 × hSt => m_copy_L2 r0 r1 q.1 q.2) n q0 = some x) (kx0 : ∀ (H : Heap) (locs : List Loc) (ls : Array Slot), hW D vwCl ad (Sum.elim so (mSH C)) (Sum.elim t x) lt H → va_S (hA s0) s.heap H locs → lv_has ls 3 [] → W p l e rm_m_copy s m args below meth c H locs 0 0 (MQ below (va_Qv (fun (_ : Unit) => True) (fun (_ : Unit) (U : State) => hW D vwCl ad (Sum.elim so (mSH C)) (Sum.elim t oM) lt U.heap) (hA s0)) args s 0 0 (hA s0)) (F0 m 20 ls [])) : ∀ (H : Heap) (locs : List Loc) (ls : Array Slot), hW D vwCl ad (Sum.elim so (mSH C)) (Sum.elim t q0.2) lt H → va_S (hA s0) s.heap H locs → lv_has ls 3 [(0, .ref (ad (.inr r0))), (1, .ref (ad (.inr r1))), (2, .int q0.1)] → W p l e rm_m_copy s m args below meth c H locs 0 0 (MQ below (va_Qv (fun (_ : Unit) => True) (fun (_ : Unit) (U : State) => hW D vwCl ad (Sum.elim so (mSH C)) (Sum.elim t oM) lt U.heap) (hA s0)) args s 0 0 (hA s0)) (F0 m 2 ls []) := by
  obtain ⟨hx, hb, hr, hml, hown, hts, hlocks, hK, hZ0, hA0⟩ := CX
  refine hiter_W (Wh := fun q => ∀ (H : Heap) (locs : List Loc) (ls : Array Slot), hW D vwCl ad (Sum.elim so (mSH C)) (Sum.elim t q.2) lt H → va_S (hA s0) s.heap H locs → lv_has ls 3 [(0, .ref (ad (.inr r0))), (1, .ref (ad (.inr r1))), (2, .int q.1)] → W p l e rm_m_copy s m args below meth c H locs 0 0 (MQ below (va_Qv (fun (_ : Unit) => True) (fun (_ : Unit) (U : State) => hW D vwCl ad (Sum.elim so (mSH C)) (Sum.elim t oM) lt U.heap) (hA s0)) args s 0 0 (hA s0)) (F0 m 2 ls [])) ?_ n q0 h0
  intro q o hf kc kx1 H locs ls hM hS hl
  obtain ⟨v2_2, g_2⟩ := q
  replace hf : m_copy_L2 r0 r1 v2_2 g_2 = some o := hf
  have kx : ∀ x' : hSt, o = .inr x' → ∀ (H : Heap) (locs : List Loc) (ls : Array Slot), hW D vwCl ad (Sum.elim so (mSH C)) (Sum.elim t x') lt H → va_S (hA s0) s.heap H locs → lv_has ls 3 [] → W p l e rm_m_copy s m args below meth c H locs 0 0 (MQ below (va_Qv (fun (_ : Unit) => True) (fun (_ : Unit) (U : State) => hW D vwCl ad (Sum.elim so (mSH C)) (Sum.elim t oM) lt U.heap) (hA s0)) args s 0 0 (hA s0)) (F0 m 20 ls []) := fun x' ex => by rw [kx1 _ ex]; exact kx0
  unfold m_copy_L2 at hf
  refine lv_iload_n hx hb dX5_copy_2 rfl (lv_at hl 2 rfl) ?_
  refine lv_bipush (v := 30) hx hb dX5_copy_3 (by decide) ?_
  refine hb_icmp_ge (tgt := 20) hx hb dX5_copy_5 (by decide) hf (fun hf => ?_) (fun hf => ?_)
  · exact kx g_2 (Option.some.inj hf).symm H locs ls hM hS (lv_sub hl [] rfl)
  · refine lv_aload_n hx hb dX5_copy_8 rfl (lv_at hl 1 rfl) ?_
    refine lv_iload_n hx hb dX5_copy_9 rfl (lv_at hl 2 rfl) ?_
    refine lv_aload_n hx hb dX5_copy_10 rfl (lv_at hl 0 rfl) ?_
    refine lv_iload_n hx hb dX5_copy_11 rfl (lv_at hl 2 rfl) ?_
    refine hm_iald (r := r0) hx hb hK hM 0 h_r0 rfl hf dX5_copy_12 (fun x1 hf => ?_)
    refine hm_iast (r := r1) hx hb hK hM hIx hS 0 h_r1 rfl hf dX5_copy_13 (fun g2 H locs hf hM hS => ?_)
    obtain ⟨y2_3, ey, hf⟩ := hlet_ex hf
    refine lv_iinc (v := y2_3) (lv' := [(2, .int y2_3), (0, .ref (ad (.inr r0))), (1, .ref (ad (.inr r1)))]) hx hb dX5_copy_14 hl (k := 2) rfl (by rw [ey]; rfl) (by decide) rfl (fun ls hl => ?_)
    refine lv_goto (tgt := 2) hx hb dX5_copy_17 (by decide) ?_
    exact kc (y2_3, g2) (Option.some.inj hf).symm H locs ls hM hS (lv_sub hl [1, 2, 0] rfl)
set_option maxHeartbeats 4000000 in
set_option maxRecDepth 100000 in
theorem w_m_copy {p : Program} {l : Launch} {e : Env} {s : State} {m : MethodId} {args : Array Value} {below : List Frame} {meth : Method} {c : Code} {D : va_G} {C : Nat → Nat} {a0 : Array Value} {s0 : State} {ad : Rl → Nat} {so : Nat → Option hS} {t : hSt} {lt : Rl → Nat → Int64} (CX : hCx D C a0 s0 p s m args meth c cX5_copy 3 RX5 (none)) (hIx : hI (hA s0) ad (Sum.elim so (mSH C))) (g : hSt) (r0 : Nat) (r1 : Nat) (h_r0 : mSH C r0 = some (.inl (C 0, 30, false))) (h_r1 : mSH C r1 = some (.inl (C 0, 30, false))) {o : hSt} (hf : m_copy g r0 r1 = some o) {H : Heap} {locs : List Loc} (hM : hW D vwCl ad (Sum.elim so (mSH C)) (Sum.elim t g) lt H) (hS : va_S (hA s0) s.heap H locs) {ls : Array Slot} (hl : lv_has ls 3 [(0, .ref (ad (.inr r0))), (1, .ref (ad (.inr r1)))]) : W p l e rm_m_copy s m args below meth c H locs 0 0 (MQ below (va_Qv (fun (_ : Unit) => True) (fun (_ : Unit) (U : State) => hW D vwCl ad (Sum.elim so (mSH C)) (Sum.elim t o) lt U.heap) (hA s0)) args s 0 0 (hA s0)) (F0 m 0 ls []) := by
  obtain ⟨hx, hb, hr, hml, hown, hts, hlocks, hK, hZ0, hA0⟩ := CX
  unfold m_copy at hf
  refine lv_iconst (v := 0) hx hb dX5_copy_0 (by decide) ?_
  refine lv_istore_n (lv' := [(2, .int (0 : Int32)), (0, .ref (ad (.inr r0))), (1, .ref (ad (.inr r1)))]) hx hb dX5_copy_1 rfl hl (by decide) rfl (fun ls hl => ?_)
  obtain ⟨x4, hq, hf⟩ := hbind hf
  refine w_m_copy_L2 ⟨hx, hb, hr, hml, hown, hts, hlocks, hK, hZ0, hA0⟩ hIx g r0 r1 h_r0 h_r1 x4 hFU ((0 : Int32), g) hq (fun H locs ls hM hS hl => ?_) H locs ls hM hS (lv_sub hl [1, 2, 0] rfl)
  have eo := Option.some.inj hf
  subst eo
  exact W.vret hx hb hr (fun T ht hW => ⟨⟨(), rfl, trivial, by dsimp only; rw [ht]; exact hM⟩, hS.F ht⟩) hS.2.2 dX5_copy_20
set_option maxHeartbeats 4000000 in
set_option maxRecDepth 100000 in
theorem met_m_copy (l : Launch) (D : va_G) (C : Nat → Nat) (a0 : Array Value) (s0 : State) (ad : Rl → Nat) (so : Nat → Option hS) (t : hSt) (lt : Rl → Nat → Int64) (g : hSt) (r0 : Nat) (r1 : Nat) (h_r0 : mSH C r0 = some (.inl (C 0, 30, false))) (h_r1 : mSH C r1 = some (.inl (C 0, 30, false))) {o : hSt} (hf : m_copy g r0 r1 = some o) : Met l yX5_copy (ws_ yX5_copy cX5_copy 3 (none)) rm_m_copy (va_Pc [.ref (ad (.inr r0)), .ref (ad (.inr r1))] (hB D vwCl (hT C) (hA s0) (hZ a0 s0) ad (Sum.elim so (mSH C)) (Sum.elim t g) lt)) (va_Qv (fun (_ : Unit) => True) (fun (_ : Unit) (U : State) => hW D vwCl ad (Sum.elim so (mSH C)) (Sum.elim t o) lt U.heap) (hA s0)) 0 0 (hA s0) := by
  refine Met.ofW (cc := cX5_copy) (maxL := 3) (ret := (none)) (by decide) rfl ?_
  intro p e s m args below meth c s₁ B hml hv
  obtain ⟨rfl, hM, hIx, hK, hZ0, hA0⟩ := hv
  have hl := lv_entry ([.ref (ad (.inr r0)), .ref (ad (.inr r1))]) (n := 3) (Nat.le_of_ble_eq_true rfl)
  rw [lg_entry_eq]
  generalize (lg_sl ([.ref (ad (.inr r0)), .ref (ad (.inr r1))]) ++ List.replicate (3 - (lg_sl ([.ref (ad (.inr r0)), .ref (ad (.inr r1))])).length) Slot.unset).toArray = ls at hl ⊢
  have hl : lv_has ls 3 [(0, .ref (ad (.inr r0))), (1, .ref (ad (.inr r1)))] := hl
  exact w_m_copy ⟨B.exec, B.bytes, B.returns, hml, findClass_of_methodNamed B.named, fun w h => atoms_spec (ws := ws_ yX5_copy cX5_copy 3 (none)) B.pre w (List.mem_cons_of_mem _ h), B.notSynchronized, hK, hZ0, hA0⟩ hIx g r0 r1 h_r0 h_r1 hf hM va_S.rf hl

def rm_m_fault : Room := { frames := 1, cells := 0, slots := 0, locals := 16 }
set_option maxHeartbeats 4000000 in
set_option maxRecDepth 100000 in
theorem w_m_fault {p : Program} {l : Launch} {e : Env} {s : State} {m : MethodId} {args : Array Value} {below : List Frame} {meth : Method} {c : Code} {D : va_G} {C : Nat → Nat} {a0 : Array Value} {s0 : State} {ad : Rl → Nat} {so : Nat → Option hS} {t : hSt} {lt : Rl → Nat → Int64} (CX : hCx D C a0 s0 p s m args meth c cX5_fault 1 RX5 (some .int)) (hIx : hI (hA s0) ad (Sum.elim so (mSH C))) (g : hSt) {o : Int32 × hSt} (hf : m_fault g = some o) {H : Heap} {locs : List Loc} (hM : hW D vwCl ad (Sum.elim so (mSH C)) (Sum.elim t g) lt H) (hS : va_S (hA s0) s.heap H locs) {ls : Array Slot} (hl : lv_has ls 1 [(0, .ref (ad (.inr 0)))]) : W p l e rm_m_fault s m args below meth c H locs 0 0 (MQ below (va_Qi (fun (r : Int32) (_ : Unit) => r = o.1) (fun (_ : Unit) (U : State) => hW D vwCl ad (Sum.elim so (mSH C)) (Sum.elim t o.2) lt U.heap) (hA s0)) args s 0 0 (hA s0)) (F0 m 0 ls []) := by
  obtain ⟨hx, hb, hr, hml, hown, hts, hlocks, hK, hZ0, hA0⟩ := CX
  unfold m_fault at hf
  refine lv_aload_n hx hb dX5_fault_0 rfl (lv_at hl 0 rfl) ?_
  refine lv_iconst (v := 0) hx hb dX5_fault_1 (by decide) ?_
  refine hm_put (r := 0) (ci := 5) (C := RX5) (T := TX5) (N := 55) hx hb hts in_X5 tyX5 tyX5_ok nmX5 hown hK hM hIx hS mS_0 rfl 1 (by decide) (hts _ q1369) rfl rfl rfl hf dX5_fault_2 (fun g1 H locs hf hM hS => ?_)
  refine lv_aload_n hx hb dX5_fault_5 rfl (lv_at hl 0 rfl) ?_
  refine hr_get (ci := 5) (C := RX5) (T := TX5) (N := 55) (r := .inr 0) hx hb hts in_X5 hown hK hM mS_0 rfl 23 (by decide) (hts _ q1391) rfl (v := .int (g1 0 23)) rfl dX5_fault_6 ?_
  have eo := Option.some.inj hf
  subst eo
  exact W.iret (v := (g1 0 23)) hx hb hr (fun T ht hW => ⟨⟨(g1 0 23), (), rfl, rfl, by dsimp only; rw [ht]; exact hM⟩, hS.F ht⟩) hS.2.2 dX5_fault_9
set_option maxHeartbeats 4000000 in
set_option maxRecDepth 100000 in
theorem met_m_fault (l : Launch) (D : va_G) (C : Nat → Nat) (a0 : Array Value) (s0 : State) (ad : Rl → Nat) (so : Nat → Option hS) (t : hSt) (lt : Rl → Nat → Int64) (g : hSt) {o : Int32 × hSt} (hf : m_fault g = some o) : Met l yX5_fault (ws_ yX5_fault cX5_fault 1 (some .int)) rm_m_fault (va_Pc [.ref (ad (.inr 0))] (hB D vwCl (hT C) (hA s0) (hZ a0 s0) ad (Sum.elim so (mSH C)) (Sum.elim t g) lt)) (va_Qi (fun (r : Int32) (_ : Unit) => r = o.1) (fun (_ : Unit) (U : State) => hW D vwCl ad (Sum.elim so (mSH C)) (Sum.elim t o.2) lt U.heap) (hA s0)) 0 0 (hA s0) := by
  refine Met.ofW (cc := cX5_fault) (maxL := 1) (ret := (some .int)) (by decide) rfl ?_
  intro p e s m args below meth c s₁ B hml hv
  obtain ⟨rfl, hM, hIx, hK, hZ0, hA0⟩ := hv
  have hl := lv_entry ([.ref (ad (.inr 0))]) (n := 1) (Nat.le_of_ble_eq_true rfl)
  rw [lg_entry_eq]
  generalize (lg_sl ([.ref (ad (.inr 0))]) ++ List.replicate (1 - (lg_sl ([.ref (ad (.inr 0))])).length) Slot.unset).toArray = ls at hl ⊢
  have hl : lv_has ls 1 [(0, .ref (ad (.inr 0)))] := hl
  exact w_m_fault ⟨B.exec, B.bytes, B.returns, hml, findClass_of_methodNamed B.named, fun w h => atoms_spec (ws := ws_ yX5_fault cX5_fault 1 (some .int)) B.pre w (List.mem_cons_of_mem _ h), B.notSynchronized, hK, hZ0, hA0⟩ hIx g hf hM va_S.rf hl

def rm_m_isIn : Room := { frames := 1, cells := 0, slots := 0, locals := 16 }
set_option maxHeartbeats 4000000 in
set_option maxRecDepth 100000 in
theorem w_m_isIn_B14 {p : Program} {l : Launch} {e : Env} {s : State} {m : MethodId} {args : Array Value} {below : List Frame} {meth : Method} {c : Code} {D : va_G} {C : Nat → Nat} {a0 : Array Value} {s0 : State} {ad : Rl → Nat} {so : Nat → Option hS} {st : Rl → Nat → Int32} {lt : Rl → Nat → Int64} (CX : hCx D C a0 s0 p s m args meth c cX5_isIn 3 RX5 (some .boolean)) (hIx : hI (hA s0) ad (Sum.elim so (mSH C))) (p0 : Int32) (p1 : Int32) (p2 : Int32) {o : Int32} (hf : m_isIn_B14 = some o) {H : Heap} {locs : List Loc} (hM : hW D vwCl ad (Sum.elim so (mSH C)) st lt H) (hS : va_S (hA s0) s.heap H locs) {ls : Array Slot} (hl : lv_has ls 3 []) : W p l e rm_m_isIn s m args below meth c H locs 0 0 (MQ below (va_Qi (fun (r : Int32) (_ : Unit) => r = o) (fun (_ : Unit) (U : State) => hW D vwCl ad (Sum.elim so (mSH C)) st lt U.heap) (hA s0)) args s 0 0 (hA s0)) (F0 m 14 ls []) := by
  obtain ⟨hx, hb, hr, hml, hown, hts, hlocks, hK, hZ0, hA0⟩ := CX
  unfold m_isIn_B14 at hf
  refine lv_iconst (v := 0) hx hb dX5_isIn_14 (by decide) ?_
  have eo := Option.some.inj hf
  subst eo
  exact W.zret (v := (0 : Int32)) hx hb hr rfl (fun T ht hW => ⟨⟨(0 : Int32), (), rfl, rfl, by dsimp only; rw [ht]; exact hM⟩, hS.F ht⟩) hS.2.2 dX5_isIn_15
set_option maxHeartbeats 4000000 in
set_option maxRecDepth 100000 in
theorem w_m_isIn {p : Program} {l : Launch} {e : Env} {s : State} {m : MethodId} {args : Array Value} {below : List Frame} {meth : Method} {c : Code} {D : va_G} {C : Nat → Nat} {a0 : Array Value} {s0 : State} {ad : Rl → Nat} {so : Nat → Option hS} {st : Rl → Nat → Int32} {lt : Rl → Nat → Int64} (CX : hCx D C a0 s0 p s m args meth c cX5_isIn 3 RX5 (some .boolean)) (hIx : hI (hA s0) ad (Sum.elim so (mSH C))) (p0 : Int32) (p1 : Int32) (p2 : Int32) {o : Int32} (hf : m_isIn p0 p1 p2 = some o) {H : Heap} {locs : List Loc} (hM : hW D vwCl ad (Sum.elim so (mSH C)) st lt H) (hS : va_S (hA s0) s.heap H locs) {ls : Array Slot} (hl : lv_has ls 3 [(0, .int p0), (1, .int p1), (2, .int p2)]) : W p l e rm_m_isIn s m args below meth c H locs 0 0 (MQ below (va_Qi (fun (r : Int32) (_ : Unit) => r = o) (fun (_ : Unit) (U : State) => hW D vwCl ad (Sum.elim so (mSH C)) st lt U.heap) (hA s0)) args s 0 0 (hA s0)) (F0 m 0 ls []) := by
  obtain ⟨hx, hb, hr, hml, hown, hts, hlocks, hK, hZ0, hA0⟩ := CX
  unfold m_isIn at hf
  refine lv_iload_n hx hb dX5_isIn_0 rfl (lv_at hl 0 rfl) ?_
  refine lv_iload_n hx hb dX5_isIn_1 rfl (lv_at hl 1 rfl) ?_
  refine hb_icmp_lt (tgt := 14) hx hb dX5_isIn_2 (by decide) hf (fun hf => ?_) (fun hf => ?_)
  · exact w_m_isIn_B14 ⟨hx, hb, hr, hml, hown, hts, hlocks, hK, hZ0, hA0⟩ hIx p0 p1 p2 hf hM hS (lv_sub hl [] rfl)
  · refine lv_iload_n hx hb dX5_isIn_5 rfl (lv_at hl 0 rfl) ?_
    refine lv_iload_n hx hb dX5_isIn_6 rfl (lv_at hl 2 rfl) ?_
    refine hb_icmp_gt (tgt := 14) hx hb dX5_isIn_7 (by decide) hf (fun hf => ?_) (fun hf => ?_)
    · exact w_m_isIn_B14 ⟨hx, hb, hr, hml, hown, hts, hlocks, hK, hZ0, hA0⟩ hIx p0 p1 p2 hf hM hS (lv_sub hl [] rfl)
    · refine lv_iconst (v := 1) hx hb dX5_isIn_10 (by decide) ?_
      refine lv_goto (tgt := 15) hx hb dX5_isIn_11 (by decide) ?_
      have eo := Option.some.inj hf
      subst eo
      exact W.zret (v := (1 : Int32)) hx hb hr rfl (fun T ht hW => ⟨⟨(1 : Int32), (), rfl, rfl, by dsimp only; rw [ht]; exact hM⟩, hS.F ht⟩) hS.2.2 dX5_isIn_15
set_option maxHeartbeats 4000000 in
set_option maxRecDepth 100000 in
theorem met_m_isIn (l : Launch) (D : va_G) (C : Nat → Nat) (a0 : Array Value) (s0 : State) (ad : Rl → Nat) (so : Nat → Option hS) (st : Rl → Nat → Int32) (lt : Rl → Nat → Int64) (p0 : Int32) (p1 : Int32) (p2 : Int32) {o : Int32} (hf : m_isIn p0 p1 p2 = some o) : Met l yX5_isIn (ws_ yX5_isIn cX5_isIn 3 (some .boolean)) rm_m_isIn (va_Pc [.int p0, .int p1, .int p2] (hB D vwCl (hT C) (hA s0) (hZ a0 s0) ad (Sum.elim so (mSH C)) st lt)) (va_Qi (fun (r : Int32) (_ : Unit) => r = o) (fun (_ : Unit) (U : State) => hW D vwCl ad (Sum.elim so (mSH C)) st lt U.heap) (hA s0)) 0 0 (hA s0) := by
  refine Met.ofW (cc := cX5_isIn) (maxL := 3) (ret := (some .boolean)) (by decide) rfl ?_
  intro p e s m args below meth c s₁ B hml hv
  obtain ⟨rfl, hM, hIx, hK, hZ0, hA0⟩ := hv
  have hl := lv_entry ([.int p0, .int p1, .int p2]) (n := 3) (Nat.le_of_ble_eq_true rfl)
  rw [lg_entry_eq]
  generalize (lg_sl ([.int p0, .int p1, .int p2]) ++ List.replicate (3 - (lg_sl ([.int p0, .int p1, .int p2])).length) Slot.unset).toArray = ls at hl ⊢
  have hl : lv_has ls 3 [(0, .int p0), (1, .int p1), (2, .int p2)] := hl
  exact w_m_isIn ⟨B.exec, B.bytes, B.returns, hml, findClass_of_methodNamed B.named, fun w h => atoms_spec (ws := ws_ yX5_isIn cX5_isIn 3 (some .boolean)) B.pre w (List.mem_cons_of_mem _ h), B.notSynchronized, hK, hZ0, hA0⟩ hIx p0 p1 p2 hf hM va_S.rf hl

def rm_m_count : Room := { frames := 3, cells := 0, slots := 0, locals := 39 }
set_option maxHeartbeats 4000000 in
set_option maxRecDepth 100000 in
theorem w_m_count {p : Program} {l : Launch} {e : Env} {s : State} {m : MethodId} {args : Array Value} {below : List Frame} {meth : Method} {c : Code} {D : va_G} {C : Nat → Nat} {a0 : Array Value} {s0 : State} {ad : Rl → Nat} {so : Nat → Option hS} {t : hSt} {lt : Rl → Nat → Int64} (CX : hCx D C a0 s0 p s m args meth c cX5_count 2 RX5 (some .int)) (hIx : hI (hA s0) ad (Sum.elim so (mSH C))) (g : hSt) (p0 : Int32) {o : Int32 × hSt} (hf : m_count g p0 = some o) {H : Heap} {locs : List Loc} (hM : hW D vwCl ad (Sum.elim so (mSH C)) (Sum.elim t g) lt H) (hS : va_S (hA s0) s.heap H locs) {ls : Array Slot} (hl : lv_has ls 2 [(0, .ref (ad (.inr 0))), (1, .int p0)]) : W p l e rm_m_count s m args below meth c H locs 0 0 (MQ below (va_Qi (fun (r : Int32) (_ : Unit) => r = o.1) (fun (_ : Unit) (U : State) => hW D vwCl ad (Sum.elim so (mSH C)) (Sum.elim t o.2) lt U.heap) (hA s0)) args s 0 0 (hA s0)) (F0 m 0 ls []) := by
  obtain ⟨hx, hb, hr, hml, hown, hts, hlocks, hK, hZ0, hA0⟩ := CX
  unfold m_count at hf
  refine lv_aload_n hx hb dX5_count_0 rfl (lv_at hl 0 rfl) ?_
  refine lv_iconst (v := 0) hx hb dX5_count_1 (by decide) ?_
  refine hm_put (r := 0) (ci := 5) (C := RX5) (T := TX5) (N := 55) hx hb hts in_X5 tyX5 tyX5_ok nmX5 hown hK hM hIx hS mS_0 rfl 1 (by decide) (hts _ q1369) rfl rfl rfl hf dX5_count_2 (fun g1 H locs hf hM hS => ?_)
  refine lv_iload_n hx hb dX5_count_5 rfl (lv_at hl 1 rfl) ?_
  refine lv_iconst (v := 0) hx hb dX5_count_6 (by decide) ?_
  refine lv_iconst (v := 3) hx hb dX5_count_7 (by decide) ?_
  obtain ⟨y2, hq, hf⟩ := hbind hf
  refine hr_calli0 (va_runS (As := [.int p0, .int (0 : Int32), .int (3 : Int32)]) (rest := []) ⟨hx, hb, hml, hown, hts⟩ (met_m_isIn l D C a0 s0 ad so (Sum.elim t g1) lt p0 (0 : Int32) (3 : Int32) hq) (va_cwS 3 hts (lw_S q1648 q1649 q99 q1650) rfl rfl rfl (by decide +kernel) ⟨Nat.le_of_ble_eq_true rfl, Nat.le_of_ble_eq_true rfl⟩) (hr_preS hZ_c hM hIx hK hZ0 hA0 hS) rfl rfl hl.1 rfl (lv_room (Nat.le_of_ble_eq_true rfl)) dX5_count_8 ⟨Nat.le_of_ble_eq_true rfl, Nat.le_of_ble_eq_true rfl⟩) hS (fun H locs hM hS => ?_)
  refine hb_if_eq (tgt := 21) hx hb dX5_count_11 (by decide) hf (fun hf => ?_) (fun hf => ?_)
  · refine lv_iload_n hx hb dX5_count_21 rfl (lv_at hl 1 rfl) ?_
    by_cases hc4 : p0 = 4
    · replace hf := hif_t hf hc4
      refine lv_tableIn (x := p0) (tgt := 56) hx hb dX5_count_22 (by rw [hc4]; decide) (by rw [hc4]; decide) (by rw [hc4]; rfl) (by decide) ?_
      refine lv_aload_n hx hb dX5_count_56 rfl (lv_at hl 0 rfl) ?_
      refine hr_get (ci := 5) (C := RX5) (T := TX5) (N := 55) (r := .inr 0) hx hb hts in_X5 hown hK hM mS_0 rfl 12 (by decide) (hts _ q1380) rfl (v := .int (g1 0 12)) rfl dX5_count_57 ?_
      have eo := Option.some.inj hf
      subst eo
      exact W.iret (v := (g1 0 12)) hx hb hr (fun T ht hW => ⟨⟨(g1 0 12), (), rfl, rfl, by dsimp only; rw [ht]; exact hM⟩, hS.F ht⟩) hS.2.2 dX5_count_60
    replace hf := hif_f hf hc4
    by_cases hc5 : p0 = 5
    · replace hf := hif_t hf hc5
      refine lv_tableIn (x := p0) (tgt := 61) hx hb dX5_count_22 (by rw [hc5]; decide) (by rw [hc5]; decide) (by rw [hc5]; rfl) (by decide) ?_
      refine lv_aload_n hx hb dX5_count_61 rfl (lv_at hl 0 rfl) ?_
      refine hr_get (ci := 5) (C := RX5) (T := TX5) (N := 55) (r := .inr 0) hx hb hts in_X5 hown hK hM mS_0 rfl 24 (by decide) (hts _ q1392) rfl (v := .int (g1 0 24)) rfl dX5_count_62 ?_
      have eo := Option.some.inj hf
      subst eo
      exact W.iret (v := (g1 0 24)) hx hb hr (fun T ht hW => ⟨⟨(g1 0 24), (), rfl, rfl, by dsimp only; rw [ht]; exact hM⟩, hS.F ht⟩) hS.2.2 dX5_count_65
    replace hf := hif_f hf hc5
    by_cases hc6 : p0 = 6
    · replace hf := hif_t hf hc6
      refine lv_tableIn (x := p0) (tgt := 66) hx hb dX5_count_22 (by rw [hc6]; decide) (by rw [hc6]; decide) (by rw [hc6]; rfl) (by decide) ?_
      refine lv_aload_n hx hb dX5_count_66 rfl (lv_at hl 0 rfl) ?_
      refine hr_get (ci := 5) (C := RX5) (T := TX5) (N := 55) (r := .inr 0) hx hb hts in_X5 hown hK hM mS_0 rfl 14 (by decide) (hts _ q1382) rfl (v := .int (g1 0 14)) rfl dX5_count_67 ?_
      have eo := Option.some.inj hf
      subst eo
      exact W.iret (v := (g1 0 14)) hx hb hr (fun T ht hW => ⟨⟨(g1 0 14), (), rfl, rfl, by dsimp only; rw [ht]; exact hM⟩, hS.F ht⟩) hS.2.2 dX5_count_70
    replace hf := hif_f hf hc6
    by_cases hc7 : p0 = 7
    · replace hf := hif_t hf hc7
      refine lv_tableIn (x := p0) (tgt := 71) hx hb dX5_count_22 (by rw [hc7]; decide) (by rw [hc7]; decide) (by rw [hc7]; rfl) (by decide) ?_
      refine lv_aload_n hx hb dX5_count_71 rfl (lv_at hl 0 rfl) ?_
      refine hr_get (ci := 5) (C := RX5) (T := TX5) (N := 55) (r := .inr 0) hx hb hts in_X5 hown hK hM mS_0 rfl 6 (by decide) (hts _ q1374) rfl (v := .ref (ad (.inr 7))) rfl dX5_count_72 ?_
      refine lv_iload_n hx hb dX5_count_75 rfl (lv_at hl 1 rfl) ?_
      refine lv_bipush (v := 7) hx hb dX5_count_76 (by decide) ?_
      refine lv_isub hx hb dX5_count_78 ?_
      refine hm_iald (r := 7) hx hb hK hM 0 mS_7 rfl hf dX5_count_79 (fun x4 hf => ?_)
      have eo := Option.some.inj hf
      subst eo
      exact W.iret (v := x4) hx hb hr (fun T ht hW => ⟨⟨x4, (), rfl, rfl, by dsimp only; rw [ht]; exact hM⟩, hS.F ht⟩) hS.2.2 dX5_count_80
    replace hf := hif_f hf hc7
    by_cases hc8 : p0 = 8
    · replace hf := hif_t hf hc8
      refine lv_tableIn (x := p0) (tgt := 71) hx hb dX5_count_22 (by rw [hc8]; decide) (by rw [hc8]; decide) (by rw [hc8]; rfl) (by decide) ?_
      refine lv_aload_n hx hb dX5_count_71 rfl (lv_at hl 0 rfl) ?_
      refine hr_get (ci := 5) (C := RX5) (T := TX5) (N := 55) (r := .inr 0) hx hb hts in_X5 hown hK hM mS_0 rfl 6 (by decide) (hts _ q1374) rfl (v := .ref (ad (.inr 7))) rfl dX5_count_72 ?_
      refine lv_iload_n hx hb dX5_count_75 rfl (lv_at hl 1 rfl) ?_
      refine lv_bipush (v := 7) hx hb dX5_count_76 (by decide) ?_
      refine lv_isub hx hb dX5_count_78 ?_
      refine hm_iald (r := 7) hx hb hK hM 0 mS_7 rfl hf dX5_count_79 (fun x5 hf => ?_)
      have eo := Option.some.inj hf
      subst eo
      exact W.iret (v := x5) hx hb hr (fun T ht hW => ⟨⟨x5, (), rfl, rfl, by dsimp only; rw [ht]; exact hM⟩, hS.F ht⟩) hS.2.2 dX5_count_80
    replace hf := hif_f hf hc8
    refine lv_tableOut (x := p0) (tgt := 81) hx hb dX5_count_22 (h_sw4_8 hc4 hc5 hc6 hc7 hc8) (by decide) ?_
    refine lv_aload_n hx hb dX5_count_81 rfl (lv_at hl 0 rfl) ?_
    refine lv_iconst (v := 1) hx hb dX5_count_82 (by decide) ?_
    obtain ⟨y3, hq, hf⟩ := hbind hf
    refine hr_calli0 (va_runV (As := [.int (1 : Int32)]) (rest := []) ⟨hx, hb, hml, hown, hts⟩ (met_m_fail l D C a0 s0 ad so t lt g1 (1 : Int32) hq) (cwV 1 hts (lw_V q1547 q1549 qs33 q99 q1550) rfl rfl rfl (by decide +kernel) ⟨Nat.le_of_ble_eq_true rfl, Nat.le_of_ble_eq_true rfl⟩) (hr_preV hZ_c hM hIx hK hZ0 hA0 hS (r := .inr 0) mS_0 (q := (RX5, TX5, 55)) rfl) rfl rfl hl.1 rfl (lv_room (Nat.le_of_ble_eq_true rfl)) dX5_count_83 ⟨Nat.le_of_ble_eq_true rfl, Nat.le_of_ble_eq_true rfl⟩) hS (fun H locs hM hS => ?_)
    have eo := Option.some.inj hf
    subst eo
    exact W.iret (v := y3.1) hx hb hr (fun T ht hW => ⟨⟨y3.1, (), rfl, rfl, by dsimp only; rw [ht]; exact hM⟩, hS.F ht⟩) hS.2.2 dX5_count_86
  · refine lv_aload_n hx hb dX5_count_14 rfl (lv_at hl 0 rfl) ?_
    refine hr_get (ci := 5) (C := RX5) (T := TX5) (N := 55) (r := .inr 0) hx hb hts in_X5 hown hK hM mS_0 rfl 2 (by decide) (hts _ q1370) rfl (v := .ref (ad (.inr 3))) rfl dX5_count_15 ?_
    refine lv_iload_n hx hb dX5_count_18 rfl (lv_at hl 1 rfl) ?_
    refine hm_iald (r := 3) hx hb hK hM 0 mS_3 rfl hf dX5_count_19 (fun x6 hf => ?_)
    have eo := Option.some.inj hf
    subst eo
    exact W.iret (v := x6) hx hb hr (fun T ht hW => ⟨⟨x6, (), rfl, rfl, by dsimp only; rw [ht]; exact hM⟩, hS.F ht⟩) hS.2.2 dX5_count_20
set_option maxHeartbeats 4000000 in
set_option maxRecDepth 100000 in
theorem met_m_count (l : Launch) (D : va_G) (C : Nat → Nat) (a0 : Array Value) (s0 : State) (ad : Rl → Nat) (so : Nat → Option hS) (t : hSt) (lt : Rl → Nat → Int64) (g : hSt) (p0 : Int32) {o : Int32 × hSt} (hf : m_count g p0 = some o) : Met l yX5_count (ws_ yX5_count cX5_count 2 (some .int)) rm_m_count (va_Pc [.ref (ad (.inr 0)), .int p0] (hB D vwCl (hT C) (hA s0) (hZ a0 s0) ad (Sum.elim so (mSH C)) (Sum.elim t g) lt)) (va_Qi (fun (r : Int32) (_ : Unit) => r = o.1) (fun (_ : Unit) (U : State) => hW D vwCl ad (Sum.elim so (mSH C)) (Sum.elim t o.2) lt U.heap) (hA s0)) 0 0 (hA s0) := by
  refine Met.ofW (cc := cX5_count) (maxL := 2) (ret := (some .int)) (by decide) rfl ?_
  intro p e s m args below meth c s₁ B hml hv
  obtain ⟨rfl, hM, hIx, hK, hZ0, hA0⟩ := hv
  have hl := lv_entry ([.ref (ad (.inr 0)), .int p0]) (n := 2) (Nat.le_of_ble_eq_true rfl)
  rw [lg_entry_eq]
  generalize (lg_sl ([.ref (ad (.inr 0)), .int p0]) ++ List.replicate (2 - (lg_sl ([.ref (ad (.inr 0)), .int p0])).length) Slot.unset).toArray = ls at hl ⊢
  have hl : lv_has ls 2 [(0, .ref (ad (.inr 0))), (1, .int p0)] := hl
  exact w_m_count ⟨B.exec, B.bytes, B.returns, hml, findClass_of_methodNamed B.named, fun w h => atoms_spec (ws := ws_ yX5_count cX5_count 2 (some .int)) B.pre w (List.mem_cons_of_mem _ h), B.notSynchronized, hK, hZ0, hA0⟩ hIx g p0 hf hM va_S.rf hl

