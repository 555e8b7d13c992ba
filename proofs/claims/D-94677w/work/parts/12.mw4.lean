/-! WALKS (printed by tools/gen.py): 12.mw 4 -/
set_option maxRecDepth 100000
def rm_m_anyFits : Room := { frames := 9, cells := 0, slots := 0, locals := 105 }
set_option maxHeartbeats 4000000 in
set_option maxRecDepth 100000 in
theorem w_m_anyFits_L2 {p : Program} {l : Launch} {e : Env} {s : State} {m : MethodId} {args : Array Value} {below : List Frame} {meth : Method} {c : Code} {D : va_G} {C : Nat → Nat} {a0 : Array Value} {s0 : State} {ad : Rl → Nat} {so : Nat → Option hS} {t : hSt} {lt : Rl → Nat → Int64} (CX : hCx D C a0 s0 p s m args meth c cX5_anyFits 3 RX5 (some .boolean)) (hIx : hI (hA s0) ad (Sum.elim so (mSH C))) (g : hSt) (p0 : Int32) {oM : Int32} (x : (Unit) ⊕ (Int32)) (n : Nat) (q0 : Int32) (h0 : hiter (fun q : Int32 => m_anyFits_L2 g p0 q) n q0 = some x) (kx0 : ∀ x' : Unit, x = .inl x' → ∀ (H : Heap) (locs : List Loc) (ls : Array Slot), hW D vwCl ad (Sum.elim so (mSH C)) (Sum.elim t g) lt H → va_S (hA s0) s.heap H locs → lv_has ls 3 [] → W p l e rm_m_anyFits s m args below meth c H locs 0 0 (MQ below (va_Qi (fun (r : Int32) (_ : Unit) => r = oM) (fun (_ : Unit) (U : State) => hW D vwCl ad (Sum.elim so (mSH C)) (Sum.elim t g) lt U.heap) (hA s0)) args s 0 0 (hA s0)) (F0 m 35 ls [])) (kr0 : ∀ r : Int32, x = .inr r → r = oM) : ∀ (H : Heap) (locs : List Loc) (ls : Array Slot), hW D vwCl ad (Sum.elim so (mSH C)) (Sum.elim t g) lt H → va_S (hA s0) s.heap H locs → lv_has ls 3 [(0, .ref (ad (.inr 0))), (1, .int p0), (2, .int q0)] → W p l e rm_m_anyFits s m args below meth c H locs 0 0 (MQ below (va_Qi (fun (r : Int32) (_ : Unit) => r = oM) (fun (_ : Unit) (U : State) => hW D vwCl ad (Sum.elim so (mSH C)) (Sum.elim t g) lt U.heap) (hA s0)) args s 0 0 (hA s0)) (F0 m 2 ls []) := by
  obtain ⟨hx, hb, hr, hml, hown, hts, hlocks, hK, hZ0, hA0⟩ := CX
  refine hiter_W (Wh := fun q => ∀ (H : Heap) (locs : List Loc) (ls : Array Slot), hW D vwCl ad (Sum.elim so (mSH C)) (Sum.elim t g) lt H → va_S (hA s0) s.heap H locs → lv_has ls 3 [(0, .ref (ad (.inr 0))), (1, .int p0), (2, .int q)] → W p l e rm_m_anyFits s m args below meth c H locs 0 0 (MQ below (va_Qi (fun (r : Int32) (_ : Unit) => r = oM) (fun (_ : Unit) (U : State) => hW D vwCl ad (Sum.elim so (mSH C)) (Sum.elim t g) lt U.heap) (hA s0)) args s 0 0 (hA s0)) (F0 m 2 ls [])) ?_ n q0 h0
  intro q o hf kc kx1 H locs ls hM hS hl
  obtain ⟨v2_2, rfl⟩ : ∃ z, z = q := ⟨_, rfl⟩
  replace hf : m_anyFits_L2 g p0 v2_2 = some o := hf
  have kx : ∀ x' : Unit, o = .inr (.inl x') → ∀ (H : Heap) (locs : List Loc) (ls : Array Slot), hW D vwCl ad (Sum.elim so (mSH C)) (Sum.elim t g) lt H → va_S (hA s0) s.heap H locs → lv_has ls 3 [] → W p l e rm_m_anyFits s m args below meth c H locs 0 0 (MQ below (va_Qi (fun (r : Int32) (_ : Unit) => r = oM) (fun (_ : Unit) (U : State) => hW D vwCl ad (Sum.elim so (mSH C)) (Sum.elim t g) lt U.heap) (hA s0)) args s 0 0 (hA s0)) (F0 m 35 ls []) := fun x' ex => kx0 x' (kx1 _ ex).symm
  have kr : ∀ r : Int32, o = .inr (.inr r) → r = oM := fun r ex => kr0 r (kx1 _ ex).symm
  unfold m_anyFits_L2 at hf
  refine lv_iload_n hx hb dX5_anyFits_2 rfl (lv_at hl 2 rfl) ?_
  refine lv_iconst (v := 1) hx hb dX5_anyFits_3 (by decide) ?_
  refine lv_aload_n hx hb dX5_anyFits_4 rfl (lv_at hl 0 rfl) ?_
  refine hr_get (ci := 5) (C := RX5) (T := TX5) (N := 55) (r := .inr 0) hx hb hts in_X5 hown hK hM mS_0 rfl 2 (by decide) (hts _ q1370) rfl (v := .ref (ad (.inr 3))) rfl dX5_anyFits_5 ?_
  refine lv_iconst (v := 1) hx hb dX5_anyFits_8 (by decide) ?_
  refine hm_iald (r := 3) hx hb hK hM 0 mS_3 rfl hf dX5_anyFits_9 (fun x1 hf => ?_)
  refine lv_ishl hx hb dX5_anyFits_10 ?_
  refine hb_icmp_ge (tgt := 35) hx hb dX5_anyFits_11 (by decide) hf (fun hf => ?_) (fun hf => ?_)
  · exact kx () (Option.some.inj hf).symm H locs ls hM hS (lv_sub hl [] rfl)
  · refine lv_aload_n hx hb dX5_anyFits_14 rfl (lv_at hl 0 rfl) ?_
    refine lv_aload_n hx hb dX5_anyFits_15 rfl (lv_at hl 0 rfl) ?_
    refine hr_get (ci := 5) (C := RX5) (T := TX5) (N := 55) (r := .inr 0) hx hb hts in_X5 hown hK hM mS_0 rfl 7 (by decide) (hts _ q1375) rfl (v := .ref (ad (.inr 8))) rfl dX5_anyFits_16 ?_
    refine lv_iload_n hx hb dX5_anyFits_19 rfl (lv_at hl 1 rfl) ?_
    refine lv_iload_n hx hb dX5_anyFits_20 rfl (lv_at hl 2 rfl) ?_
    obtain ⟨y2, hq, hf⟩ := hbind hf
    refine hr_calli0 (va_runV (As := [.ref (ad (.inr 8)), .int p0, .int v2_2]) (rest := []) ⟨hx, hb, hml, hown, hts⟩ (met_m_fits l D C a0 s0 ad so t lt g 8 p0 v2_2 ms_8 hq) (cwV 3 hts (lw_V q1716 q1718 qs56 q99 q1719) rfl rfl rfl (by decide +kernel) ⟨Nat.le_of_ble_eq_true rfl, Nat.le_of_ble_eq_true rfl⟩) (hr_preV hZ_c hM hIx hK hZ0 hA0 hS (r := .inr 0) mS_0 (q := (RX5, TX5, 55)) rfl) rfl rfl hl.1 rfl (lv_room (Nat.le_of_ble_eq_true rfl)) dX5_anyFits_21 ⟨Nat.le_of_ble_eq_true rfl, Nat.le_of_ble_eq_true rfl⟩) hS (fun H locs hM hS => ?_)
    refine hb_if_eq (tgt := 29) hx hb dX5_anyFits_24 (by decide) hf (fun hf => ?_) (fun hf => ?_)
    · obtain ⟨y2_3, ey, hf⟩ := hlet_ex hf
      refine lv_iinc (v := y2_3) (lv' := [(2, .int y2_3), (0, .ref (ad (.inr 0))), (1, .int p0)]) hx hb dX5_anyFits_29 hl (k := 2) rfl (by rw [ey]; rfl) (by decide) rfl (fun ls hl => ?_)
      refine lv_goto (tgt := 2) hx hb dX5_anyFits_32 (by decide) ?_
      exact kc y2_3 (Option.some.inj hf).symm H locs ls hM hS (lv_sub hl [1, 2, 0] rfl)
    · refine lv_iconst (v := 1) hx hb dX5_anyFits_27 (by decide) ?_
      have eo := kr (1 : Int32) (Option.some.inj hf).symm
      subst eo
      exact W.zret (v := (1 : Int32)) hx hb hr rfl (fun T ht hW => ⟨⟨(1 : Int32), (), rfl, rfl, by dsimp only; rw [ht]; exact hM⟩, hS.F ht⟩) hS.2.2 dX5_anyFits_28
set_option maxHeartbeats 4000000 in
set_option maxRecDepth 100000 in
theorem w_m_anyFits {p : Program} {l : Launch} {e : Env} {s : State} {m : MethodId} {args : Array Value} {below : List Frame} {meth : Method} {c : Code} {D : va_G} {C : Nat → Nat} {a0 : Array Value} {s0 : State} {ad : Rl → Nat} {so : Nat → Option hS} {t : hSt} {lt : Rl → Nat → Int64} (CX : hCx D C a0 s0 p s m args meth c cX5_anyFits 3 RX5 (some .boolean)) (hIx : hI (hA s0) ad (Sum.elim so (mSH C))) (g : hSt) (p0 : Int32) {o : Int32} (hf : m_anyFits g p0 = some o) {H : Heap} {locs : List Loc} (hM : hW D vwCl ad (Sum.elim so (mSH C)) (Sum.elim t g) lt H) (hS : va_S (hA s0) s.heap H locs) {ls : Array Slot} (hl : lv_has ls 3 [(0, .ref (ad (.inr 0))), (1, .int p0)]) : W p l e rm_m_anyFits s m args below meth c H locs 0 0 (MQ below (va_Qi (fun (r : Int32) (_ : Unit) => r = o) (fun (_ : Unit) (U : State) => hW D vwCl ad (Sum.elim so (mSH C)) (Sum.elim t g) lt U.heap) (hA s0)) args s 0 0 (hA s0)) (F0 m 0 ls []) := by
  obtain ⟨hx, hb, hr, hml, hown, hts, hlocks, hK, hZ0, hA0⟩ := CX
  unfold m_anyFits at hf
  refine lv_iconst (v := 0) hx hb dX5_anyFits_0 (by decide) ?_
  refine lv_istore_n (lv' := [(2, .int (0 : Int32)), (0, .ref (ad (.inr 0))), (1, .int p0)]) hx hb dX5_anyFits_1 rfl hl (by decide) rfl (fun ls hl => ?_)
  obtain ⟨x4, hq, hf⟩ := hbind hf
  refine w_m_anyFits_L2 ⟨hx, hb, hr, hml, hown, hts, hlocks, hK, hZ0, hA0⟩ hIx g p0 x4 hFU (0 : Int32) hq (fun e5 ex1 H locs ls hM hS hl => ?_) (fun r er => ?_) H locs ls hM hS (lv_sub hl [1, 2, 0] rfl)
  · subst ex1
    replace hf := hcase_l hf
    refine lv_iconst (v := 0) hx hb dX5_anyFits_35 (by decide) ?_
    have eo := Option.some.inj hf
    subst eo
    exact W.zret (v := (0 : Int32)) hx hb hr rfl (fun T ht hW => ⟨⟨(0 : Int32), (), rfl, rfl, by dsimp only; rw [ht]; exact hM⟩, hS.F ht⟩) hS.2.2 dX5_anyFits_36
  · subst er
    first | exact Option.some.inj (hcase_r hf) | exact Option.some.inj hf
set_option maxHeartbeats 4000000 in
set_option maxRecDepth 100000 in
theorem met_m_anyFits (l : Launch) (D : va_G) (C : Nat → Nat) (a0 : Array Value) (s0 : State) (ad : Rl → Nat) (so : Nat → Option hS) (t : hSt) (lt : Rl → Nat → Int64) (g : hSt) (p0 : Int32) {o : Int32} (hf : m_anyFits g p0 = some o) : Met l yX5_anyFits (ws_ yX5_anyFits cX5_anyFits 3 (some .boolean)) rm_m_anyFits (va_Pc [.ref (ad (.inr 0)), .int p0] (hB D vwCl (hT C) (hA s0) (hZ a0 s0) ad (Sum.elim so (mSH C)) (Sum.elim t g) lt)) (va_Qi (fun (r : Int32) (_ : Unit) => r = o) (fun (_ : Unit) (U : State) => hW D vwCl ad (Sum.elim so (mSH C)) (Sum.elim t g) lt U.heap) (hA s0)) 0 0 (hA s0) := by
  refine Met.ofW (cc := cX5_anyFits) (maxL := 3) (ret := (some .boolean)) (by decide) rfl ?_
  intro p e s m args below meth c s₁ B hml hv
  obtain ⟨rfl, hM, hIx, hK, hZ0, hA0⟩ := hv
  have hl := lv_entry ([.ref (ad (.inr 0)), .int p0]) (n := 3) (Nat.le_of_ble_eq_true rfl)
  rw [lg_entry_eq]
  generalize (lg_sl ([.ref (ad (.inr 0)), .int p0]) ++ List.replicate (3 - (lg_sl ([.ref (ad (.inr 0)), .int p0])).length) Slot.unset).toArray = ls at hl ⊢
  have hl : lv_has ls 3 [(0, .ref (ad (.inr 0))), (1, .int p0)] := hl
  exact w_m_anyFits ⟨B.exec, B.bytes, B.returns, hml, findClass_of_methodNamed B.named, fun w h => atoms_spec (ws := ws_ yX5_anyFits cX5_anyFits 3 (some .boolean)) B.pre w (List.mem_cons_of_mem _ h), B.notSynchronized, hK, hZ0, hA0⟩ hIx g p0 hf hM va_S.rf hl

def rm_m_fitsWith : Room := { frames := 11, cells := 0, slots := 0, locals := 128 }
set_option maxHeartbeats 4000000 in
set_option maxRecDepth 100000 in
theorem w_m_fitsWith {p : Program} {l : Launch} {e : Env} {s : State} {m : MethodId} {args : Array Value} {below : List Frame} {meth : Method} {c : Code} {D : va_G} {C : Nat → Nat} {a0 : Array Value} {s0 : State} {ad : Rl → Nat} {so : Nat → Option hS} {t : hSt} {lt : Rl → Nat → Int64} (CX : hCx D C a0 s0 p s m args meth c cX5_fitsWith 6 RX5 (some .boolean)) (hIx : hI (hA s0) ad (Sum.elim so (mSH C))) (g : hSt) (p0 : Int32) (p1 : Int32) (p2 : Int32) {o : Int32 × hSt} (hf : m_fitsWith g p0 p1 p2 = some o) {H : Heap} {locs : List Loc} (hM : hW D vwCl ad (Sum.elim so (mSH C)) (Sum.elim t g) lt H) (hS : va_S (hA s0) s.heap H locs) {ls : Array Slot} (hl : lv_has ls 6 [(0, .ref (ad (.inr 0))), (1, .int p0), (2, .int p1), (3, .int p2)]) : W p l e rm_m_fitsWith s m args below meth c H locs 0 0 (MQ below (va_Qi (fun (r : Int32) (_ : Unit) => r = o.1) (fun (_ : Unit) (U : State) => hW D vwCl ad (Sum.elim so (mSH C)) (Sum.elim t o.2) lt U.heap) (hA s0)) args s 0 0 (hA s0)) (F0 m 0 ls []) := by
  obtain ⟨hx, hb, hr, hml, hown, hts, hlocks, hK, hZ0, hA0⟩ := CX
  unfold m_fitsWith at hf
  refine lv_aload_n hx hb dX5_fitsWith_0 rfl (lv_at hl 0 rfl) ?_
  refine hr_get (ci := 5) (C := RX5) (T := TX5) (N := 55) (r := .inr 0) hx hb hts in_X5 hown hK hM mS_0 rfl 9 (by decide) (hts _ q1377) rfl (v := .ref (ad (.inr 10))) rfl dX5_fitsWith_1 ?_
  refine lv_iload_n hx hb dX5_fitsWith_4 rfl (lv_at hl 2 rfl) ?_
  refine hm_iald (r := 10) hx hb hK hM 0 mS_10 rfl hf dX5_fitsWith_5 (fun x1 hf => ?_)
  refine lv_istore (lv' := [(4, .int x1), (0, .ref (ad (.inr 0))), (1, .int p0), (2, .int p1), (3, .int p2)]) hx hb dX5_fitsWith_6 hl (by decide) rfl (fun ls hl => ?_)
  refine lv_aload_n hx hb dX5_fitsWith_8 rfl (lv_at hl 1 rfl) ?_
  refine hr_get (ci := 5) (C := RX5) (T := TX5) (N := 55) (r := .inr 0) hx hb hts in_X5 hown hK hM mS_0 rfl 9 (by decide) (hts _ q1377) rfl (v := .ref (ad (.inr 10))) rfl dX5_fitsWith_9 ?_
  refine lv_iload_n hx hb dX5_fitsWith_12 rfl (lv_at hl 3 rfl) ?_
  refine lv_iload_n hx hb dX5_fitsWith_13 rfl (lv_at hl 4 rfl) ?_
  refine hm_iast (r := 10) hx hb hK hM hIx hS 0 mS_10 rfl hf dX5_fitsWith_14 (fun g2 H locs hf hM hS => ?_)
  refine lv_aload_n hx hb dX5_fitsWith_15 rfl (lv_at hl 1 rfl) ?_
  refine lv_iload_n hx hb dX5_fitsWith_16 rfl (lv_at hl 2 rfl) ?_
  obtain ⟨y3, hq, hf⟩ := hbind hf
  refine hr_calli0 (va_runV (As := [.int p0]) (rest := []) ⟨hx, hb, hml, hown, hts⟩ (met_m_anyFits l D C a0 s0 ad so t lt g2 p0 hq) (cwV 1 hts (lw_V q1795 q1797 qs68 q99 q1798) rfl rfl rfl (by decide +kernel) ⟨Nat.le_of_ble_eq_true rfl, Nat.le_of_ble_eq_true rfl⟩) (hr_preV hZ_c hM hIx hK hZ0 hA0 hS (r := .inr 0) mS_0 (q := (RX5, TX5, 55)) rfl) rfl rfl hl.1 rfl (lv_room (Nat.le_of_ble_eq_true rfl)) dX5_fitsWith_17 ⟨Nat.le_of_ble_eq_true rfl, Nat.le_of_ble_eq_true rfl⟩) hS (fun H locs hM hS => ?_)
  refine lv_istore (lv' := [(5, .int y3), (4, .int x1), (0, .ref (ad (.inr 0))), (1, .int p0), (2, .int p1), (3, .int p2)]) hx hb dX5_fitsWith_20 hl (by decide) rfl (fun ls hl => ?_)
  refine lv_aload_n hx hb dX5_fitsWith_22 rfl (lv_at hl 2 rfl) ?_
  refine hr_get (ci := 5) (C := RX5) (T := TX5) (N := 55) (r := .inr 0) hx hb hts in_X5 hown hK hM mS_0 rfl 9 (by decide) (hts _ q1377) rfl (v := .ref (ad (.inr 10))) rfl dX5_fitsWith_23 ?_
  refine lv_iload_n hx hb dX5_fitsWith_26 rfl (lv_at hl 4 rfl) ?_
  refine lv_iload hx hb dX5_fitsWith_27 (lv_at hl 1 rfl) ?_
  refine hm_iast (r := 10) hx hb hK hM hIx hS 0 mS_10 rfl hf dX5_fitsWith_29 (fun g4 H locs hf hM hS => ?_)
  refine lv_iload hx hb dX5_fitsWith_30 (lv_at hl 0 rfl) ?_
  obtain ⟨hbv, hf⟩ := hif_s hf
  have eo := Option.some.inj hf
  subst eo
  exact W.zret (v := y3) hx hb hr (hz_n hbv).1 (fun T ht hW => ⟨⟨y3, (), rfl, rfl, by dsimp only; rw [ht]; exact hM⟩, hS.F ht⟩) hS.2.2 dX5_fitsWith_32
set_option maxHeartbeats 4000000 in
set_option maxRecDepth 100000 in
theorem met_m_fitsWith (l : Launch) (D : va_G) (C : Nat → Nat) (a0 : Array Value) (s0 : State) (ad : Rl → Nat) (so : Nat → Option hS) (t : hSt) (lt : Rl → Nat → Int64) (g : hSt) (p0 : Int32) (p1 : Int32) (p2 : Int32) {o : Int32 × hSt} (hf : m_fitsWith g p0 p1 p2 = some o) : Met l yX5_fitsWith (ws_ yX5_fitsWith cX5_fitsWith 6 (some .boolean)) rm_m_fitsWith (va_Pc [.ref (ad (.inr 0)), .int p0, .int p1, .int p2] (hB D vwCl (hT C) (hA s0) (hZ a0 s0) ad (Sum.elim so (mSH C)) (Sum.elim t g) lt)) (va_Qi (fun (r : Int32) (_ : Unit) => r = o.1) (fun (_ : Unit) (U : State) => hW D vwCl ad (Sum.elim so (mSH C)) (Sum.elim t o.2) lt U.heap) (hA s0)) 0 0 (hA s0) := by
  refine Met.ofW (cc := cX5_fitsWith) (maxL := 6) (ret := (some .boolean)) (by decide) rfl ?_
  intro p e s m args below meth c s₁ B hml hv
  obtain ⟨rfl, hM, hIx, hK, hZ0, hA0⟩ := hv
  have hl := lv_entry ([.ref (ad (.inr 0)), .int p0, .int p1, .int p2]) (n := 6) (Nat.le_of_ble_eq_true rfl)
  rw [lg_entry_eq]
  generalize (lg_sl ([.ref (ad (.inr 0)), .int p0, .int p1, .int p2]) ++ List.replicate (6 - (lg_sl ([.ref (ad (.inr 0)), .int p0, .int p1, .int p2])).length) Slot.unset).toArray = ls at hl ⊢
  have hl : lv_has ls 6 [(0, .ref (ad (.inr 0))), (1, .int p0), (2, .int p1), (3, .int p2)] := hl
  exact w_m_fitsWith ⟨B.exec, B.bytes, B.returns, hml, findClass_of_methodNamed B.named, fun w h => atoms_spec (ws := ws_ yX5_fitsWith cX5_fitsWith 6 (some .boolean)) B.pre w (List.mem_cons_of_mem _ h), B.notSynchronized, hK, hZ0, hA0⟩ hIx g p0 p1 p2 hf hM va_S.rf hl

def rm_m_cut : Room := { frames := 13, cells := 0, slots := 0, locals := 154 }
set_option maxHeartbeats 4000000 in
set_option maxRecDepth 100000 in
theorem w_m_cut_B22 {p : Program} {l : Launch} {e : Env} {s : State} {m : MethodId} {args : Array Value} {below : List Frame} {meth : Method} {c : Code} {D : va_G} {C : Nat → Nat} {a0 : Array Value} {s0 : State} {ad : Rl → Nat} {so : Nat → Option hS} {t : hSt} {lt : Rl → Nat → Int64} (CX : hCx D C a0 s0 p s m args meth c cX5_cut 8 RX5 (some .int)) (hIx : hI (hA s0) ad (Sum.elim so (mSH C))) (g : hSt) (p0 : Int32) (p1 : Int32) (g1 : hSt) (y2 : Int32) {o : Int32 × hSt} (hf : m_cut_B22 g1 = some o) {H : Heap} {locs : List Loc} (hM : hW D vwCl ad (Sum.elim so (mSH C)) (Sum.elim t g1) lt H) (hS : va_S (hA s0) s.heap H locs) {ls : Array Slot} (hl : lv_has ls 8 [(0, .ref (ad (.inr 0)))]) : W p l e rm_m_cut s m args below meth c H locs 0 0 (MQ below (va_Qi (fun (r : Int32) (_ : Unit) => r = o.1) (fun (_ : Unit) (U : State) => hW D vwCl ad (Sum.elim so (mSH C)) (Sum.elim t o.2) lt U.heap) (hA s0)) args s 0 0 (hA s0)) (F0 m 22 ls []) := by
  obtain ⟨hx, hb, hr, hml, hown, hts, hlocks, hK, hZ0, hA0⟩ := CX
  unfold m_cut_B22 at hf
  refine lv_aload_n hx hb dX5_cut_22 rfl (lv_at hl 0 rfl) ?_
  refine lv_iconst (v := 1) hx hb dX5_cut_23 (by decide) ?_
  obtain ⟨y3, hq, hf⟩ := hbind hf
  refine hr_calli0 (va_runV (As := [.int (1 : Int32)]) (rest := []) ⟨hx, hb, hml, hown, hts⟩ (met_m_fail l D C a0 s0 ad so t lt g1 (1 : Int32) hq) (cwV 1 hts (lw_V q1547 q1549 qs33 q99 q1550) rfl rfl rfl (by decide +kernel) ⟨Nat.le_of_ble_eq_true rfl, Nat.le_of_ble_eq_true rfl⟩) (hr_preV hZ_c hM hIx hK hZ0 hA0 hS (r := .inr 0) mS_0 (q := (RX5, TX5, 55)) rfl) rfl rfl hl.1 rfl (lv_room (Nat.le_of_ble_eq_true rfl)) dX5_cut_24 ⟨Nat.le_of_ble_eq_true rfl, Nat.le_of_ble_eq_true rfl⟩) hS (fun H locs hM hS => ?_)
  have eo := Option.some.inj hf
  subst eo
  exact W.iret (v := y3.1) hx hb hr (fun T ht hW => ⟨⟨y3.1, (), rfl, rfl, by dsimp only; rw [ht]; exact hM⟩, hS.F ht⟩) hS.2.2 dX5_cut_27
set_option maxHeartbeats 4000000 in
set_option maxRecDepth 100000 in
theorem w_m_cut_B164 {p : Program} {l : Launch} {e : Env} {s : State} {m : MethodId} {args : Array Value} {below : List Frame} {meth : Method} {c : Code} {D : va_G} {C : Nat → Nat} {a0 : Array Value} {s0 : State} {ad : Rl → Nat} {so : Nat → Option hS} {t : hSt} {lt : Rl → Nat → Int64} (CX : hCx D C a0 s0 p s m args meth c cX5_cut 8 RX5 (some .int)) (hIx : hI (hA s0) ad (Sum.elim so (mSH C))) (g : hSt) (p0 : Int32) (p1 : Int32) (g1 : hSt) (y2 : Int32) (x4 : Int32) (k0_58 : Int32) (v3_63 : Int32) (v4_63 : Int32) (v6_63 : Int32) (g_63 : hSt) (x5 : Int32) (v3_82 : Int32) (v4_82 : Int32) (v7_82 : Int32) (g_82 : hSt) (x6 : Int32) (x7 : Int32) (y8 : Int32 × hSt) (g_142 : hSt) (y3_9 : Int32) (k0_164 : Int32) {oM : Int32 × hSt} {o : (Int32 × Int32 × Int32 × hSt) ⊕ (Int32 × Int32 × hSt)} (hf : m_cut_B164 v7_82 g_142 y3_9 k0_164 = some o) (kc : ∀ s' : Int32 × Int32 × Int32 × hSt, o = .inl s' → ∀ (H : Heap) (locs : List Loc) (ls : Array Slot), hW D vwCl ad (Sum.elim so (mSH C)) (Sum.elim t s'.2.2.2) lt H → va_S (hA s0) s.heap H locs → lv_has ls 8 [(0, .ref (ad (.inr 0))), (1, .int p0), (2, .int p1), (3, .int s'.1), (4, .int s'.2.1), (5, .int k0_58), (6, .int v6_63), (7, .int s'.2.2.1)] → W p l e rm_m_cut s m args below meth c H locs 0 0 (MQ below (va_Qi (fun (r : Int32) (_ : Unit) => r = oM.1) (fun (_ : Unit) (U : State) => hW D vwCl ad (Sum.elim so (mSH C)) (Sum.elim t oM.2) lt U.heap) (hA s0)) args s 0 0 (hA s0)) (F0 m 82 ls [])) (kx : ∀ x' : Int32 × Int32 × hSt, o = .inr x' → ∀ (H : Heap) (locs : List Loc) (ls : Array Slot), hW D vwCl ad (Sum.elim so (mSH C)) (Sum.elim t x'.2.2) lt H → va_S (hA s0) s.heap H locs → lv_has ls 8 [(0, .ref (ad (.inr 0))), (1, .int p0), (2, .int p1), (3, .int x'.1), (4, .int x'.2.1), (5, .int k0_58), (6, .int v6_63)] → W p l e rm_m_cut s m args below meth c H locs 0 0 (MQ below (va_Qi (fun (r : Int32) (_ : Unit) => r = oM.1) (fun (_ : Unit) (U : State) => hW D vwCl ad (Sum.elim so (mSH C)) (Sum.elim t oM.2) lt U.heap) (hA s0)) args s 0 0 (hA s0)) (F0 m 172 ls [])) {H : Heap} {locs : List Loc} (hM : hW D vwCl ad (Sum.elim so (mSH C)) (Sum.elim t g_142) lt H) (hS : va_S (hA s0) s.heap H locs) {ls : Array Slot} (hl : lv_has ls 8 [(0, .ref (ad (.inr 0))), (1, .int p0), (2, .int p1), (3, .int y3_9), (5, .int k0_58), (6, .int v6_63), (7, .int v7_82)]) : W p l e rm_m_cut s m args below meth c H locs 0 0 (MQ below (va_Qi (fun (r : Int32) (_ : Unit) => r = oM.1) (fun (_ : Unit) (U : State) => hW D vwCl ad (Sum.elim so (mSH C)) (Sum.elim t oM.2) lt U.heap) (hA s0)) args s 0 0 (hA s0)) (F0 m 164 ls [.int k0_164]) := by
  obtain ⟨hx, hb, hr, hml, hown, hts, hlocks, hK, hZ0, hA0⟩ := CX
  unfold m_cut_B164 at hf
  refine lv_istore (lv' := [(4, .int k0_164), (0, .ref (ad (.inr 0))), (1, .int p0), (2, .int p1), (3, .int y3_9), (5, .int k0_58), (6, .int v6_63), (7, .int v7_82)]) hx hb dX5_cut_164 hl (by decide) rfl (fun ls hl => ?_)
  obtain ⟨y7_10, ey, hf⟩ := hlet_ex hf
  refine lv_iinc (v := y7_10) (lv' := [(7, .int y7_10), (4, .int k0_164), (0, .ref (ad (.inr 0))), (1, .int p0), (2, .int p1), (3, .int y3_9), (5, .int k0_58), (6, .int v6_63)]) hx hb dX5_cut_166 hl (k := 7) rfl (by rw [ey]; rfl) (by decide) rfl (fun ls hl => ?_)
  refine lv_goto (tgt := 82) hx hb dX5_cut_169 (by decide) ?_
  exact kc (y3_9, k0_164, y7_10, g_142) (Option.some.inj hf).symm H locs ls hM hS (lv_sub hl [2, 3, 4, 5, 1, 6, 7, 0] rfl)
set_option maxHeartbeats 4000000 in
set_option maxRecDepth 100000 in
theorem w_m_cut_B142 {p : Program} {l : Launch} {e : Env} {s : State} {m : MethodId} {args : Array Value} {below : List Frame} {meth : Method} {c : Code} {D : va_G} {C : Nat → Nat} {a0 : Array Value} {s0 : State} {ad : Rl → Nat} {so : Nat → Option hS} {t : hSt} {lt : Rl → Nat → Int64} (CX : hCx D C a0 s0 p s m args meth c cX5_cut 8 RX5 (some .int)) (hIx : hI (hA s0) ad (Sum.elim so (mSH C))) (g : hSt) (p0 : Int32) (p1 : Int32) (g1 : hSt) (y2 : Int32) (x4 : Int32) (k0_58 : Int32) (v3_63 : Int32) (v4_63 : Int32) (v6_63 : Int32) (g_63 : hSt) (x5 : Int32) (v3_82 : Int32) (v4_82 : Int32) (v7_82 : Int32) (g_82 : hSt) (x6 : Int32) (x7 : Int32) (y8 : Int32 × hSt) (g_142 : hSt) {oM : Int32 × hSt} {o : (Int32 × Int32 × Int32 × hSt) ⊕ (Int32 × Int32 × hSt)} (hf : m_cut_B142 v6_63 v3_82 v4_82 v7_82 g_142 = some o) (kc : ∀ s' : Int32 × Int32 × Int32 × hSt, o = .inl s' → ∀ (H : Heap) (locs : List Loc) (ls : Array Slot), hW D vwCl ad (Sum.elim so (mSH C)) (Sum.elim t s'.2.2.2) lt H → va_S (hA s0) s.heap H locs → lv_has ls 8 [(0, .ref (ad (.inr 0))), (1, .int p0), (2, .int p1), (3, .int s'.1), (4, .int s'.2.1), (5, .int k0_58), (6, .int v6_63), (7, .int s'.2.2.1)] → W p l e rm_m_cut s m args below meth c H locs 0 0 (MQ below (va_Qi (fun (r : Int32) (_ : Unit) => r = oM.1) (fun (_ : Unit) (U : State) => hW D vwCl ad (Sum.elim so (mSH C)) (Sum.elim t oM.2) lt U.heap) (hA s0)) args s 0 0 (hA s0)) (F0 m 82 ls [])) (kx : ∀ x' : Int32 × Int32 × hSt, o = .inr x' → ∀ (H : Heap) (locs : List Loc) (ls : Array Slot), hW D vwCl ad (Sum.elim so (mSH C)) (Sum.elim t x'.2.2) lt H → va_S (hA s0) s.heap H locs → lv_has ls 8 [(0, .ref (ad (.inr 0))), (1, .int p0), (2, .int p1), (3, .int x'.1), (4, .int x'.2.1), (5, .int k0_58), (6, .int v6_63)] → W p l e rm_m_cut s m args below meth c H locs 0 0 (MQ below (va_Qi (fun (r : Int32) (_ : Unit) => r = oM.1) (fun (_ : Unit) (U : State) => hW D vwCl ad (Sum.elim so (mSH C)) (Sum.elim t oM.2) lt U.heap) (hA s0)) args s 0 0 (hA s0)) (F0 m 172 ls [])) {H : Heap} {locs : List Loc} (hM : hW D vwCl ad (Sum.elim so (mSH C)) (Sum.elim t g_142) lt H) (hS : va_S (hA s0) s.heap H locs) {ls : Array Slot} (hl : lv_has ls 8 [(0, .ref (ad (.inr 0))), (1, .int p0), (2, .int p1), (3, .int v3_82), (4, .int v4_82), (5, .int k0_58), (6, .int v6_63), (7, .int v7_82)]) : W p l e rm_m_cut s m args below meth c H locs 0 0 (MQ below (va_Qi (fun (r : Int32) (_ : Unit) => r = oM.1) (fun (_ : Unit) (U : State) => hW D vwCl ad (Sum.elim so (mSH C)) (Sum.elim t oM.2) lt U.heap) (hA s0)) args s 0 0 (hA s0)) (F0 m 142 ls []) := by
  obtain ⟨hx, hb, hr, hml, hown, hts, hlocks, hK, hZ0, hA0⟩ := CX
  unfold m_cut_B142 at hf
  obtain ⟨y3_9, ey, hf⟩ := hlet_ex hf
  refine lv_iinc (v := y3_9) (lv' := [(3, .int y3_9), (0, .ref (ad (.inr 0))), (1, .int p0), (2, .int p1), (4, .int v4_82), (5, .int k0_58), (6, .int v6_63), (7, .int v7_82)]) hx hb dX5_cut_142 hl (k := 3) rfl (by rw [ey]; rfl) (by decide) rfl (fun ls hl => ?_)
  refine lv_iload hx hb dX5_cut_145 (lv_at hl 4 rfl) ?_
  refine lv_iconst (v := -1) hx hb dX5_cut_147 (by decide) ?_
  refine hb_icmp_ne (tgt := 162) hx hb dX5_cut_148 (by decide) hf (fun hf => ?_) (fun hf => ?_)
  · refine lv_iload hx hb dX5_cut_162 (lv_at hl 4 rfl) ?_
    exact w_m_cut_B164 ⟨hx, hb, hr, hml, hown, hts, hlocks, hK, hZ0, hA0⟩ hIx g p0 p1 g1 y2 x4 k0_58 v3_63 v4_63 v6_63 g_63 x5 v3_82 v4_82 v7_82 g_82 x6 x7 y8 g_142 y3_9 v4_82 hf kc kx hM hS (lv_sub hl [1, 2, 3, 0, 5, 6, 7] rfl)
  · refine lv_bipush (v := 100) hx hb dX5_cut_151 (by decide) ?_
    refine lv_iload hx hb dX5_cut_153 (lv_at hl 6 rfl) ?_
    refine lv_imul hx hb dX5_cut_155 ?_
    refine lv_iload hx hb dX5_cut_156 (lv_at hl 7 rfl) ?_
    refine lv_iadd hx hb dX5_cut_158 ?_
    refine lv_goto (tgt := 164) hx hb dX5_cut_159 (by decide) ?_
    exact w_m_cut_B164 ⟨hx, hb, hr, hml, hown, hts, hlocks, hK, hZ0, hA0⟩ hIx g p0 p1 g1 y2 x4 k0_58 v3_63 v4_63 v6_63 g_63 x5 v3_82 v4_82 v7_82 g_82 x6 x7 y8 g_142 y3_9 (((100 : Int32) * v6_63) + v7_82) hf kc kx hM hS (lv_sub hl [1, 2, 3, 0, 5, 6, 7] rfl)
set_option maxHeartbeats 4000000 in
set_option maxRecDepth 100000 in
theorem w_m_cut_L82 {p : Program} {l : Launch} {e : Env} {s : State} {m : MethodId} {args : Array Value} {below : List Frame} {meth : Method} {c : Code} {D : va_G} {C : Nat → Nat} {a0 : Array Value} {s0 : State} {ad : Rl → Nat} {so : Nat → Option hS} {t : hSt} {lt : Rl → Nat → Int64} (CX : hCx D C a0 s0 p s m args meth c cX5_cut 8 RX5 (some .int)) (hIx : hI (hA s0) ad (Sum.elim so (mSH C))) (g : hSt) (p0 : Int32) (p1 : Int32) (g1 : hSt) (y2 : Int32) (x4 : Int32) (k0_58 : Int32) (v3_63 : Int32) (v4_63 : Int32) (v6_63 : Int32) (g_63 : hSt) (x5 : Int32) {oM : Int32 × hSt} (x : Int32 × Int32 × hSt) (n : Nat) (q0 : Int32 × Int32 × Int32 × hSt) (h0 : hiter (fun q : Int32 × Int32 × Int32 × hSt => m_cut_L82 p0 v6_63 q.1 q.2.1 q.2.2.1 q.2.2.2) n q0 = some x) (kx0 : ∀ (H : Heap) (locs : List Loc) (ls : Array Slot), hW D vwCl ad (Sum.elim so (mSH C)) (Sum.elim t x.2.2) lt H → va_S (hA s0) s.heap H locs → lv_has ls 8 [(0, .ref (ad (.inr 0))), (1, .int p0), (2, .int p1), (3, .int x.1), (4, .int x.2.1), (5, .int k0_58), (6, .int v6_63)] → W p l e rm_m_cut s m args below meth c H locs 0 0 (MQ below (va_Qi (fun (r : Int32) (_ : Unit) => r = oM.1) (fun (_ : Unit) (U : State) => hW D vwCl ad (Sum.elim so (mSH C)) (Sum.elim t oM.2) lt U.heap) (hA s0)) args s 0 0 (hA s0)) (F0 m 172 ls [])) : ∀ (H : Heap) (locs : List Loc) (ls : Array Slot), hW D vwCl ad (Sum.elim so (mSH C)) (Sum.elim t q0.2.2.2) lt H → va_S (hA s0) s.heap H locs → lv_has ls 8 [(0, .ref (ad (.inr 0))), (1, .int p0), (2, .int p1), (3, .int q0.1), (4, .int q0.2.1), (5, .int k0_58), (6, .int v6_63), (7, .int q0.2.2.1)] → W p l e rm_m_cut s m args below meth c H locs 0 0 (MQ below (va_Qi (fun (r : Int32) (_ : Unit) => r = oM.1) (fun (_ : Unit) (U : State) => hW D vwCl ad (Sum.elim so (mSH C)) (Sum.elim t oM.2) lt U.heap) (hA s0)) args s 0 0 (hA s0)) (F0 m 82 ls []) := by
  obtain ⟨hx, hb, hr, hml, hown, hts, hlocks, hK, hZ0, hA0⟩ := CX
  refine hiter_W (Wh := fun q => ∀ (H : Heap) (locs : List Loc) (ls : Array Slot), hW D vwCl ad (Sum.elim so (mSH C)) (Sum.elim t q.2.2.2) lt H → va_S (hA s0) s.heap H locs → lv_has ls 8 [(0, .ref (ad (.inr 0))), (1, .int p0), (2, .int p1), (3, .int q.1), (4, .int q.2.1), (5, .int k0_58), (6, .int v6_63), (7, .int q.2.2.1)] → W p l e rm_m_cut s m args below meth c H locs 0 0 (MQ below (va_Qi (fun (r : Int32) (_ : Unit) => r = oM.1) (fun (_ : Unit) (U : State) => hW D vwCl ad (Sum.elim so (mSH C)) (Sum.elim t oM.2) lt U.heap) (hA s0)) args s 0 0 (hA s0)) (F0 m 82 ls [])) ?_ n q0 h0
  intro q o hf kc kx1 H locs ls hM hS hl
  obtain ⟨v3_82, v4_82, v7_82, g_82⟩ := q
  replace hf : m_cut_L82 p0 v6_63 v3_82 v4_82 v7_82 g_82 = some o := hf
  have kx : ∀ x' : Int32 × Int32 × hSt, o = .inr x' → ∀ (H : Heap) (locs : List Loc) (ls : Array Slot), hW D vwCl ad (Sum.elim so (mSH C)) (Sum.elim t x'.2.2) lt H → va_S (hA s0) s.heap H locs → lv_has ls 8 [(0, .ref (ad (.inr 0))), (1, .int p0), (2, .int p1), (3, .int x'.1), (4, .int x'.2.1), (5, .int k0_58), (6, .int v6_63)] → W p l e rm_m_cut s m args below meth c H locs 0 0 (MQ below (va_Qi (fun (r : Int32) (_ : Unit) => r = oM.1) (fun (_ : Unit) (U : State) => hW D vwCl ad (Sum.elim so (mSH C)) (Sum.elim t oM.2) lt U.heap) (hA s0)) args s 0 0 (hA s0)) (F0 m 172 ls []) := fun x' ex => by rw [kx1 _ ex]; exact kx0
  unfold m_cut_L82 at hf
  refine lv_iload hx hb dX5_cut_82 (lv_at hl 7 rfl) ?_
  refine lv_aload_n hx hb dX5_cut_84 rfl (lv_at hl 0 rfl) ?_
  refine hr_get (ci := 5) (C := RX5) (T := TX5) (N := 55) (r := .inr 0) hx hb hts in_X5 hown hK hM mS_0 rfl 9 (by decide) (hts _ q1377) rfl (v := .ref (ad (.inr 10))) rfl dX5_cut_85 ?_
  refine lv_iload hx hb dX5_cut_88 (lv_at hl 6 rfl) ?_
  refine hm_iald (r := 10) hx hb hK hM 0 mS_10 rfl hf dX5_cut_90 (fun x6 hf => ?_)
  refine lv_iconst (v := 2) hx hb dX5_cut_91 (by decide) ?_
  refine lv_idiv hx hb dX5_cut_92 (by decide) ?_
  refine hb_icmp_gt (tgt := 172) hx hb dX5_cut_93 (by decide) hf (fun hf => ?_) (fun hf => ?_)
  · exact kx (v3_82, v4_82, g_82) (Option.some.inj hf).symm H locs ls hM hS (lv_sub hl [0, 1, 2, 3, 4, 5, 6] rfl)
  · refine lv_aload_n hx hb dX5_cut_96 rfl (lv_at hl 0 rfl) ?_
    refine hr_get (ci := 5) (C := RX5) (T := TX5) (N := 55) (r := .inr 0) hx hb hts in_X5 hown hK hM mS_0 rfl 7 (by decide) (hts _ q1375) rfl (v := .ref (ad (.inr 8))) rfl dX5_cut_97 ?_
    refine lv_iload hx hb dX5_cut_100 (lv_at hl 6 rfl) ?_
    refine hm_iald (r := 8) hx hb hK hM 0 mS_8 rfl hf dX5_cut_102 (fun x7 hf => ?_)
    refine lv_iload_n hx hb dX5_cut_103 rfl (lv_at hl 1 rfl) ?_
    refine hb_icmp_ne (tgt := 172) hx hb dX5_cut_104 (by decide) hf (fun hf => ?_) (fun hf => ?_)
    · exact kx (v3_82, v4_82, g_82) (Option.some.inj hf).symm H locs ls hM hS (lv_sub hl [0, 1, 2, 3, 4, 5, 6] rfl)
    · refine lv_aload_n hx hb dX5_cut_107 rfl (lv_at hl 0 rfl) ?_
      refine lv_iload_n hx hb dX5_cut_108 rfl (lv_at hl 1 rfl) ?_
      refine lv_iload hx hb dX5_cut_109 (lv_at hl 6 rfl) ?_
      refine lv_iload hx hb dX5_cut_111 (lv_at hl 7 rfl) ?_
      obtain ⟨y8, hq, hf⟩ := hbind hf
      refine hr_calli0 (va_runV (As := [.int p0, .int v6_63, .int v7_82]) (rest := []) ⟨hx, hb, hml, hown, hts⟩ (met_m_fitsWith l D C a0 s0 ad so t lt g_82 p0 v6_63 v7_82 hq) (cwV 3 hts (lw_V q1799 q1801 qs69 q99 q1802) rfl rfl rfl (by decide +kernel) ⟨Nat.le_of_ble_eq_true rfl, Nat.le_of_ble_eq_true rfl⟩) (hr_preV hZ_c hM hIx hK hZ0 hA0 hS (r := .inr 0) mS_0 (q := (RX5, TX5, 55)) rfl) rfl rfl hl.1 rfl (lv_room (Nat.le_of_ble_eq_true rfl)) dX5_cut_113 ⟨Nat.le_of_ble_eq_true rfl, Nat.le_of_ble_eq_true rfl⟩) hS (fun H locs hM hS => ?_)
      refine hb_if_ne (tgt := 142) hx hb dX5_cut_116 (by decide) hf (fun hf => ?_) (fun hf => ?_)
      · exact w_m_cut_B142 ⟨hx, hb, hr, hml, hown, hts, hlocks, hK, hZ0, hA0⟩ hIx g p0 p1 g1 y2 x4 k0_58 v3_63 v4_63 v6_63 g_63 x5 v3_82 v4_82 v7_82 g_82 x6 x7 y8 y8.2 hf kc kx hM hS (lv_sub hl [0, 1, 2, 3, 4, 5, 6, 7] rfl)
      · refine lv_aload_n hx hb dX5_cut_119 rfl (lv_at hl 0 rfl) ?_
        refine lv_iload_n hx hb dX5_cut_120 rfl (lv_at hl 1 rfl) ?_
        refine lv_iload hx hb dX5_cut_121 (lv_at hl 6 rfl) ?_
        refine lv_aload_n hx hb dX5_cut_123 rfl (lv_at hl 0 rfl) ?_
        refine hr_get (ci := 5) (C := RX5) (T := TX5) (N := 55) (r := .inr 0) hx hb hts in_X5 hown hK hM mS_0 rfl 9 (by decide) (hts _ q1377) rfl (v := .ref (ad (.inr 10))) rfl dX5_cut_124 ?_
        refine lv_iload hx hb dX5_cut_127 (lv_at hl 6 rfl) ?_
        refine hm_iald (r := 10) hx hb hK hM 0 mS_10 rfl hf dX5_cut_129 (fun x11 hf => ?_)
        refine lv_iload hx hb dX5_cut_130 (lv_at hl 7 rfl) ?_
        refine lv_isub hx hb dX5_cut_132 ?_
        obtain ⟨y12, hq, hf⟩ := hbind hf
        refine hr_calli0 (va_runV (As := [.int p0, .int v6_63, .int (x11 - v7_82)]) (rest := []) ⟨hx, hb, hml, hown, hts⟩ (met_m_fitsWith l D C a0 s0 ad so t lt y8.2 p0 v6_63 (x11 - v7_82) hq) (cwV 3 hts (lw_V q1799 q1801 qs69 q99 q1802) rfl rfl rfl (by decide +kernel) ⟨Nat.le_of_ble_eq_true rfl, Nat.le_of_ble_eq_true rfl⟩) (hr_preV hZ_c hM hIx hK hZ0 hA0 hS (r := .inr 0) mS_0 (q := (RX5, TX5, 55)) rfl) rfl rfl hl.1 rfl (lv_room (Nat.le_of_ble_eq_true rfl)) dX5_cut_133 ⟨Nat.le_of_ble_eq_true rfl, Nat.le_of_ble_eq_true rfl⟩) hS (fun H locs hM hS => ?_)
        refine hb_if_ne (tgt := 142) hx hb dX5_cut_136 (by decide) hf (fun hf => ?_) (fun hf => ?_)
        · exact w_m_cut_B142 ⟨hx, hb, hr, hml, hown, hts, hlocks, hK, hZ0, hA0⟩ hIx g p0 p1 g1 y2 x4 k0_58 v3_63 v4_63 v6_63 g_63 x5 v3_82 v4_82 v7_82 g_82 x6 x7 y8 y12.2 hf kc kx hM hS (lv_sub hl [0, 1, 2, 3, 4, 5, 6, 7] rfl)
        · refine lv_goto (tgt := 166) hx hb dX5_cut_139 (by decide) ?_
          obtain ⟨y7_13, ey, hf⟩ := hlet_ex hf
          refine lv_iinc (v := y7_13) (lv' := [(7, .int y7_13), (0, .ref (ad (.inr 0))), (1, .int p0), (2, .int p1), (3, .int v3_82), (4, .int v4_82), (5, .int k0_58), (6, .int v6_63)]) hx hb dX5_cut_166 hl (k := 7) rfl (by rw [ey]; rfl) (by decide) rfl (fun ls hl => ?_)
          refine lv_goto (tgt := 82) hx hb dX5_cut_169 (by decide) ?_
          exact kc (v3_82, v4_82, y7_13, y12.2) (Option.some.inj hf).symm H locs ls hM hS (lv_sub hl [1, 2, 3, 4, 5, 6, 7, 0] rfl)
set_option maxHeartbeats 4000000 in
set_option maxRecDepth 100000 in
theorem w_m_cut_L63 {p : Program} {l : Launch} {e : Env} {s : State} {m : MethodId} {args : Array Value} {below : List Frame} {meth : Method} {c : Code} {D : va_G} {C : Nat → Nat} {a0 : Array Value} {s0 : State} {ad : Rl → Nat} {so : Nat → Option hS} {t : hSt} {lt : Rl → Nat → Int64} (CX : hCx D C a0 s0 p s m args meth c cX5_cut 8 RX5 (some .int)) (hIx : hI (hA s0) ad (Sum.elim so (mSH C))) (g : hSt) (p0 : Int32) (p1 : Int32) (g1 : hSt) (y2 : Int32) (x4 : Int32) (k0_58 : Int32) {oM : Int32 × hSt} (x : Int32 × Int32 × hSt) (n : Nat) (q0 : Int32 × Int32 × Int32 × hSt) (h0 : hiter (fun q : Int32 × Int32 × Int32 × hSt => m_cut_L63 p0 k0_58 q.1 q.2.1 q.2.2.1 q.2.2.2) n q0 = some x) (kx0 : ∀ (H : Heap) (locs : List Loc) (ls : Array Slot), hW D vwCl ad (Sum.elim so (mSH C)) (Sum.elim t x.2.2) lt H → va_S (hA s0) s.heap H locs → lv_has ls 8 [(2, .int p1), (3, .int x.1), (4, .int x.2.1)] → W p l e rm_m_cut s m args below meth c H locs 0 0 (MQ below (va_Qi (fun (r : Int32) (_ : Unit) => r = oM.1) (fun (_ : Unit) (U : State) => hW D vwCl ad (Sum.elim so (mSH C)) (Sum.elim t oM.2) lt U.heap) (hA s0)) args s 0 0 (hA s0)) (F0 m 178 ls [])) : ∀ (H : Heap) (locs : List Loc) (ls : Array Slot), hW D vwCl ad (Sum.elim so (mSH C)) (Sum.elim t q0.2.2.2) lt H → va_S (hA s0) s.heap H locs → lv_has ls 8 [(0, .ref (ad (.inr 0))), (1, .int p0), (2, .int p1), (3, .int q0.1), (4, .int q0.2.1), (5, .int k0_58), (6, .int q0.2.2.1)] → W p l e rm_m_cut s m args below meth c H locs 0 0 (MQ below (va_Qi (fun (r : Int32) (_ : Unit) => r = oM.1) (fun (_ : Unit) (U : State) => hW D vwCl ad (Sum.elim so (mSH C)) (Sum.elim t oM.2) lt U.heap) (hA s0)) args s 0 0 (hA s0)) (F0 m 63 ls []) := by
  obtain ⟨hx, hb, hr, hml, hown, hts, hlocks, hK, hZ0, hA0⟩ := CX
  refine hiter_W (Wh := fun q => ∀ (H : Heap) (locs : List Loc) (ls : Array Slot), hW D vwCl ad (Sum.elim so (mSH C)) (Sum.elim t q.2.2.2) lt H → va_S (hA s0) s.heap H locs → lv_has ls 8 [(0, .ref (ad (.inr 0))), (1, .int p0), (2, .int p1), (3, .int q.1), (4, .int q.2.1), (5, .int k0_58), (6, .int q.2.2.1)] → W p l e rm_m_cut s m args below meth c H locs 0 0 (MQ below (va_Qi (fun (r : Int32) (_ : Unit) => r = oM.1) (fun (_ : Unit) (U : State) => hW D vwCl ad (Sum.elim so (mSH C)) (Sum.elim t oM.2) lt U.heap) (hA s0)) args s 0 0 (hA s0)) (F0 m 63 ls [])) ?_ n q0 h0
  intro q o hf kc kx1 H locs ls hM hS hl
  obtain ⟨v3_63, v4_63, v6_63, g_63⟩ := q
  replace hf : m_cut_L63 p0 k0_58 v3_63 v4_63 v6_63 g_63 = some o := hf
  have kx : ∀ x' : Int32 × Int32 × hSt, o = .inr x' → ∀ (H : Heap) (locs : List Loc) (ls : Array Slot), hW D vwCl ad (Sum.elim so (mSH C)) (Sum.elim t x'.2.2) lt H → va_S (hA s0) s.heap H locs → lv_has ls 8 [(2, .int p1), (3, .int x'.1), (4, .int x'.2.1)] → W p l e rm_m_cut s m args below meth c H locs 0 0 (MQ below (va_Qi (fun (r : Int32) (_ : Unit) => r = oM.1) (fun (_ : Unit) (U : State) => hW D vwCl ad (Sum.elim so (mSH C)) (Sum.elim t oM.2) lt U.heap) (hA s0)) args s 0 0 (hA s0)) (F0 m 178 ls []) := fun x' ex => by rw [kx1 _ ex]; exact kx0
  unfold m_cut_L63 at hf
  refine lv_iload hx hb dX5_cut_63 (lv_at hl 6 rfl) ?_
  refine lv_aload_n hx hb dX5_cut_65 rfl (lv_at hl 0 rfl) ?_
  refine hr_get (ci := 5) (C := RX5) (T := TX5) (N := 55) (r := .inr 0) hx hb hts in_X5 hown hK hM mS_0 rfl 2 (by decide) (hts _ q1370) rfl (v := .ref (ad (.inr 3))) rfl dX5_cut_66 ?_
  refine lv_iconst (v := 1) hx hb dX5_cut_69 (by decide) ?_
  refine hm_iald (r := 3) hx hb hK hM 0 mS_3 rfl hf dX5_cut_70 (fun x5 hf => ?_)
  refine hb_icmp_ge (tgt := 178) hx hb dX5_cut_71 (by decide) hf (fun hf => ?_) (fun hf => ?_)
  · exact kx (v3_63, v4_63, g_63) (Option.some.inj hf).symm H locs ls hM hS (lv_sub hl [2, 3, 4] rfl)
  · refine lv_iload hx hb dX5_cut_74 (lv_at hl 5 rfl) ?_
    refine hb_if_eq (tgt := 178) hx hb dX5_cut_76 (by decide) hf (fun hf => ?_) (fun hf => ?_)
    · exact kx (v3_63, v4_63, g_63) (Option.some.inj hf).symm H locs ls hM hS (lv_sub hl [2, 3, 4] rfl)
    · refine lv_iconst (v := 1) hx hb dX5_cut_79 (by decide) ?_
      refine lv_istore (lv' := [(7, .int (1 : Int32)), (0, .ref (ad (.inr 0))), (1, .int p0), (2, .int p1), (3, .int v3_63), (4, .int v4_63), (5, .int k0_58), (6, .int v6_63)]) hx hb dX5_cut_80 hl (by decide) rfl (fun ls hl => ?_)
      obtain ⟨x14, hq, hf⟩ := hbind hf
      refine w_m_cut_L82 ⟨hx, hb, hr, hml, hown, hts, hlocks, hK, hZ0, hA0⟩ hIx g p0 p1 g1 y2 x4 k0_58 v3_63 v4_63 v6_63 g_63 x5 x14 hFU (v3_63, v4_63, (1 : Int32), g_63) hq (fun H locs ls hM hS hl => ?_) H locs ls hM hS (lv_sub hl [1, 2, 3, 4, 5, 6, 7, 0] rfl)
      obtain ⟨y6_15, ey, hf⟩ := hlet_ex hf
      refine lv_iinc (v := y6_15) (lv' := [(6, .int y6_15), (0, .ref (ad (.inr 0))), (1, .int p0), (2, .int p1), (3, .int x14.1), (4, .int x14.2.1), (5, .int k0_58)]) hx hb dX5_cut_172 hl (k := 6) rfl (by rw [ey]; rfl) (by decide) rfl (fun ls hl => ?_)
      refine lv_goto (tgt := 63) hx hb dX5_cut_175 (by decide) ?_
      exact kc (x14.1, x14.2.1, y6_15, x14.2.2) (Option.some.inj hf).symm H locs ls hM hS (lv_sub hl [1, 2, 3, 4, 5, 6, 0] rfl)
set_option maxHeartbeats 4000000 in
set_option maxRecDepth 100000 in
theorem w_m_cut_B58 {p : Program} {l : Launch} {e : Env} {s : State} {m : MethodId} {args : Array Value} {below : List Frame} {meth : Method} {c : Code} {D : va_G} {C : Nat → Nat} {a0 : Array Value} {s0 : State} {ad : Rl → Nat} {so : Nat → Option hS} {t : hSt} {lt : Rl → Nat → Int64} (CX : hCx D C a0 s0 p s m args meth c cX5_cut 8 RX5 (some .int)) (hIx : hI (hA s0) ad (Sum.elim so (mSH C))) (g : hSt) (p0 : Int32) (p1 : Int32) (g1 : hSt) (y2 : Int32) (x4 : Int32) (k0_58 : Int32) {o : Int32 × hSt} (hf : m_cut_B58 p0 p1 g1 k0_58 = some o) {H : Heap} {locs : List Loc} (hM : hW D vwCl ad (Sum.elim so (mSH C)) (Sum.elim t g1) lt H) (hS : va_S (hA s0) s.heap H locs) {ls : Array Slot} (hl : lv_has ls 8 [(0, .ref (ad (.inr 0))), (1, .int p0), (2, .int p1), (3, .int (0 : Int32)), (4, .int (-1 : Int32))]) : W p l e rm_m_cut s m args below meth c H locs 0 0 (MQ below (va_Qi (fun (r : Int32) (_ : Unit) => r = o.1) (fun (_ : Unit) (U : State) => hW D vwCl ad (Sum.elim so (mSH C)) (Sum.elim t o.2) lt U.heap) (hA s0)) args s 0 0 (hA s0)) (F0 m 58 ls [.int k0_58]) := by
  obtain ⟨hx, hb, hr, hml, hown, hts, hlocks, hK, hZ0, hA0⟩ := CX
  unfold m_cut_B58 at hf
  refine lv_istore (lv' := [(5, .int k0_58), (0, .ref (ad (.inr 0))), (1, .int p0), (2, .int p1), (3, .int (0 : Int32)), (4, .int (-1 : Int32))]) hx hb dX5_cut_58 hl (by decide) rfl (fun ls hl => ?_)
  refine lv_iconst (v := 0) hx hb dX5_cut_60 (by decide) ?_
  refine lv_istore (lv' := [(6, .int (0 : Int32)), (5, .int k0_58), (0, .ref (ad (.inr 0))), (1, .int p0), (2, .int p1), (3, .int (0 : Int32)), (4, .int (-1 : Int32))]) hx hb dX5_cut_61 hl (by decide) rfl (fun ls hl => ?_)
  obtain ⟨x16, hq, hf⟩ := hbind hf
  refine w_m_cut_L63 ⟨hx, hb, hr, hml, hown, hts, hlocks, hK, hZ0, hA0⟩ hIx g p0 p1 g1 y2 x4 k0_58 x16 hFU ((0 : Int32), (-1 : Int32), (0 : Int32), g1) hq (fun H locs ls hM hS hl => ?_) H locs ls hM hS (lv_sub hl [2, 3, 4, 5, 6, 1, 0] rfl)
  refine lv_iload_n hx hb dX5_cut_178 rfl (lv_at hl 0 rfl) ?_
  refine hb_if_ne (tgt := 186) hx hb dX5_cut_179 (by decide) hf (fun hf => ?_) (fun hf => ?_)
  · refine lv_iload hx hb dX5_cut_186 (lv_at hl 2 rfl) ?_
    have eo := Option.some.inj hf
    subst eo
    exact W.iret (v := x16.2.1) hx hb hr (fun T ht hW => ⟨⟨x16.2.1, (), rfl, rfl, by dsimp only; rw [ht]; exact hM⟩, hS.F ht⟩) hS.2.2 dX5_cut_188
  · refine lv_iload_n hx hb dX5_cut_182 rfl (lv_at hl 1 rfl) ?_
    refine lv_goto (tgt := 188) hx hb dX5_cut_183 (by decide) ?_
    have eo := Option.some.inj hf
    subst eo
    exact W.iret (v := x16.1) hx hb hr (fun T ht hW => ⟨⟨x16.1, (), rfl, rfl, by dsimp only; rw [ht]; exact hM⟩, hS.F ht⟩) hS.2.2 dX5_cut_188
set_option maxHeartbeats 4000000 in
set_option maxRecDepth 100000 in
theorem w_m_cut_B57 {p : Program} {l : Launch} {e : Env} {s : State} {m : MethodId} {args : Array Value} {below : List Frame} {meth : Method} {c : Code} {D : va_G} {C : Nat → Nat} {a0 : Array Value} {s0 : State} {ad : Rl → Nat} {so : Nat → Option hS} {t : hSt} {lt : Rl → Nat → Int64} (CX : hCx D C a0 s0 p s m args meth c cX5_cut 8 RX5 (some .int)) (hIx : hI (hA s0) ad (Sum.elim so (mSH C))) (g : hSt) (p0 : Int32) (p1 : Int32) (g1 : hSt) (y2 : Int32) (x4 : Int32) {o : Int32 × hSt} (hf : m_cut_B57 p0 p1 g1 = some o) {H : Heap} {locs : List Loc} (hM : hW D vwCl ad (Sum.elim so (mSH C)) (Sum.elim t g1) lt H) (hS : va_S (hA s0) s.heap H locs) {ls : Array Slot} (hl : lv_has ls 8 [(0, .ref (ad (.inr 0))), (1, .int p0), (2, .int p1), (3, .int (0 : Int32)), (4, .int (-1 : Int32))]) : W p l e rm_m_cut s m args below meth c H locs 0 0 (MQ below (va_Qi (fun (r : Int32) (_ : Unit) => r = o.1) (fun (_ : Unit) (U : State) => hW D vwCl ad (Sum.elim so (mSH C)) (Sum.elim t o.2) lt U.heap) (hA s0)) args s 0 0 (hA s0)) (F0 m 57 ls []) := by
  obtain ⟨hx, hb, hr, hml, hown, hts, hlocks, hK, hZ0, hA0⟩ := CX
  unfold m_cut_B57 at hf
  refine lv_iconst (v := 0) hx hb dX5_cut_57 (by decide) ?_
  exact w_m_cut_B58 ⟨hx, hb, hr, hml, hown, hts, hlocks, hK, hZ0, hA0⟩ hIx g p0 p1 g1 y2 x4 (0 : Int32) hf hM hS (lv_sub hl [0, 1, 2, 3, 4] rfl)
set_option maxHeartbeats 4000000 in
set_option maxRecDepth 100000 in
theorem w_m_cut {p : Program} {l : Launch} {e : Env} {s : State} {m : MethodId} {args : Array Value} {below : List Frame} {meth : Method} {c : Code} {D : va_G} {C : Nat → Nat} {a0 : Array Value} {s0 : State} {ad : Rl → Nat} {so : Nat → Option hS} {t : hSt} {lt : Rl → Nat → Int64} (CX : hCx D C a0 s0 p s m args meth c cX5_cut 8 RX5 (some .int)) (hIx : hI (hA s0) ad (Sum.elim so (mSH C))) (g : hSt) (p0 : Int32) (p1 : Int32) {o : Int32 × hSt} (hf : m_cut g p0 p1 = some o) {H : Heap} {locs : List Loc} (hM : hW D vwCl ad (Sum.elim so (mSH C)) (Sum.elim t g) lt H) (hS : va_S (hA s0) s.heap H locs) {ls : Array Slot} (hl : lv_has ls 8 [(0, .ref (ad (.inr 0))), (1, .int p0), (2, .int p1)]) : W p l e rm_m_cut s m args below meth c H locs 0 0 (MQ below (va_Qi (fun (r : Int32) (_ : Unit) => r = o.1) (fun (_ : Unit) (U : State) => hW D vwCl ad (Sum.elim so (mSH C)) (Sum.elim t o.2) lt U.heap) (hA s0)) args s 0 0 (hA s0)) (F0 m 0 ls []) := by
  obtain ⟨hx, hb, hr, hml, hown, hts, hlocks, hK, hZ0, hA0⟩ := CX
  unfold m_cut at hf
  refine lv_aload_n hx hb dX5_cut_0 rfl (lv_at hl 0 rfl) ?_
  refine lv_iconst (v := 0) hx hb dX5_cut_1 (by decide) ?_
  refine hm_put (r := 0) (ci := 5) (C := RX5) (T := TX5) (N := 55) hx hb hts in_X5 tyX5 tyX5_ok nmX5 hown hK hM hIx hS mS_0 rfl 1 (by decide) (hts _ q1369) rfl rfl rfl hf dX5_cut_2 (fun g1 H locs hf hM hS => ?_)
  refine lv_aload_n hx hb dX5_cut_5 rfl (lv_at hl 0 rfl) ?_
  refine lv_iload_n hx hb dX5_cut_6 rfl (lv_at hl 1 rfl) ?_
  obtain ⟨y2, hq, hf⟩ := hbind hf
  refine hr_calli0 (va_runV (As := [.int p0]) (rest := []) ⟨hx, hb, hml, hown, hts⟩ (met_m_isPerson l D C a0 s0 ad so t lt g1 p0 hq) (cwV 1 hts (lw_V q1655 q1657 qs47 q99 q1658) rfl rfl rfl (by decide +kernel) ⟨Nat.le_of_ble_eq_true rfl, Nat.le_of_ble_eq_true rfl⟩) (hr_preV hZ_c hM hIx hK hZ0 hA0 hS (r := .inr 0) mS_0 (q := (RX5, TX5, 55)) rfl) rfl rfl hl.1 rfl (lv_room (Nat.le_of_ble_eq_true rfl)) dX5_cut_7 ⟨Nat.le_of_ble_eq_true rfl, Nat.le_of_ble_eq_true rfl⟩) hS (fun H locs hM hS => ?_)
  refine hb_if_eq (tgt := 22) hx hb dX5_cut_10 (by decide) hf (fun hf => ?_) (fun hf => ?_)
  · exact w_m_cut_B22 ⟨hx, hb, hr, hml, hown, hts, hlocks, hK, hZ0, hA0⟩ hIx g p0 p1 g1 y2 hf hM hS (lv_sub hl [0] rfl)
  · refine lv_iload_n hx hb dX5_cut_13 rfl (lv_at hl 2 rfl) ?_
    refine hb_if_lt (tgt := 22) hx hb dX5_cut_14 (by decide) hf (fun hf => ?_) (fun hf => ?_)
    · exact w_m_cut_B22 ⟨hx, hb, hr, hml, hown, hts, hlocks, hK, hZ0, hA0⟩ hIx g p0 p1 g1 y2 hf hM hS (lv_sub hl [0] rfl)
    · refine lv_iload_n hx hb dX5_cut_17 rfl (lv_at hl 2 rfl) ?_
      refine lv_iconst (v := 1) hx hb dX5_cut_18 (by decide) ?_
      refine hb_icmp_le (tgt := 28) hx hb dX5_cut_19 (by decide) hf (fun hf => ?_) (fun hf => ?_)
      · refine lv_iconst (v := 0) hx hb dX5_cut_28 (by decide) ?_
        refine lv_istore_n (lv' := [(3, .int (0 : Int32)), (0, .ref (ad (.inr 0))), (1, .int p0), (2, .int p1)]) hx hb dX5_cut_29 rfl hl (by decide) rfl (fun ls hl => ?_)
        refine lv_iconst (v := -1) hx hb dX5_cut_30 (by decide) ?_
        refine lv_istore (lv' := [(4, .int (-1 : Int32)), (3, .int (0 : Int32)), (0, .ref (ad (.inr 0))), (1, .int p0), (2, .int p1)]) hx hb dX5_cut_31 hl (by decide) rfl (fun ls hl => ?_)
        refine lv_aload_n hx hb dX5_cut_33 rfl (lv_at hl 2 rfl) ?_
        refine hr_get (ci := 5) (C := RX5) (T := TX5) (N := 55) (r := .inr 0) hx hb hts in_X5 hown hK hM mS_0 rfl 7 (by decide) (hts _ q1375) rfl (v := .ref (ad (.inr 8))) rfl dX5_cut_34 ?_
        refine lv_bipush (v := 18) hx hb dX5_cut_37 (by decide) ?_
        refine lv_iload_n hx hb dX5_cut_39 rfl (lv_at hl 3 rfl) ?_
        refine lv_iadd hx hb dX5_cut_40 ?_
        refine hm_iald (r := 8) hx hb hK hM 0 mS_8 rfl hf dX5_cut_41 (fun x4 hf => ?_)
        refine hb_if_le (tgt := 57) hx hb dX5_cut_42 (by decide) hf (fun hf => ?_) (fun hf => ?_)
        · exact w_m_cut_B57 ⟨hx, hb, hr, hml, hown, hts, hlocks, hK, hZ0, hA0⟩ hIx g p0 p1 g1 y2 x4 hf hM hS (lv_sub hl [2, 3, 4, 1, 0] rfl)
        · refine lv_aload_n hx hb dX5_cut_45 rfl (lv_at hl 2 rfl) ?_
          refine lv_iload_n hx hb dX5_cut_46 rfl (lv_at hl 3 rfl) ?_
          obtain ⟨y17, hq, hf⟩ := hbind hf
          refine hr_calli0 (va_runV (As := [.int p0]) (rest := []) ⟨hx, hb, hml, hown, hts⟩ (met_m_anyFits l D C a0 s0 ad so t lt g1 p0 hq) (cwV 1 hts (lw_V q1795 q1797 qs68 q99 q1798) rfl rfl rfl (by decide +kernel) ⟨Nat.le_of_ble_eq_true rfl, Nat.le_of_ble_eq_true rfl⟩) (hr_preV hZ_c hM hIx hK hZ0 hA0 hS (r := .inr 0) mS_0 (q := (RX5, TX5, 55)) rfl) rfl rfl hl.1 rfl (lv_room (Nat.le_of_ble_eq_true rfl)) dX5_cut_47 ⟨Nat.le_of_ble_eq_true rfl, Nat.le_of_ble_eq_true rfl⟩) hS (fun H locs hM hS => ?_)
          refine hb_if_ne (tgt := 57) hx hb dX5_cut_50 (by decide) hf (fun hf => ?_) (fun hf => ?_)
          · exact w_m_cut_B57 ⟨hx, hb, hr, hml, hown, hts, hlocks, hK, hZ0, hA0⟩ hIx g p0 p1 g1 y2 x4 hf hM hS (lv_sub hl [2, 3, 4, 1, 0] rfl)
          · refine lv_iconst (v := 1) hx hb dX5_cut_53 (by decide) ?_
            refine lv_goto (tgt := 58) hx hb dX5_cut_54 (by decide) ?_
            exact w_m_cut_B58 ⟨hx, hb, hr, hml, hown, hts, hlocks, hK, hZ0, hA0⟩ hIx g p0 p1 g1 y2 x4 (1 : Int32) hf hM hS (lv_sub hl [2, 3, 4, 1, 0] rfl)
      · exact w_m_cut_B22 ⟨hx, hb, hr, hml, hown, hts, hlocks, hK, hZ0, hA0⟩ hIx g p0 p1 g1 y2 hf hM hS (lv_sub hl [0] rfl)
set_option maxHeartbeats 4000000 in
set_option maxRecDepth 100000 in
theorem met_m_cut (l : Launch) (D : va_G) (C : Nat → Nat) (a0 : Array Value) (s0 : State) (ad : Rl → Nat) (so : Nat → Option hS) (t : hSt) (lt : Rl → Nat → Int64) (g : hSt) (p0 : Int32) (p1 : Int32) {o : Int32 × hSt} (hf : m_cut g p0 p1 = some o) : Met l yX5_cut (ws_ yX5_cut cX5_cut 8 (some .int)) rm_m_cut (va_Pc [.ref (ad (.inr 0)), .int p0, .int p1] (hB D vwCl (hT C) (hA s0) (hZ a0 s0) ad (Sum.elim so (mSH C)) (Sum.elim t g) lt)) (va_Qi (fun (r : Int32) (_ : Unit) => r = o.1) (fun (_ : Unit) (U : State) => hW D vwCl ad (Sum.elim so (mSH C)) (Sum.elim t o.2) lt U.heap) (hA s0)) 0 0 (hA s0) := by
  refine Met.ofW (cc := cX5_cut) (maxL := 8) (ret := (some .int)) (by decide) rfl ?_
  intro p e s m args below meth c s₁ B hml hv
  obtain ⟨rfl, hM, hIx, hK, hZ0, hA0⟩ := hv
  have hl := lv_entry ([.ref (ad (.inr 0)), .int p0, .int p1]) (n := 8) (Nat.le_of_ble_eq_true rfl)
  rw [lg_entry_eq]
  generalize (lg_sl ([.ref (ad (.inr 0)), .int p0, .int p1]) ++ List.replicate (8 - (lg_sl ([.ref (ad (.inr 0)), .int p0, .int p1])).length) Slot.unset).toArray = ls at hl ⊢
  have hl : lv_has ls 8 [(0, .ref (ad (.inr 0))), (1, .int p0), (2, .int p1)] := hl
  exact w_m_cut ⟨B.exec, B.bytes, B.returns, hml, findClass_of_methodNamed B.named, fun w h => atoms_spec (ws := ws_ yX5_cut cX5_cut 8 (some .int)) B.pre w (List.mem_cons_of_mem _ h), B.notSynchronized, hK, hZ0, hA0⟩ hIx g p0 p1 hf hM va_S.rf hl

def rm_m_keep : Room := { frames := 3, cells := 0, slots := 0, locals := 39 }
set_option maxHeartbeats 4000000 in
set_option maxRecDepth 100000 in
theorem w_m_keep_L30 {p : Program} {l : Launch} {e : Env} {s : State} {m : MethodId} {args : Array Value} {below : List Frame} {meth : Method} {c : Code} {D : va_G} {C : Nat → Nat} {a0 : Array Value} {s0 : State} {ad : Rl → Nat} {so : Nat → Option hS} {t : hSt} {lt : Rl → Nat → Int64} (CX : hCx D C a0 s0 p s m args meth c cX5_keep 7 RX5 (some .int)) (hIx : hI (hA s0) ad (Sum.elim so (mSH C))) (g : hSt) (p0 : Int32) (p1 : Int32) (g1 : hSt) (y2 : Int32) {oM : Int32 × hSt} (x : (Int32) ⊕ (Int32 × hSt)) (n : Nat) (q0 : Int32 × Int32 × Int32) (h0 : hiter (fun q : Int32 × Int32 × Int32 => m_keep_L30 p0 p1 g1 q.1 q.2.1 q.2.2) n q0 = some x) (kx0 : ∀ x' : Int32, x = .inl x' → ∀ (H : Heap) (locs : List Loc) (ls : Array Slot), hW D vwCl ad (Sum.elim so (mSH C)) (Sum.elim t g1) lt H → va_S (hA s0) s.heap H locs → lv_has ls 7 [(0, .ref (ad (.inr 0))), (2, .int p1), (3, .int x')] → W p l e rm_m_keep s m args below meth c H locs 0 0 (MQ below (va_Qi (fun (r : Int32) (_ : Unit) => r = oM.1) (fun (_ : Unit) (U : State) => hW D vwCl ad (Sum.elim so (mSH C)) (Sum.elim t oM.2) lt U.heap) (hA s0)) args s 0 0 (hA s0)) (F0 m 74 ls [])) (kr0 : ∀ r : Int32 × hSt, x = .inr r → r = oM) : ∀ (H : Heap) (locs : List Loc) (ls : Array Slot), hW D vwCl ad (Sum.elim so (mSH C)) (Sum.elim t g1) lt H → va_S (hA s0) s.heap H locs → lv_has ls 7 [(0, .ref (ad (.inr 0))), (1, .int p0), (2, .int p1), (3, .int q0.1), (4, .int q0.2.1), (5, .int q0.2.2)] → W p l e rm_m_keep s m args below meth c H locs 0 0 (MQ below (va_Qi (fun (r : Int32) (_ : Unit) => r = oM.1) (fun (_ : Unit) (U : State) => hW D vwCl ad (Sum.elim so (mSH C)) (Sum.elim t oM.2) lt U.heap) (hA s0)) args s 0 0 (hA s0)) (F0 m 30 ls []) := by
  obtain ⟨hx, hb, hr, hml, hown, hts, hlocks, hK, hZ0, hA0⟩ := CX
  refine hiter_W (Wh := fun q => ∀ (H : Heap) (locs : List Loc) (ls : Array Slot), hW D vwCl ad (Sum.elim so (mSH C)) (Sum.elim t g1) lt H → va_S (hA s0) s.heap H locs → lv_has ls 7 [(0, .ref (ad (.inr 0))), (1, .int p0), (2, .int p1), (3, .int q.1), (4, .int q.2.1), (5, .int q.2.2)] → W p l e rm_m_keep s m args below meth c H locs 0 0 (MQ below (va_Qi (fun (r : Int32) (_ : Unit) => r = oM.1) (fun (_ : Unit) (U : State) => hW D vwCl ad (Sum.elim so (mSH C)) (Sum.elim t oM.2) lt U.heap) (hA s0)) args s 0 0 (hA s0)) (F0 m 30 ls [])) ?_ n q0 h0
  intro q o hf kc kx1 H locs ls hM hS hl
  obtain ⟨v3_30, v4_30, v5_30⟩ := q
  replace hf : m_keep_L30 p0 p1 g1 v3_30 v4_30 v5_30 = some o := hf
  have kx : ∀ x' : Int32, o = .inr (.inl x') → ∀ (H : Heap) (locs : List Loc) (ls : Array Slot), hW D vwCl ad (Sum.elim so (mSH C)) (Sum.elim t g1) lt H → va_S (hA s0) s.heap H locs → lv_has ls 7 [(0, .ref (ad (.inr 0))), (2, .int p1), (3, .int x')] → W p l e rm_m_keep s m args below meth c H locs 0 0 (MQ below (va_Qi (fun (r : Int32) (_ : Unit) => r = oM.1) (fun (_ : Unit) (U : State) => hW D vwCl ad (Sum.elim so (mSH C)) (Sum.elim t oM.2) lt U.heap) (hA s0)) args s 0 0 (hA s0)) (F0 m 74 ls []) := fun x' ex => kx0 x' (kx1 _ ex).symm
  have kr : ∀ r : Int32 × hSt, o = .inr (.inr r) → r = oM := fun r ex => kr0 r (kx1 _ ex).symm
  unfold m_keep_L30 at hf
  refine lv_iload hx hb dX5_keep_30 (lv_at hl 4 rfl) ?_
  refine lv_iload_n hx hb dX5_keep_32 rfl (lv_at hl 1 rfl) ?_
  refine hb_icmp_ge (tgt := 74) hx hb dX5_keep_33 (by decide) hf (fun hf => ?_) (fun hf => ?_)
  · exact kx v3_30 (Option.some.inj hf).symm H locs ls hM hS (lv_sub hl [0, 2, 3] rfl)
  · refine lv_iload hx hb dX5_keep_36 (lv_at hl 5 rfl) ?_
    refine lv_iload_n hx hb dX5_keep_38 rfl (lv_at hl 1 rfl) ?_
    refine lv_iload hx hb dX5_keep_39 (lv_at hl 4 rfl) ?_
    refine lv_isub hx hb dX5_keep_41 ?_
    refine va_mmin hx hb (by rw [hml]; exact hl.1.symm) hown (hts _ q1566) (hts _ q258) (hts _ q90) (hts _ q259) (Nat.le_of_ble_eq_true rfl) (Nat.le_of_ble_eq_true rfl) (Nat.le_of_ble_eq_true rfl) (Nat.le_of_ble_eq_true rfl) dX5_keep_42 ?_
    refine hb_top hf (fun y6_3 hf => ?_)
    refine lv_istore (lv' := [(6, .int y6_3), (0, .ref (ad (.inr 0))), (1, .int p0), (2, .int p1), (3, .int v3_30), (4, .int v4_30), (5, .int v5_30)]) hx hb dX5_keep_45 hl (by decide) rfl (fun ls hl => ?_)
    refine lv_iload_n hx hb dX5_keep_47 rfl (lv_at hl 4 rfl) ?_
    refine lv_iload_n hx hb dX5_keep_48 rfl (lv_at hl 3 rfl) ?_
    refine hb_icmp_ne (tgt := 55) hx hb dX5_keep_49 (by decide) hf (fun hf => ?_) (fun hf => ?_)
    · refine lv_iload hx hb dX5_keep_55 (lv_at hl 5 rfl) ?_
      refine lv_iload hx hb dX5_keep_57 (lv_at hl 0 rfl) ?_
      refine lv_iadd hx hb dX5_keep_59 ?_
      refine hb_top hf (fun y4_4 hf => ?_)
      refine lv_istore (lv' := [(4, .int y4_4), (6, .int y6_3), (0, .ref (ad (.inr 0))), (1, .int p0), (2, .int p1), (3, .int v3_30), (5, .int v5_30)]) hx hb dX5_keep_60 hl (by decide) rfl (fun ls hl => ?_)
      obtain ⟨y3_5, ey, hf⟩ := hlet_ex hf
      refine lv_iinc (v := y3_5) (lv' := [(3, .int y3_5), (4, .int y4_4), (6, .int y6_3), (0, .ref (ad (.inr 0))), (1, .int p0), (2, .int p1), (5, .int v5_30)]) hx hb dX5_keep_62 hl (k := 5) rfl (by rw [ey]; rfl) (by decide) rfl (fun ls hl => ?_)
      refine lv_iload hx hb dX5_keep_65 (lv_at hl 6 rfl) ?_
      refine lv_iconst (v := 2) hx hb dX5_keep_67 (by decide) ?_
      refine lv_imul hx hb dX5_keep_68 ?_
      refine hb_top hf (fun y5_6 hf => ?_)
      refine lv_istore (lv' := [(5, .int y5_6), (3, .int y3_5), (4, .int y4_4), (6, .int y6_3), (0, .ref (ad (.inr 0))), (1, .int p0), (2, .int p1)]) hx hb dX5_keep_69 hl (by decide) rfl (fun ls hl => ?_)
      refine lv_goto (tgt := 30) hx hb dX5_keep_71 (by decide) ?_
      exact kc (y3_5, y4_4, y5_6) (Option.some.inj hf).symm H locs ls hM hS (lv_sub hl [4, 5, 6, 1, 2, 0] rfl)
    · refine lv_iload hx hb dX5_keep_52 (lv_at hl 0 rfl) ?_
      have eo := kr (y6_3, g1) (Option.some.inj hf).symm
      subst eo
      exact W.iret (v := y6_3) hx hb hr (fun T ht hW => ⟨⟨y6_3, (), rfl, rfl, by dsimp only; rw [ht]; exact hM⟩, hS.F ht⟩) hS.2.2 dX5_keep_54
set_option maxHeartbeats 4000000 in
set_option maxRecDepth 100000 in
theorem w_m_keep {p : Program} {l : Launch} {e : Env} {s : State} {m : MethodId} {args : Array Value} {below : List Frame} {meth : Method} {c : Code} {D : va_G} {C : Nat → Nat} {a0 : Array Value} {s0 : State} {ad : Rl → Nat} {so : Nat → Option hS} {t : hSt} {lt : Rl → Nat → Int64} (CX : hCx D C a0 s0 p s m args meth c cX5_keep 7 RX5 (some .int)) (hIx : hI (hA s0) ad (Sum.elim so (mSH C))) (g : hSt) (p0 : Int32) (p1 : Int32) {o : Int32 × hSt} (hf : m_keep g p0 p1 = some o) {H : Heap} {locs : List Loc} (hM : hW D vwCl ad (Sum.elim so (mSH C)) (Sum.elim t g) lt H) (hS : va_S (hA s0) s.heap H locs) {ls : Array Slot} (hl : lv_has ls 7 [(0, .ref (ad (.inr 0))), (1, .int p0), (2, .int p1)]) : W p l e rm_m_keep s m args below meth c H locs 0 0 (MQ below (va_Qi (fun (r : Int32) (_ : Unit) => r = o.1) (fun (_ : Unit) (U : State) => hW D vwCl ad (Sum.elim so (mSH C)) (Sum.elim t o.2) lt U.heap) (hA s0)) args s 0 0 (hA s0)) (F0 m 0 ls []) := by
  obtain ⟨hx, hb, hr, hml, hown, hts, hlocks, hK, hZ0, hA0⟩ := CX
  unfold m_keep at hf
  refine lv_aload_n hx hb dX5_keep_0 rfl (lv_at hl 0 rfl) ?_
  refine lv_iconst (v := 0) hx hb dX5_keep_1 (by decide) ?_
  refine hm_put (r := 0) (ci := 5) (C := RX5) (T := TX5) (N := 55) hx hb hts in_X5 tyX5 tyX5_ok nmX5 hown hK hM hIx hS mS_0 rfl 1 (by decide) (hts _ q1369) rfl rfl rfl hf dX5_keep_2 (fun g1 H locs hf hM hS => ?_)
  refine lv_iload_n hx hb dX5_keep_5 rfl (lv_at hl 1 rfl) ?_
  refine lv_iconst (v := 1) hx hb dX5_keep_6 (by decide) ?_
  refine lv_sipush (v := 999) hx hb dX5_keep_7 (by decide) ?_
  obtain ⟨y2, hq, hf⟩ := hbind hf
  refine hr_calli0 (va_runS (As := [.int p0, .int (1 : Int32), .int (999 : Int32)]) (rest := []) ⟨hx, hb, hml, hown, hts⟩ (met_m_isIn l D C a0 s0 ad so (Sum.elim t g1) lt p0 (1 : Int32) (999 : Int32) hq) (va_cwS 3 hts (lw_S q1648 q1649 q99 q1650) rfl rfl rfl (by decide +kernel) ⟨Nat.le_of_ble_eq_true rfl, Nat.le_of_ble_eq_true rfl⟩) (hr_preS hZ_c hM hIx hK hZ0 hA0 hS) rfl rfl hl.1 rfl (lv_room (Nat.le_of_ble_eq_true rfl)) dX5_keep_10 ⟨Nat.le_of_ble_eq_true rfl, Nat.le_of_ble_eq_true rfl⟩) hS (fun H locs hM hS => ?_)
  refine hb_if_ne (tgt := 22) hx hb dX5_keep_13 (by decide) hf (fun hf => ?_) (fun hf => ?_)
  · refine lv_iconst (v := 0) hx hb dX5_keep_22 (by decide) ?_
    refine lv_istore_n (lv' := [(3, .int (0 : Int32)), (0, .ref (ad (.inr 0))), (1, .int p0), (2, .int p1)]) hx hb dX5_keep_23 rfl hl (by decide) rfl (fun ls hl => ?_)
    refine lv_iconst (v := 0) hx hb dX5_keep_24 (by decide) ?_
    refine lv_istore (lv' := [(4, .int (0 : Int32)), (3, .int (0 : Int32)), (0, .ref (ad (.inr 0))), (1, .int p0), (2, .int p1)]) hx hb dX5_keep_25 hl (by decide) rfl (fun ls hl => ?_)
    refine lv_iconst (v := 1) hx hb dX5_keep_27 (by decide) ?_
    refine lv_istore (lv' := [(5, .int (1 : Int32)), (4, .int (0 : Int32)), (3, .int (0 : Int32)), (0, .ref (ad (.inr 0))), (1, .int p0), (2, .int p1)]) hx hb dX5_keep_28 hl (by decide) rfl (fun ls hl => ?_)
    obtain ⟨x7, hq, hf⟩ := hbind hf
    refine w_m_keep_L30 ⟨hx, hb, hr, hml, hown, hts, hlocks, hK, hZ0, hA0⟩ hIx g p0 p1 g1 y2 x7 hFU ((0 : Int32), (0 : Int32), (1 : Int32)) hq (fun e8 ex1 H locs ls hM hS hl => ?_) (fun r er => ?_) H locs ls hM hS (lv_sub hl [3, 4, 5, 2, 1, 0] rfl)
    · subst ex1
      replace hf := hcase_l hf
      refine lv_iload_n hx hb dX5_keep_74 rfl (lv_at hl 1 rfl) ?_
      refine lv_iconst (v := -1) hx hb dX5_keep_75 (by decide) ?_
      refine hb_icmp_ne (tgt := 83) hx hb dX5_keep_76 (by decide) hf (fun hf => ?_) (fun hf => ?_)
      · refine lv_aload_n hx hb dX5_keep_83 rfl (lv_at hl 0 rfl) ?_
        refine lv_iconst (v := 1) hx hb dX5_keep_84 (by decide) ?_
        obtain ⟨y9, hq, hf⟩ := hbind hf
        refine hr_calli0 (va_runV (As := [.int (1 : Int32)]) (rest := []) ⟨hx, hb, hml, hown, hts⟩ (met_m_fail l D C a0 s0 ad so t lt g1 (1 : Int32) hq) (cwV 1 hts (lw_V q1547 q1549 qs33 q99 q1550) rfl rfl rfl (by decide +kernel) ⟨Nat.le_of_ble_eq_true rfl, Nat.le_of_ble_eq_true rfl⟩) (hr_preV hZ_c hM hIx hK hZ0 hA0 hS (r := .inr 0) mS_0 (q := (RX5, TX5, 55)) rfl) rfl rfl hl.1 rfl (lv_room (Nat.le_of_ble_eq_true rfl)) dX5_keep_85 ⟨Nat.le_of_ble_eq_true rfl, Nat.le_of_ble_eq_true rfl⟩) hS (fun H locs hM hS => ?_)
        have eo := Option.some.inj hf
        subst eo
        exact W.iret (v := y9.1) hx hb hr (fun T ht hW => ⟨⟨y9.1, (), rfl, rfl, by dsimp only; rw [ht]; exact hM⟩, hS.F ht⟩) hS.2.2 dX5_keep_88
      · refine lv_iload_n hx hb dX5_keep_79 rfl (lv_at hl 2 rfl) ?_
        refine lv_goto (tgt := 88) hx hb dX5_keep_80 (by decide) ?_
        have eo := Option.some.inj hf
        subst eo
        exact W.iret (v := e8) hx hb hr (fun T ht hW => ⟨⟨e8, (), rfl, rfl, by dsimp only; rw [ht]; exact hM⟩, hS.F ht⟩) hS.2.2 dX5_keep_88
    · subst er
      first | exact Option.some.inj (hcase_r hf) | exact Option.some.inj hf
  · refine lv_aload_n hx hb dX5_keep_16 rfl (lv_at hl 0 rfl) ?_
    refine lv_iconst (v := 2) hx hb dX5_keep_17 (by decide) ?_
    obtain ⟨y10, hq, hf⟩ := hbind hf
    refine hr_calli0 (va_runV (As := [.int (2 : Int32)]) (rest := []) ⟨hx, hb, hml, hown, hts⟩ (met_m_fail l D C a0 s0 ad so t lt g1 (2 : Int32) hq) (cwV 1 hts (lw_V q1547 q1549 qs33 q99 q1550) rfl rfl rfl (by decide +kernel) ⟨Nat.le_of_ble_eq_true rfl, Nat.le_of_ble_eq_true rfl⟩) (hr_preV hZ_c hM hIx hK hZ0 hA0 hS (r := .inr 0) mS_0 (q := (RX5, TX5, 55)) rfl) rfl rfl hl.1 rfl (lv_room (Nat.le_of_ble_eq_true rfl)) dX5_keep_18 ⟨Nat.le_of_ble_eq_true rfl, Nat.le_of_ble_eq_true rfl⟩) hS (fun H locs hM hS => ?_)
    have eo := Option.some.inj hf
    subst eo
    exact W.iret (v := y10.1) hx hb hr (fun T ht hW => ⟨⟨y10.1, (), rfl, rfl, by dsimp only; rw [ht]; exact hM⟩, hS.F ht⟩) hS.2.2 dX5_keep_21
set_option maxHeartbeats 4000000 in
set_option maxRecDepth 100000 in
theorem met_m_keep (l : Launch) (D : va_G) (C : Nat → Nat) (a0 : Array Value) (s0 : State) (ad : Rl → Nat) (so : Nat → Option hS) (t : hSt) (lt : Rl → Nat → Int64) (g : hSt) (p0 : Int32) (p1 : Int32) {o : Int32 × hSt} (hf : m_keep g p0 p1 = some o) : Met l yX5_keep (ws_ yX5_keep cX5_keep 7 (some .int)) rm_m_keep (va_Pc [.ref (ad (.inr 0)), .int p0, .int p1] (hB D vwCl (hT C) (hA s0) (hZ a0 s0) ad (Sum.elim so (mSH C)) (Sum.elim t g) lt)) (va_Qi (fun (r : Int32) (_ : Unit) => r = o.1) (fun (_ : Unit) (U : State) => hW D vwCl ad (Sum.elim so (mSH C)) (Sum.elim t o.2) lt U.heap) (hA s0)) 0 0 (hA s0) := by
  refine Met.ofW (cc := cX5_keep) (maxL := 7) (ret := (some .int)) (by decide) rfl ?_
  intro p e s m args below meth c s₁ B hml hv
  obtain ⟨rfl, hM, hIx, hK, hZ0, hA0⟩ := hv
  have hl := lv_entry ([.ref (ad (.inr 0)), .int p0, .int p1]) (n := 7) (Nat.le_of_ble_eq_true rfl)
  rw [lg_entry_eq]
  generalize (lg_sl ([.ref (ad (.inr 0)), .int p0, .int p1]) ++ List.replicate (7 - (lg_sl ([.ref (ad (.inr 0)), .int p0, .int p1])).length) Slot.unset).toArray = ls at hl ⊢
  have hl : lv_has ls 7 [(0, .ref (ad (.inr 0))), (1, .int p0), (2, .int p1)] := hl
  exact w_m_keep ⟨B.exec, B.bytes, B.returns, hml, findClass_of_methodNamed B.named, fun w h => atoms_spec (ws := ws_ yX5_keep cX5_keep 7 (some .int)) B.pre w (List.mem_cons_of_mem _ h), B.notSynchronized, hK, hZ0, hA0⟩ hIx g p0 p1 hf hM va_S.rf hl

def rm_m_tellWeights : Room := { frames := 1, cells := 0, slots := 0, locals := 16 }
set_option maxHeartbeats 4000000 in
set_option maxRecDepth 100000 in
theorem w_m_tellWeights_B26 {p : Program} {l : Launch} {e : Env} {s : State} {m : MethodId} {args : Array Value} {below : List Frame} {meth : Method} {c : Code} {D : va_G} {C : Nat → Nat} {a0 : Array Value} {s0 : State} {ad : Rl → Nat} {so : Nat → Option hS} {t : hSt} {lt : Rl → Nat → Int64} (CX : hCx D C a0 s0 p s m args meth c cX5_tellWeights 5 RX5 (none)) (hIx : hI (hA s0) ad (Sum.elim so (mSH C))) (g : hSt) (p0 : Int32) (p1 : Int32) (v3_2 : Int32) (g_2 : hSt) (k0_26 : Int32) (k1_26 : Int32) {oM : hSt} {o : (Int32 × hSt) ⊕ (hSt)} (hf : m_tellWeights_B26 v3_2 g_2 k0_26 k1_26 = some o) (kc : ∀ s' : Int32 × hSt, o = .inl s' → ∀ (H : Heap) (locs : List Loc) (ls : Array Slot), hW D vwCl ad (Sum.elim so (mSH C)) (Sum.elim t s'.2) lt H → va_S (hA s0) s.heap H locs → lv_has ls 5 [(0, .ref (ad (.inr 0))), (1, .int p0), (2, .int p1), (3, .int s'.1)] → W p l e rm_m_tellWeights s m args below meth c H locs 0 0 (MQ below (va_Qv (fun (_ : Unit) => True) (fun (_ : Unit) (U : State) => hW D vwCl ad (Sum.elim so (mSH C)) (Sum.elim t oM) lt U.heap) (hA s0)) args s 0 0 (hA s0)) (F0 m 2 ls [])) (kx : ∀ x' : hSt, o = .inr x' → ∀ (H : Heap) (locs : List Loc) (ls : Array Slot), hW D vwCl ad (Sum.elim so (mSH C)) (Sum.elim t x') lt H → va_S (hA s0) s.heap H locs → lv_has ls 5 [(0, .ref (ad (.inr 0))), (1, .int p0)] → W p l e rm_m_tellWeights s m args below meth c H locs 0 0 (MQ below (va_Qv (fun (_ : Unit) => True) (fun (_ : Unit) (U : State) => hW D vwCl ad (Sum.elim so (mSH C)) (Sum.elim t oM) lt U.heap) (hA s0)) args s 0 0 (hA s0)) (F0 m 33 ls [])) {H : Heap} {locs : List Loc} (hM : hW D vwCl ad (Sum.elim so (mSH C)) (Sum.elim t g_2) lt H) (hS : va_S (hA s0) s.heap H locs) {ls : Array Slot} (hl : lv_has ls 5 [(0, .ref (ad (.inr 0))), (1, .int p0), (2, .int p1), (3, .int v3_2)]) : W p l e rm_m_tellWeights s m args below meth c H locs 0 0 (MQ below (va_Qv (fun (_ : Unit) => True) (fun (_ : Unit) (U : State) => hW D vwCl ad (Sum.elim so (mSH C)) (Sum.elim t oM) lt U.heap) (hA s0)) args s 0 0 (hA s0)) (F0 m 26 ls [.int k0_26, .int k1_26, .ref (ad (.inr 47))]) := by
  obtain ⟨hx, hb, hr, hml, hown, hts, hlocks, hK, hZ0, hA0⟩ := CX
  unfold m_tellWeights_B26 at hf
  refine hm_zast (r := 47) hx hb hK hM hIx hS 2 mS_47 rfl hf dX5_tellWeights_26 (fun g1 H locs hf hM hS => ?_)
  obtain ⟨y3_2, ey, hf⟩ := hlet_ex hf
  refine lv_iinc (v := y3_2) (lv' := [(3, .int y3_2), (0, .ref (ad (.inr 0))), (1, .int p0), (2, .int p1)]) hx hb dX5_tellWeights_27 hl (k := 3) rfl (by rw [ey]; rfl) (by decide) rfl (fun ls hl => ?_)
  refine lv_goto (tgt := 2) hx hb dX5_tellWeights_30 (by decide) ?_
  exact kc (y3_2, g1) (Option.some.inj hf).symm H locs ls hM hS (lv_sub hl [1, 2, 3, 0] rfl)
set_option maxHeartbeats 4000000 in
set_option maxRecDepth 100000 in
theorem w_m_tellWeights_L2 {p : Program} {l : Launch} {e : Env} {s : State} {m : MethodId} {args : Array Value} {below : List Frame} {meth : Method} {c : Code} {D : va_G} {C : Nat → Nat} {a0 : Array Value} {s0 : State} {ad : Rl → Nat} {so : Nat → Option hS} {t : hSt} {lt : Rl → Nat → Int64} (CX : hCx D C a0 s0 p s m args meth c cX5_tellWeights 5 RX5 (none)) (hIx : hI (hA s0) ad (Sum.elim so (mSH C))) (g : hSt) (p0 : Int32) (p1 : Int32) {oM : hSt} (x : hSt) (n : Nat) (q0 : Int32 × hSt) (h0 : hiter (fun q : Int32 × hSt => m_tellWeights_L2 p1 q.1 q.2) n q0 = some x) (kx0 : ∀ (H : Heap) (locs : List Loc) (ls : Array Slot), hW D vwCl ad (Sum.elim so (mSH C)) (Sum.elim t x) lt H → va_S (hA s0) s.heap H locs → lv_has ls 5 [(0, .ref (ad (.inr 0))), (1, .int p0)] → W p l e rm_m_tellWeights s m args below meth c H locs 0 0 (MQ below (va_Qv (fun (_ : Unit) => True) (fun (_ : Unit) (U : State) => hW D vwCl ad (Sum.elim so (mSH C)) (Sum.elim t oM) lt U.heap) (hA s0)) args s 0 0 (hA s0)) (F0 m 33 ls [])) : ∀ (H : Heap) (locs : List Loc) (ls : Array Slot), hW D vwCl ad (Sum.elim so (mSH C)) (Sum.elim t q0.2) lt H → va_S (hA s0) s.heap H locs → lv_has ls 5 [(0, .ref (ad (.inr 0))), (1, .int p0), (2, .int p1), (3, .int q0.1)] → W p l e rm_m_tellWeights s m args below meth c H locs 0 0 (MQ below (va_Qv (fun (_ : Unit) => True) (fun (_ : Unit) (U : State) => hW D vwCl ad (Sum.elim so (mSH C)) (Sum.elim t oM) lt U.heap) (hA s0)) args s 0 0 (hA s0)) (F0 m 2 ls []) := by
  obtain ⟨hx, hb, hr, hml, hown, hts, hlocks, hK, hZ0, hA0⟩ := CX
  refine hiter_W (Wh := fun q => ∀ (H : Heap) (locs : List Loc) (ls : Array Slot), hW D vwCl ad (Sum.elim so (mSH C)) (Sum.elim t q.2) lt H → va_S (hA s0) s.heap H locs → lv_has ls 5 [(0, .ref (ad (.inr 0))), (1, .int p0), (2, .int p1), (3, .int q.1)] → W p l e rm_m_tellWeights s m args below meth c H locs 0 0 (MQ below (va_Qv (fun (_ : Unit) => True) (fun (_ : Unit) (U : State) => hW D vwCl ad (Sum.elim so (mSH C)) (Sum.elim t oM) lt U.heap) (hA s0)) args s 0 0 (hA s0)) (F0 m 2 ls [])) ?_ n q0 h0
  intro q o hf kc kx1 H locs ls hM hS hl
  obtain ⟨v3_2, g_2⟩ := q
  replace hf : m_tellWeights_L2 p1 v3_2 g_2 = some o := hf
  have kx : ∀ x' : hSt, o = .inr x' → ∀ (H : Heap) (locs : List Loc) (ls : Array Slot), hW D vwCl ad (Sum.elim so (mSH C)) (Sum.elim t x') lt H → va_S (hA s0) s.heap H locs → lv_has ls 5 [(0, .ref (ad (.inr 0))), (1, .int p0)] → W p l e rm_m_tellWeights s m args below meth c H locs 0 0 (MQ below (va_Qv (fun (_ : Unit) => True) (fun (_ : Unit) (U : State) => hW D vwCl ad (Sum.elim so (mSH C)) (Sum.elim t oM) lt U.heap) (hA s0)) args s 0 0 (hA s0)) (F0 m 33 ls []) := fun x' ex => by rw [kx1 _ ex]; exact kx0
  unfold m_tellWeights_L2 at hf
  refine lv_iload_n hx hb dX5_tellWeights_2 rfl (lv_at hl 3 rfl) ?_
  refine lv_aload_n hx hb dX5_tellWeights_3 rfl (lv_at hl 0 rfl) ?_
  refine hr_get (ci := 5) (C := RX5) (T := TX5) (N := 55) (r := .inr 0) hx hb hts in_X5 hown hK hM mS_0 rfl 46 (by decide) (hts _ q1414) rfl (v := .ref (ad (.inr 47))) rfl dX5_tellWeights_4 ?_
  refine hr_alen hx hb hK hM 2 (r := .inr 47) mS_47 rfl (v := 4000) rfl dX5_tellWeights_7 ?_
  refine hb_icmp_ge (tgt := 33) hx hb dX5_tellWeights_8 (by decide) hf (fun hf => ?_) (fun hf => ?_)
  · exact kx g_2 (Option.some.inj hf).symm H locs ls hM hS (lv_sub hl [0, 1] rfl)
  · refine lv_aload_n hx hb dX5_tellWeights_11 rfl (lv_at hl 0 rfl) ?_
    refine hr_get (ci := 5) (C := RX5) (T := TX5) (N := 55) (r := .inr 0) hx hb hts in_X5 hown hK hM mS_0 rfl 46 (by decide) (hts _ q1414) rfl (v := .ref (ad (.inr 47))) rfl dX5_tellWeights_12 ?_
    refine lv_iload_n hx hb dX5_tellWeights_15 rfl (lv_at hl 3 rfl) ?_
    refine lv_iload_n hx hb dX5_tellWeights_16 rfl (lv_at hl 3 rfl) ?_
    refine lv_iload_n hx hb dX5_tellWeights_17 rfl (lv_at hl 2 rfl) ?_
    refine hb_icmp_gt (tgt := 25) hx hb dX5_tellWeights_18 (by decide) hf (fun hf => ?_) (fun hf => ?_)
    · refine lv_iconst (v := 0) hx hb dX5_tellWeights_25 (by decide) ?_
      exact w_m_tellWeights_B26 ⟨hx, hb, hr, hml, hown, hts, hlocks, hK, hZ0, hA0⟩ hIx g p0 p1 v3_2 g_2 (0 : Int32) v3_2 hf kc kx hM hS (lv_sub hl [0, 1, 2, 3] rfl)
    · refine lv_iconst (v := 1) hx hb dX5_tellWeights_21 (by decide) ?_
      refine lv_goto (tgt := 26) hx hb dX5_tellWeights_22 (by decide) ?_
      exact w_m_tellWeights_B26 ⟨hx, hb, hr, hml, hown, hts, hlocks, hK, hZ0, hA0⟩ hIx g p0 p1 v3_2 g_2 (1 : Int32) v3_2 hf kc kx hM hS (lv_sub hl [0, 1, 2, 3] rfl)
set_option maxHeartbeats 4000000 in
set_option maxRecDepth 100000 in
theorem w_m_tellWeights_L65 {p : Program} {l : Launch} {e : Env} {s : State} {m : MethodId} {args : Array Value} {below : List Frame} {meth : Method} {c : Code} {D : va_G} {C : Nat → Nat} {a0 : Array Value} {s0 : State} {ad : Rl → Nat} {so : Nat → Option hS} {t : hSt} {lt : Rl → Nat → Int64} (CX : hCx D C a0 s0 p s m args meth c cX5_tellWeights 5 RX5 (none)) (hIx : hI (hA s0) ad (Sum.elim so (mSH C))) (g : hSt) (p0 : Int32) (p1 : Int32) (x3 : hSt) (v3_35 : Int32) (g_35 : hSt) (x4 : Int32) (y4_5 : Int32) {oM : hSt} (x : hSt) (n : Nat) (q0 : Int32 × hSt) (h0 : hiter (fun q : Int32 × hSt => m_tellWeights_L65 v3_35 q.1 q.2) n q0 = some x) (kx0 : ∀ (H : Heap) (locs : List Loc) (ls : Array Slot), hW D vwCl ad (Sum.elim so (mSH C)) (Sum.elim t x) lt H → va_S (hA s0) s.heap H locs → lv_has ls 5 [(0, .ref (ad (.inr 0))), (1, .int p0), (3, .int v3_35)] → W p l e rm_m_tellWeights s m args below meth c H locs 0 0 (MQ below (va_Qv (fun (_ : Unit) => True) (fun (_ : Unit) (U : State) => hW D vwCl ad (Sum.elim so (mSH C)) (Sum.elim t oM) lt U.heap) (hA s0)) args s 0 0 (hA s0)) (F0 m 106 ls [])) : ∀ (H : Heap) (locs : List Loc) (ls : Array Slot), hW D vwCl ad (Sum.elim so (mSH C)) (Sum.elim t q0.2) lt H → va_S (hA s0) s.heap H locs → lv_has ls 5 [(0, .ref (ad (.inr 0))), (1, .int p0), (3, .int v3_35), (4, .int q0.1)] → W p l e rm_m_tellWeights s m args below meth c H locs 0 0 (MQ below (va_Qv (fun (_ : Unit) => True) (fun (_ : Unit) (U : State) => hW D vwCl ad (Sum.elim so (mSH C)) (Sum.elim t oM) lt U.heap) (hA s0)) args s 0 0 (hA s0)) (F0 m 65 ls []) := by
  obtain ⟨hx, hb, hr, hml, hown, hts, hlocks, hK, hZ0, hA0⟩ := CX
  refine hiter_W (Wh := fun q => ∀ (H : Heap) (locs : List Loc) (ls : Array Slot), hW D vwCl ad (Sum.elim so (mSH C)) (Sum.elim t q.2) lt H → va_S (hA s0) s.heap H locs → lv_has ls 5 [(0, .ref (ad (.inr 0))), (1, .int p0), (3, .int v3_35), (4, .int q.1)] → W p l e rm_m_tellWeights s m args below meth c H locs 0 0 (MQ below (va_Qv (fun (_ : Unit) => True) (fun (_ : Unit) (U : State) => hW D vwCl ad (Sum.elim so (mSH C)) (Sum.elim t oM) lt U.heap) (hA s0)) args s 0 0 (hA s0)) (F0 m 65 ls [])) ?_ n q0 h0
  intro q o hf kc kx1 H locs ls hM hS hl
  obtain ⟨v4_65, g_65⟩ := q
  replace hf : m_tellWeights_L65 v3_35 v4_65 g_65 = some o := hf
  have kx : ∀ x' : hSt, o = .inr x' → ∀ (H : Heap) (locs : List Loc) (ls : Array Slot), hW D vwCl ad (Sum.elim so (mSH C)) (Sum.elim t x') lt H → va_S (hA s0) s.heap H locs → lv_has ls 5 [(0, .ref (ad (.inr 0))), (1, .int p0), (3, .int v3_35)] → W p l e rm_m_tellWeights s m args below meth c H locs 0 0 (MQ below (va_Qv (fun (_ : Unit) => True) (fun (_ : Unit) (U : State) => hW D vwCl ad (Sum.elim so (mSH C)) (Sum.elim t oM) lt U.heap) (hA s0)) args s 0 0 (hA s0)) (F0 m 106 ls []) := fun x' ex => by rw [kx1 _ ex]; exact kx0
  unfold m_tellWeights_L65 at hf
  refine lv_iload hx hb dX5_tellWeights_65 (lv_at hl 3 rfl) ?_
  refine lv_aload_n hx hb dX5_tellWeights_67 rfl (lv_at hl 0 rfl) ?_
  refine hr_get (ci := 5) (C := RX5) (T := TX5) (N := 55) (r := .inr 0) hx hb hts in_X5 hown hK hM mS_0 rfl 9 (by decide) (hts _ q1377) rfl (v := .ref (ad (.inr 10))) rfl dX5_tellWeights_68 ?_
  refine lv_iload_n hx hb dX5_tellWeights_71 rfl (lv_at hl 2 rfl) ?_
  refine hm_iald (r := 10) hx hb hK hM 0 mS_10 rfl hf dX5_tellWeights_72 (fun x6 hf => ?_)
  refine hb_icmp_lt (tgt := 106) hx hb dX5_tellWeights_73 (by decide) hf (fun hf => ?_) (fun hf => ?_)
  · exact kx g_65 (Option.some.inj hf).symm H locs ls hM hS (lv_sub hl [0, 1, 2] rfl)
  · refine lv_aload_n hx hb dX5_tellWeights_76 rfl (lv_at hl 0 rfl) ?_
    refine hr_get (ci := 5) (C := RX5) (T := TX5) (N := 55) (r := .inr 0) hx hb hts in_X5 hown hK hM mS_0 rfl 46 (by decide) (hts _ q1414) rfl (v := .ref (ad (.inr 47))) rfl dX5_tellWeights_77 ?_
    refine lv_iload hx hb dX5_tellWeights_80 (lv_at hl 3 rfl) ?_
    refine lv_dup2_11 hx hb dX5_tellWeights_82 rfl rfl ?_
    refine hm_zald (r := 47) hx hb hK hM 2 mS_47 rfl hf dX5_tellWeights_83 (fun x7 hf => ?_)
    refine lv_aload_n hx hb dX5_tellWeights_84 rfl (lv_at hl 0 rfl) ?_
    refine hr_get (ci := 5) (C := RX5) (T := TX5) (N := 55) (r := .inr 0) hx hb hts in_X5 hown hK hM mS_0 rfl 46 (by decide) (hts _ q1414) rfl (v := .ref (ad (.inr 47))) rfl dX5_tellWeights_85 ?_
    refine lv_iload hx hb dX5_tellWeights_88 (lv_at hl 3 rfl) ?_
    refine lv_aload_n hx hb dX5_tellWeights_90 rfl (lv_at hl 0 rfl) ?_
    refine hr_get (ci := 5) (C := RX5) (T := TX5) (N := 55) (r := .inr 0) hx hb hts in_X5 hown hK hM mS_0 rfl 9 (by decide) (hts _ q1377) rfl (v := .ref (ad (.inr 10))) rfl dX5_tellWeights_91 ?_
    refine lv_iload_n hx hb dX5_tellWeights_94 rfl (lv_at hl 2 rfl) ?_
    refine hm_iald (r := 10) hx hb hK hM 0 mS_10 rfl hf dX5_tellWeights_95 (fun x8 hf => ?_)
    refine lv_isub hx hb dX5_tellWeights_96 ?_
    refine hm_zald (r := 47) hx hb hK hM 2 mS_47 rfl hf dX5_tellWeights_97 (fun x9 hf => ?_)
    refine lv_ior hx hb dX5_tellWeights_98 ?_
    refine hm_zast (r := 47) hx hb hK hM hIx hS 2 mS_47 rfl hf dX5_tellWeights_99 (fun g10 H locs hf hM hS => ?_)
    obtain ⟨y4_11, ey, hf⟩ := hlet_ex hf
    refine lv_iinc (v := y4_11) (lv' := [(4, .int y4_11), (0, .ref (ad (.inr 0))), (1, .int p0), (3, .int v3_35)]) hx hb dX5_tellWeights_100 hl (k := 3) rfl (by rw [ey]; rfl) (by decide) rfl (fun ls hl => ?_)
    refine lv_goto (tgt := 65) hx hb dX5_tellWeights_103 (by decide) ?_
    exact kc (y4_11, g10) (Option.some.inj hf).symm H locs ls hM hS (lv_sub hl [1, 2, 3, 0] rfl)
set_option maxHeartbeats 4000000 in
set_option maxRecDepth 100000 in
theorem w_m_tellWeights_L35 {p : Program} {l : Launch} {e : Env} {s : State} {m : MethodId} {args : Array Value} {below : List Frame} {meth : Method} {c : Code} {D : va_G} {C : Nat → Nat} {a0 : Array Value} {s0 : State} {ad : Rl → Nat} {so : Nat → Option hS} {t : hSt} {lt : Rl → Nat → Int64} (CX : hCx D C a0 s0 p s m args meth c cX5_tellWeights 5 RX5 (none)) (hIx : hI (hA s0) ad (Sum.elim so (mSH C))) (g : hSt) (p0 : Int32) (p1 : Int32) (x3 : hSt) {oM : hSt} (x : hSt) (n : Nat) (q0 : Int32 × hSt) (h0 : hiter (fun q : Int32 × hSt => m_tellWeights_L35 p0 q.1 q.2) n q0 = some x) (kx0 : ∀ (H : Heap) (locs : List Loc) (ls : Array Slot), hW D vwCl ad (Sum.elim so (mSH C)) (Sum.elim t x) lt H → va_S (hA s0) s.heap H locs → lv_has ls 5 [] → W p l e rm_m_tellWeights s m args below meth c H locs 0 0 (MQ below (va_Qv (fun (_ : Unit) => True) (fun (_ : Unit) (U : State) => hW D vwCl ad (Sum.elim so (mSH C)) (Sum.elim t oM) lt U.heap) (hA s0)) args s 0 0 (hA s0)) (F0 m 112 ls [])) : ∀ (H : Heap) (locs : List Loc) (ls : Array Slot), hW D vwCl ad (Sum.elim so (mSH C)) (Sum.elim t q0.2) lt H → va_S (hA s0) s.heap H locs → lv_has ls 5 [(0, .ref (ad (.inr 0))), (1, .int p0), (3, .int q0.1)] → W p l e rm_m_tellWeights s m args below meth c H locs 0 0 (MQ below (va_Qv (fun (_ : Unit) => True) (fun (_ : Unit) (U : State) => hW D vwCl ad (Sum.elim so (mSH C)) (Sum.elim t oM) lt U.heap) (hA s0)) args s 0 0 (hA s0)) (F0 m 35 ls []) := by
  obtain ⟨hx, hb, hr, hml, hown, hts, hlocks, hK, hZ0, hA0⟩ := CX
  refine hiter_W (Wh := fun q => ∀ (H : Heap) (locs : List Loc) (ls : Array Slot), hW D vwCl ad (Sum.elim so (mSH C)) (Sum.elim t q.2) lt H → va_S (hA s0) s.heap H locs → lv_has ls 5 [(0, .ref (ad (.inr 0))), (1, .int p0), (3, .int q.1)] → W p l e rm_m_tellWeights s m args below meth c H locs 0 0 (MQ below (va_Qv (fun (_ : Unit) => True) (fun (_ : Unit) (U : State) => hW D vwCl ad (Sum.elim so (mSH C)) (Sum.elim t oM) lt U.heap) (hA s0)) args s 0 0 (hA s0)) (F0 m 35 ls [])) ?_ n q0 h0
  intro q o hf kc kx1 H locs ls hM hS hl
  obtain ⟨v3_35, g_35⟩ := q
  replace hf : m_tellWeights_L35 p0 v3_35 g_35 = some o := hf
  have kx : ∀ x' : hSt, o = .inr x' → ∀ (H : Heap) (locs : List Loc) (ls : Array Slot), hW D vwCl ad (Sum.elim so (mSH C)) (Sum.elim t x') lt H → va_S (hA s0) s.heap H locs → lv_has ls 5 [] → W p l e rm_m_tellWeights s m args below meth c H locs 0 0 (MQ below (va_Qv (fun (_ : Unit) => True) (fun (_ : Unit) (U : State) => hW D vwCl ad (Sum.elim so (mSH C)) (Sum.elim t oM) lt U.heap) (hA s0)) args s 0 0 (hA s0)) (F0 m 112 ls []) := fun x' ex => by rw [kx1 _ ex]; exact kx0
  unfold m_tellWeights_L35 at hf
  refine lv_iload_n hx hb dX5_tellWeights_35 rfl (lv_at hl 2 rfl) ?_
  refine lv_aload_n hx hb dX5_tellWeights_36 rfl (lv_at hl 0 rfl) ?_
  refine hr_get (ci := 5) (C := RX5) (T := TX5) (N := 55) (r := .inr 0) hx hb hts in_X5 hown hK hM mS_0 rfl 2 (by decide) (hts _ q1370) rfl (v := .ref (ad (.inr 3))) rfl dX5_tellWeights_37 ?_
  refine lv_iconst (v := 1) hx hb dX5_tellWeights_40 (by decide) ?_
  refine hm_iald (r := 3) hx hb hK hM 0 mS_3 rfl hf dX5_tellWeights_41 (fun x4 hf => ?_)
  refine hb_icmp_ge (tgt := 112) hx hb dX5_tellWeights_42 (by decide) hf (fun hf => ?_) (fun hf => ?_)
  · exact kx g_35 (Option.some.inj hf).symm H locs ls hM hS (lv_sub hl [] rfl)
  · refine lv_iload_n hx hb dX5_tellWeights_45 rfl (lv_at hl 1 rfl) ?_
    refine lv_iload_n hx hb dX5_tellWeights_46 rfl (lv_at hl 2 rfl) ?_
    refine lv_ishr hx hb dX5_tellWeights_47 ?_
    refine lv_iconst (v := 1) hx hb dX5_tellWeights_48 (by decide) ?_
    refine lv_iand hx hb dX5_tellWeights_49 ?_
    refine hb_if_ne (tgt := 56) hx hb dX5_tellWeights_50 (by decide) hf (fun hf => ?_) (fun hf => ?_)
    · refine lv_aload_n hx hb dX5_tellWeights_56 rfl (lv_at hl 0 rfl) ?_
      refine hr_get (ci := 5) (C := RX5) (T := TX5) (N := 55) (r := .inr 0) hx hb hts in_X5 hown hK hM mS_0 rfl 46 (by decide) (hts _ q1414) rfl (v := .ref (ad (.inr 47))) rfl dX5_tellWeights_57 ?_
      refine hr_alen hx hb hK hM 2 (r := .inr 47) mS_47 rfl (v := 4000) rfl dX5_tellWeights_60 ?_
      refine lv_iconst (v := 1) hx hb dX5_tellWeights_61 (by decide) ?_
      refine lv_isub hx hb dX5_tellWeights_62 ?_
      refine hb_top hf (fun y4_5 hf => ?_)
      refine lv_istore (lv' := [(4, .int y4_5), (0, .ref (ad (.inr 0))), (1, .int p0), (3, .int v3_35)]) hx hb dX5_tellWeights_63 hl (by decide) rfl (fun ls hl => ?_)
      obtain ⟨x12, hq, hf⟩ := hbind hf
      refine w_m_tellWeights_L65 ⟨hx, hb, hr, hml, hown, hts, hlocks, hK, hZ0, hA0⟩ hIx g p0 p1 x3 v3_35 g_35 x4 y4_5 x12 hFU (y4_5, g_35) hq (fun H locs ls hM hS hl => ?_) H locs ls hM hS (lv_sub hl [1, 2, 3, 0] rfl)
      obtain ⟨y3_13, ey, hf⟩ := hlet_ex hf
      refine lv_iinc (v := y3_13) (lv' := [(3, .int y3_13), (0, .ref (ad (.inr 0))), (1, .int p0)]) hx hb dX5_tellWeights_106 hl (k := 2) rfl (by rw [ey]; rfl) (by decide) rfl (fun ls hl => ?_)
      refine lv_goto (tgt := 35) hx hb dX5_tellWeights_109 (by decide) ?_
      exact kc (y3_13, x12) (Option.some.inj hf).symm H locs ls hM hS (lv_sub hl [1, 2, 0] rfl)
    · refine lv_goto (tgt := 106) hx hb dX5_tellWeights_53 (by decide) ?_
      obtain ⟨y3_14, ey, hf⟩ := hlet_ex hf
      refine lv_iinc (v := y3_14) (lv' := [(3, .int y3_14), (0, .ref (ad (.inr 0))), (1, .int p0)]) hx hb dX5_tellWeights_106 hl (k := 2) rfl (by rw [ey]; rfl) (by decide) rfl (fun ls hl => ?_)
      refine lv_goto (tgt := 35) hx hb dX5_tellWeights_109 (by decide) ?_
      exact kc (y3_14, g_35) (Option.some.inj hf).symm H locs ls hM hS (lv_sub hl [1, 2, 0] rfl)
set_option maxHeartbeats 4000000 in
set_option maxRecDepth 100000 in
theorem w_m_tellWeights {p : Program} {l : Launch} {e : Env} {s : State} {m : MethodId} {args : Array Value} {below : List Frame} {meth : Method} {c : Code} {D : va_G} {C : Nat → Nat} {a0 : Array Value} {s0 : State} {ad : Rl → Nat} {so : Nat → Option hS} {t : hSt} {lt : Rl → Nat → Int64} (CX : hCx D C a0 s0 p s m args meth c cX5_tellWeights 5 RX5 (none)) (hIx : hI (hA s0) ad (Sum.elim so (mSH C))) (g : hSt) (p0 : Int32) (p1 : Int32) {o : hSt} (hf : m_tellWeights g p0 p1 = some o) {H : Heap} {locs : List Loc} (hM : hW D vwCl ad (Sum.elim so (mSH C)) (Sum.elim t g) lt H) (hS : va_S (hA s0) s.heap H locs) {ls : Array Slot} (hl : lv_has ls 5 [(0, .ref (ad (.inr 0))), (1, .int p0), (2, .int p1)]) : W p l e rm_m_tellWeights s m args below meth c H locs 0 0 (MQ below (va_Qv (fun (_ : Unit) => True) (fun (_ : Unit) (U : State) => hW D vwCl ad (Sum.elim so (mSH C)) (Sum.elim t o) lt U.heap) (hA s0)) args s 0 0 (hA s0)) (F0 m 0 ls []) := by
  obtain ⟨hx, hb, hr, hml, hown, hts, hlocks, hK, hZ0, hA0⟩ := CX
  unfold m_tellWeights at hf
  refine lv_iconst (v := 0) hx hb dX5_tellWeights_0 (by decide) ?_
  refine lv_istore_n (lv' := [(3, .int (0 : Int32)), (0, .ref (ad (.inr 0))), (1, .int p0), (2, .int p1)]) hx hb dX5_tellWeights_1 rfl hl (by decide) rfl (fun ls hl => ?_)
  obtain ⟨x3, hq, hf⟩ := hbind hf
  refine w_m_tellWeights_L2 ⟨hx, hb, hr, hml, hown, hts, hlocks, hK, hZ0, hA0⟩ hIx g p0 p1 x3 hFU ((0 : Int32), g) hq (fun H locs ls hM hS hl => ?_) H locs ls hM hS (lv_sub hl [1, 2, 3, 0] rfl)
  refine lv_iconst (v := 0) hx hb dX5_tellWeights_33 (by decide) ?_
  refine lv_istore_n (lv' := [(3, .int (0 : Int32)), (0, .ref (ad (.inr 0))), (1, .int p0)]) hx hb dX5_tellWeights_34 rfl hl (by decide) rfl (fun ls hl => ?_)
  obtain ⟨x15, hq, hf⟩ := hbind hf
  refine w_m_tellWeights_L35 ⟨hx, hb, hr, hml, hown, hts, hlocks, hK, hZ0, hA0⟩ hIx g p0 p1 x3 x15 hFU ((0 : Int32), x3) hq (fun H locs ls hM hS hl => ?_) H locs ls hM hS (lv_sub hl [1, 2, 0] rfl)
  have eo := Option.some.inj hf
  subst eo
  exact W.vret hx hb hr (fun T ht hW => ⟨⟨(), rfl, trivial, by dsimp only; rw [ht]; exact hM⟩, hS.F ht⟩) hS.2.2 dX5_tellWeights_112
set_option maxHeartbeats 4000000 in
set_option maxRecDepth 100000 in
theorem met_m_tellWeights (l : Launch) (D : va_G) (C : Nat → Nat) (a0 : Array Value) (s0 : State) (ad : Rl → Nat) (so : Nat → Option hS) (t : hSt) (lt : Rl → Nat → Int64) (g : hSt) (p0 : Int32) (p1 : Int32) {o : hSt} (hf : m_tellWeights g p0 p1 = some o) : Met l yX5_tellWeights (ws_ yX5_tellWeights cX5_tellWeights 5 (none)) rm_m_tellWeights (va_Pc [.ref (ad (.inr 0)), .int p0, .int p1] (hB D vwCl (hT C) (hA s0) (hZ a0 s0) ad (Sum.elim so (mSH C)) (Sum.elim t g) lt)) (va_Qv (fun (_ : Unit) => True) (fun (_ : Unit) (U : State) => hW D vwCl ad (Sum.elim so (mSH C)) (Sum.elim t o) lt U.heap) (hA s0)) 0 0 (hA s0) := by
  refine Met.ofW (cc := cX5_tellWeights) (maxL := 5) (ret := (none)) (by decide) rfl ?_
  intro p e s m args below meth c s₁ B hml hv
  obtain ⟨rfl, hM, hIx, hK, hZ0, hA0⟩ := hv
  have hl := lv_entry ([.ref (ad (.inr 0)), .int p0, .int p1]) (n := 5) (Nat.le_of_ble_eq_true rfl)
  rw [lg_entry_eq]
  generalize (lg_sl ([.ref (ad (.inr 0)), .int p0, .int p1]) ++ List.replicate (5 - (lg_sl ([.ref (ad (.inr 0)), .int p0, .int p1])).length) Slot.unset).toArray = ls at hl ⊢
  have hl : lv_has ls 5 [(0, .ref (ad (.inr 0))), (1, .int p0), (2, .int p1)] := hl
  exact w_m_tellWeights ⟨B.exec, B.bytes, B.returns, hml, findClass_of_methodNamed B.named, fun w h => atoms_spec (ws := ws_ yX5_tellWeights cX5_tellWeights 5 (none)) B.pre w (List.mem_cons_of_mem _ h), B.notSynchronized, hK, hZ0, hA0⟩ hIx g p0 p1 hf hM va_S.rf hl

def rm_m_madeUpTo : Room := { frames := 1, cells := 0, slots := 0, locals := 16 }
set_option maxHeartbeats 4000000 in
set_option maxRecDepth 100000 in
theorem w_m_madeUpTo_B24 {p : Program} {l : Launch} {e : Env} {s : State} {m : MethodId} {args : Array Value} {below : List Frame} {meth : Method} {c : Code} {D : va_G} {C : Nat → Nat} {a0 : Array Value} {s0 : State} {ad : Rl → Nat} {so : Nat → Option hS} {t : hSt} {lt : Rl → Nat → Int64} (CX : hCx D C a0 s0 p s m args meth c cX5_madeUpTo 4 RX5 (some .int)) (hIx : hI (hA s0) ad (Sum.elim so (mSH C))) (g : hSt) (p0 : Int32) (v2_4 : Int32) (v3_4 : Int32) (x1 : Int32) (k0_24 : Int32) (k1_24 : Int32) {oM : Int32} {o : (Int32 × Int32) ⊕ (Int32)} (hf : m_madeUpTo_B24 v3_4 k0_24 k1_24 = some o) (kc : ∀ s' : Int32 × Int32, o = .inl s' → ∀ (H : Heap) (locs : List Loc) (ls : Array Slot), hW D vwCl ad (Sum.elim so (mSH C)) (Sum.elim t g) lt H → va_S (hA s0) s.heap H locs → lv_has ls 4 [(0, .ref (ad (.inr 0))), (1, .int p0), (2, .int s'.1), (3, .int s'.2)] → W p l e rm_m_madeUpTo s m args below meth c H locs 0 0 (MQ below (va_Qi (fun (r : Int32) (_ : Unit) => r = oM) (fun (_ : Unit) (U : State) => hW D vwCl ad (Sum.elim so (mSH C)) (Sum.elim t g) lt U.heap) (hA s0)) args s 0 0 (hA s0)) (F0 m 4 ls [])) (kx : ∀ x' : Int32, o = .inr x' → ∀ (H : Heap) (locs : List Loc) (ls : Array Slot), hW D vwCl ad (Sum.elim so (mSH C)) (Sum.elim t g) lt H → va_S (hA s0) s.heap H locs → lv_has ls 4 [(2, .int x')] → W p l e rm_m_madeUpTo s m args below meth c H locs 0 0 (MQ below (va_Qi (fun (r : Int32) (_ : Unit) => r = oM) (fun (_ : Unit) (U : State) => hW D vwCl ad (Sum.elim so (mSH C)) (Sum.elim t g) lt U.heap) (hA s0)) args s 0 0 (hA s0)) (F0 m 32 ls [])) {H : Heap} {locs : List Loc} (hM : hW D vwCl ad (Sum.elim so (mSH C)) (Sum.elim t g) lt H) (hS : va_S (hA s0) s.heap H locs) {ls : Array Slot} (hl : lv_has ls 4 [(0, .ref (ad (.inr 0))), (1, .int p0), (3, .int v3_4)]) : W p l e rm_m_madeUpTo s m args below meth c H locs 0 0 (MQ below (va_Qi (fun (r : Int32) (_ : Unit) => r = oM) (fun (_ : Unit) (U : State) => hW D vwCl ad (Sum.elim so (mSH C)) (Sum.elim t g) lt U.heap) (hA s0)) args s 0 0 (hA s0)) (F0 m 24 ls [.int k0_24, .int k1_24]) := by
  obtain ⟨hx, hb, hr, hml, hown, hts, hlocks, hK, hZ0, hA0⟩ := CX
  unfold m_madeUpTo_B24 at hf
  refine lv_iadd hx hb dX5_madeUpTo_24 ?_
  refine hb_top hf (fun y2_2 hf => ?_)
  refine lv_istore_n (lv' := [(2, .int y2_2), (0, .ref (ad (.inr 0))), (1, .int p0), (3, .int v3_4)]) hx hb dX5_madeUpTo_25 rfl hl (by decide) rfl (fun ls hl => ?_)
  obtain ⟨y3_3, ey, hf⟩ := hlet_ex hf
  refine lv_iinc (v := y3_3) (lv' := [(3, .int y3_3), (2, .int y2_2), (0, .ref (ad (.inr 0))), (1, .int p0)]) hx hb dX5_madeUpTo_26 hl (k := 3) rfl (by rw [ey]; rfl) (by decide) rfl (fun ls hl => ?_)
  refine lv_goto (tgt := 4) hx hb dX5_madeUpTo_29 (by decide) ?_
  exact kc (y2_2, y3_3) (Option.some.inj hf).symm H locs ls hM hS (lv_sub hl [2, 3, 1, 0] rfl)
set_option maxHeartbeats 4000000 in
set_option maxRecDepth 100000 in
theorem w_m_madeUpTo_L4 {p : Program} {l : Launch} {e : Env} {s : State} {m : MethodId} {args : Array Value} {below : List Frame} {meth : Method} {c : Code} {D : va_G} {C : Nat → Nat} {a0 : Array Value} {s0 : State} {ad : Rl → Nat} {so : Nat → Option hS} {t : hSt} {lt : Rl → Nat → Int64} (CX : hCx D C a0 s0 p s m args meth c cX5_madeUpTo 4 RX5 (some .int)) (hIx : hI (hA s0) ad (Sum.elim so (mSH C))) (g : hSt) (p0 : Int32) {oM : Int32} (x : Int32) (n : Nat) (q0 : Int32 × Int32) (h0 : hiter (fun q : Int32 × Int32 => m_madeUpTo_L4 g p0 q.1 q.2) n q0 = some x) (kx0 : ∀ (H : Heap) (locs : List Loc) (ls : Array Slot), hW D vwCl ad (Sum.elim so (mSH C)) (Sum.elim t g) lt H → va_S (hA s0) s.heap H locs → lv_has ls 4 [(2, .int x)] → W p l e rm_m_madeUpTo s m args below meth c H locs 0 0 (MQ below (va_Qi (fun (r : Int32) (_ : Unit) => r = oM) (fun (_ : Unit) (U : State) => hW D vwCl ad (Sum.elim so (mSH C)) (Sum.elim t g) lt U.heap) (hA s0)) args s 0 0 (hA s0)) (F0 m 32 ls [])) : ∀ (H : Heap) (locs : List Loc) (ls : Array Slot), hW D vwCl ad (Sum.elim so (mSH C)) (Sum.elim t g) lt H → va_S (hA s0) s.heap H locs → lv_has ls 4 [(0, .ref (ad (.inr 0))), (1, .int p0), (2, .int q0.1), (3, .int q0.2)] → W p l e rm_m_madeUpTo s m args below meth c H locs 0 0 (MQ below (va_Qi (fun (r : Int32) (_ : Unit) => r = oM) (fun (_ : Unit) (U : State) => hW D vwCl ad (Sum.elim so (mSH C)) (Sum.elim t g) lt U.heap) (hA s0)) args s 0 0 (hA s0)) (F0 m 4 ls []) := by
  obtain ⟨hx, hb, hr, hml, hown, hts, hlocks, hK, hZ0, hA0⟩ := CX
  refine hiter_W (Wh := fun q => ∀ (H : Heap) (locs : List Loc) (ls : Array Slot), hW D vwCl ad (Sum.elim so (mSH C)) (Sum.elim t g) lt H → va_S (hA s0) s.heap H locs → lv_has ls 4 [(0, .ref (ad (.inr 0))), (1, .int p0), (2, .int q.1), (3, .int q.2)] → W p l e rm_m_madeUpTo s m args below meth c H locs 0 0 (MQ below (va_Qi (fun (r : Int32) (_ : Unit) => r = oM) (fun (_ : Unit) (U : State) => hW D vwCl ad (Sum.elim so (mSH C)) (Sum.elim t g) lt U.heap) (hA s0)) args s 0 0 (hA s0)) (F0 m 4 ls [])) ?_ n q0 h0
  intro q o hf kc kx1 H locs ls hM hS hl
  obtain ⟨v2_4, v3_4⟩ := q
  replace hf : m_madeUpTo_L4 g p0 v2_4 v3_4 = some o := hf
  have kx : ∀ x' : Int32, o = .inr x' → ∀ (H : Heap) (locs : List Loc) (ls : Array Slot), hW D vwCl ad (Sum.elim so (mSH C)) (Sum.elim t g) lt H → va_S (hA s0) s.heap H locs → lv_has ls 4 [(2, .int x')] → W p l e rm_m_madeUpTo s m args below meth c H locs 0 0 (MQ below (va_Qi (fun (r : Int32) (_ : Unit) => r = oM) (fun (_ : Unit) (U : State) => hW D vwCl ad (Sum.elim so (mSH C)) (Sum.elim t g) lt U.heap) (hA s0)) args s 0 0 (hA s0)) (F0 m 32 ls []) := fun x' ex => by rw [kx1 _ ex]; exact kx0
  unfold m_madeUpTo_L4 at hf
  refine lv_iload_n hx hb dX5_madeUpTo_4 rfl (lv_at hl 3 rfl) ?_
  refine lv_iload_n hx hb dX5_madeUpTo_5 rfl (lv_at hl 1 rfl) ?_
  refine hb_icmp_gt (tgt := 32) hx hb dX5_madeUpTo_6 (by decide) hf (fun hf => ?_) (fun hf => ?_)
  · exact kx v2_4 (Option.some.inj hf).symm H locs ls hM hS (lv_sub hl [2] rfl)
  · refine lv_iload_n hx hb dX5_madeUpTo_9 rfl (lv_at hl 2 rfl) ?_
    refine lv_aload_n hx hb dX5_madeUpTo_10 rfl (lv_at hl 0 rfl) ?_
    refine hr_get (ci := 5) (C := RX5) (T := TX5) (N := 55) (r := .inr 0) hx hb hts in_X5 hown hK hM mS_0 rfl 46 (by decide) (hts _ q1414) rfl (v := .ref (ad (.inr 47))) rfl dX5_madeUpTo_11 ?_
    refine lv_iload_n hx hb dX5_madeUpTo_14 rfl (lv_at hl 3 rfl) ?_
    refine hm_zald (r := 47) hx hb hK hM 2 mS_47 rfl hf dX5_madeUpTo_15 (fun x1 hf => ?_)
    refine hb_if_eq (tgt := 23) hx hb dX5_madeUpTo_16 (by decide) hf (fun hf => ?_) (fun hf => ?_)
    · refine lv_iconst (v := 0) hx hb dX5_madeUpTo_23 (by decide) ?_
      exact w_m_madeUpTo_B24 ⟨hx, hb, hr, hml, hown, hts, hlocks, hK, hZ0, hA0⟩ hIx g p0 v2_4 v3_4 x1 (0 : Int32) v2_4 hf kc kx hM hS (lv_sub hl [0, 1, 3] rfl)
    · refine lv_iconst (v := 1) hx hb dX5_madeUpTo_19 (by decide) ?_
      refine lv_goto (tgt := 24) hx hb dX5_madeUpTo_20 (by decide) ?_
      exact w_m_madeUpTo_B24 ⟨hx, hb, hr, hml, hown, hts, hlocks, hK, hZ0, hA0⟩ hIx g p0 v2_4 v3_4 x1 (1 : Int32) v2_4 hf kc kx hM hS (lv_sub hl [0, 1, 3] rfl)
set_option maxHeartbeats 4000000 in
set_option maxRecDepth 100000 in
theorem w_m_madeUpTo {p : Program} {l : Launch} {e : Env} {s : State} {m : MethodId} {args : Array Value} {below : List Frame} {meth : Method} {c : Code} {D : va_G} {C : Nat → Nat} {a0 : Array Value} {s0 : State} {ad : Rl → Nat} {so : Nat → Option hS} {t : hSt} {lt : Rl → Nat → Int64} (CX : hCx D C a0 s0 p s m args meth c cX5_madeUpTo 4 RX5 (some .int)) (hIx : hI (hA s0) ad (Sum.elim so (mSH C))) (g : hSt) (p0 : Int32) {o : Int32} (hf : m_madeUpTo g p0 = some o) {H : Heap} {locs : List Loc} (hM : hW D vwCl ad (Sum.elim so (mSH C)) (Sum.elim t g) lt H) (hS : va_S (hA s0) s.heap H locs) {ls : Array Slot} (hl : lv_has ls 4 [(0, .ref (ad (.inr 0))), (1, .int p0)]) : W p l e rm_m_madeUpTo s m args below meth c H locs 0 0 (MQ below (va_Qi (fun (r : Int32) (_ : Unit) => r = o) (fun (_ : Unit) (U : State) => hW D vwCl ad (Sum.elim so (mSH C)) (Sum.elim t g) lt U.heap) (hA s0)) args s 0 0 (hA s0)) (F0 m 0 ls []) := by
  obtain ⟨hx, hb, hr, hml, hown, hts, hlocks, hK, hZ0, hA0⟩ := CX
  unfold m_madeUpTo at hf
  refine lv_iconst (v := 0) hx hb dX5_madeUpTo_0 (by decide) ?_
  refine lv_istore_n (lv' := [(2, .int (0 : Int32)), (0, .ref (ad (.inr 0))), (1, .int p0)]) hx hb dX5_madeUpTo_1 rfl hl (by decide) rfl (fun ls hl => ?_)
  refine lv_iconst (v := 1) hx hb dX5_madeUpTo_2 (by decide) ?_
  refine lv_istore_n (lv' := [(3, .int (1 : Int32)), (2, .int (0 : Int32)), (0, .ref (ad (.inr 0))), (1, .int p0)]) hx hb dX5_madeUpTo_3 rfl hl (by decide) rfl (fun ls hl => ?_)
  obtain ⟨x4, hq, hf⟩ := hbind hf
  refine w_m_madeUpTo_L4 ⟨hx, hb, hr, hml, hown, hts, hlocks, hK, hZ0, hA0⟩ hIx g p0 x4 hFU ((0 : Int32), (1 : Int32)) hq (fun H locs ls hM hS hl => ?_) H locs ls hM hS (lv_sub hl [2, 3, 1, 0] rfl)
  refine lv_iload_n hx hb dX5_madeUpTo_32 rfl (lv_at hl 0 rfl) ?_
  have eo := Option.some.inj hf
  subst eo
  exact W.iret (v := x4) hx hb hr (fun T ht hW => ⟨⟨x4, (), rfl, rfl, by dsimp only; rw [ht]; exact hM⟩, hS.F ht⟩) hS.2.2 dX5_madeUpTo_33
set_option maxHeartbeats 4000000 in
set_option maxRecDepth 100000 in
theorem met_m_madeUpTo (l : Launch) (D : va_G) (C : Nat → Nat) (a0 : Array Value) (s0 : State) (ad : Rl → Nat) (so : Nat → Option hS) (t : hSt) (lt : Rl → Nat → Int64) (g : hSt) (p0 : Int32) {o : Int32} (hf : m_madeUpTo g p0 = some o) : Met l yX5_madeUpTo (ws_ yX5_madeUpTo cX5_madeUpTo 4 (some .int)) rm_m_madeUpTo (va_Pc [.ref (ad (.inr 0)), .int p0] (hB D vwCl (hT C) (hA s0) (hZ a0 s0) ad (Sum.elim so (mSH C)) (Sum.elim t g) lt)) (va_Qi (fun (r : Int32) (_ : Unit) => r = o) (fun (_ : Unit) (U : State) => hW D vwCl ad (Sum.elim so (mSH C)) (Sum.elim t g) lt U.heap) (hA s0)) 0 0 (hA s0) := by
  refine Met.ofW (cc := cX5_madeUpTo) (maxL := 4) (ret := (some .int)) (by decide) rfl ?_
  intro p e s m args below meth c s₁ B hml hv
  obtain ⟨rfl, hM, hIx, hK, hZ0, hA0⟩ := hv
  have hl := lv_entry ([.ref (ad (.inr 0)), .int p0]) (n := 4) (Nat.le_of_ble_eq_true rfl)
  rw [lg_entry_eq]
  generalize (lg_sl ([.ref (ad (.inr 0)), .int p0]) ++ List.replicate (4 - (lg_sl ([.ref (ad (.inr 0)), .int p0])).length) Slot.unset).toArray = ls at hl ⊢
  have hl : lv_has ls 4 [(0, .ref (ad (.inr 0))), (1, .int p0)] := hl
  exact w_m_madeUpTo ⟨B.exec, B.bytes, B.returns, hml, findClass_of_methodNamed B.named, fun w h => atoms_spec (ws := ws_ yX5_madeUpTo cX5_madeUpTo 4 (some .int)) B.pre w (List.mem_cons_of_mem _ h), B.notSynchronized, hK, hZ0, hA0⟩ hIx g p0 hf hM va_S.rf hl

def rm_m_fewest : Room := { frames := 3, cells := 0, slots := 0, locals := 41 }
set_option maxHeartbeats 4000000 in
set_option maxRecDepth 100000 in
theorem w_m_fewest_B66 {p : Program} {l : Launch} {e : Env} {s : State} {m : MethodId} {args : Array Value} {below : List Frame} {meth : Method} {c : Code} {D : va_G} {C : Nat → Nat} {a0 : Array Value} {s0 : State} {ad : Rl → Nat} {so : Nat → Option hS} {t : hSt} {lt : Rl → Nat → Int64} (CX : hCx D C a0 s0 p s m args meth c cX5_fewest 4 RX5 (some .int)) (hIx : hI (hA s0) ad (Sum.elim so (mSH C))) (g : hSt) (p0 : Int32) (g1 : hSt) (y2 : Int32) (v2_26 : Int32) (v3_26 : Int32) (g_26 : hSt) (x3 : Int32) (y4 : Int32) {oM : Int32 × hSt} {o : (Int32 × Int32 × hSt) ⊕ (Int32 × hSt)} (hf : m_fewest_B66 p0 v2_26 v3_26 g_26 = some o) (kc : ∀ s' : Int32 × Int32 × hSt, o = .inl s' → ∀ (H : Heap) (locs : List Loc) (ls : Array Slot), hW D vwCl ad (Sum.elim so (mSH C)) (Sum.elim t s'.2.2) lt H → va_S (hA s0) s.heap H locs → lv_has ls 4 [(0, .ref (ad (.inr 0))), (1, .int p0), (2, .int s'.1), (3, .int s'.2.1)] → W p l e rm_m_fewest s m args below meth c H locs 0 0 (MQ below (va_Qi (fun (r : Int32) (_ : Unit) => r = oM.1) (fun (_ : Unit) (U : State) => hW D vwCl ad (Sum.elim so (mSH C)) (Sum.elim t oM.2) lt U.heap) (hA s0)) args s 0 0 (hA s0)) (F0 m 26 ls [])) (kx : ∀ x' : Int32 × hSt, o = .inr x' → ∀ (H : Heap) (locs : List Loc) (ls : Array Slot), hW D vwCl ad (Sum.elim so (mSH C)) (Sum.elim t x'.2) lt H → va_S (hA s0) s.heap H locs → lv_has ls 4 [(2, .int x'.1)] → W p l e rm_m_fewest s m args below meth c H locs 0 0 (MQ below (va_Qi (fun (r : Int32) (_ : Unit) => r = oM.1) (fun (_ : Unit) (U : State) => hW D vwCl ad (Sum.elim so (mSH C)) (Sum.elim t oM.2) lt U.heap) (hA s0)) args s 0 0 (hA s0)) (F0 m 89 ls [])) {H : Heap} {locs : List Loc} (hM : hW D vwCl ad (Sum.elim so (mSH C)) (Sum.elim t g_26) lt H) (hS : va_S (hA s0) s.heap H locs) {ls : Array Slot} (hl : lv_has ls 4 [(0, .ref (ad (.inr 0))), (1, .int p0), (2, .int v2_26), (3, .int v3_26)]) : W p l e rm_m_fewest s m args below meth c H locs 0 0 (MQ below (va_Qi (fun (r : Int32) (_ : Unit) => r = oM.1) (fun (_ : Unit) (U : State) => hW D vwCl ad (Sum.elim so (mSH C)) (Sum.elim t oM.2) lt U.heap) (hA s0)) args s 0 0 (hA s0)) (F0 m 66 ls []) := by
  obtain ⟨hx, hb, hr, hml, hown, hts, hlocks, hK, hZ0, hA0⟩ := CX
  unfold m_fewest_B66 at hf
  refine lv_aload_n hx hb dX5_fewest_66 rfl (lv_at hl 0 rfl) ?_
  refine lv_iload_n hx hb dX5_fewest_67 rfl (lv_at hl 3 rfl) ?_
  refine lv_iconst (v := 0) hx hb dX5_fewest_68 (by decide) ?_
  obtain ⟨y6, hq, hf⟩ := hbind hf
  refine hr_callv0 (va_runV (As := [.int v3_26, .int (0 : Int32)]) (rest := []) ⟨hx, hb, hml, hown, hts⟩ (met_m_tellWeights l D C a0 s0 ad so t lt g_26 v3_26 (0 : Int32) hq) (cwV 2 hts (lw_V q1811 q1813 qs70 q99 q1814) rfl rfl rfl (by decide +kernel) ⟨Nat.le_of_ble_eq_true rfl, Nat.le_of_ble_eq_true rfl⟩) (hr_preV hZ_c hM hIx hK hZ0 hA0 hS (r := .inr 0) mS_0 (q := (RX5, TX5, 55)) rfl) rfl rfl hl.1 rfl (lv_room (Nat.le_of_ble_eq_true rfl)) dX5_fewest_69 ⟨Nat.le_of_ble_eq_true rfl, Nat.le_of_ble_eq_true rfl⟩) hS (fun H locs hM hS => ?_)
  refine lv_aload_n hx hb dX5_fewest_72 rfl (lv_at hl 0 rfl) ?_
  refine lv_iload_n hx hb dX5_fewest_73 rfl (lv_at hl 1 rfl) ?_
  obtain ⟨y7, hq, hf⟩ := hbind hf
  refine hr_calli0 (va_runV (As := [.int p0]) (rest := []) ⟨hx, hb, hml, hown, hts⟩ (met_m_madeUpTo l D C a0 s0 ad so t lt y6 p0 hq) (cwV 1 hts (lw_V q1815 q1817 qs71 q99 q1818) rfl rfl rfl (by decide +kernel) ⟨Nat.le_of_ble_eq_true rfl, Nat.le_of_ble_eq_true rfl⟩) (hr_preV hZ_c hM hIx hK hZ0 hA0 hS (r := .inr 0) mS_0 (q := (RX5, TX5, 55)) rfl) rfl rfl hl.1 rfl (lv_room (Nat.le_of_ble_eq_true rfl)) dX5_fewest_74 ⟨Nat.le_of_ble_eq_true rfl, Nat.le_of_ble_eq_true rfl⟩) hS (fun H locs hM hS => ?_)
  refine lv_iload_n hx hb dX5_fewest_77 rfl (lv_at hl 1 rfl) ?_
  refine hb_icmp_ne (tgt := 83) hx hb dX5_fewest_78 (by decide) hf (fun hf => ?_) (fun hf => ?_)
  · obtain ⟨y3_8, ey, hf⟩ := hlet_ex hf
    refine lv_iinc (v := y3_8) (lv' := [(3, .int y3_8), (0, .ref (ad (.inr 0))), (1, .int p0), (2, .int v2_26)]) hx hb dX5_fewest_83 hl (k := 3) rfl (by rw [ey]; rfl) (by decide) rfl (fun ls hl => ?_)
    refine lv_goto (tgt := 26) hx hb dX5_fewest_86 (by decide) ?_
    exact kc (v2_26, y3_8, y6) (Option.some.inj hf).symm H locs ls hM hS (lv_sub hl [1, 2, 3, 0] rfl)
  · refine lv_iload_n hx hb dX5_fewest_81 rfl (lv_at hl 3 rfl) ?_
    refine lv_istore_n (lv' := [(2, .int v3_26), (0, .ref (ad (.inr 0))), (1, .int p0), (3, .int v3_26)]) hx hb dX5_fewest_82 rfl hl (by decide) rfl (fun ls hl => ?_)
    obtain ⟨y3_9, ey, hf⟩ := hlet_ex hf
    refine lv_iinc (v := y3_9) (lv' := [(3, .int y3_9), (2, .int v3_26), (0, .ref (ad (.inr 0))), (1, .int p0)]) hx hb dX5_fewest_83 hl (k := 3) rfl (by rw [ey]; rfl) (by decide) rfl (fun ls hl => ?_)
    refine lv_goto (tgt := 26) hx hb dX5_fewest_86 (by decide) ?_
    exact kc (v3_26, y3_9, y6) (Option.some.inj hf).symm H locs ls hM hS (lv_sub hl [2, 3, 1, 0] rfl)
set_option maxHeartbeats 4000000 in
set_option maxRecDepth 100000 in
theorem w_m_fewest_L26 {p : Program} {l : Launch} {e : Env} {s : State} {m : MethodId} {args : Array Value} {below : List Frame} {meth : Method} {c : Code} {D : va_G} {C : Nat → Nat} {a0 : Array Value} {s0 : State} {ad : Rl → Nat} {so : Nat → Option hS} {t : hSt} {lt : Rl → Nat → Int64} (CX : hCx D C a0 s0 p s m args meth c cX5_fewest 4 RX5 (some .int)) (hIx : hI (hA s0) ad (Sum.elim so (mSH C))) (g : hSt) (p0 : Int32) (g1 : hSt) (y2 : Int32) {oM : Int32 × hSt} (x : Int32 × hSt) (n : Nat) (q0 : Int32 × Int32 × hSt) (h0 : hiter (fun q : Int32 × Int32 × hSt => m_fewest_L26 p0 q.1 q.2.1 q.2.2) n q0 = some x) (kx0 : ∀ (H : Heap) (locs : List Loc) (ls : Array Slot), hW D vwCl ad (Sum.elim so (mSH C)) (Sum.elim t x.2) lt H → va_S (hA s0) s.heap H locs → lv_has ls 4 [(2, .int x.1)] → W p l e rm_m_fewest s m args below meth c H locs 0 0 (MQ below (va_Qi (fun (r : Int32) (_ : Unit) => r = oM.1) (fun (_ : Unit) (U : State) => hW D vwCl ad (Sum.elim so (mSH C)) (Sum.elim t oM.2) lt U.heap) (hA s0)) args s 0 0 (hA s0)) (F0 m 89 ls [])) : ∀ (H : Heap) (locs : List Loc) (ls : Array Slot), hW D vwCl ad (Sum.elim so (mSH C)) (Sum.elim t q0.2.2) lt H → va_S (hA s0) s.heap H locs → lv_has ls 4 [(0, .ref (ad (.inr 0))), (1, .int p0), (2, .int q0.1), (3, .int q0.2.1)] → W p l e rm_m_fewest s m args below meth c H locs 0 0 (MQ below (va_Qi (fun (r : Int32) (_ : Unit) => r = oM.1) (fun (_ : Unit) (U : State) => hW D vwCl ad (Sum.elim so (mSH C)) (Sum.elim t oM.2) lt U.heap) (hA s0)) args s 0 0 (hA s0)) (F0 m 26 ls []) := by
  obtain ⟨hx, hb, hr, hml, hown, hts, hlocks, hK, hZ0, hA0⟩ := CX
  refine hiter_W (Wh := fun q => ∀ (H : Heap) (locs : List Loc) (ls : Array Slot), hW D vwCl ad (Sum.elim so (mSH C)) (Sum.elim t q.2.2) lt H → va_S (hA s0) s.heap H locs → lv_has ls 4 [(0, .ref (ad (.inr 0))), (1, .int p0), (2, .int q.1), (3, .int q.2.1)] → W p l e rm_m_fewest s m args below meth c H locs 0 0 (MQ below (va_Qi (fun (r : Int32) (_ : Unit) => r = oM.1) (fun (_ : Unit) (U : State) => hW D vwCl ad (Sum.elim so (mSH C)) (Sum.elim t oM.2) lt U.heap) (hA s0)) args s 0 0 (hA s0)) (F0 m 26 ls [])) ?_ n q0 h0
  intro q o hf kc kx1 H locs ls hM hS hl
  obtain ⟨v2_26, v3_26, g_26⟩ := q
  replace hf : m_fewest_L26 p0 v2_26 v3_26 g_26 = some o := hf
  have kx : ∀ x' : Int32 × hSt, o = .inr x' → ∀ (H : Heap) (locs : List Loc) (ls : Array Slot), hW D vwCl ad (Sum.elim so (mSH C)) (Sum.elim t x'.2) lt H → va_S (hA s0) s.heap H locs → lv_has ls 4 [(2, .int x'.1)] → W p l e rm_m_fewest s m args below meth c H locs 0 0 (MQ below (va_Qi (fun (r : Int32) (_ : Unit) => r = oM.1) (fun (_ : Unit) (U : State) => hW D vwCl ad (Sum.elim so (mSH C)) (Sum.elim t oM.2) lt U.heap) (hA s0)) args s 0 0 (hA s0)) (F0 m 89 ls []) := fun x' ex => by rw [kx1 _ ex]; exact kx0
  unfold m_fewest_L26 at hf
  refine lv_iload_n hx hb dX5_fewest_26 rfl (lv_at hl 3 rfl) ?_
  refine lv_iconst (v := 1) hx hb dX5_fewest_27 (by decide) ?_
  refine lv_aload_n hx hb dX5_fewest_28 rfl (lv_at hl 0 rfl) ?_
  refine hr_get (ci := 5) (C := RX5) (T := TX5) (N := 55) (r := .inr 0) hx hb hts in_X5 hown hK hM mS_0 rfl 2 (by decide) (hts _ q1370) rfl (v := .ref (ad (.inr 3))) rfl dX5_fewest_29 ?_
  refine lv_iconst (v := 1) hx hb dX5_fewest_32 (by decide) ?_
  refine hm_iald (r := 3) hx hb hK hM 0 mS_3 rfl hf dX5_fewest_33 (fun x3 hf => ?_)
  refine lv_ishl hx hb dX5_fewest_34 ?_
  refine hb_icmp_ge (tgt := 89) hx hb dX5_fewest_35 (by decide) hf (fun hf => ?_) (fun hf => ?_)
  · exact kx (v2_26, g_26) (Option.some.inj hf).symm H locs ls hM hS (lv_sub hl [2] rfl)
  · refine lv_aload_n hx hb dX5_fewest_38 rfl (lv_at hl 0 rfl) ?_
    refine lv_iload_n hx hb dX5_fewest_39 rfl (lv_at hl 3 rfl) ?_
    obtain ⟨y4, hq, hf⟩ := hbind hf
    refine hr_calli0 (va_runV (As := [.int v3_26]) (rest := []) ⟨hx, hb, hml, hown, hts⟩ (met_m_weightOf l D C a0 s0 ad so t lt g_26 v3_26 hq) (cwV 1 hts (lw_V q1667 q1669 qs50 q99 q1670) rfl rfl rfl (by decide +kernel) ⟨Nat.le_of_ble_eq_true rfl, Nat.le_of_ble_eq_true rfl⟩) (hr_preV hZ_c hM hIx hK hZ0 hA0 hS (r := .inr 0) mS_0 (q := (RX5, TX5, 55)) rfl) rfl rfl hl.1 rfl (lv_room (Nat.le_of_ble_eq_true rfl)) dX5_fewest_40 ⟨Nat.le_of_ble_eq_true rfl, Nat.le_of_ble_eq_true rfl⟩) hS (fun H locs hM hS => ?_)
    refine lv_iload_n hx hb dX5_fewest_43 rfl (lv_at hl 1 rfl) ?_
    refine hb_icmp_lt (tgt := 83) hx hb dX5_fewest_44 (by decide) hf (fun hf => ?_) (fun hf => ?_)
    · obtain ⟨y3_5, ey, hf⟩ := hlet_ex hf
      refine lv_iinc (v := y3_5) (lv' := [(3, .int y3_5), (0, .ref (ad (.inr 0))), (1, .int p0), (2, .int v2_26)]) hx hb dX5_fewest_83 hl (k := 3) rfl (by rw [ey]; rfl) (by decide) rfl (fun ls hl => ?_)
      refine lv_goto (tgt := 26) hx hb dX5_fewest_86 (by decide) ?_
      exact kc (v2_26, y3_5, g_26) (Option.some.inj hf).symm H locs ls hM hS (lv_sub hl [1, 2, 3, 0] rfl)
    · refine lv_iload_n hx hb dX5_fewest_47 rfl (lv_at hl 2 rfl) ?_
      refine lv_iconst (v := -1) hx hb dX5_fewest_48 (by decide) ?_
      refine hb_icmp_eq (tgt := 66) hx hb dX5_fewest_49 (by decide) hf (fun hf => ?_) (fun hf => ?_)
      · exact w_m_fewest_B66 ⟨hx, hb, hr, hml, hown, hts, hlocks, hK, hZ0, hA0⟩ hIx g p0 g1 y2 v2_26 v3_26 g_26 x3 y4 hf kc kx hM hS (lv_sub hl [0, 1, 2, 3] rfl)
      · refine lv_iload_n hx hb dX5_fewest_52 rfl (lv_at hl 3 rfl) ?_
        obtain ⟨y10, hq, hf⟩ := hbind hf
        refine hr_calli0 (va_runS (As := [.int v3_26]) (rest := []) ⟨hx, hb, hml, hown, hts⟩ (met_m_bitsOf l D C a0 s0 ad so (Sum.elim t g_26) lt v3_26 hq) (va_cwS 1 hts (lw_S q1736 q1737 q99 q1738) rfl rfl rfl (by decide +kernel) ⟨Nat.le_of_ble_eq_true rfl, Nat.le_of_ble_eq_true rfl⟩) (hr_preS hZ_c hM hIx hK hZ0 hA0 hS) rfl rfl hl.1 rfl (lv_room (Nat.le_of_ble_eq_true rfl)) dX5_fewest_53 ⟨Nat.le_of_ble_eq_true rfl, Nat.le_of_ble_eq_true rfl⟩) hS (fun H locs hM hS => ?_)
        refine lv_iload_n hx hb dX5_fewest_56 rfl (lv_at hl 2 rfl) ?_
        obtain ⟨y11, hq, hf⟩ := hbind hf
        refine hr_calli0 (va_runS (As := [.int v2_26]) (rest := [.int y10]) ⟨hx, hb, hml, hown, hts⟩ (met_m_bitsOf l D C a0 s0 ad so (Sum.elim t g_26) lt v2_26 hq) (va_cwS 1 hts (lw_S q1736 q1737 q99 q1738) rfl rfl rfl (by decide +kernel) ⟨Nat.le_of_ble_eq_true rfl, Nat.le_of_ble_eq_true rfl⟩) (hr_preS hZ_c hM hIx hK hZ0 hA0 hS) rfl rfl hl.1 rfl (lv_room (Nat.le_of_ble_eq_true rfl)) dX5_fewest_57 ⟨Nat.le_of_ble_eq_true rfl, Nat.le_of_ble_eq_true rfl⟩) hS (fun H locs hM hS => ?_)
        refine hb_icmp_lt (tgt := 66) hx hb dX5_fewest_60 (by decide) hf (fun hf => ?_) (fun hf => ?_)
        · exact w_m_fewest_B66 ⟨hx, hb, hr, hml, hown, hts, hlocks, hK, hZ0, hA0⟩ hIx g p0 g1 y2 v2_26 v3_26 g_26 x3 y4 hf kc kx hM hS (lv_sub hl [0, 1, 2, 3] rfl)
        · refine lv_goto (tgt := 83) hx hb dX5_fewest_63 (by decide) ?_
          obtain ⟨y3_12, ey, hf⟩ := hlet_ex hf
          refine lv_iinc (v := y3_12) (lv' := [(3, .int y3_12), (0, .ref (ad (.inr 0))), (1, .int p0), (2, .int v2_26)]) hx hb dX5_fewest_83 hl (k := 3) rfl (by rw [ey]; rfl) (by decide) rfl (fun ls hl => ?_)
          refine lv_goto (tgt := 26) hx hb dX5_fewest_86 (by decide) ?_
          exact kc (v2_26, y3_12, g_26) (Option.some.inj hf).symm H locs ls hM hS (lv_sub hl [1, 2, 3, 0] rfl)
set_option maxHeartbeats 4000000 in
set_option maxRecDepth 100000 in
theorem w_m_fewest {p : Program} {l : Launch} {e : Env} {s : State} {m : MethodId} {args : Array Value} {below : List Frame} {meth : Method} {c : Code} {D : va_G} {C : Nat → Nat} {a0 : Array Value} {s0 : State} {ad : Rl → Nat} {so : Nat → Option hS} {t : hSt} {lt : Rl → Nat → Int64} (CX : hCx D C a0 s0 p s m args meth c cX5_fewest 4 RX5 (some .int)) (hIx : hI (hA s0) ad (Sum.elim so (mSH C))) (g : hSt) (p0 : Int32) {o : Int32 × hSt} (hf : m_fewest g p0 = some o) {H : Heap} {locs : List Loc} (hM : hW D vwCl ad (Sum.elim so (mSH C)) (Sum.elim t g) lt H) (hS : va_S (hA s0) s.heap H locs) {ls : Array Slot} (hl : lv_has ls 4 [(0, .ref (ad (.inr 0))), (1, .int p0)]) : W p l e rm_m_fewest s m args below meth c H locs 0 0 (MQ below (va_Qi (fun (r : Int32) (_ : Unit) => r = o.1) (fun (_ : Unit) (U : State) => hW D vwCl ad (Sum.elim so (mSH C)) (Sum.elim t o.2) lt U.heap) (hA s0)) args s 0 0 (hA s0)) (F0 m 0 ls []) := by
  obtain ⟨hx, hb, hr, hml, hown, hts, hlocks, hK, hZ0, hA0⟩ := CX
  unfold m_fewest at hf
  refine lv_aload_n hx hb dX5_fewest_0 rfl (lv_at hl 0 rfl) ?_
  refine lv_iconst (v := 0) hx hb dX5_fewest_1 (by decide) ?_
  refine hm_put (r := 0) (ci := 5) (C := RX5) (T := TX5) (N := 55) hx hb hts in_X5 tyX5 tyX5_ok nmX5 hown hK hM hIx hS mS_0 rfl 1 (by decide) (hts _ q1369) rfl rfl rfl hf dX5_fewest_2 (fun g1 H locs hf hM hS => ?_)
  refine lv_iload_n hx hb dX5_fewest_5 rfl (lv_at hl 1 rfl) ?_
  refine lv_iconst (v := 1) hx hb dX5_fewest_6 (by decide) ?_
  refine lv_sipush (v := 999) hx hb dX5_fewest_7 (by decide) ?_
  obtain ⟨y2, hq, hf⟩ := hbind hf
  refine hr_calli0 (va_runS (As := [.int p0, .int (1 : Int32), .int (999 : Int32)]) (rest := []) ⟨hx, hb, hml, hown, hts⟩ (met_m_isIn l D C a0 s0 ad so (Sum.elim t g1) lt p0 (1 : Int32) (999 : Int32) hq) (va_cwS 3 hts (lw_S q1648 q1649 q99 q1650) rfl rfl rfl (by decide +kernel) ⟨Nat.le_of_ble_eq_true rfl, Nat.le_of_ble_eq_true rfl⟩) (hr_preS hZ_c hM hIx hK hZ0 hA0 hS) rfl rfl hl.1 rfl (lv_room (Nat.le_of_ble_eq_true rfl)) dX5_fewest_10 ⟨Nat.le_of_ble_eq_true rfl, Nat.le_of_ble_eq_true rfl⟩) hS (fun H locs hM hS => ?_)
  refine hb_if_ne (tgt := 22) hx hb dX5_fewest_13 (by decide) hf (fun hf => ?_) (fun hf => ?_)
  · refine lv_iconst (v := -1) hx hb dX5_fewest_22 (by decide) ?_
    refine lv_istore_n (lv' := [(2, .int (-1 : Int32)), (0, .ref (ad (.inr 0))), (1, .int p0)]) hx hb dX5_fewest_23 rfl hl (by decide) rfl (fun ls hl => ?_)
    refine lv_iconst (v := 0) hx hb dX5_fewest_24 (by decide) ?_
    refine lv_istore_n (lv' := [(3, .int (0 : Int32)), (2, .int (-1 : Int32)), (0, .ref (ad (.inr 0))), (1, .int p0)]) hx hb dX5_fewest_25 rfl hl (by decide) rfl (fun ls hl => ?_)
    obtain ⟨x13, hq, hf⟩ := hbind hf
    refine w_m_fewest_L26 ⟨hx, hb, hr, hml, hown, hts, hlocks, hK, hZ0, hA0⟩ hIx g p0 g1 y2 x13 hFU ((-1 : Int32), (0 : Int32), g1) hq (fun H locs ls hM hS hl => ?_) H locs ls hM hS (lv_sub hl [2, 3, 1, 0] rfl)
    refine lv_iload_n hx hb dX5_fewest_89 rfl (lv_at hl 0 rfl) ?_
    have eo := Option.some.inj hf
    subst eo
    exact W.iret (v := x13.1) hx hb hr (fun T ht hW => ⟨⟨x13.1, (), rfl, rfl, by dsimp only; rw [ht]; exact hM⟩, hS.F ht⟩) hS.2.2 dX5_fewest_90
  · refine lv_aload_n hx hb dX5_fewest_16 rfl (lv_at hl 0 rfl) ?_
    refine lv_iconst (v := 1) hx hb dX5_fewest_17 (by decide) ?_
    obtain ⟨y14, hq, hf⟩ := hbind hf
    refine hr_calli0 (va_runV (As := [.int (1 : Int32)]) (rest := []) ⟨hx, hb, hml, hown, hts⟩ (met_m_fail l D C a0 s0 ad so t lt g1 (1 : Int32) hq) (cwV 1 hts (lw_V q1547 q1549 qs33 q99 q1550) rfl rfl rfl (by decide +kernel) ⟨Nat.le_of_ble_eq_true rfl, Nat.le_of_ble_eq_true rfl⟩) (hr_preV hZ_c hM hIx hK hZ0 hA0 hS (r := .inr 0) mS_0 (q := (RX5, TX5, 55)) rfl) rfl rfl hl.1 rfl (lv_room (Nat.le_of_ble_eq_true rfl)) dX5_fewest_18 ⟨Nat.le_of_ble_eq_true rfl, Nat.le_of_ble_eq_true rfl⟩) hS (fun H locs hM hS => ?_)
    have eo := Option.some.inj hf
    subst eo
    exact W.iret (v := y14.1) hx hb hr (fun T ht hW => ⟨⟨y14.1, (), rfl, rfl, by dsimp only; rw [ht]; exact hM⟩, hS.F ht⟩) hS.2.2 dX5_fewest_21
set_option maxHeartbeats 4000000 in
set_option maxRecDepth 100000 in
theorem met_m_fewest (l : Launch) (D : va_G) (C : Nat → Nat) (a0 : Array Value) (s0 : State) (ad : Rl → Nat) (so : Nat → Option hS) (t : hSt) (lt : Rl → Nat → Int64) (g : hSt) (p0 : Int32) {o : Int32 × hSt} (hf : m_fewest g p0 = some o) : Met l yX5_fewest (ws_ yX5_fewest cX5_fewest 4 (some .int)) rm_m_fewest (va_Pc [.ref (ad (.inr 0)), .int p0] (hB D vwCl (hT C) (hA s0) (hZ a0 s0) ad (Sum.elim so (mSH C)) (Sum.elim t g) lt)) (va_Qi (fun (r : Int32) (_ : Unit) => r = o.1) (fun (_ : Unit) (U : State) => hW D vwCl ad (Sum.elim so (mSH C)) (Sum.elim t o.2) lt U.heap) (hA s0)) 0 0 (hA s0) := by
  refine Met.ofW (cc := cX5_fewest) (maxL := 4) (ret := (some .int)) (by decide) rfl ?_
  intro p e s m args below meth c s₁ B hml hv
  obtain ⟨rfl, hM, hIx, hK, hZ0, hA0⟩ := hv
  have hl := lv_entry ([.ref (ad (.inr 0)), .int p0]) (n := 4) (Nat.le_of_ble_eq_true rfl)
  rw [lg_entry_eq]
  generalize (lg_sl ([.ref (ad (.inr 0)), .int p0]) ++ List.replicate (4 - (lg_sl ([.ref (ad (.inr 0)), .int p0])).length) Slot.unset).toArray = ls at hl ⊢
  have hl : lv_has ls 4 [(0, .ref (ad (.inr 0))), (1, .int p0)] := hl
  exact w_m_fewest ⟨B.exec, B.bytes, B.returns, hml, findClass_of_methodNamed B.named, fun w h => atoms_spec (ws := ws_ yX5_fewest cX5_fewest 4 (some .int)) B.pre w (List.mem_cons_of_mem _ h), B.notSynchronized, hK, hZ0, hA0⟩ hIx g p0 hf hM va_S.rf hl

def rm_m_answers : Room := { frames := 5, cells := 0, slots := 0, locals := 61 }
set_option maxHeartbeats 4000000 in
set_option maxRecDepth 100000 in
theorem w_m_answers_B63 {p : Program} {l : Launch} {e : Env} {s : State} {m : MethodId} {args : Array Value} {below : List Frame} {meth : Method} {c : Code} {D : va_G} {C : Nat → Nat} {a0 : Array Value} {s0 : State} {ad : Rl → Nat} {so : Nat → Option hS} {t : hSt} {lt : Rl → Nat → Int64} (CX : hCx D C a0 s0 p s m args meth c cX5_answers 4 RX5 (some .int)) (hIx : hI (hA s0) ad (Sum.elim so (mSH C))) (g : hSt) (p0 : Int32) (p1 : Int32) (p2 : Int32) (g1 : hSt) (y2 : Int32) (y3 : Int32) (y4 : Int32) (k0_63 : Int32) (k1_63 : Int32) {o : Int32 × hSt} (hf : m_answers_B63 p1 g1 k0_63 k1_63 = some o) {H : Heap} {locs : List Loc} (hM : hW D vwCl ad (Sum.elim so (mSH C)) (Sum.elim t g1) lt H) (hS : va_S (hA s0) s.heap H locs) {ls : Array Slot} (hl : lv_has ls 4 [(0, .ref (ad (.inr 0))), (2, .int p1)]) : W p l e rm_m_answers s m args below meth c H locs 0 0 (MQ below (va_Qi (fun (r : Int32) (_ : Unit) => r = o.1) (fun (_ : Unit) (U : State) => hW D vwCl ad (Sum.elim so (mSH C)) (Sum.elim t o.2) lt U.heap) (hA s0)) args s 0 0 (hA s0)) (F0 m 63 ls [.int k0_63, .int k1_63, .ref (ad (.inr 0))]) := by
  obtain ⟨hx, hb, hr, hml, hown, hts, hlocks, hK, hZ0, hA0⟩ := CX
  unfold m_answers_B63 at hf
  obtain ⟨y5, hq, hf⟩ := hbind hf
  refine hr_callv0 (va_runV (As := [.int k1_63, .int k0_63]) (rest := []) ⟨hx, hb, hml, hown, hts⟩ (met_m_tellWeights l D C a0 s0 ad so t lt g1 k1_63 k0_63 hq) (cwV 2 hts (lw_V q1811 q1813 qs70 q99 q1814) rfl rfl rfl (by decide +kernel) ⟨Nat.le_of_ble_eq_true rfl, Nat.le_of_ble_eq_true rfl⟩) (hr_preV hZ_c hM hIx hK hZ0 hA0 hS (r := .inr 0) mS_0 (q := (RX5, TX5, 55)) rfl) rfl rfl hl.1 rfl (lv_room (Nat.le_of_ble_eq_true rfl)) dX5_answers_63 ⟨Nat.le_of_ble_eq_true rfl, Nat.le_of_ble_eq_true rfl⟩) hS (fun H locs hM hS => ?_)
  refine lv_aload_n hx hb dX5_answers_66 rfl (lv_at hl 0 rfl) ?_
  refine lv_iload_n hx hb dX5_answers_67 rfl (lv_at hl 1 rfl) ?_
  obtain ⟨y6, hq, hf⟩ := hbind hf
  refine hr_calli0 (va_runV (As := [.int p1]) (rest := []) ⟨hx, hb, hml, hown, hts⟩ (met_m_madeUpTo l D C a0 s0 ad so t lt y5 p1 hq) (cwV 1 hts (lw_V q1815 q1817 qs71 q99 q1818) rfl rfl rfl (by decide +kernel) ⟨Nat.le_of_ble_eq_true rfl, Nat.le_of_ble_eq_true rfl⟩) (hr_preV hZ_c hM hIx hK hZ0 hA0 hS (r := .inr 0) mS_0 (q := (RX5, TX5, 55)) rfl) rfl rfl hl.1 rfl (lv_room (Nat.le_of_ble_eq_true rfl)) dX5_answers_68 ⟨Nat.le_of_ble_eq_true rfl, Nat.le_of_ble_eq_true rfl⟩) hS (fun H locs hM hS => ?_)
  have eo := Option.some.inj hf
  subst eo
  exact W.iret (v := y6) hx hb hr (fun T ht hW => ⟨⟨y6, (), rfl, rfl, by dsimp only; rw [ht]; exact hM⟩, hS.F ht⟩) hS.2.2 dX5_answers_71
set_option maxHeartbeats 4000000 in
set_option maxRecDepth 100000 in
theorem w_m_answers {p : Program} {l : Launch} {e : Env} {s : State} {m : MethodId} {args : Array Value} {below : List Frame} {meth : Method} {c : Code} {D : va_G} {C : Nat → Nat} {a0 : Array Value} {s0 : State} {ad : Rl → Nat} {so : Nat → Option hS} {t : hSt} {lt : Rl → Nat → Int64} (CX : hCx D C a0 s0 p s m args meth c cX5_answers 4 RX5 (some .int)) (hIx : hI (hA s0) ad (Sum.elim so (mSH C))) (g : hSt) (p0 : Int32) (p1 : Int32) (p2 : Int32) {o : Int32 × hSt} (hf : m_answers g p0 p1 p2 = some o) {H : Heap} {locs : List Loc} (hM : hW D vwCl ad (Sum.elim so (mSH C)) (Sum.elim t g) lt H) (hS : va_S (hA s0) s.heap H locs) {ls : Array Slot} (hl : lv_has ls 4 [(0, .ref (ad (.inr 0))), (1, .int p0), (2, .int p1), (3, .int p2)]) : W p l e rm_m_answers s m args below meth c H locs 0 0 (MQ below (va_Qi (fun (r : Int32) (_ : Unit) => r = o.1) (fun (_ : Unit) (U : State) => hW D vwCl ad (Sum.elim so (mSH C)) (Sum.elim t o.2) lt U.heap) (hA s0)) args s 0 0 (hA s0)) (F0 m 0 ls []) := by
  obtain ⟨hx, hb, hr, hml, hown, hts, hlocks, hK, hZ0, hA0⟩ := CX
  unfold m_answers at hf
  refine lv_aload_n hx hb dX5_answers_0 rfl (lv_at hl 0 rfl) ?_
  refine lv_iconst (v := 0) hx hb dX5_answers_1 (by decide) ?_
  refine hm_put (r := 0) (ci := 5) (C := RX5) (T := TX5) (N := 55) hx hb hts in_X5 tyX5 tyX5_ok nmX5 hown hK hM hIx hS mS_0 rfl 1 (by decide) (hts _ q1369) rfl rfl rfl hf dX5_answers_2 (fun g1 H locs hf hM hS => ?_)
  refine lv_aload_n hx hb dX5_answers_5 rfl (lv_at hl 0 rfl) ?_
  refine lv_iload_n hx hb dX5_answers_6 rfl (lv_at hl 1 rfl) ?_
  obtain ⟨y2, hq, hf⟩ := hbind hf
  refine hr_calli0 (va_runV (As := [.int p0]) (rest := []) ⟨hx, hb, hml, hown, hts⟩ (met_m_isPerson l D C a0 s0 ad so t lt g1 p0 hq) (cwV 1 hts (lw_V q1655 q1657 qs47 q99 q1658) rfl rfl rfl (by decide +kernel) ⟨Nat.le_of_ble_eq_true rfl, Nat.le_of_ble_eq_true rfl⟩) (hr_preV hZ_c hM hIx hK hZ0 hA0 hS (r := .inr 0) mS_0 (q := (RX5, TX5, 55)) rfl) rfl rfl hl.1 rfl (lv_room (Nat.le_of_ble_eq_true rfl)) dX5_answers_7 ⟨Nat.le_of_ble_eq_true rfl, Nat.le_of_ble_eq_true rfl⟩) hS (fun H locs hM hS => ?_)
  refine hb_if_ne (tgt := 19) hx hb dX5_answers_10 (by decide) hf (fun hf => ?_) (fun hf => ?_)
  · refine lv_iload_n hx hb dX5_answers_19 rfl (lv_at hl 2 rfl) ?_
    refine lv_iconst (v := 1) hx hb dX5_answers_20 (by decide) ?_
    refine lv_sipush (v := 999) hx hb dX5_answers_21 (by decide) ?_
    obtain ⟨y3, hq, hf⟩ := hbind hf
    refine hr_calli0 (va_runS (As := [.int p1, .int (1 : Int32), .int (999 : Int32)]) (rest := []) ⟨hx, hb, hml, hown, hts⟩ (met_m_isIn l D C a0 s0 ad so (Sum.elim t g1) lt p1 (1 : Int32) (999 : Int32) hq) (va_cwS 3 hts (lw_S q1648 q1649 q99 q1650) rfl rfl rfl (by decide +kernel) ⟨Nat.le_of_ble_eq_true rfl, Nat.le_of_ble_eq_true rfl⟩) (hr_preS hZ_c hM hIx hK hZ0 hA0 hS) rfl rfl hl.1 rfl (lv_room (Nat.le_of_ble_eq_true rfl)) dX5_answers_24 ⟨Nat.le_of_ble_eq_true rfl, Nat.le_of_ble_eq_true rfl⟩) hS (fun H locs hM hS => ?_)
    refine hb_if_ne (tgt := 36) hx hb dX5_answers_27 (by decide) hf (fun hf => ?_) (fun hf => ?_)
    · refine lv_aload_n hx hb dX5_answers_36 rfl (lv_at hl 0 rfl) ?_
      refine lv_aload_n hx hb dX5_answers_37 rfl (lv_at hl 0 rfl) ?_
      refine lv_aload_n hx hb dX5_answers_38 rfl (lv_at hl 0 rfl) ?_
      refine hr_get (ci := 5) (C := RX5) (T := TX5) (N := 55) (r := .inr 0) hx hb hts in_X5 hown hK hM mS_0 rfl 7 (by decide) (hts _ q1375) rfl (v := .ref (ad (.inr 8))) rfl dX5_answers_39 ?_
      refine lv_iload_n hx hb dX5_answers_42 rfl (lv_at hl 1 rfl) ?_
      obtain ⟨y4, hq, hf⟩ := hbind hf
      refine hr_calli0 (va_runV (As := [.ref (ad (.inr 8)), .int p0]) (rest := [.ref (ad (.inr 0))]) ⟨hx, hb, hml, hown, hts⟩ (met_m_hasOf l D C a0 s0 ad so t lt g1 8 p0 ms_8 hq) (cwV 2 hts (lw_V q1659 q1661 qs48 q99 q1662) rfl rfl rfl (by decide +kernel) ⟨Nat.le_of_ble_eq_true rfl, Nat.le_of_ble_eq_true rfl⟩) (hr_preV hZ_c hM hIx hK hZ0 hA0 hS (r := .inr 0) mS_0 (q := (RX5, TX5, 55)) rfl) rfl rfl hl.1 rfl (lv_room (Nat.le_of_ble_eq_true rfl)) dX5_answers_43 ⟨Nat.le_of_ble_eq_true rfl, Nat.le_of_ble_eq_true rfl⟩) hS (fun H locs hM hS => ?_)
      refine lv_iload_n hx hb dX5_answers_46 rfl (lv_at hl 3 rfl) ?_
      refine hb_if_eq (tgt := 62) hx hb dX5_answers_47 (by decide) hf (fun hf => ?_) (fun hf => ?_)
      · refine lv_iconst (v := 0) hx hb dX5_answers_62 (by decide) ?_
        exact w_m_answers_B63 ⟨hx, hb, hr, hml, hown, hts, hlocks, hK, hZ0, hA0⟩ hIx g p0 p1 p2 g1 y2 y3 y4 (0 : Int32) y4 hf hM hS (lv_sub hl [0, 2] rfl)
      · refine lv_aload_n hx hb dX5_answers_50 rfl (lv_at hl 0 rfl) ?_
        refine hr_get (ci := 5) (C := RX5) (T := TX5) (N := 55) (r := .inr 0) hx hb hts in_X5 hown hK hM mS_0 rfl 7 (by decide) (hts _ q1375) rfl (v := .ref (ad (.inr 8))) rfl dX5_answers_51 ?_
        refine lv_bipush (v := 12) hx hb dX5_answers_54 (by decide) ?_
        refine lv_iload_n hx hb dX5_answers_56 rfl (lv_at hl 1 rfl) ?_
        refine lv_iadd hx hb dX5_answers_57 ?_
        refine hm_iald (r := 8) hx hb hK hM 0 mS_8 rfl hf dX5_answers_58 (fun x7 hf => ?_)
        refine lv_goto (tgt := 63) hx hb dX5_answers_59 (by decide) ?_
        exact w_m_answers_B63 ⟨hx, hb, hr, hml, hown, hts, hlocks, hK, hZ0, hA0⟩ hIx g p0 p1 p2 g1 y2 y3 y4 x7 y4 hf hM hS (lv_sub hl [0, 2] rfl)
    · refine lv_aload_n hx hb dX5_answers_30 rfl (lv_at hl 0 rfl) ?_
      refine lv_iconst (v := 2) hx hb dX5_answers_31 (by decide) ?_
      obtain ⟨y8, hq, hf⟩ := hbind hf
      refine hr_calli0 (va_runV (As := [.int (2 : Int32)]) (rest := []) ⟨hx, hb, hml, hown, hts⟩ (met_m_fail l D C a0 s0 ad so t lt g1 (2 : Int32) hq) (cwV 1 hts (lw_V q1547 q1549 qs33 q99 q1550) rfl rfl rfl (by decide +kernel) ⟨Nat.le_of_ble_eq_true rfl, Nat.le_of_ble_eq_true rfl⟩) (hr_preV hZ_c hM hIx hK hZ0 hA0 hS (r := .inr 0) mS_0 (q := (RX5, TX5, 55)) rfl) rfl rfl hl.1 rfl (lv_room (Nat.le_of_ble_eq_true rfl)) dX5_answers_32 ⟨Nat.le_of_ble_eq_true rfl, Nat.le_of_ble_eq_true rfl⟩) hS (fun H locs hM hS => ?_)
      have eo := Option.some.inj hf
      subst eo
      exact W.iret (v := y8.1) hx hb hr (fun T ht hW => ⟨⟨y8.1, (), rfl, rfl, by dsimp only; rw [ht]; exact hM⟩, hS.F ht⟩) hS.2.2 dX5_answers_35
  · refine lv_aload_n hx hb dX5_answers_13 rfl (lv_at hl 0 rfl) ?_
    refine lv_iconst (v := 1) hx hb dX5_answers_14 (by decide) ?_
    obtain ⟨y9, hq, hf⟩ := hbind hf
    refine hr_calli0 (va_runV (As := [.int (1 : Int32)]) (rest := []) ⟨hx, hb, hml, hown, hts⟩ (met_m_fail l D C a0 s0 ad so t lt g1 (1 : Int32) hq) (cwV 1 hts (lw_V q1547 q1549 qs33 q99 q1550) rfl rfl rfl (by decide +kernel) ⟨Nat.le_of_ble_eq_true rfl, Nat.le_of_ble_eq_true rfl⟩) (hr_preV hZ_c hM hIx hK hZ0 hA0 hS (r := .inr 0) mS_0 (q := (RX5, TX5, 55)) rfl) rfl rfl hl.1 rfl (lv_room (Nat.le_of_ble_eq_true rfl)) dX5_answers_15 ⟨Nat.le_of_ble_eq_true rfl, Nat.le_of_ble_eq_true rfl⟩) hS (fun H locs hM hS => ?_)
    have eo := Option.some.inj hf
    subst eo
    exact W.iret (v := y9.1) hx hb hr (fun T ht hW => ⟨⟨y9.1, (), rfl, rfl, by dsimp only; rw [ht]; exact hM⟩, hS.F ht⟩) hS.2.2 dX5_answers_18
set_option maxHeartbeats 4000000 in
set_option maxRecDepth 100000 in
theorem met_m_answers (l : Launch) (D : va_G) (C : Nat → Nat) (a0 : Array Value) (s0 : State) (ad : Rl → Nat) (so : Nat → Option hS) (t : hSt) (lt : Rl → Nat → Int64) (g : hSt) (p0 : Int32) (p1 : Int32) (p2 : Int32) {o : Int32 × hSt} (hf : m_answers g p0 p1 p2 = some o) : Met l yX5_answers (ws_ yX5_answers cX5_answers 4 (some .int)) rm_m_answers (va_Pc [.ref (ad (.inr 0)), .int p0, .int p1, .int p2] (hB D vwCl (hT C) (hA s0) (hZ a0 s0) ad (Sum.elim so (mSH C)) (Sum.elim t g) lt)) (va_Qi (fun (r : Int32) (_ : Unit) => r = o.1) (fun (_ : Unit) (U : State) => hW D vwCl ad (Sum.elim so (mSH C)) (Sum.elim t o.2) lt U.heap) (hA s0)) 0 0 (hA s0) := by
  refine Met.ofW (cc := cX5_answers) (maxL := 4) (ret := (some .int)) (by decide) rfl ?_
  intro p e s m args below meth c s₁ B hml hv
  obtain ⟨rfl, hM, hIx, hK, hZ0, hA0⟩ := hv
  have hl := lv_entry ([.ref (ad (.inr 0)), .int p0, .int p1, .int p2]) (n := 4) (Nat.le_of_ble_eq_true rfl)
  rw [lg_entry_eq]
  generalize (lg_sl ([.ref (ad (.inr 0)), .int p0, .int p1, .int p2]) ++ List.replicate (4 - (lg_sl ([.ref (ad (.inr 0)), .int p0, .int p1, .int p2])).length) Slot.unset).toArray = ls at hl ⊢
  have hl : lv_has ls 4 [(0, .ref (ad (.inr 0))), (1, .int p0), (2, .int p1), (3, .int p2)] := hl
  exact w_m_answers ⟨B.exec, B.bytes, B.returns, hml, findClass_of_methodNamed B.named, fun w h => atoms_spec (ws := ws_ yX5_answers cX5_answers 4 (some .int)) B.pre w (List.mem_cons_of_mem _ h), B.notSynchronized, hK, hZ0, hA0⟩ hIx g p0 p1 p2 hf hM va_S.rf hl

def rm_m_round : Room := { frames := 11, cells := 0, slots := 0, locals := 131 }
set_option maxHeartbeats 4000000 in
set_option maxRecDepth 100000 in
theorem w_m_round_B22 {p : Program} {l : Launch} {e : Env} {s : State} {m : MethodId} {args : Array Value} {below : List Frame} {meth : Method} {c : Code} {D : va_G} {C : Nat → Nat} {a0 : Array Value} {s0 : State} {ad : Rl → Nat} {so : Nat → Option hS} {t : hSt} {lt : Rl → Nat → Int64} (CX : hCx D C a0 s0 p s m args meth c cX5_round 7 RX5 (some .int)) (hIx : hI (hA s0) ad (Sum.elim so (mSH C))) (g : hSt) (p0 : Int32) (p1 : Int32) (g1 : hSt) (y2 : Int32) {o : Int32 × hSt} (hf : m_round_B22 g1 = some o) {H : Heap} {locs : List Loc} (hM : hW D vwCl ad (Sum.elim so (mSH C)) (Sum.elim t g1) lt H) (hS : va_S (hA s0) s.heap H locs) {ls : Array Slot} (hl : lv_has ls 7 [(0, .ref (ad (.inr 0)))]) : W p l e rm_m_round s m args below meth c H locs 0 0 (MQ below (va_Qi (fun (r : Int32) (_ : Unit) => r = o.1) (fun (_ : Unit) (U : State) => hW D vwCl ad (Sum.elim so (mSH C)) (Sum.elim t o.2) lt U.heap) (hA s0)) args s 0 0 (hA s0)) (F0 m 22 ls []) := by
  obtain ⟨hx, hb, hr, hml, hown, hts, hlocks, hK, hZ0, hA0⟩ := CX
  unfold m_round_B22 at hf
  refine lv_aload_n hx hb dX5_round_22 rfl (lv_at hl 0 rfl) ?_
  refine lv_iconst (v := 1) hx hb dX5_round_23 (by decide) ?_
  obtain ⟨y3, hq, hf⟩ := hbind hf
  refine hr_calli0 (va_runV (As := [.int (1 : Int32)]) (rest := []) ⟨hx, hb, hml, hown, hts⟩ (met_m_fail l D C a0 s0 ad so t lt g1 (1 : Int32) hq) (cwV 1 hts (lw_V q1547 q1549 qs33 q99 q1550) rfl rfl rfl (by decide +kernel) ⟨Nat.le_of_ble_eq_true rfl, Nat.le_of_ble_eq_true rfl⟩) (hr_preV hZ_c hM hIx hK hZ0 hA0 hS (r := .inr 0) mS_0 (q := (RX5, TX5, 55)) rfl) rfl rfl hl.1 rfl (lv_room (Nat.le_of_ble_eq_true rfl)) dX5_round_24 ⟨Nat.le_of_ble_eq_true rfl, Nat.le_of_ble_eq_true rfl⟩) hS (fun H locs hM hS => ?_)
  have eo := Option.some.inj hf
  subst eo
  exact W.iret (v := y3.1) hx hb hr (fun T ht hW => ⟨⟨y3.1, (), rfl, rfl, by dsimp only; rw [ht]; exact hM⟩, hS.F ht⟩) hS.2.2 dX5_round_27
set_option maxHeartbeats 4000000 in
set_option maxRecDepth 100000 in
theorem w_m_round_L59 {p : Program} {l : Launch} {e : Env} {s : State} {m : MethodId} {args : Array Value} {below : List Frame} {meth : Method} {c : Code} {D : va_G} {C : Nat → Nat} {a0 : Array Value} {s0 : State} {ad : Rl → Nat} {so : Nat → Option hS} {t : hSt} {lt : Rl → Nat → Int64} (CX : hCx D C a0 s0 p s m args meth c cX5_round 7 RX5 (some .int)) (hIx : hI (hA s0) ad (Sum.elim so (mSH C))) (g : hSt) (p0 : Int32) (p1 : Int32) (g1 : hSt) (y2 : Int32) (y4 : Int32) (y5 : hSt) (y6 : Int32) {oM : Int32 × hSt} (x : Int32 × Int32 × hSt) (n : Nat) (q0 : Int32 × Int32 × Int32 × hSt) (h0 : hiter (fun q : Int32 × Int32 × Int32 × hSt => m_round_L59 p0 q.1 q.2.1 q.2.2.1 q.2.2.2) n q0 = some x) (kx0 : ∀ (H : Heap) (locs : List Loc) (ls : Array Slot), hW D vwCl ad (Sum.elim so (mSH C)) (Sum.elim t x.2.2) lt H → va_S (hA s0) s.heap H locs → lv_has ls 7 [(0, .ref (ad (.inr 0))), (1, .int p0), (2, .int p1), (3, .int x.1), (4, .int x.2.1)] → W p l e rm_m_round s m args below meth c H locs 0 0 (MQ below (va_Qi (fun (r : Int32) (_ : Unit) => r = oM.1) (fun (_ : Unit) (U : State) => hW D vwCl ad (Sum.elim so (mSH C)) (Sum.elim t oM.2) lt U.heap) (hA s0)) args s 0 0 (hA s0)) (F0 m 166 ls [])) : ∀ (H : Heap) (locs : List Loc) (ls : Array Slot), hW D vwCl ad (Sum.elim so (mSH C)) (Sum.elim t q0.2.2.2) lt H → va_S (hA s0) s.heap H locs → lv_has ls 7 [(0, .ref (ad (.inr 0))), (1, .int p0), (2, .int p1), (3, .int q0.1), (4, .int q0.2.1), (5, .int q0.2.2.1)] → W p l e rm_m_round s m args below meth c H locs 0 0 (MQ below (va_Qi (fun (r : Int32) (_ : Unit) => r = oM.1) (fun (_ : Unit) (U : State) => hW D vwCl ad (Sum.elim so (mSH C)) (Sum.elim t oM.2) lt U.heap) (hA s0)) args s 0 0 (hA s0)) (F0 m 59 ls []) := by
  obtain ⟨hx, hb, hr, hml, hown, hts, hlocks, hK, hZ0, hA0⟩ := CX
  refine hiter_W (Wh := fun q => ∀ (H : Heap) (locs : List Loc) (ls : Array Slot), hW D vwCl ad (Sum.elim so (mSH C)) (Sum.elim t q.2.2.2) lt H → va_S (hA s0) s.heap H locs → lv_has ls 7 [(0, .ref (ad (.inr 0))), (1, .int p0), (2, .int p1), (3, .int q.1), (4, .int q.2.1), (5, .int q.2.2.1)] → W p l e rm_m_round s m args below meth c H locs 0 0 (MQ below (va_Qi (fun (r : Int32) (_ : Unit) => r = oM.1) (fun (_ : Unit) (U : State) => hW D vwCl ad (Sum.elim so (mSH C)) (Sum.elim t oM.2) lt U.heap) (hA s0)) args s 0 0 (hA s0)) (F0 m 59 ls [])) ?_ n q0 h0
  intro q o hf kc kx1 H locs ls hM hS hl
  obtain ⟨v3_59, v4_59, v5_59, g_59⟩ := q
  replace hf : m_round_L59 p0 v3_59 v4_59 v5_59 g_59 = some o := hf
  have kx : ∀ x' : Int32 × Int32 × hSt, o = .inr x' → ∀ (H : Heap) (locs : List Loc) (ls : Array Slot), hW D vwCl ad (Sum.elim so (mSH C)) (Sum.elim t x'.2.2) lt H → va_S (hA s0) s.heap H locs → lv_has ls 7 [(0, .ref (ad (.inr 0))), (1, .int p0), (2, .int p1), (3, .int x'.1), (4, .int x'.2.1)] → W p l e rm_m_round s m args below meth c H locs 0 0 (MQ below (va_Qi (fun (r : Int32) (_ : Unit) => r = oM.1) (fun (_ : Unit) (U : State) => hW D vwCl ad (Sum.elim so (mSH C)) (Sum.elim t oM.2) lt U.heap) (hA s0)) args s 0 0 (hA s0)) (F0 m 166 ls []) := fun x' ex => by rw [kx1 _ ex]; exact kx0
  unfold m_round_L59 at hf
  refine lv_iload hx hb dX5_round_59 (lv_at hl 5 rfl) ?_
  refine lv_iconst (v := -1) hx hb dX5_round_61 (by decide) ?_
  refine hb_icmp_eq (tgt := 166) hx hb dX5_round_62 (by decide) hf (fun hf => ?_) (fun hf => ?_)
  · exact kx (v3_59, v4_59, g_59) (Option.some.inj hf).symm H locs ls hM hS (lv_sub hl [0, 1, 2, 3, 4] rfl)
  · refine lv_iload_n hx hb dX5_round_65 rfl (lv_at hl 3 rfl) ?_
    refine lv_bipush (v := 20) hx hb dX5_round_66 (by decide) ?_
    refine hb_icmp_ge (tgt := 166) hx hb dX5_round_68 (by decide) hf (fun hf => ?_) (fun hf => ?_)
    · exact kx (v3_59, v4_59, g_59) (Option.some.inj hf).symm H locs ls hM hS (lv_sub hl [0, 1, 2, 3, 4] rfl)
    · refine lv_aload_n hx hb dX5_round_71 rfl (lv_at hl 0 rfl) ?_
      refine lv_aload_n hx hb dX5_round_72 rfl (lv_at hl 0 rfl) ?_
      refine hr_get (ci := 5) (C := RX5) (T := TX5) (N := 55) (r := .inr 0) hx hb hts in_X5 hown hK hM mS_0 rfl 42 (by decide) (hts _ q1410) rfl (v := .ref (ad (.inr 43))) rfl dX5_round_73 ?_
      refine lv_iload hx hb dX5_round_76 (lv_at hl 4 rfl) ?_
      refine lv_aload_n hx hb dX5_round_78 rfl (lv_at hl 0 rfl) ?_
      refine hr_get (ci := 5) (C := RX5) (T := TX5) (N := 55) (r := .inr 0) hx hb hts in_X5 hown hK hM mS_0 rfl 42 (by decide) (hts _ q1410) rfl (v := .ref (ad (.inr 43))) rfl dX5_round_79 ?_
      refine lv_bipush (v := 24) hx hb dX5_round_82 (by decide) ?_
      refine lv_iload hx hb dX5_round_84 (lv_at hl 4 rfl) ?_
      refine lv_iadd hx hb dX5_round_86 ?_
      refine hm_iald (r := 43) hx hb hK hM 0 mS_43 rfl hf dX5_round_87 (fun x7 hf => ?_)
      obtain ⟨y8, hq, hf⟩ := hbind hf
      refine hr_calli0 (va_runV (As := [.ref (ad (.inr 43)), .int v4_59, .int x7]) (rest := []) ⟨hx, hb, hml, hown, hts⟩ (met_m_whomOf l D C a0 s0 ad so t lt g_59 43 v4_59 x7 ms_43 hq) (cwV 3 hts (lw_V q1739 q1741 qs60 q99 q1742) rfl rfl rfl (by decide +kernel) ⟨Nat.le_of_ble_eq_true rfl, Nat.le_of_ble_eq_true rfl⟩) (hr_preV hZ_c hM hIx hK hZ0 hA0 hS (r := .inr 0) mS_0 (q := (RX5, TX5, 55)) rfl) rfl rfl hl.1 rfl (lv_room (Nat.le_of_ble_eq_true rfl)) dX5_round_88 ⟨Nat.le_of_ble_eq_true rfl, Nat.le_of_ble_eq_true rfl⟩) hS (fun H locs hM hS => ?_)
      refine lv_istore (lv' := [(6, .int y8), (0, .ref (ad (.inr 0))), (1, .int p0), (2, .int p1), (3, .int v3_59), (4, .int v4_59), (5, .int v5_59)]) hx hb dX5_round_91 hl (by decide) rfl (fun ls hl => ?_)
      refine lv_aload_n hx hb dX5_round_93 rfl (lv_at hl 1 rfl) ?_
      refine lv_aload_n hx hb dX5_round_94 rfl (lv_at hl 1 rfl) ?_
      refine hr_get (ci := 5) (C := RX5) (T := TX5) (N := 55) (r := .inr 0) hx hb hts in_X5 hown hK hM mS_0 rfl 42 (by decide) (hts _ q1410) rfl (v := .ref (ad (.inr 43))) rfl dX5_round_95 ?_
      refine lv_iload hx hb dX5_round_98 (lv_at hl 5 rfl) ?_
      refine lv_iload hx hb dX5_round_100 (lv_at hl 6 rfl) ?_
      refine lv_aload_n hx hb dX5_round_102 rfl (lv_at hl 1 rfl) ?_
      refine lv_aload_n hx hb dX5_round_103 rfl (lv_at hl 1 rfl) ?_
      refine hr_get (ci := 5) (C := RX5) (T := TX5) (N := 55) (r := .inr 0) hx hb hts in_X5 hown hK hM mS_0 rfl 42 (by decide) (hts _ q1410) rfl (v := .ref (ad (.inr 43))) rfl dX5_round_104 ?_
      refine lv_iload hx hb dX5_round_107 (lv_at hl 5 rfl) ?_
      refine lv_iload hx hb dX5_round_109 (lv_at hl 6 rfl) ?_
      refine lv_aload_n hx hb dX5_round_111 rfl (lv_at hl 1 rfl) ?_
      refine hr_get (ci := 5) (C := RX5) (T := TX5) (N := 55) (r := .inr 0) hx hb hts in_X5 hown hK hM mS_0 rfl 42 (by decide) (hts _ q1410) rfl (v := .ref (ad (.inr 43))) rfl dX5_round_112 ?_
      refine lv_bipush (v := 18) hx hb dX5_round_115 (by decide) ?_
      refine lv_iload hx hb dX5_round_117 (lv_at hl 5 rfl) ?_
      refine lv_iadd hx hb dX5_round_119 ?_
      refine hm_iald (r := 43) hx hb hK hM 0 mS_43 rfl hf dX5_round_120 (fun x9 hf => ?_)
      obtain ⟨y10, hq, hf⟩ := hbind hf
      refine hr_calli0 (va_runV (As := [.ref (ad (.inr 43)), .int v4_59, .int v5_59, .int x9]) (rest := [.int v5_59, .int v4_59, .ref (ad (.inr 43)), .ref (ad (.inr 0))]) ⟨hx, hb, hml, hown, hts⟩ (met_m_sandFor l D C a0 s0 ad so t lt g_59 43 v4_59 v5_59 x9 ms_43 hq) (cwV 4 hts (lw_V q1720 q1722 qs57 q99 q1723) rfl rfl rfl (by decide +kernel) ⟨Nat.le_of_ble_eq_true rfl, Nat.le_of_ble_eq_true rfl⟩) (hr_preV hZ_c hM hIx hK hZ0 hA0 hS (r := .inr 0) mS_0 (q := (RX5, TX5, 55)) rfl) rfl rfl hl.1 rfl (lv_room (Nat.le_of_ble_eq_true rfl)) dX5_round_121 ⟨Nat.le_of_ble_eq_true rfl, Nat.le_of_ble_eq_true rfl⟩) hS (fun H locs hM hS => ?_)
      refine lv_iload hx hb dX5_round_124 (lv_at hl 0 rfl) ?_
      obtain ⟨y11, hq, hf⟩ := hbind hf
      refine hr_calli0 (va_runV (As := [.ref (ad (.inr 43)), .int v4_59, .int v5_59, .int y10, .int y8]) (rest := []) ⟨hx, hb, hml, hown, hts⟩ (met_m_make l D C a0 s0 ad so t lt g_59 43 v4_59 v5_59 y10 y8 ms_43 hq) (cwV 5 hts (lw_V q1700 q1702 qs55 q99 q1703) rfl rfl rfl (by decide +kernel) ⟨Nat.le_of_ble_eq_true rfl, Nat.le_of_ble_eq_true rfl⟩) (hr_preV hZ_c hM hIx hK hZ0 hA0 hS (r := .inr 0) mS_0 (q := (RX5, TX5, 55)) rfl) rfl rfl hl.1 rfl (lv_room (Nat.le_of_ble_eq_true rfl)) dX5_round_126 ⟨Nat.le_of_ble_eq_true rfl, Nat.le_of_ble_eq_true rfl⟩) hS (fun H locs hM hS => ?_)
      refine lv_pop hx hb dX5_round_129 rfl ?_
      refine lv_iload hx hb dX5_round_130 (lv_at hl 0 rfl) ?_
      refine lv_istore (lv' := [(4, .int y8), (6, .int y8), (0, .ref (ad (.inr 0))), (1, .int p0), (2, .int p1), (3, .int v3_59), (5, .int v5_59)]) hx hb dX5_round_132 hl (by decide) rfl (fun ls hl => ?_)
      obtain ⟨y3_12, ey, hf⟩ := hlet_ex hf
      refine lv_iinc (v := y3_12) (lv' := [(3, .int y3_12), (4, .int y8), (6, .int y8), (0, .ref (ad (.inr 0))), (1, .int p0), (2, .int p1), (5, .int v5_59)]) hx hb dX5_round_134 hl (k := 5) rfl (by rw [ey]; rfl) (by decide) rfl (fun ls hl => ?_)
      refine lv_iload hx hb dX5_round_137 (lv_at hl 1 rfl) ?_
      refine lv_iload_n hx hb dX5_round_139 rfl (lv_at hl 4 rfl) ?_
      refine hb_icmp_ne (tgt := 147) hx hb dX5_round_140 (by decide) hf (fun hf => ?_) (fun hf => ?_)
      · refine lv_aload_n hx hb dX5_round_147 rfl (lv_at hl 3 rfl) ?_
        refine lv_aload_n hx hb dX5_round_148 rfl (lv_at hl 3 rfl) ?_
        refine hr_get (ci := 5) (C := RX5) (T := TX5) (N := 55) (r := .inr 0) hx hb hts in_X5 hown hK hM mS_0 rfl 42 (by decide) (hts _ q1410) rfl (v := .ref (ad (.inr 43))) rfl dX5_round_149 ?_
        refine lv_iload hx hb dX5_round_152 (lv_at hl 1 rfl) ?_
        refine lv_aload_n hx hb dX5_round_154 rfl (lv_at hl 3 rfl) ?_
        refine hr_get (ci := 5) (C := RX5) (T := TX5) (N := 55) (r := .inr 0) hx hb hts in_X5 hown hK hM mS_0 rfl 12 (by decide) (hts _ q1380) rfl (v := .int (y11.2 0 12)) rfl dX5_round_155 ?_
        obtain ⟨y13, hq, hf⟩ := hbind hf
        refine hr_calli0 (va_runV (As := [.ref (ad (.inr 43)), .int y8, .int (y11.2 0 12)]) (rest := []) ⟨hx, hb, hml, hown, hts⟩ (met_m_choiceOf l D C a0 s0 ad so t lt y11.2 43 y8 (y11.2 0 12) ms_43 hq) (cwV 3 hts (lw_V q1728 q1730 qs58 q99 q1731) rfl rfl rfl (by decide +kernel) ⟨Nat.le_of_ble_eq_true rfl, Nat.le_of_ble_eq_true rfl⟩) (hr_preV hZ_c hM hIx hK hZ0 hA0 hS (r := .inr 0) mS_0 (q := (RX5, TX5, 55)) rfl) rfl rfl hl.1 rfl (lv_room (Nat.le_of_ble_eq_true rfl)) dX5_round_158 ⟨Nat.le_of_ble_eq_true rfl, Nat.le_of_ble_eq_true rfl⟩) hS (fun H locs hM hS => ?_)
        refine lv_istore (lv' := [(5, .int y13), (3, .int y3_12), (4, .int y8), (6, .int y8), (0, .ref (ad (.inr 0))), (1, .int p0), (2, .int p1)]) hx hb dX5_round_161 hl (by decide) rfl (fun ls hl => ?_)
        refine lv_goto (tgt := 59) hx hb dX5_round_163 (by decide) ?_
        exact kc (y3_12, y8, y13, y11.2) (Option.some.inj hf).symm H locs ls hM hS (lv_sub hl [4, 5, 6, 1, 2, 0] rfl)
      · refine lv_iconst (v := -1) hx hb dX5_round_143 (by decide) ?_
        refine lv_goto (tgt := 161) hx hb dX5_round_144 (by decide) ?_
        refine lv_istore (lv' := [(5, .int (-1 : Int32)), (3, .int y3_12), (4, .int y8), (6, .int y8), (0, .ref (ad (.inr 0))), (1, .int p0), (2, .int p1)]) hx hb dX5_round_161 hl (by decide) rfl (fun ls hl => ?_)
        refine lv_goto (tgt := 59) hx hb dX5_round_163 (by decide) ?_
        exact kc (y3_12, y8, (-1 : Int32), y11.2) (Option.some.inj hf).symm H locs ls hM hS (lv_sub hl [4, 5, 6, 1, 2, 0] rfl)
set_option maxHeartbeats 4000000 in
set_option maxRecDepth 100000 in
theorem w_m_round {p : Program} {l : Launch} {e : Env} {s : State} {m : MethodId} {args : Array Value} {below : List Frame} {meth : Method} {c : Code} {D : va_G} {C : Nat → Nat} {a0 : Array Value} {s0 : State} {ad : Rl → Nat} {so : Nat → Option hS} {t : hSt} {lt : Rl → Nat → Int64} (CX : hCx D C a0 s0 p s m args meth c cX5_round 7 RX5 (some .int)) (hIx : hI (hA s0) ad (Sum.elim so (mSH C))) (g : hSt) (p0 : Int32) (p1 : Int32) {o : Int32 × hSt} (hf : m_round g p0 p1 = some o) {H : Heap} {locs : List Loc} (hM : hW D vwCl ad (Sum.elim so (mSH C)) (Sum.elim t g) lt H) (hS : va_S (hA s0) s.heap H locs) {ls : Array Slot} (hl : lv_has ls 7 [(0, .ref (ad (.inr 0))), (1, .int p0), (2, .int p1)]) : W p l e rm_m_round s m args below meth c H locs 0 0 (MQ below (va_Qi (fun (r : Int32) (_ : Unit) => r = o.1) (fun (_ : Unit) (U : State) => hW D vwCl ad (Sum.elim so (mSH C)) (Sum.elim t o.2) lt U.heap) (hA s0)) args s 0 0 (hA s0)) (F0 m 0 ls []) := by
  obtain ⟨hx, hb, hr, hml, hown, hts, hlocks, hK, hZ0, hA0⟩ := CX
  unfold m_round at hf
  refine lv_aload_n hx hb dX5_round_0 rfl (lv_at hl 0 rfl) ?_
  refine lv_iconst (v := 0) hx hb dX5_round_1 (by decide) ?_
  refine hm_put (r := 0) (ci := 5) (C := RX5) (T := TX5) (N := 55) hx hb hts in_X5 tyX5 tyX5_ok nmX5 hown hK hM hIx hS mS_0 rfl 1 (by decide) (hts _ q1369) rfl rfl rfl hf dX5_round_2 (fun g1 H locs hf hM hS => ?_)
  refine lv_aload_n hx hb dX5_round_5 rfl (lv_at hl 0 rfl) ?_
  refine lv_iload_n hx hb dX5_round_6 rfl (lv_at hl 1 rfl) ?_
  obtain ⟨y2, hq, hf⟩ := hbind hf
  refine hr_calli0 (va_runV (As := [.int p0]) (rest := []) ⟨hx, hb, hml, hown, hts⟩ (met_m_isPerson l D C a0 s0 ad so t lt g1 p0 hq) (cwV 1 hts (lw_V q1655 q1657 qs47 q99 q1658) rfl rfl rfl (by decide +kernel) ⟨Nat.le_of_ble_eq_true rfl, Nat.le_of_ble_eq_true rfl⟩) (hr_preV hZ_c hM hIx hK hZ0 hA0 hS (r := .inr 0) mS_0 (q := (RX5, TX5, 55)) rfl) rfl rfl hl.1 rfl (lv_room (Nat.le_of_ble_eq_true rfl)) dX5_round_7 ⟨Nat.le_of_ble_eq_true rfl, Nat.le_of_ble_eq_true rfl⟩) hS (fun H locs hM hS => ?_)
  refine hb_if_eq (tgt := 22) hx hb dX5_round_10 (by decide) hf (fun hf => ?_) (fun hf => ?_)
  · exact w_m_round_B22 ⟨hx, hb, hr, hml, hown, hts, hlocks, hK, hZ0, hA0⟩ hIx g p0 p1 g1 y2 hf hM hS (lv_sub hl [0] rfl)
  · refine lv_iload_n hx hb dX5_round_13 rfl (lv_at hl 2 rfl) ?_
    refine lv_iconst (v := 0) hx hb dX5_round_14 (by decide) ?_
    refine lv_iconst (v := 2) hx hb dX5_round_15 (by decide) ?_
    obtain ⟨y4, hq, hf⟩ := hbind hf
    refine hr_calli0 (va_runS (As := [.int p1, .int (0 : Int32), .int (2 : Int32)]) (rest := []) ⟨hx, hb, hml, hown, hts⟩ (met_m_isIn l D C a0 s0 ad so (Sum.elim t g1) lt p1 (0 : Int32) (2 : Int32) hq) (va_cwS 3 hts (lw_S q1648 q1649 q99 q1650) rfl rfl rfl (by decide +kernel) ⟨Nat.le_of_ble_eq_true rfl, Nat.le_of_ble_eq_true rfl⟩) (hr_preS hZ_c hM hIx hK hZ0 hA0 hS) rfl rfl hl.1 rfl (lv_room (Nat.le_of_ble_eq_true rfl)) dX5_round_16 ⟨Nat.le_of_ble_eq_true rfl, Nat.le_of_ble_eq_true rfl⟩) hS (fun H locs hM hS => ?_)
    refine hb_if_ne (tgt := 28) hx hb dX5_round_19 (by decide) hf (fun hf => ?_) (fun hf => ?_)
    · refine lv_aload_n hx hb dX5_round_28 rfl (lv_at hl 0 rfl) ?_
      refine hr_get (ci := 5) (C := RX5) (T := TX5) (N := 55) (r := .inr 0) hx hb hts in_X5 hown hK hM mS_0 rfl 7 (by decide) (hts _ q1375) rfl (v := .ref (ad (.inr 8))) rfl dX5_round_29 ?_
      refine lv_aload_n hx hb dX5_round_32 rfl (lv_at hl 0 rfl) ?_
      refine hr_get (ci := 5) (C := RX5) (T := TX5) (N := 55) (r := .inr 0) hx hb hts in_X5 hown hK hM mS_0 rfl 42 (by decide) (hts _ q1410) rfl (v := .ref (ad (.inr 43))) rfl dX5_round_33 ?_
      obtain ⟨y5, hq, hf⟩ := hbind hf
      refine hr_callv0 (va_runS (As := [.ref (ad (.inr 8)), .ref (ad (.inr 43))]) (rest := []) ⟨hx, hb, hml, hown, hts⟩ (met_m_copy l D C a0 s0 ad so t lt g1 8 43 ms_8 ms_43 hq) (va_cwS 2 hts (lw_S q1637 q1638 q99 q1639) rfl rfl rfl (by decide +kernel) ⟨Nat.le_of_ble_eq_true rfl, Nat.le_of_ble_eq_true rfl⟩) (hr_preS hZ_c hM hIx hK hZ0 hA0 hS) rfl rfl hl.1 rfl (lv_room (Nat.le_of_ble_eq_true rfl)) dX5_round_36 ⟨Nat.le_of_ble_eq_true rfl, Nat.le_of_ble_eq_true rfl⟩) hS (fun H locs hM hS => ?_)
      refine lv_iconst (v := 0) hx hb dX5_round_39 (by decide) ?_
      refine lv_istore_n (lv' := [(3, .int (0 : Int32)), (0, .ref (ad (.inr 0))), (1, .int p0), (2, .int p1)]) hx hb dX5_round_40 rfl hl (by decide) rfl (fun ls hl => ?_)
      refine lv_iload_n hx hb dX5_round_41 rfl (lv_at hl 2 rfl) ?_
      refine lv_istore (lv' := [(4, .int p0), (3, .int (0 : Int32)), (0, .ref (ad (.inr 0))), (1, .int p0), (2, .int p1)]) hx hb dX5_round_42 hl (by decide) rfl (fun ls hl => ?_)
      refine lv_aload_n hx hb dX5_round_44 rfl (lv_at hl 2 rfl) ?_
      refine lv_aload_n hx hb dX5_round_45 rfl (lv_at hl 2 rfl) ?_
      refine hr_get (ci := 5) (C := RX5) (T := TX5) (N := 55) (r := .inr 0) hx hb hts in_X5 hown hK hM mS_0 rfl 42 (by decide) (hts _ q1410) rfl (v := .ref (ad (.inr 43))) rfl dX5_round_46 ?_
      refine lv_iload_n hx hb dX5_round_49 rfl (lv_at hl 3 rfl) ?_
      refine lv_aload_n hx hb dX5_round_50 rfl (lv_at hl 2 rfl) ?_
      refine hr_get (ci := 5) (C := RX5) (T := TX5) (N := 55) (r := .inr 0) hx hb hts in_X5 hown hK hM mS_0 rfl 12 (by decide) (hts _ q1380) rfl (v := .int (y5 0 12)) rfl dX5_round_51 ?_
      obtain ⟨y6, hq, hf⟩ := hbind hf
      refine hr_calli0 (va_runV (As := [.ref (ad (.inr 43)), .int p0, .int (y5 0 12)]) (rest := []) ⟨hx, hb, hml, hown, hts⟩ (met_m_choiceOf l D C a0 s0 ad so t lt y5 43 p0 (y5 0 12) ms_43 hq) (cwV 3 hts (lw_V q1728 q1730 qs58 q99 q1731) rfl rfl rfl (by decide +kernel) ⟨Nat.le_of_ble_eq_true rfl, Nat.le_of_ble_eq_true rfl⟩) (hr_preV hZ_c hM hIx hK hZ0 hA0 hS (r := .inr 0) mS_0 (q := (RX5, TX5, 55)) rfl) rfl rfl hl.1 rfl (lv_room (Nat.le_of_ble_eq_true rfl)) dX5_round_54 ⟨Nat.le_of_ble_eq_true rfl, Nat.le_of_ble_eq_true rfl⟩) hS (fun H locs hM hS => ?_)
      refine lv_istore (lv' := [(5, .int y6), (4, .int p0), (3, .int (0 : Int32)), (0, .ref (ad (.inr 0))), (1, .int p0), (2, .int p1)]) hx hb dX5_round_57 hl (by decide) rfl (fun ls hl => ?_)
      obtain ⟨x14, hq, hf⟩ := hbind hf
      refine w_m_round_L59 ⟨hx, hb, hr, hml, hown, hts, hlocks, hK, hZ0, hA0⟩ hIx g p0 p1 g1 y2 y4 y5 y6 x14 hFU ((0 : Int32), p0, y6, y5) hq (fun H locs ls hM hS hl => ?_) H locs ls hM hS (lv_sub hl [3, 4, 5, 2, 1, 0] rfl)
      refine lv_iload_n hx hb dX5_round_166 rfl (lv_at hl 2 rfl) ?_
      refine hb_if_ne (tgt := 174) hx hb dX5_round_167 (by decide) hf (fun hf => ?_) (fun hf => ?_)
      · refine lv_iload_n hx hb dX5_round_174 rfl (lv_at hl 2 rfl) ?_
        refine lv_iconst (v := 1) hx hb dX5_round_175 (by decide) ?_
        refine hb_icmp_ne (tgt := 184) hx hb dX5_round_176 (by decide) hf (fun hf => ?_) (fun hf => ?_)
        · refine lv_aload_n hx hb dX5_round_184 rfl (lv_at hl 0 rfl) ?_
          refine lv_aload_n hx hb dX5_round_185 rfl (lv_at hl 0 rfl) ?_
          refine lv_aload_n hx hb dX5_round_186 rfl (lv_at hl 0 rfl) ?_
          refine hr_get (ci := 5) (C := RX5) (T := TX5) (N := 55) (r := .inr 0) hx hb hts in_X5 hown hK hM mS_0 rfl 42 (by decide) (hts _ q1410) rfl (v := .ref (ad (.inr 43))) rfl dX5_round_187 ?_
          refine lv_iload_n hx hb dX5_round_190 rfl (lv_at hl 1 rfl) ?_
          obtain ⟨y15, hq, hf⟩ := hbind hf
          refine hr_calli0 (va_runV (As := [.ref (ad (.inr 43)), .int p0]) (rest := [.ref (ad (.inr 0))]) ⟨hx, hb, hml, hown, hts⟩ (met_m_hasOf l D C a0 s0 ad so t lt x14.2.2 43 p0 ms_43 hq) (cwV 2 hts (lw_V q1659 q1661 qs48 q99 q1662) rfl rfl rfl (by decide +kernel) ⟨Nat.le_of_ble_eq_true rfl, Nat.le_of_ble_eq_true rfl⟩) (hr_preV hZ_c hM hIx hK hZ0 hA0 hS (r := .inr 0) mS_0 (q := (RX5, TX5, 55)) rfl) rfl rfl hl.1 rfl (lv_room (Nat.le_of_ble_eq_true rfl)) dX5_round_191 ⟨Nat.le_of_ble_eq_true rfl, Nat.le_of_ble_eq_true rfl⟩) hS (fun H locs hM hS => ?_)
          obtain ⟨y16, hq, hf⟩ := hbind hf
          refine hr_calli0 (va_runV (As := [.int y15]) (rest := []) ⟨hx, hb, hml, hown, hts⟩ (met_m_worthOf l D C a0 s0 ad so t lt x14.2.2 y15 hq) (cwV 1 hts (lw_V q1663 q1665 qs49 q99 q1666) rfl rfl rfl (by decide +kernel) ⟨Nat.le_of_ble_eq_true rfl, Nat.le_of_ble_eq_true rfl⟩) (hr_preV hZ_c hM hIx hK hZ0 hA0 hS (r := .inr 0) mS_0 (q := (RX5, TX5, 55)) rfl) rfl rfl hl.1 rfl (lv_room (Nat.le_of_ble_eq_true rfl)) dX5_round_194 ⟨Nat.le_of_ble_eq_true rfl, Nat.le_of_ble_eq_true rfl⟩) hS (fun H locs hM hS => ?_)
          refine lv_aload_n hx hb dX5_round_197 rfl (lv_at hl 0 rfl) ?_
          refine lv_aload_n hx hb dX5_round_198 rfl (lv_at hl 0 rfl) ?_
          refine lv_aload_n hx hb dX5_round_199 rfl (lv_at hl 0 rfl) ?_
          refine hr_get (ci := 5) (C := RX5) (T := TX5) (N := 55) (r := .inr 0) hx hb hts in_X5 hown hK hM mS_0 rfl 7 (by decide) (hts _ q1375) rfl (v := .ref (ad (.inr 8))) rfl dX5_round_200 ?_
          refine lv_iload_n hx hb dX5_round_203 rfl (lv_at hl 1 rfl) ?_
          obtain ⟨y17, hq, hf⟩ := hbind hf
          refine hr_calli0 (va_runV (As := [.ref (ad (.inr 8)), .int p0]) (rest := [.ref (ad (.inr 0)), .int y16]) ⟨hx, hb, hml, hown, hts⟩ (met_m_hasOf l D C a0 s0 ad so t lt x14.2.2 8 p0 ms_8 hq) (cwV 2 hts (lw_V q1659 q1661 qs48 q99 q1662) rfl rfl rfl (by decide +kernel) ⟨Nat.le_of_ble_eq_true rfl, Nat.le_of_ble_eq_true rfl⟩) (hr_preV hZ_c hM hIx hK hZ0 hA0 hS (r := .inr 0) mS_0 (q := (RX5, TX5, 55)) rfl) rfl rfl hl.1 rfl (lv_room (Nat.le_of_ble_eq_true rfl)) dX5_round_204 ⟨Nat.le_of_ble_eq_true rfl, Nat.le_of_ble_eq_true rfl⟩) hS (fun H locs hM hS => ?_)
          obtain ⟨y18, hq, hf⟩ := hbind hf
          refine hr_calli0 (va_runV (As := [.int y17]) (rest := [.int y16]) ⟨hx, hb, hml, hown, hts⟩ (met_m_worthOf l D C a0 s0 ad so t lt x14.2.2 y17 hq) (cwV 1 hts (lw_V q1663 q1665 qs49 q99 q1666) rfl rfl rfl (by decide +kernel) ⟨Nat.le_of_ble_eq_true rfl, Nat.le_of_ble_eq_true rfl⟩) (hr_preV hZ_c hM hIx hK hZ0 hA0 hS (r := .inr 0) mS_0 (q := (RX5, TX5, 55)) rfl) rfl rfl hl.1 rfl (lv_room (Nat.le_of_ble_eq_true rfl)) dX5_round_207 ⟨Nat.le_of_ble_eq_true rfl, Nat.le_of_ble_eq_true rfl⟩) hS (fun H locs hM hS => ?_)
          refine lv_isub hx hb dX5_round_210 ?_
          have eo := Option.some.inj hf
          subst eo
          exact W.iret (v := (y16 - y18)) hx hb hr (fun T ht hW => ⟨⟨(y16 - y18), (), rfl, rfl, by dsimp only; rw [ht]; exact hM⟩, hS.F ht⟩) hS.2.2 dX5_round_211
        · refine lv_iload hx hb dX5_round_179 (lv_at hl 4 rfl) ?_
          refine lv_goto (tgt := 211) hx hb dX5_round_181 (by decide) ?_
          have eo := Option.some.inj hf
          subst eo
          exact W.iret (v := x14.2.1) hx hb hr (fun T ht hW => ⟨⟨x14.2.1, (), rfl, rfl, by dsimp only; rw [ht]; exact hM⟩, hS.F ht⟩) hS.2.2 dX5_round_211
      · refine lv_iload_n hx hb dX5_round_170 rfl (lv_at hl 3 rfl) ?_
        refine lv_goto (tgt := 211) hx hb dX5_round_171 (by decide) ?_
        have eo := Option.some.inj hf
        subst eo
        exact W.iret (v := x14.1) hx hb hr (fun T ht hW => ⟨⟨x14.1, (), rfl, rfl, by dsimp only; rw [ht]; exact hM⟩, hS.F ht⟩) hS.2.2 dX5_round_211
    · exact w_m_round_B22 ⟨hx, hb, hr, hml, hown, hts, hlocks, hK, hZ0, hA0⟩ hIx g p0 p1 g1 y2 hf hM hS (lv_sub hl [0] rfl)
set_option maxHeartbeats 4000000 in
set_option maxRecDepth 100000 in
theorem met_m_round (l : Launch) (D : va_G) (C : Nat → Nat) (a0 : Array Value) (s0 : State) (ad : Rl → Nat) (so : Nat → Option hS) (t : hSt) (lt : Rl → Nat → Int64) (g : hSt) (p0 : Int32) (p1 : Int32) {o : Int32 × hSt} (hf : m_round g p0 p1 = some o) : Met l yX5_round (ws_ yX5_round cX5_round 7 (some .int)) rm_m_round (va_Pc [.ref (ad (.inr 0)), .int p0, .int p1] (hB D vwCl (hT C) (hA s0) (hZ a0 s0) ad (Sum.elim so (mSH C)) (Sum.elim t g) lt)) (va_Qi (fun (r : Int32) (_ : Unit) => r = o.1) (fun (_ : Unit) (U : State) => hW D vwCl ad (Sum.elim so (mSH C)) (Sum.elim t o.2) lt U.heap) (hA s0)) 0 0 (hA s0) := by
  refine Met.ofW (cc := cX5_round) (maxL := 7) (ret := (some .int)) (by decide) rfl ?_
  intro p e s m args below meth c s₁ B hml hv
  obtain ⟨rfl, hM, hIx, hK, hZ0, hA0⟩ := hv
  have hl := lv_entry ([.ref (ad (.inr 0)), .int p0, .int p1]) (n := 7) (Nat.le_of_ble_eq_true rfl)
  rw [lg_entry_eq]
  generalize (lg_sl ([.ref (ad (.inr 0)), .int p0, .int p1]) ++ List.replicate (7 - (lg_sl ([.ref (ad (.inr 0)), .int p0, .int p1])).length) Slot.unset).toArray = ls at hl ⊢
  have hl : lv_has ls 7 [(0, .ref (ad (.inr 0))), (1, .int p0), (2, .int p1)] := hl
  exact w_m_round ⟨B.exec, B.bytes, B.returns, hml, findClass_of_methodNamed B.named, fun w h => atoms_spec (ws := ws_ yX5_round cX5_round 7 (some .int)) B.pre w (List.mem_cons_of_mem _ h), B.notSynchronized, hK, hZ0, hA0⟩ hIx g p0 p1 hf hM va_S.rf hl

def rm_m_dry : Room := { frames := 1, cells := 0, slots := 0, locals := 16 }
set_option maxHeartbeats 4000000 in
set_option maxRecDepth 100000 in
theorem w_m_dry_L2 {p : Program} {l : Launch} {e : Env} {s : State} {m : MethodId} {args : Array Value} {below : List Frame} {meth : Method} {c : Code} {D : va_G} {C : Nat → Nat} {a0 : Array Value} {s0 : State} {ad : Rl → Nat} {so : Nat → Option hS} {t : hSt} {lt : Rl → Nat → Int64} (CX : hCx D C a0 s0 p s m args meth c cX5_dry 2 RX5 (none)) (hIx : hI (hA s0) ad (Sum.elim so (mSH C))) (g : hSt) {oM : hSt} (x : hSt) (n : Nat) (q0 : Int32 × hSt) (h0 : hiter (fun q : Int32 × hSt => m_dry_L2 q.1 q.2) n q0 = some x) (kx0 : ∀ (H : Heap) (locs : List Loc) (ls : Array Slot), hW D vwCl ad (Sum.elim so (mSH C)) (Sum.elim t x) lt H → va_S (hA s0) s.heap H locs → lv_has ls 2 [] → W p l e rm_m_dry s m args below meth c H locs 0 0 (MQ below (va_Qv (fun (_ : Unit) => True) (fun (_ : Unit) (U : State) => hW D vwCl ad (Sum.elim so (mSH C)) (Sum.elim t oM) lt U.heap) (hA s0)) args s 0 0 (hA s0)) (F0 m 47 ls [])) : ∀ (H : Heap) (locs : List Loc) (ls : Array Slot), hW D vwCl ad (Sum.elim so (mSH C)) (Sum.elim t q0.2) lt H → va_S (hA s0) s.heap H locs → lv_has ls 2 [(0, .ref (ad (.inr 0))), (1, .int q0.1)] → W p l e rm_m_dry s m args below meth c H locs 0 0 (MQ below (va_Qv (fun (_ : Unit) => True) (fun (_ : Unit) (U : State) => hW D vwCl ad (Sum.elim so (mSH C)) (Sum.elim t oM) lt U.heap) (hA s0)) args s 0 0 (hA s0)) (F0 m 2 ls []) := by
  obtain ⟨hx, hb, hr, hml, hown, hts, hlocks, hK, hZ0, hA0⟩ := CX
  refine hiter_W (Wh := fun q => ∀ (H : Heap) (locs : List Loc) (ls : Array Slot), hW D vwCl ad (Sum.elim so (mSH C)) (Sum.elim t q.2) lt H → va_S (hA s0) s.heap H locs → lv_has ls 2 [(0, .ref (ad (.inr 0))), (1, .int q.1)] → W p l e rm_m_dry s m args below meth c H locs 0 0 (MQ below (va_Qv (fun (_ : Unit) => True) (fun (_ : Unit) (U : State) => hW D vwCl ad (Sum.elim so (mSH C)) (Sum.elim t oM) lt U.heap) (hA s0)) args s 0 0 (hA s0)) (F0 m 2 ls [])) ?_ n q0 h0
  intro q o hf kc kx1 H locs ls hM hS hl
  obtain ⟨v1_2, g_2⟩ := q
  replace hf : m_dry_L2 v1_2 g_2 = some o := hf
  have kx : ∀ x' : hSt, o = .inr x' → ∀ (H : Heap) (locs : List Loc) (ls : Array Slot), hW D vwCl ad (Sum.elim so (mSH C)) (Sum.elim t x') lt H → va_S (hA s0) s.heap H locs → lv_has ls 2 [] → W p l e rm_m_dry s m args below meth c H locs 0 0 (MQ below (va_Qv (fun (_ : Unit) => True) (fun (_ : Unit) (U : State) => hW D vwCl ad (Sum.elim so (mSH C)) (Sum.elim t oM) lt U.heap) (hA s0)) args s 0 0 (hA s0)) (F0 m 47 ls []) := fun x' ex => by rw [kx1 _ ex]; exact kx0
  unfold m_dry_L2 at hf
  refine lv_iload_n hx hb dX5_dry_2 rfl (lv_at hl 1 rfl) ?_
  refine lv_aload_n hx hb dX5_dry_3 rfl (lv_at hl 0 rfl) ?_
  refine hr_get (ci := 5) (C := RX5) (T := TX5) (N := 55) (r := .inr 0) hx hb hts in_X5 hown hK hM mS_0 rfl 2 (by decide) (hts _ q1370) rfl (v := .ref (ad (.inr 3))) rfl dX5_dry_4 ?_
  refine lv_iconst (v := 1) hx hb dX5_dry_7 (by decide) ?_
  refine hm_iald (r := 3) hx hb hK hM 0 mS_3 rfl hf dX5_dry_8 (fun x1 hf => ?_)
  refine hb_icmp_ge (tgt := 47) hx hb dX5_dry_9 (by decide) hf (fun hf => ?_) (fun hf => ?_)
  · exact kx g_2 (Option.some.inj hf).symm H locs ls hM hS (lv_sub hl [] rfl)
  · refine lv_aload_n hx hb dX5_dry_12 rfl (lv_at hl 0 rfl) ?_
    refine hr_get (ci := 5) (C := RX5) (T := TX5) (N := 55) (r := .inr 0) hx hb hts in_X5 hown hK hM mS_0 rfl 11 (by decide) (hts _ q1379) rfl (v := .ref (ad (.inr 12))) rfl dX5_dry_13 ?_
    refine lv_iload_n hx hb dX5_dry_16 rfl (lv_at hl 1 rfl) ?_
    refine hm_zald (r := 12) hx hb hK hM 2 mS_12 rfl hf dX5_dry_17 (fun x2 hf => ?_)
    refine hb_if_eq (tgt := 41) hx hb dX5_dry_18 (by decide) hf (fun hf => ?_) (fun hf => ?_)
    · obtain ⟨y1_3, ey, hf⟩ := hlet_ex hf
      refine lv_iinc (v := y1_3) (lv' := [(1, .int y1_3), (0, .ref (ad (.inr 0)))]) hx hb dX5_dry_41 hl (k := 1) rfl (by rw [ey]; rfl) (by decide) rfl (fun ls hl => ?_)
      refine lv_goto (tgt := 2) hx hb dX5_dry_44 (by decide) ?_
      exact kc (y1_3, g_2) (Option.some.inj hf).symm H locs ls hM hS (lv_sub hl [1, 0] rfl)
    · refine lv_aload_n hx hb dX5_dry_21 rfl (lv_at hl 0 rfl) ?_
      refine hr_get (ci := 5) (C := RX5) (T := TX5) (N := 55) (r := .inr 0) hx hb hts in_X5 hown hK hM mS_0 rfl 9 (by decide) (hts _ q1377) rfl (v := .ref (ad (.inr 10))) rfl dX5_dry_22 ?_
      refine lv_iload_n hx hb dX5_dry_25 rfl (lv_at hl 1 rfl) ?_
      refine hm_iald (r := 10) hx hb hK hM 0 mS_10 rfl hf dX5_dry_26 (fun x4 hf => ?_)
      refine lv_iconst (v := 1) hx hb dX5_dry_27 (by decide) ?_
      refine hb_icmp_le (tgt := 41) hx hb dX5_dry_28 (by decide) hf (fun hf => ?_) (fun hf => ?_)
      · obtain ⟨y1_5, ey, hf⟩ := hlet_ex hf
        refine lv_iinc (v := y1_5) (lv' := [(1, .int y1_5), (0, .ref (ad (.inr 0)))]) hx hb dX5_dry_41 hl (k := 1) rfl (by rw [ey]; rfl) (by decide) rfl (fun ls hl => ?_)
        refine lv_goto (tgt := 2) hx hb dX5_dry_44 (by decide) ?_
        exact kc (y1_5, g_2) (Option.some.inj hf).symm H locs ls hM hS (lv_sub hl [1, 0] rfl)
      · refine lv_aload_n hx hb dX5_dry_31 rfl (lv_at hl 0 rfl) ?_
        refine hr_get (ci := 5) (C := RX5) (T := TX5) (N := 55) (r := .inr 0) hx hb hts in_X5 hown hK hM mS_0 rfl 9 (by decide) (hts _ q1377) rfl (v := .ref (ad (.inr 10))) rfl dX5_dry_32 ?_
        refine lv_iload_n hx hb dX5_dry_35 rfl (lv_at hl 1 rfl) ?_
        refine lv_dup2_11 hx hb dX5_dry_36 rfl rfl ?_
        refine hm_iald (r := 10) hx hb hK hM 0 mS_10 rfl hf dX5_dry_37 (fun x6 hf => ?_)
        refine lv_iconst (v := 1) hx hb dX5_dry_38 (by decide) ?_
        refine lv_isub hx hb dX5_dry_39 ?_
        refine hm_iast (r := 10) hx hb hK hM hIx hS 0 mS_10 rfl hf dX5_dry_40 (fun g7 H locs hf hM hS => ?_)
        obtain ⟨y1_8, ey, hf⟩ := hlet_ex hf
        refine lv_iinc (v := y1_8) (lv' := [(1, .int y1_8), (0, .ref (ad (.inr 0)))]) hx hb dX5_dry_41 hl (k := 1) rfl (by rw [ey]; rfl) (by decide) rfl (fun ls hl => ?_)
        refine lv_goto (tgt := 2) hx hb dX5_dry_44 (by decide) ?_
        exact kc (y1_8, g7) (Option.some.inj hf).symm H locs ls hM hS (lv_sub hl [1, 0] rfl)
set_option maxHeartbeats 4000000 in
set_option maxRecDepth 100000 in
theorem w_m_dry {p : Program} {l : Launch} {e : Env} {s : State} {m : MethodId} {args : Array Value} {below : List Frame} {meth : Method} {c : Code} {D : va_G} {C : Nat → Nat} {a0 : Array Value} {s0 : State} {ad : Rl → Nat} {so : Nat → Option hS} {t : hSt} {lt : Rl → Nat → Int64} (CX : hCx D C a0 s0 p s m args meth c cX5_dry 2 RX5 (none)) (hIx : hI (hA s0) ad (Sum.elim so (mSH C))) (g : hSt) {o : hSt} (hf : m_dry g = some o) {H : Heap} {locs : List Loc} (hM : hW D vwCl ad (Sum.elim so (mSH C)) (Sum.elim t g) lt H) (hS : va_S (hA s0) s.heap H locs) {ls : Array Slot} (hl : lv_has ls 2 [(0, .ref (ad (.inr 0)))]) : W p l e rm_m_dry s m args below meth c H locs 0 0 (MQ below (va_Qv (fun (_ : Unit) => True) (fun (_ : Unit) (U : State) => hW D vwCl ad (Sum.elim so (mSH C)) (Sum.elim t o) lt U.heap) (hA s0)) args s 0 0 (hA s0)) (F0 m 0 ls []) := by
  obtain ⟨hx, hb, hr, hml, hown, hts, hlocks, hK, hZ0, hA0⟩ := CX
  unfold m_dry at hf
  refine lv_iconst (v := 0) hx hb dX5_dry_0 (by decide) ?_
  refine lv_istore_n (lv' := [(1, .int (0 : Int32)), (0, .ref (ad (.inr 0)))]) hx hb dX5_dry_1 rfl hl (by decide) rfl (fun ls hl => ?_)
  obtain ⟨x9, hq, hf⟩ := hbind hf
  refine w_m_dry_L2 ⟨hx, hb, hr, hml, hown, hts, hlocks, hK, hZ0, hA0⟩ hIx g x9 hFU ((0 : Int32), g) hq (fun H locs ls hM hS hl => ?_) H locs ls hM hS (lv_sub hl [1, 0] rfl)
  have eo := Option.some.inj hf
  subst eo
  exact W.vret hx hb hr (fun T ht hW => ⟨⟨(), rfl, trivial, by dsimp only; rw [ht]; exact hM⟩, hS.F ht⟩) hS.2.2 dX5_dry_47
set_option maxHeartbeats 4000000 in
set_option maxRecDepth 100000 in
theorem met_m_dry (l : Launch) (D : va_G) (C : Nat → Nat) (a0 : Array Value) (s0 : State) (ad : Rl → Nat) (so : Nat → Option hS) (t : hSt) (lt : Rl → Nat → Int64) (g : hSt) {o : hSt} (hf : m_dry g = some o) : Met l yX5_dry (ws_ yX5_dry cX5_dry 2 (none)) rm_m_dry (va_Pc [.ref (ad (.inr 0))] (hB D vwCl (hT C) (hA s0) (hZ a0 s0) ad (Sum.elim so (mSH C)) (Sum.elim t g) lt)) (va_Qv (fun (_ : Unit) => True) (fun (_ : Unit) (U : State) => hW D vwCl ad (Sum.elim so (mSH C)) (Sum.elim t o) lt U.heap) (hA s0)) 0 0 (hA s0) := by
  refine Met.ofW (cc := cX5_dry) (maxL := 2) (ret := (none)) (by decide) rfl ?_
  intro p e s m args below meth c s₁ B hml hv
  obtain ⟨rfl, hM, hIx, hK, hZ0, hA0⟩ := hv
  have hl := lv_entry ([.ref (ad (.inr 0))]) (n := 2) (Nat.le_of_ble_eq_true rfl)
  rw [lg_entry_eq]
  generalize (lg_sl ([.ref (ad (.inr 0))]) ++ List.replicate (2 - (lg_sl ([.ref (ad (.inr 0))])).length) Slot.unset).toArray = ls at hl ⊢
  have hl : lv_has ls 2 [(0, .ref (ad (.inr 0)))] := hl
  exact w_m_dry ⟨B.exec, B.bytes, B.returns, hml, findClass_of_methodNamed B.named, fun w h => atoms_spec (ws := ws_ yX5_dry cX5_dry 2 (none)) B.pre w (List.mem_cons_of_mem _ h), B.notSynchronized, hK, hZ0, hA0⟩ hIx g hf hM va_S.rf hl

def rm_m_days : Room := { frames := 11, cells := 0, slots := 0, locals := 131 }
set_option maxHeartbeats 4000000 in
set_option maxRecDepth 100000 in
theorem w_m_days_L33 {p : Program} {l : Launch} {e : Env} {s : State} {m : MethodId} {args : Array Value} {below : List Frame} {meth : Method} {c : Code} {D : va_G} {C : Nat → Nat} {a0 : Array Value} {s0 : State} {ad : Rl → Nat} {so : Nat → Option hS} {t : hSt} {lt : Rl → Nat → Int64} (CX : hCx D C a0 s0 p s m args meth c cX5_days 6 RX5 (some .int)) (hIx : hI (hA s0) ad (Sum.elim so (mSH C))) (g : hSt) (p0 : Int32) (g1 : hSt) (y2 : Int32) (v2_25 : Int32) (v3_25 : Int32) (g_25 : hSt) {oM : Int32 × hSt} (x : Int32 × hSt) (n : Nat) (q0 : Int32 × Int32 × hSt) (h0 : hiter (fun q : Int32 × Int32 × hSt => m_days_L33 q.1 q.2.1 q.2.2) n q0 = some x) (kx0 : ∀ (H : Heap) (locs : List Loc) (ls : Array Slot), hW D vwCl ad (Sum.elim so (mSH C)) (Sum.elim t x.2) lt H → va_S (hA s0) s.heap H locs → lv_has ls 6 [(0, .ref (ad (.inr 0))), (1, .int p0), (2, .int x.1), (3, .int v3_25)] → W p l e rm_m_days s m args below meth c H locs 0 0 (MQ below (va_Qi (fun (r : Int32) (_ : Unit) => r = oM.1) (fun (_ : Unit) (U : State) => hW D vwCl ad (Sum.elim so (mSH C)) (Sum.elim t oM.2) lt U.heap) (hA s0)) args s 0 0 (hA s0)) (F0 m 138 ls [])) : ∀ (H : Heap) (locs : List Loc) (ls : Array Slot), hW D vwCl ad (Sum.elim so (mSH C)) (Sum.elim t q0.2.2) lt H → va_S (hA s0) s.heap H locs → lv_has ls 6 [(0, .ref (ad (.inr 0))), (1, .int p0), (2, .int q0.1), (3, .int v3_25), (4, .int q0.2.1)] → W p l e rm_m_days s m args below meth c H locs 0 0 (MQ below (va_Qi (fun (r : Int32) (_ : Unit) => r = oM.1) (fun (_ : Unit) (U : State) => hW D vwCl ad (Sum.elim so (mSH C)) (Sum.elim t oM.2) lt U.heap) (hA s0)) args s 0 0 (hA s0)) (F0 m 33 ls []) := by
  obtain ⟨hx, hb, hr, hml, hown, hts, hlocks, hK, hZ0, hA0⟩ := CX
  refine hiter_W (Wh := fun q => ∀ (H : Heap) (locs : List Loc) (ls : Array Slot), hW D vwCl ad (Sum.elim so (mSH C)) (Sum.elim t q.2.2) lt H → va_S (hA s0) s.heap H locs → lv_has ls 6 [(0, .ref (ad (.inr 0))), (1, .int p0), (2, .int q.1), (3, .int v3_25), (4, .int q.2.1)] → W p l e rm_m_days s m args below meth c H locs 0 0 (MQ below (va_Qi (fun (r : Int32) (_ : Unit) => r = oM.1) (fun (_ : Unit) (U : State) => hW D vwCl ad (Sum.elim so (mSH C)) (Sum.elim t oM.2) lt U.heap) (hA s0)) args s 0 0 (hA s0)) (F0 m 33 ls [])) ?_ n q0 h0
  intro q o hf kc kx1 H locs ls hM hS hl
  obtain ⟨v2_33, v4_33, g_33⟩ := q
  replace hf : m_days_L33 v2_33 v4_33 g_33 = some o := hf
  have kx : ∀ x' : Int32 × hSt, o = .inr x' → ∀ (H : Heap) (locs : List Loc) (ls : Array Slot), hW D vwCl ad (Sum.elim so (mSH C)) (Sum.elim t x'.2) lt H → va_S (hA s0) s.heap H locs → lv_has ls 6 [(0, .ref (ad (.inr 0))), (1, .int p0), (2, .int x'.1), (3, .int v3_25)] → W p l e rm_m_days s m args below meth c H locs 0 0 (MQ below (va_Qi (fun (r : Int32) (_ : Unit) => r = oM.1) (fun (_ : Unit) (U : State) => hW D vwCl ad (Sum.elim so (mSH C)) (Sum.elim t oM.2) lt U.heap) (hA s0)) args s 0 0 (hA s0)) (F0 m 138 ls []) := fun x' ex => by rw [kx1 _ ex]; exact kx0
  unfold m_days_L33 at hf
  refine lv_iload hx hb dX5_days_33 (lv_at hl 4 rfl) ?_
  refine lv_aload_n hx hb dX5_days_35 rfl (lv_at hl 0 rfl) ?_
  refine hr_get (ci := 5) (C := RX5) (T := TX5) (N := 55) (r := .inr 0) hx hb hts in_X5 hown hK hM mS_0 rfl 2 (by decide) (hts _ q1370) rfl (v := .ref (ad (.inr 3))) rfl dX5_days_36 ?_
  refine lv_iconst (v := 0) hx hb dX5_days_39 (by decide) ?_
  refine hm_iald (r := 3) hx hb hK hM 0 mS_3 rfl hf dX5_days_40 (fun x3 hf => ?_)
  refine hb_icmp_ge (tgt := 138) hx hb dX5_days_41 (by decide) hf (fun hf => ?_) (fun hf => ?_)
  · exact kx (v2_33, g_33) (Option.some.inj hf).symm H locs ls hM hS (lv_sub hl [0, 1, 2, 3] rfl)
  · refine lv_aload_n hx hb dX5_days_44 rfl (lv_at hl 0 rfl) ?_
    refine lv_aload_n hx hb dX5_days_45 rfl (lv_at hl 0 rfl) ?_
    refine hr_get (ci := 5) (C := RX5) (T := TX5) (N := 55) (r := .inr 0) hx hb hts in_X5 hown hK hM mS_0 rfl 7 (by decide) (hts _ q1375) rfl (v := .ref (ad (.inr 8))) rfl dX5_days_46 ?_
    refine lv_iload hx hb dX5_days_49 (lv_at hl 4 rfl) ?_
    refine lv_aload_n hx hb dX5_days_51 rfl (lv_at hl 0 rfl) ?_
    refine hr_get (ci := 5) (C := RX5) (T := TX5) (N := 55) (r := .inr 0) hx hb hts in_X5 hown hK hM mS_0 rfl 12 (by decide) (hts _ q1380) rfl (v := .int (g_33 0 12)) rfl dX5_days_52 ?_
    obtain ⟨y4, hq, hf⟩ := hbind hf
    refine hr_calli0 (va_runV (As := [.ref (ad (.inr 8)), .int v4_33, .int (g_33 0 12)]) (rest := []) ⟨hx, hb, hml, hown, hts⟩ (met_m_choiceOf l D C a0 s0 ad so t lt g_33 8 v4_33 (g_33 0 12) ms_8 hq) (cwV 3 hts (lw_V q1728 q1730 qs58 q99 q1731) rfl rfl rfl (by decide +kernel) ⟨Nat.le_of_ble_eq_true rfl, Nat.le_of_ble_eq_true rfl⟩) (hr_preV hZ_c hM hIx hK hZ0 hA0 hS (r := .inr 0) mS_0 (q := (RX5, TX5, 55)) rfl) rfl rfl hl.1 rfl (lv_room (Nat.le_of_ble_eq_true rfl)) dX5_days_55 ⟨Nat.le_of_ble_eq_true rfl, Nat.le_of_ble_eq_true rfl⟩) hS (fun H locs hM hS => ?_)
    refine lv_istore (lv' := [(5, .int y4), (0, .ref (ad (.inr 0))), (1, .int p0), (2, .int v2_33), (3, .int v3_25), (4, .int v4_33)]) hx hb dX5_days_58 hl (by decide) rfl (fun ls hl => ?_)
    refine lv_iload hx hb dX5_days_60 (lv_at hl 0 rfl) ?_
    refine lv_iconst (v := -1) hx hb dX5_days_62 (by decide) ?_
    refine hb_icmp_eq (tgt := 132) hx hb dX5_days_63 (by decide) hf (fun hf => ?_) (fun hf => ?_)
    · obtain ⟨y4_5, ey, hf⟩ := hlet_ex hf
      refine lv_iinc (v := y4_5) (lv' := [(4, .int y4_5), (5, .int y4), (0, .ref (ad (.inr 0))), (1, .int p0), (2, .int v2_33), (3, .int v3_25)]) hx hb dX5_days_132 hl (k := 5) rfl (by rw [ey]; rfl) (by decide) rfl (fun ls hl => ?_)
      refine lv_goto (tgt := 33) hx hb dX5_days_135 (by decide) ?_
      exact kc (v2_33, y4_5, g_33) (Option.some.inj hf).symm H locs ls hM hS (lv_sub hl [2, 3, 4, 5, 0] rfl)
    · refine lv_aload_n hx hb dX5_days_66 rfl (lv_at hl 1 rfl) ?_
      refine hr_get (ci := 5) (C := RX5) (T := TX5) (N := 55) (r := .inr 0) hx hb hts in_X5 hown hK hM mS_0 rfl 24 (by decide) (hts _ q1392) rfl (v := .int (g_33 0 24)) rfl dX5_days_67 ?_
      refine lv_sipush (v := 200) hx hb dX5_days_70 (by decide) ?_
      refine hb_icmp_ne (tgt := 79) hx hb dX5_days_73 (by decide) hf (fun hf => ?_) (fun hf => ?_)
      · refine lv_aload_n hx hb dX5_days_79 rfl (lv_at hl 1 rfl) ?_
        refine lv_iload hx hb dX5_days_80 (lv_at hl 5 rfl) ?_
        refine lv_iload hx hb dX5_days_82 (lv_at hl 0 rfl) ?_
        refine lv_aload_n hx hb dX5_days_84 rfl (lv_at hl 1 rfl) ?_
        refine lv_aload_n hx hb dX5_days_85 rfl (lv_at hl 1 rfl) ?_
        refine hr_get (ci := 5) (C := RX5) (T := TX5) (N := 55) (r := .inr 0) hx hb hts in_X5 hown hK hM mS_0 rfl 7 (by decide) (hts _ q1375) rfl (v := .ref (ad (.inr 8))) rfl dX5_days_86 ?_
        refine lv_iload hx hb dX5_days_89 (lv_at hl 5 rfl) ?_
        refine lv_iload hx hb dX5_days_91 (lv_at hl 0 rfl) ?_
        refine lv_aload_n hx hb dX5_days_93 rfl (lv_at hl 1 rfl) ?_
        refine hr_get (ci := 5) (C := RX5) (T := TX5) (N := 55) (r := .inr 0) hx hb hts in_X5 hown hK hM mS_0 rfl 7 (by decide) (hts _ q1375) rfl (v := .ref (ad (.inr 8))) rfl dX5_days_94 ?_
        refine lv_bipush (v := 18) hx hb dX5_days_97 (by decide) ?_
        refine lv_iload hx hb dX5_days_99 (lv_at hl 5 rfl) ?_
        refine lv_iadd hx hb dX5_days_101 ?_
        refine hm_iald (r := 8) hx hb hK hM 0 mS_8 rfl hf dX5_days_102 (fun x6 hf => ?_)
        obtain ⟨y7, hq, hf⟩ := hbind hf
        refine hr_calli0 (va_runV (As := [.ref (ad (.inr 8)), .int v4_33, .int y4, .int x6]) (rest := [.int y4, .int v4_33, .ref (ad (.inr 0))]) ⟨hx, hb, hml, hown, hts⟩ (met_m_sandFor l D C a0 s0 ad so t lt g_33 8 v4_33 y4 x6 ms_8 hq) (cwV 4 hts (lw_V q1720 q1722 qs57 q99 q1723) rfl rfl rfl (by decide +kernel) ⟨Nat.le_of_ble_eq_true rfl, Nat.le_of_ble_eq_true rfl⟩) (hr_preV hZ_c hM hIx hK hZ0 hA0 hS (r := .inr 0) mS_0 (q := (RX5, TX5, 55)) rfl) rfl rfl hl.1 rfl (lv_room (Nat.le_of_ble_eq_true rfl)) dX5_days_103 ⟨Nat.le_of_ble_eq_true rfl, Nat.le_of_ble_eq_true rfl⟩) hS (fun H locs hM hS => ?_)
        refine lv_aload_n hx hb dX5_days_106 rfl (lv_at hl 1 rfl) ?_
        refine lv_aload_n hx hb dX5_days_107 rfl (lv_at hl 1 rfl) ?_
        refine hr_get (ci := 5) (C := RX5) (T := TX5) (N := 55) (r := .inr 0) hx hb hts in_X5 hown hK hM mS_0 rfl 7 (by decide) (hts _ q1375) rfl (v := .ref (ad (.inr 8))) rfl dX5_days_108 ?_
        refine lv_iload hx hb dX5_days_111 (lv_at hl 5 rfl) ?_
        refine lv_aload_n hx hb dX5_days_113 rfl (lv_at hl 1 rfl) ?_
        refine hr_get (ci := 5) (C := RX5) (T := TX5) (N := 55) (r := .inr 0) hx hb hts in_X5 hown hK hM mS_0 rfl 7 (by decide) (hts _ q1375) rfl (v := .ref (ad (.inr 8))) rfl dX5_days_114 ?_
        refine lv_bipush (v := 24) hx hb dX5_days_117 (by decide) ?_
        refine lv_iload hx hb dX5_days_119 (lv_at hl 5 rfl) ?_
        refine lv_iadd hx hb dX5_days_121 ?_
        refine hm_iald (r := 8) hx hb hK hM 0 mS_8 rfl hf dX5_days_122 (fun x8 hf => ?_)
        obtain ⟨y9, hq, hf⟩ := hbind hf
        refine hr_calli0 (va_runV (As := [.ref (ad (.inr 8)), .int v4_33, .int x8]) (rest := [.int y7, .int y4, .int v4_33, .ref (ad (.inr 0))]) ⟨hx, hb, hml, hown, hts⟩ (met_m_whomOf l D C a0 s0 ad so t lt g_33 8 v4_33 x8 ms_8 hq) (cwV 3 hts (lw_V q1739 q1741 qs60 q99 q1742) rfl rfl rfl (by decide +kernel) ⟨Nat.le_of_ble_eq_true rfl, Nat.le_of_ble_eq_true rfl⟩) (hr_preV hZ_c hM hIx hK hZ0 hA0 hS (r := .inr 0) mS_0 (q := (RX5, TX5, 55)) rfl) rfl rfl hl.1 rfl (lv_room (Nat.le_of_ble_eq_true rfl)) dX5_days_123 ⟨Nat.le_of_ble_eq_true rfl, Nat.le_of_ble_eq_true rfl⟩) hS (fun H locs hM hS => ?_)
        obtain ⟨y10, hq, hf⟩ := hbind hf
        refine hr_callv0 (va_runV (As := [.int v4_33, .int y4, .int y7, .int y9]) (rest := []) ⟨hx, hb, hml, hown, hts⟩ (met_m_makeNow l D C a0 s0 ad so t lt g_33 v4_33 y4 y7 y9 hq) (cwV 4 hts (lw_V q1696 q1698 qs54 q99 q1699) rfl rfl rfl (by decide +kernel) ⟨Nat.le_of_ble_eq_true rfl, Nat.le_of_ble_eq_true rfl⟩) (hr_preV hZ_c hM hIx hK hZ0 hA0 hS (r := .inr 0) mS_0 (q := (RX5, TX5, 55)) rfl) rfl rfl hl.1 rfl (lv_room (Nat.le_of_ble_eq_true rfl)) dX5_days_126 ⟨Nat.le_of_ble_eq_true rfl, Nat.le_of_ble_eq_true rfl⟩) hS (fun H locs hM hS => ?_)
        obtain ⟨y2_11, ey, hf⟩ := hlet_ex hf
        refine lv_iinc (v := y2_11) (lv' := [(2, .int y2_11), (5, .int y4), (0, .ref (ad (.inr 0))), (1, .int p0), (3, .int v3_25), (4, .int v4_33)]) hx hb dX5_days_129 hl (k := 3) rfl (by rw [ey]; rfl) (by decide) rfl (fun ls hl => ?_)
        obtain ⟨y4_12, ey, hf⟩ := hlet_ex hf
        refine lv_iinc (v := y4_12) (lv' := [(4, .int y4_12), (2, .int y2_11), (5, .int y4), (0, .ref (ad (.inr 0))), (1, .int p0), (3, .int v3_25)]) hx hb dX5_days_132 hl (k := 5) rfl (by rw [ey]; rfl) (by decide) rfl (fun ls hl => ?_)
        refine lv_goto (tgt := 33) hx hb dX5_days_135 (by decide) ?_
        exact kc (y2_11, y4_12, y10) (Option.some.inj hf).symm H locs ls hM hS (lv_sub hl [3, 4, 1, 5, 0] rfl)
      · refine lv_goto (tgt := 132) hx hb dX5_days_76 (by decide) ?_
        obtain ⟨y4_13, ey, hf⟩ := hlet_ex hf
        refine lv_iinc (v := y4_13) (lv' := [(4, .int y4_13), (5, .int y4), (0, .ref (ad (.inr 0))), (1, .int p0), (2, .int v2_33), (3, .int v3_25)]) hx hb dX5_days_132 hl (k := 5) rfl (by rw [ey]; rfl) (by decide) rfl (fun ls hl => ?_)
        refine lv_goto (tgt := 33) hx hb dX5_days_135 (by decide) ?_
        exact kc (v2_33, y4_13, g_33) (Option.some.inj hf).symm H locs ls hM hS (lv_sub hl [2, 3, 4, 5, 0] rfl)
set_option maxHeartbeats 4000000 in
set_option maxRecDepth 100000 in
theorem w_m_days_L25 {p : Program} {l : Launch} {e : Env} {s : State} {m : MethodId} {args : Array Value} {below : List Frame} {meth : Method} {c : Code} {D : va_G} {C : Nat → Nat} {a0 : Array Value} {s0 : State} {ad : Rl → Nat} {so : Nat → Option hS} {t : hSt} {lt : Rl → Nat → Int64} (CX : hCx D C a0 s0 p s m args meth c cX5_days 6 RX5 (some .int)) (hIx : hI (hA s0) ad (Sum.elim so (mSH C))) (g : hSt) (p0 : Int32) (g1 : hSt) (y2 : Int32) {oM : Int32 × hSt} (x : Int32 × hSt) (n : Nat) (q0 : Int32 × Int32 × hSt) (h0 : hiter (fun q : Int32 × Int32 × hSt => m_days_L25 p0 q.1 q.2.1 q.2.2) n q0 = some x) (kx0 : ∀ (H : Heap) (locs : List Loc) (ls : Array Slot), hW D vwCl ad (Sum.elim so (mSH C)) (Sum.elim t x.2) lt H → va_S (hA s0) s.heap H locs → lv_has ls 6 [(2, .int x.1)] → W p l e rm_m_days s m args below meth c H locs 0 0 (MQ below (va_Qi (fun (r : Int32) (_ : Unit) => r = oM.1) (fun (_ : Unit) (U : State) => hW D vwCl ad (Sum.elim so (mSH C)) (Sum.elim t oM.2) lt U.heap) (hA s0)) args s 0 0 (hA s0)) (F0 m 158 ls [])) : ∀ (H : Heap) (locs : List Loc) (ls : Array Slot), hW D vwCl ad (Sum.elim so (mSH C)) (Sum.elim t q0.2.2) lt H → va_S (hA s0) s.heap H locs → lv_has ls 6 [(0, .ref (ad (.inr 0))), (1, .int p0), (2, .int q0.1), (3, .int q0.2.1)] → W p l e rm_m_days s m args below meth c H locs 0 0 (MQ below (va_Qi (fun (r : Int32) (_ : Unit) => r = oM.1) (fun (_ : Unit) (U : State) => hW D vwCl ad (Sum.elim so (mSH C)) (Sum.elim t oM.2) lt U.heap) (hA s0)) args s 0 0 (hA s0)) (F0 m 25 ls []) := by
  obtain ⟨hx, hb, hr, hml, hown, hts, hlocks, hK, hZ0, hA0⟩ := CX
  refine hiter_W (Wh := fun q => ∀ (H : Heap) (locs : List Loc) (ls : Array Slot), hW D vwCl ad (Sum.elim so (mSH C)) (Sum.elim t q.2.2) lt H → va_S (hA s0) s.heap H locs → lv_has ls 6 [(0, .ref (ad (.inr 0))), (1, .int p0), (2, .int q.1), (3, .int q.2.1)] → W p l e rm_m_days s m args below meth c H locs 0 0 (MQ below (va_Qi (fun (r : Int32) (_ : Unit) => r = oM.1) (fun (_ : Unit) (U : State) => hW D vwCl ad (Sum.elim so (mSH C)) (Sum.elim t oM.2) lt U.heap) (hA s0)) args s 0 0 (hA s0)) (F0 m 25 ls [])) ?_ n q0 h0
  intro q o hf kc kx1 H locs ls hM hS hl
  obtain ⟨v2_25, v3_25, g_25⟩ := q
  replace hf : m_days_L25 p0 v2_25 v3_25 g_25 = some o := hf
  have kx : ∀ x' : Int32 × hSt, o = .inr x' → ∀ (H : Heap) (locs : List Loc) (ls : Array Slot), hW D vwCl ad (Sum.elim so (mSH C)) (Sum.elim t x'.2) lt H → va_S (hA s0) s.heap H locs → lv_has ls 6 [(2, .int x'.1)] → W p l e rm_m_days s m args below meth c H locs 0 0 (MQ below (va_Qi (fun (r : Int32) (_ : Unit) => r = oM.1) (fun (_ : Unit) (U : State) => hW D vwCl ad (Sum.elim so (mSH C)) (Sum.elim t oM.2) lt U.heap) (hA s0)) args s 0 0 (hA s0)) (F0 m 158 ls []) := fun x' ex => by rw [kx1 _ ex]; exact kx0
  unfold m_days_L25 at hf
  refine lv_iload_n hx hb dX5_days_25 rfl (lv_at hl 3 rfl) ?_
  refine lv_iload_n hx hb dX5_days_26 rfl (lv_at hl 1 rfl) ?_
  refine hb_icmp_ge (tgt := 158) hx hb dX5_days_27 (by decide) hf (fun hf => ?_) (fun hf => ?_)
  · exact kx (v2_25, g_25) (Option.some.inj hf).symm H locs ls hM hS (lv_sub hl [2] rfl)
  · refine lv_iconst (v := 0) hx hb dX5_days_30 (by decide) ?_
    refine lv_istore (lv' := [(4, .int (0 : Int32)), (0, .ref (ad (.inr 0))), (1, .int p0), (2, .int v2_25), (3, .int v3_25)]) hx hb dX5_days_31 hl (by decide) rfl (fun ls hl => ?_)
    obtain ⟨x14, hq, hf⟩ := hbind hf
    refine w_m_days_L33 ⟨hx, hb, hr, hml, hown, hts, hlocks, hK, hZ0, hA0⟩ hIx g p0 g1 y2 v2_25 v3_25 g_25 x14 hFU (v2_25, (0 : Int32), g_25) hq (fun H locs ls hM hS hl => ?_) H locs ls hM hS (lv_sub hl [1, 2, 3, 4, 0] rfl)
    refine lv_aload_n hx hb dX5_days_138 rfl (lv_at hl 0 rfl) ?_
    obtain ⟨y15, hq, hf⟩ := hbind hf
    refine hr_callv0 (va_runV (As := []) (rest := []) ⟨hx, hb, hml, hown, hts⟩ (met_m_dry l D C a0 s0 ad so t lt x14.2 hq) (cwV 0 hts (lw_V q1831 q1833 qs72 q99 q1834) rfl rfl rfl (by decide +kernel) ⟨Nat.le_of_ble_eq_true rfl, Nat.le_of_ble_eq_true rfl⟩) (hr_preV hZ_c hM hIx hK hZ0 hA0 hS (r := .inr 0) mS_0 (q := (RX5, TX5, 55)) rfl) rfl rfl hl.1 rfl (lv_room (Nat.le_of_ble_eq_true rfl)) dX5_days_139 ⟨Nat.le_of_ble_eq_true rfl, Nat.le_of_ble_eq_true rfl⟩) hS (fun H locs hM hS => ?_)
    refine lv_aload_n hx hb dX5_days_142 rfl (lv_at hl 0 rfl) ?_
    refine lv_dup hx hb dX5_days_143 rfl ?_
    refine hr_get (ci := 5) (C := RX5) (T := TX5) (N := 55) (r := .inr 0) hx hb hts in_X5 hown hK hM mS_0 rfl 12 (by decide) (hts _ q1380) rfl (v := .int (y15 0 12)) rfl dX5_days_144 ?_
    refine lv_iconst (v := 1) hx hb dX5_days_147 (by decide) ?_
    refine lv_iadd hx hb dX5_days_148 ?_
    refine hm_put (r := 0) (ci := 5) (C := RX5) (T := TX5) (N := 55) hx hb hts in_X5 tyX5 tyX5_ok nmX5 hown hK hM hIx hS mS_0 rfl 12 (by decide) (hts _ q1380) rfl rfl rfl hf dX5_days_149 (fun g16 H locs hf hM hS => ?_)
    obtain ⟨y3_17, ey, hf⟩ := hlet_ex hf
    refine lv_iinc (v := y3_17) (lv' := [(3, .int y3_17), (0, .ref (ad (.inr 0))), (1, .int p0), (2, .int x14.1)]) hx hb dX5_days_152 hl (k := 3) rfl (by rw [ey]; rfl) (by decide) rfl (fun ls hl => ?_)
    refine lv_goto (tgt := 25) hx hb dX5_days_155 (by decide) ?_
    exact kc (x14.1, y3_17, g16) (Option.some.inj hf).symm H locs ls hM hS (lv_sub hl [1, 2, 3, 0] rfl)
set_option maxHeartbeats 4000000 in
set_option maxRecDepth 100000 in
theorem w_m_days {p : Program} {l : Launch} {e : Env} {s : State} {m : MethodId} {args : Array Value} {below : List Frame} {meth : Method} {c : Code} {D : va_G} {C : Nat → Nat} {a0 : Array Value} {s0 : State} {ad : Rl → Nat} {so : Nat → Option hS} {t : hSt} {lt : Rl → Nat → Int64} (CX : hCx D C a0 s0 p s m args meth c cX5_days 6 RX5 (some .int)) (hIx : hI (hA s0) ad (Sum.elim so (mSH C))) (g : hSt) (p0 : Int32) {o : Int32 × hSt} (hf : m_days g p0 = some o) {H : Heap} {locs : List Loc} (hM : hW D vwCl ad (Sum.elim so (mSH C)) (Sum.elim t g) lt H) (hS : va_S (hA s0) s.heap H locs) {ls : Array Slot} (hl : lv_has ls 6 [(0, .ref (ad (.inr 0))), (1, .int p0)]) : W p l e rm_m_days s m args below meth c H locs 0 0 (MQ below (va_Qi (fun (r : Int32) (_ : Unit) => r = o.1) (fun (_ : Unit) (U : State) => hW D vwCl ad (Sum.elim so (mSH C)) (Sum.elim t o.2) lt U.heap) (hA s0)) args s 0 0 (hA s0)) (F0 m 0 ls []) := by
  obtain ⟨hx, hb, hr, hml, hown, hts, hlocks, hK, hZ0, hA0⟩ := CX
  unfold m_days at hf
  refine lv_aload_n hx hb dX5_days_0 rfl (lv_at hl 0 rfl) ?_
  refine lv_iconst (v := 0) hx hb dX5_days_1 (by decide) ?_
  refine hm_put (r := 0) (ci := 5) (C := RX5) (T := TX5) (N := 55) hx hb hts in_X5 tyX5 tyX5_ok nmX5 hown hK hM hIx hS mS_0 rfl 1 (by decide) (hts _ q1369) rfl rfl rfl hf dX5_days_2 (fun g1 H locs hf hM hS => ?_)
  refine lv_iload_n hx hb dX5_days_5 rfl (lv_at hl 1 rfl) ?_
  refine lv_iconst (v := 0) hx hb dX5_days_6 (by decide) ?_
  refine lv_bipush (v := 60) hx hb dX5_days_7 (by decide) ?_
  obtain ⟨y2, hq, hf⟩ := hbind hf
  refine hr_calli0 (va_runS (As := [.int p0, .int (0 : Int32), .int (60 : Int32)]) (rest := []) ⟨hx, hb, hml, hown, hts⟩ (met_m_isIn l D C a0 s0 ad so (Sum.elim t g1) lt p0 (0 : Int32) (60 : Int32) hq) (va_cwS 3 hts (lw_S q1648 q1649 q99 q1650) rfl rfl rfl (by decide +kernel) ⟨Nat.le_of_ble_eq_true rfl, Nat.le_of_ble_eq_true rfl⟩) (hr_preS hZ_c hM hIx hK hZ0 hA0 hS) rfl rfl hl.1 rfl (lv_room (Nat.le_of_ble_eq_true rfl)) dX5_days_9 ⟨Nat.le_of_ble_eq_true rfl, Nat.le_of_ble_eq_true rfl⟩) hS (fun H locs hM hS => ?_)
  refine hb_if_ne (tgt := 21) hx hb dX5_days_12 (by decide) hf (fun hf => ?_) (fun hf => ?_)
  · refine lv_iconst (v := 0) hx hb dX5_days_21 (by decide) ?_
    refine lv_istore_n (lv' := [(2, .int (0 : Int32)), (0, .ref (ad (.inr 0))), (1, .int p0)]) hx hb dX5_days_22 rfl hl (by decide) rfl (fun ls hl => ?_)
    refine lv_iconst (v := 0) hx hb dX5_days_23 (by decide) ?_
    refine lv_istore_n (lv' := [(3, .int (0 : Int32)), (2, .int (0 : Int32)), (0, .ref (ad (.inr 0))), (1, .int p0)]) hx hb dX5_days_24 rfl hl (by decide) rfl (fun ls hl => ?_)
    obtain ⟨x18, hq, hf⟩ := hbind hf
    refine w_m_days_L25 ⟨hx, hb, hr, hml, hown, hts, hlocks, hK, hZ0, hA0⟩ hIx g p0 g1 y2 x18 hFU ((0 : Int32), (0 : Int32), g1) hq (fun H locs ls hM hS hl => ?_) H locs ls hM hS (lv_sub hl [2, 3, 1, 0] rfl)
    refine lv_iload_n hx hb dX5_days_158 rfl (lv_at hl 0 rfl) ?_
    have eo := Option.some.inj hf
    subst eo
    exact W.iret (v := x18.1) hx hb hr (fun T ht hW => ⟨⟨x18.1, (), rfl, rfl, by dsimp only; rw [ht]; exact hM⟩, hS.F ht⟩) hS.2.2 dX5_days_159
  · refine lv_aload_n hx hb dX5_days_15 rfl (lv_at hl 0 rfl) ?_
    refine lv_iconst (v := 1) hx hb dX5_days_16 (by decide) ?_
    obtain ⟨y19, hq, hf⟩ := hbind hf
    refine hr_calli0 (va_runV (As := [.int (1 : Int32)]) (rest := []) ⟨hx, hb, hml, hown, hts⟩ (met_m_fail l D C a0 s0 ad so t lt g1 (1 : Int32) hq) (cwV 1 hts (lw_V q1547 q1549 qs33 q99 q1550) rfl rfl rfl (by decide +kernel) ⟨Nat.le_of_ble_eq_true rfl, Nat.le_of_ble_eq_true rfl⟩) (hr_preV hZ_c hM hIx hK hZ0 hA0 hS (r := .inr 0) mS_0 (q := (RX5, TX5, 55)) rfl) rfl rfl hl.1 rfl (lv_room (Nat.le_of_ble_eq_true rfl)) dX5_days_17 ⟨Nat.le_of_ble_eq_true rfl, Nat.le_of_ble_eq_true rfl⟩) hS (fun H locs hM hS => ?_)
    have eo := Option.some.inj hf
    subst eo
    exact W.iret (v := y19.1) hx hb hr (fun T ht hW => ⟨⟨y19.1, (), rfl, rfl, by dsimp only; rw [ht]; exact hM⟩, hS.F ht⟩) hS.2.2 dX5_days_20
set_option maxHeartbeats 4000000 in
set_option maxRecDepth 100000 in
theorem met_m_days (l : Launch) (D : va_G) (C : Nat → Nat) (a0 : Array Value) (s0 : State) (ad : Rl → Nat) (so : Nat → Option hS) (t : hSt) (lt : Rl → Nat → Int64) (g : hSt) (p0 : Int32) {o : Int32 × hSt} (hf : m_days g p0 = some o) : Met l yX5_days (ws_ yX5_days cX5_days 6 (some .int)) rm_m_days (va_Pc [.ref (ad (.inr 0)), .int p0] (hB D vwCl (hT C) (hA s0) (hZ a0 s0) ad (Sum.elim so (mSH C)) (Sum.elim t g) lt)) (va_Qi (fun (r : Int32) (_ : Unit) => r = o.1) (fun (_ : Unit) (U : State) => hW D vwCl ad (Sum.elim so (mSH C)) (Sum.elim t o.2) lt U.heap) (hA s0)) 0 0 (hA s0) := by
  refine Met.ofW (cc := cX5_days) (maxL := 6) (ret := (some .int)) (by decide) rfl ?_
  intro p e s m args below meth c s₁ B hml hv
  obtain ⟨rfl, hM, hIx, hK, hZ0, hA0⟩ := hv
  have hl := lv_entry ([.ref (ad (.inr 0)), .int p0]) (n := 6) (Nat.le_of_ble_eq_true rfl)
  rw [lg_entry_eq]
  generalize (lg_sl ([.ref (ad (.inr 0)), .int p0]) ++ List.replicate (6 - (lg_sl ([.ref (ad (.inr 0)), .int p0])).length) Slot.unset).toArray = ls at hl ⊢
  have hl : lv_has ls 6 [(0, .ref (ad (.inr 0))), (1, .int p0)] := hl
  exact w_m_days ⟨B.exec, B.bytes, B.returns, hml, findClass_of_methodNamed B.named, fun w h => atoms_spec (ws := ws_ yX5_days cX5_days 6 (some .int)) B.pre w (List.mem_cons_of_mem _ h), B.notSynchronized, hK, hZ0, hA0⟩ hIx g p0 hf hM va_S.rf hl

def rm_m_isStill : Room := { frames := 1, cells := 0, slots := 0, locals := 16 }
set_option maxHeartbeats 4000000 in
set_option maxRecDepth 100000 in
theorem w_m_isStill_L2 {p : Program} {l : Launch} {e : Env} {s : State} {m : MethodId} {args : Array Value} {below : List Frame} {meth : Method} {c : Code} {D : va_G} {C : Nat → Nat} {a0 : Array Value} {s0 : State} {ad : Rl → Nat} {so : Nat → Option hS} {t : hSt} {lt : Rl → Nat → Int64} (CX : hCx D C a0 s0 p s m args meth c cX5_isStill 4 RX5 (some .boolean)) (hIx : hI (hA s0) ad (Sum.elim so (mSH C))) (g : hSt) (r0 : Nat) (p1 : Int32) (h_r0 : mSH C r0 = some (.inl (C 0, 30, false))) {oM : Int32} (x : (Unit) ⊕ (Int32)) (n : Nat) (q0 : Int32) (h0 : hiter (fun q : Int32 => m_isStill_L2 g r0 p1 q) n q0 = some x) (kx0 : ∀ x' : Unit, x = .inl x' → ∀ (H : Heap) (locs : List Loc) (ls : Array Slot), hW D vwCl ad (Sum.elim so (mSH C)) (Sum.elim t g) lt H → va_S (hA s0) s.heap H locs → lv_has ls 4 [(0, .ref (ad (.inr 0)))] → W p l e rm_m_isStill s m args below meth c H locs 0 0 (MQ below (va_Qi (fun (r : Int32) (_ : Unit) => r = oM) (fun (_ : Unit) (U : State) => hW D vwCl ad (Sum.elim so (mSH C)) (Sum.elim t g) lt U.heap) (hA s0)) args s 0 0 (hA s0)) (F0 m 49 ls [])) (kr0 : ∀ r : Int32, x = .inr r → r = oM) : ∀ (H : Heap) (locs : List Loc) (ls : Array Slot), hW D vwCl ad (Sum.elim so (mSH C)) (Sum.elim t g) lt H → va_S (hA s0) s.heap H locs → lv_has ls 4 [(0, .ref (ad (.inr 0))), (1, .ref (ad (.inr r0))), (2, .int p1), (3, .int q0)] → W p l e rm_m_isStill s m args below meth c H locs 0 0 (MQ below (va_Qi (fun (r : Int32) (_ : Unit) => r = oM) (fun (_ : Unit) (U : State) => hW D vwCl ad (Sum.elim so (mSH C)) (Sum.elim t g) lt U.heap) (hA s0)) args s 0 0 (hA s0)) (F0 m 2 ls []) := by
  obtain ⟨hx, hb, hr, hml, hown, hts, hlocks, hK, hZ0, hA0⟩ := CX
  refine hiter_W (Wh := fun q => ∀ (H : Heap) (locs : List Loc) (ls : Array Slot), hW D vwCl ad (Sum.elim so (mSH C)) (Sum.elim t g) lt H → va_S (hA s0) s.heap H locs → lv_has ls 4 [(0, .ref (ad (.inr 0))), (1, .ref (ad (.inr r0))), (2, .int p1), (3, .int q)] → W p l e rm_m_isStill s m args below meth c H locs 0 0 (MQ below (va_Qi (fun (r : Int32) (_ : Unit) => r = oM) (fun (_ : Unit) (U : State) => hW D vwCl ad (Sum.elim so (mSH C)) (Sum.elim t g) lt U.heap) (hA s0)) args s 0 0 (hA s0)) (F0 m 2 ls [])) ?_ n q0 h0
  intro q o hf kc kx1 H locs ls hM hS hl
  obtain ⟨v3_2, rfl⟩ : ∃ z, z = q := ⟨_, rfl⟩
  replace hf : m_isStill_L2 g r0 p1 v3_2 = some o := hf
  have kx : ∀ x' : Unit, o = .inr (.inl x') → ∀ (H : Heap) (locs : List Loc) (ls : Array Slot), hW D vwCl ad (Sum.elim so (mSH C)) (Sum.elim t g) lt H → va_S (hA s0) s.heap H locs → lv_has ls 4 [(0, .ref (ad (.inr 0)))] → W p l e rm_m_isStill s m args below meth c H locs 0 0 (MQ below (va_Qi (fun (r : Int32) (_ : Unit) => r = oM) (fun (_ : Unit) (U : State) => hW D vwCl ad (Sum.elim so (mSH C)) (Sum.elim t g) lt U.heap) (hA s0)) args s 0 0 (hA s0)) (F0 m 49 ls []) := fun x' ex => kx0 x' (kx1 _ ex).symm
  have kr : ∀ r : Int32, o = .inr (.inr r) → r = oM := fun r ex => kr0 r (kx1 _ ex).symm
  unfold m_isStill_L2 at hf
  refine lv_iload_n hx hb dX5_isStill_2 rfl (lv_at hl 3 rfl) ?_
  refine lv_aload_n hx hb dX5_isStill_3 rfl (lv_at hl 0 rfl) ?_
  refine hr_get (ci := 5) (C := RX5) (T := TX5) (N := 55) (r := .inr 0) hx hb hts in_X5 hown hK hM mS_0 rfl 2 (by decide) (hts _ q1370) rfl (v := .ref (ad (.inr 3))) rfl dX5_isStill_4 ?_
  refine lv_iconst (v := 0) hx hb dX5_isStill_7 (by decide) ?_
  refine hm_iald (r := 3) hx hb hK hM 0 mS_3 rfl hf dX5_isStill_8 (fun x1 hf => ?_)
  refine hb_icmp_ge (tgt := 49) hx hb dX5_isStill_9 (by decide) hf (fun hf => ?_) (fun hf => ?_)
  · exact kx () (Option.some.inj hf).symm H locs ls hM hS (lv_sub hl [0] rfl)
  · refine lv_aload_n hx hb dX5_isStill_12 rfl (lv_at hl 0 rfl) ?_
    refine hr_get (ci := 5) (C := RX5) (T := TX5) (N := 55) (r := .inr 0) hx hb hts in_X5 hown hK hM mS_0 rfl 3 (by decide) (hts _ q1371) rfl (v := .ref (ad (.inr 4))) rfl dX5_isStill_13 ?_
    refine lv_iload_n hx hb dX5_isStill_16 rfl (lv_at hl 3 rfl) ?_
    refine hm_iald (r := 4) hx hb hK hM 0 mS_4 rfl hf dX5_isStill_17 (fun x2 hf => ?_)
    refine lv_iconst (v := 4) hx hb dX5_isStill_18 (by decide) ?_
    refine hb_icmp_ne (tgt := 43) hx hb dX5_isStill_19 (by decide) hf (fun hf => ?_) (fun hf => ?_)
    · obtain ⟨y3_3, ey, hf⟩ := hlet_ex hf
      refine lv_iinc (v := y3_3) (lv' := [(3, .int y3_3), (0, .ref (ad (.inr 0))), (1, .ref (ad (.inr r0))), (2, .int p1)]) hx hb dX5_isStill_43 hl (k := 3) rfl (by rw [ey]; rfl) (by decide) rfl (fun ls hl => ?_)
      refine lv_goto (tgt := 2) hx hb dX5_isStill_46 (by decide) ?_
      exact kc y3_3 (Option.some.inj hf).symm H locs ls hM hS (lv_sub hl [1, 2, 3, 0] rfl)
    · refine lv_iload_n hx hb dX5_isStill_22 rfl (lv_at hl 2 rfl) ?_
      refine lv_aload_n hx hb dX5_isStill_23 rfl (lv_at hl 0 rfl) ?_
      refine hr_get (ci := 5) (C := RX5) (T := TX5) (N := 55) (r := .inr 0) hx hb hts in_X5 hown hK hM mS_0 rfl 4 (by decide) (hts _ q1372) rfl (v := .ref (ad (.inr 5))) rfl dX5_isStill_24 ?_
      refine lv_iload_n hx hb dX5_isStill_27 rfl (lv_at hl 3 rfl) ?_
      refine hm_iald (r := 5) hx hb hK hM 0 mS_5 rfl hf dX5_isStill_28 (fun x4 hf => ?_)
      refine hb_icmp_ge (tgt := 43) hx hb dX5_isStill_29 (by decide) hf (fun hf => ?_) (fun hf => ?_)
      · obtain ⟨y3_5, ey, hf⟩ := hlet_ex hf
        refine lv_iinc (v := y3_5) (lv' := [(3, .int y3_5), (0, .ref (ad (.inr 0))), (1, .ref (ad (.inr r0))), (2, .int p1)]) hx hb dX5_isStill_43 hl (k := 3) rfl (by rw [ey]; rfl) (by decide) rfl (fun ls hl => ?_)
        refine lv_goto (tgt := 2) hx hb dX5_isStill_46 (by decide) ?_
        exact kc y3_5 (Option.some.inj hf).symm H locs ls hM hS (lv_sub hl [1, 2, 3, 0] rfl)
      · refine lv_aload_n hx hb dX5_isStill_32 rfl (lv_at hl 1 rfl) ?_
        refine lv_bipush (v := 18) hx hb dX5_isStill_33 (by decide) ?_
        refine lv_iload_n hx hb dX5_isStill_35 rfl (lv_at hl 3 rfl) ?_
        refine lv_iadd hx hb dX5_isStill_36 ?_
        refine hm_iald (r := r0) hx hb hK hM 0 h_r0 rfl hf dX5_isStill_37 (fun x6 hf => ?_)
        refine hb_if_le (tgt := 43) hx hb dX5_isStill_38 (by decide) hf (fun hf => ?_) (fun hf => ?_)
        · obtain ⟨y3_7, ey, hf⟩ := hlet_ex hf
          refine lv_iinc (v := y3_7) (lv' := [(3, .int y3_7), (0, .ref (ad (.inr 0))), (1, .ref (ad (.inr r0))), (2, .int p1)]) hx hb dX5_isStill_43 hl (k := 3) rfl (by rw [ey]; rfl) (by decide) rfl (fun ls hl => ?_)
          refine lv_goto (tgt := 2) hx hb dX5_isStill_46 (by decide) ?_
          exact kc y3_7 (Option.some.inj hf).symm H locs ls hM hS (lv_sub hl [1, 2, 3, 0] rfl)
        · refine lv_iconst (v := 0) hx hb dX5_isStill_41 (by decide) ?_
          have eo := kr (0 : Int32) (Option.some.inj hf).symm
          subst eo
          exact W.zret (v := (0 : Int32)) hx hb hr rfl (fun T ht hW => ⟨⟨(0 : Int32), (), rfl, rfl, by dsimp only; rw [ht]; exact hM⟩, hS.F ht⟩) hS.2.2 dX5_isStill_42
set_option maxHeartbeats 4000000 in
set_option maxRecDepth 100000 in
theorem w_m_isStill_L51 {p : Program} {l : Launch} {e : Env} {s : State} {m : MethodId} {args : Array Value} {below : List Frame} {meth : Method} {c : Code} {D : va_G} {C : Nat → Nat} {a0 : Array Value} {s0 : State} {ad : Rl → Nat} {so : Nat → Option hS} {t : hSt} {lt : Rl → Nat → Int64} (CX : hCx D C a0 s0 p s m args meth c cX5_isStill 4 RX5 (some .boolean)) (hIx : hI (hA s0) ad (Sum.elim so (mSH C))) (g : hSt) (r0 : Nat) (p1 : Int32) (e9 : Unit) (h_r0 : mSH C r0 = some (.inl (C 0, 30, false))) {oM : Int32} (x : (Unit) ⊕ (Int32)) (n : Nat) (q0 : Int32) (h0 : hiter (fun q : Int32 => m_isStill_L51 g q) n q0 = some x) (kx0 : ∀ x' : Unit, x = .inl x' → ∀ (H : Heap) (locs : List Loc) (ls : Array Slot), hW D vwCl ad (Sum.elim so (mSH C)) (Sum.elim t g) lt H → va_S (hA s0) s.heap H locs → lv_has ls 4 [] → W p l e rm_m_isStill s m args below meth c H locs 0 0 (MQ below (va_Qi (fun (r : Int32) (_ : Unit) => r = oM) (fun (_ : Unit) (U : State) => hW D vwCl ad (Sum.elim so (mSH C)) (Sum.elim t g) lt U.heap) (hA s0)) args s 0 0 (hA s0)) (F0 m 88 ls [])) (kr0 : ∀ r : Int32, x = .inr r → r = oM) : ∀ (H : Heap) (locs : List Loc) (ls : Array Slot), hW D vwCl ad (Sum.elim so (mSH C)) (Sum.elim t g) lt H → va_S (hA s0) s.heap H locs → lv_has ls 4 [(0, .ref (ad (.inr 0))), (3, .int q0)] → W p l e rm_m_isStill s m args below meth c H locs 0 0 (MQ below (va_Qi (fun (r : Int32) (_ : Unit) => r = oM) (fun (_ : Unit) (U : State) => hW D vwCl ad (Sum.elim so (mSH C)) (Sum.elim t g) lt U.heap) (hA s0)) args s 0 0 (hA s0)) (F0 m 51 ls []) := by
  obtain ⟨hx, hb, hr, hml, hown, hts, hlocks, hK, hZ0, hA0⟩ := CX
  refine hiter_W (Wh := fun q => ∀ (H : Heap) (locs : List Loc) (ls : Array Slot), hW D vwCl ad (Sum.elim so (mSH C)) (Sum.elim t g) lt H → va_S (hA s0) s.heap H locs → lv_has ls 4 [(0, .ref (ad (.inr 0))), (3, .int q)] → W p l e rm_m_isStill s m args below meth c H locs 0 0 (MQ below (va_Qi (fun (r : Int32) (_ : Unit) => r = oM) (fun (_ : Unit) (U : State) => hW D vwCl ad (Sum.elim so (mSH C)) (Sum.elim t g) lt U.heap) (hA s0)) args s 0 0 (hA s0)) (F0 m 51 ls [])) ?_ n q0 h0
  intro q o hf kc kx1 H locs ls hM hS hl
  obtain ⟨v3_51, rfl⟩ : ∃ z, z = q := ⟨_, rfl⟩
  replace hf : m_isStill_L51 g v3_51 = some o := hf
  have kx : ∀ x' : Unit, o = .inr (.inl x') → ∀ (H : Heap) (locs : List Loc) (ls : Array Slot), hW D vwCl ad (Sum.elim so (mSH C)) (Sum.elim t g) lt H → va_S (hA s0) s.heap H locs → lv_has ls 4 [] → W p l e rm_m_isStill s m args below meth c H locs 0 0 (MQ below (va_Qi (fun (r : Int32) (_ : Unit) => r = oM) (fun (_ : Unit) (U : State) => hW D vwCl ad (Sum.elim so (mSH C)) (Sum.elim t g) lt U.heap) (hA s0)) args s 0 0 (hA s0)) (F0 m 88 ls []) := fun x' ex => kx0 x' (kx1 _ ex).symm
  have kr : ∀ r : Int32, o = .inr (.inr r) → r = oM := fun r ex => kr0 r (kx1 _ ex).symm
  unfold m_isStill_L51 at hf
  refine lv_iload_n hx hb dX5_isStill_51 rfl (lv_at hl 1 rfl) ?_
  refine lv_aload_n hx hb dX5_isStill_52 rfl (lv_at hl 0 rfl) ?_
  refine hr_get (ci := 5) (C := RX5) (T := TX5) (N := 55) (r := .inr 0) hx hb hts in_X5 hown hK hM mS_0 rfl 2 (by decide) (hts _ q1370) rfl (v := .ref (ad (.inr 3))) rfl dX5_isStill_53 ?_
  refine lv_iconst (v := 1) hx hb dX5_isStill_56 (by decide) ?_
  refine hm_iald (r := 3) hx hb hK hM 0 mS_3 rfl hf dX5_isStill_57 (fun x10 hf => ?_)
  refine hb_icmp_ge (tgt := 88) hx hb dX5_isStill_58 (by decide) hf (fun hf => ?_) (fun hf => ?_)
  · exact kx () (Option.some.inj hf).symm H locs ls hM hS (lv_sub hl [] rfl)
  · refine lv_aload_n hx hb dX5_isStill_61 rfl (lv_at hl 0 rfl) ?_
    refine hr_get (ci := 5) (C := RX5) (T := TX5) (N := 55) (r := .inr 0) hx hb hts in_X5 hown hK hM mS_0 rfl 11 (by decide) (hts _ q1379) rfl (v := .ref (ad (.inr 12))) rfl dX5_isStill_62 ?_
    refine lv_iload_n hx hb dX5_isStill_65 rfl (lv_at hl 1 rfl) ?_
    refine hm_zald (r := 12) hx hb hK hM 2 mS_12 rfl hf dX5_isStill_66 (fun x11 hf => ?_)
    refine hb_if_eq (tgt := 82) hx hb dX5_isStill_67 (by decide) hf (fun hf => ?_) (fun hf => ?_)
    · obtain ⟨y3_12, ey, hf⟩ := hlet_ex hf
      refine lv_iinc (v := y3_12) (lv' := [(3, .int y3_12), (0, .ref (ad (.inr 0)))]) hx hb dX5_isStill_82 hl (k := 1) rfl (by rw [ey]; rfl) (by decide) rfl (fun ls hl => ?_)
      refine lv_goto (tgt := 51) hx hb dX5_isStill_85 (by decide) ?_
      exact kc y3_12 (Option.some.inj hf).symm H locs ls hM hS (lv_sub hl [1, 0] rfl)
    · refine lv_aload_n hx hb dX5_isStill_70 rfl (lv_at hl 0 rfl) ?_
      refine hr_get (ci := 5) (C := RX5) (T := TX5) (N := 55) (r := .inr 0) hx hb hts in_X5 hown hK hM mS_0 rfl 9 (by decide) (hts _ q1377) rfl (v := .ref (ad (.inr 10))) rfl dX5_isStill_71 ?_
      refine lv_iload_n hx hb dX5_isStill_74 rfl (lv_at hl 1 rfl) ?_
      refine hm_iald (r := 10) hx hb hK hM 0 mS_10 rfl hf dX5_isStill_75 (fun x13 hf => ?_)
      refine lv_iconst (v := 1) hx hb dX5_isStill_76 (by decide) ?_
      refine hb_icmp_le (tgt := 82) hx hb dX5_isStill_77 (by decide) hf (fun hf => ?_) (fun hf => ?_)
      · obtain ⟨y3_14, ey, hf⟩ := hlet_ex hf
        refine lv_iinc (v := y3_14) (lv' := [(3, .int y3_14), (0, .ref (ad (.inr 0)))]) hx hb dX5_isStill_82 hl (k := 1) rfl (by rw [ey]; rfl) (by decide) rfl (fun ls hl => ?_)
        refine lv_goto (tgt := 51) hx hb dX5_isStill_85 (by decide) ?_
        exact kc y3_14 (Option.some.inj hf).symm H locs ls hM hS (lv_sub hl [1, 0] rfl)
      · refine lv_iconst (v := 0) hx hb dX5_isStill_80 (by decide) ?_
        have eo := kr (0 : Int32) (Option.some.inj hf).symm
        subst eo
        exact W.zret (v := (0 : Int32)) hx hb hr rfl (fun T ht hW => ⟨⟨(0 : Int32), (), rfl, rfl, by dsimp only; rw [ht]; exact hM⟩, hS.F ht⟩) hS.2.2 dX5_isStill_81
set_option maxHeartbeats 4000000 in
set_option maxRecDepth 100000 in
theorem w_m_isStill {p : Program} {l : Launch} {e : Env} {s : State} {m : MethodId} {args : Array Value} {below : List Frame} {meth : Method} {c : Code} {D : va_G} {C : Nat → Nat} {a0 : Array Value} {s0 : State} {ad : Rl → Nat} {so : Nat → Option hS} {t : hSt} {lt : Rl → Nat → Int64} (CX : hCx D C a0 s0 p s m args meth c cX5_isStill 4 RX5 (some .boolean)) (hIx : hI (hA s0) ad (Sum.elim so (mSH C))) (g : hSt) (r0 : Nat) (p1 : Int32) (h_r0 : mSH C r0 = some (.inl (C 0, 30, false))) {o : Int32} (hf : m_isStill g r0 p1 = some o) {H : Heap} {locs : List Loc} (hM : hW D vwCl ad (Sum.elim so (mSH C)) (Sum.elim t g) lt H) (hS : va_S (hA s0) s.heap H locs) {ls : Array Slot} (hl : lv_has ls 4 [(0, .ref (ad (.inr 0))), (1, .ref (ad (.inr r0))), (2, .int p1)]) : W p l e rm_m_isStill s m args below meth c H locs 0 0 (MQ below (va_Qi (fun (r : Int32) (_ : Unit) => r = o) (fun (_ : Unit) (U : State) => hW D vwCl ad (Sum.elim so (mSH C)) (Sum.elim t g) lt U.heap) (hA s0)) args s 0 0 (hA s0)) (F0 m 0 ls []) := by
  obtain ⟨hx, hb, hr, hml, hown, hts, hlocks, hK, hZ0, hA0⟩ := CX
  unfold m_isStill at hf
  refine lv_iconst (v := 0) hx hb dX5_isStill_0 (by decide) ?_
  refine lv_istore_n (lv' := [(3, .int (0 : Int32)), (0, .ref (ad (.inr 0))), (1, .ref (ad (.inr r0))), (2, .int p1)]) hx hb dX5_isStill_1 rfl hl (by decide) rfl (fun ls hl => ?_)
  obtain ⟨x8, hq, hf⟩ := hbind hf
  refine w_m_isStill_L2 ⟨hx, hb, hr, hml, hown, hts, hlocks, hK, hZ0, hA0⟩ hIx g r0 p1 h_r0 x8 hFU (0 : Int32) hq (fun e9 ex1 H locs ls hM hS hl => ?_) (fun r er => ?_) H locs ls hM hS (lv_sub hl [1, 2, 3, 0] rfl)
  · subst ex1
    replace hf := hcase_l hf
    refine lv_iconst (v := 0) hx hb dX5_isStill_49 (by decide) ?_
    refine lv_istore_n (lv' := [(3, .int (0 : Int32)), (0, .ref (ad (.inr 0)))]) hx hb dX5_isStill_50 rfl hl (by decide) rfl (fun ls hl => ?_)
    obtain ⟨x15, hq, hf⟩ := hbind hf
    refine w_m_isStill_L51 ⟨hx, hb, hr, hml, hown, hts, hlocks, hK, hZ0, hA0⟩ hIx g r0 p1 e9 h_r0 x15 hFU (0 : Int32) hq (fun e16 ex1 H locs ls hM hS hl => ?_) (fun r er => ?_) H locs ls hM hS (lv_sub hl [1, 0] rfl)
    · subst ex1
      replace hf := hcase_l hf
      refine lv_iconst (v := 1) hx hb dX5_isStill_88 (by decide) ?_
      have eo := Option.some.inj hf
      subst eo
      exact W.zret (v := (1 : Int32)) hx hb hr rfl (fun T ht hW => ⟨⟨(1 : Int32), (), rfl, rfl, by dsimp only; rw [ht]; exact hM⟩, hS.F ht⟩) hS.2.2 dX5_isStill_89
    · subst er
      first | exact Option.some.inj (hcase_r hf) | exact Option.some.inj hf
  · subst er
    first | exact Option.some.inj (hcase_r hf) | exact Option.some.inj hf
set_option maxHeartbeats 4000000 in
set_option maxRecDepth 100000 in
theorem met_m_isStill (l : Launch) (D : va_G) (C : Nat → Nat) (a0 : Array Value) (s0 : State) (ad : Rl → Nat) (so : Nat → Option hS) (t : hSt) (lt : Rl → Nat → Int64) (g : hSt) (r0 : Nat) (p1 : Int32) (h_r0 : mSH C r0 = some (.inl (C 0, 30, false))) {o : Int32} (hf : m_isStill g r0 p1 = some o) : Met l yX5_isStill (ws_ yX5_isStill cX5_isStill 4 (some .boolean)) rm_m_isStill (va_Pc [.ref (ad (.inr 0)), .ref (ad (.inr r0)), .int p1] (hB D vwCl (hT C) (hA s0) (hZ a0 s0) ad (Sum.elim so (mSH C)) (Sum.elim t g) lt)) (va_Qi (fun (r : Int32) (_ : Unit) => r = o) (fun (_ : Unit) (U : State) => hW D vwCl ad (Sum.elim so (mSH C)) (Sum.elim t g) lt U.heap) (hA s0)) 0 0 (hA s0) := by
  refine Met.ofW (cc := cX5_isStill) (maxL := 4) (ret := (some .boolean)) (by decide) rfl ?_
  intro p e s m args below meth c s₁ B hml hv
  obtain ⟨rfl, hM, hIx, hK, hZ0, hA0⟩ := hv
  have hl := lv_entry ([.ref (ad (.inr 0)), .ref (ad (.inr r0)), .int p1]) (n := 4) (Nat.le_of_ble_eq_true rfl)
  rw [lg_entry_eq]
  generalize (lg_sl ([.ref (ad (.inr 0)), .ref (ad (.inr r0)), .int p1]) ++ List.replicate (4 - (lg_sl ([.ref (ad (.inr 0)), .ref (ad (.inr r0)), .int p1])).length) Slot.unset).toArray = ls at hl ⊢
  have hl : lv_has ls 4 [(0, .ref (ad (.inr 0))), (1, .ref (ad (.inr r0))), (2, .int p1)] := hl
  exact w_m_isStill ⟨B.exec, B.bytes, B.returns, hml, findClass_of_methodNamed B.named, fun w h => atoms_spec (ws := ws_ yX5_isStill cX5_isStill 4 (some .boolean)) B.pre w (List.mem_cons_of_mem _ h), B.notSynchronized, hK, hZ0, hA0⟩ hIx g r0 p1 h_r0 hf hM va_S.rf hl

def rm_m_stillFrom : Room := { frames := 11, cells := 0, slots := 0, locals := 131 }
set_option maxHeartbeats 4000000 in
set_option maxRecDepth 100000 in
theorem w_m_stillFrom_L20 {p : Program} {l : Launch} {e : Env} {s : State} {m : MethodId} {args : Array Value} {below : List Frame} {meth : Method} {c : Code} {D : va_G} {C : Nat → Nat} {a0 : Array Value} {s0 : State} {ad : Rl → Nat} {so : Nat → Option hS} {t : hSt} {lt : Rl → Nat → Int64} (CX : hCx D C a0 s0 p s m args meth c cX5_stillFrom 5 RX5 (some .int)) (hIx : hI (hA s0) ad (Sum.elim so (mSH C))) (g : hSt) (y1_1 : Int32) (v1_5 : Int32) (g_5 : hSt) {oM : Int32 × hSt} (x : Int32 × hSt) (n : Nat) (q0 : Int32 × Int32 × hSt) (h0 : hiter (fun q : Int32 × Int32 × hSt => m_stillFrom_L20 v1_5 q.1 q.2.1 q.2.2) n q0 = some x) (kx0 : ∀ (H : Heap) (locs : List Loc) (ls : Array Slot), hW D vwCl ad (Sum.elim so (mSH C)) (Sum.elim t x.2) lt H → va_S (hA s0) s.heap H locs → lv_has ls 5 [(0, .ref (ad (.inr 0))), (1, .int v1_5), (2, .int x.1)] → W p l e rm_m_stillFrom s m args below meth c H locs 0 0 (MQ below (va_Qi (fun (r : Int32) (_ : Unit) => r = oM.1) (fun (_ : Unit) (U : State) => hW D vwCl ad (Sum.elim so (mSH C)) (Sum.elim t oM.2) lt U.heap) (hA s0)) args s 0 0 (hA s0)) (F0 m 109 ls [])) : ∀ (H : Heap) (locs : List Loc) (ls : Array Slot), hW D vwCl ad (Sum.elim so (mSH C)) (Sum.elim t q0.2.2) lt H → va_S (hA s0) s.heap H locs → lv_has ls 5 [(0, .ref (ad (.inr 0))), (1, .int v1_5), (2, .int q0.1), (3, .int q0.2.1)] → W p l e rm_m_stillFrom s m args below meth c H locs 0 0 (MQ below (va_Qi (fun (r : Int32) (_ : Unit) => r = oM.1) (fun (_ : Unit) (U : State) => hW D vwCl ad (Sum.elim so (mSH C)) (Sum.elim t oM.2) lt U.heap) (hA s0)) args s 0 0 (hA s0)) (F0 m 20 ls []) := by
  obtain ⟨hx, hb, hr, hml, hown, hts, hlocks, hK, hZ0, hA0⟩ := CX
  refine hiter_W (Wh := fun q => ∀ (H : Heap) (locs : List Loc) (ls : Array Slot), hW D vwCl ad (Sum.elim so (mSH C)) (Sum.elim t q.2.2) lt H → va_S (hA s0) s.heap H locs → lv_has ls 5 [(0, .ref (ad (.inr 0))), (1, .int v1_5), (2, .int q.1), (3, .int q.2.1)] → W p l e rm_m_stillFrom s m args below meth c H locs 0 0 (MQ below (va_Qi (fun (r : Int32) (_ : Unit) => r = oM.1) (fun (_ : Unit) (U : State) => hW D vwCl ad (Sum.elim so (mSH C)) (Sum.elim t oM.2) lt U.heap) (hA s0)) args s 0 0 (hA s0)) (F0 m 20 ls [])) ?_ n q0 h0
  intro q o hf kc kx1 H locs ls hM hS hl
  obtain ⟨v2_20, v3_20, g_20⟩ := q
  replace hf : m_stillFrom_L20 v1_5 v2_20 v3_20 g_20 = some o := hf
  have kx : ∀ x' : Int32 × hSt, o = .inr x' → ∀ (H : Heap) (locs : List Loc) (ls : Array Slot), hW D vwCl ad (Sum.elim so (mSH C)) (Sum.elim t x'.2) lt H → va_S (hA s0) s.heap H locs → lv_has ls 5 [(0, .ref (ad (.inr 0))), (1, .int v1_5), (2, .int x'.1)] → W p l e rm_m_stillFrom s m args below meth c H locs 0 0 (MQ below (va_Qi (fun (r : Int32) (_ : Unit) => r = oM.1) (fun (_ : Unit) (U : State) => hW D vwCl ad (Sum.elim so (mSH C)) (Sum.elim t oM.2) lt U.heap) (hA s0)) args s 0 0 (hA s0)) (F0 m 109 ls []) := fun x' ex => by rw [kx1 _ ex]; exact kx0
  unfold m_stillFrom_L20 at hf
  refine lv_iload_n hx hb dX5_stillFrom_20 rfl (lv_at hl 3 rfl) ?_
  refine lv_aload_n hx hb dX5_stillFrom_21 rfl (lv_at hl 0 rfl) ?_
  refine hr_get (ci := 5) (C := RX5) (T := TX5) (N := 55) (r := .inr 0) hx hb hts in_X5 hown hK hM mS_0 rfl 2 (by decide) (hts _ q1370) rfl (v := .ref (ad (.inr 3))) rfl dX5_stillFrom_22 ?_
  refine lv_iconst (v := 0) hx hb dX5_stillFrom_25 (by decide) ?_
  refine hm_iald (r := 3) hx hb hK hM 0 mS_3 rfl hf dX5_stillFrom_26 (fun x2 hf => ?_)
  refine hb_icmp_ge (tgt := 109) hx hb dX5_stillFrom_27 (by decide) hf (fun hf => ?_) (fun hf => ?_)
  · exact kx (v2_20, g_20) (Option.some.inj hf).symm H locs ls hM hS (lv_sub hl [0, 1, 2] rfl)
  · refine lv_aload_n hx hb dX5_stillFrom_30 rfl (lv_at hl 0 rfl) ?_
    refine lv_aload_n hx hb dX5_stillFrom_31 rfl (lv_at hl 0 rfl) ?_
    refine hr_get (ci := 5) (C := RX5) (T := TX5) (N := 55) (r := .inr 0) hx hb hts in_X5 hown hK hM mS_0 rfl 42 (by decide) (hts _ q1410) rfl (v := .ref (ad (.inr 43))) rfl dX5_stillFrom_32 ?_
    refine lv_iload_n hx hb dX5_stillFrom_35 rfl (lv_at hl 3 rfl) ?_
    refine lv_iload_n hx hb dX5_stillFrom_36 rfl (lv_at hl 1 rfl) ?_
    obtain ⟨y3, hq, hf⟩ := hbind hf
    refine hr_calli0 (va_runV (As := [.ref (ad (.inr 43)), .int v3_20, .int v1_5]) (rest := []) ⟨hx, hb, hml, hown, hts⟩ (met_m_choiceOf l D C a0 s0 ad so t lt g_20 43 v3_20 v1_5 ms_43 hq) (cwV 3 hts (lw_V q1728 q1730 qs58 q99 q1731) rfl rfl rfl (by decide +kernel) ⟨Nat.le_of_ble_eq_true rfl, Nat.le_of_ble_eq_true rfl⟩) (hr_preV hZ_c hM hIx hK hZ0 hA0 hS (r := .inr 0) mS_0 (q := (RX5, TX5, 55)) rfl) rfl rfl hl.1 rfl (lv_room (Nat.le_of_ble_eq_true rfl)) dX5_stillFrom_37 ⟨Nat.le_of_ble_eq_true rfl, Nat.le_of_ble_eq_true rfl⟩) hS (fun H locs hM hS => ?_)
    refine lv_istore (lv' := [(4, .int y3), (0, .ref (ad (.inr 0))), (1, .int v1_5), (2, .int v2_20), (3, .int v3_20)]) hx hb dX5_stillFrom_40 hl (by decide) rfl (fun ls hl => ?_)
    refine lv_iload hx hb dX5_stillFrom_42 (lv_at hl 0 rfl) ?_
    refine lv_iconst (v := -1) hx hb dX5_stillFrom_44 (by decide) ?_
    refine hb_icmp_ne (tgt := 51) hx hb dX5_stillFrom_45 (by decide) hf (fun hf => ?_) (fun hf => ?_)
    · refine lv_aload_n hx hb dX5_stillFrom_51 rfl (lv_at hl 1 rfl) ?_
      refine lv_aload_n hx hb dX5_stillFrom_52 rfl (lv_at hl 1 rfl) ?_
      refine hr_get (ci := 5) (C := RX5) (T := TX5) (N := 55) (r := .inr 0) hx hb hts in_X5 hown hK hM mS_0 rfl 42 (by decide) (hts _ q1410) rfl (v := .ref (ad (.inr 43))) rfl dX5_stillFrom_53 ?_
      refine lv_iload_n hx hb dX5_stillFrom_56 rfl (lv_at hl 4 rfl) ?_
      refine lv_iload hx hb dX5_stillFrom_57 (lv_at hl 0 rfl) ?_
      refine lv_aload_n hx hb dX5_stillFrom_59 rfl (lv_at hl 1 rfl) ?_
      refine lv_aload_n hx hb dX5_stillFrom_60 rfl (lv_at hl 1 rfl) ?_
      refine hr_get (ci := 5) (C := RX5) (T := TX5) (N := 55) (r := .inr 0) hx hb hts in_X5 hown hK hM mS_0 rfl 42 (by decide) (hts _ q1410) rfl (v := .ref (ad (.inr 43))) rfl dX5_stillFrom_61 ?_
      refine lv_iload_n hx hb dX5_stillFrom_64 rfl (lv_at hl 4 rfl) ?_
      refine lv_iload hx hb dX5_stillFrom_65 (lv_at hl 0 rfl) ?_
      refine lv_aload_n hx hb dX5_stillFrom_67 rfl (lv_at hl 1 rfl) ?_
      refine hr_get (ci := 5) (C := RX5) (T := TX5) (N := 55) (r := .inr 0) hx hb hts in_X5 hown hK hM mS_0 rfl 42 (by decide) (hts _ q1410) rfl (v := .ref (ad (.inr 43))) rfl dX5_stillFrom_68 ?_
      refine lv_bipush (v := 18) hx hb dX5_stillFrom_71 (by decide) ?_
      refine lv_iload_n hx hb dX5_stillFrom_73 rfl (lv_at hl 4 rfl) ?_
      refine lv_iadd hx hb dX5_stillFrom_74 ?_
      refine hm_iald (r := 43) hx hb hK hM 0 mS_43 rfl hf dX5_stillFrom_75 (fun x4 hf => ?_)
      obtain ⟨y5, hq, hf⟩ := hbind hf
      refine hr_calli0 (va_runV (As := [.ref (ad (.inr 43)), .int v3_20, .int y3, .int x4]) (rest := [.int y3, .int v3_20, .ref (ad (.inr 43)), .ref (ad (.inr 0))]) ⟨hx, hb, hml, hown, hts⟩ (met_m_sandFor l D C a0 s0 ad so t lt g_20 43 v3_20 y3 x4 ms_43 hq) (cwV 4 hts (lw_V q1720 q1722 qs57 q99 q1723) rfl rfl rfl (by decide +kernel) ⟨Nat.le_of_ble_eq_true rfl, Nat.le_of_ble_eq_true rfl⟩) (hr_preV hZ_c hM hIx hK hZ0 hA0 hS (r := .inr 0) mS_0 (q := (RX5, TX5, 55)) rfl) rfl rfl hl.1 rfl (lv_room (Nat.le_of_ble_eq_true rfl)) dX5_stillFrom_76 ⟨Nat.le_of_ble_eq_true rfl, Nat.le_of_ble_eq_true rfl⟩) hS (fun H locs hM hS => ?_)
      refine lv_aload_n hx hb dX5_stillFrom_79 rfl (lv_at hl 1 rfl) ?_
      refine lv_aload_n hx hb dX5_stillFrom_80 rfl (lv_at hl 1 rfl) ?_
      refine hr_get (ci := 5) (C := RX5) (T := TX5) (N := 55) (r := .inr 0) hx hb hts in_X5 hown hK hM mS_0 rfl 42 (by decide) (hts _ q1410) rfl (v := .ref (ad (.inr 43))) rfl dX5_stillFrom_81 ?_
      refine lv_iload_n hx hb dX5_stillFrom_84 rfl (lv_at hl 4 rfl) ?_
      refine lv_aload_n hx hb dX5_stillFrom_85 rfl (lv_at hl 1 rfl) ?_
      refine hr_get (ci := 5) (C := RX5) (T := TX5) (N := 55) (r := .inr 0) hx hb hts in_X5 hown hK hM mS_0 rfl 42 (by decide) (hts _ q1410) rfl (v := .ref (ad (.inr 43))) rfl dX5_stillFrom_86 ?_
      refine lv_bipush (v := 24) hx hb dX5_stillFrom_89 (by decide) ?_
      refine lv_iload_n hx hb dX5_stillFrom_91 rfl (lv_at hl 4 rfl) ?_
      refine lv_iadd hx hb dX5_stillFrom_92 ?_
      refine hm_iald (r := 43) hx hb hK hM 0 mS_43 rfl hf dX5_stillFrom_93 (fun x6 hf => ?_)
      obtain ⟨y7, hq, hf⟩ := hbind hf
      refine hr_calli0 (va_runV (As := [.ref (ad (.inr 43)), .int v3_20, .int x6]) (rest := [.int y5, .int y3, .int v3_20, .ref (ad (.inr 43)), .ref (ad (.inr 0))]) ⟨hx, hb, hml, hown, hts⟩ (met_m_whomOf l D C a0 s0 ad so t lt g_20 43 v3_20 x6 ms_43 hq) (cwV 3 hts (lw_V q1739 q1741 qs60 q99 q1742) rfl rfl rfl (by decide +kernel) ⟨Nat.le_of_ble_eq_true rfl, Nat.le_of_ble_eq_true rfl⟩) (hr_preV hZ_c hM hIx hK hZ0 hA0 hS (r := .inr 0) mS_0 (q := (RX5, TX5, 55)) rfl) rfl rfl hl.1 rfl (lv_room (Nat.le_of_ble_eq_true rfl)) dX5_stillFrom_94 ⟨Nat.le_of_ble_eq_true rfl, Nat.le_of_ble_eq_true rfl⟩) hS (fun H locs hM hS => ?_)
      obtain ⟨y8, hq, hf⟩ := hbind hf
      refine hr_calli0 (va_runV (As := [.ref (ad (.inr 43)), .int v3_20, .int y3, .int y5, .int y7]) (rest := []) ⟨hx, hb, hml, hown, hts⟩ (met_m_make l D C a0 s0 ad so t lt g_20 43 v3_20 y3 y5 y7 ms_43 hq) (cwV 5 hts (lw_V q1700 q1702 qs55 q99 q1703) rfl rfl rfl (by decide +kernel) ⟨Nat.le_of_ble_eq_true rfl, Nat.le_of_ble_eq_true rfl⟩) (hr_preV hZ_c hM hIx hK hZ0 hA0 hS (r := .inr 0) mS_0 (q := (RX5, TX5, 55)) rfl) rfl rfl hl.1 rfl (lv_room (Nat.le_of_ble_eq_true rfl)) dX5_stillFrom_97 ⟨Nat.le_of_ble_eq_true rfl, Nat.le_of_ble_eq_true rfl⟩) hS (fun H locs hM hS => ?_)
      refine lv_pop hx hb dX5_stillFrom_100 rfl ?_
      refine lv_iconst (v := 1) hx hb dX5_stillFrom_101 (by decide) ?_
      refine lv_istore_n (lv' := [(2, .int (1 : Int32)), (4, .int y3), (0, .ref (ad (.inr 0))), (1, .int v1_5), (3, .int v3_20)]) hx hb dX5_stillFrom_102 rfl hl (by decide) rfl (fun ls hl => ?_)
      obtain ⟨y3_9, ey, hf⟩ := hlet_ex hf
      refine lv_iinc (v := y3_9) (lv' := [(3, .int y3_9), (2, .int (1 : Int32)), (4, .int y3), (0, .ref (ad (.inr 0))), (1, .int v1_5)]) hx hb dX5_stillFrom_103 hl (k := 4) rfl (by rw [ey]; rfl) (by decide) rfl (fun ls hl => ?_)
      refine lv_goto (tgt := 20) hx hb dX5_stillFrom_106 (by decide) ?_
      exact kc ((1 : Int32), y3_9, y8.2) (Option.some.inj hf).symm H locs ls hM hS (lv_sub hl [3, 4, 1, 0] rfl)
    · refine lv_goto (tgt := 103) hx hb dX5_stillFrom_48 (by decide) ?_
      obtain ⟨y3_10, ey, hf⟩ := hlet_ex hf
      refine lv_iinc (v := y3_10) (lv' := [(3, .int y3_10), (4, .int y3), (0, .ref (ad (.inr 0))), (1, .int v1_5), (2, .int v2_20)]) hx hb dX5_stillFrom_103 hl (k := 4) rfl (by rw [ey]; rfl) (by decide) rfl (fun ls hl => ?_)
      refine lv_goto (tgt := 20) hx hb dX5_stillFrom_106 (by decide) ?_
      exact kc (v2_20, y3_10, g_20) (Option.some.inj hf).symm H locs ls hM hS (lv_sub hl [2, 3, 4, 0] rfl)
set_option maxHeartbeats 4000000 in
set_option maxRecDepth 100000 in
theorem w_m_stillFrom_B127 {p : Program} {l : Launch} {e : Env} {s : State} {m : MethodId} {args : Array Value} {below : List Frame} {meth : Method} {c : Code} {D : va_G} {C : Nat → Nat} {a0 : Array Value} {s0 : State} {ad : Rl → Nat} {so : Nat → Option hS} {t : hSt} {lt : Rl → Nat → Int64} (CX : hCx D C a0 s0 p s m args meth c cX5_stillFrom 5 RX5 (some .int)) (hIx : hI (hA s0) ad (Sum.elim so (mSH C))) (g : hSt) (y1_1 : Int32) (v1_5 : Int32) (g_5 : hSt) (x11 : Int32 × hSt) {oM : Int32 × hSt} {o : (Int32 × hSt) ⊕ ((hSt) ⊕ (Int32 × hSt))} (hf : m_stillFrom_B127 v1_5 x11 = some o) (kc : ∀ s' : Int32 × hSt, o = .inl s' → ∀ (H : Heap) (locs : List Loc) (ls : Array Slot), hW D vwCl ad (Sum.elim so (mSH C)) (Sum.elim t s'.2) lt H → va_S (hA s0) s.heap H locs → lv_has ls 5 [(0, .ref (ad (.inr 0))), (1, .int s'.1)] → W p l e rm_m_stillFrom s m args below meth c H locs 0 0 (MQ below (va_Qi (fun (r : Int32) (_ : Unit) => r = oM.1) (fun (_ : Unit) (U : State) => hW D vwCl ad (Sum.elim so (mSH C)) (Sum.elim t oM.2) lt U.heap) (hA s0)) args s 0 0 (hA s0)) (F0 m 5 ls [])) (kx : ∀ x' : hSt, o = .inr (.inl x') → ∀ (H : Heap) (locs : List Loc) (ls : Array Slot), hW D vwCl ad (Sum.elim so (mSH C)) (Sum.elim t x') lt H → va_S (hA s0) s.heap H locs → lv_has ls 5 [] → W p l e rm_m_stillFrom s m args below meth c H locs 0 0 (MQ below (va_Qi (fun (r : Int32) (_ : Unit) => r = oM.1) (fun (_ : Unit) (U : State) => hW D vwCl ad (Sum.elim so (mSH C)) (Sum.elim t oM.2) lt U.heap) (hA s0)) args s 0 0 (hA s0)) (F0 m 137 ls [])) (kr : ∀ r : Int32 × hSt, o = .inr (.inr r) → r = oM) {H : Heap} {locs : List Loc} (hM : hW D vwCl ad (Sum.elim so (mSH C)) (Sum.elim t x11.2) lt H) (hS : va_S (hA s0) s.heap H locs) {ls : Array Slot} (hl : lv_has ls 5 [(0, .ref (ad (.inr 0))), (1, .int v1_5)]) : W p l e rm_m_stillFrom s m args below meth c H locs 0 0 (MQ below (va_Qi (fun (r : Int32) (_ : Unit) => r = oM.1) (fun (_ : Unit) (U : State) => hW D vwCl ad (Sum.elim so (mSH C)) (Sum.elim t oM.2) lt U.heap) (hA s0)) args s 0 0 (hA s0)) (F0 m 127 ls []) := by
  obtain ⟨hx, hb, hr, hml, hown, hts, hlocks, hK, hZ0, hA0⟩ := CX
  unfold m_stillFrom_B127 at hf
  refine lv_aload_n hx hb dX5_stillFrom_127 rfl (lv_at hl 0 rfl) ?_
  obtain ⟨y12, hq, hf⟩ := hbind hf
  refine hr_callv0 (va_runV (As := []) (rest := []) ⟨hx, hb, hml, hown, hts⟩ (met_m_dry l D C a0 s0 ad so t lt x11.2 hq) (cwV 0 hts (lw_V q1831 q1833 qs72 q99 q1834) rfl rfl rfl (by decide +kernel) ⟨Nat.le_of_ble_eq_true rfl, Nat.le_of_ble_eq_true rfl⟩) (hr_preV hZ_c hM hIx hK hZ0 hA0 hS (r := .inr 0) mS_0 (q := (RX5, TX5, 55)) rfl) rfl rfl hl.1 rfl (lv_room (Nat.le_of_ble_eq_true rfl)) dX5_stillFrom_128 ⟨Nat.le_of_ble_eq_true rfl, Nat.le_of_ble_eq_true rfl⟩) hS (fun H locs hM hS => ?_)
  obtain ⟨y1_13, ey, hf⟩ := hlet_ex hf
  refine lv_iinc (v := y1_13) (lv' := [(1, .int y1_13), (0, .ref (ad (.inr 0)))]) hx hb dX5_stillFrom_131 hl (k := 1) rfl (by rw [ey]; rfl) (by decide) rfl (fun ls hl => ?_)
  refine lv_goto (tgt := 5) hx hb dX5_stillFrom_134 (by decide) ?_
  exact kc (y1_13, y12) (Option.some.inj hf).symm H locs ls hM hS (lv_sub hl [1, 0] rfl)
set_option maxHeartbeats 4000000 in
set_option maxRecDepth 100000 in
theorem w_m_stillFrom_L5 {p : Program} {l : Launch} {e : Env} {s : State} {m : MethodId} {args : Array Value} {below : List Frame} {meth : Method} {c : Code} {D : va_G} {C : Nat → Nat} {a0 : Array Value} {s0 : State} {ad : Rl → Nat} {so : Nat → Option hS} {t : hSt} {lt : Rl → Nat → Int64} (CX : hCx D C a0 s0 p s m args meth c cX5_stillFrom 5 RX5 (some .int)) (hIx : hI (hA s0) ad (Sum.elim so (mSH C))) (g : hSt) (y1_1 : Int32) {oM : Int32 × hSt} (x : (hSt) ⊕ (Int32 × hSt)) (n : Nat) (q0 : Int32 × hSt) (h0 : hiter (fun q : Int32 × hSt => m_stillFrom_L5 q.1 q.2) n q0 = some x) (kx0 : ∀ x' : hSt, x = .inl x' → ∀ (H : Heap) (locs : List Loc) (ls : Array Slot), hW D vwCl ad (Sum.elim so (mSH C)) (Sum.elim t x') lt H → va_S (hA s0) s.heap H locs → lv_has ls 5 [] → W p l e rm_m_stillFrom s m args below meth c H locs 0 0 (MQ below (va_Qi (fun (r : Int32) (_ : Unit) => r = oM.1) (fun (_ : Unit) (U : State) => hW D vwCl ad (Sum.elim so (mSH C)) (Sum.elim t oM.2) lt U.heap) (hA s0)) args s 0 0 (hA s0)) (F0 m 137 ls [])) (kr0 : ∀ r : Int32 × hSt, x = .inr r → r = oM) : ∀ (H : Heap) (locs : List Loc) (ls : Array Slot), hW D vwCl ad (Sum.elim so (mSH C)) (Sum.elim t q0.2) lt H → va_S (hA s0) s.heap H locs → lv_has ls 5 [(0, .ref (ad (.inr 0))), (1, .int q0.1)] → W p l e rm_m_stillFrom s m args below meth c H locs 0 0 (MQ below (va_Qi (fun (r : Int32) (_ : Unit) => r = oM.1) (fun (_ : Unit) (U : State) => hW D vwCl ad (Sum.elim so (mSH C)) (Sum.elim t oM.2) lt U.heap) (hA s0)) args s 0 0 (hA s0)) (F0 m 5 ls []) := by
  obtain ⟨hx, hb, hr, hml, hown, hts, hlocks, hK, hZ0, hA0⟩ := CX
  refine hiter_W (Wh := fun q => ∀ (H : Heap) (locs : List Loc) (ls : Array Slot), hW D vwCl ad (Sum.elim so (mSH C)) (Sum.elim t q.2) lt H → va_S (hA s0) s.heap H locs → lv_has ls 5 [(0, .ref (ad (.inr 0))), (1, .int q.1)] → W p l e rm_m_stillFrom s m args below meth c H locs 0 0 (MQ below (va_Qi (fun (r : Int32) (_ : Unit) => r = oM.1) (fun (_ : Unit) (U : State) => hW D vwCl ad (Sum.elim so (mSH C)) (Sum.elim t oM.2) lt U.heap) (hA s0)) args s 0 0 (hA s0)) (F0 m 5 ls [])) ?_ n q0 h0
  intro q o hf kc kx1 H locs ls hM hS hl
  obtain ⟨v1_5, g_5⟩ := q
  replace hf : m_stillFrom_L5 v1_5 g_5 = some o := hf
  have kx : ∀ x' : hSt, o = .inr (.inl x') → ∀ (H : Heap) (locs : List Loc) (ls : Array Slot), hW D vwCl ad (Sum.elim so (mSH C)) (Sum.elim t x') lt H → va_S (hA s0) s.heap H locs → lv_has ls 5 [] → W p l e rm_m_stillFrom s m args below meth c H locs 0 0 (MQ below (va_Qi (fun (r : Int32) (_ : Unit) => r = oM.1) (fun (_ : Unit) (U : State) => hW D vwCl ad (Sum.elim so (mSH C)) (Sum.elim t oM.2) lt U.heap) (hA s0)) args s 0 0 (hA s0)) (F0 m 137 ls []) := fun x' ex => kx0 x' (kx1 _ ex).symm
  have kr : ∀ r : Int32 × hSt, o = .inr (.inr r) → r = oM := fun r ex => kr0 r (kx1 _ ex).symm
  unfold m_stillFrom_L5 at hf
  refine lv_iload_n hx hb dX5_stillFrom_5 rfl (lv_at hl 1 rfl) ?_
  refine lv_aload_n hx hb dX5_stillFrom_6 rfl (lv_at hl 0 rfl) ?_
  refine hr_get (ci := 5) (C := RX5) (T := TX5) (N := 55) (r := .inr 0) hx hb hts in_X5 hown hK hM mS_0 rfl 12 (by decide) (hts _ q1380) rfl (v := .int (g_5 0 12)) rfl dX5_stillFrom_7 ?_
  refine lv_bipush (v := 100) hx hb dX5_stillFrom_10 (by decide) ?_
  refine lv_iadd hx hb dX5_stillFrom_12 ?_
  refine hb_icmp_ge (tgt := 137) hx hb dX5_stillFrom_13 (by decide) hf (fun hf => ?_) (fun hf => ?_)
  · exact kx g_5 (Option.some.inj hf).symm H locs ls hM hS (lv_sub hl [] rfl)
  · refine lv_iconst (v := 0) hx hb dX5_stillFrom_16 (by decide) ?_
    refine lv_istore_n (lv' := [(2, .int (0 : Int32)), (0, .ref (ad (.inr 0))), (1, .int v1_5)]) hx hb dX5_stillFrom_17 rfl hl (by decide) rfl (fun ls hl => ?_)
    refine lv_iconst (v := 0) hx hb dX5_stillFrom_18 (by decide) ?_
    refine lv_istore_n (lv' := [(3, .int (0 : Int32)), (2, .int (0 : Int32)), (0, .ref (ad (.inr 0))), (1, .int v1_5)]) hx hb dX5_stillFrom_19 rfl hl (by decide) rfl (fun ls hl => ?_)
    obtain ⟨x11, hq, hf⟩ := hbind hf
    refine w_m_stillFrom_L20 ⟨hx, hb, hr, hml, hown, hts, hlocks, hK, hZ0, hA0⟩ hIx g y1_1 v1_5 g_5 x11 hFU ((0 : Int32), (0 : Int32), g_5) hq (fun H locs ls hM hS hl => ?_) H locs ls hM hS (lv_sub hl [2, 3, 1, 0] rfl)
    refine lv_iload_n hx hb dX5_stillFrom_109 rfl (lv_at hl 2 rfl) ?_
    refine hb_if_ne (tgt := 127) hx hb dX5_stillFrom_110 (by decide) hf (fun hf => ?_) (fun hf => ?_)
    · exact w_m_stillFrom_B127 ⟨hx, hb, hr, hml, hown, hts, hlocks, hK, hZ0, hA0⟩ hIx g y1_1 v1_5 g_5 x11 hf kc kx kr hM hS (lv_sub hl [0, 1] rfl)
    · refine lv_aload_n hx hb dX5_stillFrom_113 rfl (lv_at hl 0 rfl) ?_
      refine lv_aload_n hx hb dX5_stillFrom_114 rfl (lv_at hl 0 rfl) ?_
      refine hr_get (ci := 5) (C := RX5) (T := TX5) (N := 55) (r := .inr 0) hx hb hts in_X5 hown hK hM mS_0 rfl 42 (by decide) (hts _ q1410) rfl (v := .ref (ad (.inr 43))) rfl dX5_stillFrom_115 ?_
      refine lv_iload_n hx hb dX5_stillFrom_118 rfl (lv_at hl 1 rfl) ?_
      obtain ⟨y14, hq, hf⟩ := hbind hf
      refine hr_calli0 (va_runV (As := [.ref (ad (.inr 43)), .int v1_5]) (rest := []) ⟨hx, hb, hml, hown, hts⟩ (met_m_isStill l D C a0 s0 ad so t lt x11.2 43 v1_5 ms_43 hq) (cwV 2 hts (lw_V q1843 q1845 qs74 q99 q1846) rfl rfl rfl (by decide +kernel) ⟨Nat.le_of_ble_eq_true rfl, Nat.le_of_ble_eq_true rfl⟩) (hr_preV hZ_c hM hIx hK hZ0 hA0 hS (r := .inr 0) mS_0 (q := (RX5, TX5, 55)) rfl) rfl rfl hl.1 rfl (lv_room (Nat.le_of_ble_eq_true rfl)) dX5_stillFrom_119 ⟨Nat.le_of_ble_eq_true rfl, Nat.le_of_ble_eq_true rfl⟩) hS (fun H locs hM hS => ?_)
      refine hb_if_eq (tgt := 127) hx hb dX5_stillFrom_122 (by decide) hf (fun hf => ?_) (fun hf => ?_)
      · exact w_m_stillFrom_B127 ⟨hx, hb, hr, hml, hown, hts, hlocks, hK, hZ0, hA0⟩ hIx g y1_1 v1_5 g_5 x11 hf kc kx kr hM hS (lv_sub hl [0, 1] rfl)
      · refine lv_iload_n hx hb dX5_stillFrom_125 rfl (lv_at hl 1 rfl) ?_
        have eo := kr (v1_5, x11.2) (Option.some.inj hf).symm
        subst eo
        exact W.iret (v := v1_5) hx hb hr (fun T ht hW => ⟨⟨v1_5, (), rfl, rfl, by dsimp only; rw [ht]; exact hM⟩, hS.F ht⟩) hS.2.2 dX5_stillFrom_126
set_option maxHeartbeats 4000000 in
set_option maxRecDepth 100000 in
theorem w_m_stillFrom {p : Program} {l : Launch} {e : Env} {s : State} {m : MethodId} {args : Array Value} {below : List Frame} {meth : Method} {c : Code} {D : va_G} {C : Nat → Nat} {a0 : Array Value} {s0 : State} {ad : Rl → Nat} {so : Nat → Option hS} {t : hSt} {lt : Rl → Nat → Int64} (CX : hCx D C a0 s0 p s m args meth c cX5_stillFrom 5 RX5 (some .int)) (hIx : hI (hA s0) ad (Sum.elim so (mSH C))) (g : hSt) {o : Int32 × hSt} (hf : m_stillFrom g = some o) {H : Heap} {locs : List Loc} (hM : hW D vwCl ad (Sum.elim so (mSH C)) (Sum.elim t g) lt H) (hS : va_S (hA s0) s.heap H locs) {ls : Array Slot} (hl : lv_has ls 5 [(0, .ref (ad (.inr 0)))]) : W p l e rm_m_stillFrom s m args below meth c H locs 0 0 (MQ below (va_Qi (fun (r : Int32) (_ : Unit) => r = o.1) (fun (_ : Unit) (U : State) => hW D vwCl ad (Sum.elim so (mSH C)) (Sum.elim t o.2) lt U.heap) (hA s0)) args s 0 0 (hA s0)) (F0 m 0 ls []) := by
  obtain ⟨hx, hb, hr, hml, hown, hts, hlocks, hK, hZ0, hA0⟩ := CX
  unfold m_stillFrom at hf
  refine lv_aload_n hx hb dX5_stillFrom_0 rfl (lv_at hl 0 rfl) ?_
  refine hr_get (ci := 5) (C := RX5) (T := TX5) (N := 55) (r := .inr 0) hx hb hts in_X5 hown hK hM mS_0 rfl 12 (by decide) (hts _ q1380) rfl (v := .int (g 0 12)) rfl dX5_stillFrom_1 ?_
  refine hb_top hf (fun y1_1 hf => ?_)
  refine lv_istore_n (lv' := [(1, .int y1_1), (0, .ref (ad (.inr 0)))]) hx hb dX5_stillFrom_4 rfl hl (by decide) rfl (fun ls hl => ?_)
  obtain ⟨x15, hq, hf⟩ := hbind hf
  refine w_m_stillFrom_L5 ⟨hx, hb, hr, hml, hown, hts, hlocks, hK, hZ0, hA0⟩ hIx g y1_1 x15 hFU (y1_1, g) hq (fun e16 ex1 H locs ls hM hS hl => ?_) (fun r er => ?_) H locs ls hM hS (lv_sub hl [1, 0] rfl)
  · subst ex1
    replace hf := hcase_l hf
    refine lv_iconst (v := -1) hx hb dX5_stillFrom_137 (by decide) ?_
    have eo := Option.some.inj hf
    subst eo
    exact W.iret (v := (-1 : Int32)) hx hb hr (fun T ht hW => ⟨⟨(-1 : Int32), (), rfl, rfl, by dsimp only; rw [ht]; exact hM⟩, hS.F ht⟩) hS.2.2 dX5_stillFrom_138
  · subst er
    first | exact Option.some.inj (hcase_r hf) | exact Option.some.inj hf
set_option maxHeartbeats 4000000 in
set_option maxRecDepth 100000 in
theorem met_m_stillFrom (l : Launch) (D : va_G) (C : Nat → Nat) (a0 : Array Value) (s0 : State) (ad : Rl → Nat) (so : Nat → Option hS) (t : hSt) (lt : Rl → Nat → Int64) (g : hSt) {o : Int32 × hSt} (hf : m_stillFrom g = some o) : Met l yX5_stillFrom (ws_ yX5_stillFrom cX5_stillFrom 5 (some .int)) rm_m_stillFrom (va_Pc [.ref (ad (.inr 0))] (hB D vwCl (hT C) (hA s0) (hZ a0 s0) ad (Sum.elim so (mSH C)) (Sum.elim t g) lt)) (va_Qi (fun (r : Int32) (_ : Unit) => r = o.1) (fun (_ : Unit) (U : State) => hW D vwCl ad (Sum.elim so (mSH C)) (Sum.elim t o.2) lt U.heap) (hA s0)) 0 0 (hA s0) := by
  refine Met.ofW (cc := cX5_stillFrom) (maxL := 5) (ret := (some .int)) (by decide) rfl ?_
  intro p e s m args below meth c s₁ B hml hv
  obtain ⟨rfl, hM, hIx, hK, hZ0, hA0⟩ := hv
  have hl := lv_entry ([.ref (ad (.inr 0))]) (n := 5) (Nat.le_of_ble_eq_true rfl)
  rw [lg_entry_eq]
  generalize (lg_sl ([.ref (ad (.inr 0))]) ++ List.replicate (5 - (lg_sl ([.ref (ad (.inr 0))])).length) Slot.unset).toArray = ls at hl ⊢
  have hl : lv_has ls 5 [(0, .ref (ad (.inr 0)))] := hl
  exact w_m_stillFrom ⟨B.exec, B.bytes, B.returns, hml, findClass_of_methodNamed B.named, fun w h => atoms_spec (ws := ws_ yX5_stillFrom cX5_stillFrom 5 (some .int)) B.pre w (List.mem_cons_of_mem _ h), B.notSynchronized, hK, hZ0, hA0⟩ hIx g hf hM va_S.rf hl

def rm_m_still : Room := { frames := 13, cells := 0, slots := 0, locals := 156 }
set_option maxHeartbeats 4000000 in
set_option maxRecDepth 100000 in
theorem w_m_still_L18 {p : Program} {l : Launch} {e : Env} {s : State} {m : MethodId} {args : Array Value} {below : List Frame} {meth : Method} {c : Code} {D : va_G} {C : Nat → Nat} {a0 : Array Value} {s0 : State} {ad : Rl → Nat} {so : Nat → Option hS} {t : hSt} {lt : Rl → Nat → Int64} (CX : hCx D C a0 s0 p s m args meth c cX5_still 3 RX5 (some .int)) (hIx : hI (hA s0) ad (Sum.elim so (mSH C))) (g : hSt) (g1 : hSt) (y2 : hSt) {oM : Int32 × hSt} (x : hSt) (n : Nat) (q0 : Int32 × hSt) (h0 : hiter (fun q : Int32 × hSt => m_still_L18 q.1 q.2) n q0 = some x) (kx0 : ∀ (H : Heap) (locs : List Loc) (ls : Array Slot), hW D vwCl ad (Sum.elim so (mSH C)) (Sum.elim t x) lt H → va_S (hA s0) s.heap H locs → lv_has ls 3 [(0, .ref (ad (.inr 0)))] → W p l e rm_m_still s m args below meth c H locs 0 0 (MQ below (va_Qi (fun (r : Int32) (_ : Unit) => r = oM.1) (fun (_ : Unit) (U : State) => hW D vwCl ad (Sum.elim so (mSH C)) (Sum.elim t oM.2) lt U.heap) (hA s0)) args s 0 0 (hA s0)) (F0 m 42 ls [])) : ∀ (H : Heap) (locs : List Loc) (ls : Array Slot), hW D vwCl ad (Sum.elim so (mSH C)) (Sum.elim t q0.2) lt H → va_S (hA s0) s.heap H locs → lv_has ls 3 [(0, .ref (ad (.inr 0))), (1, .int q0.1)] → W p l e rm_m_still s m args below meth c H locs 0 0 (MQ below (va_Qi (fun (r : Int32) (_ : Unit) => r = oM.1) (fun (_ : Unit) (U : State) => hW D vwCl ad (Sum.elim so (mSH C)) (Sum.elim t oM.2) lt U.heap) (hA s0)) args s 0 0 (hA s0)) (F0 m 18 ls []) := by
  obtain ⟨hx, hb, hr, hml, hown, hts, hlocks, hK, hZ0, hA0⟩ := CX
  refine hiter_W (Wh := fun q => ∀ (H : Heap) (locs : List Loc) (ls : Array Slot), hW D vwCl ad (Sum.elim so (mSH C)) (Sum.elim t q.2) lt H → va_S (hA s0) s.heap H locs → lv_has ls 3 [(0, .ref (ad (.inr 0))), (1, .int q.1)] → W p l e rm_m_still s m args below meth c H locs 0 0 (MQ below (va_Qi (fun (r : Int32) (_ : Unit) => r = oM.1) (fun (_ : Unit) (U : State) => hW D vwCl ad (Sum.elim so (mSH C)) (Sum.elim t oM.2) lt U.heap) (hA s0)) args s 0 0 (hA s0)) (F0 m 18 ls [])) ?_ n q0 h0
  intro q o hf kc kx1 H locs ls hM hS hl
  obtain ⟨v1_18, g_18⟩ := q
  replace hf : m_still_L18 v1_18 g_18 = some o := hf
  have kx : ∀ x' : hSt, o = .inr x' → ∀ (H : Heap) (locs : List Loc) (ls : Array Slot), hW D vwCl ad (Sum.elim so (mSH C)) (Sum.elim t x') lt H → va_S (hA s0) s.heap H locs → lv_has ls 3 [(0, .ref (ad (.inr 0)))] → W p l e rm_m_still s m args below meth c H locs 0 0 (MQ below (va_Qi (fun (r : Int32) (_ : Unit) => r = oM.1) (fun (_ : Unit) (U : State) => hW D vwCl ad (Sum.elim so (mSH C)) (Sum.elim t oM.2) lt U.heap) (hA s0)) args s 0 0 (hA s0)) (F0 m 42 ls []) := fun x' ex => by rw [kx1 _ ex]; exact kx0
  unfold m_still_L18 at hf
  refine lv_iload_n hx hb dX5_still_18 rfl (lv_at hl 1 rfl) ?_
  refine lv_bipush (v := 12) hx hb dX5_still_19 (by decide) ?_
  refine hb_icmp_ge (tgt := 42) hx hb dX5_still_21 (by decide) hf (fun hf => ?_) (fun hf => ?_)
  · exact kx g_18 (Option.some.inj hf).symm H locs ls hM hS (lv_sub hl [0] rfl)
  · refine lv_aload_n hx hb dX5_still_24 rfl (lv_at hl 0 rfl) ?_
    refine hr_get (ci := 5) (C := RX5) (T := TX5) (N := 55) (r := .inr 0) hx hb hts in_X5 hown hK hM mS_0 rfl 47 (by decide) (hts _ q1415) rfl (v := .ref (ad (.inr 48))) rfl dX5_still_25 ?_
    refine lv_iload_n hx hb dX5_still_28 rfl (lv_at hl 1 rfl) ?_
    refine lv_aload_n hx hb dX5_still_29 rfl (lv_at hl 0 rfl) ?_
    refine hr_get (ci := 5) (C := RX5) (T := TX5) (N := 55) (r := .inr 0) hx hb hts in_X5 hown hK hM mS_0 rfl 9 (by decide) (hts _ q1377) rfl (v := .ref (ad (.inr 10))) rfl dX5_still_30 ?_
    refine lv_iload_n hx hb dX5_still_33 rfl (lv_at hl 1 rfl) ?_
    refine hm_iald (r := 10) hx hb hK hM 0 mS_10 rfl hf dX5_still_34 (fun x3 hf => ?_)
    refine hm_iast (r := 48) hx hb hK hM hIx hS 0 mS_48 rfl hf dX5_still_35 (fun g4 H locs hf hM hS => ?_)
    obtain ⟨y1_5, ey, hf⟩ := hlet_ex hf
    refine lv_iinc (v := y1_5) (lv' := [(1, .int y1_5), (0, .ref (ad (.inr 0)))]) hx hb dX5_still_36 hl (k := 1) rfl (by rw [ey]; rfl) (by decide) rfl (fun ls hl => ?_)
    refine lv_goto (tgt := 18) hx hb dX5_still_39 (by decide) ?_
    exact kc (y1_5, g4) (Option.some.inj hf).symm H locs ls hM hS (lv_sub hl [1, 0] rfl)
set_option maxHeartbeats 4000000 in
set_option maxRecDepth 100000 in
theorem w_m_still_L49 {p : Program} {l : Launch} {e : Env} {s : State} {m : MethodId} {args : Array Value} {below : List Frame} {meth : Method} {c : Code} {D : va_G} {C : Nat → Nat} {a0 : Array Value} {s0 : State} {ad : Rl → Nat} {so : Nat → Option hS} {t : hSt} {lt : Rl → Nat → Int64} (CX : hCx D C a0 s0 p s m args meth c cX5_still 3 RX5 (some .int)) (hIx : hI (hA s0) ad (Sum.elim so (mSH C))) (g : hSt) (g1 : hSt) (y2 : hSt) (x6 : hSt) (y7 : Int32 × hSt) {oM : Int32 × hSt} (x : hSt) (n : Nat) (q0 : Int32 × hSt) (h0 : hiter (fun q : Int32 × hSt => m_still_L49 q.1 q.2) n q0 = some x) (kx0 : ∀ (H : Heap) (locs : List Loc) (ls : Array Slot), hW D vwCl ad (Sum.elim so (mSH C)) (Sum.elim t x) lt H → va_S (hA s0) s.heap H locs → lv_has ls 3 [(1, .int y7.1)] → W p l e rm_m_still s m args below meth c H locs 0 0 (MQ below (va_Qi (fun (r : Int32) (_ : Unit) => r = oM.1) (fun (_ : Unit) (U : State) => hW D vwCl ad (Sum.elim so (mSH C)) (Sum.elim t oM.2) lt U.heap) (hA s0)) args s 0 0 (hA s0)) (F0 m 73 ls [])) : ∀ (H : Heap) (locs : List Loc) (ls : Array Slot), hW D vwCl ad (Sum.elim so (mSH C)) (Sum.elim t q0.2) lt H → va_S (hA s0) s.heap H locs → lv_has ls 3 [(0, .ref (ad (.inr 0))), (1, .int y7.1), (2, .int q0.1)] → W p l e rm_m_still s m args below meth c H locs 0 0 (MQ below (va_Qi (fun (r : Int32) (_ : Unit) => r = oM.1) (fun (_ : Unit) (U : State) => hW D vwCl ad (Sum.elim so (mSH C)) (Sum.elim t oM.2) lt U.heap) (hA s0)) args s 0 0 (hA s0)) (F0 m 49 ls []) := by
  obtain ⟨hx, hb, hr, hml, hown, hts, hlocks, hK, hZ0, hA0⟩ := CX
  refine hiter_W (Wh := fun q => ∀ (H : Heap) (locs : List Loc) (ls : Array Slot), hW D vwCl ad (Sum.elim so (mSH C)) (Sum.elim t q.2) lt H → va_S (hA s0) s.heap H locs → lv_has ls 3 [(0, .ref (ad (.inr 0))), (1, .int y7.1), (2, .int q.1)] → W p l e rm_m_still s m args below meth c H locs 0 0 (MQ below (va_Qi (fun (r : Int32) (_ : Unit) => r = oM.1) (fun (_ : Unit) (U : State) => hW D vwCl ad (Sum.elim so (mSH C)) (Sum.elim t oM.2) lt U.heap) (hA s0)) args s 0 0 (hA s0)) (F0 m 49 ls [])) ?_ n q0 h0
  intro q o hf kc kx1 H locs ls hM hS hl
  obtain ⟨v2_49, g_49⟩ := q
  replace hf : m_still_L49 v2_49 g_49 = some o := hf
  have kx : ∀ x' : hSt, o = .inr x' → ∀ (H : Heap) (locs : List Loc) (ls : Array Slot), hW D vwCl ad (Sum.elim so (mSH C)) (Sum.elim t x') lt H → va_S (hA s0) s.heap H locs → lv_has ls 3 [(1, .int y7.1)] → W p l e rm_m_still s m args below meth c H locs 0 0 (MQ below (va_Qi (fun (r : Int32) (_ : Unit) => r = oM.1) (fun (_ : Unit) (U : State) => hW D vwCl ad (Sum.elim so (mSH C)) (Sum.elim t oM.2) lt U.heap) (hA s0)) args s 0 0 (hA s0)) (F0 m 73 ls []) := fun x' ex => by rw [kx1 _ ex]; exact kx0
  unfold m_still_L49 at hf
  refine lv_iload_n hx hb dX5_still_49 rfl (lv_at hl 2 rfl) ?_
  refine lv_bipush (v := 12) hx hb dX5_still_50 (by decide) ?_
  refine hb_icmp_ge (tgt := 73) hx hb dX5_still_52 (by decide) hf (fun hf => ?_) (fun hf => ?_)
  · exact kx g_49 (Option.some.inj hf).symm H locs ls hM hS (lv_sub hl [1] rfl)
  · refine lv_aload_n hx hb dX5_still_55 rfl (lv_at hl 0 rfl) ?_
    refine hr_get (ci := 5) (C := RX5) (T := TX5) (N := 55) (r := .inr 0) hx hb hts in_X5 hown hK hM mS_0 rfl 9 (by decide) (hts _ q1377) rfl (v := .ref (ad (.inr 10))) rfl dX5_still_56 ?_
    refine lv_iload_n hx hb dX5_still_59 rfl (lv_at hl 2 rfl) ?_
    refine lv_aload_n hx hb dX5_still_60 rfl (lv_at hl 0 rfl) ?_
    refine hr_get (ci := 5) (C := RX5) (T := TX5) (N := 55) (r := .inr 0) hx hb hts in_X5 hown hK hM mS_0 rfl 47 (by decide) (hts _ q1415) rfl (v := .ref (ad (.inr 48))) rfl dX5_still_61 ?_
    refine lv_iload_n hx hb dX5_still_64 rfl (lv_at hl 2 rfl) ?_
    refine hm_iald (r := 48) hx hb hK hM 0 mS_48 rfl hf dX5_still_65 (fun x8 hf => ?_)
    refine hm_iast (r := 10) hx hb hK hM hIx hS 0 mS_10 rfl hf dX5_still_66 (fun g9 H locs hf hM hS => ?_)
    obtain ⟨y2_10, ey, hf⟩ := hlet_ex hf
    refine lv_iinc (v := y2_10) (lv' := [(2, .int y2_10), (0, .ref (ad (.inr 0))), (1, .int y7.1)]) hx hb dX5_still_67 hl (k := 2) rfl (by rw [ey]; rfl) (by decide) rfl (fun ls hl => ?_)
    refine lv_goto (tgt := 49) hx hb dX5_still_70 (by decide) ?_
    exact kc (y2_10, g9) (Option.some.inj hf).symm H locs ls hM hS (lv_sub hl [1, 2, 0] rfl)
set_option maxHeartbeats 4000000 in
set_option maxRecDepth 100000 in
theorem w_m_still {p : Program} {l : Launch} {e : Env} {s : State} {m : MethodId} {args : Array Value} {below : List Frame} {meth : Method} {c : Code} {D : va_G} {C : Nat → Nat} {a0 : Array Value} {s0 : State} {ad : Rl → Nat} {so : Nat → Option hS} {t : hSt} {lt : Rl → Nat → Int64} (CX : hCx D C a0 s0 p s m args meth c cX5_still 3 RX5 (some .int)) (hIx : hI (hA s0) ad (Sum.elim so (mSH C))) (g : hSt) {o : Int32 × hSt} (hf : m_still g = some o) {H : Heap} {locs : List Loc} (hM : hW D vwCl ad (Sum.elim so (mSH C)) (Sum.elim t g) lt H) (hS : va_S (hA s0) s.heap H locs) {ls : Array Slot} (hl : lv_has ls 3 [(0, .ref (ad (.inr 0)))]) : W p l e rm_m_still s m args below meth c H locs 0 0 (MQ below (va_Qi (fun (r : Int32) (_ : Unit) => r = o.1) (fun (_ : Unit) (U : State) => hW D vwCl ad (Sum.elim so (mSH C)) (Sum.elim t o.2) lt U.heap) (hA s0)) args s 0 0 (hA s0)) (F0 m 0 ls []) := by
  obtain ⟨hx, hb, hr, hml, hown, hts, hlocks, hK, hZ0, hA0⟩ := CX
  unfold m_still at hf
  refine lv_aload_n hx hb dX5_still_0 rfl (lv_at hl 0 rfl) ?_
  refine lv_iconst (v := 0) hx hb dX5_still_1 (by decide) ?_
  refine hm_put (r := 0) (ci := 5) (C := RX5) (T := TX5) (N := 55) hx hb hts in_X5 tyX5 tyX5_ok nmX5 hown hK hM hIx hS mS_0 rfl 1 (by decide) (hts _ q1369) rfl rfl rfl hf dX5_still_2 (fun g1 H locs hf hM hS => ?_)
  refine lv_aload_n hx hb dX5_still_5 rfl (lv_at hl 0 rfl) ?_
  refine hr_get (ci := 5) (C := RX5) (T := TX5) (N := 55) (r := .inr 0) hx hb hts in_X5 hown hK hM mS_0 rfl 7 (by decide) (hts _ q1375) rfl (v := .ref (ad (.inr 8))) rfl dX5_still_6 ?_
  refine lv_aload_n hx hb dX5_still_9 rfl (lv_at hl 0 rfl) ?_
  refine hr_get (ci := 5) (C := RX5) (T := TX5) (N := 55) (r := .inr 0) hx hb hts in_X5 hown hK hM mS_0 rfl 42 (by decide) (hts _ q1410) rfl (v := .ref (ad (.inr 43))) rfl dX5_still_10 ?_
  obtain ⟨y2, hq, hf⟩ := hbind hf
  refine hr_callv0 (va_runS (As := [.ref (ad (.inr 8)), .ref (ad (.inr 43))]) (rest := []) ⟨hx, hb, hml, hown, hts⟩ (met_m_copy l D C a0 s0 ad so t lt g1 8 43 ms_8 ms_43 hq) (va_cwS 2 hts (lw_S q1637 q1638 q99 q1639) rfl rfl rfl (by decide +kernel) ⟨Nat.le_of_ble_eq_true rfl, Nat.le_of_ble_eq_true rfl⟩) (hr_preS hZ_c hM hIx hK hZ0 hA0 hS) rfl rfl hl.1 rfl (lv_room (Nat.le_of_ble_eq_true rfl)) dX5_still_13 ⟨Nat.le_of_ble_eq_true rfl, Nat.le_of_ble_eq_true rfl⟩) hS (fun H locs hM hS => ?_)
  refine lv_iconst (v := 0) hx hb dX5_still_16 (by decide) ?_
  refine lv_istore_n (lv' := [(1, .int (0 : Int32)), (0, .ref (ad (.inr 0)))]) hx hb dX5_still_17 rfl hl (by decide) rfl (fun ls hl => ?_)
  obtain ⟨x6, hq, hf⟩ := hbind hf
  refine w_m_still_L18 ⟨hx, hb, hr, hml, hown, hts, hlocks, hK, hZ0, hA0⟩ hIx g g1 y2 x6 hFU ((0 : Int32), y2) hq (fun H locs ls hM hS hl => ?_) H locs ls hM hS (lv_sub hl [1, 0] rfl)
  refine lv_aload_n hx hb dX5_still_42 rfl (lv_at hl 0 rfl) ?_
  obtain ⟨y7, hq, hf⟩ := hbind hf
  refine hr_calli0 (va_runV (As := []) (rest := []) ⟨hx, hb, hml, hown, hts⟩ (met_m_stillFrom l D C a0 s0 ad so t lt x6 hq) (cwV 0 hts (lw_V q1839 q1841 qs73 q99 q1842) rfl rfl rfl (by decide +kernel) ⟨Nat.le_of_ble_eq_true rfl, Nat.le_of_ble_eq_true rfl⟩) (hr_preV hZ_c hM hIx hK hZ0 hA0 hS (r := .inr 0) mS_0 (q := (RX5, TX5, 55)) rfl) rfl rfl hl.1 rfl (lv_room (Nat.le_of_ble_eq_true rfl)) dX5_still_43 ⟨Nat.le_of_ble_eq_true rfl, Nat.le_of_ble_eq_true rfl⟩) hS (fun H locs hM hS => ?_)
  refine lv_istore_n (lv' := [(1, .int y7.1), (0, .ref (ad (.inr 0)))]) hx hb dX5_still_46 rfl hl (by decide) rfl (fun ls hl => ?_)
  refine lv_iconst (v := 0) hx hb dX5_still_47 (by decide) ?_
  refine lv_istore_n (lv' := [(2, .int (0 : Int32)), (1, .int y7.1), (0, .ref (ad (.inr 0)))]) hx hb dX5_still_48 rfl hl (by decide) rfl (fun ls hl => ?_)
  obtain ⟨x11, hq, hf⟩ := hbind hf
  refine w_m_still_L49 ⟨hx, hb, hr, hml, hown, hts, hlocks, hK, hZ0, hA0⟩ hIx g g1 y2 x6 y7 x11 hFU ((0 : Int32), y7.2) hq (fun H locs ls hM hS hl => ?_) H locs ls hM hS (lv_sub hl [2, 1, 0] rfl)
  refine lv_iload_n hx hb dX5_still_73 rfl (lv_at hl 0 rfl) ?_
  have eo := Option.some.inj hf
  subst eo
  exact W.iret (v := y7.1) hx hb hr (fun T ht hW => ⟨⟨y7.1, (), rfl, rfl, by dsimp only; rw [ht]; exact hM⟩, hS.F ht⟩) hS.2.2 dX5_still_74
set_option maxHeartbeats 4000000 in
set_option maxRecDepth 100000 in
theorem met_m_still (l : Launch) (D : va_G) (C : Nat → Nat) (a0 : Array Value) (s0 : State) (ad : Rl → Nat) (so : Nat → Option hS) (t : hSt) (lt : Rl → Nat → Int64) (g : hSt) {o : Int32 × hSt} (hf : m_still g = some o) : Met l yX5_still (ws_ yX5_still cX5_still 3 (some .int)) rm_m_still (va_Pc [.ref (ad (.inr 0))] (hB D vwCl (hT C) (hA s0) (hZ a0 s0) ad (Sum.elim so (mSH C)) (Sum.elim t g) lt)) (va_Qi (fun (r : Int32) (_ : Unit) => r = o.1) (fun (_ : Unit) (U : State) => hW D vwCl ad (Sum.elim so (mSH C)) (Sum.elim t o.2) lt U.heap) (hA s0)) 0 0 (hA s0) := by
  refine Met.ofW (cc := cX5_still) (maxL := 3) (ret := (some .int)) (by decide) rfl ?_
  intro p e s m args below meth c s₁ B hml hv
  obtain ⟨rfl, hM, hIx, hK, hZ0, hA0⟩ := hv
  have hl := lv_entry ([.ref (ad (.inr 0))]) (n := 3) (Nat.le_of_ble_eq_true rfl)
  rw [lg_entry_eq]
  generalize (lg_sl ([.ref (ad (.inr 0))]) ++ List.replicate (3 - (lg_sl ([.ref (ad (.inr 0))])).length) Slot.unset).toArray = ls at hl ⊢
  have hl : lv_has ls 3 [(0, .ref (ad (.inr 0)))] := hl
  exact w_m_still ⟨B.exec, B.bytes, B.returns, hml, findClass_of_methodNamed B.named, fun w h => atoms_spec (ws := ws_ yX5_still cX5_still 3 (some .int)) B.pre w (List.mem_cons_of_mem _ h), B.notSynchronized, hK, hZ0, hA0⟩ hIx g hf hM va_S.rf hl

def rm_m_image : Room := { frames := 3, cells := 0, slots := 0, locals := 39 }
set_option maxHeartbeats 4000000 in
set_option maxRecDepth 100000 in
theorem w_m_image_L39 {p : Program} {l : Launch} {e : Env} {s : State} {m : MethodId} {args : Array Value} {below : List Frame} {meth : Method} {c : Code} {D : va_G} {C : Nat → Nat} {a0 : Array Value} {s0 : State} {ad : Rl → Nat} {so : Nat → Option hS} {t : hSt} {lt : Rl → Nat → Int64} (CX : hCx D C a0 s0 p s m args meth c cX5_image 2 RX5 (none)) (hIx : hI (hA s0) ad (Sum.elim so (mSH C))) (g : hSt) (g1 : hSt) (g2 : hSt) (g3 : hSt) (g4 : hSt) (y5 : hSt) {oM : hSt} (x : hSt) (n : Nat) (q0 : Int32 × hSt) (h0 : hiter (fun q : Int32 × hSt => m_image_L39 q.1 q.2) n q0 = some x) (kx0 : ∀ (H : Heap) (locs : List Loc) (ls : Array Slot), hW D vwCl ad (Sum.elim so (mSH C)) (Sum.elim t x) lt H → va_S (hA s0) s.heap H locs → lv_has ls 2 [(0, .ref (ad (.inr 0)))] → W p l e rm_m_image s m args below meth c H locs 0 0 (MQ below (va_Qv (fun (_ : Unit) => True) (fun (_ : Unit) (U : State) => hW D vwCl ad (Sum.elim so (mSH C)) (Sum.elim t oM) lt U.heap) (hA s0)) args s 0 0 (hA s0)) (F0 m 63 ls [])) : ∀ (H : Heap) (locs : List Loc) (ls : Array Slot), hW D vwCl ad (Sum.elim so (mSH C)) (Sum.elim t q0.2) lt H → va_S (hA s0) s.heap H locs → lv_has ls 2 [(0, .ref (ad (.inr 0))), (1, .int q0.1)] → W p l e rm_m_image s m args below meth c H locs 0 0 (MQ below (va_Qv (fun (_ : Unit) => True) (fun (_ : Unit) (U : State) => hW D vwCl ad (Sum.elim so (mSH C)) (Sum.elim t oM) lt U.heap) (hA s0)) args s 0 0 (hA s0)) (F0 m 39 ls []) := by
  obtain ⟨hx, hb, hr, hml, hown, hts, hlocks, hK, hZ0, hA0⟩ := CX
  refine hiter_W (Wh := fun q => ∀ (H : Heap) (locs : List Loc) (ls : Array Slot), hW D vwCl ad (Sum.elim so (mSH C)) (Sum.elim t q.2) lt H → va_S (hA s0) s.heap H locs → lv_has ls 2 [(0, .ref (ad (.inr 0))), (1, .int q.1)] → W p l e rm_m_image s m args below meth c H locs 0 0 (MQ below (va_Qv (fun (_ : Unit) => True) (fun (_ : Unit) (U : State) => hW D vwCl ad (Sum.elim so (mSH C)) (Sum.elim t oM) lt U.heap) (hA s0)) args s 0 0 (hA s0)) (F0 m 39 ls [])) ?_ n q0 h0
  intro q o hf kc kx1 H locs ls hM hS hl
  obtain ⟨v1_39, g_39⟩ := q
  replace hf : m_image_L39 v1_39 g_39 = some o := hf
  have kx : ∀ x' : hSt, o = .inr x' → ∀ (H : Heap) (locs : List Loc) (ls : Array Slot), hW D vwCl ad (Sum.elim so (mSH C)) (Sum.elim t x') lt H → va_S (hA s0) s.heap H locs → lv_has ls 2 [(0, .ref (ad (.inr 0)))] → W p l e rm_m_image s m args below meth c H locs 0 0 (MQ below (va_Qv (fun (_ : Unit) => True) (fun (_ : Unit) (U : State) => hW D vwCl ad (Sum.elim so (mSH C)) (Sum.elim t oM) lt U.heap) (hA s0)) args s 0 0 (hA s0)) (F0 m 63 ls []) := fun x' ex => by rw [kx1 _ ex]; exact kx0
  unfold m_image_L39 at hf
  refine lv_iload_n hx hb dX5_image_39 rfl (lv_at hl 1 rfl) ?_
  refine lv_bipush (v := 12) hx hb dX5_image_40 (by decide) ?_
  refine hb_icmp_ge (tgt := 63) hx hb dX5_image_42 (by decide) hf (fun hf => ?_) (fun hf => ?_)
  · exact kx g_39 (Option.some.inj hf).symm H locs ls hM hS (lv_sub hl [0] rfl)
  · refine lv_aload_n hx hb dX5_image_45 rfl (lv_at hl 0 rfl) ?_
    refine hr_get (ci := 5) (C := RX5) (T := TX5) (N := 55) (r := .inr 0) hx hb hts in_X5 hown hK hM mS_0 rfl 52 (by decide) (hts _ q1420) rfl (v := .ref (ad (.inr 53))) rfl dX5_image_46 ?_
    refine lv_iload_n hx hb dX5_image_49 rfl (lv_at hl 1 rfl) ?_
    refine lv_aload_n hx hb dX5_image_50 rfl (lv_at hl 0 rfl) ?_
    refine hr_get (ci := 5) (C := RX5) (T := TX5) (N := 55) (r := .inr 0) hx hb hts in_X5 hown hK hM mS_0 rfl 9 (by decide) (hts _ q1377) rfl (v := .ref (ad (.inr 10))) rfl dX5_image_51 ?_
    refine lv_iload_n hx hb dX5_image_54 rfl (lv_at hl 1 rfl) ?_
    refine hm_iald (r := 10) hx hb hK hM 0 mS_10 rfl hf dX5_image_55 (fun x6 hf => ?_)
    refine hm_iast (r := 53) hx hb hK hM hIx hS 0 mS_53 rfl hf dX5_image_56 (fun g7 H locs hf hM hS => ?_)
    obtain ⟨y1_8, ey, hf⟩ := hlet_ex hf
    refine lv_iinc (v := y1_8) (lv' := [(1, .int y1_8), (0, .ref (ad (.inr 0)))]) hx hb dX5_image_57 hl (k := 1) rfl (by rw [ey]; rfl) (by decide) rfl (fun ls hl => ?_)
    refine lv_goto (tgt := 39) hx hb dX5_image_60 (by decide) ?_
    exact kc (y1_8, g7) (Option.some.inj hf).symm H locs ls hM hS (lv_sub hl [1, 0] rfl)
set_option maxHeartbeats 4000000 in
set_option maxRecDepth 100000 in
theorem w_m_image_L65 {p : Program} {l : Launch} {e : Env} {s : State} {m : MethodId} {args : Array Value} {below : List Frame} {meth : Method} {c : Code} {D : va_G} {C : Nat → Nat} {a0 : Array Value} {s0 : State} {ad : Rl → Nat} {so : Nat → Option hS} {t : hSt} {lt : Rl → Nat → Int64} (CX : hCx D C a0 s0 p s m args meth c cX5_image 2 RX5 (none)) (hIx : hI (hA s0) ad (Sum.elim so (mSH C))) (g : hSt) (g1 : hSt) (g2 : hSt) (g3 : hSt) (g4 : hSt) (y5 : hSt) (x9 : hSt) {oM : hSt} (x : hSt) (n : Nat) (q0 : Int32 × hSt) (h0 : hiter (fun q : Int32 × hSt => m_image_L65 q.1 q.2) n q0 = some x) (kx0 : ∀ (H : Heap) (locs : List Loc) (ls : Array Slot), hW D vwCl ad (Sum.elim so (mSH C)) (Sum.elim t x) lt H → va_S (hA s0) s.heap H locs → lv_has ls 2 [(0, .ref (ad (.inr 0)))] → W p l e rm_m_image s m args below meth c H locs 0 0 (MQ below (va_Qv (fun (_ : Unit) => True) (fun (_ : Unit) (U : State) => hW D vwCl ad (Sum.elim so (mSH C)) (Sum.elim t oM) lt U.heap) (hA s0)) args s 0 0 (hA s0)) (F0 m 94 ls [])) : ∀ (H : Heap) (locs : List Loc) (ls : Array Slot), hW D vwCl ad (Sum.elim so (mSH C)) (Sum.elim t q0.2) lt H → va_S (hA s0) s.heap H locs → lv_has ls 2 [(0, .ref (ad (.inr 0))), (1, .int q0.1)] → W p l e rm_m_image s m args below meth c H locs 0 0 (MQ below (va_Qv (fun (_ : Unit) => True) (fun (_ : Unit) (U : State) => hW D vwCl ad (Sum.elim so (mSH C)) (Sum.elim t oM) lt U.heap) (hA s0)) args s 0 0 (hA s0)) (F0 m 65 ls []) := by
  obtain ⟨hx, hb, hr, hml, hown, hts, hlocks, hK, hZ0, hA0⟩ := CX
  refine hiter_W (Wh := fun q => ∀ (H : Heap) (locs : List Loc) (ls : Array Slot), hW D vwCl ad (Sum.elim so (mSH C)) (Sum.elim t q.2) lt H → va_S (hA s0) s.heap H locs → lv_has ls 2 [(0, .ref (ad (.inr 0))), (1, .int q.1)] → W p l e rm_m_image s m args below meth c H locs 0 0 (MQ below (va_Qv (fun (_ : Unit) => True) (fun (_ : Unit) (U : State) => hW D vwCl ad (Sum.elim so (mSH C)) (Sum.elim t oM) lt U.heap) (hA s0)) args s 0 0 (hA s0)) (F0 m 65 ls [])) ?_ n q0 h0
  intro q o hf kc kx1 H locs ls hM hS hl
  obtain ⟨v1_65, g_65⟩ := q
  replace hf : m_image_L65 v1_65 g_65 = some o := hf
  have kx : ∀ x' : hSt, o = .inr x' → ∀ (H : Heap) (locs : List Loc) (ls : Array Slot), hW D vwCl ad (Sum.elim so (mSH C)) (Sum.elim t x') lt H → va_S (hA s0) s.heap H locs → lv_has ls 2 [(0, .ref (ad (.inr 0)))] → W p l e rm_m_image s m args below meth c H locs 0 0 (MQ below (va_Qv (fun (_ : Unit) => True) (fun (_ : Unit) (U : State) => hW D vwCl ad (Sum.elim so (mSH C)) (Sum.elim t oM) lt U.heap) (hA s0)) args s 0 0 (hA s0)) (F0 m 94 ls []) := fun x' ex => by rw [kx1 _ ex]; exact kx0
  unfold m_image_L65 at hf
  refine lv_iload_n hx hb dX5_image_65 rfl (lv_at hl 1 rfl) ?_
  refine lv_bipush (v := 9) hx hb dX5_image_66 (by decide) ?_
  refine lv_aload_n hx hb dX5_image_68 rfl (lv_at hl 0 rfl) ?_
  refine hr_get (ci := 5) (C := RX5) (T := TX5) (N := 55) (r := .inr 0) hx hb hts in_X5 hown hK hM mS_0 rfl 24 (by decide) (hts _ q1392) rfl (v := .int (g_65 0 24)) rfl dX5_image_69 ?_
  refine lv_imul hx hb dX5_image_72 ?_
  refine hb_icmp_ge (tgt := 94) hx hb dX5_image_73 (by decide) hf (fun hf => ?_) (fun hf => ?_)
  · exact kx g_65 (Option.some.inj hf).symm H locs ls hM hS (lv_sub hl [0] rfl)
  · refine lv_aload_n hx hb dX5_image_76 rfl (lv_at hl 0 rfl) ?_
    refine hr_get (ci := 5) (C := RX5) (T := TX5) (N := 55) (r := .inr 0) hx hb hts in_X5 hown hK hM mS_0 rfl 53 (by decide) (hts _ q1421) rfl (v := .ref (ad (.inr 54))) rfl dX5_image_77 ?_
    refine lv_iload_n hx hb dX5_image_80 rfl (lv_at hl 1 rfl) ?_
    refine lv_aload_n hx hb dX5_image_81 rfl (lv_at hl 0 rfl) ?_
    refine hr_get (ci := 5) (C := RX5) (T := TX5) (N := 55) (r := .inr 0) hx hb hts in_X5 hown hK hM mS_0 rfl 25 (by decide) (hts _ q1393) rfl (v := .ref (ad (.inr 26))) rfl dX5_image_82 ?_
    refine lv_iload_n hx hb dX5_image_85 rfl (lv_at hl 1 rfl) ?_
    refine hm_iald (r := 26) hx hb hK hM 0 mS_26 rfl hf dX5_image_86 (fun x10 hf => ?_)
    refine hm_iast (r := 54) hx hb hK hM hIx hS 0 mS_54 rfl hf dX5_image_87 (fun g11 H locs hf hM hS => ?_)
    obtain ⟨y1_12, ey, hf⟩ := hlet_ex hf
    refine lv_iinc (v := y1_12) (lv' := [(1, .int y1_12), (0, .ref (ad (.inr 0)))]) hx hb dX5_image_88 hl (k := 1) rfl (by rw [ey]; rfl) (by decide) rfl (fun ls hl => ?_)
    refine lv_goto (tgt := 65) hx hb dX5_image_91 (by decide) ?_
    exact kc (y1_12, g11) (Option.some.inj hf).symm H locs ls hM hS (lv_sub hl [1, 0] rfl)
set_option maxHeartbeats 4000000 in
set_option maxRecDepth 100000 in
theorem w_m_image {p : Program} {l : Launch} {e : Env} {s : State} {m : MethodId} {args : Array Value} {below : List Frame} {meth : Method} {c : Code} {D : va_G} {C : Nat → Nat} {a0 : Array Value} {s0 : State} {ad : Rl → Nat} {so : Nat → Option hS} {t : hSt} {lt : Rl → Nat → Int64} (CX : hCx D C a0 s0 p s m args meth c cX5_image 2 RX5 (none)) (hIx : hI (hA s0) ad (Sum.elim so (mSH C))) (g : hSt) {o : hSt} (hf : m_image g = some o) {H : Heap} {locs : List Loc} (hM : hW D vwCl ad (Sum.elim so (mSH C)) (Sum.elim t g) lt H) (hS : va_S (hA s0) s.heap H locs) {ls : Array Slot} (hl : lv_has ls 2 [(0, .ref (ad (.inr 0)))]) : W p l e rm_m_image s m args below meth c H locs 0 0 (MQ below (va_Qv (fun (_ : Unit) => True) (fun (_ : Unit) (U : State) => hW D vwCl ad (Sum.elim so (mSH C)) (Sum.elim t o) lt U.heap) (hA s0)) args s 0 0 (hA s0)) (F0 m 0 ls []) := by
  obtain ⟨hx, hb, hr, hml, hown, hts, hlocks, hK, hZ0, hA0⟩ := CX
  unfold m_image at hf
  refine lv_aload_n hx hb dX5_image_0 rfl (lv_at hl 0 rfl) ?_
  refine lv_iconst (v := 0) hx hb dX5_image_1 (by decide) ?_
  refine hm_put (r := 0) (ci := 5) (C := RX5) (T := TX5) (N := 55) hx hb hts in_X5 tyX5 tyX5_ok nmX5 hown hK hM hIx hS mS_0 rfl 1 (by decide) (hts _ q1369) rfl rfl rfl hf dX5_image_2 (fun g1 H locs hf hM hS => ?_)
  refine lv_aload_n hx hb dX5_image_5 rfl (lv_at hl 0 rfl) ?_
  refine lv_iconst (v := 1) hx hb dX5_image_6 (by decide) ?_
  refine hm_putz (r := 0) (ci := 5) (C := RX5) (T := TX5) (N := 55) hx hb hts in_X5 tyX5 tyX5_ok nmX5 hown hK hM hIx hS mS_0 rfl 48 (by decide) (hts _ q1416) rfl rfl rfl hf dX5_image_7 (fun g2 H locs hf hM hS => ?_)
  refine lv_aload_n hx hb dX5_image_10 rfl (lv_at hl 0 rfl) ?_
  refine lv_aload_n hx hb dX5_image_11 rfl (lv_at hl 0 rfl) ?_
  refine hr_get (ci := 5) (C := RX5) (T := TX5) (N := 55) (r := .inr 0) hx hb hts in_X5 hown hK hM mS_0 rfl 24 (by decide) (hts _ q1392) rfl (v := .int (g2 0 24)) rfl dX5_image_12 ?_
  refine hm_put (r := 0) (ci := 5) (C := RX5) (T := TX5) (N := 55) hx hb hts in_X5 tyX5 tyX5_ok nmX5 hown hK hM hIx hS mS_0 rfl 49 (by decide) (hts _ q1417) rfl rfl rfl hf dX5_image_15 (fun g3 H locs hf hM hS => ?_)
  refine lv_aload_n hx hb dX5_image_18 rfl (lv_at hl 0 rfl) ?_
  refine lv_aload_n hx hb dX5_image_19 rfl (lv_at hl 0 rfl) ?_
  refine hr_get (ci := 5) (C := RX5) (T := TX5) (N := 55) (r := .inr 0) hx hb hts in_X5 hown hK hM mS_0 rfl 12 (by decide) (hts _ q1380) rfl (v := .int (g3 0 12)) rfl dX5_image_20 ?_
  refine hm_put (r := 0) (ci := 5) (C := RX5) (T := TX5) (N := 55) hx hb hts in_X5 tyX5 tyX5_ok nmX5 hown hK hM hIx hS mS_0 rfl 50 (by decide) (hts _ q1418) rfl rfl rfl hf dX5_image_23 (fun g4 H locs hf hM hS => ?_)
  refine lv_aload_n hx hb dX5_image_26 rfl (lv_at hl 0 rfl) ?_
  refine hr_get (ci := 5) (C := RX5) (T := TX5) (N := 55) (r := .inr 0) hx hb hts in_X5 hown hK hM mS_0 rfl 7 (by decide) (hts _ q1375) rfl (v := .ref (ad (.inr 8))) rfl dX5_image_27 ?_
  refine lv_aload_n hx hb dX5_image_30 rfl (lv_at hl 0 rfl) ?_
  refine hr_get (ci := 5) (C := RX5) (T := TX5) (N := 55) (r := .inr 0) hx hb hts in_X5 hown hK hM mS_0 rfl 51 (by decide) (hts _ q1419) rfl (v := .ref (ad (.inr 52))) rfl dX5_image_31 ?_
  obtain ⟨y5, hq, hf⟩ := hbind hf
  refine hr_callv0 (va_runS (As := [.ref (ad (.inr 8)), .ref (ad (.inr 52))]) (rest := []) ⟨hx, hb, hml, hown, hts⟩ (met_m_copy l D C a0 s0 ad so t lt g4 8 52 ms_8 ms_52 hq) (va_cwS 2 hts (lw_S q1637 q1638 q99 q1639) rfl rfl rfl (by decide +kernel) ⟨Nat.le_of_ble_eq_true rfl, Nat.le_of_ble_eq_true rfl⟩) (hr_preS hZ_c hM hIx hK hZ0 hA0 hS) rfl rfl hl.1 rfl (lv_room (Nat.le_of_ble_eq_true rfl)) dX5_image_34 ⟨Nat.le_of_ble_eq_true rfl, Nat.le_of_ble_eq_true rfl⟩) hS (fun H locs hM hS => ?_)
  refine lv_iconst (v := 0) hx hb dX5_image_37 (by decide) ?_
  refine lv_istore_n (lv' := [(1, .int (0 : Int32)), (0, .ref (ad (.inr 0)))]) hx hb dX5_image_38 rfl hl (by decide) rfl (fun ls hl => ?_)
  obtain ⟨x9, hq, hf⟩ := hbind hf
  refine w_m_image_L39 ⟨hx, hb, hr, hml, hown, hts, hlocks, hK, hZ0, hA0⟩ hIx g g1 g2 g3 g4 y5 x9 hFU ((0 : Int32), y5) hq (fun H locs ls hM hS hl => ?_) H locs ls hM hS (lv_sub hl [1, 0] rfl)
  refine lv_iconst (v := 0) hx hb dX5_image_63 (by decide) ?_
  refine lv_istore_n (lv' := [(1, .int (0 : Int32)), (0, .ref (ad (.inr 0)))]) hx hb dX5_image_64 rfl hl (by decide) rfl (fun ls hl => ?_)
  obtain ⟨x13, hq, hf⟩ := hbind hf
  refine w_m_image_L65 ⟨hx, hb, hr, hml, hown, hts, hlocks, hK, hZ0, hA0⟩ hIx g g1 g2 g3 g4 y5 x9 x13 hFU ((0 : Int32), x9) hq (fun H locs ls hM hS hl => ?_) H locs ls hM hS (lv_sub hl [1, 0] rfl)
  refine lv_aload_n hx hb dX5_image_94 rfl (lv_at hl 0 rfl) ?_
  refine hr_get (ci := 5) (C := RX5) (T := TX5) (N := 55) (r := .inr 0) hx hb hts in_X5 hown hK hM mS_0 rfl 54 (by decide) (hts _ q1422) rfl (v := .ref (ad (.inr 55))) rfl dX5_image_95 ?_
  refine lv_iconst (v := 0) hx hb dX5_image_98 (by decide) ?_
  refine lv_aload_n hx hb dX5_image_99 rfl (lv_at hl 0 rfl) ?_
  refine hr_get (ci := 5) (C := RX5) (T := TX5) (N := 55) (r := .inr 0) hx hb hts in_X5 hown hK hM mS_0 rfl 6 (by decide) (hts _ q1374) rfl (v := .ref (ad (.inr 7))) rfl dX5_image_100 ?_
  refine lv_iconst (v := 0) hx hb dX5_image_103 (by decide) ?_
  refine hm_iald (r := 7) hx hb hK hM 0 mS_7 rfl hf dX5_image_104 (fun x14 hf => ?_)
  refine hm_iast (r := 55) hx hb hK hM hIx hS 0 mS_55 rfl hf dX5_image_105 (fun g15 H locs hf hM hS => ?_)
  refine lv_aload_n hx hb dX5_image_106 rfl (lv_at hl 0 rfl) ?_
  refine hr_get (ci := 5) (C := RX5) (T := TX5) (N := 55) (r := .inr 0) hx hb hts in_X5 hown hK hM mS_0 rfl 54 (by decide) (hts _ q1422) rfl (v := .ref (ad (.inr 55))) rfl dX5_image_107 ?_
  refine lv_iconst (v := 1) hx hb dX5_image_110 (by decide) ?_
  refine lv_aload_n hx hb dX5_image_111 rfl (lv_at hl 0 rfl) ?_
  refine hr_get (ci := 5) (C := RX5) (T := TX5) (N := 55) (r := .inr 0) hx hb hts in_X5 hown hK hM mS_0 rfl 6 (by decide) (hts _ q1374) rfl (v := .ref (ad (.inr 7))) rfl dX5_image_112 ?_
  refine lv_iconst (v := 1) hx hb dX5_image_115 (by decide) ?_
  refine hm_iald (r := 7) hx hb hK hM 0 mS_7 rfl hf dX5_image_116 (fun x16 hf => ?_)
  refine hm_iast (r := 55) hx hb hK hM hIx hS 0 mS_55 rfl hf dX5_image_117 (fun g17 H locs hf hM hS => ?_)
  have eo := Option.some.inj hf
  subst eo
  exact W.vret hx hb hr (fun T ht hW => ⟨⟨(), rfl, trivial, by dsimp only; rw [ht]; exact hM⟩, hS.F ht⟩) hS.2.2 dX5_image_118
set_option maxHeartbeats 4000000 in
set_option maxRecDepth 100000 in
theorem met_m_image (l : Launch) (D : va_G) (C : Nat → Nat) (a0 : Array Value) (s0 : State) (ad : Rl → Nat) (so : Nat → Option hS) (t : hSt) (lt : Rl → Nat → Int64) (g : hSt) {o : hSt} (hf : m_image g = some o) : Met l yX5_image (ws_ yX5_image cX5_image 2 (none)) rm_m_image (va_Pc [.ref (ad (.inr 0))] (hB D vwCl (hT C) (hA s0) (hZ a0 s0) ad (Sum.elim so (mSH C)) (Sum.elim t g) lt)) (va_Qv (fun (_ : Unit) => True) (fun (_ : Unit) (U : State) => hW D vwCl ad (Sum.elim so (mSH C)) (Sum.elim t o) lt U.heap) (hA s0)) 0 0 (hA s0) := by
  refine Met.ofW (cc := cX5_image) (maxL := 2) (ret := (none)) (by decide) rfl ?_
  intro p e s m args below meth c s₁ B hml hv
  obtain ⟨rfl, hM, hIx, hK, hZ0, hA0⟩ := hv
  have hl := lv_entry ([.ref (ad (.inr 0))]) (n := 2) (Nat.le_of_ble_eq_true rfl)
  rw [lg_entry_eq]
  generalize (lg_sl ([.ref (ad (.inr 0))]) ++ List.replicate (2 - (lg_sl ([.ref (ad (.inr 0))])).length) Slot.unset).toArray = ls at hl ⊢
  have hl : lv_has ls 2 [(0, .ref (ad (.inr 0)))] := hl
  exact w_m_image ⟨B.exec, B.bytes, B.returns, hml, findClass_of_methodNamed B.named, fun w h => atoms_spec (ws := ws_ yX5_image cX5_image 2 (none)) B.pre w (List.mem_cons_of_mem _ h), B.notSynchronized, hK, hZ0, hA0⟩ hIx g hf hM va_S.rf hl

def rm_m_restore : Room := { frames := 3, cells := 0, slots := 0, locals := 39 }
set_option maxHeartbeats 4000000 in
set_option maxRecDepth 100000 in
theorem w_m_restore_L43 {p : Program} {l : Launch} {e : Env} {s : State} {m : MethodId} {args : Array Value} {below : List Frame} {meth : Method} {c : Code} {D : va_G} {C : Nat → Nat} {a0 : Array Value} {s0 : State} {ad : Rl → Nat} {so : Nat → Option hS} {t : hSt} {lt : Rl → Nat → Int64} (CX : hCx D C a0 s0 p s m args meth c cX5_restore 2 RX5 (some .boolean)) (hIx : hI (hA s0) ad (Sum.elim so (mSH C))) (g : hSt) (g1 : hSt) (g2 : hSt) (g3 : hSt) (y4 : hSt) {oM : Int32 × hSt} (x : hSt) (n : Nat) (q0 : Int32 × hSt) (h0 : hiter (fun q : Int32 × hSt => m_restore_L43 q.1 q.2) n q0 = some x) (kx0 : ∀ (H : Heap) (locs : List Loc) (ls : Array Slot), hW D vwCl ad (Sum.elim so (mSH C)) (Sum.elim t x) lt H → va_S (hA s0) s.heap H locs → lv_has ls 2 [(0, .ref (ad (.inr 0)))] → W p l e rm_m_restore s m args below meth c H locs 0 0 (MQ below (va_Qi (fun (r : Int32) (_ : Unit) => r = oM.1) (fun (_ : Unit) (U : State) => hW D vwCl ad (Sum.elim so (mSH C)) (Sum.elim t oM.2) lt U.heap) (hA s0)) args s 0 0 (hA s0)) (F0 m 67 ls [])) : ∀ (H : Heap) (locs : List Loc) (ls : Array Slot), hW D vwCl ad (Sum.elim so (mSH C)) (Sum.elim t q0.2) lt H → va_S (hA s0) s.heap H locs → lv_has ls 2 [(0, .ref (ad (.inr 0))), (1, .int q0.1)] → W p l e rm_m_restore s m args below meth c H locs 0 0 (MQ below (va_Qi (fun (r : Int32) (_ : Unit) => r = oM.1) (fun (_ : Unit) (U : State) => hW D vwCl ad (Sum.elim so (mSH C)) (Sum.elim t oM.2) lt U.heap) (hA s0)) args s 0 0 (hA s0)) (F0 m 43 ls []) := by
  obtain ⟨hx, hb, hr, hml, hown, hts, hlocks, hK, hZ0, hA0⟩ := CX
  refine hiter_W (Wh := fun q => ∀ (H : Heap) (locs : List Loc) (ls : Array Slot), hW D vwCl ad (Sum.elim so (mSH C)) (Sum.elim t q.2) lt H → va_S (hA s0) s.heap H locs → lv_has ls 2 [(0, .ref (ad (.inr 0))), (1, .int q.1)] → W p l e rm_m_restore s m args below meth c H locs 0 0 (MQ below (va_Qi (fun (r : Int32) (_ : Unit) => r = oM.1) (fun (_ : Unit) (U : State) => hW D vwCl ad (Sum.elim so (mSH C)) (Sum.elim t oM.2) lt U.heap) (hA s0)) args s 0 0 (hA s0)) (F0 m 43 ls [])) ?_ n q0 h0
  intro q o hf kc kx1 H locs ls hM hS hl
  obtain ⟨v1_43, g_43⟩ := q
  replace hf : m_restore_L43 v1_43 g_43 = some o := hf
  have kx : ∀ x' : hSt, o = .inr x' → ∀ (H : Heap) (locs : List Loc) (ls : Array Slot), hW D vwCl ad (Sum.elim so (mSH C)) (Sum.elim t x') lt H → va_S (hA s0) s.heap H locs → lv_has ls 2 [(0, .ref (ad (.inr 0)))] → W p l e rm_m_restore s m args below meth c H locs 0 0 (MQ below (va_Qi (fun (r : Int32) (_ : Unit) => r = oM.1) (fun (_ : Unit) (U : State) => hW D vwCl ad (Sum.elim so (mSH C)) (Sum.elim t oM.2) lt U.heap) (hA s0)) args s 0 0 (hA s0)) (F0 m 67 ls []) := fun x' ex => by rw [kx1 _ ex]; exact kx0
  unfold m_restore_L43 at hf
  refine lv_iload_n hx hb dX5_restore_43 rfl (lv_at hl 1 rfl) ?_
  refine lv_bipush (v := 12) hx hb dX5_restore_44 (by decide) ?_
  refine hb_icmp_ge (tgt := 67) hx hb dX5_restore_46 (by decide) hf (fun hf => ?_) (fun hf => ?_)
  · exact kx g_43 (Option.some.inj hf).symm H locs ls hM hS (lv_sub hl [0] rfl)
  · refine lv_aload_n hx hb dX5_restore_49 rfl (lv_at hl 0 rfl) ?_
    refine hr_get (ci := 5) (C := RX5) (T := TX5) (N := 55) (r := .inr 0) hx hb hts in_X5 hown hK hM mS_0 rfl 9 (by decide) (hts _ q1377) rfl (v := .ref (ad (.inr 10))) rfl dX5_restore_50 ?_
    refine lv_iload_n hx hb dX5_restore_53 rfl (lv_at hl 1 rfl) ?_
    refine lv_aload_n hx hb dX5_restore_54 rfl (lv_at hl 0 rfl) ?_
    refine hr_get (ci := 5) (C := RX5) (T := TX5) (N := 55) (r := .inr 0) hx hb hts in_X5 hown hK hM mS_0 rfl 52 (by decide) (hts _ q1420) rfl (v := .ref (ad (.inr 53))) rfl dX5_restore_55 ?_
    refine lv_iload_n hx hb dX5_restore_58 rfl (lv_at hl 1 rfl) ?_
    refine hm_iald (r := 53) hx hb hK hM 0 mS_53 rfl hf dX5_restore_59 (fun x5 hf => ?_)
    refine hm_iast (r := 10) hx hb hK hM hIx hS 0 mS_10 rfl hf dX5_restore_60 (fun g6 H locs hf hM hS => ?_)
    obtain ⟨y1_7, ey, hf⟩ := hlet_ex hf
    refine lv_iinc (v := y1_7) (lv' := [(1, .int y1_7), (0, .ref (ad (.inr 0)))]) hx hb dX5_restore_61 hl (k := 1) rfl (by rw [ey]; rfl) (by decide) rfl (fun ls hl => ?_)
    refine lv_goto (tgt := 43) hx hb dX5_restore_64 (by decide) ?_
    exact kc (y1_7, g6) (Option.some.inj hf).symm H locs ls hM hS (lv_sub hl [1, 0] rfl)
set_option maxHeartbeats 4000000 in
set_option maxRecDepth 100000 in
theorem w_m_restore_L69 {p : Program} {l : Launch} {e : Env} {s : State} {m : MethodId} {args : Array Value} {below : List Frame} {meth : Method} {c : Code} {D : va_G} {C : Nat → Nat} {a0 : Array Value} {s0 : State} {ad : Rl → Nat} {so : Nat → Option hS} {t : hSt} {lt : Rl → Nat → Int64} (CX : hCx D C a0 s0 p s m args meth c cX5_restore 2 RX5 (some .boolean)) (hIx : hI (hA s0) ad (Sum.elim so (mSH C))) (g : hSt) (g1 : hSt) (g2 : hSt) (g3 : hSt) (y4 : hSt) (x8 : hSt) {oM : Int32 × hSt} (x : hSt) (n : Nat) (q0 : Int32 × hSt) (h0 : hiter (fun q : Int32 × hSt => m_restore_L69 q.1 q.2) n q0 = some x) (kx0 : ∀ (H : Heap) (locs : List Loc) (ls : Array Slot), hW D vwCl ad (Sum.elim so (mSH C)) (Sum.elim t x) lt H → va_S (hA s0) s.heap H locs → lv_has ls 2 [(0, .ref (ad (.inr 0)))] → W p l e rm_m_restore s m args below meth c H locs 0 0 (MQ below (va_Qi (fun (r : Int32) (_ : Unit) => r = oM.1) (fun (_ : Unit) (U : State) => hW D vwCl ad (Sum.elim so (mSH C)) (Sum.elim t oM.2) lt U.heap) (hA s0)) args s 0 0 (hA s0)) (F0 m 98 ls [])) : ∀ (H : Heap) (locs : List Loc) (ls : Array Slot), hW D vwCl ad (Sum.elim so (mSH C)) (Sum.elim t q0.2) lt H → va_S (hA s0) s.heap H locs → lv_has ls 2 [(0, .ref (ad (.inr 0))), (1, .int q0.1)] → W p l e rm_m_restore s m args below meth c H locs 0 0 (MQ below (va_Qi (fun (r : Int32) (_ : Unit) => r = oM.1) (fun (_ : Unit) (U : State) => hW D vwCl ad (Sum.elim so (mSH C)) (Sum.elim t oM.2) lt U.heap) (hA s0)) args s 0 0 (hA s0)) (F0 m 69 ls []) := by
  obtain ⟨hx, hb, hr, hml, hown, hts, hlocks, hK, hZ0, hA0⟩ := CX
  refine hiter_W (Wh := fun q => ∀ (H : Heap) (locs : List Loc) (ls : Array Slot), hW D vwCl ad (Sum.elim so (mSH C)) (Sum.elim t q.2) lt H → va_S (hA s0) s.heap H locs → lv_has ls 2 [(0, .ref (ad (.inr 0))), (1, .int q.1)] → W p l e rm_m_restore s m args below meth c H locs 0 0 (MQ below (va_Qi (fun (r : Int32) (_ : Unit) => r = oM.1) (fun (_ : Unit) (U : State) => hW D vwCl ad (Sum.elim so (mSH C)) (Sum.elim t oM.2) lt U.heap) (hA s0)) args s 0 0 (hA s0)) (F0 m 69 ls [])) ?_ n q0 h0
  intro q o hf kc kx1 H locs ls hM hS hl
  obtain ⟨v1_69, g_69⟩ := q
  replace hf : m_restore_L69 v1_69 g_69 = some o := hf
  have kx : ∀ x' : hSt, o = .inr x' → ∀ (H : Heap) (locs : List Loc) (ls : Array Slot), hW D vwCl ad (Sum.elim so (mSH C)) (Sum.elim t x') lt H → va_S (hA s0) s.heap H locs → lv_has ls 2 [(0, .ref (ad (.inr 0)))] → W p l e rm_m_restore s m args below meth c H locs 0 0 (MQ below (va_Qi (fun (r : Int32) (_ : Unit) => r = oM.1) (fun (_ : Unit) (U : State) => hW D vwCl ad (Sum.elim so (mSH C)) (Sum.elim t oM.2) lt U.heap) (hA s0)) args s 0 0 (hA s0)) (F0 m 98 ls []) := fun x' ex => by rw [kx1 _ ex]; exact kx0
  unfold m_restore_L69 at hf
  refine lv_iload_n hx hb dX5_restore_69 rfl (lv_at hl 1 rfl) ?_
  refine lv_bipush (v := 9) hx hb dX5_restore_70 (by decide) ?_
  refine lv_aload_n hx hb dX5_restore_72 rfl (lv_at hl 0 rfl) ?_
  refine hr_get (ci := 5) (C := RX5) (T := TX5) (N := 55) (r := .inr 0) hx hb hts in_X5 hown hK hM mS_0 rfl 24 (by decide) (hts _ q1392) rfl (v := .int (g_69 0 24)) rfl dX5_restore_73 ?_
  refine lv_imul hx hb dX5_restore_76 ?_
  refine hb_icmp_ge (tgt := 98) hx hb dX5_restore_77 (by decide) hf (fun hf => ?_) (fun hf => ?_)
  · exact kx g_69 (Option.some.inj hf).symm H locs ls hM hS (lv_sub hl [0] rfl)
  · refine lv_aload_n hx hb dX5_restore_80 rfl (lv_at hl 0 rfl) ?_
    refine hr_get (ci := 5) (C := RX5) (T := TX5) (N := 55) (r := .inr 0) hx hb hts in_X5 hown hK hM mS_0 rfl 25 (by decide) (hts _ q1393) rfl (v := .ref (ad (.inr 26))) rfl dX5_restore_81 ?_
    refine lv_iload_n hx hb dX5_restore_84 rfl (lv_at hl 1 rfl) ?_
    refine lv_aload_n hx hb dX5_restore_85 rfl (lv_at hl 0 rfl) ?_
    refine hr_get (ci := 5) (C := RX5) (T := TX5) (N := 55) (r := .inr 0) hx hb hts in_X5 hown hK hM mS_0 rfl 53 (by decide) (hts _ q1421) rfl (v := .ref (ad (.inr 54))) rfl dX5_restore_86 ?_
    refine lv_iload_n hx hb dX5_restore_89 rfl (lv_at hl 1 rfl) ?_
    refine hm_iald (r := 54) hx hb hK hM 0 mS_54 rfl hf dX5_restore_90 (fun x9 hf => ?_)
    refine hm_iast (r := 26) hx hb hK hM hIx hS 0 mS_26 rfl hf dX5_restore_91 (fun g10 H locs hf hM hS => ?_)
    obtain ⟨y1_11, ey, hf⟩ := hlet_ex hf
    refine lv_iinc (v := y1_11) (lv' := [(1, .int y1_11), (0, .ref (ad (.inr 0)))]) hx hb dX5_restore_92 hl (k := 1) rfl (by rw [ey]; rfl) (by decide) rfl (fun ls hl => ?_)
    refine lv_goto (tgt := 69) hx hb dX5_restore_95 (by decide) ?_
    exact kc (y1_11, g10) (Option.some.inj hf).symm H locs ls hM hS (lv_sub hl [1, 0] rfl)
set_option maxHeartbeats 4000000 in
set_option maxRecDepth 100000 in
theorem w_m_restore {p : Program} {l : Launch} {e : Env} {s : State} {m : MethodId} {args : Array Value} {below : List Frame} {meth : Method} {c : Code} {D : va_G} {C : Nat → Nat} {a0 : Array Value} {s0 : State} {ad : Rl → Nat} {so : Nat → Option hS} {t : hSt} {lt : Rl → Nat → Int64} (CX : hCx D C a0 s0 p s m args meth c cX5_restore 2 RX5 (some .boolean)) (hIx : hI (hA s0) ad (Sum.elim so (mSH C))) (g : hSt) {o : Int32 × hSt} (hf : m_restore g = some o) {H : Heap} {locs : List Loc} (hM : hW D vwCl ad (Sum.elim so (mSH C)) (Sum.elim t g) lt H) (hS : va_S (hA s0) s.heap H locs) {ls : Array Slot} (hl : lv_has ls 2 [(0, .ref (ad (.inr 0)))]) : W p l e rm_m_restore s m args below meth c H locs 0 0 (MQ below (va_Qi (fun (r : Int32) (_ : Unit) => r = o.1) (fun (_ : Unit) (U : State) => hW D vwCl ad (Sum.elim so (mSH C)) (Sum.elim t o.2) lt U.heap) (hA s0)) args s 0 0 (hA s0)) (F0 m 0 ls []) := by
  obtain ⟨hx, hb, hr, hml, hown, hts, hlocks, hK, hZ0, hA0⟩ := CX
  unfold m_restore at hf
  refine lv_aload_n hx hb dX5_restore_0 rfl (lv_at hl 0 rfl) ?_
  refine lv_iconst (v := 0) hx hb dX5_restore_1 (by decide) ?_
  refine hm_put (r := 0) (ci := 5) (C := RX5) (T := TX5) (N := 55) hx hb hts in_X5 tyX5 tyX5_ok nmX5 hown hK hM hIx hS mS_0 rfl 1 (by decide) (hts _ q1369) rfl rfl rfl hf dX5_restore_2 (fun g1 H locs hf hM hS => ?_)
  refine lv_aload_n hx hb dX5_restore_5 rfl (lv_at hl 0 rfl) ?_
  refine hr_get (ci := 5) (C := RX5) (T := TX5) (N := 55) (r := .inr 0) hx hb hts in_X5 hown hK hM mS_0 rfl 48 (by decide) (hts _ q1416) rfl (v := .int (g1 0 48)) rfl dX5_restore_6 ?_
  refine hb_if_ne (tgt := 14) hx hb dX5_restore_9 (by decide) hf (fun hf => ?_) (fun hf => ?_)
  · refine lv_aload_n hx hb dX5_restore_14 rfl (lv_at hl 0 rfl) ?_
    refine lv_aload_n hx hb dX5_restore_15 rfl (lv_at hl 0 rfl) ?_
    refine hr_get (ci := 5) (C := RX5) (T := TX5) (N := 55) (r := .inr 0) hx hb hts in_X5 hown hK hM mS_0 rfl 49 (by decide) (hts _ q1417) rfl (v := .int (g1 0 49)) rfl dX5_restore_16 ?_
    refine hm_put (r := 0) (ci := 5) (C := RX5) (T := TX5) (N := 55) hx hb hts in_X5 tyX5 tyX5_ok nmX5 hown hK hM hIx hS mS_0 rfl 24 (by decide) (hts _ q1392) rfl rfl rfl hf dX5_restore_19 (fun g2 H locs hf hM hS => ?_)
    refine lv_aload_n hx hb dX5_restore_22 rfl (lv_at hl 0 rfl) ?_
    refine lv_aload_n hx hb dX5_restore_23 rfl (lv_at hl 0 rfl) ?_
    refine hr_get (ci := 5) (C := RX5) (T := TX5) (N := 55) (r := .inr 0) hx hb hts in_X5 hown hK hM mS_0 rfl 50 (by decide) (hts _ q1418) rfl (v := .int (g2 0 50)) rfl dX5_restore_24 ?_
    refine hm_put (r := 0) (ci := 5) (C := RX5) (T := TX5) (N := 55) hx hb hts in_X5 tyX5 tyX5_ok nmX5 hown hK hM hIx hS mS_0 rfl 12 (by decide) (hts _ q1380) rfl rfl rfl hf dX5_restore_27 (fun g3 H locs hf hM hS => ?_)
    refine lv_aload_n hx hb dX5_restore_30 rfl (lv_at hl 0 rfl) ?_
    refine hr_get (ci := 5) (C := RX5) (T := TX5) (N := 55) (r := .inr 0) hx hb hts in_X5 hown hK hM mS_0 rfl 51 (by decide) (hts _ q1419) rfl (v := .ref (ad (.inr 52))) rfl dX5_restore_31 ?_
    refine lv_aload_n hx hb dX5_restore_34 rfl (lv_at hl 0 rfl) ?_
    refine hr_get (ci := 5) (C := RX5) (T := TX5) (N := 55) (r := .inr 0) hx hb hts in_X5 hown hK hM mS_0 rfl 7 (by decide) (hts _ q1375) rfl (v := .ref (ad (.inr 8))) rfl dX5_restore_35 ?_
    obtain ⟨y4, hq, hf⟩ := hbind hf
    refine hr_callv0 (va_runS (As := [.ref (ad (.inr 52)), .ref (ad (.inr 8))]) (rest := []) ⟨hx, hb, hml, hown, hts⟩ (met_m_copy l D C a0 s0 ad so t lt g3 52 8 ms_52 ms_8 hq) (va_cwS 2 hts (lw_S q1637 q1638 q99 q1639) rfl rfl rfl (by decide +kernel) ⟨Nat.le_of_ble_eq_true rfl, Nat.le_of_ble_eq_true rfl⟩) (hr_preS hZ_c hM hIx hK hZ0 hA0 hS) rfl rfl hl.1 rfl (lv_room (Nat.le_of_ble_eq_true rfl)) dX5_restore_38 ⟨Nat.le_of_ble_eq_true rfl, Nat.le_of_ble_eq_true rfl⟩) hS (fun H locs hM hS => ?_)
    refine lv_iconst (v := 0) hx hb dX5_restore_41 (by decide) ?_
    refine lv_istore_n (lv' := [(1, .int (0 : Int32)), (0, .ref (ad (.inr 0)))]) hx hb dX5_restore_42 rfl hl (by decide) rfl (fun ls hl => ?_)
    obtain ⟨x8, hq, hf⟩ := hbind hf
    refine w_m_restore_L43 ⟨hx, hb, hr, hml, hown, hts, hlocks, hK, hZ0, hA0⟩ hIx g g1 g2 g3 y4 x8 hFU ((0 : Int32), y4) hq (fun H locs ls hM hS hl => ?_) H locs ls hM hS (lv_sub hl [1, 0] rfl)
    refine lv_iconst (v := 0) hx hb dX5_restore_67 (by decide) ?_
    refine lv_istore_n (lv' := [(1, .int (0 : Int32)), (0, .ref (ad (.inr 0)))]) hx hb dX5_restore_68 rfl hl (by decide) rfl (fun ls hl => ?_)
    obtain ⟨x12, hq, hf⟩ := hbind hf
    refine w_m_restore_L69 ⟨hx, hb, hr, hml, hown, hts, hlocks, hK, hZ0, hA0⟩ hIx g g1 g2 g3 y4 x8 x12 hFU ((0 : Int32), x8) hq (fun H locs ls hM hS hl => ?_) H locs ls hM hS (lv_sub hl [1, 0] rfl)
    refine lv_aload_n hx hb dX5_restore_98 rfl (lv_at hl 0 rfl) ?_
    refine hr_get (ci := 5) (C := RX5) (T := TX5) (N := 55) (r := .inr 0) hx hb hts in_X5 hown hK hM mS_0 rfl 6 (by decide) (hts _ q1374) rfl (v := .ref (ad (.inr 7))) rfl dX5_restore_99 ?_
    refine lv_iconst (v := 0) hx hb dX5_restore_102 (by decide) ?_
    refine lv_aload_n hx hb dX5_restore_103 rfl (lv_at hl 0 rfl) ?_
    refine hr_get (ci := 5) (C := RX5) (T := TX5) (N := 55) (r := .inr 0) hx hb hts in_X5 hown hK hM mS_0 rfl 54 (by decide) (hts _ q1422) rfl (v := .ref (ad (.inr 55))) rfl dX5_restore_104 ?_
    refine lv_iconst (v := 0) hx hb dX5_restore_107 (by decide) ?_
    refine hm_iald (r := 55) hx hb hK hM 0 mS_55 rfl hf dX5_restore_108 (fun x13 hf => ?_)
    refine hm_iast (r := 7) hx hb hK hM hIx hS 0 mS_7 rfl hf dX5_restore_109 (fun g14 H locs hf hM hS => ?_)
    refine lv_aload_n hx hb dX5_restore_110 rfl (lv_at hl 0 rfl) ?_
    refine hr_get (ci := 5) (C := RX5) (T := TX5) (N := 55) (r := .inr 0) hx hb hts in_X5 hown hK hM mS_0 rfl 6 (by decide) (hts _ q1374) rfl (v := .ref (ad (.inr 7))) rfl dX5_restore_111 ?_
    refine lv_iconst (v := 1) hx hb dX5_restore_114 (by decide) ?_
    refine lv_aload_n hx hb dX5_restore_115 rfl (lv_at hl 0 rfl) ?_
    refine hr_get (ci := 5) (C := RX5) (T := TX5) (N := 55) (r := .inr 0) hx hb hts in_X5 hown hK hM mS_0 rfl 54 (by decide) (hts _ q1422) rfl (v := .ref (ad (.inr 55))) rfl dX5_restore_116 ?_
    refine lv_iconst (v := 1) hx hb dX5_restore_119 (by decide) ?_
    refine hm_iald (r := 55) hx hb hK hM 0 mS_55 rfl hf dX5_restore_120 (fun x15 hf => ?_)
    refine hm_iast (r := 7) hx hb hK hM hIx hS 0 mS_7 rfl hf dX5_restore_121 (fun g16 H locs hf hM hS => ?_)
    refine lv_iconst (v := 1) hx hb dX5_restore_122 (by decide) ?_
    have eo := Option.some.inj hf
    subst eo
    exact W.zret (v := (1 : Int32)) hx hb hr rfl (fun T ht hW => ⟨⟨(1 : Int32), (), rfl, rfl, by dsimp only; rw [ht]; exact hM⟩, hS.F ht⟩) hS.2.2 dX5_restore_123
  · refine lv_iconst (v := 0) hx hb dX5_restore_12 (by decide) ?_
    have eo := Option.some.inj hf
    subst eo
    exact W.zret (v := (0 : Int32)) hx hb hr rfl (fun T ht hW => ⟨⟨(0 : Int32), (), rfl, rfl, by dsimp only; rw [ht]; exact hM⟩, hS.F ht⟩) hS.2.2 dX5_restore_13
set_option maxHeartbeats 4000000 in
set_option maxRecDepth 100000 in
theorem met_m_restore (l : Launch) (D : va_G) (C : Nat → Nat) (a0 : Array Value) (s0 : State) (ad : Rl → Nat) (so : Nat → Option hS) (t : hSt) (lt : Rl → Nat → Int64) (g : hSt) {o : Int32 × hSt} (hf : m_restore g = some o) : Met l yX5_restore (ws_ yX5_restore cX5_restore 2 (some .boolean)) rm_m_restore (va_Pc [.ref (ad (.inr 0))] (hB D vwCl (hT C) (hA s0) (hZ a0 s0) ad (Sum.elim so (mSH C)) (Sum.elim t g) lt)) (va_Qi (fun (r : Int32) (_ : Unit) => r = o.1) (fun (_ : Unit) (U : State) => hW D vwCl ad (Sum.elim so (mSH C)) (Sum.elim t o.2) lt U.heap) (hA s0)) 0 0 (hA s0) := by
  refine Met.ofW (cc := cX5_restore) (maxL := 2) (ret := (some .boolean)) (by decide) rfl ?_
  intro p e s m args below meth c s₁ B hml hv
  obtain ⟨rfl, hM, hIx, hK, hZ0, hA0⟩ := hv
  have hl := lv_entry ([.ref (ad (.inr 0))]) (n := 2) (Nat.le_of_ble_eq_true rfl)
  rw [lg_entry_eq]
  generalize (lg_sl ([.ref (ad (.inr 0))]) ++ List.replicate (2 - (lg_sl ([.ref (ad (.inr 0))])).length) Slot.unset).toArray = ls at hl ⊢
  have hl : lv_has ls 2 [(0, .ref (ad (.inr 0)))] := hl
  exact w_m_restore ⟨B.exec, B.bytes, B.returns, hml, findClass_of_methodNamed B.named, fun w h => atoms_spec (ws := ws_ yX5_restore cX5_restore 2 (some .boolean)) B.pre w (List.mem_cons_of_mem _ h), B.notSynchronized, hK, hZ0, hA0⟩ hIx g hf hM va_S.rf hl

