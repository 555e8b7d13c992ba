/-! WALKS (printed by tools/gen.py): 12.mw 3 -/
set_option maxRecDepth 100000
def rm_m_fits : Room := { frames := 7, cells := 0, slots := 0, locals := 81 }
set_option maxHeartbeats 4000000 in
set_option maxRecDepth 100000 in
theorem w_m_fits {p : Program} {l : Launch} {e : Env} {s : State} {m : MethodId} {args : Array Value} {below : List Frame} {meth : Method} {c : Code} {D : va_G} {C : Nat → Nat} {a0 : Array Value} {s0 : State} {ad : Rl → Nat} {so : Nat → Option hS} {t : hSt} {lt : Rl → Nat → Int64} (CX : hCx D C a0 s0 p s m args meth c cX5_fits 4 RX5 (some .boolean)) (hIx : hI (hA s0) ad (Sum.elim so (mSH C))) (g : hSt) (r0 : Nat) (p1 : Int32) (p2 : Int32) (h_r0 : mSH C r0 = some (.inl (C 0, 30, false))) {o : Int32} (hf : m_fits g r0 p1 p2 = some o) {H : Heap} {locs : List Loc} (hM : hW D vwCl ad (Sum.elim so (mSH C)) (Sum.elim t g) lt H) (hS : va_S (hA s0) s.heap H locs) {ls : Array Slot} (hl : lv_has ls 4 [(0, .ref (ad (.inr 0))), (1, .ref (ad (.inr r0))), (2, .int p1), (3, .int p2)]) : W p l e rm_m_fits s m args below meth c H locs 0 0 (MQ below (va_Qi (fun (r : Int32) (_ : Unit) => r = o) (fun (_ : Unit) (U : State) => hW D vwCl ad (Sum.elim so (mSH C)) (Sum.elim t g) lt U.heap) (hA s0)) args s 0 0 (hA s0)) (F0 m 0 ls []) := by
  obtain ⟨hx, hb, hr, hml, hown, hts, hlocks, hK, hZ0, hA0⟩ := CX
  unfold m_fits at hf
  refine lv_aload_n hx hb dX5_fits_0 rfl (lv_at hl 0 rfl) ?_
  refine lv_aload_n hx hb dX5_fits_1 rfl (lv_at hl 1 rfl) ?_
  refine lv_iload_n hx hb dX5_fits_2 rfl (lv_at hl 2 rfl) ?_
  refine lv_iload_n hx hb dX5_fits_3 rfl (lv_at hl 3 rfl) ?_
  refine lv_aload_n hx hb dX5_fits_4 rfl (lv_at hl 1 rfl) ?_
  refine lv_bipush (v := 18) hx hb dX5_fits_5 (by decide) ?_
  refine lv_iload_n hx hb dX5_fits_7 rfl (lv_at hl 2 rfl) ?_
  refine lv_iadd hx hb dX5_fits_8 ?_
  refine hm_iald (r := r0) hx hb hK hM 0 h_r0 rfl hf dX5_fits_9 (fun x1 hf => ?_)
  obtain ⟨y2, hq, hf⟩ := hbind hf
  refine hr_calli0 (va_runV (As := [.ref (ad (.inr r0)), .int p1, .int p2, .int x1]) (rest := []) ⟨hx, hb, hml, hown, hts⟩ (met_m_sandFor l D C a0 s0 ad so t lt g r0 p1 p2 x1 h_r0 hq) (cwV 4 hts (lw_V q1720 q1722 qs57 q99 q1723) rfl rfl rfl (by decide +kernel) ⟨Nat.le_of_ble_eq_true rfl, Nat.le_of_ble_eq_true rfl⟩) (hr_preV hZ_c hM hIx hK hZ0 hA0 hS (r := .inr 0) mS_0 (q := (RX5, TX5, 55)) rfl) rfl rfl hl.1 rfl (lv_room (Nat.le_of_ble_eq_true rfl)) dX5_fits_10 ⟨Nat.le_of_ble_eq_true rfl, Nat.le_of_ble_eq_true rfl⟩) hS (fun H locs hM hS => ?_)
  refine lv_iconst (v := -1) hx hb dX5_fits_13 (by decide) ?_
  refine hb_icmp_eq (tgt := 21) hx hb dX5_fits_14 (by decide) hf (fun hf => ?_) (fun hf => ?_)
  · refine lv_iconst (v := 0) hx hb dX5_fits_21 (by decide) ?_
    have eo := Option.some.inj hf
    subst eo
    exact W.zret (v := (0 : Int32)) hx hb hr rfl (fun T ht hW => ⟨⟨(0 : Int32), (), rfl, rfl, by dsimp only; rw [ht]; exact hM⟩, hS.F ht⟩) hS.2.2 dX5_fits_22
  · refine lv_iconst (v := 1) hx hb dX5_fits_17 (by decide) ?_
    refine lv_goto (tgt := 22) hx hb dX5_fits_18 (by decide) ?_
    have eo := Option.some.inj hf
    subst eo
    exact W.zret (v := (1 : Int32)) hx hb hr rfl (fun T ht hW => ⟨⟨(1 : Int32), (), rfl, rfl, by dsimp only; rw [ht]; exact hM⟩, hS.F ht⟩) hS.2.2 dX5_fits_22
set_option maxHeartbeats 4000000 in
set_option maxRecDepth 100000 in
theorem met_m_fits (l : Launch) (D : va_G) (C : Nat → Nat) (a0 : Array Value) (s0 : State) (ad : Rl → Nat) (so : Nat → Option hS) (t : hSt) (lt : Rl → Nat → Int64) (g : hSt) (r0 : Nat) (p1 : Int32) (p2 : Int32) (h_r0 : mSH C r0 = some (.inl (C 0, 30, false))) {o : Int32} (hf : m_fits g r0 p1 p2 = some o) : Met l yX5_fits (ws_ yX5_fits cX5_fits 4 (some .boolean)) rm_m_fits (va_Pc [.ref (ad (.inr 0)), .ref (ad (.inr r0)), .int p1, .int p2] (hB D vwCl (hT C) (hA s0) (hZ a0 s0) ad (Sum.elim so (mSH C)) (Sum.elim t g) lt)) (va_Qi (fun (r : Int32) (_ : Unit) => r = o) (fun (_ : Unit) (U : State) => hW D vwCl ad (Sum.elim so (mSH C)) (Sum.elim t g) lt U.heap) (hA s0)) 0 0 (hA s0) := by
  refine Met.ofW (cc := cX5_fits) (maxL := 4) (ret := (some .boolean)) (by decide) rfl ?_
  intro p e s m args below meth c s₁ B hml hv
  obtain ⟨rfl, hM, hIx, hK, hZ0, hA0⟩ := hv
  have hl := lv_entry ([.ref (ad (.inr 0)), .ref (ad (.inr r0)), .int p1, .int p2]) (n := 4) (Nat.le_of_ble_eq_true rfl)
  rw [lg_entry_eq]
  generalize (lg_sl ([.ref (ad (.inr 0)), .ref (ad (.inr r0)), .int p1, .int p2]) ++ List.replicate (4 - (lg_sl ([.ref (ad (.inr 0)), .ref (ad (.inr r0)), .int p1, .int p2])).length) Slot.unset).toArray = ls at hl ⊢
  have hl : lv_has ls 4 [(0, .ref (ad (.inr 0))), (1, .ref (ad (.inr r0))), (2, .int p1), (3, .int p2)] := hl
  exact w_m_fits ⟨B.exec, B.bytes, B.returns, hml, findClass_of_methodNamed B.named, fun w h => atoms_spec (ws := ws_ yX5_fits cX5_fits 4 (some .boolean)) B.pre w (List.mem_cons_of_mem _ h), B.notSynchronized, hK, hZ0, hA0⟩ hIx g r0 p1 p2 h_r0 hf hM va_S.rf hl

def rm_m_sets : Room := { frames := 9, cells := 0, slots := 0, locals := 105 }
set_option maxHeartbeats 4000000 in
set_option maxRecDepth 100000 in
theorem w_m_sets_B54 {p : Program} {l : Launch} {e : Env} {s : State} {m : MethodId} {args : Array Value} {below : List Frame} {meth : Method} {c : Code} {D : va_G} {C : Nat → Nat} {a0 : Array Value} {s0 : State} {ad : Rl → Nat} {so : Nat → Option hS} {t : hSt} {lt : Rl → Nat → Int64} (CX : hCx D C a0 s0 p s m args meth c cX5_sets 4 RX5 (some .int)) (hIx : hI (hA s0) ad (Sum.elim so (mSH C))) (g : hSt) (p0 : Int32) (g1 : hSt) (y2 : Int32) (v2_23 : Int32) (v3_23 : Int32) (x3 : Int32) (y4 : Int32) (k0_54 : Int32) (k1_54 : Int32) {oM : Int32 × hSt} {o : (Int32 × Int32) ⊕ (Int32)} (hf : m_sets_B54 v3_23 k0_54 k1_54 = some o) (kc : ∀ s' : Int32 × Int32, o = .inl s' → ∀ (H : Heap) (locs : List Loc) (ls : Array Slot), hW D vwCl ad (Sum.elim so (mSH C)) (Sum.elim t g1) lt H → va_S (hA s0) s.heap H locs → lv_has ls 4 [(0, .ref (ad (.inr 0))), (1, .int p0), (2, .int s'.1), (3, .int s'.2)] → W p l e rm_m_sets s m args below meth c H locs 0 0 (MQ below (va_Qi (fun (r : Int32) (_ : Unit) => r = oM.1) (fun (_ : Unit) (U : State) => hW D vwCl ad (Sum.elim so (mSH C)) (Sum.elim t oM.2) lt U.heap) (hA s0)) args s 0 0 (hA s0)) (F0 m 23 ls [])) (kx : ∀ x' : Int32, o = .inr x' → ∀ (H : Heap) (locs : List Loc) (ls : Array Slot), hW D vwCl ad (Sum.elim so (mSH C)) (Sum.elim t g1) lt H → va_S (hA s0) s.heap H locs → lv_has ls 4 [(2, .int x')] → W p l e rm_m_sets s m args below meth c H locs 0 0 (MQ below (va_Qi (fun (r : Int32) (_ : Unit) => r = oM.1) (fun (_ : Unit) (U : State) => hW D vwCl ad (Sum.elim so (mSH C)) (Sum.elim t oM.2) lt U.heap) (hA s0)) args s 0 0 (hA s0)) (F0 m 62 ls [])) {H : Heap} {locs : List Loc} (hM : hW D vwCl ad (Sum.elim so (mSH C)) (Sum.elim t g1) lt H) (hS : va_S (hA s0) s.heap H locs) {ls : Array Slot} (hl : lv_has ls 4 [(0, .ref (ad (.inr 0))), (1, .int p0), (3, .int v3_23)]) : W p l e rm_m_sets s m args below meth c H locs 0 0 (MQ below (va_Qi (fun (r : Int32) (_ : Unit) => r = oM.1) (fun (_ : Unit) (U : State) => hW D vwCl ad (Sum.elim so (mSH C)) (Sum.elim t oM.2) lt U.heap) (hA s0)) args s 0 0 (hA s0)) (F0 m 54 ls [.int k0_54, .int k1_54]) := by
  obtain ⟨hx, hb, hr, hml, hown, hts, hlocks, hK, hZ0, hA0⟩ := CX
  unfold m_sets_B54 at hf
  refine lv_iadd hx hb dX5_sets_54 ?_
  refine hb_top hf (fun y2_5 hf => ?_)
  refine lv_istore_n (lv' := [(2, .int y2_5), (0, .ref (ad (.inr 0))), (1, .int p0), (3, .int v3_23)]) hx hb dX5_sets_55 rfl hl (by decide) rfl (fun ls hl => ?_)
  obtain ⟨y3_6, ey, hf⟩ := hlet_ex hf
  refine lv_iinc (v := y3_6) (lv' := [(3, .int y3_6), (2, .int y2_5), (0, .ref (ad (.inr 0))), (1, .int p0)]) hx hb dX5_sets_56 hl (k := 3) rfl (by rw [ey]; rfl) (by decide) rfl (fun ls hl => ?_)
  refine lv_goto (tgt := 23) hx hb dX5_sets_59 (by decide) ?_
  exact kc (y2_5, y3_6) (Option.some.inj hf).symm H locs ls hM hS (lv_sub hl [2, 3, 1, 0] rfl)
set_option maxHeartbeats 4000000 in
set_option maxRecDepth 100000 in
theorem w_m_sets_L23 {p : Program} {l : Launch} {e : Env} {s : State} {m : MethodId} {args : Array Value} {below : List Frame} {meth : Method} {c : Code} {D : va_G} {C : Nat → Nat} {a0 : Array Value} {s0 : State} {ad : Rl → Nat} {so : Nat → Option hS} {t : hSt} {lt : Rl → Nat → Int64} (CX : hCx D C a0 s0 p s m args meth c cX5_sets 4 RX5 (some .int)) (hIx : hI (hA s0) ad (Sum.elim so (mSH C))) (g : hSt) (p0 : Int32) (g1 : hSt) (y2 : Int32) {oM : Int32 × hSt} (x : Int32) (n : Nat) (q0 : Int32 × Int32) (h0 : hiter (fun q : Int32 × Int32 => m_sets_L23 p0 g1 q.1 q.2) n q0 = some x) (kx0 : ∀ (H : Heap) (locs : List Loc) (ls : Array Slot), hW D vwCl ad (Sum.elim so (mSH C)) (Sum.elim t g1) lt H → va_S (hA s0) s.heap H locs → lv_has ls 4 [(2, .int x)] → W p l e rm_m_sets s m args below meth c H locs 0 0 (MQ below (va_Qi (fun (r : Int32) (_ : Unit) => r = oM.1) (fun (_ : Unit) (U : State) => hW D vwCl ad (Sum.elim so (mSH C)) (Sum.elim t oM.2) lt U.heap) (hA s0)) args s 0 0 (hA s0)) (F0 m 62 ls [])) : ∀ (H : Heap) (locs : List Loc) (ls : Array Slot), hW D vwCl ad (Sum.elim so (mSH C)) (Sum.elim t g1) lt H → va_S (hA s0) s.heap H locs → lv_has ls 4 [(0, .ref (ad (.inr 0))), (1, .int p0), (2, .int q0.1), (3, .int q0.2)] → W p l e rm_m_sets s m args below meth c H locs 0 0 (MQ below (va_Qi (fun (r : Int32) (_ : Unit) => r = oM.1) (fun (_ : Unit) (U : State) => hW D vwCl ad (Sum.elim so (mSH C)) (Sum.elim t oM.2) lt U.heap) (hA s0)) args s 0 0 (hA s0)) (F0 m 23 ls []) := by
  obtain ⟨hx, hb, hr, hml, hown, hts, hlocks, hK, hZ0, hA0⟩ := CX
  refine hiter_W (Wh := fun q => ∀ (H : Heap) (locs : List Loc) (ls : Array Slot), hW D vwCl ad (Sum.elim so (mSH C)) (Sum.elim t g1) lt H → va_S (hA s0) s.heap H locs → lv_has ls 4 [(0, .ref (ad (.inr 0))), (1, .int p0), (2, .int q.1), (3, .int q.2)] → W p l e rm_m_sets s m args below meth c H locs 0 0 (MQ below (va_Qi (fun (r : Int32) (_ : Unit) => r = oM.1) (fun (_ : Unit) (U : State) => hW D vwCl ad (Sum.elim so (mSH C)) (Sum.elim t oM.2) lt U.heap) (hA s0)) args s 0 0 (hA s0)) (F0 m 23 ls [])) ?_ n q0 h0
  intro q o hf kc kx1 H locs ls hM hS hl
  obtain ⟨v2_23, v3_23⟩ := q
  replace hf : m_sets_L23 p0 g1 v2_23 v3_23 = some o := hf
  have kx : ∀ x' : Int32, o = .inr x' → ∀ (H : Heap) (locs : List Loc) (ls : Array Slot), hW D vwCl ad (Sum.elim so (mSH C)) (Sum.elim t g1) lt H → va_S (hA s0) s.heap H locs → lv_has ls 4 [(2, .int x')] → W p l e rm_m_sets s m args below meth c H locs 0 0 (MQ below (va_Qi (fun (r : Int32) (_ : Unit) => r = oM.1) (fun (_ : Unit) (U : State) => hW D vwCl ad (Sum.elim so (mSH C)) (Sum.elim t oM.2) lt U.heap) (hA s0)) args s 0 0 (hA s0)) (F0 m 62 ls []) := fun x' ex => by rw [kx1 _ ex]; exact kx0
  unfold m_sets_L23 at hf
  refine lv_iload_n hx hb dX5_sets_23 rfl (lv_at hl 3 rfl) ?_
  refine lv_iconst (v := 1) hx hb dX5_sets_24 (by decide) ?_
  refine lv_aload_n hx hb dX5_sets_25 rfl (lv_at hl 0 rfl) ?_
  refine hr_get (ci := 5) (C := RX5) (T := TX5) (N := 55) (r := .inr 0) hx hb hts in_X5 hown hK hM mS_0 rfl 2 (by decide) (hts _ q1370) rfl (v := .ref (ad (.inr 3))) rfl dX5_sets_26 ?_
  refine lv_iconst (v := 1) hx hb dX5_sets_29 (by decide) ?_
  refine hm_iald (r := 3) hx hb hK hM 0 mS_3 rfl hf dX5_sets_30 (fun x3 hf => ?_)
  refine lv_ishl hx hb dX5_sets_31 ?_
  refine hb_icmp_ge (tgt := 62) hx hb dX5_sets_32 (by decide) hf (fun hf => ?_) (fun hf => ?_)
  · exact kx v2_23 (Option.some.inj hf).symm H locs ls hM hS (lv_sub hl [2] rfl)
  · refine lv_iload_n hx hb dX5_sets_35 rfl (lv_at hl 2 rfl) ?_
    refine lv_aload_n hx hb dX5_sets_36 rfl (lv_at hl 0 rfl) ?_
    refine lv_aload_n hx hb dX5_sets_37 rfl (lv_at hl 0 rfl) ?_
    refine hr_get (ci := 5) (C := RX5) (T := TX5) (N := 55) (r := .inr 0) hx hb hts in_X5 hown hK hM mS_0 rfl 7 (by decide) (hts _ q1375) rfl (v := .ref (ad (.inr 8))) rfl dX5_sets_38 ?_
    refine lv_iload_n hx hb dX5_sets_41 rfl (lv_at hl 1 rfl) ?_
    refine lv_iload_n hx hb dX5_sets_42 rfl (lv_at hl 3 rfl) ?_
    obtain ⟨y4, hq, hf⟩ := hbind hf
    refine hr_calli0 (va_runV (As := [.ref (ad (.inr 8)), .int p0, .int v3_23]) (rest := [.int v2_23]) ⟨hx, hb, hml, hown, hts⟩ (met_m_fits l D C a0 s0 ad so t lt g1 8 p0 v3_23 ms_8 hq) (cwV 3 hts (lw_V q1716 q1718 qs56 q99 q1719) rfl rfl rfl (by decide +kernel) ⟨Nat.le_of_ble_eq_true rfl, Nat.le_of_ble_eq_true rfl⟩) (hr_preV hZ_c hM hIx hK hZ0 hA0 hS (r := .inr 0) mS_0 (q := (RX5, TX5, 55)) rfl) rfl rfl hl.1 rfl (lv_room (Nat.le_of_ble_eq_true rfl)) dX5_sets_43 ⟨Nat.le_of_ble_eq_true rfl, Nat.le_of_ble_eq_true rfl⟩) hS (fun H locs hM hS => ?_)
    refine hb_if_eq (tgt := 53) hx hb dX5_sets_46 (by decide) hf (fun hf => ?_) (fun hf => ?_)
    · refine lv_iconst (v := 0) hx hb dX5_sets_53 (by decide) ?_
      exact w_m_sets_B54 ⟨hx, hb, hr, hml, hown, hts, hlocks, hK, hZ0, hA0⟩ hIx g p0 g1 y2 v2_23 v3_23 x3 y4 (0 : Int32) v2_23 hf kc kx hM hS (lv_sub hl [0, 1, 3] rfl)
    · refine lv_iconst (v := 1) hx hb dX5_sets_49 (by decide) ?_
      refine lv_goto (tgt := 54) hx hb dX5_sets_50 (by decide) ?_
      exact w_m_sets_B54 ⟨hx, hb, hr, hml, hown, hts, hlocks, hK, hZ0, hA0⟩ hIx g p0 g1 y2 v2_23 v3_23 x3 y4 (1 : Int32) v2_23 hf kc kx hM hS (lv_sub hl [0, 1, 3] rfl)
set_option maxHeartbeats 4000000 in
set_option maxRecDepth 100000 in
theorem w_m_sets {p : Program} {l : Launch} {e : Env} {s : State} {m : MethodId} {args : Array Value} {below : List Frame} {meth : Method} {c : Code} {D : va_G} {C : Nat → Nat} {a0 : Array Value} {s0 : State} {ad : Rl → Nat} {so : Nat → Option hS} {t : hSt} {lt : Rl → Nat → Int64} (CX : hCx D C a0 s0 p s m args meth c cX5_sets 4 RX5 (some .int)) (hIx : hI (hA s0) ad (Sum.elim so (mSH C))) (g : hSt) (p0 : Int32) {o : Int32 × hSt} (hf : m_sets g p0 = some o) {H : Heap} {locs : List Loc} (hM : hW D vwCl ad (Sum.elim so (mSH C)) (Sum.elim t g) lt H) (hS : va_S (hA s0) s.heap H locs) {ls : Array Slot} (hl : lv_has ls 4 [(0, .ref (ad (.inr 0))), (1, .int p0)]) : W p l e rm_m_sets s m args below meth c H locs 0 0 (MQ below (va_Qi (fun (r : Int32) (_ : Unit) => r = o.1) (fun (_ : Unit) (U : State) => hW D vwCl ad (Sum.elim so (mSH C)) (Sum.elim t o.2) lt U.heap) (hA s0)) args s 0 0 (hA s0)) (F0 m 0 ls []) := by
  obtain ⟨hx, hb, hr, hml, hown, hts, hlocks, hK, hZ0, hA0⟩ := CX
  unfold m_sets at hf
  refine lv_aload_n hx hb dX5_sets_0 rfl (lv_at hl 0 rfl) ?_
  refine lv_iconst (v := 0) hx hb dX5_sets_1 (by decide) ?_
  refine hm_put (r := 0) (ci := 5) (C := RX5) (T := TX5) (N := 55) hx hb hts in_X5 tyX5 tyX5_ok nmX5 hown hK hM hIx hS mS_0 rfl 1 (by decide) (hts _ q1369) rfl rfl rfl hf dX5_sets_2 (fun g1 H locs hf hM hS => ?_)
  refine lv_aload_n hx hb dX5_sets_5 rfl (lv_at hl 0 rfl) ?_
  refine lv_iload_n hx hb dX5_sets_6 rfl (lv_at hl 1 rfl) ?_
  obtain ⟨y2, hq, hf⟩ := hbind hf
  refine hr_calli0 (va_runV (As := [.int p0]) (rest := []) ⟨hx, hb, hml, hown, hts⟩ (met_m_isPerson l D C a0 s0 ad so t lt g1 p0 hq) (cwV 1 hts (lw_V q1655 q1657 qs47 q99 q1658) rfl rfl rfl (by decide +kernel) ⟨Nat.le_of_ble_eq_true rfl, Nat.le_of_ble_eq_true rfl⟩) (hr_preV hZ_c hM hIx hK hZ0 hA0 hS (r := .inr 0) mS_0 (q := (RX5, TX5, 55)) rfl) rfl rfl hl.1 rfl (lv_room (Nat.le_of_ble_eq_true rfl)) dX5_sets_7 ⟨Nat.le_of_ble_eq_true rfl, Nat.le_of_ble_eq_true rfl⟩) hS (fun H locs hM hS => ?_)
  refine hb_if_ne (tgt := 19) hx hb dX5_sets_10 (by decide) hf (fun hf => ?_) (fun hf => ?_)
  · refine lv_iconst (v := 0) hx hb dX5_sets_19 (by decide) ?_
    refine lv_istore_n (lv' := [(2, .int (0 : Int32)), (0, .ref (ad (.inr 0))), (1, .int p0)]) hx hb dX5_sets_20 rfl hl (by decide) rfl (fun ls hl => ?_)
    refine lv_iconst (v := 0) hx hb dX5_sets_21 (by decide) ?_
    refine lv_istore_n (lv' := [(3, .int (0 : Int32)), (2, .int (0 : Int32)), (0, .ref (ad (.inr 0))), (1, .int p0)]) hx hb dX5_sets_22 rfl hl (by decide) rfl (fun ls hl => ?_)
    obtain ⟨x7, hq, hf⟩ := hbind hf
    refine w_m_sets_L23 ⟨hx, hb, hr, hml, hown, hts, hlocks, hK, hZ0, hA0⟩ hIx g p0 g1 y2 x7 hFU ((0 : Int32), (0 : Int32)) hq (fun H locs ls hM hS hl => ?_) H locs ls hM hS (lv_sub hl [2, 3, 1, 0] rfl)
    refine lv_iload_n hx hb dX5_sets_62 rfl (lv_at hl 0 rfl) ?_
    have eo := Option.some.inj hf
    subst eo
    exact W.iret (v := x7) hx hb hr (fun T ht hW => ⟨⟨x7, (), rfl, rfl, by dsimp only; rw [ht]; exact hM⟩, hS.F ht⟩) hS.2.2 dX5_sets_63
  · refine lv_aload_n hx hb dX5_sets_13 rfl (lv_at hl 0 rfl) ?_
    refine lv_iconst (v := 1) hx hb dX5_sets_14 (by decide) ?_
    obtain ⟨y8, hq, hf⟩ := hbind hf
    refine hr_calli0 (va_runV (As := [.int (1 : Int32)]) (rest := []) ⟨hx, hb, hml, hown, hts⟩ (met_m_fail l D C a0 s0 ad so t lt g1 (1 : Int32) hq) (cwV 1 hts (lw_V q1547 q1549 qs33 q99 q1550) rfl rfl rfl (by decide +kernel) ⟨Nat.le_of_ble_eq_true rfl, Nat.le_of_ble_eq_true rfl⟩) (hr_preV hZ_c hM hIx hK hZ0 hA0 hS (r := .inr 0) mS_0 (q := (RX5, TX5, 55)) rfl) rfl rfl hl.1 rfl (lv_room (Nat.le_of_ble_eq_true rfl)) dX5_sets_15 ⟨Nat.le_of_ble_eq_true rfl, Nat.le_of_ble_eq_true rfl⟩) hS (fun H locs hM hS => ?_)
    have eo := Option.some.inj hf
    subst eo
    exact W.iret (v := y8.1) hx hb hr (fun T ht hW => ⟨⟨y8.1, (), rfl, rfl, by dsimp only; rw [ht]; exact hM⟩, hS.F ht⟩) hS.2.2 dX5_sets_18
set_option maxHeartbeats 4000000 in
set_option maxRecDepth 100000 in
theorem met_m_sets (l : Launch) (D : va_G) (C : Nat → Nat) (a0 : Array Value) (s0 : State) (ad : Rl → Nat) (so : Nat → Option hS) (t : hSt) (lt : Rl → Nat → Int64) (g : hSt) (p0 : Int32) {o : Int32 × hSt} (hf : m_sets g p0 = some o) : Met l yX5_sets (ws_ yX5_sets cX5_sets 4 (some .int)) rm_m_sets (va_Pc [.ref (ad (.inr 0)), .int p0] (hB D vwCl (hT C) (hA s0) (hZ a0 s0) ad (Sum.elim so (mSH C)) (Sum.elim t g) lt)) (va_Qi (fun (r : Int32) (_ : Unit) => r = o.1) (fun (_ : Unit) (U : State) => hW D vwCl ad (Sum.elim so (mSH C)) (Sum.elim t o.2) lt U.heap) (hA s0)) 0 0 (hA s0) := by
  refine Met.ofW (cc := cX5_sets) (maxL := 4) (ret := (some .int)) (by decide) rfl ?_
  intro p e s m args below meth c s₁ B hml hv
  obtain ⟨rfl, hM, hIx, hK, hZ0, hA0⟩ := hv
  have hl := lv_entry ([.ref (ad (.inr 0)), .int p0]) (n := 4) (Nat.le_of_ble_eq_true rfl)
  rw [lg_entry_eq]
  generalize (lg_sl ([.ref (ad (.inr 0)), .int p0]) ++ List.replicate (4 - (lg_sl ([.ref (ad (.inr 0)), .int p0])).length) Slot.unset).toArray = ls at hl ⊢
  have hl : lv_has ls 4 [(0, .ref (ad (.inr 0))), (1, .int p0)] := hl
  exact w_m_sets ⟨B.exec, B.bytes, B.returns, hml, findClass_of_methodNamed B.named, fun w h => atoms_spec (ws := ws_ yX5_sets cX5_sets 4 (some .int)) B.pre w (List.mem_cons_of_mem _ h), B.notSynchronized, hK, hZ0, hA0⟩ hIx g p0 hf hM va_S.rf hl

def rm_m_bitsOf : Room := { frames := 1, cells := 0, slots := 0, locals := 16 }
set_option maxHeartbeats 4000000 in
set_option maxRecDepth 100000 in
theorem w_m_bitsOf_L4 {p : Program} {l : Launch} {e : Env} {s : State} {m : MethodId} {args : Array Value} {below : List Frame} {meth : Method} {c : Code} {D : va_G} {C : Nat → Nat} {a0 : Array Value} {s0 : State} {ad : Rl → Nat} {so : Nat → Option hS} {st : Rl → Nat → Int32} {lt : Rl → Nat → Int64} (CX : hCx D C a0 s0 p s m args meth c cX5_bitsOf 3 RX5 (some .int)) (hIx : hI (hA s0) ad (Sum.elim so (mSH C))) (p0 : Int32) {oM : Int32} (x : Int32) (n : Nat) (q0 : Int32 × Int32) (h0 : hiter (fun q : Int32 × Int32 => m_bitsOf_L4 q.1 q.2) n q0 = some x) (kx0 : ∀ (H : Heap) (locs : List Loc) (ls : Array Slot), hW D vwCl ad (Sum.elim so (mSH C)) st lt H → va_S (hA s0) s.heap H locs → lv_has ls 3 [(1, .int x)] → W p l e rm_m_bitsOf s m args below meth c H locs 0 0 (MQ below (va_Qi (fun (r : Int32) (_ : Unit) => r = oM) (fun (_ : Unit) (U : State) => hW D vwCl ad (Sum.elim so (mSH C)) st lt U.heap) (hA s0)) args s 0 0 (hA s0)) (F0 m 20 ls [])) : ∀ (H : Heap) (locs : List Loc) (ls : Array Slot), hW D vwCl ad (Sum.elim so (mSH C)) st lt H → va_S (hA s0) s.heap H locs → lv_has ls 3 [(1, .int q0.1), (2, .int q0.2)] → W p l e rm_m_bitsOf s m args below meth c H locs 0 0 (MQ below (va_Qi (fun (r : Int32) (_ : Unit) => r = oM) (fun (_ : Unit) (U : State) => hW D vwCl ad (Sum.elim so (mSH C)) st lt U.heap) (hA s0)) args s 0 0 (hA s0)) (F0 m 4 ls []) := by
  obtain ⟨hx, hb, hr, hml, hown, hts, hlocks, hK, hZ0, hA0⟩ := CX
  refine hiter_W (Wh := fun q => ∀ (H : Heap) (locs : List Loc) (ls : Array Slot), hW D vwCl ad (Sum.elim so (mSH C)) st lt H → va_S (hA s0) s.heap H locs → lv_has ls 3 [(1, .int q.1), (2, .int q.2)] → W p l e rm_m_bitsOf s m args below meth c H locs 0 0 (MQ below (va_Qi (fun (r : Int32) (_ : Unit) => r = oM) (fun (_ : Unit) (U : State) => hW D vwCl ad (Sum.elim so (mSH C)) st lt U.heap) (hA s0)) args s 0 0 (hA s0)) (F0 m 4 ls [])) ?_ n q0 h0
  intro q o hf kc kx1 H locs ls hM hS hl
  obtain ⟨v1_4, v2_4⟩ := q
  replace hf : m_bitsOf_L4 v1_4 v2_4 = some o := hf
  have kx : ∀ x' : Int32, o = .inr x' → ∀ (H : Heap) (locs : List Loc) (ls : Array Slot), hW D vwCl ad (Sum.elim so (mSH C)) st lt H → va_S (hA s0) s.heap H locs → lv_has ls 3 [(1, .int x')] → W p l e rm_m_bitsOf s m args below meth c H locs 0 0 (MQ below (va_Qi (fun (r : Int32) (_ : Unit) => r = oM) (fun (_ : Unit) (U : State) => hW D vwCl ad (Sum.elim so (mSH C)) st lt U.heap) (hA s0)) args s 0 0 (hA s0)) (F0 m 20 ls []) := fun x' ex => by rw [kx1 _ ex]; exact kx0
  unfold m_bitsOf_L4 at hf
  refine lv_iload_n hx hb dX5_bitsOf_4 rfl (lv_at hl 1 rfl) ?_
  refine hb_if_eq (tgt := 20) hx hb dX5_bitsOf_5 (by decide) hf (fun hf => ?_) (fun hf => ?_)
  · exact kx v1_4 (Option.some.inj hf).symm H locs ls hM hS (lv_sub hl [0] rfl)
  · obtain ⟨y1_1, ey, hf⟩ := hlet_ex hf
    refine lv_iinc (v := y1_1) (lv' := [(1, .int y1_1), (2, .int v2_4)]) hx hb dX5_bitsOf_8 hl (k := 0) rfl (by rw [ey]; rfl) (by decide) rfl (fun ls hl => ?_)
    refine lv_iload_n hx hb dX5_bitsOf_11 rfl (lv_at hl 1 rfl) ?_
    refine lv_iload_n hx hb dX5_bitsOf_12 rfl (lv_at hl 1 rfl) ?_
    refine lv_iconst (v := 1) hx hb dX5_bitsOf_13 (by decide) ?_
    refine lv_isub hx hb dX5_bitsOf_14 ?_
    refine lv_iand hx hb dX5_bitsOf_15 ?_
    refine hb_top hf (fun y2_2 hf => ?_)
    refine lv_istore_n (lv' := [(2, .int y2_2), (1, .int y1_1)]) hx hb dX5_bitsOf_16 rfl hl (by decide) rfl (fun ls hl => ?_)
    refine lv_goto (tgt := 4) hx hb dX5_bitsOf_17 (by decide) ?_
    exact kc (y1_1, y2_2) (Option.some.inj hf).symm H locs ls hM hS (lv_sub hl [1, 0] rfl)
set_option maxHeartbeats 4000000 in
set_option maxRecDepth 100000 in
theorem w_m_bitsOf {p : Program} {l : Launch} {e : Env} {s : State} {m : MethodId} {args : Array Value} {below : List Frame} {meth : Method} {c : Code} {D : va_G} {C : Nat → Nat} {a0 : Array Value} {s0 : State} {ad : Rl → Nat} {so : Nat → Option hS} {st : Rl → Nat → Int32} {lt : Rl → Nat → Int64} (CX : hCx D C a0 s0 p s m args meth c cX5_bitsOf 3 RX5 (some .int)) (hIx : hI (hA s0) ad (Sum.elim so (mSH C))) (p0 : Int32) {o : Int32} (hf : m_bitsOf p0 = some o) {H : Heap} {locs : List Loc} (hM : hW D vwCl ad (Sum.elim so (mSH C)) st lt H) (hS : va_S (hA s0) s.heap H locs) {ls : Array Slot} (hl : lv_has ls 3 [(0, .int p0)]) : W p l e rm_m_bitsOf s m args below meth c H locs 0 0 (MQ below (va_Qi (fun (r : Int32) (_ : Unit) => r = o) (fun (_ : Unit) (U : State) => hW D vwCl ad (Sum.elim so (mSH C)) st lt U.heap) (hA s0)) args s 0 0 (hA s0)) (F0 m 0 ls []) := by
  obtain ⟨hx, hb, hr, hml, hown, hts, hlocks, hK, hZ0, hA0⟩ := CX
  unfold m_bitsOf at hf
  refine lv_iconst (v := 0) hx hb dX5_bitsOf_0 (by decide) ?_
  refine lv_istore_n (lv' := [(1, .int (0 : Int32)), (0, .int p0)]) hx hb dX5_bitsOf_1 rfl hl (by decide) rfl (fun ls hl => ?_)
  refine lv_iload_n hx hb dX5_bitsOf_2 rfl (lv_at hl 1 rfl) ?_
  refine lv_istore_n (lv' := [(2, .int p0), (1, .int (0 : Int32)), (0, .int p0)]) hx hb dX5_bitsOf_3 rfl hl (by decide) rfl (fun ls hl => ?_)
  obtain ⟨x3, hq, hf⟩ := hbind hf
  refine w_m_bitsOf_L4 ⟨hx, hb, hr, hml, hown, hts, hlocks, hK, hZ0, hA0⟩ hIx p0 x3 hFU ((0 : Int32), p0) hq (fun H locs ls hM hS hl => ?_) H locs ls hM hS (lv_sub hl [1, 0] rfl)
  refine lv_iload_n hx hb dX5_bitsOf_20 rfl (lv_at hl 0 rfl) ?_
  have eo := Option.some.inj hf
  subst eo
  exact W.iret (v := x3) hx hb hr (fun T ht hW => ⟨⟨x3, (), rfl, rfl, by dsimp only; rw [ht]; exact hM⟩, hS.F ht⟩) hS.2.2 dX5_bitsOf_21
set_option maxHeartbeats 4000000 in
set_option maxRecDepth 100000 in
theorem met_m_bitsOf (l : Launch) (D : va_G) (C : Nat → Nat) (a0 : Array Value) (s0 : State) (ad : Rl → Nat) (so : Nat → Option hS) (st : Rl → Nat → Int32) (lt : Rl → Nat → Int64) (p0 : Int32) {o : Int32} (hf : m_bitsOf p0 = some o) : Met l yX5_bitsOf (ws_ yX5_bitsOf cX5_bitsOf 3 (some .int)) rm_m_bitsOf (va_Pc [.int p0] (hB D vwCl (hT C) (hA s0) (hZ a0 s0) ad (Sum.elim so (mSH C)) st lt)) (va_Qi (fun (r : Int32) (_ : Unit) => r = o) (fun (_ : Unit) (U : State) => hW D vwCl ad (Sum.elim so (mSH C)) st lt U.heap) (hA s0)) 0 0 (hA s0) := by
  refine Met.ofW (cc := cX5_bitsOf) (maxL := 3) (ret := (some .int)) (by decide) rfl ?_
  intro p e s m args below meth c s₁ B hml hv
  obtain ⟨rfl, hM, hIx, hK, hZ0, hA0⟩ := hv
  have hl := lv_entry ([.int p0]) (n := 3) (Nat.le_of_ble_eq_true rfl)
  rw [lg_entry_eq]
  generalize (lg_sl ([.int p0]) ++ List.replicate (3 - (lg_sl ([.int p0])).length) Slot.unset).toArray = ls at hl ⊢
  have hl : lv_has ls 3 [(0, .int p0)] := hl
  exact w_m_bitsOf ⟨B.exec, B.bytes, B.returns, hml, findClass_of_methodNamed B.named, fun w h => atoms_spec (ws := ws_ yX5_bitsOf cX5_bitsOf 3 (some .int)) B.pre w (List.mem_cons_of_mem _ h), B.notSynchronized, hK, hZ0, hA0⟩ hIx p0 hf hM va_S.rf hl

def rm_m_rankOf : Room := { frames := 3, cells := 0, slots := 0, locals := 40 }
set_option maxHeartbeats 4000000 in
set_option maxRecDepth 100000 in
theorem w_m_rankOf {p : Program} {l : Launch} {e : Env} {s : State} {m : MethodId} {args : Array Value} {below : List Frame} {meth : Method} {c : Code} {D : va_G} {C : Nat → Nat} {a0 : Array Value} {s0 : State} {ad : Rl → Nat} {so : Nat → Option hS} {t : hSt} {lt : Rl → Nat → Int64} (CX : hCx D C a0 s0 p s m args meth c cX5_rankOf 3 RX5 (some .int)) (hIx : hI (hA s0) ad (Sum.elim so (mSH C))) (g : hSt) (p0 : Int32) (p1 : Int32) {o : Int32} (hf : m_rankOf g p0 p1 = some o) {H : Heap} {locs : List Loc} (hM : hW D vwCl ad (Sum.elim so (mSH C)) (Sum.elim t g) lt H) (hS : va_S (hA s0) s.heap H locs) {ls : Array Slot} (hl : lv_has ls 3 [(0, .ref (ad (.inr 0))), (1, .int p0), (2, .int p1)]) : W p l e rm_m_rankOf s m args below meth c H locs 0 0 (MQ below (va_Qi (fun (r : Int32) (_ : Unit) => r = o) (fun (_ : Unit) (U : State) => hW D vwCl ad (Sum.elim so (mSH C)) (Sum.elim t g) lt U.heap) (hA s0)) args s 0 0 (hA s0)) (F0 m 0 ls []) := by
  obtain ⟨hx, hb, hr, hml, hown, hts, hlocks, hK, hZ0, hA0⟩ := CX
  unfold m_rankOf at hf
  refine lv_aload_n hx hb dX5_rankOf_0 rfl (lv_at hl 0 rfl) ?_
  refine hr_get (ci := 5) (C := RX5) (T := TX5) (N := 55) (r := .inr 0) hx hb hts in_X5 hown hK hM mS_0 rfl 3 (by decide) (hts _ q1371) rfl (v := .ref (ad (.inr 4))) rfl dX5_rankOf_1 ?_
  refine lv_iload_n hx hb dX5_rankOf_4 rfl (lv_at hl 1 rfl) ?_
  refine hm_iald (r := 4) hx hb hK hM 0 mS_4 rfl hf dX5_rankOf_5 (fun x1 hf => ?_)
  refine lv_iconst (v := 1) hx hb dX5_rankOf_6 (by decide) ?_
  refine hb_icmp_ne (tgt := 18) hx hb dX5_rankOf_7 (by decide) hf (fun hf => ?_) (fun hf => ?_)
  · refine lv_aload_n hx hb dX5_rankOf_18 rfl (lv_at hl 0 rfl) ?_
    refine hr_get (ci := 5) (C := RX5) (T := TX5) (N := 55) (r := .inr 0) hx hb hts in_X5 hown hK hM mS_0 rfl 3 (by decide) (hts _ q1371) rfl (v := .ref (ad (.inr 4))) rfl dX5_rankOf_19 ?_
    refine lv_iload_n hx hb dX5_rankOf_22 rfl (lv_at hl 1 rfl) ?_
    refine hm_iald (r := 4) hx hb hK hM 0 mS_4 rfl hf dX5_rankOf_23 (fun x2 hf => ?_)
    refine lv_iconst (v := 2) hx hb dX5_rankOf_24 (by decide) ?_
    refine hb_icmp_ne (tgt := 35) hx hb dX5_rankOf_25 (by decide) hf (fun hf => ?_) (fun hf => ?_)
    · refine lv_iconst (v := 0) hx hb dX5_rankOf_35 (by decide) ?_
      have eo := Option.some.inj hf
      subst eo
      exact W.iret (v := (0 : Int32)) hx hb hr (fun T ht hW => ⟨⟨(0 : Int32), (), rfl, rfl, by dsimp only; rw [ht]; exact hM⟩, hS.F ht⟩) hS.2.2 dX5_rankOf_36
    · refine lv_iload_n hx hb dX5_rankOf_28 rfl (lv_at hl 2 rfl) ?_
      obtain ⟨y3, hq, hf⟩ := hbind hf
      refine hr_calli0 (va_runS (As := [.int p1]) (rest := []) ⟨hx, hb, hml, hown, hts⟩ (met_m_bitsOf l D C a0 s0 ad so (Sum.elim t g) lt p1 hq) (va_cwS 1 hts (lw_S q1736 q1737 q99 q1738) rfl rfl rfl (by decide +kernel) ⟨Nat.le_of_ble_eq_true rfl, Nat.le_of_ble_eq_true rfl⟩) (hr_preS hZ_c hM hIx hK hZ0 hA0 hS) rfl rfl hl.1 rfl (lv_room (Nat.le_of_ble_eq_true rfl)) dX5_rankOf_29 ⟨Nat.le_of_ble_eq_true rfl, Nat.le_of_ble_eq_true rfl⟩) hS (fun H locs hM hS => ?_)
      refine lv_goto (tgt := 36) hx hb dX5_rankOf_32 (by decide) ?_
      have eo := Option.some.inj hf
      subst eo
      exact W.iret (v := y3) hx hb hr (fun T ht hW => ⟨⟨y3, (), rfl, rfl, by dsimp only; rw [ht]; exact hM⟩, hS.F ht⟩) hS.2.2 dX5_rankOf_36
  · refine lv_aload_n hx hb dX5_rankOf_10 rfl (lv_at hl 0 rfl) ?_
    refine lv_iload_n hx hb dX5_rankOf_11 rfl (lv_at hl 2 rfl) ?_
    obtain ⟨y4, hq, hf⟩ := hbind hf
    refine hr_calli0 (va_runV (As := [.int p1]) (rest := []) ⟨hx, hb, hml, hown, hts⟩ (met_m_worthOf l D C a0 s0 ad so t lt g p1 hq) (cwV 1 hts (lw_V q1663 q1665 qs49 q99 q1666) rfl rfl rfl (by decide +kernel) ⟨Nat.le_of_ble_eq_true rfl, Nat.le_of_ble_eq_true rfl⟩) (hr_preV hZ_c hM hIx hK hZ0 hA0 hS (r := .inr 0) mS_0 (q := (RX5, TX5, 55)) rfl) rfl rfl hl.1 rfl (lv_room (Nat.le_of_ble_eq_true rfl)) dX5_rankOf_12 ⟨Nat.le_of_ble_eq_true rfl, Nat.le_of_ble_eq_true rfl⟩) hS (fun H locs hM hS => ?_)
    refine lv_goto (tgt := 36) hx hb dX5_rankOf_15 (by decide) ?_
    have eo := Option.some.inj hf
    subst eo
    exact W.iret (v := y4) hx hb hr (fun T ht hW => ⟨⟨y4, (), rfl, rfl, by dsimp only; rw [ht]; exact hM⟩, hS.F ht⟩) hS.2.2 dX5_rankOf_36
set_option maxHeartbeats 4000000 in
set_option maxRecDepth 100000 in
theorem met_m_rankOf (l : Launch) (D : va_G) (C : Nat → Nat) (a0 : Array Value) (s0 : State) (ad : Rl → Nat) (so : Nat → Option hS) (t : hSt) (lt : Rl → Nat → Int64) (g : hSt) (p0 : Int32) (p1 : Int32) {o : Int32} (hf : m_rankOf g p0 p1 = some o) : Met l yX5_rankOf (ws_ yX5_rankOf cX5_rankOf 3 (some .int)) rm_m_rankOf (va_Pc [.ref (ad (.inr 0)), .int p0, .int p1] (hB D vwCl (hT C) (hA s0) (hZ a0 s0) ad (Sum.elim so (mSH C)) (Sum.elim t g) lt)) (va_Qi (fun (r : Int32) (_ : Unit) => r = o) (fun (_ : Unit) (U : State) => hW D vwCl ad (Sum.elim so (mSH C)) (Sum.elim t g) lt U.heap) (hA s0)) 0 0 (hA s0) := by
  refine Met.ofW (cc := cX5_rankOf) (maxL := 3) (ret := (some .int)) (by decide) rfl ?_
  intro p e s m args below meth c s₁ B hml hv
  obtain ⟨rfl, hM, hIx, hK, hZ0, hA0⟩ := hv
  have hl := lv_entry ([.ref (ad (.inr 0)), .int p0, .int p1]) (n := 3) (Nat.le_of_ble_eq_true rfl)
  rw [lg_entry_eq]
  generalize (lg_sl ([.ref (ad (.inr 0)), .int p0, .int p1]) ++ List.replicate (3 - (lg_sl ([.ref (ad (.inr 0)), .int p0, .int p1])).length) Slot.unset).toArray = ls at hl ⊢
  have hl : lv_has ls 3 [(0, .ref (ad (.inr 0))), (1, .int p0), (2, .int p1)] := hl
  exact w_m_rankOf ⟨B.exec, B.bytes, B.returns, hml, findClass_of_methodNamed B.named, fun w h => atoms_spec (ws := ws_ yX5_rankOf cX5_rankOf 3 (some .int)) B.pre w (List.mem_cons_of_mem _ h), B.notSynchronized, hK, hZ0, hA0⟩ hIx g p0 p1 hf hM va_S.rf hl

def rm_m_choiceOf : Room := { frames := 9, cells := 0, slots := 0, locals := 105 }
set_option maxHeartbeats 4000000 in
set_option maxRecDepth 100000 in
theorem w_m_choiceOf_B103 {p : Program} {l : Launch} {e : Env} {s : State} {m : MethodId} {args : Array Value} {below : List Frame} {meth : Method} {c : Code} {D : va_G} {C : Nat → Nat} {a0 : Array Value} {s0 : State} {ad : Rl → Nat} {so : Nat → Option hS} {t : hSt} {lt : Rl → Nat → Int64} (CX : hCx D C a0 s0 p s m args meth c cX5_choiceOf 6 RX5 (some .int)) (hIx : hI (hA s0) ad (Sum.elim so (mSH C))) (g : hSt) (r0 : Nat) (p1 : Int32) (p2 : Int32) (x1 : Int32) (v4_28 : Int32) (v5_28 : Int32) (x2 : Int32) (x3 : Int32) (y4 : Int32) (h_r0 : mSH C r0 = some (.inl (C 0, 30, false))) {oM : Int32} {o : (Int32 × Int32) ⊕ (Int32)} (hf : m_choiceOf_B103 v5_28 = some o) (kc : ∀ s' : Int32 × Int32, o = .inl s' → ∀ (H : Heap) (locs : List Loc) (ls : Array Slot), hW D vwCl ad (Sum.elim so (mSH C)) (Sum.elim t g) lt H → va_S (hA s0) s.heap H locs → lv_has ls 6 [(0, .ref (ad (.inr 0))), (1, .ref (ad (.inr r0))), (2, .int p1), (4, .int s'.1), (5, .int s'.2)] → W p l e rm_m_choiceOf s m args below meth c H locs 0 0 (MQ below (va_Qi (fun (r : Int32) (_ : Unit) => r = oM) (fun (_ : Unit) (U : State) => hW D vwCl ad (Sum.elim so (mSH C)) (Sum.elim t g) lt U.heap) (hA s0)) args s 0 0 (hA s0)) (F0 m 28 ls [])) (kx : ∀ x' : Int32, o = .inr x' → ∀ (H : Heap) (locs : List Loc) (ls : Array Slot), hW D vwCl ad (Sum.elim so (mSH C)) (Sum.elim t g) lt H → va_S (hA s0) s.heap H locs → lv_has ls 6 [(4, .int x')] → W p l e rm_m_choiceOf s m args below meth c H locs 0 0 (MQ below (va_Qi (fun (r : Int32) (_ : Unit) => r = oM) (fun (_ : Unit) (U : State) => hW D vwCl ad (Sum.elim so (mSH C)) (Sum.elim t g) lt U.heap) (hA s0)) args s 0 0 (hA s0)) (F0 m 113 ls [])) {H : Heap} {locs : List Loc} (hM : hW D vwCl ad (Sum.elim so (mSH C)) (Sum.elim t g) lt H) (hS : va_S (hA s0) s.heap H locs) {ls : Array Slot} (hl : lv_has ls 6 [(0, .ref (ad (.inr 0))), (1, .ref (ad (.inr r0))), (2, .int p1), (5, .int v5_28)]) : W p l e rm_m_choiceOf s m args below meth c H locs 0 0 (MQ below (va_Qi (fun (r : Int32) (_ : Unit) => r = oM) (fun (_ : Unit) (U : State) => hW D vwCl ad (Sum.elim so (mSH C)) (Sum.elim t g) lt U.heap) (hA s0)) args s 0 0 (hA s0)) (F0 m 103 ls []) := by
  obtain ⟨hx, hb, hr, hml, hown, hts, hlocks, hK, hZ0, hA0⟩ := CX
  unfold m_choiceOf_B103 at hf
  refine lv_iload hx hb dX5_choiceOf_103 (lv_at hl 3 rfl) ?_
  refine lv_istore (lv' := [(4, .int v5_28), (0, .ref (ad (.inr 0))), (1, .ref (ad (.inr r0))), (2, .int p1), (5, .int v5_28)]) hx hb dX5_choiceOf_105 hl (by decide) rfl (fun ls hl => ?_)
  obtain ⟨y5_5, ey, hf⟩ := hlet_ex hf
  refine lv_iinc (v := y5_5) (lv' := [(5, .int y5_5), (4, .int v5_28), (0, .ref (ad (.inr 0))), (1, .ref (ad (.inr r0))), (2, .int p1)]) hx hb dX5_choiceOf_107 hl (k := 4) rfl (by rw [ey]; rfl) (by decide) rfl (fun ls hl => ?_)
  refine lv_goto (tgt := 28) hx hb dX5_choiceOf_110 (by decide) ?_
  exact kc (v5_28, y5_5) (Option.some.inj hf).symm H locs ls hM hS (lv_sub hl [2, 3, 4, 1, 0] rfl)
set_option maxHeartbeats 4000000 in
set_option maxRecDepth 100000 in
theorem w_m_choiceOf_B66 {p : Program} {l : Launch} {e : Env} {s : State} {m : MethodId} {args : Array Value} {below : List Frame} {meth : Method} {c : Code} {D : va_G} {C : Nat → Nat} {a0 : Array Value} {s0 : State} {ad : Rl → Nat} {so : Nat → Option hS} {t : hSt} {lt : Rl → Nat → Int64} (CX : hCx D C a0 s0 p s m args meth c cX5_choiceOf 6 RX5 (some .int)) (hIx : hI (hA s0) ad (Sum.elim so (mSH C))) (g : hSt) (r0 : Nat) (p1 : Int32) (p2 : Int32) (x1 : Int32) (v4_28 : Int32) (v5_28 : Int32) (x2 : Int32) (x3 : Int32) (h_r0 : mSH C r0 = some (.inl (C 0, 30, false))) {oM : Int32} {o : (Int32 × Int32) ⊕ (Int32)} (hf : m_choiceOf_B66 g r0 p1 v4_28 v5_28 = some o) (kc : ∀ s' : Int32 × Int32, o = .inl s' → ∀ (H : Heap) (locs : List Loc) (ls : Array Slot), hW D vwCl ad (Sum.elim so (mSH C)) (Sum.elim t g) lt H → va_S (hA s0) s.heap H locs → lv_has ls 6 [(0, .ref (ad (.inr 0))), (1, .ref (ad (.inr r0))), (2, .int p1), (4, .int s'.1), (5, .int s'.2)] → W p l e rm_m_choiceOf s m args below meth c H locs 0 0 (MQ below (va_Qi (fun (r : Int32) (_ : Unit) => r = oM) (fun (_ : Unit) (U : State) => hW D vwCl ad (Sum.elim so (mSH C)) (Sum.elim t g) lt U.heap) (hA s0)) args s 0 0 (hA s0)) (F0 m 28 ls [])) (kx : ∀ x' : Int32, o = .inr x' → ∀ (H : Heap) (locs : List Loc) (ls : Array Slot), hW D vwCl ad (Sum.elim so (mSH C)) (Sum.elim t g) lt H → va_S (hA s0) s.heap H locs → lv_has ls 6 [(4, .int x')] → W p l e rm_m_choiceOf s m args below meth c H locs 0 0 (MQ below (va_Qi (fun (r : Int32) (_ : Unit) => r = oM) (fun (_ : Unit) (U : State) => hW D vwCl ad (Sum.elim so (mSH C)) (Sum.elim t g) lt U.heap) (hA s0)) args s 0 0 (hA s0)) (F0 m 113 ls [])) {H : Heap} {locs : List Loc} (hM : hW D vwCl ad (Sum.elim so (mSH C)) (Sum.elim t g) lt H) (hS : va_S (hA s0) s.heap H locs) {ls : Array Slot} (hl : lv_has ls 6 [(0, .ref (ad (.inr 0))), (1, .ref (ad (.inr r0))), (2, .int p1), (4, .int v4_28), (5, .int v5_28)]) : W p l e rm_m_choiceOf s m args below meth c H locs 0 0 (MQ below (va_Qi (fun (r : Int32) (_ : Unit) => r = oM) (fun (_ : Unit) (U : State) => hW D vwCl ad (Sum.elim so (mSH C)) (Sum.elim t g) lt U.heap) (hA s0)) args s 0 0 (hA s0)) (F0 m 66 ls []) := by
  obtain ⟨hx, hb, hr, hml, hown, hts, hlocks, hK, hZ0, hA0⟩ := CX
  unfold m_choiceOf_B66 at hf
  refine lv_aload_n hx hb dX5_choiceOf_66 rfl (lv_at hl 0 rfl) ?_
  refine lv_aload_n hx hb dX5_choiceOf_67 rfl (lv_at hl 1 rfl) ?_
  refine lv_iload_n hx hb dX5_choiceOf_68 rfl (lv_at hl 2 rfl) ?_
  refine lv_iload hx hb dX5_choiceOf_69 (lv_at hl 4 rfl) ?_
  obtain ⟨y4, hq, hf⟩ := hbind hf
  refine hr_calli0 (va_runV (As := [.ref (ad (.inr r0)), .int p1, .int v5_28]) (rest := []) ⟨hx, hb, hml, hown, hts⟩ (met_m_fits l D C a0 s0 ad so t lt g r0 p1 v5_28 h_r0 hq) (cwV 3 hts (lw_V q1716 q1718 qs56 q99 q1719) rfl rfl rfl (by decide +kernel) ⟨Nat.le_of_ble_eq_true rfl, Nat.le_of_ble_eq_true rfl⟩) (hr_preV hZ_c hM hIx hK hZ0 hA0 hS (r := .inr 0) mS_0 (q := (RX5, TX5, 55)) rfl) rfl rfl hl.1 rfl (lv_room (Nat.le_of_ble_eq_true rfl)) dX5_choiceOf_71 ⟨Nat.le_of_ble_eq_true rfl, Nat.le_of_ble_eq_true rfl⟩) hS (fun H locs hM hS => ?_)
  refine hb_if_ne (tgt := 80) hx hb dX5_choiceOf_74 (by decide) hf (fun hf => ?_) (fun hf => ?_)
  · refine lv_iload hx hb dX5_choiceOf_80 (lv_at hl 3 rfl) ?_
    refine lv_iconst (v := -1) hx hb dX5_choiceOf_82 (by decide) ?_
    refine hb_icmp_eq (tgt := 103) hx hb dX5_choiceOf_83 (by decide) hf (fun hf => ?_) (fun hf => ?_)
    · exact w_m_choiceOf_B103 ⟨hx, hb, hr, hml, hown, hts, hlocks, hK, hZ0, hA0⟩ hIx g r0 p1 p2 x1 v4_28 v5_28 x2 x3 y4 h_r0 hf kc kx hM hS (lv_sub hl [0, 1, 2, 4] rfl)
    · refine lv_aload_n hx hb dX5_choiceOf_86 rfl (lv_at hl 0 rfl) ?_
      refine lv_iload_n hx hb dX5_choiceOf_87 rfl (lv_at hl 2 rfl) ?_
      refine lv_iload hx hb dX5_choiceOf_88 (lv_at hl 4 rfl) ?_
      obtain ⟨y6, hq, hf⟩ := hbind hf
      refine hr_calli0 (va_runV (As := [.int p1, .int v5_28]) (rest := []) ⟨hx, hb, hml, hown, hts⟩ (met_m_rankOf l D C a0 s0 ad so t lt g p1 v5_28 hq) (cwV 2 hts (lw_V q1732 q1734 qs59 q99 q1735) rfl rfl rfl (by decide +kernel) ⟨Nat.le_of_ble_eq_true rfl, Nat.le_of_ble_eq_true rfl⟩) (hr_preV hZ_c hM hIx hK hZ0 hA0 hS (r := .inr 0) mS_0 (q := (RX5, TX5, 55)) rfl) rfl rfl hl.1 rfl (lv_room (Nat.le_of_ble_eq_true rfl)) dX5_choiceOf_90 ⟨Nat.le_of_ble_eq_true rfl, Nat.le_of_ble_eq_true rfl⟩) hS (fun H locs hM hS => ?_)
      refine lv_aload_n hx hb dX5_choiceOf_93 rfl (lv_at hl 0 rfl) ?_
      refine lv_iload_n hx hb dX5_choiceOf_94 rfl (lv_at hl 2 rfl) ?_
      refine lv_iload hx hb dX5_choiceOf_95 (lv_at hl 3 rfl) ?_
      obtain ⟨y7, hq, hf⟩ := hbind hf
      refine hr_calli0 (va_runV (As := [.int p1, .int v4_28]) (rest := [.int y6]) ⟨hx, hb, hml, hown, hts⟩ (met_m_rankOf l D C a0 s0 ad so t lt g p1 v4_28 hq) (cwV 2 hts (lw_V q1732 q1734 qs59 q99 q1735) rfl rfl rfl (by decide +kernel) ⟨Nat.le_of_ble_eq_true rfl, Nat.le_of_ble_eq_true rfl⟩) (hr_preV hZ_c hM hIx hK hZ0 hA0 hS (r := .inr 0) mS_0 (q := (RX5, TX5, 55)) rfl) rfl rfl hl.1 rfl (lv_room (Nat.le_of_ble_eq_true rfl)) dX5_choiceOf_97 ⟨Nat.le_of_ble_eq_true rfl, Nat.le_of_ble_eq_true rfl⟩) hS (fun H locs hM hS => ?_)
      refine hb_icmp_ge (tgt := 107) hx hb dX5_choiceOf_100 (by decide) hf (fun hf => ?_) (fun hf => ?_)
      · obtain ⟨y5_8, ey, hf⟩ := hlet_ex hf
        refine lv_iinc (v := y5_8) (lv' := [(5, .int y5_8), (0, .ref (ad (.inr 0))), (1, .ref (ad (.inr r0))), (2, .int p1), (4, .int v4_28)]) hx hb dX5_choiceOf_107 hl (k := 4) rfl (by rw [ey]; rfl) (by decide) rfl (fun ls hl => ?_)
        refine lv_goto (tgt := 28) hx hb dX5_choiceOf_110 (by decide) ?_
        exact kc (v4_28, y5_8) (Option.some.inj hf).symm H locs ls hM hS (lv_sub hl [1, 2, 3, 4, 0] rfl)
      · exact w_m_choiceOf_B103 ⟨hx, hb, hr, hml, hown, hts, hlocks, hK, hZ0, hA0⟩ hIx g r0 p1 p2 x1 v4_28 v5_28 x2 x3 y4 h_r0 hf kc kx hM hS (lv_sub hl [0, 1, 2, 4] rfl)
  · refine lv_goto (tgt := 107) hx hb dX5_choiceOf_77 (by decide) ?_
    obtain ⟨y5_9, ey, hf⟩ := hlet_ex hf
    refine lv_iinc (v := y5_9) (lv' := [(5, .int y5_9), (0, .ref (ad (.inr 0))), (1, .ref (ad (.inr r0))), (2, .int p1), (4, .int v4_28)]) hx hb dX5_choiceOf_107 hl (k := 4) rfl (by rw [ey]; rfl) (by decide) rfl (fun ls hl => ?_)
    refine lv_goto (tgt := 28) hx hb dX5_choiceOf_110 (by decide) ?_
    exact kc (v4_28, y5_9) (Option.some.inj hf).symm H locs ls hM hS (lv_sub hl [1, 2, 3, 4, 0] rfl)
set_option maxHeartbeats 4000000 in
set_option maxRecDepth 100000 in
theorem w_m_choiceOf_L28 {p : Program} {l : Launch} {e : Env} {s : State} {m : MethodId} {args : Array Value} {below : List Frame} {meth : Method} {c : Code} {D : va_G} {C : Nat → Nat} {a0 : Array Value} {s0 : State} {ad : Rl → Nat} {so : Nat → Option hS} {t : hSt} {lt : Rl → Nat → Int64} (CX : hCx D C a0 s0 p s m args meth c cX5_choiceOf 6 RX5 (some .int)) (hIx : hI (hA s0) ad (Sum.elim so (mSH C))) (g : hSt) (r0 : Nat) (p1 : Int32) (p2 : Int32) (x1 : Int32) (h_r0 : mSH C r0 = some (.inl (C 0, 30, false))) {oM : Int32} (x : Int32) (n : Nat) (q0 : Int32 × Int32) (h0 : hiter (fun q : Int32 × Int32 => m_choiceOf_L28 g r0 p1 q.1 q.2) n q0 = some x) (kx0 : ∀ (H : Heap) (locs : List Loc) (ls : Array Slot), hW D vwCl ad (Sum.elim so (mSH C)) (Sum.elim t g) lt H → va_S (hA s0) s.heap H locs → lv_has ls 6 [(4, .int x)] → W p l e rm_m_choiceOf s m args below meth c H locs 0 0 (MQ below (va_Qi (fun (r : Int32) (_ : Unit) => r = oM) (fun (_ : Unit) (U : State) => hW D vwCl ad (Sum.elim so (mSH C)) (Sum.elim t g) lt U.heap) (hA s0)) args s 0 0 (hA s0)) (F0 m 113 ls [])) : ∀ (H : Heap) (locs : List Loc) (ls : Array Slot), hW D vwCl ad (Sum.elim so (mSH C)) (Sum.elim t g) lt H → va_S (hA s0) s.heap H locs → lv_has ls 6 [(0, .ref (ad (.inr 0))), (1, .ref (ad (.inr r0))), (2, .int p1), (4, .int q0.1), (5, .int q0.2)] → W p l e rm_m_choiceOf s m args below meth c H locs 0 0 (MQ below (va_Qi (fun (r : Int32) (_ : Unit) => r = oM) (fun (_ : Unit) (U : State) => hW D vwCl ad (Sum.elim so (mSH C)) (Sum.elim t g) lt U.heap) (hA s0)) args s 0 0 (hA s0)) (F0 m 28 ls []) := by
  obtain ⟨hx, hb, hr, hml, hown, hts, hlocks, hK, hZ0, hA0⟩ := CX
  refine hiter_W (Wh := fun q => ∀ (H : Heap) (locs : List Loc) (ls : Array Slot), hW D vwCl ad (Sum.elim so (mSH C)) (Sum.elim t g) lt H → va_S (hA s0) s.heap H locs → lv_has ls 6 [(0, .ref (ad (.inr 0))), (1, .ref (ad (.inr r0))), (2, .int p1), (4, .int q.1), (5, .int q.2)] → W p l e rm_m_choiceOf s m args below meth c H locs 0 0 (MQ below (va_Qi (fun (r : Int32) (_ : Unit) => r = oM) (fun (_ : Unit) (U : State) => hW D vwCl ad (Sum.elim so (mSH C)) (Sum.elim t g) lt U.heap) (hA s0)) args s 0 0 (hA s0)) (F0 m 28 ls [])) ?_ n q0 h0
  intro q o hf kc kx1 H locs ls hM hS hl
  obtain ⟨v4_28, v5_28⟩ := q
  replace hf : m_choiceOf_L28 g r0 p1 v4_28 v5_28 = some o := hf
  have kx : ∀ x' : Int32, o = .inr x' → ∀ (H : Heap) (locs : List Loc) (ls : Array Slot), hW D vwCl ad (Sum.elim so (mSH C)) (Sum.elim t g) lt H → va_S (hA s0) s.heap H locs → lv_has ls 6 [(4, .int x')] → W p l e rm_m_choiceOf s m args below meth c H locs 0 0 (MQ below (va_Qi (fun (r : Int32) (_ : Unit) => r = oM) (fun (_ : Unit) (U : State) => hW D vwCl ad (Sum.elim so (mSH C)) (Sum.elim t g) lt U.heap) (hA s0)) args s 0 0 (hA s0)) (F0 m 113 ls []) := fun x' ex => by rw [kx1 _ ex]; exact kx0
  unfold m_choiceOf_L28 at hf
  refine lv_iload hx hb dX5_choiceOf_28 (lv_at hl 4 rfl) ?_
  refine lv_iconst (v := 1) hx hb dX5_choiceOf_30 (by decide) ?_
  refine lv_aload_n hx hb dX5_choiceOf_31 rfl (lv_at hl 0 rfl) ?_
  refine hr_get (ci := 5) (C := RX5) (T := TX5) (N := 55) (r := .inr 0) hx hb hts in_X5 hown hK hM mS_0 rfl 2 (by decide) (hts _ q1370) rfl (v := .ref (ad (.inr 3))) rfl dX5_choiceOf_32 ?_
  refine lv_iconst (v := 1) hx hb dX5_choiceOf_35 (by decide) ?_
  refine hm_iald (r := 3) hx hb hK hM 0 mS_3 rfl hf dX5_choiceOf_36 (fun x2 hf => ?_)
  refine lv_ishl hx hb dX5_choiceOf_37 ?_
  refine hb_icmp_ge (tgt := 113) hx hb dX5_choiceOf_38 (by decide) hf (fun hf => ?_) (fun hf => ?_)
  · exact kx v4_28 (Option.some.inj hf).symm H locs ls hM hS (lv_sub hl [3] rfl)
  · refine lv_aload_n hx hb dX5_choiceOf_41 rfl (lv_at hl 0 rfl) ?_
    refine hr_get (ci := 5) (C := RX5) (T := TX5) (N := 55) (r := .inr 0) hx hb hts in_X5 hown hK hM mS_0 rfl 3 (by decide) (hts _ q1371) rfl (v := .ref (ad (.inr 4))) rfl dX5_choiceOf_42 ?_
    refine lv_iload_n hx hb dX5_choiceOf_45 rfl (lv_at hl 2 rfl) ?_
    refine hm_iald (r := 4) hx hb hK hM 0 mS_4 rfl hf dX5_choiceOf_46 (fun x3 hf => ?_)
    refine lv_iconst (v := 3) hx hb dX5_choiceOf_47 (by decide) ?_
    refine hb_icmp_ne (tgt := 66) hx hb dX5_choiceOf_48 (by decide) hf (fun hf => ?_) (fun hf => ?_)
    · exact w_m_choiceOf_B66 ⟨hx, hb, hr, hml, hown, hts, hlocks, hK, hZ0, hA0⟩ hIx g r0 p1 p2 x1 v4_28 v5_28 x2 x3 h_r0 hf kc kx hM hS (lv_sub hl [0, 1, 2, 3, 4] rfl)
    · refine lv_iload hx hb dX5_choiceOf_51 (lv_at hl 4 rfl) ?_
      refine lv_aload_n hx hb dX5_choiceOf_53 rfl (lv_at hl 0 rfl) ?_
      refine hr_get (ci := 5) (C := RX5) (T := TX5) (N := 55) (r := .inr 0) hx hb hts in_X5 hown hK hM mS_0 rfl 4 (by decide) (hts _ q1372) rfl (v := .ref (ad (.inr 5))) rfl dX5_choiceOf_54 ?_
      refine lv_iload_n hx hb dX5_choiceOf_57 rfl (lv_at hl 2 rfl) ?_
      refine hm_iald (r := 5) hx hb hK hM 0 mS_5 rfl hf dX5_choiceOf_58 (fun x10 hf => ?_)
      refine lv_ishr hx hb dX5_choiceOf_59 ?_
      refine lv_iconst (v := 1) hx hb dX5_choiceOf_60 (by decide) ?_
      refine lv_iand hx hb dX5_choiceOf_61 ?_
      refine lv_iconst (v := 1) hx hb dX5_choiceOf_62 (by decide) ?_
      refine hb_icmp_eq (tgt := 107) hx hb dX5_choiceOf_63 (by decide) hf (fun hf => ?_) (fun hf => ?_)
      · obtain ⟨y5_11, ey, hf⟩ := hlet_ex hf
        refine lv_iinc (v := y5_11) (lv' := [(5, .int y5_11), (0, .ref (ad (.inr 0))), (1, .ref (ad (.inr r0))), (2, .int p1), (4, .int v4_28)]) hx hb dX5_choiceOf_107 hl (k := 4) rfl (by rw [ey]; rfl) (by decide) rfl (fun ls hl => ?_)
        refine lv_goto (tgt := 28) hx hb dX5_choiceOf_110 (by decide) ?_
        exact kc (v4_28, y5_11) (Option.some.inj hf).symm H locs ls hM hS (lv_sub hl [1, 2, 3, 4, 0] rfl)
      · exact w_m_choiceOf_B66 ⟨hx, hb, hr, hml, hown, hts, hlocks, hK, hZ0, hA0⟩ hIx g r0 p1 p2 x1 v4_28 v5_28 x2 x3 h_r0 hf kc kx hM hS (lv_sub hl [0, 1, 2, 3, 4] rfl)
set_option maxHeartbeats 4000000 in
set_option maxRecDepth 100000 in
theorem w_m_choiceOf_B25 {p : Program} {l : Launch} {e : Env} {s : State} {m : MethodId} {args : Array Value} {below : List Frame} {meth : Method} {c : Code} {D : va_G} {C : Nat → Nat} {a0 : Array Value} {s0 : State} {ad : Rl → Nat} {so : Nat → Option hS} {t : hSt} {lt : Rl → Nat → Int64} (CX : hCx D C a0 s0 p s m args meth c cX5_choiceOf 6 RX5 (some .int)) (hIx : hI (hA s0) ad (Sum.elim so (mSH C))) (g : hSt) (r0 : Nat) (p1 : Int32) (p2 : Int32) (x1 : Int32) (h_r0 : mSH C r0 = some (.inl (C 0, 30, false))) {o : Int32} (hf : m_choiceOf_B25 g r0 p1 = some o) {H : Heap} {locs : List Loc} (hM : hW D vwCl ad (Sum.elim so (mSH C)) (Sum.elim t g) lt H) (hS : va_S (hA s0) s.heap H locs) {ls : Array Slot} (hl : lv_has ls 6 [(0, .ref (ad (.inr 0))), (1, .ref (ad (.inr r0))), (2, .int p1), (4, .int (-1 : Int32))]) : W p l e rm_m_choiceOf s m args below meth c H locs 0 0 (MQ below (va_Qi (fun (r : Int32) (_ : Unit) => r = o) (fun (_ : Unit) (U : State) => hW D vwCl ad (Sum.elim so (mSH C)) (Sum.elim t g) lt U.heap) (hA s0)) args s 0 0 (hA s0)) (F0 m 25 ls []) := by
  obtain ⟨hx, hb, hr, hml, hown, hts, hlocks, hK, hZ0, hA0⟩ := CX
  unfold m_choiceOf_B25 at hf
  refine lv_iconst (v := 0) hx hb dX5_choiceOf_25 (by decide) ?_
  refine lv_istore (lv' := [(5, .int (0 : Int32)), (0, .ref (ad (.inr 0))), (1, .ref (ad (.inr r0))), (2, .int p1), (4, .int (-1 : Int32))]) hx hb dX5_choiceOf_26 hl (by decide) rfl (fun ls hl => ?_)
  obtain ⟨x12, hq, hf⟩ := hbind hf
  refine w_m_choiceOf_L28 ⟨hx, hb, hr, hml, hown, hts, hlocks, hK, hZ0, hA0⟩ hIx g r0 p1 p2 x1 h_r0 x12 hFU ((-1 : Int32), (0 : Int32)) hq (fun H locs ls hM hS hl => ?_) H locs ls hM hS (lv_sub hl [1, 2, 3, 4, 0] rfl)
  refine lv_iload hx hb dX5_choiceOf_113 (lv_at hl 0 rfl) ?_
  have eo := Option.some.inj hf
  subst eo
  exact W.iret (v := x12) hx hb hr (fun T ht hW => ⟨⟨x12, (), rfl, rfl, by dsimp only; rw [ht]; exact hM⟩, hS.F ht⟩) hS.2.2 dX5_choiceOf_115
set_option maxHeartbeats 4000000 in
set_option maxRecDepth 100000 in
theorem w_m_choiceOf {p : Program} {l : Launch} {e : Env} {s : State} {m : MethodId} {args : Array Value} {below : List Frame} {meth : Method} {c : Code} {D : va_G} {C : Nat → Nat} {a0 : Array Value} {s0 : State} {ad : Rl → Nat} {so : Nat → Option hS} {t : hSt} {lt : Rl → Nat → Int64} (CX : hCx D C a0 s0 p s m args meth c cX5_choiceOf 6 RX5 (some .int)) (hIx : hI (hA s0) ad (Sum.elim so (mSH C))) (g : hSt) (r0 : Nat) (p1 : Int32) (p2 : Int32) (h_r0 : mSH C r0 = some (.inl (C 0, 30, false))) {o : Int32} (hf : m_choiceOf g r0 p1 p2 = some o) {H : Heap} {locs : List Loc} (hM : hW D vwCl ad (Sum.elim so (mSH C)) (Sum.elim t g) lt H) (hS : va_S (hA s0) s.heap H locs) {ls : Array Slot} (hl : lv_has ls 6 [(0, .ref (ad (.inr 0))), (1, .ref (ad (.inr r0))), (2, .int p1), (3, .int p2)]) : W p l e rm_m_choiceOf s m args below meth c H locs 0 0 (MQ below (va_Qi (fun (r : Int32) (_ : Unit) => r = o) (fun (_ : Unit) (U : State) => hW D vwCl ad (Sum.elim so (mSH C)) (Sum.elim t g) lt U.heap) (hA s0)) args s 0 0 (hA s0)) (F0 m 0 ls []) := by
  obtain ⟨hx, hb, hr, hml, hown, hts, hlocks, hK, hZ0, hA0⟩ := CX
  unfold m_choiceOf at hf
  refine lv_iconst (v := -1) hx hb dX5_choiceOf_0 (by decide) ?_
  refine lv_istore (lv' := [(4, .int (-1 : Int32)), (0, .ref (ad (.inr 0))), (1, .ref (ad (.inr r0))), (2, .int p1), (3, .int p2)]) hx hb dX5_choiceOf_1 hl (by decide) rfl (fun ls hl => ?_)
  refine lv_aload_n hx hb dX5_choiceOf_3 rfl (lv_at hl 1 rfl) ?_
  refine hr_get (ci := 5) (C := RX5) (T := TX5) (N := 55) (r := .inr 0) hx hb hts in_X5 hown hK hM mS_0 rfl 3 (by decide) (hts _ q1371) rfl (v := .ref (ad (.inr 4))) rfl dX5_choiceOf_4 ?_
  refine lv_iload_n hx hb dX5_choiceOf_7 rfl (lv_at hl 3 rfl) ?_
  refine hm_iald (r := 4) hx hb hK hM 0 mS_4 rfl hf dX5_choiceOf_8 (fun x1 hf => ?_)
  refine lv_iconst (v := 4) hx hb dX5_choiceOf_9 (by decide) ?_
  refine hb_icmp_ne (tgt := 25) hx hb dX5_choiceOf_10 (by decide) hf (fun hf => ?_) (fun hf => ?_)
  · exact w_m_choiceOf_B25 ⟨hx, hb, hr, hml, hown, hts, hlocks, hK, hZ0, hA0⟩ hIx g r0 p1 p2 x1 h_r0 hf hM hS (lv_sub hl [1, 2, 3, 0] rfl)
  · refine lv_iload_n hx hb dX5_choiceOf_13 rfl (lv_at hl 4 rfl) ?_
    refine lv_aload_n hx hb dX5_choiceOf_14 rfl (lv_at hl 1 rfl) ?_
    refine hr_get (ci := 5) (C := RX5) (T := TX5) (N := 55) (r := .inr 0) hx hb hts in_X5 hown hK hM mS_0 rfl 4 (by decide) (hts _ q1372) rfl (v := .ref (ad (.inr 5))) rfl dX5_choiceOf_15 ?_
    refine lv_iload_n hx hb dX5_choiceOf_18 rfl (lv_at hl 3 rfl) ?_
    refine hm_iald (r := 5) hx hb hK hM 0 mS_5 rfl hf dX5_choiceOf_19 (fun x13 hf => ?_)
    refine hb_icmp_ge (tgt := 25) hx hb dX5_choiceOf_20 (by decide) hf (fun hf => ?_) (fun hf => ?_)
    · exact w_m_choiceOf_B25 ⟨hx, hb, hr, hml, hown, hts, hlocks, hK, hZ0, hA0⟩ hIx g r0 p1 p2 x1 h_r0 hf hM hS (lv_sub hl [1, 2, 3, 0] rfl)
    · refine lv_iconst (v := -1) hx hb dX5_choiceOf_23 (by decide) ?_
      have eo := Option.some.inj hf
      subst eo
      exact W.iret (v := (-1 : Int32)) hx hb hr (fun T ht hW => ⟨⟨(-1 : Int32), (), rfl, rfl, by dsimp only; rw [ht]; exact hM⟩, hS.F ht⟩) hS.2.2 dX5_choiceOf_24
set_option maxHeartbeats 4000000 in
set_option maxRecDepth 100000 in
theorem met_m_choiceOf (l : Launch) (D : va_G) (C : Nat → Nat) (a0 : Array Value) (s0 : State) (ad : Rl → Nat) (so : Nat → Option hS) (t : hSt) (lt : Rl → Nat → Int64) (g : hSt) (r0 : Nat) (p1 : Int32) (p2 : Int32) (h_r0 : mSH C r0 = some (.inl (C 0, 30, false))) {o : Int32} (hf : m_choiceOf g r0 p1 p2 = some o) : Met l yX5_choiceOf (ws_ yX5_choiceOf cX5_choiceOf 6 (some .int)) rm_m_choiceOf (va_Pc [.ref (ad (.inr 0)), .ref (ad (.inr r0)), .int p1, .int p2] (hB D vwCl (hT C) (hA s0) (hZ a0 s0) ad (Sum.elim so (mSH C)) (Sum.elim t g) lt)) (va_Qi (fun (r : Int32) (_ : Unit) => r = o) (fun (_ : Unit) (U : State) => hW D vwCl ad (Sum.elim so (mSH C)) (Sum.elim t g) lt U.heap) (hA s0)) 0 0 (hA s0) := by
  refine Met.ofW (cc := cX5_choiceOf) (maxL := 6) (ret := (some .int)) (by decide) rfl ?_
  intro p e s m args below meth c s₁ B hml hv
  obtain ⟨rfl, hM, hIx, hK, hZ0, hA0⟩ := hv
  have hl := lv_entry ([.ref (ad (.inr 0)), .ref (ad (.inr r0)), .int p1, .int p2]) (n := 6) (Nat.le_of_ble_eq_true rfl)
  rw [lg_entry_eq]
  generalize (lg_sl ([.ref (ad (.inr 0)), .ref (ad (.inr r0)), .int p1, .int p2]) ++ List.replicate (6 - (lg_sl ([.ref (ad (.inr 0)), .ref (ad (.inr r0)), .int p1, .int p2])).length) Slot.unset).toArray = ls at hl ⊢
  have hl : lv_has ls 6 [(0, .ref (ad (.inr 0))), (1, .ref (ad (.inr r0))), (2, .int p1), (3, .int p2)] := hl
  exact w_m_choiceOf ⟨B.exec, B.bytes, B.returns, hml, findClass_of_methodNamed B.named, fun w h => atoms_spec (ws := ws_ yX5_choiceOf cX5_choiceOf 6 (some .int)) B.pre w (List.mem_cons_of_mem _ h), B.notSynchronized, hK, hZ0, hA0⟩ hIx g r0 p1 p2 h_r0 hf hM va_S.rf hl

def rm_m_whomOf : Room := { frames := 1, cells := 0, slots := 0, locals := 16 }
set_option maxHeartbeats 4000000 in
set_option maxRecDepth 100000 in
theorem w_m_whomOf_B53 {p : Program} {l : Launch} {e : Env} {s : State} {m : MethodId} {args : Array Value} {below : List Frame} {meth : Method} {c : Code} {D : va_G} {C : Nat → Nat} {a0 : Array Value} {s0 : State} {ad : Rl → Nat} {so : Nat → Option hS} {t : hSt} {lt : Rl → Nat → Int64} (CX : hCx D C a0 s0 p s m args meth c cX5_whomOf 4 RX5 (some .int)) (hIx : hI (hA s0) ad (Sum.elim so (mSH C))) (g : hSt) (r0 : Nat) (p1 : Int32) (p2 : Int32) (x1 : Int32) (h_r0 : mSH C r0 = some (.inl (C 0, 30, false))) {o : Int32} (hf : m_whomOf_B53 g p1 = some o) {H : Heap} {locs : List Loc} (hM : hW D vwCl ad (Sum.elim so (mSH C)) (Sum.elim t g) lt H) (hS : va_S (hA s0) s.heap H locs) {ls : Array Slot} (hl : lv_has ls 4 [(0, .ref (ad (.inr 0))), (2, .int p1)]) : W p l e rm_m_whomOf s m args below meth c H locs 0 0 (MQ below (va_Qi (fun (r : Int32) (_ : Unit) => r = o) (fun (_ : Unit) (U : State) => hW D vwCl ad (Sum.elim so (mSH C)) (Sum.elim t g) lt U.heap) (hA s0)) args s 0 0 (hA s0)) (F0 m 53 ls []) := by
  obtain ⟨hx, hb, hr, hml, hown, hts, hlocks, hK, hZ0, hA0⟩ := CX
  unfold m_whomOf_B53 at hf
  refine lv_iload_n hx hb dX5_whomOf_53 rfl (lv_at hl 1 rfl) ?_
  refine lv_iconst (v := 1) hx hb dX5_whomOf_54 (by decide) ?_
  refine lv_iadd hx hb dX5_whomOf_55 ?_
  refine lv_aload_n hx hb dX5_whomOf_56 rfl (lv_at hl 0 rfl) ?_
  refine hr_get (ci := 5) (C := RX5) (T := TX5) (N := 55) (r := .inr 0) hx hb hts in_X5 hown hK hM mS_0 rfl 2 (by decide) (hts _ q1370) rfl (v := .ref (ad (.inr 3))) rfl dX5_whomOf_57 ?_
  refine lv_iconst (v := 0) hx hb dX5_whomOf_60 (by decide) ?_
  refine hm_iald (r := 3) hx hb hK hM 0 mS_3 rfl hf dX5_whomOf_61 (fun x2 hf => ?_)
  obtain ⟨hne, hf⟩ := hif_n hf
  refine lv_irem hx hb dX5_whomOf_62 hne ?_
  have eo := Option.some.inj hf
  subst eo
  exact W.iret (v := ((p1 + (1 : Int32)) - (p1 + (1 : Int32)) / x2 * x2)) hx hb hr (fun T ht hW => ⟨⟨((p1 + (1 : Int32)) - (p1 + (1 : Int32)) / x2 * x2), (), rfl, rfl, by dsimp only; rw [ht]; exact hM⟩, hS.F ht⟩) hS.2.2 dX5_whomOf_63
set_option maxHeartbeats 4000000 in
set_option maxRecDepth 100000 in
theorem w_m_whomOf {p : Program} {l : Launch} {e : Env} {s : State} {m : MethodId} {args : Array Value} {below : List Frame} {meth : Method} {c : Code} {D : va_G} {C : Nat → Nat} {a0 : Array Value} {s0 : State} {ad : Rl → Nat} {so : Nat → Option hS} {t : hSt} {lt : Rl → Nat → Int64} (CX : hCx D C a0 s0 p s m args meth c cX5_whomOf 4 RX5 (some .int)) (hIx : hI (hA s0) ad (Sum.elim so (mSH C))) (g : hSt) (r0 : Nat) (p1 : Int32) (p2 : Int32) (h_r0 : mSH C r0 = some (.inl (C 0, 30, false))) {o : Int32} (hf : m_whomOf g r0 p1 p2 = some o) {H : Heap} {locs : List Loc} (hM : hW D vwCl ad (Sum.elim so (mSH C)) (Sum.elim t g) lt H) (hS : va_S (hA s0) s.heap H locs) {ls : Array Slot} (hl : lv_has ls 4 [(0, .ref (ad (.inr 0))), (1, .ref (ad (.inr r0))), (2, .int p1), (3, .int p2)]) : W p l e rm_m_whomOf s m args below meth c H locs 0 0 (MQ below (va_Qi (fun (r : Int32) (_ : Unit) => r = o) (fun (_ : Unit) (U : State) => hW D vwCl ad (Sum.elim so (mSH C)) (Sum.elim t g) lt U.heap) (hA s0)) args s 0 0 (hA s0)) (F0 m 0 ls []) := by
  obtain ⟨hx, hb, hr, hml, hown, hts, hlocks, hK, hZ0, hA0⟩ := CX
  unfold m_whomOf at hf
  refine lv_iload_n hx hb dX5_whomOf_0 rfl (lv_at hl 3 rfl) ?_
  refine lv_iconst (v := -1) hx hb dX5_whomOf_1 (by decide) ?_
  refine hb_icmp_eq (tgt := 7) hx hb dX5_whomOf_2 (by decide) hf (fun hf => ?_) (fun hf => ?_)
  · refine lv_aload_n hx hb dX5_whomOf_7 rfl (lv_at hl 0 rfl) ?_
    refine hr_get (ci := 5) (C := RX5) (T := TX5) (N := 55) (r := .inr 0) hx hb hts in_X5 hown hK hM mS_0 rfl 3 (by decide) (hts _ q1371) rfl (v := .ref (ad (.inr 4))) rfl dX5_whomOf_8 ?_
    refine lv_iload_n hx hb dX5_whomOf_11 rfl (lv_at hl 2 rfl) ?_
    refine hm_iald (r := 4) hx hb hK hM 0 mS_4 rfl hf dX5_whomOf_12 (fun x1 hf => ?_)
    refine lv_iconst (v := 3) hx hb dX5_whomOf_13 (by decide) ?_
    refine hb_icmp_ne (tgt := 53) hx hb dX5_whomOf_14 (by decide) hf (fun hf => ?_) (fun hf => ?_)
    · exact w_m_whomOf_B53 ⟨hx, hb, hr, hml, hown, hts, hlocks, hK, hZ0, hA0⟩ hIx g r0 p1 p2 x1 h_r0 hf hM hS (lv_sub hl [0, 2] rfl)
    · refine lv_aload_n hx hb dX5_whomOf_17 rfl (lv_at hl 0 rfl) ?_
      refine hr_get (ci := 5) (C := RX5) (T := TX5) (N := 55) (r := .inr 0) hx hb hts in_X5 hown hK hM mS_0 rfl 4 (by decide) (hts _ q1372) rfl (v := .ref (ad (.inr 5))) rfl dX5_whomOf_18 ?_
      refine lv_iload_n hx hb dX5_whomOf_21 rfl (lv_at hl 2 rfl) ?_
      refine hm_iald (r := 5) hx hb hK hM 0 mS_5 rfl hf dX5_whomOf_22 (fun x3 hf => ?_)
      refine lv_aload_n hx hb dX5_whomOf_23 rfl (lv_at hl 0 rfl) ?_
      refine hr_get (ci := 5) (C := RX5) (T := TX5) (N := 55) (r := .inr 0) hx hb hts in_X5 hown hK hM mS_0 rfl 2 (by decide) (hts _ q1370) rfl (v := .ref (ad (.inr 3))) rfl dX5_whomOf_24 ?_
      refine lv_iconst (v := 1) hx hb dX5_whomOf_27 (by decide) ?_
      refine hm_iald (r := 3) hx hb hK hM 0 mS_3 rfl hf dX5_whomOf_28 (fun x4 hf => ?_)
      refine hb_icmp_ge (tgt := 53) hx hb dX5_whomOf_29 (by decide) hf (fun hf => ?_) (fun hf => ?_)
      · exact w_m_whomOf_B53 ⟨hx, hb, hr, hml, hown, hts, hlocks, hK, hZ0, hA0⟩ hIx g r0 p1 p2 x1 h_r0 hf hM hS (lv_sub hl [0, 2] rfl)
      · refine lv_aload_n hx hb dX5_whomOf_32 rfl (lv_at hl 1 rfl) ?_
        refine lv_aload_n hx hb dX5_whomOf_33 rfl (lv_at hl 0 rfl) ?_
        refine hr_get (ci := 5) (C := RX5) (T := TX5) (N := 55) (r := .inr 0) hx hb hts in_X5 hown hK hM mS_0 rfl 4 (by decide) (hts _ q1372) rfl (v := .ref (ad (.inr 5))) rfl dX5_whomOf_34 ?_
        refine lv_iload_n hx hb dX5_whomOf_37 rfl (lv_at hl 2 rfl) ?_
        refine hm_iald (r := 5) hx hb hK hM 0 mS_5 rfl hf dX5_whomOf_38 (fun x5 hf => ?_)
        refine hm_iald (r := r0) hx hb hK hM 0 h_r0 rfl hf dX5_whomOf_39 (fun x6 hf => ?_)
        refine lv_iload_n hx hb dX5_whomOf_40 rfl (lv_at hl 2 rfl) ?_
        refine hb_icmp_eq (tgt := 53) hx hb dX5_whomOf_41 (by decide) hf (fun hf => ?_) (fun hf => ?_)
        · exact w_m_whomOf_B53 ⟨hx, hb, hr, hml, hown, hts, hlocks, hK, hZ0, hA0⟩ hIx g r0 p1 p2 x1 h_r0 hf hM hS (lv_sub hl [0, 2] rfl)
        · refine lv_aload_n hx hb dX5_whomOf_44 rfl (lv_at hl 1 rfl) ?_
          refine lv_aload_n hx hb dX5_whomOf_45 rfl (lv_at hl 0 rfl) ?_
          refine hr_get (ci := 5) (C := RX5) (T := TX5) (N := 55) (r := .inr 0) hx hb hts in_X5 hown hK hM mS_0 rfl 4 (by decide) (hts _ q1372) rfl (v := .ref (ad (.inr 5))) rfl dX5_whomOf_46 ?_
          refine lv_iload_n hx hb dX5_whomOf_49 rfl (lv_at hl 2 rfl) ?_
          refine hm_iald (r := 5) hx hb hK hM 0 mS_5 rfl hf dX5_whomOf_50 (fun x7 hf => ?_)
          refine hm_iald (r := r0) hx hb hK hM 0 h_r0 rfl hf dX5_whomOf_51 (fun x8 hf => ?_)
          have eo := Option.some.inj hf
          subst eo
          exact W.iret (v := x8) hx hb hr (fun T ht hW => ⟨⟨x8, (), rfl, rfl, by dsimp only; rw [ht]; exact hM⟩, hS.F ht⟩) hS.2.2 dX5_whomOf_52
  · refine lv_iload_n hx hb dX5_whomOf_5 rfl (lv_at hl 3 rfl) ?_
    have eo := Option.some.inj hf
    subst eo
    exact W.iret (v := p2) hx hb hr (fun T ht hW => ⟨⟨p2, (), rfl, rfl, by dsimp only; rw [ht]; exact hM⟩, hS.F ht⟩) hS.2.2 dX5_whomOf_6
set_option maxHeartbeats 4000000 in
set_option maxRecDepth 100000 in
theorem met_m_whomOf (l : Launch) (D : va_G) (C : Nat → Nat) (a0 : Array Value) (s0 : State) (ad : Rl → Nat) (so : Nat → Option hS) (t : hSt) (lt : Rl → Nat → Int64) (g : hSt) (r0 : Nat) (p1 : Int32) (p2 : Int32) (h_r0 : mSH C r0 = some (.inl (C 0, 30, false))) {o : Int32} (hf : m_whomOf g r0 p1 p2 = some o) : Met l yX5_whomOf (ws_ yX5_whomOf cX5_whomOf 4 (some .int)) rm_m_whomOf (va_Pc [.ref (ad (.inr 0)), .ref (ad (.inr r0)), .int p1, .int p2] (hB D vwCl (hT C) (hA s0) (hZ a0 s0) ad (Sum.elim so (mSH C)) (Sum.elim t g) lt)) (va_Qi (fun (r : Int32) (_ : Unit) => r = o) (fun (_ : Unit) (U : State) => hW D vwCl ad (Sum.elim so (mSH C)) (Sum.elim t g) lt U.heap) (hA s0)) 0 0 (hA s0) := by
  refine Met.ofW (cc := cX5_whomOf) (maxL := 4) (ret := (some .int)) (by decide) rfl ?_
  intro p e s m args below meth c s₁ B hml hv
  obtain ⟨rfl, hM, hIx, hK, hZ0, hA0⟩ := hv
  have hl := lv_entry ([.ref (ad (.inr 0)), .ref (ad (.inr r0)), .int p1, .int p2]) (n := 4) (Nat.le_of_ble_eq_true rfl)
  rw [lg_entry_eq]
  generalize (lg_sl ([.ref (ad (.inr 0)), .ref (ad (.inr r0)), .int p1, .int p2]) ++ List.replicate (4 - (lg_sl ([.ref (ad (.inr 0)), .ref (ad (.inr r0)), .int p1, .int p2])).length) Slot.unset).toArray = ls at hl ⊢
  have hl : lv_has ls 4 [(0, .ref (ad (.inr 0))), (1, .ref (ad (.inr r0))), (2, .int p1), (3, .int p2)] := hl
  exact w_m_whomOf ⟨B.exec, B.bytes, B.returns, hml, findClass_of_methodNamed B.named, fun w h => atoms_spec (ws := ws_ yX5_whomOf cX5_whomOf 4 (some .int)) B.pre w (List.mem_cons_of_mem _ h), B.notSynchronized, hK, hZ0, hA0⟩ hIx g r0 p1 p2 h_r0 hf hM va_S.rf hl

def rm_m_choice : Room := { frames := 11, cells := 0, slots := 0, locals := 131 }
set_option maxHeartbeats 4000000 in
set_option maxRecDepth 100000 in
theorem w_m_choice_B22 {p : Program} {l : Launch} {e : Env} {s : State} {m : MethodId} {args : Array Value} {below : List Frame} {meth : Method} {c : Code} {D : va_G} {C : Nat → Nat} {a0 : Array Value} {s0 : State} {ad : Rl → Nat} {so : Nat → Option hS} {t : hSt} {lt : Rl → Nat → Int64} (CX : hCx D C a0 s0 p s m args meth c cX5_choice 4 RX5 (some .int)) (hIx : hI (hA s0) ad (Sum.elim so (mSH C))) (g : hSt) (p0 : Int32) (p1 : Int32) (g1 : hSt) (y2 : Int32) {o : Int32 × hSt} (hf : m_choice_B22 g1 = some o) {H : Heap} {locs : List Loc} (hM : hW D vwCl ad (Sum.elim so (mSH C)) (Sum.elim t g1) lt H) (hS : va_S (hA s0) s.heap H locs) {ls : Array Slot} (hl : lv_has ls 4 [(0, .ref (ad (.inr 0)))]) : W p l e rm_m_choice s m args below meth c H locs 0 0 (MQ below (va_Qi (fun (r : Int32) (_ : Unit) => r = o.1) (fun (_ : Unit) (U : State) => hW D vwCl ad (Sum.elim so (mSH C)) (Sum.elim t o.2) lt U.heap) (hA s0)) args s 0 0 (hA s0)) (F0 m 22 ls []) := by
  obtain ⟨hx, hb, hr, hml, hown, hts, hlocks, hK, hZ0, hA0⟩ := CX
  unfold m_choice_B22 at hf
  refine lv_aload_n hx hb dX5_choice_22 rfl (lv_at hl 0 rfl) ?_
  refine lv_iconst (v := 1) hx hb dX5_choice_23 (by decide) ?_
  obtain ⟨y3, hq, hf⟩ := hbind hf
  refine hr_calli0 (va_runV (As := [.int (1 : Int32)]) (rest := []) ⟨hx, hb, hml, hown, hts⟩ (met_m_fail l D C a0 s0 ad so t lt g1 (1 : Int32) hq) (cwV 1 hts (lw_V q1547 q1549 qs33 q99 q1550) rfl rfl rfl (by decide +kernel) ⟨Nat.le_of_ble_eq_true rfl, Nat.le_of_ble_eq_true rfl⟩) (hr_preV hZ_c hM hIx hK hZ0 hA0 hS (r := .inr 0) mS_0 (q := (RX5, TX5, 55)) rfl) rfl rfl hl.1 rfl (lv_room (Nat.le_of_ble_eq_true rfl)) dX5_choice_24 ⟨Nat.le_of_ble_eq_true rfl, Nat.le_of_ble_eq_true rfl⟩) hS (fun H locs hM hS => ?_)
  have eo := Option.some.inj hf
  subst eo
  exact W.iret (v := y3.1) hx hb hr (fun T ht hW => ⟨⟨y3.1, (), rfl, rfl, by dsimp only; rw [ht]; exact hM⟩, hS.F ht⟩) hS.2.2 dX5_choice_27
set_option maxHeartbeats 4000000 in
set_option maxRecDepth 100000 in
theorem w_m_choice {p : Program} {l : Launch} {e : Env} {s : State} {m : MethodId} {args : Array Value} {below : List Frame} {meth : Method} {c : Code} {D : va_G} {C : Nat → Nat} {a0 : Array Value} {s0 : State} {ad : Rl → Nat} {so : Nat → Option hS} {t : hSt} {lt : Rl → Nat → Int64} (CX : hCx D C a0 s0 p s m args meth c cX5_choice 4 RX5 (some .int)) (hIx : hI (hA s0) ad (Sum.elim so (mSH C))) (g : hSt) (p0 : Int32) (p1 : Int32) {o : Int32 × hSt} (hf : m_choice g p0 p1 = some o) {H : Heap} {locs : List Loc} (hM : hW D vwCl ad (Sum.elim so (mSH C)) (Sum.elim t g) lt H) (hS : va_S (hA s0) s.heap H locs) {ls : Array Slot} (hl : lv_has ls 4 [(0, .ref (ad (.inr 0))), (1, .int p0), (2, .int p1)]) : W p l e rm_m_choice s m args below meth c H locs 0 0 (MQ below (va_Qi (fun (r : Int32) (_ : Unit) => r = o.1) (fun (_ : Unit) (U : State) => hW D vwCl ad (Sum.elim so (mSH C)) (Sum.elim t o.2) lt U.heap) (hA s0)) args s 0 0 (hA s0)) (F0 m 0 ls []) := by
  obtain ⟨hx, hb, hr, hml, hown, hts, hlocks, hK, hZ0, hA0⟩ := CX
  unfold m_choice at hf
  refine lv_aload_n hx hb dX5_choice_0 rfl (lv_at hl 0 rfl) ?_
  refine lv_iconst (v := 0) hx hb dX5_choice_1 (by decide) ?_
  refine hm_put (r := 0) (ci := 5) (C := RX5) (T := TX5) (N := 55) hx hb hts in_X5 tyX5 tyX5_ok nmX5 hown hK hM hIx hS mS_0 rfl 1 (by decide) (hts _ q1369) rfl rfl rfl hf dX5_choice_2 (fun g1 H locs hf hM hS => ?_)
  refine lv_aload_n hx hb dX5_choice_5 rfl (lv_at hl 0 rfl) ?_
  refine lv_iload_n hx hb dX5_choice_6 rfl (lv_at hl 1 rfl) ?_
  obtain ⟨y2, hq, hf⟩ := hbind hf
  refine hr_calli0 (va_runV (As := [.int p0]) (rest := []) ⟨hx, hb, hml, hown, hts⟩ (met_m_isPerson l D C a0 s0 ad so t lt g1 p0 hq) (cwV 1 hts (lw_V q1655 q1657 qs47 q99 q1658) rfl rfl rfl (by decide +kernel) ⟨Nat.le_of_ble_eq_true rfl, Nat.le_of_ble_eq_true rfl⟩) (hr_preV hZ_c hM hIx hK hZ0 hA0 hS (r := .inr 0) mS_0 (q := (RX5, TX5, 55)) rfl) rfl rfl hl.1 rfl (lv_room (Nat.le_of_ble_eq_true rfl)) dX5_choice_7 ⟨Nat.le_of_ble_eq_true rfl, Nat.le_of_ble_eq_true rfl⟩) hS (fun H locs hM hS => ?_)
  refine hb_if_eq (tgt := 22) hx hb dX5_choice_10 (by decide) hf (fun hf => ?_) (fun hf => ?_)
  · exact w_m_choice_B22 ⟨hx, hb, hr, hml, hown, hts, hlocks, hK, hZ0, hA0⟩ hIx g p0 p1 g1 y2 hf hM hS (lv_sub hl [0] rfl)
  · refine lv_iload_n hx hb dX5_choice_13 rfl (lv_at hl 2 rfl) ?_
    refine lv_iconst (v := 0) hx hb dX5_choice_14 (by decide) ?_
    refine lv_iconst (v := 2) hx hb dX5_choice_15 (by decide) ?_
    obtain ⟨y4, hq, hf⟩ := hbind hf
    refine hr_calli0 (va_runS (As := [.int p1, .int (0 : Int32), .int (2 : Int32)]) (rest := []) ⟨hx, hb, hml, hown, hts⟩ (met_m_isIn l D C a0 s0 ad so (Sum.elim t g1) lt p1 (0 : Int32) (2 : Int32) hq) (va_cwS 3 hts (lw_S q1648 q1649 q99 q1650) rfl rfl rfl (by decide +kernel) ⟨Nat.le_of_ble_eq_true rfl, Nat.le_of_ble_eq_true rfl⟩) (hr_preS hZ_c hM hIx hK hZ0 hA0 hS) rfl rfl hl.1 rfl (lv_room (Nat.le_of_ble_eq_true rfl)) dX5_choice_16 ⟨Nat.le_of_ble_eq_true rfl, Nat.le_of_ble_eq_true rfl⟩) hS (fun H locs hM hS => ?_)
    refine hb_if_ne (tgt := 28) hx hb dX5_choice_19 (by decide) hf (fun hf => ?_) (fun hf => ?_)
    · refine lv_aload_n hx hb dX5_choice_28 rfl (lv_at hl 0 rfl) ?_
      refine lv_aload_n hx hb dX5_choice_29 rfl (lv_at hl 0 rfl) ?_
      refine hr_get (ci := 5) (C := RX5) (T := TX5) (N := 55) (r := .inr 0) hx hb hts in_X5 hown hK hM mS_0 rfl 7 (by decide) (hts _ q1375) rfl (v := .ref (ad (.inr 8))) rfl dX5_choice_30 ?_
      refine lv_iload_n hx hb dX5_choice_33 rfl (lv_at hl 1 rfl) ?_
      refine lv_aload_n hx hb dX5_choice_34 rfl (lv_at hl 0 rfl) ?_
      refine hr_get (ci := 5) (C := RX5) (T := TX5) (N := 55) (r := .inr 0) hx hb hts in_X5 hown hK hM mS_0 rfl 12 (by decide) (hts _ q1380) rfl (v := .int (g1 0 12)) rfl dX5_choice_35 ?_
      obtain ⟨y5, hq, hf⟩ := hbind hf
      refine hr_calli0 (va_runV (As := [.ref (ad (.inr 8)), .int p0, .int (g1 0 12)]) (rest := []) ⟨hx, hb, hml, hown, hts⟩ (met_m_choiceOf l D C a0 s0 ad so t lt g1 8 p0 (g1 0 12) ms_8 hq) (cwV 3 hts (lw_V q1728 q1730 qs58 q99 q1731) rfl rfl rfl (by decide +kernel) ⟨Nat.le_of_ble_eq_true rfl, Nat.le_of_ble_eq_true rfl⟩) (hr_preV hZ_c hM hIx hK hZ0 hA0 hS (r := .inr 0) mS_0 (q := (RX5, TX5, 55)) rfl) rfl rfl hl.1 rfl (lv_room (Nat.le_of_ble_eq_true rfl)) dX5_choice_38 ⟨Nat.le_of_ble_eq_true rfl, Nat.le_of_ble_eq_true rfl⟩) hS (fun H locs hM hS => ?_)
      refine lv_istore_n (lv' := [(3, .int y5), (0, .ref (ad (.inr 0))), (1, .int p0), (2, .int p1)]) hx hb dX5_choice_41 rfl hl (by decide) rfl (fun ls hl => ?_)
      refine lv_iload_n hx hb dX5_choice_42 rfl (lv_at hl 0 rfl) ?_
      refine lv_iconst (v := -1) hx hb dX5_choice_43 (by decide) ?_
      refine hb_icmp_ne (tgt := 49) hx hb dX5_choice_44 (by decide) hf (fun hf => ?_) (fun hf => ?_)
      · refine lv_iload_n hx hb dX5_choice_49 rfl (lv_at hl 3 rfl) ?_
        refine hb_if_ne (tgt := 57) hx hb dX5_choice_50 (by decide) hf (fun hf => ?_) (fun hf => ?_)
        · refine lv_iload_n hx hb dX5_choice_57 rfl (lv_at hl 3 rfl) ?_
          refine lv_iconst (v := 1) hx hb dX5_choice_58 (by decide) ?_
          refine hb_icmp_ne (tgt := 84) hx hb dX5_choice_59 (by decide) hf (fun hf => ?_) (fun hf => ?_)
          · refine lv_aload_n hx hb dX5_choice_84 rfl (lv_at hl 1 rfl) ?_
            refine lv_aload_n hx hb dX5_choice_85 rfl (lv_at hl 1 rfl) ?_
            refine hr_get (ci := 5) (C := RX5) (T := TX5) (N := 55) (r := .inr 0) hx hb hts in_X5 hown hK hM mS_0 rfl 7 (by decide) (hts _ q1375) rfl (v := .ref (ad (.inr 8))) rfl dX5_choice_86 ?_
            refine lv_iload_n hx hb dX5_choice_89 rfl (lv_at hl 2 rfl) ?_
            refine lv_aload_n hx hb dX5_choice_90 rfl (lv_at hl 1 rfl) ?_
            refine hr_get (ci := 5) (C := RX5) (T := TX5) (N := 55) (r := .inr 0) hx hb hts in_X5 hown hK hM mS_0 rfl 7 (by decide) (hts _ q1375) rfl (v := .ref (ad (.inr 8))) rfl dX5_choice_91 ?_
            refine lv_bipush (v := 24) hx hb dX5_choice_94 (by decide) ?_
            refine lv_iload_n hx hb dX5_choice_96 rfl (lv_at hl 2 rfl) ?_
            refine lv_iadd hx hb dX5_choice_97 ?_
            refine hm_iald (r := 8) hx hb hK hM 0 mS_8 rfl hf dX5_choice_98 (fun x6 hf => ?_)
            obtain ⟨y7, hq, hf⟩ := hbind hf
            refine hr_calli0 (va_runV (As := [.ref (ad (.inr 8)), .int p0, .int x6]) (rest := []) ⟨hx, hb, hml, hown, hts⟩ (met_m_whomOf l D C a0 s0 ad so t lt g1 8 p0 x6 ms_8 hq) (cwV 3 hts (lw_V q1739 q1741 qs60 q99 q1742) rfl rfl rfl (by decide +kernel) ⟨Nat.le_of_ble_eq_true rfl, Nat.le_of_ble_eq_true rfl⟩) (hr_preV hZ_c hM hIx hK hZ0 hA0 hS (r := .inr 0) mS_0 (q := (RX5, TX5, 55)) rfl) rfl rfl hl.1 rfl (lv_room (Nat.le_of_ble_eq_true rfl)) dX5_choice_99 ⟨Nat.le_of_ble_eq_true rfl, Nat.le_of_ble_eq_true rfl⟩) hS (fun H locs hM hS => ?_)
            have eo := Option.some.inj hf
            subst eo
            exact W.iret (v := y7) hx hb hr (fun T ht hW => ⟨⟨y7, (), rfl, rfl, by dsimp only; rw [ht]; exact hM⟩, hS.F ht⟩) hS.2.2 dX5_choice_102
          · refine lv_aload_n hx hb dX5_choice_62 rfl (lv_at hl 1 rfl) ?_
            refine lv_aload_n hx hb dX5_choice_63 rfl (lv_at hl 1 rfl) ?_
            refine hr_get (ci := 5) (C := RX5) (T := TX5) (N := 55) (r := .inr 0) hx hb hts in_X5 hown hK hM mS_0 rfl 7 (by decide) (hts _ q1375) rfl (v := .ref (ad (.inr 8))) rfl dX5_choice_64 ?_
            refine lv_iload_n hx hb dX5_choice_67 rfl (lv_at hl 2 rfl) ?_
            refine lv_iload_n hx hb dX5_choice_68 rfl (lv_at hl 0 rfl) ?_
            refine lv_aload_n hx hb dX5_choice_69 rfl (lv_at hl 1 rfl) ?_
            refine hr_get (ci := 5) (C := RX5) (T := TX5) (N := 55) (r := .inr 0) hx hb hts in_X5 hown hK hM mS_0 rfl 7 (by decide) (hts _ q1375) rfl (v := .ref (ad (.inr 8))) rfl dX5_choice_70 ?_
            refine lv_bipush (v := 18) hx hb dX5_choice_73 (by decide) ?_
            refine lv_iload_n hx hb dX5_choice_75 rfl (lv_at hl 2 rfl) ?_
            refine lv_iadd hx hb dX5_choice_76 ?_
            refine hm_iald (r := 8) hx hb hK hM 0 mS_8 rfl hf dX5_choice_77 (fun x8 hf => ?_)
            obtain ⟨y9, hq, hf⟩ := hbind hf
            refine hr_calli0 (va_runV (As := [.ref (ad (.inr 8)), .int p0, .int y5, .int x8]) (rest := []) ⟨hx, hb, hml, hown, hts⟩ (met_m_sandFor l D C a0 s0 ad so t lt g1 8 p0 y5 x8 ms_8 hq) (cwV 4 hts (lw_V q1720 q1722 qs57 q99 q1723) rfl rfl rfl (by decide +kernel) ⟨Nat.le_of_ble_eq_true rfl, Nat.le_of_ble_eq_true rfl⟩) (hr_preV hZ_c hM hIx hK hZ0 hA0 hS (r := .inr 0) mS_0 (q := (RX5, TX5, 55)) rfl) rfl rfl hl.1 rfl (lv_room (Nat.le_of_ble_eq_true rfl)) dX5_choice_78 ⟨Nat.le_of_ble_eq_true rfl, Nat.le_of_ble_eq_true rfl⟩) hS (fun H locs hM hS => ?_)
            refine lv_goto (tgt := 102) hx hb dX5_choice_81 (by decide) ?_
            have eo := Option.some.inj hf
            subst eo
            exact W.iret (v := y9) hx hb hr (fun T ht hW => ⟨⟨y9, (), rfl, rfl, by dsimp only; rw [ht]; exact hM⟩, hS.F ht⟩) hS.2.2 dX5_choice_102
        · refine lv_iload_n hx hb dX5_choice_53 rfl (lv_at hl 0 rfl) ?_
          refine lv_goto (tgt := 102) hx hb dX5_choice_54 (by decide) ?_
          have eo := Option.some.inj hf
          subst eo
          exact W.iret (v := y5) hx hb hr (fun T ht hW => ⟨⟨y5, (), rfl, rfl, by dsimp only; rw [ht]; exact hM⟩, hS.F ht⟩) hS.2.2 dX5_choice_102
      · refine lv_iconst (v := -1) hx hb dX5_choice_47 (by decide) ?_
        have eo := Option.some.inj hf
        subst eo
        exact W.iret (v := (-1 : Int32)) hx hb hr (fun T ht hW => ⟨⟨(-1 : Int32), (), rfl, rfl, by dsimp only; rw [ht]; exact hM⟩, hS.F ht⟩) hS.2.2 dX5_choice_48
    · exact w_m_choice_B22 ⟨hx, hb, hr, hml, hown, hts, hlocks, hK, hZ0, hA0⟩ hIx g p0 p1 g1 y2 hf hM hS (lv_sub hl [0] rfl)
set_option maxHeartbeats 4000000 in
set_option maxRecDepth 100000 in
theorem met_m_choice (l : Launch) (D : va_G) (C : Nat → Nat) (a0 : Array Value) (s0 : State) (ad : Rl → Nat) (so : Nat → Option hS) (t : hSt) (lt : Rl → Nat → Int64) (g : hSt) (p0 : Int32) (p1 : Int32) {o : Int32 × hSt} (hf : m_choice g p0 p1 = some o) : Met l yX5_choice (ws_ yX5_choice cX5_choice 4 (some .int)) rm_m_choice (va_Pc [.ref (ad (.inr 0)), .int p0, .int p1] (hB D vwCl (hT C) (hA s0) (hZ a0 s0) ad (Sum.elim so (mSH C)) (Sum.elim t g) lt)) (va_Qi (fun (r : Int32) (_ : Unit) => r = o.1) (fun (_ : Unit) (U : State) => hW D vwCl ad (Sum.elim so (mSH C)) (Sum.elim t o.2) lt U.heap) (hA s0)) 0 0 (hA s0) := by
  refine Met.ofW (cc := cX5_choice) (maxL := 4) (ret := (some .int)) (by decide) rfl ?_
  intro p e s m args below meth c s₁ B hml hv
  obtain ⟨rfl, hM, hIx, hK, hZ0, hA0⟩ := hv
  have hl := lv_entry ([.ref (ad (.inr 0)), .int p0, .int p1]) (n := 4) (Nat.le_of_ble_eq_true rfl)
  rw [lg_entry_eq]
  generalize (lg_sl ([.ref (ad (.inr 0)), .int p0, .int p1]) ++ List.replicate (4 - (lg_sl ([.ref (ad (.inr 0)), .int p0, .int p1])).length) Slot.unset).toArray = ls at hl ⊢
  have hl : lv_has ls 4 [(0, .ref (ad (.inr 0))), (1, .int p0), (2, .int p1)] := hl
  exact w_m_choice ⟨B.exec, B.bytes, B.returns, hml, findClass_of_methodNamed B.named, fun w h => atoms_spec (ws := ws_ yX5_choice cX5_choice 4 (some .int)) B.pre w (List.mem_cons_of_mem _ h), B.notSynchronized, hK, hZ0, hA0⟩ hIx g p0 p1 hf hM va_S.rf hl

def rm_m_gap : Room := { frames := 5, cells := 0, slots := 0, locals := 61 }
set_option maxHeartbeats 4000000 in
set_option maxRecDepth 100000 in
theorem w_m_gap_B141 {p : Program} {l : Launch} {e : Env} {s : State} {m : MethodId} {args : Array Value} {below : List Frame} {meth : Method} {c : Code} {D : va_G} {C : Nat → Nat} {a0 : Array Value} {s0 : State} {ad : Rl → Nat} {so : Nat → Option hS} {t : hSt} {lt : Rl → Nat → Int64} (CX : hCx D C a0 s0 p s m args meth c cX5_gap 9 RX5 (some .int)) (hIx : hI (hA s0) ad (Sum.elim so (mSH C))) (g : hSt) (p0 : Int32) (g1 : hSt) (y2 : Int32) (x3 : Int32) (y4 : Int32) (v3_51 : Int32) (v5_51 : Int32) (x5 : Int32) (v3_80 : Int32) (v6_80 : Int32) (x6 : Int32) (y7 : Int32) (y7_8 : Int32) (x9 : Int32) (y8_10 : Int32) {oM : Int32 × hSt} {o : (Int32 × Int32) ⊕ (Int32)} (hf : m_gap_B141 v6_80 y8_10 = some o) (kc : ∀ s' : Int32 × Int32, o = .inl s' → ∀ (H : Heap) (locs : List Loc) (ls : Array Slot), hW D vwCl ad (Sum.elim so (mSH C)) (Sum.elim t g1) lt H → va_S (hA s0) s.heap H locs → lv_has ls 9 [(0, .ref (ad (.inr 0))), (1, .int p0), (2, .int x3), (3, .int s'.1), (4, .int y4), (5, .int v5_51), (6, .int s'.2)] → W p l e rm_m_gap s m args below meth c H locs 0 0 (MQ below (va_Qi (fun (r : Int32) (_ : Unit) => r = oM.1) (fun (_ : Unit) (U : State) => hW D vwCl ad (Sum.elim so (mSH C)) (Sum.elim t oM.2) lt U.heap) (hA s0)) args s 0 0 (hA s0)) (F0 m 80 ls [])) (kx : ∀ x' : Int32, o = .inr x' → ∀ (H : Heap) (locs : List Loc) (ls : Array Slot), hW D vwCl ad (Sum.elim so (mSH C)) (Sum.elim t g1) lt H → va_S (hA s0) s.heap H locs → lv_has ls 9 [(0, .ref (ad (.inr 0))), (1, .int p0), (2, .int x3), (3, .int x'), (4, .int y4), (5, .int v5_51)] → W p l e rm_m_gap s m args below meth c H locs 0 0 (MQ below (va_Qi (fun (r : Int32) (_ : Unit) => r = oM.1) (fun (_ : Unit) (U : State) => hW D vwCl ad (Sum.elim so (mSH C)) (Sum.elim t oM.2) lt U.heap) (hA s0)) args s 0 0 (hA s0)) (F0 m 150 ls [])) {H : Heap} {locs : List Loc} (hM : hW D vwCl ad (Sum.elim so (mSH C)) (Sum.elim t g1) lt H) (hS : va_S (hA s0) s.heap H locs) {ls : Array Slot} (hl : lv_has ls 9 [(0, .ref (ad (.inr 0))), (1, .int p0), (2, .int x3), (4, .int y4), (5, .int v5_51), (6, .int v6_80), (8, .int y8_10)]) : W p l e rm_m_gap s m args below meth c H locs 0 0 (MQ below (va_Qi (fun (r : Int32) (_ : Unit) => r = oM.1) (fun (_ : Unit) (U : State) => hW D vwCl ad (Sum.elim so (mSH C)) (Sum.elim t oM.2) lt U.heap) (hA s0)) args s 0 0 (hA s0)) (F0 m 141 ls []) := by
  obtain ⟨hx, hb, hr, hml, hown, hts, hlocks, hK, hZ0, hA0⟩ := CX
  unfold m_gap_B141 at hf
  refine lv_iload hx hb dX5_gap_141 (lv_at hl 6 rfl) ?_
  refine lv_istore_n (lv' := [(3, .int y8_10), (0, .ref (ad (.inr 0))), (1, .int p0), (2, .int x3), (4, .int y4), (5, .int v5_51), (6, .int v6_80), (8, .int y8_10)]) hx hb dX5_gap_143 rfl hl (by decide) rfl (fun ls hl => ?_)
  obtain ⟨y6_12, ey, hf⟩ := hlet_ex hf
  refine lv_iinc (v := y6_12) (lv' := [(6, .int y6_12), (3, .int y8_10), (0, .ref (ad (.inr 0))), (1, .int p0), (2, .int x3), (4, .int y4), (5, .int v5_51), (8, .int y8_10)]) hx hb dX5_gap_144 hl (k := 6) rfl (by rw [ey]; rfl) (by decide) rfl (fun ls hl => ?_)
  refine lv_goto (tgt := 80) hx hb dX5_gap_147 (by decide) ?_
  exact kc (y8_10, y6_12) (Option.some.inj hf).symm H locs ls hM hS (lv_sub hl [2, 3, 4, 1, 5, 6, 0] rfl)
set_option maxHeartbeats 4000000 in
set_option maxRecDepth 100000 in
theorem w_m_gap_L80 {p : Program} {l : Launch} {e : Env} {s : State} {m : MethodId} {args : Array Value} {below : List Frame} {meth : Method} {c : Code} {D : va_G} {C : Nat → Nat} {a0 : Array Value} {s0 : State} {ad : Rl → Nat} {so : Nat → Option hS} {t : hSt} {lt : Rl → Nat → Int64} (CX : hCx D C a0 s0 p s m args meth c cX5_gap 9 RX5 (some .int)) (hIx : hI (hA s0) ad (Sum.elim so (mSH C))) (g : hSt) (p0 : Int32) (g1 : hSt) (y2 : Int32) (x3 : Int32) (y4 : Int32) (v3_51 : Int32) (v5_51 : Int32) (x5 : Int32) {oM : Int32 × hSt} (x : Int32) (n : Nat) (q0 : Int32 × Int32) (h0 : hiter (fun q : Int32 × Int32 => m_gap_L80 p0 g1 x3 v5_51 q.1 q.2) n q0 = some x) (kx0 : ∀ (H : Heap) (locs : List Loc) (ls : Array Slot), hW D vwCl ad (Sum.elim so (mSH C)) (Sum.elim t g1) lt H → va_S (hA s0) s.heap H locs → lv_has ls 9 [(0, .ref (ad (.inr 0))), (1, .int p0), (2, .int x3), (3, .int x), (4, .int y4), (5, .int v5_51)] → W p l e rm_m_gap s m args below meth c H locs 0 0 (MQ below (va_Qi (fun (r : Int32) (_ : Unit) => r = oM.1) (fun (_ : Unit) (U : State) => hW D vwCl ad (Sum.elim so (mSH C)) (Sum.elim t oM.2) lt U.heap) (hA s0)) args s 0 0 (hA s0)) (F0 m 150 ls [])) : ∀ (H : Heap) (locs : List Loc) (ls : Array Slot), hW D vwCl ad (Sum.elim so (mSH C)) (Sum.elim t g1) lt H → va_S (hA s0) s.heap H locs → lv_has ls 9 [(0, .ref (ad (.inr 0))), (1, .int p0), (2, .int x3), (3, .int q0.1), (4, .int y4), (5, .int v5_51), (6, .int q0.2)] → W p l e rm_m_gap s m args below meth c H locs 0 0 (MQ below (va_Qi (fun (r : Int32) (_ : Unit) => r = oM.1) (fun (_ : Unit) (U : State) => hW D vwCl ad (Sum.elim so (mSH C)) (Sum.elim t oM.2) lt U.heap) (hA s0)) args s 0 0 (hA s0)) (F0 m 80 ls []) := by
  obtain ⟨hx, hb, hr, hml, hown, hts, hlocks, hK, hZ0, hA0⟩ := CX
  refine hiter_W (Wh := fun q => ∀ (H : Heap) (locs : List Loc) (ls : Array Slot), hW D vwCl ad (Sum.elim so (mSH C)) (Sum.elim t g1) lt H → va_S (hA s0) s.heap H locs → lv_has ls 9 [(0, .ref (ad (.inr 0))), (1, .int p0), (2, .int x3), (3, .int q.1), (4, .int y4), (5, .int v5_51), (6, .int q.2)] → W p l e rm_m_gap s m args below meth c H locs 0 0 (MQ below (va_Qi (fun (r : Int32) (_ : Unit) => r = oM.1) (fun (_ : Unit) (U : State) => hW D vwCl ad (Sum.elim so (mSH C)) (Sum.elim t oM.2) lt U.heap) (hA s0)) args s 0 0 (hA s0)) (F0 m 80 ls [])) ?_ n q0 h0
  intro q o hf kc kx1 H locs ls hM hS hl
  obtain ⟨v3_80, v6_80⟩ := q
  replace hf : m_gap_L80 p0 g1 x3 v5_51 v3_80 v6_80 = some o := hf
  have kx : ∀ x' : Int32, o = .inr x' → ∀ (H : Heap) (locs : List Loc) (ls : Array Slot), hW D vwCl ad (Sum.elim so (mSH C)) (Sum.elim t g1) lt H → va_S (hA s0) s.heap H locs → lv_has ls 9 [(0, .ref (ad (.inr 0))), (1, .int p0), (2, .int x3), (3, .int x'), (4, .int y4), (5, .int v5_51)] → W p l e rm_m_gap s m args below meth c H locs 0 0 (MQ below (va_Qi (fun (r : Int32) (_ : Unit) => r = oM.1) (fun (_ : Unit) (U : State) => hW D vwCl ad (Sum.elim so (mSH C)) (Sum.elim t oM.2) lt U.heap) (hA s0)) args s 0 0 (hA s0)) (F0 m 150 ls []) := fun x' ex => by rw [kx1 _ ex]; exact kx0
  unfold m_gap_L80 at hf
  refine lv_iload hx hb dX5_gap_80 (lv_at hl 6 rfl) ?_
  refine lv_aload_n hx hb dX5_gap_82 rfl (lv_at hl 0 rfl) ?_
  refine hr_get (ci := 5) (C := RX5) (T := TX5) (N := 55) (r := .inr 0) hx hb hts in_X5 hown hK hM mS_0 rfl 7 (by decide) (hts _ q1375) rfl (v := .ref (ad (.inr 8))) rfl dX5_gap_83 ?_
  refine lv_bipush (v := 12) hx hb dX5_gap_86 (by decide) ?_
  refine lv_iload_n hx hb dX5_gap_88 rfl (lv_at hl 1 rfl) ?_
  refine lv_iadd hx hb dX5_gap_89 ?_
  refine hm_iald (r := 8) hx hb hK hM 0 mS_8 rfl hf dX5_gap_90 (fun x6 hf => ?_)
  refine hb_icmp_gt (tgt := 150) hx hb dX5_gap_91 (by decide) hf (fun hf => ?_) (fun hf => ?_)
  · exact kx v3_80 (Option.some.inj hf).symm H locs ls hM hS (lv_sub hl [0, 1, 2, 3, 4, 5] rfl)
  · refine lv_aload_n hx hb dX5_gap_94 rfl (lv_at hl 0 rfl) ?_
    refine lv_iload hx hb dX5_gap_95 (lv_at hl 5 rfl) ?_
    obtain ⟨y7, hq, hf⟩ := hbind hf
    refine hr_calli0 (va_runV (As := [.int v5_51]) (rest := []) ⟨hx, hb, hml, hown, hts⟩ (met_m_weightOf l D C a0 s0 ad so t lt g1 v5_51 hq) (cwV 1 hts (lw_V q1667 q1669 qs50 q99 q1670) rfl rfl rfl (by decide +kernel) ⟨Nat.le_of_ble_eq_true rfl, Nat.le_of_ble_eq_true rfl⟩) (hr_preV hZ_c hM hIx hK hZ0 hA0 hS (r := .inr 0) mS_0 (q := (RX5, TX5, 55)) rfl) rfl rfl hl.1 rfl (lv_room (Nat.le_of_ble_eq_true rfl)) dX5_gap_97 ⟨Nat.le_of_ble_eq_true rfl, Nat.le_of_ble_eq_true rfl⟩) hS (fun H locs hM hS => ?_)
    refine lv_iload hx hb dX5_gap_100 (lv_at hl 6 rfl) ?_
    refine lv_iadd hx hb dX5_gap_102 ?_
    refine hb_top hf (fun y7_8 hf => ?_)
    refine lv_istore (lv' := [(7, .int y7_8), (0, .ref (ad (.inr 0))), (1, .int p0), (2, .int x3), (3, .int v3_80), (4, .int y4), (5, .int v5_51), (6, .int v6_80)]) hx hb dX5_gap_103 hl (by decide) rfl (fun ls hl => ?_)
    refine lv_iconst (v := 0) hx hb dX5_gap_105 (by decide) ?_
    refine lv_iload hx hb dX5_gap_106 (lv_at hl 0 rfl) ?_
    refine lv_iload_n hx hb dX5_gap_108 rfl (lv_at hl 3 rfl) ?_
    refine lv_isub hx hb dX5_gap_109 ?_
    refine va_mabs hx hb (by rw [hml]; exact hl.1.symm) hown (hts _ q1747) (hts _ q1245) (hts _ q90) (hts _ q1246) (Nat.le_of_ble_eq_true rfl) (Nat.le_of_ble_eq_true rfl) (Nat.le_of_ble_eq_true rfl) (Nat.le_of_ble_eq_true rfl) dX5_gap_110 ?_
    refine lv_aload_n hx hb dX5_gap_113 rfl (lv_at hl 1 rfl) ?_
    refine hr_get (ci := 5) (C := RX5) (T := TX5) (N := 55) (r := .inr 0) hx hb hts in_X5 hown hK hM mS_0 rfl 2 (by decide) (hts _ q1370) rfl (v := .ref (ad (.inr 3))) rfl dX5_gap_114 ?_
    refine lv_iconst (v := 3) hx hb dX5_gap_117 (by decide) ?_
    refine hm_iald (r := 3) hx hb hK hM 0 mS_3 rfl hf dX5_gap_118 (fun x9 hf => ?_)
    refine lv_isub hx hb dX5_gap_119 ?_
    refine va_mmax hx hb (by rw [hml]; exact hl.1.symm) hown (hts _ q1691) (hts _ q240) (hts _ q90) (hts _ q241) (Nat.le_of_ble_eq_true rfl) (Nat.le_of_ble_eq_true rfl) (Nat.le_of_ble_eq_true rfl) (Nat.le_of_ble_eq_true rfl) dX5_gap_120 ?_
    refine hb_top hf (fun y8_10 hf => ?_)
    refine lv_istore (lv' := [(8, .int y8_10), (7, .int y7_8), (0, .ref (ad (.inr 0))), (1, .int p0), (2, .int x3), (3, .int v3_80), (4, .int y4), (5, .int v5_51), (6, .int v6_80)]) hx hb dX5_gap_123 hl (by decide) rfl (fun ls hl => ?_)
    refine lv_iload hx hb dX5_gap_125 (lv_at hl 1 rfl) ?_
    refine hb_if_le (tgt := 144) hx hb dX5_gap_127 (by decide) hf (fun hf => ?_) (fun hf => ?_)
    · obtain ⟨y6_11, ey, hf⟩ := hlet_ex hf
      refine lv_iinc (v := y6_11) (lv' := [(6, .int y6_11), (8, .int y8_10), (7, .int y7_8), (0, .ref (ad (.inr 0))), (1, .int p0), (2, .int x3), (3, .int v3_80), (4, .int y4), (5, .int v5_51)]) hx hb dX5_gap_144 hl (k := 8) rfl (by rw [ey]; rfl) (by decide) rfl (fun ls hl => ?_)
      refine lv_goto (tgt := 80) hx hb dX5_gap_147 (by decide) ?_
      exact kc (v3_80, y6_11) (Option.some.inj hf).symm H locs ls hM hS (lv_sub hl [3, 4, 5, 6, 7, 8, 0] rfl)
    · refine lv_iload_n hx hb dX5_gap_130 rfl (lv_at hl 5 rfl) ?_
      refine lv_iconst (v := -1) hx hb dX5_gap_131 (by decide) ?_
      refine hb_icmp_eq (tgt := 141) hx hb dX5_gap_132 (by decide) hf (fun hf => ?_) (fun hf => ?_)
      · exact w_m_gap_B141 ⟨hx, hb, hr, hml, hown, hts, hlocks, hK, hZ0, hA0⟩ hIx g p0 g1 y2 x3 y4 v3_51 v5_51 x5 v3_80 v6_80 x6 y7 y7_8 x9 y8_10 hf kc kx hM hS (lv_sub hl [2, 3, 4, 6, 7, 8, 0] rfl)
      · refine lv_iload hx hb dX5_gap_135 (lv_at hl 0 rfl) ?_
        refine lv_iload_n hx hb dX5_gap_137 rfl (lv_at hl 5 rfl) ?_
        refine hb_icmp_ge (tgt := 144) hx hb dX5_gap_138 (by decide) hf (fun hf => ?_) (fun hf => ?_)
        · obtain ⟨y6_13, ey, hf⟩ := hlet_ex hf
          refine lv_iinc (v := y6_13) (lv' := [(6, .int y6_13), (8, .int y8_10), (7, .int y7_8), (0, .ref (ad (.inr 0))), (1, .int p0), (2, .int x3), (3, .int v3_80), (4, .int y4), (5, .int v5_51)]) hx hb dX5_gap_144 hl (k := 8) rfl (by rw [ey]; rfl) (by decide) rfl (fun ls hl => ?_)
          refine lv_goto (tgt := 80) hx hb dX5_gap_147 (by decide) ?_
          exact kc (v3_80, y6_13) (Option.some.inj hf).symm H locs ls hM hS (lv_sub hl [3, 4, 5, 6, 7, 8, 0] rfl)
        · exact w_m_gap_B141 ⟨hx, hb, hr, hml, hown, hts, hlocks, hK, hZ0, hA0⟩ hIx g p0 g1 y2 x3 y4 v3_51 v5_51 x5 v3_80 v6_80 x6 y7 y7_8 x9 y8_10 hf kc kx hM hS (lv_sub hl [2, 3, 4, 6, 7, 8, 0] rfl)
set_option maxHeartbeats 4000000 in
set_option maxRecDepth 100000 in
theorem w_m_gap_L51 {p : Program} {l : Launch} {e : Env} {s : State} {m : MethodId} {args : Array Value} {below : List Frame} {meth : Method} {c : Code} {D : va_G} {C : Nat → Nat} {a0 : Array Value} {s0 : State} {ad : Rl → Nat} {so : Nat → Option hS} {t : hSt} {lt : Rl → Nat → Int64} (CX : hCx D C a0 s0 p s m args meth c cX5_gap 9 RX5 (some .int)) (hIx : hI (hA s0) ad (Sum.elim so (mSH C))) (g : hSt) (p0 : Int32) (g1 : hSt) (y2 : Int32) (x3 : Int32) (y4 : Int32) {oM : Int32 × hSt} (x : Int32) (n : Nat) (q0 : Int32 × Int32) (h0 : hiter (fun q : Int32 × Int32 => m_gap_L51 p0 g1 x3 y4 q.1 q.2) n q0 = some x) (kx0 : ∀ (H : Heap) (locs : List Loc) (ls : Array Slot), hW D vwCl ad (Sum.elim so (mSH C)) (Sum.elim t g1) lt H → va_S (hA s0) s.heap H locs → lv_has ls 9 [(2, .int x3), (3, .int x)] → W p l e rm_m_gap s m args below meth c H locs 0 0 (MQ below (va_Qi (fun (r : Int32) (_ : Unit) => r = oM.1) (fun (_ : Unit) (U : State) => hW D vwCl ad (Sum.elim so (mSH C)) (Sum.elim t oM.2) lt U.heap) (hA s0)) args s 0 0 (hA s0)) (F0 m 156 ls [])) : ∀ (H : Heap) (locs : List Loc) (ls : Array Slot), hW D vwCl ad (Sum.elim so (mSH C)) (Sum.elim t g1) lt H → va_S (hA s0) s.heap H locs → lv_has ls 9 [(0, .ref (ad (.inr 0))), (1, .int p0), (2, .int x3), (3, .int q0.1), (4, .int y4), (5, .int q0.2)] → W p l e rm_m_gap s m args below meth c H locs 0 0 (MQ below (va_Qi (fun (r : Int32) (_ : Unit) => r = oM.1) (fun (_ : Unit) (U : State) => hW D vwCl ad (Sum.elim so (mSH C)) (Sum.elim t oM.2) lt U.heap) (hA s0)) args s 0 0 (hA s0)) (F0 m 51 ls []) := by
  obtain ⟨hx, hb, hr, hml, hown, hts, hlocks, hK, hZ0, hA0⟩ := CX
  refine hiter_W (Wh := fun q => ∀ (H : Heap) (locs : List Loc) (ls : Array Slot), hW D vwCl ad (Sum.elim so (mSH C)) (Sum.elim t g1) lt H → va_S (hA s0) s.heap H locs → lv_has ls 9 [(0, .ref (ad (.inr 0))), (1, .int p0), (2, .int x3), (3, .int q.1), (4, .int y4), (5, .int q.2)] → W p l e rm_m_gap s m args below meth c H locs 0 0 (MQ below (va_Qi (fun (r : Int32) (_ : Unit) => r = oM.1) (fun (_ : Unit) (U : State) => hW D vwCl ad (Sum.elim so (mSH C)) (Sum.elim t oM.2) lt U.heap) (hA s0)) args s 0 0 (hA s0)) (F0 m 51 ls [])) ?_ n q0 h0
  intro q o hf kc kx1 H locs ls hM hS hl
  obtain ⟨v3_51, v5_51⟩ := q
  replace hf : m_gap_L51 p0 g1 x3 y4 v3_51 v5_51 = some o := hf
  have kx : ∀ x' : Int32, o = .inr x' → ∀ (H : Heap) (locs : List Loc) (ls : Array Slot), hW D vwCl ad (Sum.elim so (mSH C)) (Sum.elim t g1) lt H → va_S (hA s0) s.heap H locs → lv_has ls 9 [(2, .int x3), (3, .int x')] → W p l e rm_m_gap s m args below meth c H locs 0 0 (MQ below (va_Qi (fun (r : Int32) (_ : Unit) => r = oM.1) (fun (_ : Unit) (U : State) => hW D vwCl ad (Sum.elim so (mSH C)) (Sum.elim t oM.2) lt U.heap) (hA s0)) args s 0 0 (hA s0)) (F0 m 156 ls []) := fun x' ex => by rw [kx1 _ ex]; exact kx0
  unfold m_gap_L51 at hf
  refine lv_iload hx hb dX5_gap_51 (lv_at hl 5 rfl) ?_
  refine lv_iconst (v := 1) hx hb dX5_gap_53 (by decide) ?_
  refine lv_aload_n hx hb dX5_gap_54 rfl (lv_at hl 0 rfl) ?_
  refine hr_get (ci := 5) (C := RX5) (T := TX5) (N := 55) (r := .inr 0) hx hb hts in_X5 hown hK hM mS_0 rfl 2 (by decide) (hts _ q1370) rfl (v := .ref (ad (.inr 3))) rfl dX5_gap_55 ?_
  refine lv_iconst (v := 1) hx hb dX5_gap_58 (by decide) ?_
  refine hm_iald (r := 3) hx hb hK hM 0 mS_3 rfl hf dX5_gap_59 (fun x5 hf => ?_)
  refine lv_ishl hx hb dX5_gap_60 ?_
  refine hb_icmp_ge (tgt := 156) hx hb dX5_gap_61 (by decide) hf (fun hf => ?_) (fun hf => ?_)
  · exact kx v3_51 (Option.some.inj hf).symm H locs ls hM hS (lv_sub hl [2, 3] rfl)
  · refine lv_iload hx hb dX5_gap_64 (lv_at hl 5 rfl) ?_
    refine lv_iload hx hb dX5_gap_66 (lv_at hl 4 rfl) ?_
    refine lv_iconst (v := -1) hx hb dX5_gap_68 (by decide) ?_
    refine lv_ixor hx hb dX5_gap_69 ?_
    refine lv_iand hx hb dX5_gap_70 ?_
    refine hb_if_eq (tgt := 77) hx hb dX5_gap_71 (by decide) hf (fun hf => ?_) (fun hf => ?_)
    · refine lv_iconst (v := 0) hx hb dX5_gap_77 (by decide) ?_
      refine lv_istore (lv' := [(6, .int (0 : Int32)), (0, .ref (ad (.inr 0))), (1, .int p0), (2, .int x3), (3, .int v3_51), (4, .int y4), (5, .int v5_51)]) hx hb dX5_gap_78 hl (by decide) rfl (fun ls hl => ?_)
      obtain ⟨x14, hq, hf⟩ := hbind hf
      refine w_m_gap_L80 ⟨hx, hb, hr, hml, hown, hts, hlocks, hK, hZ0, hA0⟩ hIx g p0 g1 y2 x3 y4 v3_51 v5_51 x5 x14 hFU (v3_51, (0 : Int32)) hq (fun H locs ls hM hS hl => ?_) H locs ls hM hS (lv_sub hl [1, 2, 3, 4, 5, 6, 0] rfl)
      obtain ⟨y5_15, ey, hf⟩ := hlet_ex hf
      refine lv_iinc (v := y5_15) (lv' := [(5, .int y5_15), (0, .ref (ad (.inr 0))), (1, .int p0), (2, .int x3), (3, .int x14), (4, .int y4)]) hx hb dX5_gap_150 hl (k := 5) rfl (by rw [ey]; rfl) (by decide) rfl (fun ls hl => ?_)
      refine lv_goto (tgt := 51) hx hb dX5_gap_153 (by decide) ?_
      exact kc (x14, y5_15) (Option.some.inj hf).symm H locs ls hM hS (lv_sub hl [1, 2, 3, 4, 5, 0] rfl)
    · refine lv_goto (tgt := 150) hx hb dX5_gap_74 (by decide) ?_
      obtain ⟨y5_16, ey, hf⟩ := hlet_ex hf
      refine lv_iinc (v := y5_16) (lv' := [(5, .int y5_16), (0, .ref (ad (.inr 0))), (1, .int p0), (2, .int x3), (3, .int v3_51), (4, .int y4)]) hx hb dX5_gap_150 hl (k := 5) rfl (by rw [ey]; rfl) (by decide) rfl (fun ls hl => ?_)
      refine lv_goto (tgt := 51) hx hb dX5_gap_153 (by decide) ?_
      exact kc (v3_51, y5_16) (Option.some.inj hf).symm H locs ls hM hS (lv_sub hl [1, 2, 3, 4, 5, 0] rfl)
set_option maxHeartbeats 4000000 in
set_option maxRecDepth 100000 in
theorem w_m_gap {p : Program} {l : Launch} {e : Env} {s : State} {m : MethodId} {args : Array Value} {below : List Frame} {meth : Method} {c : Code} {D : va_G} {C : Nat → Nat} {a0 : Array Value} {s0 : State} {ad : Rl → Nat} {so : Nat → Option hS} {t : hSt} {lt : Rl → Nat → Int64} (CX : hCx D C a0 s0 p s m args meth c cX5_gap 9 RX5 (some .int)) (hIx : hI (hA s0) ad (Sum.elim so (mSH C))) (g : hSt) (p0 : Int32) {o : Int32 × hSt} (hf : m_gap g p0 = some o) {H : Heap} {locs : List Loc} (hM : hW D vwCl ad (Sum.elim so (mSH C)) (Sum.elim t g) lt H) (hS : va_S (hA s0) s.heap H locs) {ls : Array Slot} (hl : lv_has ls 9 [(0, .ref (ad (.inr 0))), (1, .int p0)]) : W p l e rm_m_gap s m args below meth c H locs 0 0 (MQ below (va_Qi (fun (r : Int32) (_ : Unit) => r = o.1) (fun (_ : Unit) (U : State) => hW D vwCl ad (Sum.elim so (mSH C)) (Sum.elim t o.2) lt U.heap) (hA s0)) args s 0 0 (hA s0)) (F0 m 0 ls []) := by
  obtain ⟨hx, hb, hr, hml, hown, hts, hlocks, hK, hZ0, hA0⟩ := CX
  unfold m_gap at hf
  refine lv_aload_n hx hb dX5_gap_0 rfl (lv_at hl 0 rfl) ?_
  refine lv_iconst (v := 0) hx hb dX5_gap_1 (by decide) ?_
  refine hm_put (r := 0) (ci := 5) (C := RX5) (T := TX5) (N := 55) hx hb hts in_X5 tyX5 tyX5_ok nmX5 hown hK hM hIx hS mS_0 rfl 1 (by decide) (hts _ q1369) rfl rfl rfl hf dX5_gap_2 (fun g1 H locs hf hM hS => ?_)
  refine lv_aload_n hx hb dX5_gap_5 rfl (lv_at hl 0 rfl) ?_
  refine lv_iload_n hx hb dX5_gap_6 rfl (lv_at hl 1 rfl) ?_
  obtain ⟨y2, hq, hf⟩ := hbind hf
  refine hr_calli0 (va_runV (As := [.int p0]) (rest := []) ⟨hx, hb, hml, hown, hts⟩ (met_m_isPerson l D C a0 s0 ad so t lt g1 p0 hq) (cwV 1 hts (lw_V q1655 q1657 qs47 q99 q1658) rfl rfl rfl (by decide +kernel) ⟨Nat.le_of_ble_eq_true rfl, Nat.le_of_ble_eq_true rfl⟩) (hr_preV hZ_c hM hIx hK hZ0 hA0 hS (r := .inr 0) mS_0 (q := (RX5, TX5, 55)) rfl) rfl rfl hl.1 rfl (lv_room (Nat.le_of_ble_eq_true rfl)) dX5_gap_7 ⟨Nat.le_of_ble_eq_true rfl, Nat.le_of_ble_eq_true rfl⟩) hS (fun H locs hM hS => ?_)
  refine hb_if_ne (tgt := 19) hx hb dX5_gap_10 (by decide) hf (fun hf => ?_) (fun hf => ?_)
  · refine lv_aload_n hx hb dX5_gap_19 rfl (lv_at hl 0 rfl) ?_
    refine hr_get (ci := 5) (C := RX5) (T := TX5) (N := 55) (r := .inr 0) hx hb hts in_X5 hown hK hM mS_0 rfl 7 (by decide) (hts _ q1375) rfl (v := .ref (ad (.inr 8))) rfl dX5_gap_20 ?_
    refine lv_bipush (v := 18) hx hb dX5_gap_23 (by decide) ?_
    refine lv_iload_n hx hb dX5_gap_25 rfl (lv_at hl 1 rfl) ?_
    refine lv_iadd hx hb dX5_gap_26 ?_
    refine hm_iald (r := 8) hx hb hK hM 0 mS_8 rfl hf dX5_gap_27 (fun x3 hf => ?_)
    refine lv_istore_n (lv' := [(2, .int x3), (0, .ref (ad (.inr 0))), (1, .int p0)]) hx hb dX5_gap_28 rfl hl (by decide) rfl (fun ls hl => ?_)
    refine lv_iload_n hx hb dX5_gap_29 rfl (lv_at hl 0 rfl) ?_
    refine hb_if_ne (tgt := 35) hx hb dX5_gap_30 (by decide) hf (fun hf => ?_) (fun hf => ?_)
    · refine lv_iconst (v := -1) hx hb dX5_gap_35 (by decide) ?_
      refine lv_istore_n (lv' := [(3, .int (-1 : Int32)), (2, .int x3), (0, .ref (ad (.inr 0))), (1, .int p0)]) hx hb dX5_gap_36 rfl hl (by decide) rfl (fun ls hl => ?_)
      refine lv_aload_n hx hb dX5_gap_37 rfl (lv_at hl 2 rfl) ?_
      refine lv_aload_n hx hb dX5_gap_38 rfl (lv_at hl 2 rfl) ?_
      refine hr_get (ci := 5) (C := RX5) (T := TX5) (N := 55) (r := .inr 0) hx hb hts in_X5 hown hK hM mS_0 rfl 7 (by decide) (hts _ q1375) rfl (v := .ref (ad (.inr 8))) rfl dX5_gap_39 ?_
      refine lv_iload_n hx hb dX5_gap_42 rfl (lv_at hl 3 rfl) ?_
      obtain ⟨y4, hq, hf⟩ := hbind hf
      refine hr_calli0 (va_runV (As := [.ref (ad (.inr 8)), .int p0]) (rest := []) ⟨hx, hb, hml, hown, hts⟩ (met_m_hasOf l D C a0 s0 ad so t lt g1 8 p0 ms_8 hq) (cwV 2 hts (lw_V q1659 q1661 qs48 q99 q1662) rfl rfl rfl (by decide +kernel) ⟨Nat.le_of_ble_eq_true rfl, Nat.le_of_ble_eq_true rfl⟩) (hr_preV hZ_c hM hIx hK hZ0 hA0 hS (r := .inr 0) mS_0 (q := (RX5, TX5, 55)) rfl) rfl rfl hl.1 rfl (lv_room (Nat.le_of_ble_eq_true rfl)) dX5_gap_43 ⟨Nat.le_of_ble_eq_true rfl, Nat.le_of_ble_eq_true rfl⟩) hS (fun H locs hM hS => ?_)
      refine lv_istore (lv' := [(4, .int y4), (3, .int (-1 : Int32)), (2, .int x3), (0, .ref (ad (.inr 0))), (1, .int p0)]) hx hb dX5_gap_46 hl (by decide) rfl (fun ls hl => ?_)
      refine lv_iconst (v := 0) hx hb dX5_gap_48 (by decide) ?_
      refine lv_istore (lv' := [(5, .int (0 : Int32)), (4, .int y4), (3, .int (-1 : Int32)), (2, .int x3), (0, .ref (ad (.inr 0))), (1, .int p0)]) hx hb dX5_gap_49 hl (by decide) rfl (fun ls hl => ?_)
      obtain ⟨x17, hq, hf⟩ := hbind hf
      refine w_m_gap_L51 ⟨hx, hb, hr, hml, hown, hts, hlocks, hK, hZ0, hA0⟩ hIx g p0 g1 y2 x3 y4 x17 hFU ((-1 : Int32), (0 : Int32)) hq (fun H locs ls hM hS hl => ?_) H locs ls hM hS (lv_sub hl [4, 5, 3, 2, 1, 0] rfl)
      refine lv_iload_n hx hb dX5_gap_156 rfl (lv_at hl 1 rfl) ?_
      refine lv_iconst (v := -1) hx hb dX5_gap_157 (by decide) ?_
      refine hb_icmp_ne (tgt := 165) hx hb dX5_gap_158 (by decide) hf (fun hf => ?_) (fun hf => ?_)
      · refine lv_iload_n hx hb dX5_gap_165 rfl (lv_at hl 1 rfl) ?_
        have eo := Option.some.inj hf
        subst eo
        exact W.iret (v := x17) hx hb hr (fun T ht hW => ⟨⟨x17, (), rfl, rfl, by dsimp only; rw [ht]; exact hM⟩, hS.F ht⟩) hS.2.2 dX5_gap_166
      · refine lv_iload_n hx hb dX5_gap_161 rfl (lv_at hl 0 rfl) ?_
        refine lv_goto (tgt := 166) hx hb dX5_gap_162 (by decide) ?_
        have eo := Option.some.inj hf
        subst eo
        exact W.iret (v := x3) hx hb hr (fun T ht hW => ⟨⟨x3, (), rfl, rfl, by dsimp only; rw [ht]; exact hM⟩, hS.F ht⟩) hS.2.2 dX5_gap_166
    · refine lv_iconst (v := -1) hx hb dX5_gap_33 (by decide) ?_
      have eo := Option.some.inj hf
      subst eo
      exact W.iret (v := (-1 : Int32)) hx hb hr (fun T ht hW => ⟨⟨(-1 : Int32), (), rfl, rfl, by dsimp only; rw [ht]; exact hM⟩, hS.F ht⟩) hS.2.2 dX5_gap_34
  · refine lv_aload_n hx hb dX5_gap_13 rfl (lv_at hl 0 rfl) ?_
    refine lv_iconst (v := 1) hx hb dX5_gap_14 (by decide) ?_
    obtain ⟨y18, hq, hf⟩ := hbind hf
    refine hr_calli0 (va_runV (As := [.int (1 : Int32)]) (rest := []) ⟨hx, hb, hml, hown, hts⟩ (met_m_fail l D C a0 s0 ad so t lt g1 (1 : Int32) hq) (cwV 1 hts (lw_V q1547 q1549 qs33 q99 q1550) rfl rfl rfl (by decide +kernel) ⟨Nat.le_of_ble_eq_true rfl, Nat.le_of_ble_eq_true rfl⟩) (hr_preV hZ_c hM hIx hK hZ0 hA0 hS (r := .inr 0) mS_0 (q := (RX5, TX5, 55)) rfl) rfl rfl hl.1 rfl (lv_room (Nat.le_of_ble_eq_true rfl)) dX5_gap_15 ⟨Nat.le_of_ble_eq_true rfl, Nat.le_of_ble_eq_true rfl⟩) hS (fun H locs hM hS => ?_)
    have eo := Option.some.inj hf
    subst eo
    exact W.iret (v := y18.1) hx hb hr (fun T ht hW => ⟨⟨y18.1, (), rfl, rfl, by dsimp only; rw [ht]; exact hM⟩, hS.F ht⟩) hS.2.2 dX5_gap_18
set_option maxHeartbeats 4000000 in
set_option maxRecDepth 100000 in
theorem met_m_gap (l : Launch) (D : va_G) (C : Nat → Nat) (a0 : Array Value) (s0 : State) (ad : Rl → Nat) (so : Nat → Option hS) (t : hSt) (lt : Rl → Nat → Int64) (g : hSt) (p0 : Int32) {o : Int32 × hSt} (hf : m_gap g p0 = some o) : Met l yX5_gap (ws_ yX5_gap cX5_gap 9 (some .int)) rm_m_gap (va_Pc [.ref (ad (.inr 0)), .int p0] (hB D vwCl (hT C) (hA s0) (hZ a0 s0) ad (Sum.elim so (mSH C)) (Sum.elim t g) lt)) (va_Qi (fun (r : Int32) (_ : Unit) => r = o.1) (fun (_ : Unit) (U : State) => hW D vwCl ad (Sum.elim so (mSH C)) (Sum.elim t o.2) lt U.heap) (hA s0)) 0 0 (hA s0) := by
  refine Met.ofW (cc := cX5_gap) (maxL := 9) (ret := (some .int)) (by decide) rfl ?_
  intro p e s m args below meth c s₁ B hml hv
  obtain ⟨rfl, hM, hIx, hK, hZ0, hA0⟩ := hv
  have hl := lv_entry ([.ref (ad (.inr 0)), .int p0]) (n := 9) (Nat.le_of_ble_eq_true rfl)
  rw [lg_entry_eq]
  generalize (lg_sl ([.ref (ad (.inr 0)), .int p0]) ++ List.replicate (9 - (lg_sl ([.ref (ad (.inr 0)), .int p0])).length) Slot.unset).toArray = ls at hl ⊢
  have hl : lv_has ls 9 [(0, .ref (ad (.inr 0))), (1, .int p0)] := hl
  exact w_m_gap ⟨B.exec, B.bytes, B.returns, hml, findClass_of_methodNamed B.named, fun w h => atoms_spec (ws := ws_ yX5_gap cX5_gap 9 (some .int)) B.pre w (List.mem_cons_of_mem _ h), B.notSynchronized, hK, hZ0, hA0⟩ hIx g p0 hf hM va_S.rf hl

def rm_m_loadRow : Room := { frames := 1, cells := 0, slots := 0, locals := 16 }
set_option maxHeartbeats 4000000 in
set_option maxRecDepth 100000 in
theorem w_m_loadRow_L2 {p : Program} {l : Launch} {e : Env} {s : State} {m : MethodId} {args : Array Value} {below : List Frame} {meth : Method} {c : Code} {D : va_G} {C : Nat → Nat} {a0 : Array Value} {s0 : State} {ad : Rl → Nat} {so : Nat → Option hS} {t : hSt} {lt : Rl → Nat → Int64} (CX : hCx D C a0 s0 p s m args meth c cX5_loadRow 3 RX5 (none)) (hIx : hI (hA s0) ad (Sum.elim so (mSH C))) (g : hSt) (p0 : Int32) {oM : hSt} (x : hSt) (n : Nat) (q0 : Int32 × hSt) (h0 : hiter (fun q : Int32 × hSt => m_loadRow_L2 p0 q.1 q.2) n q0 = some x) (kx0 : ∀ (H : Heap) (locs : List Loc) (ls : Array Slot), hW D vwCl ad (Sum.elim so (mSH C)) (Sum.elim t x) lt H → va_S (hA s0) s.heap H locs → lv_has ls 3 [] → W p l e rm_m_loadRow s m args below meth c H locs 0 0 (MQ below (va_Qv (fun (_ : Unit) => True) (fun (_ : Unit) (U : State) => hW D vwCl ad (Sum.elim so (mSH C)) (Sum.elim t oM) lt U.heap) (hA s0)) args s 0 0 (hA s0)) (F0 m 31 ls [])) : ∀ (H : Heap) (locs : List Loc) (ls : Array Slot), hW D vwCl ad (Sum.elim so (mSH C)) (Sum.elim t q0.2) lt H → va_S (hA s0) s.heap H locs → lv_has ls 3 [(0, .ref (ad (.inr 0))), (1, .int p0), (2, .int q0.1)] → W p l e rm_m_loadRow s m args below meth c H locs 0 0 (MQ below (va_Qv (fun (_ : Unit) => True) (fun (_ : Unit) (U : State) => hW D vwCl ad (Sum.elim so (mSH C)) (Sum.elim t oM) lt U.heap) (hA s0)) args s 0 0 (hA s0)) (F0 m 2 ls []) := by
  obtain ⟨hx, hb, hr, hml, hown, hts, hlocks, hK, hZ0, hA0⟩ := CX
  refine hiter_W (Wh := fun q => ∀ (H : Heap) (locs : List Loc) (ls : Array Slot), hW D vwCl ad (Sum.elim so (mSH C)) (Sum.elim t q.2) lt H → va_S (hA s0) s.heap H locs → lv_has ls 3 [(0, .ref (ad (.inr 0))), (1, .int p0), (2, .int q.1)] → W p l e rm_m_loadRow s m args below meth c H locs 0 0 (MQ below (va_Qv (fun (_ : Unit) => True) (fun (_ : Unit) (U : State) => hW D vwCl ad (Sum.elim so (mSH C)) (Sum.elim t oM) lt U.heap) (hA s0)) args s 0 0 (hA s0)) (F0 m 2 ls [])) ?_ n q0 h0
  intro q o hf kc kx1 H locs ls hM hS hl
  obtain ⟨v2_2, g_2⟩ := q
  replace hf : m_loadRow_L2 p0 v2_2 g_2 = some o := hf
  have kx : ∀ x' : hSt, o = .inr x' → ∀ (H : Heap) (locs : List Loc) (ls : Array Slot), hW D vwCl ad (Sum.elim so (mSH C)) (Sum.elim t x') lt H → va_S (hA s0) s.heap H locs → lv_has ls 3 [] → W p l e rm_m_loadRow s m args below meth c H locs 0 0 (MQ below (va_Qv (fun (_ : Unit) => True) (fun (_ : Unit) (U : State) => hW D vwCl ad (Sum.elim so (mSH C)) (Sum.elim t oM) lt U.heap) (hA s0)) args s 0 0 (hA s0)) (F0 m 31 ls []) := fun x' ex => by rw [kx1 _ ex]; exact kx0
  unfold m_loadRow_L2 at hf
  refine lv_iload_n hx hb dX5_loadRow_2 rfl (lv_at hl 2 rfl) ?_
  refine lv_bipush (v := 30) hx hb dX5_loadRow_3 (by decide) ?_
  refine hb_icmp_ge (tgt := 31) hx hb dX5_loadRow_5 (by decide) hf (fun hf => ?_) (fun hf => ?_)
  · exact kx g_2 (Option.some.inj hf).symm H locs ls hM hS (lv_sub hl [] rfl)
  · refine lv_aload_n hx hb dX5_loadRow_8 rfl (lv_at hl 0 rfl) ?_
    refine hr_get (ci := 5) (C := RX5) (T := TX5) (N := 55) (r := .inr 0) hx hb hts in_X5 hown hK hM mS_0 rfl 27 (by decide) (hts _ q1395) rfl (v := .ref (ad (.inr 28))) rfl dX5_loadRow_9 ?_
    refine lv_iload_n hx hb dX5_loadRow_12 rfl (lv_at hl 2 rfl) ?_
    refine lv_aload_n hx hb dX5_loadRow_13 rfl (lv_at hl 0 rfl) ?_
    refine hr_get (ci := 5) (C := RX5) (T := TX5) (N := 55) (r := .inr 0) hx hb hts in_X5 hown hK hM mS_0 rfl 26 (by decide) (hts _ q1394) rfl (v := .ref (ad (.inr 27))) rfl dX5_loadRow_14 ?_
    refine lv_bipush (v := 30) hx hb dX5_loadRow_17 (by decide) ?_
    refine lv_iload_n hx hb dX5_loadRow_19 rfl (lv_at hl 1 rfl) ?_
    refine lv_imul hx hb dX5_loadRow_20 ?_
    refine lv_iload_n hx hb dX5_loadRow_21 rfl (lv_at hl 2 rfl) ?_
    refine lv_iadd hx hb dX5_loadRow_22 ?_
    refine hm_iald (r := 27) hx hb hK hM 0 mS_27 rfl hf dX5_loadRow_23 (fun x1 hf => ?_)
    refine hm_iast (r := 28) hx hb hK hM hIx hS 0 mS_28 rfl hf dX5_loadRow_24 (fun g2 H locs hf hM hS => ?_)
    obtain ⟨y2_3, ey, hf⟩ := hlet_ex hf
    refine lv_iinc (v := y2_3) (lv' := [(2, .int y2_3), (0, .ref (ad (.inr 0))), (1, .int p0)]) hx hb dX5_loadRow_25 hl (k := 2) rfl (by rw [ey]; rfl) (by decide) rfl (fun ls hl => ?_)
    refine lv_goto (tgt := 2) hx hb dX5_loadRow_28 (by decide) ?_
    exact kc (y2_3, g2) (Option.some.inj hf).symm H locs ls hM hS (lv_sub hl [1, 2, 0] rfl)
set_option maxHeartbeats 4000000 in
set_option maxRecDepth 100000 in
theorem w_m_loadRow {p : Program} {l : Launch} {e : Env} {s : State} {m : MethodId} {args : Array Value} {below : List Frame} {meth : Method} {c : Code} {D : va_G} {C : Nat → Nat} {a0 : Array Value} {s0 : State} {ad : Rl → Nat} {so : Nat → Option hS} {t : hSt} {lt : Rl → Nat → Int64} (CX : hCx D C a0 s0 p s m args meth c cX5_loadRow 3 RX5 (none)) (hIx : hI (hA s0) ad (Sum.elim so (mSH C))) (g : hSt) (p0 : Int32) {o : hSt} (hf : m_loadRow g p0 = some o) {H : Heap} {locs : List Loc} (hM : hW D vwCl ad (Sum.elim so (mSH C)) (Sum.elim t g) lt H) (hS : va_S (hA s0) s.heap H locs) {ls : Array Slot} (hl : lv_has ls 3 [(0, .ref (ad (.inr 0))), (1, .int p0)]) : W p l e rm_m_loadRow s m args below meth c H locs 0 0 (MQ below (va_Qv (fun (_ : Unit) => True) (fun (_ : Unit) (U : State) => hW D vwCl ad (Sum.elim so (mSH C)) (Sum.elim t o) lt U.heap) (hA s0)) args s 0 0 (hA s0)) (F0 m 0 ls []) := by
  obtain ⟨hx, hb, hr, hml, hown, hts, hlocks, hK, hZ0, hA0⟩ := CX
  unfold m_loadRow at hf
  refine lv_iconst (v := 0) hx hb dX5_loadRow_0 (by decide) ?_
  refine lv_istore_n (lv' := [(2, .int (0 : Int32)), (0, .ref (ad (.inr 0))), (1, .int p0)]) hx hb dX5_loadRow_1 rfl hl (by decide) rfl (fun ls hl => ?_)
  obtain ⟨x4, hq, hf⟩ := hbind hf
  refine w_m_loadRow_L2 ⟨hx, hb, hr, hml, hown, hts, hlocks, hK, hZ0, hA0⟩ hIx g p0 x4 hFU ((0 : Int32), g) hq (fun H locs ls hM hS hl => ?_) H locs ls hM hS (lv_sub hl [1, 2, 0] rfl)
  have eo := Option.some.inj hf
  subst eo
  exact W.vret hx hb hr (fun T ht hW => ⟨⟨(), rfl, trivial, by dsimp only; rw [ht]; exact hM⟩, hS.F ht⟩) hS.2.2 dX5_loadRow_31
set_option maxHeartbeats 4000000 in
set_option maxRecDepth 100000 in
theorem met_m_loadRow (l : Launch) (D : va_G) (C : Nat → Nat) (a0 : Array Value) (s0 : State) (ad : Rl → Nat) (so : Nat → Option hS) (t : hSt) (lt : Rl → Nat → Int64) (g : hSt) (p0 : Int32) {o : hSt} (hf : m_loadRow g p0 = some o) : Met l yX5_loadRow (ws_ yX5_loadRow cX5_loadRow 3 (none)) rm_m_loadRow (va_Pc [.ref (ad (.inr 0)), .int p0] (hB D vwCl (hT C) (hA s0) (hZ a0 s0) ad (Sum.elim so (mSH C)) (Sum.elim t g) lt)) (va_Qv (fun (_ : Unit) => True) (fun (_ : Unit) (U : State) => hW D vwCl ad (Sum.elim so (mSH C)) (Sum.elim t o) lt U.heap) (hA s0)) 0 0 (hA s0) := by
  refine Met.ofW (cc := cX5_loadRow) (maxL := 3) (ret := (none)) (by decide) rfl ?_
  intro p e s m args below meth c s₁ B hml hv
  obtain ⟨rfl, hM, hIx, hK, hZ0, hA0⟩ := hv
  have hl := lv_entry ([.ref (ad (.inr 0)), .int p0]) (n := 3) (Nat.le_of_ble_eq_true rfl)
  rw [lg_entry_eq]
  generalize (lg_sl ([.ref (ad (.inr 0)), .int p0]) ++ List.replicate (3 - (lg_sl ([.ref (ad (.inr 0)), .int p0])).length) Slot.unset).toArray = ls at hl ⊢
  have hl : lv_has ls 3 [(0, .ref (ad (.inr 0))), (1, .int p0)] := hl
  exact w_m_loadRow ⟨B.exec, B.bytes, B.returns, hml, findClass_of_methodNamed B.named, fun w h => atoms_spec (ws := ws_ yX5_loadRow cX5_loadRow 3 (none)) B.pre w (List.mem_cons_of_mem _ h), B.notSynchronized, hK, hZ0, hA0⟩ hIx g p0 hf hM va_S.rf hl

def rm_m_order : Room := { frames := 3, cells := 0, slots := 0, locals := 39 }
set_option maxHeartbeats 4000000 in
set_option maxRecDepth 100000 in
theorem w_m_order {p : Program} {l : Launch} {e : Env} {s : State} {m : MethodId} {args : Array Value} {below : List Frame} {meth : Method} {c : Code} {D : va_G} {C : Nat → Nat} {a0 : Array Value} {s0 : State} {ad : Rl → Nat} {so : Nat → Option hS} {t : hSt} {lt : Rl → Nat → Int64} (CX : hCx D C a0 s0 p s m args meth c cX5_order 2 RX5 (some .int)) (hIx : hI (hA s0) ad (Sum.elim so (mSH C))) (g : hSt) (p0 : Int32) {o : Int32 × hSt} (hf : m_order g p0 = some o) {H : Heap} {locs : List Loc} (hM : hW D vwCl ad (Sum.elim so (mSH C)) (Sum.elim t g) lt H) (hS : va_S (hA s0) s.heap H locs) {ls : Array Slot} (hl : lv_has ls 2 [(0, .ref (ad (.inr 0))), (1, .int p0)]) : W p l e rm_m_order s m args below meth c H locs 0 0 (MQ below (va_Qi (fun (r : Int32) (_ : Unit) => r = o.1) (fun (_ : Unit) (U : State) => hW D vwCl ad (Sum.elim so (mSH C)) (Sum.elim t o.2) lt U.heap) (hA s0)) args s 0 0 (hA s0)) (F0 m 0 ls []) := by
  obtain ⟨hx, hb, hr, hml, hown, hts, hlocks, hK, hZ0, hA0⟩ := CX
  unfold m_order at hf
  refine lv_aload_n hx hb dX5_order_0 rfl (lv_at hl 0 rfl) ?_
  refine lv_iconst (v := 0) hx hb dX5_order_1 (by decide) ?_
  refine hm_put (r := 0) (ci := 5) (C := RX5) (T := TX5) (N := 55) hx hb hts in_X5 tyX5 tyX5_ok nmX5 hown hK hM hIx hS mS_0 rfl 1 (by decide) (hts _ q1369) rfl rfl rfl hf dX5_order_2 (fun g1 H locs hf hM hS => ?_)
  refine lv_iload_n hx hb dX5_order_5 rfl (lv_at hl 1 rfl) ?_
  refine lv_iconst (v := 0) hx hb dX5_order_6 (by decide) ?_
  refine lv_aload_n hx hb dX5_order_7 rfl (lv_at hl 0 rfl) ?_
  refine hr_get (ci := 5) (C := RX5) (T := TX5) (N := 55) (r := .inr 0) hx hb hts in_X5 hown hK hM mS_0 rfl 32 (by decide) (hts _ q1400) rfl (v := .int (g1 0 32)) rfl dX5_order_8 ?_
  refine lv_iconst (v := 1) hx hb dX5_order_11 (by decide) ?_
  refine lv_isub hx hb dX5_order_12 ?_
  obtain ⟨y2, hq, hf⟩ := hbind hf
  refine hr_calli0 (va_runS (As := [.int p0, .int (0 : Int32), .int ((g1 0 32) - (1 : Int32))]) (rest := []) ⟨hx, hb, hml, hown, hts⟩ (met_m_isIn l D C a0 s0 ad so (Sum.elim t g1) lt p0 (0 : Int32) ((g1 0 32) - (1 : Int32)) hq) (va_cwS 3 hts (lw_S q1648 q1649 q99 q1650) rfl rfl rfl (by decide +kernel) ⟨Nat.le_of_ble_eq_true rfl, Nat.le_of_ble_eq_true rfl⟩) (hr_preS hZ_c hM hIx hK hZ0 hA0 hS) rfl rfl hl.1 rfl (lv_room (Nat.le_of_ble_eq_true rfl)) dX5_order_13 ⟨Nat.le_of_ble_eq_true rfl, Nat.le_of_ble_eq_true rfl⟩) hS (fun H locs hM hS => ?_)
  refine hb_if_eq (tgt := 28) hx hb dX5_order_16 (by decide) hf (fun hf => ?_) (fun hf => ?_)
  · refine lv_aload_n hx hb dX5_order_28 rfl (lv_at hl 0 rfl) ?_
    refine lv_iconst (v := 1) hx hb dX5_order_29 (by decide) ?_
    obtain ⟨y3, hq, hf⟩ := hbind hf
    refine hr_calli0 (va_runV (As := [.int (1 : Int32)]) (rest := []) ⟨hx, hb, hml, hown, hts⟩ (met_m_fail l D C a0 s0 ad so t lt g1 (1 : Int32) hq) (cwV 1 hts (lw_V q1547 q1549 qs33 q99 q1550) rfl rfl rfl (by decide +kernel) ⟨Nat.le_of_ble_eq_true rfl, Nat.le_of_ble_eq_true rfl⟩) (hr_preV hZ_c hM hIx hK hZ0 hA0 hS (r := .inr 0) mS_0 (q := (RX5, TX5, 55)) rfl) rfl rfl hl.1 rfl (lv_room (Nat.le_of_ble_eq_true rfl)) dX5_order_30 ⟨Nat.le_of_ble_eq_true rfl, Nat.le_of_ble_eq_true rfl⟩) hS (fun H locs hM hS => ?_)
    have eo := Option.some.inj hf
    subst eo
    exact W.iret (v := y3.1) hx hb hr (fun T ht hW => ⟨⟨y3.1, (), rfl, rfl, by dsimp only; rw [ht]; exact hM⟩, hS.F ht⟩) hS.2.2 dX5_order_33
  · refine lv_aload_n hx hb dX5_order_19 rfl (lv_at hl 0 rfl) ?_
    refine hr_get (ci := 5) (C := RX5) (T := TX5) (N := 55) (r := .inr 0) hx hb hts in_X5 hown hK hM mS_0 rfl 31 (by decide) (hts _ q1399) rfl (v := .ref (ad (.inr 32))) rfl dX5_order_20 ?_
    refine lv_iload_n hx hb dX5_order_23 rfl (lv_at hl 1 rfl) ?_
    refine hm_iald (r := 32) hx hb hK hM 0 mS_32 rfl hf dX5_order_24 (fun x4 hf => ?_)
    refine lv_goto (tgt := 33) hx hb dX5_order_25 (by decide) ?_
    have eo := Option.some.inj hf
    subst eo
    exact W.iret (v := x4) hx hb hr (fun T ht hW => ⟨⟨x4, (), rfl, rfl, by dsimp only; rw [ht]; exact hM⟩, hS.F ht⟩) hS.2.2 dX5_order_33
set_option maxHeartbeats 4000000 in
set_option maxRecDepth 100000 in
theorem met_m_order (l : Launch) (D : va_G) (C : Nat → Nat) (a0 : Array Value) (s0 : State) (ad : Rl → Nat) (so : Nat → Option hS) (t : hSt) (lt : Rl → Nat → Int64) (g : hSt) (p0 : Int32) {o : Int32 × hSt} (hf : m_order g p0 = some o) : Met l yX5_order (ws_ yX5_order cX5_order 2 (some .int)) rm_m_order (va_Pc [.ref (ad (.inr 0)), .int p0] (hB D vwCl (hT C) (hA s0) (hZ a0 s0) ad (Sum.elim so (mSH C)) (Sum.elim t g) lt)) (va_Qi (fun (r : Int32) (_ : Unit) => r = o.1) (fun (_ : Unit) (U : State) => hW D vwCl ad (Sum.elim so (mSH C)) (Sum.elim t o.2) lt U.heap) (hA s0)) 0 0 (hA s0) := by
  refine Met.ofW (cc := cX5_order) (maxL := 2) (ret := (some .int)) (by decide) rfl ?_
  intro p e s m args below meth c s₁ B hml hv
  obtain ⟨rfl, hM, hIx, hK, hZ0, hA0⟩ := hv
  have hl := lv_entry ([.ref (ad (.inr 0)), .int p0]) (n := 2) (Nat.le_of_ble_eq_true rfl)
  rw [lg_entry_eq]
  generalize (lg_sl ([.ref (ad (.inr 0)), .int p0]) ++ List.replicate (2 - (lg_sl ([.ref (ad (.inr 0)), .int p0])).length) Slot.unset).toArray = ls at hl ⊢
  have hl : lv_has ls 2 [(0, .ref (ad (.inr 0))), (1, .int p0)] := hl
  exact w_m_order ⟨B.exec, B.bytes, B.returns, hml, findClass_of_methodNamed B.named, fun w h => atoms_spec (ws := ws_ yX5_order cX5_order 2 (some .int)) B.pre w (List.mem_cons_of_mem _ h), B.notSynchronized, hK, hZ0, hA0⟩ hIx g p0 hf hM va_S.rf hl

def rm_m_foldOf : Room := { frames := 1, cells := 0, slots := 0, locals := 16 }
set_option maxHeartbeats 4000000 in
set_option maxRecDepth 100000 in
theorem w_m_foldOf_L4 {p : Program} {l : Launch} {e : Env} {s : State} {m : MethodId} {args : Array Value} {below : List Frame} {meth : Method} {c : Code} {D : va_G} {C : Nat → Nat} {a0 : Array Value} {s0 : State} {ad : Rl → Nat} {so : Nat → Option hS} {t : hSt} {lt : Rl → Nat → Int64} (CX : hCx D C a0 s0 p s m args meth c cX5_foldOf 3 RX5 (some .int)) (hIx : hI (hA s0) ad (Sum.elim so (mSH C))) (g : hSt) (r0 : Nat) (h_r0 : mSH C r0 = some (.inl (C 0, 30, false))) {oM : Int32} (x : Int32) (n : Nat) (q0 : Int32 × Int32) (h0 : hiter (fun q : Int32 × Int32 => m_foldOf_L4 g r0 q.1 q.2) n q0 = some x) (kx0 : ∀ (H : Heap) (locs : List Loc) (ls : Array Slot), hW D vwCl ad (Sum.elim so (mSH C)) (Sum.elim t g) lt H → va_S (hA s0) s.heap H locs → lv_has ls 3 [(1, .int x)] → W p l e rm_m_foldOf s m args below meth c H locs 0 0 (MQ below (va_Qi (fun (r : Int32) (_ : Unit) => r = oM) (fun (_ : Unit) (U : State) => hW D vwCl ad (Sum.elim so (mSH C)) (Sum.elim t g) lt U.heap) (hA s0)) args s 0 0 (hA s0)) (F0 m 25 ls [])) : ∀ (H : Heap) (locs : List Loc) (ls : Array Slot), hW D vwCl ad (Sum.elim so (mSH C)) (Sum.elim t g) lt H → va_S (hA s0) s.heap H locs → lv_has ls 3 [(0, .ref (ad (.inr r0))), (1, .int q0.1), (2, .int q0.2)] → W p l e rm_m_foldOf s m args below meth c H locs 0 0 (MQ below (va_Qi (fun (r : Int32) (_ : Unit) => r = oM) (fun (_ : Unit) (U : State) => hW D vwCl ad (Sum.elim so (mSH C)) (Sum.elim t g) lt U.heap) (hA s0)) args s 0 0 (hA s0)) (F0 m 4 ls []) := by
  obtain ⟨hx, hb, hr, hml, hown, hts, hlocks, hK, hZ0, hA0⟩ := CX
  refine hiter_W (Wh := fun q => ∀ (H : Heap) (locs : List Loc) (ls : Array Slot), hW D vwCl ad (Sum.elim so (mSH C)) (Sum.elim t g) lt H → va_S (hA s0) s.heap H locs → lv_has ls 3 [(0, .ref (ad (.inr r0))), (1, .int q.1), (2, .int q.2)] → W p l e rm_m_foldOf s m args below meth c H locs 0 0 (MQ below (va_Qi (fun (r : Int32) (_ : Unit) => r = oM) (fun (_ : Unit) (U : State) => hW D vwCl ad (Sum.elim so (mSH C)) (Sum.elim t g) lt U.heap) (hA s0)) args s 0 0 (hA s0)) (F0 m 4 ls [])) ?_ n q0 h0
  intro q o hf kc kx1 H locs ls hM hS hl
  obtain ⟨v1_4, v2_4⟩ := q
  replace hf : m_foldOf_L4 g r0 v1_4 v2_4 = some o := hf
  have kx : ∀ x' : Int32, o = .inr x' → ∀ (H : Heap) (locs : List Loc) (ls : Array Slot), hW D vwCl ad (Sum.elim so (mSH C)) (Sum.elim t g) lt H → va_S (hA s0) s.heap H locs → lv_has ls 3 [(1, .int x')] → W p l e rm_m_foldOf s m args below meth c H locs 0 0 (MQ below (va_Qi (fun (r : Int32) (_ : Unit) => r = oM) (fun (_ : Unit) (U : State) => hW D vwCl ad (Sum.elim so (mSH C)) (Sum.elim t g) lt U.heap) (hA s0)) args s 0 0 (hA s0)) (F0 m 25 ls []) := fun x' ex => by rw [kx1 _ ex]; exact kx0
  unfold m_foldOf_L4 at hf
  refine lv_iload_n hx hb dX5_foldOf_4 rfl (lv_at hl 2 rfl) ?_
  refine lv_bipush (v := 30) hx hb dX5_foldOf_5 (by decide) ?_
  refine hb_icmp_ge (tgt := 25) hx hb dX5_foldOf_7 (by decide) hf (fun hf => ?_) (fun hf => ?_)
  · exact kx v1_4 (Option.some.inj hf).symm H locs ls hM hS (lv_sub hl [1] rfl)
  · refine lv_bipush (v := 31) hx hb dX5_foldOf_10 (by decide) ?_
    refine lv_iload_n hx hb dX5_foldOf_12 rfl (lv_at hl 1 rfl) ?_
    refine lv_imul hx hb dX5_foldOf_13 ?_
    refine lv_aload_n hx hb dX5_foldOf_14 rfl (lv_at hl 0 rfl) ?_
    refine lv_iload_n hx hb dX5_foldOf_15 rfl (lv_at hl 2 rfl) ?_
    refine hm_iald (r := r0) hx hb hK hM 0 h_r0 rfl hf dX5_foldOf_16 (fun x1 hf => ?_)
    refine lv_iadd hx hb dX5_foldOf_17 ?_
    refine hb_top hf (fun y1_2 hf => ?_)
    refine lv_istore_n (lv' := [(1, .int y1_2), (0, .ref (ad (.inr r0))), (2, .int v2_4)]) hx hb dX5_foldOf_18 rfl hl (by decide) rfl (fun ls hl => ?_)
    obtain ⟨y2_3, ey, hf⟩ := hlet_ex hf
    refine lv_iinc (v := y2_3) (lv' := [(2, .int y2_3), (1, .int y1_2), (0, .ref (ad (.inr r0)))]) hx hb dX5_foldOf_19 hl (k := 2) rfl (by rw [ey]; rfl) (by decide) rfl (fun ls hl => ?_)
    refine lv_goto (tgt := 4) hx hb dX5_foldOf_22 (by decide) ?_
    exact kc (y1_2, y2_3) (Option.some.inj hf).symm H locs ls hM hS (lv_sub hl [2, 1, 0] rfl)
set_option maxHeartbeats 4000000 in
set_option maxRecDepth 100000 in
theorem w_m_foldOf {p : Program} {l : Launch} {e : Env} {s : State} {m : MethodId} {args : Array Value} {below : List Frame} {meth : Method} {c : Code} {D : va_G} {C : Nat → Nat} {a0 : Array Value} {s0 : State} {ad : Rl → Nat} {so : Nat → Option hS} {t : hSt} {lt : Rl → Nat → Int64} (CX : hCx D C a0 s0 p s m args meth c cX5_foldOf 3 RX5 (some .int)) (hIx : hI (hA s0) ad (Sum.elim so (mSH C))) (g : hSt) (r0 : Nat) (h_r0 : mSH C r0 = some (.inl (C 0, 30, false))) {o : Int32} (hf : m_foldOf g r0 = some o) {H : Heap} {locs : List Loc} (hM : hW D vwCl ad (Sum.elim so (mSH C)) (Sum.elim t g) lt H) (hS : va_S (hA s0) s.heap H locs) {ls : Array Slot} (hl : lv_has ls 3 [(0, .ref (ad (.inr r0)))]) : W p l e rm_m_foldOf s m args below meth c H locs 0 0 (MQ below (va_Qi (fun (r : Int32) (_ : Unit) => r = o) (fun (_ : Unit) (U : State) => hW D vwCl ad (Sum.elim so (mSH C)) (Sum.elim t g) lt U.heap) (hA s0)) args s 0 0 (hA s0)) (F0 m 0 ls []) := by
  obtain ⟨hx, hb, hr, hml, hown, hts, hlocks, hK, hZ0, hA0⟩ := CX
  unfold m_foldOf at hf
  refine lv_iconst (v := 0) hx hb dX5_foldOf_0 (by decide) ?_
  refine lv_istore_n (lv' := [(1, .int (0 : Int32)), (0, .ref (ad (.inr r0)))]) hx hb dX5_foldOf_1 rfl hl (by decide) rfl (fun ls hl => ?_)
  refine lv_iconst (v := 0) hx hb dX5_foldOf_2 (by decide) ?_
  refine lv_istore_n (lv' := [(2, .int (0 : Int32)), (1, .int (0 : Int32)), (0, .ref (ad (.inr r0)))]) hx hb dX5_foldOf_3 rfl hl (by decide) rfl (fun ls hl => ?_)
  obtain ⟨x4, hq, hf⟩ := hbind hf
  refine w_m_foldOf_L4 ⟨hx, hb, hr, hml, hown, hts, hlocks, hK, hZ0, hA0⟩ hIx g r0 h_r0 x4 hFU ((0 : Int32), (0 : Int32)) hq (fun H locs ls hM hS hl => ?_) H locs ls hM hS (lv_sub hl [2, 1, 0] rfl)
  refine lv_iload_n hx hb dX5_foldOf_25 rfl (lv_at hl 0 rfl) ?_
  refine lv_sipush (v := 4095) hx hb dX5_foldOf_26 (by decide) ?_
  refine lv_iand hx hb dX5_foldOf_29 ?_
  have eo := Option.some.inj hf
  subst eo
  exact W.iret (v := (x4 &&& (4095 : Int32))) hx hb hr (fun T ht hW => ⟨⟨(x4 &&& (4095 : Int32)), (), rfl, rfl, by dsimp only; rw [ht]; exact hM⟩, hS.F ht⟩) hS.2.2 dX5_foldOf_30
set_option maxHeartbeats 4000000 in
set_option maxRecDepth 100000 in
theorem met_m_foldOf (l : Launch) (D : va_G) (C : Nat → Nat) (a0 : Array Value) (s0 : State) (ad : Rl → Nat) (so : Nat → Option hS) (t : hSt) (lt : Rl → Nat → Int64) (g : hSt) (r0 : Nat) (h_r0 : mSH C r0 = some (.inl (C 0, 30, false))) {o : Int32} (hf : m_foldOf g r0 = some o) : Met l yX5_foldOf (ws_ yX5_foldOf cX5_foldOf 3 (some .int)) rm_m_foldOf (va_Pc [.ref (ad (.inr r0))] (hB D vwCl (hT C) (hA s0) (hZ a0 s0) ad (Sum.elim so (mSH C)) (Sum.elim t g) lt)) (va_Qi (fun (r : Int32) (_ : Unit) => r = o) (fun (_ : Unit) (U : State) => hW D vwCl ad (Sum.elim so (mSH C)) (Sum.elim t g) lt U.heap) (hA s0)) 0 0 (hA s0) := by
  refine Met.ofW (cc := cX5_foldOf) (maxL := 3) (ret := (some .int)) (by decide) rfl ?_
  intro p e s m args below meth c s₁ B hml hv
  obtain ⟨rfl, hM, hIx, hK, hZ0, hA0⟩ := hv
  have hl := lv_entry ([.ref (ad (.inr r0))]) (n := 3) (Nat.le_of_ble_eq_true rfl)
  rw [lg_entry_eq]
  generalize (lg_sl ([.ref (ad (.inr r0))]) ++ List.replicate (3 - (lg_sl ([.ref (ad (.inr r0))])).length) Slot.unset).toArray = ls at hl ⊢
  have hl : lv_has ls 3 [(0, .ref (ad (.inr r0)))] := hl
  exact w_m_foldOf ⟨B.exec, B.bytes, B.returns, hml, findClass_of_methodNamed B.named, fun w h => atoms_spec (ws := ws_ yX5_foldOf cX5_foldOf 3 (some .int)) B.pre w (List.mem_cons_of_mem _ h), B.notSynchronized, hK, hZ0, hA0⟩ hIx g r0 h_r0 hf hM va_S.rf hl

def rm_m_isState : Room := { frames := 1, cells := 0, slots := 0, locals := 16 }
set_option maxHeartbeats 4000000 in
set_option maxRecDepth 100000 in
theorem w_m_isState_L2 {p : Program} {l : Launch} {e : Env} {s : State} {m : MethodId} {args : Array Value} {below : List Frame} {meth : Method} {c : Code} {D : va_G} {C : Nat → Nat} {a0 : Array Value} {s0 : State} {ad : Rl → Nat} {so : Nat → Option hS} {t : hSt} {lt : Rl → Nat → Int64} (CX : hCx D C a0 s0 p s m args meth c cX5_isState 4 RX5 (some .boolean)) (hIx : hI (hA s0) ad (Sum.elim so (mSH C))) (g : hSt) (p0 : Int32) (r1 : Nat) (h_r1 : mSH C r1 = some (.inl (C 0, 30, false))) {oM : Int32} (x : (Unit) ⊕ (Int32)) (n : Nat) (q0 : Int32) (h0 : hiter (fun q : Int32 => m_isState_L2 g p0 r1 q) n q0 = some x) (kx0 : ∀ x' : Unit, x = .inl x' → ∀ (H : Heap) (locs : List Loc) (ls : Array Slot), hW D vwCl ad (Sum.elim so (mSH C)) (Sum.elim t g) lt H → va_S (hA s0) s.heap H locs → lv_has ls 4 [] → W p l e rm_m_isState s m args below meth c H locs 0 0 (MQ below (va_Qi (fun (r : Int32) (_ : Unit) => r = oM) (fun (_ : Unit) (U : State) => hW D vwCl ad (Sum.elim so (mSH C)) (Sum.elim t g) lt U.heap) (hA s0)) args s 0 0 (hA s0)) (F0 m 33 ls [])) (kr0 : ∀ r : Int32, x = .inr r → r = oM) : ∀ (H : Heap) (locs : List Loc) (ls : Array Slot), hW D vwCl ad (Sum.elim so (mSH C)) (Sum.elim t g) lt H → va_S (hA s0) s.heap H locs → lv_has ls 4 [(0, .ref (ad (.inr 0))), (1, .int p0), (2, .ref (ad (.inr r1))), (3, .int q0)] → W p l e rm_m_isState s m args below meth c H locs 0 0 (MQ below (va_Qi (fun (r : Int32) (_ : Unit) => r = oM) (fun (_ : Unit) (U : State) => hW D vwCl ad (Sum.elim so (mSH C)) (Sum.elim t g) lt U.heap) (hA s0)) args s 0 0 (hA s0)) (F0 m 2 ls []) := by
  obtain ⟨hx, hb, hr, hml, hown, hts, hlocks, hK, hZ0, hA0⟩ := CX
  refine hiter_W (Wh := fun q => ∀ (H : Heap) (locs : List Loc) (ls : Array Slot), hW D vwCl ad (Sum.elim so (mSH C)) (Sum.elim t g) lt H → va_S (hA s0) s.heap H locs → lv_has ls 4 [(0, .ref (ad (.inr 0))), (1, .int p0), (2, .ref (ad (.inr r1))), (3, .int q)] → W p l e rm_m_isState s m args below meth c H locs 0 0 (MQ below (va_Qi (fun (r : Int32) (_ : Unit) => r = oM) (fun (_ : Unit) (U : State) => hW D vwCl ad (Sum.elim so (mSH C)) (Sum.elim t g) lt U.heap) (hA s0)) args s 0 0 (hA s0)) (F0 m 2 ls [])) ?_ n q0 h0
  intro q o hf kc kx1 H locs ls hM hS hl
  obtain ⟨v3_2, rfl⟩ : ∃ z, z = q := ⟨_, rfl⟩
  replace hf : m_isState_L2 g p0 r1 v3_2 = some o := hf
  have kx : ∀ x' : Unit, o = .inr (.inl x') → ∀ (H : Heap) (locs : List Loc) (ls : Array Slot), hW D vwCl ad (Sum.elim so (mSH C)) (Sum.elim t g) lt H → va_S (hA s0) s.heap H locs → lv_has ls 4 [] → W p l e rm_m_isState s m args below meth c H locs 0 0 (MQ below (va_Qi (fun (r : Int32) (_ : Unit) => r = oM) (fun (_ : Unit) (U : State) => hW D vwCl ad (Sum.elim so (mSH C)) (Sum.elim t g) lt U.heap) (hA s0)) args s 0 0 (hA s0)) (F0 m 33 ls []) := fun x' ex => kx0 x' (kx1 _ ex).symm
  have kr : ∀ r : Int32, o = .inr (.inr r) → r = oM := fun r ex => kr0 r (kx1 _ ex).symm
  unfold m_isState_L2 at hf
  refine lv_iload_n hx hb dX5_isState_2 rfl (lv_at hl 3 rfl) ?_
  refine lv_bipush (v := 30) hx hb dX5_isState_3 (by decide) ?_
  refine hb_icmp_ge (tgt := 33) hx hb dX5_isState_5 (by decide) hf (fun hf => ?_) (fun hf => ?_)
  · exact kx () (Option.some.inj hf).symm H locs ls hM hS (lv_sub hl [] rfl)
  · refine lv_aload_n hx hb dX5_isState_8 rfl (lv_at hl 0 rfl) ?_
    refine hr_get (ci := 5) (C := RX5) (T := TX5) (N := 55) (r := .inr 0) hx hb hts in_X5 hown hK hM mS_0 rfl 38 (by decide) (hts _ q1406) rfl (v := .ref (ad (.inr 39))) rfl dX5_isState_9 ?_
    refine lv_bipush (v := 30) hx hb dX5_isState_12 (by decide) ?_
    refine lv_iload_n hx hb dX5_isState_14 rfl (lv_at hl 1 rfl) ?_
    refine lv_imul hx hb dX5_isState_15 ?_
    refine lv_iload_n hx hb dX5_isState_16 rfl (lv_at hl 3 rfl) ?_
    refine lv_iadd hx hb dX5_isState_17 ?_
    refine hm_iald (r := 39) hx hb hK hM 0 mS_39 rfl hf dX5_isState_18 (fun x1 hf => ?_)
    refine lv_aload_n hx hb dX5_isState_19 rfl (lv_at hl 2 rfl) ?_
    refine lv_iload_n hx hb dX5_isState_20 rfl (lv_at hl 3 rfl) ?_
    refine hm_iald (r := r1) hx hb hK hM 0 h_r1 rfl hf dX5_isState_21 (fun x2 hf => ?_)
    refine hb_icmp_eq (tgt := 27) hx hb dX5_isState_22 (by decide) hf (fun hf => ?_) (fun hf => ?_)
    · obtain ⟨y3_3, ey, hf⟩ := hlet_ex hf
      refine lv_iinc (v := y3_3) (lv' := [(3, .int y3_3), (0, .ref (ad (.inr 0))), (1, .int p0), (2, .ref (ad (.inr r1)))]) hx hb dX5_isState_27 hl (k := 3) rfl (by rw [ey]; rfl) (by decide) rfl (fun ls hl => ?_)
      refine lv_goto (tgt := 2) hx hb dX5_isState_30 (by decide) ?_
      exact kc y3_3 (Option.some.inj hf).symm H locs ls hM hS (lv_sub hl [1, 2, 3, 0] rfl)
    · refine lv_iconst (v := 0) hx hb dX5_isState_25 (by decide) ?_
      have eo := kr (0 : Int32) (Option.some.inj hf).symm
      subst eo
      exact W.zret (v := (0 : Int32)) hx hb hr rfl (fun T ht hW => ⟨⟨(0 : Int32), (), rfl, rfl, by dsimp only; rw [ht]; exact hM⟩, hS.F ht⟩) hS.2.2 dX5_isState_26
set_option maxHeartbeats 4000000 in
set_option maxRecDepth 100000 in
theorem w_m_isState {p : Program} {l : Launch} {e : Env} {s : State} {m : MethodId} {args : Array Value} {below : List Frame} {meth : Method} {c : Code} {D : va_G} {C : Nat → Nat} {a0 : Array Value} {s0 : State} {ad : Rl → Nat} {so : Nat → Option hS} {t : hSt} {lt : Rl → Nat → Int64} (CX : hCx D C a0 s0 p s m args meth c cX5_isState 4 RX5 (some .boolean)) (hIx : hI (hA s0) ad (Sum.elim so (mSH C))) (g : hSt) (p0 : Int32) (r1 : Nat) (h_r1 : mSH C r1 = some (.inl (C 0, 30, false))) {o : Int32} (hf : m_isState g p0 r1 = some o) {H : Heap} {locs : List Loc} (hM : hW D vwCl ad (Sum.elim so (mSH C)) (Sum.elim t g) lt H) (hS : va_S (hA s0) s.heap H locs) {ls : Array Slot} (hl : lv_has ls 4 [(0, .ref (ad (.inr 0))), (1, .int p0), (2, .ref (ad (.inr r1)))]) : W p l e rm_m_isState s m args below meth c H locs 0 0 (MQ below (va_Qi (fun (r : Int32) (_ : Unit) => r = o) (fun (_ : Unit) (U : State) => hW D vwCl ad (Sum.elim so (mSH C)) (Sum.elim t g) lt U.heap) (hA s0)) args s 0 0 (hA s0)) (F0 m 0 ls []) := by
  obtain ⟨hx, hb, hr, hml, hown, hts, hlocks, hK, hZ0, hA0⟩ := CX
  unfold m_isState at hf
  refine lv_iconst (v := 0) hx hb dX5_isState_0 (by decide) ?_
  refine lv_istore_n (lv' := [(3, .int (0 : Int32)), (0, .ref (ad (.inr 0))), (1, .int p0), (2, .ref (ad (.inr r1)))]) hx hb dX5_isState_1 rfl hl (by decide) rfl (fun ls hl => ?_)
  obtain ⟨x4, hq, hf⟩ := hbind hf
  refine w_m_isState_L2 ⟨hx, hb, hr, hml, hown, hts, hlocks, hK, hZ0, hA0⟩ hIx g p0 r1 h_r1 x4 hFU (0 : Int32) hq (fun e5 ex1 H locs ls hM hS hl => ?_) (fun r er => ?_) H locs ls hM hS (lv_sub hl [1, 2, 3, 0] rfl)
  · subst ex1
    replace hf := hcase_l hf
    refine lv_iconst (v := 1) hx hb dX5_isState_33 (by decide) ?_
    have eo := Option.some.inj hf
    subst eo
    exact W.zret (v := (1 : Int32)) hx hb hr rfl (fun T ht hW => ⟨⟨(1 : Int32), (), rfl, rfl, by dsimp only; rw [ht]; exact hM⟩, hS.F ht⟩) hS.2.2 dX5_isState_34
  · subst er
    first | exact Option.some.inj (hcase_r hf) | exact Option.some.inj hf
set_option maxHeartbeats 4000000 in
set_option maxRecDepth 100000 in
theorem met_m_isState (l : Launch) (D : va_G) (C : Nat → Nat) (a0 : Array Value) (s0 : State) (ad : Rl → Nat) (so : Nat → Option hS) (t : hSt) (lt : Rl → Nat → Int64) (g : hSt) (p0 : Int32) (r1 : Nat) (h_r1 : mSH C r1 = some (.inl (C 0, 30, false))) {o : Int32} (hf : m_isState g p0 r1 = some o) : Met l yX5_isState (ws_ yX5_isState cX5_isState 4 (some .boolean)) rm_m_isState (va_Pc [.ref (ad (.inr 0)), .int p0, .ref (ad (.inr r1))] (hB D vwCl (hT C) (hA s0) (hZ a0 s0) ad (Sum.elim so (mSH C)) (Sum.elim t g) lt)) (va_Qi (fun (r : Int32) (_ : Unit) => r = o) (fun (_ : Unit) (U : State) => hW D vwCl ad (Sum.elim so (mSH C)) (Sum.elim t g) lt U.heap) (hA s0)) 0 0 (hA s0) := by
  refine Met.ofW (cc := cX5_isState) (maxL := 4) (ret := (some .boolean)) (by decide) rfl ?_
  intro p e s m args below meth c s₁ B hml hv
  obtain ⟨rfl, hM, hIx, hK, hZ0, hA0⟩ := hv
  have hl := lv_entry ([.ref (ad (.inr 0)), .int p0, .ref (ad (.inr r1))]) (n := 4) (Nat.le_of_ble_eq_true rfl)
  rw [lg_entry_eq]
  generalize (lg_sl ([.ref (ad (.inr 0)), .int p0, .ref (ad (.inr r1))]) ++ List.replicate (4 - (lg_sl ([.ref (ad (.inr 0)), .int p0, .ref (ad (.inr r1))])).length) Slot.unset).toArray = ls at hl ⊢
  have hl : lv_has ls 4 [(0, .ref (ad (.inr 0))), (1, .int p0), (2, .ref (ad (.inr r1)))] := hl
  exact w_m_isState ⟨B.exec, B.bytes, B.returns, hml, findClass_of_methodNamed B.named, fun w h => atoms_spec (ws := ws_ yX5_isState cX5_isState 4 (some .boolean)) B.pre w (List.mem_cons_of_mem _ h), B.notSynchronized, hK, hZ0, hA0⟩ hIx g p0 r1 h_r1 hf hM va_S.rf hl

def rm_m_come : Room := { frames := 3, cells := 0, slots := 0, locals := 40 }
set_option maxHeartbeats 4000000 in
set_option maxRecDepth 100000 in
theorem w_m_come_L13 {p : Program} {l : Launch} {e : Env} {s : State} {m : MethodId} {args : Array Value} {below : List Frame} {meth : Method} {c : Code} {D : va_G} {C : Nat → Nat} {a0 : Array Value} {s0 : State} {ad : Rl → Nat} {so : Nat → Option hS} {t : hSt} {lt : Rl → Nat → Int64} (CX : hCx D C a0 s0 p s m args meth c cX5_come 5 RX5 (none)) (hIx : hI (hA s0) ad (Sum.elim so (mSH C))) (g : hSt) (r0 : Nat) (p1 : Int32) (y1 : Int32) (x2 : Int32) (h_r0 : mSH C r0 = some (.inl (C 0, 30, false))) {oM : hSt} (x : (Unit) ⊕ (hSt)) (n : Nat) (q0 : Int32) (h0 : hiter (fun q : Int32 => m_come_L13 g r0 q) n q0 = some x) (kx0 : ∀ x' : Unit, x = .inl x' → ∀ (H : Heap) (locs : List Loc) (ls : Array Slot), hW D vwCl ad (Sum.elim so (mSH C)) (Sum.elim t g) lt H → va_S (hA s0) s.heap H locs → lv_has ls 5 [(0, .ref (ad (.inr 0))), (1, .ref (ad (.inr r0))), (2, .int p1), (3, .int y1)] → W p l e rm_m_come s m args below meth c H locs 0 0 (MQ below (va_Qv (fun (_ : Unit) => True) (fun (_ : Unit) (U : State) => hW D vwCl ad (Sum.elim so (mSH C)) (Sum.elim t oM) lt U.heap) (hA s0)) args s 0 0 (hA s0)) (F0 m 42 ls [])) (kr0 : ∀ r : hSt, x = .inr r → r = oM) : ∀ (H : Heap) (locs : List Loc) (ls : Array Slot), hW D vwCl ad (Sum.elim so (mSH C)) (Sum.elim t g) lt H → va_S (hA s0) s.heap H locs → lv_has ls 5 [(0, .ref (ad (.inr 0))), (1, .ref (ad (.inr r0))), (2, .int p1), (3, .int y1), (4, .int q0)] → W p l e rm_m_come s m args below meth c H locs 0 0 (MQ below (va_Qv (fun (_ : Unit) => True) (fun (_ : Unit) (U : State) => hW D vwCl ad (Sum.elim so (mSH C)) (Sum.elim t oM) lt U.heap) (hA s0)) args s 0 0 (hA s0)) (F0 m 13 ls []) := by
  obtain ⟨hx, hb, hr, hml, hown, hts, hlocks, hK, hZ0, hA0⟩ := CX
  refine hiter_W (Wh := fun q => ∀ (H : Heap) (locs : List Loc) (ls : Array Slot), hW D vwCl ad (Sum.elim so (mSH C)) (Sum.elim t g) lt H → va_S (hA s0) s.heap H locs → lv_has ls 5 [(0, .ref (ad (.inr 0))), (1, .ref (ad (.inr r0))), (2, .int p1), (3, .int y1), (4, .int q)] → W p l e rm_m_come s m args below meth c H locs 0 0 (MQ below (va_Qv (fun (_ : Unit) => True) (fun (_ : Unit) (U : State) => hW D vwCl ad (Sum.elim so (mSH C)) (Sum.elim t oM) lt U.heap) (hA s0)) args s 0 0 (hA s0)) (F0 m 13 ls [])) ?_ n q0 h0
  intro q o hf kc kx1 H locs ls hM hS hl
  obtain ⟨v4_13, rfl⟩ : ∃ z, z = q := ⟨_, rfl⟩
  replace hf : m_come_L13 g r0 v4_13 = some o := hf
  have kx : ∀ x' : Unit, o = .inr (.inl x') → ∀ (H : Heap) (locs : List Loc) (ls : Array Slot), hW D vwCl ad (Sum.elim so (mSH C)) (Sum.elim t g) lt H → va_S (hA s0) s.heap H locs → lv_has ls 5 [(0, .ref (ad (.inr 0))), (1, .ref (ad (.inr r0))), (2, .int p1), (3, .int y1)] → W p l e rm_m_come s m args below meth c H locs 0 0 (MQ below (va_Qv (fun (_ : Unit) => True) (fun (_ : Unit) (U : State) => hW D vwCl ad (Sum.elim so (mSH C)) (Sum.elim t oM) lt U.heap) (hA s0)) args s 0 0 (hA s0)) (F0 m 42 ls []) := fun x' ex => kx0 x' (kx1 _ ex).symm
  have kr : ∀ r : hSt, o = .inr (.inr r) → r = oM := fun r ex => kr0 r (kx1 _ ex).symm
  unfold m_come_L13 at hf
  refine lv_iload hx hb dX5_come_13 (lv_at hl 4 rfl) ?_
  refine lv_iconst (v := -1) hx hb dX5_come_15 (by decide) ?_
  refine hb_icmp_eq (tgt := 42) hx hb dX5_come_16 (by decide) hf (fun hf => ?_) (fun hf => ?_)
  · exact kx () (Option.some.inj hf).symm H locs ls hM hS (lv_sub hl [0, 1, 2, 3] rfl)
  · refine lv_aload_n hx hb dX5_come_19 rfl (lv_at hl 0 rfl) ?_
    refine lv_iload hx hb dX5_come_20 (lv_at hl 4 rfl) ?_
    refine lv_aload_n hx hb dX5_come_22 rfl (lv_at hl 1 rfl) ?_
    obtain ⟨y3, hq, hf⟩ := hbind hf
    refine hr_calli0 (va_runV (As := [.int v4_13, .ref (ad (.inr r0))]) (rest := []) ⟨hx, hb, hml, hown, hts⟩ (met_m_isState l D C a0 s0 ad so t lt g v4_13 r0 h_r0 hq) (cwV 2 hts (lw_V q1779 q1781 qs65 q99 q1782) rfl rfl rfl (by decide +kernel) ⟨Nat.le_of_ble_eq_true rfl, Nat.le_of_ble_eq_true rfl⟩) (hr_preV hZ_c hM hIx hK hZ0 hA0 hS (r := .inr 0) mS_0 (q := (RX5, TX5, 55)) rfl) rfl rfl hl.1 rfl (lv_room (Nat.le_of_ble_eq_true rfl)) dX5_come_23 ⟨Nat.le_of_ble_eq_true rfl, Nat.le_of_ble_eq_true rfl⟩) hS (fun H locs hM hS => ?_)
    refine hb_if_eq (tgt := 30) hx hb dX5_come_26 (by decide) hf (fun hf => ?_) (fun hf => ?_)
    · refine lv_aload_n hx hb dX5_come_30 rfl (lv_at hl 0 rfl) ?_
      refine hr_get (ci := 5) (C := RX5) (T := TX5) (N := 55) (r := .inr 0) hx hb hts in_X5 hown hK hM mS_0 rfl 40 (by decide) (hts _ q1408) rfl (v := .ref (ad (.inr 41))) rfl dX5_come_31 ?_
      refine lv_iload hx hb dX5_come_34 (lv_at hl 4 rfl) ?_
      refine hm_iald (r := 41) hx hb hK hM 0 mS_41 rfl hf dX5_come_36 (fun x4 hf => ?_)
      refine lv_istore (lv' := [(4, .int x4), (0, .ref (ad (.inr 0))), (1, .ref (ad (.inr r0))), (2, .int p1), (3, .int y1)]) hx hb dX5_come_37 hl (by decide) rfl (fun ls hl => ?_)
      refine lv_goto (tgt := 13) hx hb dX5_come_39 (by decide) ?_
      exact kc x4 (Option.some.inj hf).symm H locs ls hM hS (lv_sub hl [1, 2, 3, 4, 0] rfl)
    · have eo := kr g (Option.some.inj hf).symm
      subst eo
      exact W.vret hx hb hr (fun T ht hW => ⟨⟨(), rfl, trivial, by dsimp only; rw [ht]; exact hM⟩, hS.F ht⟩) hS.2.2 dX5_come_29
set_option maxHeartbeats 4000000 in
set_option maxRecDepth 100000 in
theorem w_m_come_L61 {p : Program} {l : Launch} {e : Env} {s : State} {m : MethodId} {args : Array Value} {below : List Frame} {meth : Method} {c : Code} {D : va_G} {C : Nat → Nat} {a0 : Array Value} {s0 : State} {ad : Rl → Nat} {so : Nat → Option hS} {t : hSt} {lt : Rl → Nat → Int64} (CX : hCx D C a0 s0 p s m args meth c cX5_come 5 RX5 (none)) (hIx : hI (hA s0) ad (Sum.elim so (mSH C))) (g : hSt) (r0 : Nat) (p1 : Int32) (y1 : Int32) (x2 : Int32) (e6 : Unit) (h_r0 : mSH C r0 = some (.inl (C 0, 30, false))) {oM : hSt} (x : hSt) (n : Nat) (q0 : Int32 × hSt) (h0 : hiter (fun q : Int32 × hSt => m_come_L61 r0 q.1 q.2) n q0 = some x) (kx0 : ∀ (H : Heap) (locs : List Loc) (ls : Array Slot), hW D vwCl ad (Sum.elim so (mSH C)) (Sum.elim t x) lt H → va_S (hA s0) s.heap H locs → lv_has ls 5 [(0, .ref (ad (.inr 0))), (2, .int p1), (3, .int y1)] → W p l e rm_m_come s m args below meth c H locs 0 0 (MQ below (va_Qv (fun (_ : Unit) => True) (fun (_ : Unit) (U : State) => hW D vwCl ad (Sum.elim so (mSH C)) (Sum.elim t oM) lt U.heap) (hA s0)) args s 0 0 (hA s0)) (F0 m 93 ls [])) : ∀ (H : Heap) (locs : List Loc) (ls : Array Slot), hW D vwCl ad (Sum.elim so (mSH C)) (Sum.elim t q0.2) lt H → va_S (hA s0) s.heap H locs → lv_has ls 5 [(0, .ref (ad (.inr 0))), (1, .ref (ad (.inr r0))), (2, .int p1), (3, .int y1), (4, .int q0.1)] → W p l e rm_m_come s m args below meth c H locs 0 0 (MQ below (va_Qv (fun (_ : Unit) => True) (fun (_ : Unit) (U : State) => hW D vwCl ad (Sum.elim so (mSH C)) (Sum.elim t oM) lt U.heap) (hA s0)) args s 0 0 (hA s0)) (F0 m 61 ls []) := by
  obtain ⟨hx, hb, hr, hml, hown, hts, hlocks, hK, hZ0, hA0⟩ := CX
  refine hiter_W (Wh := fun q => ∀ (H : Heap) (locs : List Loc) (ls : Array Slot), hW D vwCl ad (Sum.elim so (mSH C)) (Sum.elim t q.2) lt H → va_S (hA s0) s.heap H locs → lv_has ls 5 [(0, .ref (ad (.inr 0))), (1, .ref (ad (.inr r0))), (2, .int p1), (3, .int y1), (4, .int q.1)] → W p l e rm_m_come s m args below meth c H locs 0 0 (MQ below (va_Qv (fun (_ : Unit) => True) (fun (_ : Unit) (U : State) => hW D vwCl ad (Sum.elim so (mSH C)) (Sum.elim t oM) lt U.heap) (hA s0)) args s 0 0 (hA s0)) (F0 m 61 ls [])) ?_ n q0 h0
  intro q o hf kc kx1 H locs ls hM hS hl
  obtain ⟨v4_61, g_61⟩ := q
  replace hf : m_come_L61 r0 v4_61 g_61 = some o := hf
  have kx : ∀ x' : hSt, o = .inr x' → ∀ (H : Heap) (locs : List Loc) (ls : Array Slot), hW D vwCl ad (Sum.elim so (mSH C)) (Sum.elim t x') lt H → va_S (hA s0) s.heap H locs → lv_has ls 5 [(0, .ref (ad (.inr 0))), (2, .int p1), (3, .int y1)] → W p l e rm_m_come s m args below meth c H locs 0 0 (MQ below (va_Qv (fun (_ : Unit) => True) (fun (_ : Unit) (U : State) => hW D vwCl ad (Sum.elim so (mSH C)) (Sum.elim t oM) lt U.heap) (hA s0)) args s 0 0 (hA s0)) (F0 m 93 ls []) := fun x' ex => by rw [kx1 _ ex]; exact kx0
  unfold m_come_L61 at hf
  refine lv_iload hx hb dX5_come_61 (lv_at hl 4 rfl) ?_
  refine lv_bipush (v := 30) hx hb dX5_come_63 (by decide) ?_
  refine hb_icmp_ge (tgt := 93) hx hb dX5_come_65 (by decide) hf (fun hf => ?_) (fun hf => ?_)
  · exact kx g_61 (Option.some.inj hf).symm H locs ls hM hS (lv_sub hl [0, 2, 3] rfl)
  · refine lv_aload_n hx hb dX5_come_68 rfl (lv_at hl 0 rfl) ?_
    refine hr_get (ci := 5) (C := RX5) (T := TX5) (N := 55) (r := .inr 0) hx hb hts in_X5 hown hK hM mS_0 rfl 38 (by decide) (hts _ q1406) rfl (v := .ref (ad (.inr 39))) rfl dX5_come_69 ?_
    refine lv_bipush (v := 30) hx hb dX5_come_72 (by decide) ?_
    refine lv_aload_n hx hb dX5_come_74 rfl (lv_at hl 0 rfl) ?_
    refine hr_get (ci := 5) (C := RX5) (T := TX5) (N := 55) (r := .inr 0) hx hb hts in_X5 hown hK hM mS_0 rfl 44 (by decide) (hts _ q1412) rfl (v := .int (g_61 0 44)) rfl dX5_come_75 ?_
    refine lv_imul hx hb dX5_come_78 ?_
    refine lv_iload hx hb dX5_come_79 (lv_at hl 4 rfl) ?_
    refine lv_iadd hx hb dX5_come_81 ?_
    refine lv_aload_n hx hb dX5_come_82 rfl (lv_at hl 1 rfl) ?_
    refine lv_iload hx hb dX5_come_83 (lv_at hl 4 rfl) ?_
    refine hm_iald (r := r0) hx hb hK hM 0 h_r0 rfl hf dX5_come_85 (fun x7 hf => ?_)
    refine hm_iast (r := 39) hx hb hK hM hIx hS 0 mS_39 rfl hf dX5_come_86 (fun g8 H locs hf hM hS => ?_)
    obtain ⟨y4_9, ey, hf⟩ := hlet_ex hf
    refine lv_iinc (v := y4_9) (lv' := [(4, .int y4_9), (0, .ref (ad (.inr 0))), (1, .ref (ad (.inr r0))), (2, .int p1), (3, .int y1)]) hx hb dX5_come_87 hl (k := 4) rfl (by rw [ey]; rfl) (by decide) rfl (fun ls hl => ?_)
    refine lv_goto (tgt := 61) hx hb dX5_come_90 (by decide) ?_
    exact kc (y4_9, g8) (Option.some.inj hf).symm H locs ls hM hS (lv_sub hl [1, 2, 3, 4, 0] rfl)
set_option maxHeartbeats 4000000 in
set_option maxRecDepth 100000 in
theorem w_m_come {p : Program} {l : Launch} {e : Env} {s : State} {m : MethodId} {args : Array Value} {below : List Frame} {meth : Method} {c : Code} {D : va_G} {C : Nat → Nat} {a0 : Array Value} {s0 : State} {ad : Rl → Nat} {so : Nat → Option hS} {t : hSt} {lt : Rl → Nat → Int64} (CX : hCx D C a0 s0 p s m args meth c cX5_come 5 RX5 (none)) (hIx : hI (hA s0) ad (Sum.elim so (mSH C))) (g : hSt) (r0 : Nat) (p1 : Int32) (h_r0 : mSH C r0 = some (.inl (C 0, 30, false))) {o : hSt} (hf : m_come g r0 p1 = some o) {H : Heap} {locs : List Loc} (hM : hW D vwCl ad (Sum.elim so (mSH C)) (Sum.elim t g) lt H) (hS : va_S (hA s0) s.heap H locs) {ls : Array Slot} (hl : lv_has ls 5 [(0, .ref (ad (.inr 0))), (1, .ref (ad (.inr r0))), (2, .int p1)]) : W p l e rm_m_come s m args below meth c H locs 0 0 (MQ below (va_Qv (fun (_ : Unit) => True) (fun (_ : Unit) (U : State) => hW D vwCl ad (Sum.elim so (mSH C)) (Sum.elim t o) lt U.heap) (hA s0)) args s 0 0 (hA s0)) (F0 m 0 ls []) := by
  obtain ⟨hx, hb, hr, hml, hown, hts, hlocks, hK, hZ0, hA0⟩ := CX
  unfold m_come at hf
  refine lv_aload_n hx hb dX5_come_0 rfl (lv_at hl 1 rfl) ?_
  obtain ⟨y1, hq, hf⟩ := hbind hf
  refine hr_calli0 (va_runS (As := [.ref (ad (.inr r0))]) (rest := []) ⟨hx, hb, hml, hown, hts⟩ (met_m_foldOf l D C a0 s0 ad so t lt g r0 h_r0 hq) (va_cwS 1 hts (lw_S q1776 q1777 q99 q1778) rfl rfl rfl (by decide +kernel) ⟨Nat.le_of_ble_eq_true rfl, Nat.le_of_ble_eq_true rfl⟩) (hr_preS hZ_c hM hIx hK hZ0 hA0 hS) rfl rfl hl.1 rfl (lv_room (Nat.le_of_ble_eq_true rfl)) dX5_come_1 ⟨Nat.le_of_ble_eq_true rfl, Nat.le_of_ble_eq_true rfl⟩) hS (fun H locs hM hS => ?_)
  refine lv_istore_n (lv' := [(3, .int y1), (0, .ref (ad (.inr 0))), (1, .ref (ad (.inr r0))), (2, .int p1)]) hx hb dX5_come_4 rfl hl (by decide) rfl (fun ls hl => ?_)
  refine lv_aload_n hx hb dX5_come_5 rfl (lv_at hl 1 rfl) ?_
  refine hr_get (ci := 5) (C := RX5) (T := TX5) (N := 55) (r := .inr 0) hx hb hts in_X5 hown hK hM mS_0 rfl 41 (by decide) (hts _ q1409) rfl (v := .ref (ad (.inr 42))) rfl dX5_come_6 ?_
  refine lv_iload_n hx hb dX5_come_9 rfl (lv_at hl 0 rfl) ?_
  refine hm_iald (r := 42) hx hb hK hM 0 mS_42 rfl hf dX5_come_10 (fun x2 hf => ?_)
  refine lv_istore (lv' := [(4, .int x2), (3, .int y1), (0, .ref (ad (.inr 0))), (1, .ref (ad (.inr r0))), (2, .int p1)]) hx hb dX5_come_11 hl (by decide) rfl (fun ls hl => ?_)
  obtain ⟨x5, hq, hf⟩ := hbind hf
  refine w_m_come_L13 ⟨hx, hb, hr, hml, hown, hts, hlocks, hK, hZ0, hA0⟩ hIx g r0 p1 y1 x2 h_r0 x5 hFU x2 hq (fun e6 ex1 H locs ls hM hS hl => ?_) (fun r er => ?_) H locs ls hM hS (lv_sub hl [2, 3, 4, 1, 0] rfl)
  · subst ex1
    replace hf := hcase_l hf
    refine lv_aload_n hx hb dX5_come_42 rfl (lv_at hl 0 rfl) ?_
    refine hr_get (ci := 5) (C := RX5) (T := TX5) (N := 55) (r := .inr 0) hx hb hts in_X5 hown hK hM mS_0 rfl 44 (by decide) (hts _ q1412) rfl (v := .int (g 0 44)) rfl dX5_come_43 ?_
    refine lv_sipush (v := 1000) hx hb dX5_come_46 (by decide) ?_
    refine hb_icmp_ne (tgt := 58) hx hb dX5_come_49 (by decide) hf (fun hf => ?_) (fun hf => ?_)
    · refine lv_iconst (v := 0) hx hb dX5_come_58 (by decide) ?_
      refine lv_istore (lv' := [(4, .int (0 : Int32)), (0, .ref (ad (.inr 0))), (1, .ref (ad (.inr r0))), (2, .int p1), (3, .int y1)]) hx hb dX5_come_59 hl (by decide) rfl (fun ls hl => ?_)
      obtain ⟨x10, hq, hf⟩ := hbind hf
      refine w_m_come_L61 ⟨hx, hb, hr, hml, hown, hts, hlocks, hK, hZ0, hA0⟩ hIx g r0 p1 y1 x2 e6 h_r0 x10 hFU ((0 : Int32), g) hq (fun H locs ls hM hS hl => ?_) H locs ls hM hS (lv_sub hl [1, 2, 3, 4, 0] rfl)
      refine lv_aload_n hx hb dX5_come_93 rfl (lv_at hl 0 rfl) ?_
      refine hr_get (ci := 5) (C := RX5) (T := TX5) (N := 55) (r := .inr 0) hx hb hts in_X5 hown hK hM mS_0 rfl 39 (by decide) (hts _ q1407) rfl (v := .ref (ad (.inr 40))) rfl dX5_come_94 ?_
      refine lv_aload_n hx hb dX5_come_97 rfl (lv_at hl 0 rfl) ?_
      refine hr_get (ci := 5) (C := RX5) (T := TX5) (N := 55) (r := .inr 0) hx hb hts in_X5 hown hK hM mS_0 rfl 44 (by decide) (hts _ q1412) rfl (v := .int (x10 0 44)) rfl dX5_come_98 ?_
      refine lv_iload_n hx hb dX5_come_101 rfl (lv_at hl 1 rfl) ?_
      refine hm_iast (r := 40) hx hb hK hM hIx hS 0 mS_40 rfl hf dX5_come_102 (fun g11 H locs hf hM hS => ?_)
      refine lv_aload_n hx hb dX5_come_103 rfl (lv_at hl 0 rfl) ?_
      refine hr_get (ci := 5) (C := RX5) (T := TX5) (N := 55) (r := .inr 0) hx hb hts in_X5 hown hK hM mS_0 rfl 40 (by decide) (hts _ q1408) rfl (v := .ref (ad (.inr 41))) rfl dX5_come_104 ?_
      refine lv_aload_n hx hb dX5_come_107 rfl (lv_at hl 0 rfl) ?_
      refine hr_get (ci := 5) (C := RX5) (T := TX5) (N := 55) (r := .inr 0) hx hb hts in_X5 hown hK hM mS_0 rfl 44 (by decide) (hts _ q1412) rfl (v := .int (g11 0 44)) rfl dX5_come_108 ?_
      refine lv_aload_n hx hb dX5_come_111 rfl (lv_at hl 0 rfl) ?_
      refine hr_get (ci := 5) (C := RX5) (T := TX5) (N := 55) (r := .inr 0) hx hb hts in_X5 hown hK hM mS_0 rfl 41 (by decide) (hts _ q1409) rfl (v := .ref (ad (.inr 42))) rfl dX5_come_112 ?_
      refine lv_iload_n hx hb dX5_come_115 rfl (lv_at hl 2 rfl) ?_
      refine hm_iald (r := 42) hx hb hK hM 0 mS_42 rfl hf dX5_come_116 (fun x12 hf => ?_)
      refine hm_iast (r := 41) hx hb hK hM hIx hS 0 mS_41 rfl hf dX5_come_117 (fun g13 H locs hf hM hS => ?_)
      refine lv_aload_n hx hb dX5_come_118 rfl (lv_at hl 0 rfl) ?_
      refine hr_get (ci := 5) (C := RX5) (T := TX5) (N := 55) (r := .inr 0) hx hb hts in_X5 hown hK hM mS_0 rfl 41 (by decide) (hts _ q1409) rfl (v := .ref (ad (.inr 42))) rfl dX5_come_119 ?_
      refine lv_iload_n hx hb dX5_come_122 rfl (lv_at hl 2 rfl) ?_
      refine lv_aload_n hx hb dX5_come_123 rfl (lv_at hl 0 rfl) ?_
      refine hr_get (ci := 5) (C := RX5) (T := TX5) (N := 55) (r := .inr 0) hx hb hts in_X5 hown hK hM mS_0 rfl 44 (by decide) (hts _ q1412) rfl (v := .int (g13 0 44)) rfl dX5_come_124 ?_
      refine hm_iast (r := 42) hx hb hK hM hIx hS 0 mS_42 rfl hf dX5_come_127 (fun g14 H locs hf hM hS => ?_)
      refine lv_aload_n hx hb dX5_come_128 rfl (lv_at hl 0 rfl) ?_
      refine lv_dup hx hb dX5_come_129 rfl ?_
      refine hr_get (ci := 5) (C := RX5) (T := TX5) (N := 55) (r := .inr 0) hx hb hts in_X5 hown hK hM mS_0 rfl 44 (by decide) (hts _ q1412) rfl (v := .int (g14 0 44)) rfl dX5_come_130 ?_
      refine lv_iconst (v := 1) hx hb dX5_come_133 (by decide) ?_
      refine lv_iadd hx hb dX5_come_134 ?_
      refine hm_put (r := 0) (ci := 5) (C := RX5) (T := TX5) (N := 55) hx hb hts in_X5 tyX5 tyX5_ok nmX5 hown hK hM hIx hS mS_0 rfl 44 (by decide) (hts _ q1412) rfl rfl rfl hf dX5_come_135 (fun g15 H locs hf hM hS => ?_)
      have eo := Option.some.inj hf
      subst eo
      exact W.vret hx hb hr (fun T ht hW => ⟨⟨(), rfl, trivial, by dsimp only; rw [ht]; exact hM⟩, hS.F ht⟩) hS.2.2 dX5_come_138
    · refine lv_aload_n hx hb dX5_come_52 rfl (lv_at hl 0 rfl) ?_
      refine lv_iconst (v := 1) hx hb dX5_come_53 (by decide) ?_
      refine hm_putz (r := 0) (ci := 5) (C := RX5) (T := TX5) (N := 55) hx hb hts in_X5 tyX5 tyX5_ok nmX5 hown hK hM hIx hS mS_0 rfl 45 (by decide) (hts _ q1413) rfl rfl rfl hf dX5_come_54 (fun g16 H locs hf hM hS => ?_)
      have eo := Option.some.inj hf
      subst eo
      exact W.vret hx hb hr (fun T ht hW => ⟨⟨(), rfl, trivial, by dsimp only; rw [ht]; exact hM⟩, hS.F ht⟩) hS.2.2 dX5_come_57
  · subst er
    first | exact Option.some.inj (hcase_r hf) | exact Option.some.inj hf
set_option maxHeartbeats 4000000 in
set_option maxRecDepth 100000 in
theorem met_m_come (l : Launch) (D : va_G) (C : Nat → Nat) (a0 : Array Value) (s0 : State) (ad : Rl → Nat) (so : Nat → Option hS) (t : hSt) (lt : Rl → Nat → Int64) (g : hSt) (r0 : Nat) (p1 : Int32) (h_r0 : mSH C r0 = some (.inl (C 0, 30, false))) {o : hSt} (hf : m_come g r0 p1 = some o) : Met l yX5_come (ws_ yX5_come cX5_come 5 (none)) rm_m_come (va_Pc [.ref (ad (.inr 0)), .ref (ad (.inr r0)), .int p1] (hB D vwCl (hT C) (hA s0) (hZ a0 s0) ad (Sum.elim so (mSH C)) (Sum.elim t g) lt)) (va_Qv (fun (_ : Unit) => True) (fun (_ : Unit) (U : State) => hW D vwCl ad (Sum.elim so (mSH C)) (Sum.elim t o) lt U.heap) (hA s0)) 0 0 (hA s0) := by
  refine Met.ofW (cc := cX5_come) (maxL := 5) (ret := (none)) (by decide) rfl ?_
  intro p e s m args below meth c s₁ B hml hv
  obtain ⟨rfl, hM, hIx, hK, hZ0, hA0⟩ := hv
  have hl := lv_entry ([.ref (ad (.inr 0)), .ref (ad (.inr r0)), .int p1]) (n := 5) (Nat.le_of_ble_eq_true rfl)
  rw [lg_entry_eq]
  generalize (lg_sl ([.ref (ad (.inr 0)), .ref (ad (.inr r0)), .int p1]) ++ List.replicate (5 - (lg_sl ([.ref (ad (.inr 0)), .ref (ad (.inr r0)), .int p1])).length) Slot.unset).toArray = ls at hl ⊢
  have hl : lv_has ls 5 [(0, .ref (ad (.inr 0))), (1, .ref (ad (.inr r0))), (2, .int p1)] := hl
  exact w_m_come ⟨B.exec, B.bytes, B.returns, hml, findClass_of_methodNamed B.named, fun w h => atoms_spec (ws := ws_ yX5_come cX5_come 5 (none)) B.pre w (List.mem_cons_of_mem _ h), B.notSynchronized, hK, hZ0, hA0⟩ hIx g r0 p1 h_r0 hf hM va_S.rf hl

def rm_m_giveOn : Room := { frames := 7, cells := 0, slots := 0, locals := 81 }
set_option maxHeartbeats 4000000 in
set_option maxRecDepth 100000 in
theorem w_m_giveOn {p : Program} {l : Launch} {e : Env} {s : State} {m : MethodId} {args : Array Value} {below : List Frame} {meth : Method} {c : Code} {D : va_G} {C : Nat → Nat} {a0 : Array Value} {s0 : State} {ad : Rl → Nat} {so : Nat → Option hS} {t : hSt} {lt : Rl → Nat → Int64} (CX : hCx D C a0 s0 p s m args meth c cX5_giveOn 5 RX5 (none)) (hIx : hI (hA s0) ad (Sum.elim so (mSH C))) (g : hSt) (p0 : Int32) (p1 : Int32) (p2 : Int32) (p3 : Int32) {o : hSt} (hf : m_giveOn g p0 p1 p2 p3 = some o) {H : Heap} {locs : List Loc} (hM : hW D vwCl ad (Sum.elim so (mSH C)) (Sum.elim t g) lt H) (hS : va_S (hA s0) s.heap H locs) {ls : Array Slot} (hl : lv_has ls 5 [(0, .ref (ad (.inr 0))), (1, .int p0), (2, .int p1), (3, .int p2), (4, .int p3)]) : W p l e rm_m_giveOn s m args below meth c H locs 0 0 (MQ below (va_Qv (fun (_ : Unit) => True) (fun (_ : Unit) (U : State) => hW D vwCl ad (Sum.elim so (mSH C)) (Sum.elim t o) lt U.heap) (hA s0)) args s 0 0 (hA s0)) (F0 m 0 ls []) := by
  obtain ⟨hx, hb, hr, hml, hown, hts, hlocks, hK, hZ0, hA0⟩ := CX
  unfold m_giveOn at hf
  refine lv_aload_n hx hb dX5_giveOn_0 rfl (lv_at hl 0 rfl) ?_
  refine hr_get (ci := 5) (C := RX5) (T := TX5) (N := 55) (r := .inr 0) hx hb hts in_X5 hown hK hM mS_0 rfl 42 (by decide) (hts _ q1410) rfl (v := .ref (ad (.inr 43))) rfl dX5_giveOn_1 ?_
  refine lv_aload_n hx hb dX5_giveOn_4 rfl (lv_at hl 0 rfl) ?_
  refine hr_get (ci := 5) (C := RX5) (T := TX5) (N := 55) (r := .inr 0) hx hb hts in_X5 hown hK hM mS_0 rfl 43 (by decide) (hts _ q1411) rfl (v := .ref (ad (.inr 44))) rfl dX5_giveOn_5 ?_
  obtain ⟨y1, hq, hf⟩ := hbind hf
  refine hr_callv0 (va_runS (As := [.ref (ad (.inr 43)), .ref (ad (.inr 44))]) (rest := []) ⟨hx, hb, hml, hown, hts⟩ (met_m_copy l D C a0 s0 ad so t lt g 43 44 ms_43 ms_44 hq) (va_cwS 2 hts (lw_S q1637 q1638 q99 q1639) rfl rfl rfl (by decide +kernel) ⟨Nat.le_of_ble_eq_true rfl, Nat.le_of_ble_eq_true rfl⟩) (hr_preS hZ_c hM hIx hK hZ0 hA0 hS) rfl rfl hl.1 rfl (lv_room (Nat.le_of_ble_eq_true rfl)) dX5_giveOn_8 ⟨Nat.le_of_ble_eq_true rfl, Nat.le_of_ble_eq_true rfl⟩) hS (fun H locs hM hS => ?_)
  refine lv_aload_n hx hb dX5_giveOn_11 rfl (lv_at hl 0 rfl) ?_
  refine lv_aload_n hx hb dX5_giveOn_12 rfl (lv_at hl 0 rfl) ?_
  refine hr_get (ci := 5) (C := RX5) (T := TX5) (N := 55) (r := .inr 0) hx hb hts in_X5 hown hK hM mS_0 rfl 43 (by decide) (hts _ q1411) rfl (v := .ref (ad (.inr 44))) rfl dX5_giveOn_13 ?_
  refine lv_iload_n hx hb dX5_giveOn_16 rfl (lv_at hl 1 rfl) ?_
  refine lv_iload_n hx hb dX5_giveOn_17 rfl (lv_at hl 2 rfl) ?_
  refine lv_aload_n hx hb dX5_giveOn_18 rfl (lv_at hl 0 rfl) ?_
  refine lv_aload_n hx hb dX5_giveOn_19 rfl (lv_at hl 0 rfl) ?_
  refine hr_get (ci := 5) (C := RX5) (T := TX5) (N := 55) (r := .inr 0) hx hb hts in_X5 hown hK hM mS_0 rfl 42 (by decide) (hts _ q1410) rfl (v := .ref (ad (.inr 43))) rfl dX5_giveOn_20 ?_
  refine lv_iload_n hx hb dX5_giveOn_23 rfl (lv_at hl 1 rfl) ?_
  refine lv_iload_n hx hb dX5_giveOn_24 rfl (lv_at hl 2 rfl) ?_
  refine lv_aload_n hx hb dX5_giveOn_25 rfl (lv_at hl 0 rfl) ?_
  refine hr_get (ci := 5) (C := RX5) (T := TX5) (N := 55) (r := .inr 0) hx hb hts in_X5 hown hK hM mS_0 rfl 42 (by decide) (hts _ q1410) rfl (v := .ref (ad (.inr 43))) rfl dX5_giveOn_26 ?_
  refine lv_bipush (v := 18) hx hb dX5_giveOn_29 (by decide) ?_
  refine lv_iload_n hx hb dX5_giveOn_31 rfl (lv_at hl 1 rfl) ?_
  refine lv_iadd hx hb dX5_giveOn_32 ?_
  refine hm_iald (r := 43) hx hb hK hM 0 mS_43 rfl hf dX5_giveOn_33 (fun x2 hf => ?_)
  obtain ⟨y3, hq, hf⟩ := hbind hf
  refine hr_calli0 (va_runV (As := [.ref (ad (.inr 43)), .int p0, .int p1, .int x2]) (rest := [.int p1, .int p0, .ref (ad (.inr 44)), .ref (ad (.inr 0))]) ⟨hx, hb, hml, hown, hts⟩ (met_m_sandFor l D C a0 s0 ad so t lt y1 43 p0 p1 x2 ms_43 hq) (cwV 4 hts (lw_V q1720 q1722 qs57 q99 q1723) rfl rfl rfl (by decide +kernel) ⟨Nat.le_of_ble_eq_true rfl, Nat.le_of_ble_eq_true rfl⟩) (hr_preV hZ_c hM hIx hK hZ0 hA0 hS (r := .inr 0) mS_0 (q := (RX5, TX5, 55)) rfl) rfl rfl hl.1 rfl (lv_room (Nat.le_of_ble_eq_true rfl)) dX5_giveOn_34 ⟨Nat.le_of_ble_eq_true rfl, Nat.le_of_ble_eq_true rfl⟩) hS (fun H locs hM hS => ?_)
  refine lv_iload_n hx hb dX5_giveOn_37 rfl (lv_at hl 3 rfl) ?_
  obtain ⟨y4, hq, hf⟩ := hbind hf
  refine hr_calli0 (va_runV (As := [.ref (ad (.inr 44)), .int p0, .int p1, .int y3, .int p2]) (rest := []) ⟨hx, hb, hml, hown, hts⟩ (met_m_make l D C a0 s0 ad so t lt y1 44 p0 p1 y3 p2 ms_44 hq) (cwV 5 hts (lw_V q1700 q1702 qs55 q99 q1703) rfl rfl rfl (by decide +kernel) ⟨Nat.le_of_ble_eq_true rfl, Nat.le_of_ble_eq_true rfl⟩) (hr_preV hZ_c hM hIx hK hZ0 hA0 hS (r := .inr 0) mS_0 (q := (RX5, TX5, 55)) rfl) rfl rfl hl.1 rfl (lv_room (Nat.le_of_ble_eq_true rfl)) dX5_giveOn_38 ⟨Nat.le_of_ble_eq_true rfl, Nat.le_of_ble_eq_true rfl⟩) hS (fun H locs hM hS => ?_)
  refine lv_pop hx hb dX5_giveOn_41 rfl ?_
  refine lv_aload_n hx hb dX5_giveOn_42 rfl (lv_at hl 0 rfl) ?_
  refine lv_aload_n hx hb dX5_giveOn_43 rfl (lv_at hl 0 rfl) ?_
  refine hr_get (ci := 5) (C := RX5) (T := TX5) (N := 55) (r := .inr 0) hx hb hts in_X5 hown hK hM mS_0 rfl 43 (by decide) (hts _ q1411) rfl (v := .ref (ad (.inr 44))) rfl dX5_giveOn_44 ?_
  refine lv_iload hx hb dX5_giveOn_47 (lv_at hl 4 rfl) ?_
  obtain ⟨y5, hq, hf⟩ := hbind hf
  refine hr_callv0 (va_runV (As := [.ref (ad (.inr 44)), .int p3]) (rest := []) ⟨hx, hb, hml, hown, hts⟩ (met_m_come l D C a0 s0 ad so t lt y4.2 44 p3 ms_44 hq) (cwV 2 hts (lw_V q1772 q1774 qs64 q99 q1775) rfl rfl rfl (by decide +kernel) ⟨Nat.le_of_ble_eq_true rfl, Nat.le_of_ble_eq_true rfl⟩) (hr_preV hZ_c hM hIx hK hZ0 hA0 hS (r := .inr 0) mS_0 (q := (RX5, TX5, 55)) rfl) rfl rfl hl.1 rfl (lv_room (Nat.le_of_ble_eq_true rfl)) dX5_giveOn_49 ⟨Nat.le_of_ble_eq_true rfl, Nat.le_of_ble_eq_true rfl⟩) hS (fun H locs hM hS => ?_)
  have eo := Option.some.inj hf
  subst eo
  exact W.vret hx hb hr (fun T ht hW => ⟨⟨(), rfl, trivial, by dsimp only; rw [ht]; exact hM⟩, hS.F ht⟩) hS.2.2 dX5_giveOn_52
set_option maxHeartbeats 4000000 in
set_option maxRecDepth 100000 in
theorem met_m_giveOn (l : Launch) (D : va_G) (C : Nat → Nat) (a0 : Array Value) (s0 : State) (ad : Rl → Nat) (so : Nat → Option hS) (t : hSt) (lt : Rl → Nat → Int64) (g : hSt) (p0 : Int32) (p1 : Int32) (p2 : Int32) (p3 : Int32) {o : hSt} (hf : m_giveOn g p0 p1 p2 p3 = some o) : Met l yX5_giveOn (ws_ yX5_giveOn cX5_giveOn 5 (none)) rm_m_giveOn (va_Pc [.ref (ad (.inr 0)), .int p0, .int p1, .int p2, .int p3] (hB D vwCl (hT C) (hA s0) (hZ a0 s0) ad (Sum.elim so (mSH C)) (Sum.elim t g) lt)) (va_Qv (fun (_ : Unit) => True) (fun (_ : Unit) (U : State) => hW D vwCl ad (Sum.elim so (mSH C)) (Sum.elim t o) lt U.heap) (hA s0)) 0 0 (hA s0) := by
  refine Met.ofW (cc := cX5_giveOn) (maxL := 5) (ret := (none)) (by decide) rfl ?_
  intro p e s m args below meth c s₁ B hml hv
  obtain ⟨rfl, hM, hIx, hK, hZ0, hA0⟩ := hv
  have hl := lv_entry ([.ref (ad (.inr 0)), .int p0, .int p1, .int p2, .int p3]) (n := 5) (Nat.le_of_ble_eq_true rfl)
  rw [lg_entry_eq]
  generalize (lg_sl ([.ref (ad (.inr 0)), .int p0, .int p1, .int p2, .int p3]) ++ List.replicate (5 - (lg_sl ([.ref (ad (.inr 0)), .int p0, .int p1, .int p2, .int p3])).length) Slot.unset).toArray = ls at hl ⊢
  have hl : lv_has ls 5 [(0, .ref (ad (.inr 0))), (1, .int p0), (2, .int p1), (3, .int p2), (4, .int p3)] := hl
  exact w_m_giveOn ⟨B.exec, B.bytes, B.returns, hml, findClass_of_methodNamed B.named, fun w h => atoms_spec (ws := ws_ yX5_giveOn cX5_giveOn 5 (none)) B.pre w (List.mem_cons_of_mem _ h), B.notSynchronized, hK, hZ0, hA0⟩ hIx g p0 p1 p2 p3 hf hM va_S.rf hl

def rm_m_goOn : Room := { frames := 11, cells := 0, slots := 0, locals := 131 }
set_option maxHeartbeats 4000000 in
set_option maxRecDepth 100000 in
theorem w_m_goOn_B146 {p : Program} {l : Launch} {e : Env} {s : State} {m : MethodId} {args : Array Value} {below : List Frame} {meth : Method} {c : Code} {D : va_G} {C : Nat → Nat} {a0 : Array Value} {s0 : State} {ad : Rl → Nat} {so : Nat → Option hS} {t : hSt} {lt : Rl → Nat → Int64} (CX : hCx D C a0 s0 p s m args meth c cX5_goOn 6 RX5 (none)) (hIx : hI (hA s0) ad (Sum.elim so (mSH C))) (g : hSt) (p0 : Int32) (p1 : Int32) (p2 : Int32) (x1 : Int32) (v4_69 : Int32) (g_69 : hSt) (x2 : Int32) (y3 : Int32) (v5_102 : Int32) (g_102 : hSt) (x4 : Int32) (x6 : Int32) {oM : hSt} {o : (Int32 × hSt) ⊕ (hSt)} (hf : m_goOn_B146 p0 p2 v4_69 v5_102 g_102 = some o) (kc : ∀ s' : Int32 × hSt, o = .inl s' → ∀ (H : Heap) (locs : List Loc) (ls : Array Slot), hW D vwCl ad (Sum.elim so (mSH C)) (Sum.elim t s'.2) lt H → va_S (hA s0) s.heap H locs → lv_has ls 6 [(0, .ref (ad (.inr 0))), (1, .int p0), (3, .int p2), (4, .int v4_69), (5, .int s'.1)] → W p l e rm_m_goOn s m args below meth c H locs 0 0 (MQ below (va_Qv (fun (_ : Unit) => True) (fun (_ : Unit) (U : State) => hW D vwCl ad (Sum.elim so (mSH C)) (Sum.elim t oM) lt U.heap) (hA s0)) args s 0 0 (hA s0)) (F0 m 102 ls [])) (kx : ∀ x' : hSt, o = .inr x' → ∀ (H : Heap) (locs : List Loc) (ls : Array Slot), hW D vwCl ad (Sum.elim so (mSH C)) (Sum.elim t x') lt H → va_S (hA s0) s.heap H locs → lv_has ls 6 [(0, .ref (ad (.inr 0))), (1, .int p0), (3, .int p2), (4, .int v4_69)] → W p l e rm_m_goOn s m args below meth c H locs 0 0 (MQ below (va_Qv (fun (_ : Unit) => True) (fun (_ : Unit) (U : State) => hW D vwCl ad (Sum.elim so (mSH C)) (Sum.elim t oM) lt U.heap) (hA s0)) args s 0 0 (hA s0)) (F0 m 162 ls [])) {H : Heap} {locs : List Loc} (hM : hW D vwCl ad (Sum.elim so (mSH C)) (Sum.elim t g_102) lt H) (hS : va_S (hA s0) s.heap H locs) {ls : Array Slot} (hl : lv_has ls 6 [(0, .ref (ad (.inr 0))), (1, .int p0), (3, .int p2), (4, .int v4_69), (5, .int v5_102)]) : W p l e rm_m_goOn s m args below meth c H locs 0 0 (MQ below (va_Qv (fun (_ : Unit) => True) (fun (_ : Unit) (U : State) => hW D vwCl ad (Sum.elim so (mSH C)) (Sum.elim t oM) lt U.heap) (hA s0)) args s 0 0 (hA s0)) (F0 m 146 ls []) := by
  obtain ⟨hx, hb, hr, hml, hown, hts, hlocks, hK, hZ0, hA0⟩ := CX
  unfold m_goOn_B146 at hf
  refine lv_aload_n hx hb dX5_goOn_146 rfl (lv_at hl 0 rfl) ?_
  refine lv_iload_n hx hb dX5_goOn_147 rfl (lv_at hl 1 rfl) ?_
  refine lv_iload hx hb dX5_goOn_148 (lv_at hl 3 rfl) ?_
  refine lv_iload hx hb dX5_goOn_150 (lv_at hl 4 rfl) ?_
  refine lv_iload_n hx hb dX5_goOn_152 rfl (lv_at hl 2 rfl) ?_
  obtain ⟨y7, hq, hf⟩ := hbind hf
  refine hr_callv0 (va_runV (As := [.int p0, .int v4_69, .int v5_102, .int p2]) (rest := []) ⟨hx, hb, hml, hown, hts⟩ (met_m_giveOn l D C a0 s0 ad so t lt g_102 p0 v4_69 v5_102 p2 hq) (cwV 4 hts (lw_V q1787 q1789 qs67 q99 q1790) rfl rfl rfl (by decide +kernel) ⟨Nat.le_of_ble_eq_true rfl, Nat.le_of_ble_eq_true rfl⟩) (hr_preV hZ_c hM hIx hK hZ0 hA0 hS (r := .inr 0) mS_0 (q := (RX5, TX5, 55)) rfl) rfl rfl hl.1 rfl (lv_room (Nat.le_of_ble_eq_true rfl)) dX5_goOn_153 ⟨Nat.le_of_ble_eq_true rfl, Nat.le_of_ble_eq_true rfl⟩) hS (fun H locs hM hS => ?_)
  obtain ⟨y5_8, ey, hf⟩ := hlet_ex hf
  refine lv_iinc (v := y5_8) (lv' := [(5, .int y5_8), (0, .ref (ad (.inr 0))), (1, .int p0), (3, .int p2), (4, .int v4_69)]) hx hb dX5_goOn_156 hl (k := 4) rfl (by rw [ey]; rfl) (by decide) rfl (fun ls hl => ?_)
  refine lv_goto (tgt := 102) hx hb dX5_goOn_159 (by decide) ?_
  exact kc (y5_8, y7) (Option.some.inj hf).symm H locs ls hM hS (lv_sub hl [1, 2, 3, 4, 0] rfl)
set_option maxHeartbeats 4000000 in
set_option maxRecDepth 100000 in
theorem w_m_goOn_L102 {p : Program} {l : Launch} {e : Env} {s : State} {m : MethodId} {args : Array Value} {below : List Frame} {meth : Method} {c : Code} {D : va_G} {C : Nat → Nat} {a0 : Array Value} {s0 : State} {ad : Rl → Nat} {so : Nat → Option hS} {t : hSt} {lt : Rl → Nat → Int64} (CX : hCx D C a0 s0 p s m args meth c cX5_goOn 6 RX5 (none)) (hIx : hI (hA s0) ad (Sum.elim so (mSH C))) (g : hSt) (p0 : Int32) (p1 : Int32) (p2 : Int32) (x1 : Int32) (v4_69 : Int32) (g_69 : hSt) (x2 : Int32) (y3 : Int32) {oM : hSt} (x : hSt) (n : Nat) (q0 : Int32 × hSt) (h0 : hiter (fun q : Int32 × hSt => m_goOn_L102 p0 p2 v4_69 q.1 q.2) n q0 = some x) (kx0 : ∀ (H : Heap) (locs : List Loc) (ls : Array Slot), hW D vwCl ad (Sum.elim so (mSH C)) (Sum.elim t x) lt H → va_S (hA s0) s.heap H locs → lv_has ls 6 [(0, .ref (ad (.inr 0))), (1, .int p0), (3, .int p2), (4, .int v4_69)] → W p l e rm_m_goOn s m args below meth c H locs 0 0 (MQ below (va_Qv (fun (_ : Unit) => True) (fun (_ : Unit) (U : State) => hW D vwCl ad (Sum.elim so (mSH C)) (Sum.elim t oM) lt U.heap) (hA s0)) args s 0 0 (hA s0)) (F0 m 162 ls [])) : ∀ (H : Heap) (locs : List Loc) (ls : Array Slot), hW D vwCl ad (Sum.elim so (mSH C)) (Sum.elim t q0.2) lt H → va_S (hA s0) s.heap H locs → lv_has ls 6 [(0, .ref (ad (.inr 0))), (1, .int p0), (3, .int p2), (4, .int v4_69), (5, .int q0.1)] → W p l e rm_m_goOn s m args below meth c H locs 0 0 (MQ below (va_Qv (fun (_ : Unit) => True) (fun (_ : Unit) (U : State) => hW D vwCl ad (Sum.elim so (mSH C)) (Sum.elim t oM) lt U.heap) (hA s0)) args s 0 0 (hA s0)) (F0 m 102 ls []) := by
  obtain ⟨hx, hb, hr, hml, hown, hts, hlocks, hK, hZ0, hA0⟩ := CX
  refine hiter_W (Wh := fun q => ∀ (H : Heap) (locs : List Loc) (ls : Array Slot), hW D vwCl ad (Sum.elim so (mSH C)) (Sum.elim t q.2) lt H → va_S (hA s0) s.heap H locs → lv_has ls 6 [(0, .ref (ad (.inr 0))), (1, .int p0), (3, .int p2), (4, .int v4_69), (5, .int q.1)] → W p l e rm_m_goOn s m args below meth c H locs 0 0 (MQ below (va_Qv (fun (_ : Unit) => True) (fun (_ : Unit) (U : State) => hW D vwCl ad (Sum.elim so (mSH C)) (Sum.elim t oM) lt U.heap) (hA s0)) args s 0 0 (hA s0)) (F0 m 102 ls [])) ?_ n q0 h0
  intro q o hf kc kx1 H locs ls hM hS hl
  obtain ⟨v5_102, g_102⟩ := q
  replace hf : m_goOn_L102 p0 p2 v4_69 v5_102 g_102 = some o := hf
  have kx : ∀ x' : hSt, o = .inr x' → ∀ (H : Heap) (locs : List Loc) (ls : Array Slot), hW D vwCl ad (Sum.elim so (mSH C)) (Sum.elim t x') lt H → va_S (hA s0) s.heap H locs → lv_has ls 6 [(0, .ref (ad (.inr 0))), (1, .int p0), (3, .int p2), (4, .int v4_69)] → W p l e rm_m_goOn s m args below meth c H locs 0 0 (MQ below (va_Qv (fun (_ : Unit) => True) (fun (_ : Unit) (U : State) => hW D vwCl ad (Sum.elim so (mSH C)) (Sum.elim t oM) lt U.heap) (hA s0)) args s 0 0 (hA s0)) (F0 m 162 ls []) := fun x' ex => by rw [kx1 _ ex]; exact kx0
  unfold m_goOn_L102 at hf
  refine lv_iload hx hb dX5_goOn_102 (lv_at hl 4 rfl) ?_
  refine lv_aload_n hx hb dX5_goOn_104 rfl (lv_at hl 0 rfl) ?_
  refine hr_get (ci := 5) (C := RX5) (T := TX5) (N := 55) (r := .inr 0) hx hb hts in_X5 hown hK hM mS_0 rfl 2 (by decide) (hts _ q1370) rfl (v := .ref (ad (.inr 3))) rfl dX5_goOn_105 ?_
  refine lv_iconst (v := 0) hx hb dX5_goOn_108 (by decide) ?_
  refine hm_iald (r := 3) hx hb hK hM 0 mS_3 rfl hf dX5_goOn_109 (fun x4 hf => ?_)
  refine hb_icmp_ge (tgt := 162) hx hb dX5_goOn_110 (by decide) hf (fun hf => ?_) (fun hf => ?_)
  · exact kx g_102 (Option.some.inj hf).symm H locs ls hM hS (lv_sub hl [0, 1, 2, 3] rfl)
  · refine lv_iload hx hb dX5_goOn_113 (lv_at hl 4 rfl) ?_
    refine lv_iload_n hx hb dX5_goOn_115 rfl (lv_at hl 1 rfl) ?_
    refine hb_icmp_eq (tgt := 156) hx hb dX5_goOn_116 (by decide) hf (fun hf => ?_) (fun hf => ?_)
    · obtain ⟨y5_5, ey, hf⟩ := hlet_ex hf
      refine lv_iinc (v := y5_5) (lv' := [(5, .int y5_5), (0, .ref (ad (.inr 0))), (1, .int p0), (3, .int p2), (4, .int v4_69)]) hx hb dX5_goOn_156 hl (k := 4) rfl (by rw [ey]; rfl) (by decide) rfl (fun ls hl => ?_)
      refine lv_goto (tgt := 102) hx hb dX5_goOn_159 (by decide) ?_
      exact kc (y5_5, g_102) (Option.some.inj hf).symm H locs ls hM hS (lv_sub hl [1, 2, 3, 4, 0] rfl)
    · refine lv_aload_n hx hb dX5_goOn_119 rfl (lv_at hl 0 rfl) ?_
      refine hr_get (ci := 5) (C := RX5) (T := TX5) (N := 55) (r := .inr 0) hx hb hts in_X5 hown hK hM mS_0 rfl 42 (by decide) (hts _ q1410) rfl (v := .ref (ad (.inr 43))) rfl dX5_goOn_120 ?_
      refine lv_bipush (v := 24) hx hb dX5_goOn_123 (by decide) ?_
      refine lv_iload_n hx hb dX5_goOn_125 rfl (lv_at hl 1 rfl) ?_
      refine lv_iadd hx hb dX5_goOn_126 ?_
      refine hm_iald (r := 43) hx hb hK hM 0 mS_43 rfl hf dX5_goOn_127 (fun x6 hf => ?_)
      refine lv_iconst (v := -1) hx hb dX5_goOn_128 (by decide) ?_
      refine hb_icmp_eq (tgt := 146) hx hb dX5_goOn_129 (by decide) hf (fun hf => ?_) (fun hf => ?_)
      · exact w_m_goOn_B146 ⟨hx, hb, hr, hml, hown, hts, hlocks, hK, hZ0, hA0⟩ hIx g p0 p1 p2 x1 v4_69 g_69 x2 y3 v5_102 g_102 x4 x6 hf kc kx hM hS (lv_sub hl [0, 1, 2, 3, 4] rfl)
      · refine lv_aload_n hx hb dX5_goOn_132 rfl (lv_at hl 0 rfl) ?_
        refine hr_get (ci := 5) (C := RX5) (T := TX5) (N := 55) (r := .inr 0) hx hb hts in_X5 hown hK hM mS_0 rfl 42 (by decide) (hts _ q1410) rfl (v := .ref (ad (.inr 43))) rfl dX5_goOn_133 ?_
        refine lv_bipush (v := 24) hx hb dX5_goOn_136 (by decide) ?_
        refine lv_iload_n hx hb dX5_goOn_138 rfl (lv_at hl 1 rfl) ?_
        refine lv_iadd hx hb dX5_goOn_139 ?_
        refine hm_iald (r := 43) hx hb hK hM 0 mS_43 rfl hf dX5_goOn_140 (fun x9 hf => ?_)
        refine lv_iload hx hb dX5_goOn_141 (lv_at hl 4 rfl) ?_
        refine hb_icmp_ne (tgt := 156) hx hb dX5_goOn_143 (by decide) hf (fun hf => ?_) (fun hf => ?_)
        · obtain ⟨y5_10, ey, hf⟩ := hlet_ex hf
          refine lv_iinc (v := y5_10) (lv' := [(5, .int y5_10), (0, .ref (ad (.inr 0))), (1, .int p0), (3, .int p2), (4, .int v4_69)]) hx hb dX5_goOn_156 hl (k := 4) rfl (by rw [ey]; rfl) (by decide) rfl (fun ls hl => ?_)
          refine lv_goto (tgt := 102) hx hb dX5_goOn_159 (by decide) ?_
          exact kc (y5_10, g_102) (Option.some.inj hf).symm H locs ls hM hS (lv_sub hl [1, 2, 3, 4, 0] rfl)
        · exact w_m_goOn_B146 ⟨hx, hb, hr, hml, hown, hts, hlocks, hK, hZ0, hA0⟩ hIx g p0 p1 p2 x1 v4_69 g_69 x2 y3 v5_102 g_102 x4 x6 hf kc kx hM hS (lv_sub hl [0, 1, 2, 3, 4] rfl)
set_option maxHeartbeats 4000000 in
set_option maxRecDepth 100000 in
theorem w_m_goOn_L69 {p : Program} {l : Launch} {e : Env} {s : State} {m : MethodId} {args : Array Value} {below : List Frame} {meth : Method} {c : Code} {D : va_G} {C : Nat → Nat} {a0 : Array Value} {s0 : State} {ad : Rl → Nat} {so : Nat → Option hS} {t : hSt} {lt : Rl → Nat → Int64} (CX : hCx D C a0 s0 p s m args meth c cX5_goOn 6 RX5 (none)) (hIx : hI (hA s0) ad (Sum.elim so (mSH C))) (g : hSt) (p0 : Int32) (p1 : Int32) (p2 : Int32) (x1 : Int32) {oM : hSt} (x : hSt) (n : Nat) (q0 : Int32 × hSt) (h0 : hiter (fun q : Int32 × hSt => m_goOn_L69 p0 p2 q.1 q.2) n q0 = some x) (kx0 : ∀ (H : Heap) (locs : List Loc) (ls : Array Slot), hW D vwCl ad (Sum.elim so (mSH C)) (Sum.elim t x) lt H → va_S (hA s0) s.heap H locs → lv_has ls 6 [] → W p l e rm_m_goOn s m args below meth c H locs 0 0 (MQ below (va_Qv (fun (_ : Unit) => True) (fun (_ : Unit) (U : State) => hW D vwCl ad (Sum.elim so (mSH C)) (Sum.elim t oM) lt U.heap) (hA s0)) args s 0 0 (hA s0)) (F0 m 168 ls [])) : ∀ (H : Heap) (locs : List Loc) (ls : Array Slot), hW D vwCl ad (Sum.elim so (mSH C)) (Sum.elim t q0.2) lt H → va_S (hA s0) s.heap H locs → lv_has ls 6 [(0, .ref (ad (.inr 0))), (1, .int p0), (3, .int p2), (4, .int q0.1)] → W p l e rm_m_goOn s m args below meth c H locs 0 0 (MQ below (va_Qv (fun (_ : Unit) => True) (fun (_ : Unit) (U : State) => hW D vwCl ad (Sum.elim so (mSH C)) (Sum.elim t oM) lt U.heap) (hA s0)) args s 0 0 (hA s0)) (F0 m 69 ls []) := by
  obtain ⟨hx, hb, hr, hml, hown, hts, hlocks, hK, hZ0, hA0⟩ := CX
  refine hiter_W (Wh := fun q => ∀ (H : Heap) (locs : List Loc) (ls : Array Slot), hW D vwCl ad (Sum.elim so (mSH C)) (Sum.elim t q.2) lt H → va_S (hA s0) s.heap H locs → lv_has ls 6 [(0, .ref (ad (.inr 0))), (1, .int p0), (3, .int p2), (4, .int q.1)] → W p l e rm_m_goOn s m args below meth c H locs 0 0 (MQ below (va_Qv (fun (_ : Unit) => True) (fun (_ : Unit) (U : State) => hW D vwCl ad (Sum.elim so (mSH C)) (Sum.elim t oM) lt U.heap) (hA s0)) args s 0 0 (hA s0)) (F0 m 69 ls [])) ?_ n q0 h0
  intro q o hf kc kx1 H locs ls hM hS hl
  obtain ⟨v4_69, g_69⟩ := q
  replace hf : m_goOn_L69 p0 p2 v4_69 g_69 = some o := hf
  have kx : ∀ x' : hSt, o = .inr x' → ∀ (H : Heap) (locs : List Loc) (ls : Array Slot), hW D vwCl ad (Sum.elim so (mSH C)) (Sum.elim t x') lt H → va_S (hA s0) s.heap H locs → lv_has ls 6 [] → W p l e rm_m_goOn s m args below meth c H locs 0 0 (MQ below (va_Qv (fun (_ : Unit) => True) (fun (_ : Unit) (U : State) => hW D vwCl ad (Sum.elim so (mSH C)) (Sum.elim t oM) lt U.heap) (hA s0)) args s 0 0 (hA s0)) (F0 m 168 ls []) := fun x' ex => by rw [kx1 _ ex]; exact kx0
  unfold m_goOn_L69 at hf
  refine lv_iload hx hb dX5_goOn_69 (lv_at hl 3 rfl) ?_
  refine lv_iconst (v := 1) hx hb dX5_goOn_71 (by decide) ?_
  refine lv_aload_n hx hb dX5_goOn_72 rfl (lv_at hl 0 rfl) ?_
  refine hr_get (ci := 5) (C := RX5) (T := TX5) (N := 55) (r := .inr 0) hx hb hts in_X5 hown hK hM mS_0 rfl 2 (by decide) (hts _ q1370) rfl (v := .ref (ad (.inr 3))) rfl dX5_goOn_73 ?_
  refine lv_iconst (v := 1) hx hb dX5_goOn_76 (by decide) ?_
  refine hm_iald (r := 3) hx hb hK hM 0 mS_3 rfl hf dX5_goOn_77 (fun x2 hf => ?_)
  refine lv_ishl hx hb dX5_goOn_78 ?_
  refine hb_icmp_ge (tgt := 168) hx hb dX5_goOn_79 (by decide) hf (fun hf => ?_) (fun hf => ?_)
  · exact kx g_69 (Option.some.inj hf).symm H locs ls hM hS (lv_sub hl [] rfl)
  · refine lv_aload_n hx hb dX5_goOn_82 rfl (lv_at hl 0 rfl) ?_
    refine lv_aload_n hx hb dX5_goOn_83 rfl (lv_at hl 0 rfl) ?_
    refine hr_get (ci := 5) (C := RX5) (T := TX5) (N := 55) (r := .inr 0) hx hb hts in_X5 hown hK hM mS_0 rfl 42 (by decide) (hts _ q1410) rfl (v := .ref (ad (.inr 43))) rfl dX5_goOn_84 ?_
    refine lv_iload_n hx hb dX5_goOn_87 rfl (lv_at hl 1 rfl) ?_
    refine lv_iload hx hb dX5_goOn_88 (lv_at hl 3 rfl) ?_
    obtain ⟨y3, hq, hf⟩ := hbind hf
    refine hr_calli0 (va_runV (As := [.ref (ad (.inr 43)), .int p0, .int v4_69]) (rest := []) ⟨hx, hb, hml, hown, hts⟩ (met_m_fits l D C a0 s0 ad so t lt g_69 43 p0 v4_69 ms_43 hq) (cwV 3 hts (lw_V q1716 q1718 qs56 q99 q1719) rfl rfl rfl (by decide +kernel) ⟨Nat.le_of_ble_eq_true rfl, Nat.le_of_ble_eq_true rfl⟩) (hr_preV hZ_c hM hIx hK hZ0 hA0 hS (r := .inr 0) mS_0 (q := (RX5, TX5, 55)) rfl) rfl rfl hl.1 rfl (lv_room (Nat.le_of_ble_eq_true rfl)) dX5_goOn_90 ⟨Nat.le_of_ble_eq_true rfl, Nat.le_of_ble_eq_true rfl⟩) hS (fun H locs hM hS => ?_)
    refine hb_if_ne (tgt := 99) hx hb dX5_goOn_93 (by decide) hf (fun hf => ?_) (fun hf => ?_)
    · refine lv_iconst (v := 0) hx hb dX5_goOn_99 (by decide) ?_
      refine lv_istore (lv' := [(5, .int (0 : Int32)), (0, .ref (ad (.inr 0))), (1, .int p0), (3, .int p2), (4, .int v4_69)]) hx hb dX5_goOn_100 hl (by decide) rfl (fun ls hl => ?_)
      obtain ⟨x11, hq, hf⟩ := hbind hf
      refine w_m_goOn_L102 ⟨hx, hb, hr, hml, hown, hts, hlocks, hK, hZ0, hA0⟩ hIx g p0 p1 p2 x1 v4_69 g_69 x2 y3 x11 hFU ((0 : Int32), g_69) hq (fun H locs ls hM hS hl => ?_) H locs ls hM hS (lv_sub hl [1, 2, 3, 4, 0] rfl)
      obtain ⟨y4_12, ey, hf⟩ := hlet_ex hf
      refine lv_iinc (v := y4_12) (lv' := [(4, .int y4_12), (0, .ref (ad (.inr 0))), (1, .int p0), (3, .int p2)]) hx hb dX5_goOn_162 hl (k := 3) rfl (by rw [ey]; rfl) (by decide) rfl (fun ls hl => ?_)
      refine lv_goto (tgt := 69) hx hb dX5_goOn_165 (by decide) ?_
      exact kc (y4_12, x11) (Option.some.inj hf).symm H locs ls hM hS (lv_sub hl [1, 2, 3, 0] rfl)
    · refine lv_goto (tgt := 162) hx hb dX5_goOn_96 (by decide) ?_
      obtain ⟨y4_13, ey, hf⟩ := hlet_ex hf
      refine lv_iinc (v := y4_13) (lv' := [(4, .int y4_13), (0, .ref (ad (.inr 0))), (1, .int p0), (3, .int p2)]) hx hb dX5_goOn_162 hl (k := 3) rfl (by rw [ey]; rfl) (by decide) rfl (fun ls hl => ?_)
      refine lv_goto (tgt := 69) hx hb dX5_goOn_165 (by decide) ?_
      exact kc (y4_13, g_69) (Option.some.inj hf).symm H locs ls hM hS (lv_sub hl [1, 2, 3, 0] rfl)
set_option maxHeartbeats 4000000 in
set_option maxRecDepth 100000 in
theorem w_m_goOn {p : Program} {l : Launch} {e : Env} {s : State} {m : MethodId} {args : Array Value} {below : List Frame} {meth : Method} {c : Code} {D : va_G} {C : Nat → Nat} {a0 : Array Value} {s0 : State} {ad : Rl → Nat} {so : Nat → Option hS} {t : hSt} {lt : Rl → Nat → Int64} (CX : hCx D C a0 s0 p s m args meth c cX5_goOn 6 RX5 (none)) (hIx : hI (hA s0) ad (Sum.elim so (mSH C))) (g : hSt) (p0 : Int32) (p1 : Int32) (p2 : Int32) {o : hSt} (hf : m_goOn g p0 p1 p2 = some o) {H : Heap} {locs : List Loc} (hM : hW D vwCl ad (Sum.elim so (mSH C)) (Sum.elim t g) lt H) (hS : va_S (hA s0) s.heap H locs) {ls : Array Slot} (hl : lv_has ls 6 [(0, .ref (ad (.inr 0))), (1, .int p0), (2, .int p1), (3, .int p2)]) : W p l e rm_m_goOn s m args below meth c H locs 0 0 (MQ below (va_Qv (fun (_ : Unit) => True) (fun (_ : Unit) (U : State) => hW D vwCl ad (Sum.elim so (mSH C)) (Sum.elim t o) lt U.heap) (hA s0)) args s 0 0 (hA s0)) (F0 m 0 ls []) := by
  obtain ⟨hx, hb, hr, hml, hown, hts, hlocks, hK, hZ0, hA0⟩ := CX
  unfold m_goOn at hf
  refine lv_aload_n hx hb dX5_goOn_0 rfl (lv_at hl 0 rfl) ?_
  refine hr_get (ci := 5) (C := RX5) (T := TX5) (N := 55) (r := .inr 0) hx hb hts in_X5 hown hK hM mS_0 rfl 42 (by decide) (hts _ q1410) rfl (v := .ref (ad (.inr 43))) rfl dX5_goOn_1 ?_
  refine lv_bipush (v := 18) hx hb dX5_goOn_4 (by decide) ?_
  refine lv_iload_n hx hb dX5_goOn_6 rfl (lv_at hl 1 rfl) ?_
  refine lv_iadd hx hb dX5_goOn_7 ?_
  refine hm_iald (r := 43) hx hb hK hM 0 mS_43 rfl hf dX5_goOn_8 (fun x1 hf => ?_)
  refine hb_if_ne (tgt := 13) hx hb dX5_goOn_9 (by decide) hf (fun hf => ?_) (fun hf => ?_)
  · refine lv_iload_n hx hb dX5_goOn_13 rfl (lv_at hl 1 rfl) ?_
    refine lv_iload_n hx hb dX5_goOn_14 rfl (lv_at hl 2 rfl) ?_
    refine hb_icmp_eq (tgt := 66) hx hb dX5_goOn_15 (by decide) hf (fun hf => ?_) (fun hf => ?_)
    · refine lv_iconst (v := 0) hx hb dX5_goOn_66 (by decide) ?_
      refine lv_istore (lv' := [(4, .int (0 : Int32)), (0, .ref (ad (.inr 0))), (1, .int p0), (2, .int p1), (3, .int p2)]) hx hb dX5_goOn_67 hl (by decide) rfl (fun ls hl => ?_)
      obtain ⟨x14, hq, hf⟩ := hbind hf
      refine w_m_goOn_L69 ⟨hx, hb, hr, hml, hown, hts, hlocks, hK, hZ0, hA0⟩ hIx g p0 p1 p2 x1 x14 hFU ((0 : Int32), g) hq (fun H locs ls hM hS hl => ?_) H locs ls hM hS (lv_sub hl [1, 2, 4, 0] rfl)
      have eo := Option.some.inj hf
      subst eo
      exact W.vret hx hb hr (fun T ht hW => ⟨⟨(), rfl, trivial, by dsimp only; rw [ht]; exact hM⟩, hS.F ht⟩) hS.2.2 dX5_goOn_168
    · refine lv_aload_n hx hb dX5_goOn_18 rfl (lv_at hl 0 rfl) ?_
      refine lv_aload_n hx hb dX5_goOn_19 rfl (lv_at hl 0 rfl) ?_
      refine hr_get (ci := 5) (C := RX5) (T := TX5) (N := 55) (r := .inr 0) hx hb hts in_X5 hown hK hM mS_0 rfl 42 (by decide) (hts _ q1410) rfl (v := .ref (ad (.inr 43))) rfl dX5_goOn_20 ?_
      refine lv_iload_n hx hb dX5_goOn_23 rfl (lv_at hl 1 rfl) ?_
      refine lv_aload_n hx hb dX5_goOn_24 rfl (lv_at hl 0 rfl) ?_
      refine hr_get (ci := 5) (C := RX5) (T := TX5) (N := 55) (r := .inr 0) hx hb hts in_X5 hown hK hM mS_0 rfl 12 (by decide) (hts _ q1380) rfl (v := .int (g 0 12)) rfl dX5_goOn_25 ?_
      obtain ⟨y15, hq, hf⟩ := hbind hf
      refine hr_calli0 (va_runV (As := [.ref (ad (.inr 43)), .int p0, .int (g 0 12)]) (rest := []) ⟨hx, hb, hml, hown, hts⟩ (met_m_choiceOf l D C a0 s0 ad so t lt g 43 p0 (g 0 12) ms_43 hq) (cwV 3 hts (lw_V q1728 q1730 qs58 q99 q1731) rfl rfl rfl (by decide +kernel) ⟨Nat.le_of_ble_eq_true rfl, Nat.le_of_ble_eq_true rfl⟩) (hr_preV hZ_c hM hIx hK hZ0 hA0 hS (r := .inr 0) mS_0 (q := (RX5, TX5, 55)) rfl) rfl rfl hl.1 rfl (lv_room (Nat.le_of_ble_eq_true rfl)) dX5_goOn_28 ⟨Nat.le_of_ble_eq_true rfl, Nat.le_of_ble_eq_true rfl⟩) hS (fun H locs hM hS => ?_)
      refine lv_istore (lv' := [(4, .int y15), (0, .ref (ad (.inr 0))), (1, .int p0), (2, .int p1), (3, .int p2)]) hx hb dX5_goOn_31 hl (by decide) rfl (fun ls hl => ?_)
      refine lv_iload hx hb dX5_goOn_33 (lv_at hl 0 rfl) ?_
      refine lv_iconst (v := -1) hx hb dX5_goOn_35 (by decide) ?_
      refine hb_icmp_eq (tgt := 65) hx hb dX5_goOn_36 (by decide) hf (fun hf => ?_) (fun hf => ?_)
      · have eo := Option.some.inj hf
        subst eo
        exact W.vret hx hb hr (fun T ht hW => ⟨⟨(), rfl, trivial, by dsimp only; rw [ht]; exact hM⟩, hS.F ht⟩) hS.2.2 dX5_goOn_65
      · refine lv_aload_n hx hb dX5_goOn_39 rfl (lv_at hl 1 rfl) ?_
        refine lv_iload_n hx hb dX5_goOn_40 rfl (lv_at hl 2 rfl) ?_
        refine lv_iload hx hb dX5_goOn_41 (lv_at hl 0 rfl) ?_
        refine lv_aload_n hx hb dX5_goOn_43 rfl (lv_at hl 1 rfl) ?_
        refine lv_aload_n hx hb dX5_goOn_44 rfl (lv_at hl 1 rfl) ?_
        refine hr_get (ci := 5) (C := RX5) (T := TX5) (N := 55) (r := .inr 0) hx hb hts in_X5 hown hK hM mS_0 rfl 42 (by decide) (hts _ q1410) rfl (v := .ref (ad (.inr 43))) rfl dX5_goOn_45 ?_
        refine lv_iload_n hx hb dX5_goOn_48 rfl (lv_at hl 2 rfl) ?_
        refine lv_aload_n hx hb dX5_goOn_49 rfl (lv_at hl 1 rfl) ?_
        refine hr_get (ci := 5) (C := RX5) (T := TX5) (N := 55) (r := .inr 0) hx hb hts in_X5 hown hK hM mS_0 rfl 42 (by decide) (hts _ q1410) rfl (v := .ref (ad (.inr 43))) rfl dX5_goOn_50 ?_
        refine lv_bipush (v := 24) hx hb dX5_goOn_53 (by decide) ?_
        refine lv_iload_n hx hb dX5_goOn_55 rfl (lv_at hl 2 rfl) ?_
        refine lv_iadd hx hb dX5_goOn_56 ?_
        refine hm_iald (r := 43) hx hb hK hM 0 mS_43 rfl hf dX5_goOn_57 (fun x16 hf => ?_)
        obtain ⟨y17, hq, hf⟩ := hbind hf
        refine hr_calli0 (va_runV (As := [.ref (ad (.inr 43)), .int p0, .int x16]) (rest := [.int y15, .int p0, .ref (ad (.inr 0))]) ⟨hx, hb, hml, hown, hts⟩ (met_m_whomOf l D C a0 s0 ad so t lt g 43 p0 x16 ms_43 hq) (cwV 3 hts (lw_V q1739 q1741 qs60 q99 q1742) rfl rfl rfl (by decide +kernel) ⟨Nat.le_of_ble_eq_true rfl, Nat.le_of_ble_eq_true rfl⟩) (hr_preV hZ_c hM hIx hK hZ0 hA0 hS (r := .inr 0) mS_0 (q := (RX5, TX5, 55)) rfl) rfl rfl hl.1 rfl (lv_room (Nat.le_of_ble_eq_true rfl)) dX5_goOn_58 ⟨Nat.le_of_ble_eq_true rfl, Nat.le_of_ble_eq_true rfl⟩) hS (fun H locs hM hS => ?_)
        refine lv_iload_n hx hb dX5_goOn_61 rfl (lv_at hl 4 rfl) ?_
        obtain ⟨y18, hq, hf⟩ := hbind hf
        refine hr_callv0 (va_runV (As := [.int p0, .int y15, .int y17, .int p2]) (rest := []) ⟨hx, hb, hml, hown, hts⟩ (met_m_giveOn l D C a0 s0 ad so t lt g p0 y15 y17 p2 hq) (cwV 4 hts (lw_V q1787 q1789 qs67 q99 q1790) rfl rfl rfl (by decide +kernel) ⟨Nat.le_of_ble_eq_true rfl, Nat.le_of_ble_eq_true rfl⟩) (hr_preV hZ_c hM hIx hK hZ0 hA0 hS (r := .inr 0) mS_0 (q := (RX5, TX5, 55)) rfl) rfl rfl hl.1 rfl (lv_room (Nat.le_of_ble_eq_true rfl)) dX5_goOn_62 ⟨Nat.le_of_ble_eq_true rfl, Nat.le_of_ble_eq_true rfl⟩) hS (fun H locs hM hS => ?_)
        have eo := Option.some.inj hf
        subst eo
        exact W.vret hx hb hr (fun T ht hW => ⟨⟨(), rfl, trivial, by dsimp only; rw [ht]; exact hM⟩, hS.F ht⟩) hS.2.2 dX5_goOn_65
  · have eo := Option.some.inj hf
    subst eo
    exact W.vret hx hb hr (fun T ht hW => ⟨⟨(), rfl, trivial, by dsimp only; rw [ht]; exact hM⟩, hS.F ht⟩) hS.2.2 dX5_goOn_12
set_option maxHeartbeats 4000000 in
set_option maxRecDepth 100000 in
theorem met_m_goOn (l : Launch) (D : va_G) (C : Nat → Nat) (a0 : Array Value) (s0 : State) (ad : Rl → Nat) (so : Nat → Option hS) (t : hSt) (lt : Rl → Nat → Int64) (g : hSt) (p0 : Int32) (p1 : Int32) (p2 : Int32) {o : hSt} (hf : m_goOn g p0 p1 p2 = some o) : Met l yX5_goOn (ws_ yX5_goOn cX5_goOn 6 (none)) rm_m_goOn (va_Pc [.ref (ad (.inr 0)), .int p0, .int p1, .int p2] (hB D vwCl (hT C) (hA s0) (hZ a0 s0) ad (Sum.elim so (mSH C)) (Sum.elim t g) lt)) (va_Qv (fun (_ : Unit) => True) (fun (_ : Unit) (U : State) => hW D vwCl ad (Sum.elim so (mSH C)) (Sum.elim t o) lt U.heap) (hA s0)) 0 0 (hA s0) := by
  refine Met.ofW (cc := cX5_goOn) (maxL := 6) (ret := (none)) (by decide) rfl ?_
  intro p e s m args below meth c s₁ B hml hv
  obtain ⟨rfl, hM, hIx, hK, hZ0, hA0⟩ := hv
  have hl := lv_entry ([.ref (ad (.inr 0)), .int p0, .int p1, .int p2]) (n := 6) (Nat.le_of_ble_eq_true rfl)
  rw [lg_entry_eq]
  generalize (lg_sl ([.ref (ad (.inr 0)), .int p0, .int p1, .int p2]) ++ List.replicate (6 - (lg_sl ([.ref (ad (.inr 0)), .int p0, .int p1, .int p2])).length) Slot.unset).toArray = ls at hl ⊢
  have hl : lv_has ls 6 [(0, .ref (ad (.inr 0))), (1, .int p0), (2, .int p1), (3, .int p2)] := hl
  exact w_m_goOn ⟨B.exec, B.bytes, B.returns, hml, findClass_of_methodNamed B.named, fun w h => atoms_spec (ws := ws_ yX5_goOn cX5_goOn 6 (none)) B.pre w (List.mem_cons_of_mem _ h), B.notSynchronized, hK, hZ0, hA0⟩ hIx g p0 p1 p2 hf hM va_S.rf hl

def rm_m_get : Room := { frames := 13, cells := 0, slots := 0, locals := 157 }
set_option maxHeartbeats 4000000 in
set_option maxRecDepth 100000 in
theorem w_m_get_B21 {p : Program} {l : Launch} {e : Env} {s : State} {m : MethodId} {args : Array Value} {below : List Frame} {meth : Method} {c : Code} {D : va_G} {C : Nat → Nat} {a0 : Array Value} {s0 : State} {ad : Rl → Nat} {so : Nat → Option hS} {t : hSt} {lt : Rl → Nat → Int64} (CX : hCx D C a0 s0 p s m args meth c cX5_get 6 RX5 (some .int)) (hIx : hI (hA s0) ad (Sum.elim so (mSH C))) (g : hSt) (p0 : Int32) (p1 : Int32) (g1 : hSt) (y2 : Int32) {o : Int32 × hSt} (hf : m_get_B21 g1 = some o) {H : Heap} {locs : List Loc} (hM : hW D vwCl ad (Sum.elim so (mSH C)) (Sum.elim t g1) lt H) (hS : va_S (hA s0) s.heap H locs) {ls : Array Slot} (hl : lv_has ls 6 [(0, .ref (ad (.inr 0)))]) : W p l e rm_m_get s m args below meth c H locs 0 0 (MQ below (va_Qi (fun (r : Int32) (_ : Unit) => r = o.1) (fun (_ : Unit) (U : State) => hW D vwCl ad (Sum.elim so (mSH C)) (Sum.elim t o.2) lt U.heap) (hA s0)) args s 0 0 (hA s0)) (F0 m 21 ls []) := by
  obtain ⟨hx, hb, hr, hml, hown, hts, hlocks, hK, hZ0, hA0⟩ := CX
  unfold m_get_B21 at hf
  refine lv_aload_n hx hb dX5_get_21 rfl (lv_at hl 0 rfl) ?_
  refine lv_iconst (v := 1) hx hb dX5_get_22 (by decide) ?_
  obtain ⟨y3, hq, hf⟩ := hbind hf
  refine hr_calli0 (va_runV (As := [.int (1 : Int32)]) (rest := []) ⟨hx, hb, hml, hown, hts⟩ (met_m_fail l D C a0 s0 ad so t lt g1 (1 : Int32) hq) (cwV 1 hts (lw_V q1547 q1549 qs33 q99 q1550) rfl rfl rfl (by decide +kernel) ⟨Nat.le_of_ble_eq_true rfl, Nat.le_of_ble_eq_true rfl⟩) (hr_preV hZ_c hM hIx hK hZ0 hA0 hS (r := .inr 0) mS_0 (q := (RX5, TX5, 55)) rfl) rfl rfl hl.1 rfl (lv_room (Nat.le_of_ble_eq_true rfl)) dX5_get_23 ⟨Nat.le_of_ble_eq_true rfl, Nat.le_of_ble_eq_true rfl⟩) hS (fun H locs hM hS => ?_)
  have eo := Option.some.inj hf
  subst eo
  exact W.iret (v := y3.1) hx hb hr (fun T ht hW => ⟨⟨y3.1, (), rfl, rfl, by dsimp only; rw [ht]; exact hM⟩, hS.F ht⟩) hS.2.2 dX5_get_26
set_option maxHeartbeats 4000000 in
set_option maxRecDepth 100000 in
theorem w_m_get_L29 {p : Program} {l : Launch} {e : Env} {s : State} {m : MethodId} {args : Array Value} {below : List Frame} {meth : Method} {c : Code} {D : va_G} {C : Nat → Nat} {a0 : Array Value} {s0 : State} {ad : Rl → Nat} {so : Nat → Option hS} {t : hSt} {lt : Rl → Nat → Int64} (CX : hCx D C a0 s0 p s m args meth c cX5_get 6 RX5 (some .int)) (hIx : hI (hA s0) ad (Sum.elim so (mSH C))) (g : hSt) (p0 : Int32) (p1 : Int32) (g1 : hSt) (y2 : Int32) (y4 : Int32) {oM : Int32 × hSt} (x : hSt) (n : Nat) (q0 : Int32 × hSt) (h0 : hiter (fun q : Int32 × hSt => m_get_L29 q.1 q.2) n q0 = some x) (kx0 : ∀ (H : Heap) (locs : List Loc) (ls : Array Slot), hW D vwCl ad (Sum.elim so (mSH C)) (Sum.elim t x) lt H → va_S (hA s0) s.heap H locs → lv_has ls 6 [(0, .ref (ad (.inr 0))), (1, .int p0), (2, .int p1)] → W p l e rm_m_get s m args below meth c H locs 0 0 (MQ below (va_Qi (fun (r : Int32) (_ : Unit) => r = oM.1) (fun (_ : Unit) (U : State) => hW D vwCl ad (Sum.elim so (mSH C)) (Sum.elim t oM.2) lt U.heap) (hA s0)) args s 0 0 (hA s0)) (F0 m 49 ls [])) : ∀ (H : Heap) (locs : List Loc) (ls : Array Slot), hW D vwCl ad (Sum.elim so (mSH C)) (Sum.elim t q0.2) lt H → va_S (hA s0) s.heap H locs → lv_has ls 6 [(0, .ref (ad (.inr 0))), (1, .int p0), (2, .int p1), (3, .int q0.1)] → W p l e rm_m_get s m args below meth c H locs 0 0 (MQ below (va_Qi (fun (r : Int32) (_ : Unit) => r = oM.1) (fun (_ : Unit) (U : State) => hW D vwCl ad (Sum.elim so (mSH C)) (Sum.elim t oM.2) lt U.heap) (hA s0)) args s 0 0 (hA s0)) (F0 m 29 ls []) := by
  obtain ⟨hx, hb, hr, hml, hown, hts, hlocks, hK, hZ0, hA0⟩ := CX
  refine hiter_W (Wh := fun q => ∀ (H : Heap) (locs : List Loc) (ls : Array Slot), hW D vwCl ad (Sum.elim so (mSH C)) (Sum.elim t q.2) lt H → va_S (hA s0) s.heap H locs → lv_has ls 6 [(0, .ref (ad (.inr 0))), (1, .int p0), (2, .int p1), (3, .int q.1)] → W p l e rm_m_get s m args below meth c H locs 0 0 (MQ below (va_Qi (fun (r : Int32) (_ : Unit) => r = oM.1) (fun (_ : Unit) (U : State) => hW D vwCl ad (Sum.elim so (mSH C)) (Sum.elim t oM.2) lt U.heap) (hA s0)) args s 0 0 (hA s0)) (F0 m 29 ls [])) ?_ n q0 h0
  intro q o hf kc kx1 H locs ls hM hS hl
  obtain ⟨v3_29, g_29⟩ := q
  replace hf : m_get_L29 v3_29 g_29 = some o := hf
  have kx : ∀ x' : hSt, o = .inr x' → ∀ (H : Heap) (locs : List Loc) (ls : Array Slot), hW D vwCl ad (Sum.elim so (mSH C)) (Sum.elim t x') lt H → va_S (hA s0) s.heap H locs → lv_has ls 6 [(0, .ref (ad (.inr 0))), (1, .int p0), (2, .int p1)] → W p l e rm_m_get s m args below meth c H locs 0 0 (MQ below (va_Qi (fun (r : Int32) (_ : Unit) => r = oM.1) (fun (_ : Unit) (U : State) => hW D vwCl ad (Sum.elim so (mSH C)) (Sum.elim t oM.2) lt U.heap) (hA s0)) args s 0 0 (hA s0)) (F0 m 49 ls []) := fun x' ex => by rw [kx1 _ ex]; exact kx0
  unfold m_get_L29 at hf
  refine lv_iload_n hx hb dX5_get_29 rfl (lv_at hl 3 rfl) ?_
  refine lv_sipush (v := 4096) hx hb dX5_get_30 (by decide) ?_
  refine hb_icmp_ge (tgt := 49) hx hb dX5_get_33 (by decide) hf (fun hf => ?_) (fun hf => ?_)
  · exact kx g_29 (Option.some.inj hf).symm H locs ls hM hS (lv_sub hl [0, 1, 2] rfl)
  · refine lv_aload_n hx hb dX5_get_36 rfl (lv_at hl 0 rfl) ?_
    refine hr_get (ci := 5) (C := RX5) (T := TX5) (N := 55) (r := .inr 0) hx hb hts in_X5 hown hK hM mS_0 rfl 41 (by decide) (hts _ q1409) rfl (v := .ref (ad (.inr 42))) rfl dX5_get_37 ?_
    refine lv_iload_n hx hb dX5_get_40 rfl (lv_at hl 3 rfl) ?_
    refine lv_iconst (v := -1) hx hb dX5_get_41 (by decide) ?_
    refine hm_iast (r := 42) hx hb hK hM hIx hS 0 mS_42 rfl hf dX5_get_42 (fun g5 H locs hf hM hS => ?_)
    obtain ⟨y3_6, ey, hf⟩ := hlet_ex hf
    refine lv_iinc (v := y3_6) (lv' := [(3, .int y3_6), (0, .ref (ad (.inr 0))), (1, .int p0), (2, .int p1)]) hx hb dX5_get_43 hl (k := 3) rfl (by rw [ey]; rfl) (by decide) rfl (fun ls hl => ?_)
    refine lv_goto (tgt := 29) hx hb dX5_get_46 (by decide) ?_
    exact kc (y3_6, g5) (Option.some.inj hf).symm H locs ls hM hS (lv_sub hl [1, 2, 3, 0] rfl)
set_option maxHeartbeats 4000000 in
set_option maxRecDepth 100000 in
theorem w_m_get_L92 {p : Program} {l : Launch} {e : Env} {s : State} {m : MethodId} {args : Array Value} {below : List Frame} {meth : Method} {c : Code} {D : va_G} {C : Nat → Nat} {a0 : Array Value} {s0 : State} {ad : Rl → Nat} {so : Nat → Option hS} {t : hSt} {lt : Rl → Nat → Int64} (CX : hCx D C a0 s0 p s m args meth c cX5_get 6 RX5 (some .int)) (hIx : hI (hA s0) ad (Sum.elim so (mSH C))) (g : hSt) (p0 : Int32) (p1 : Int32) (g1 : hSt) (y2 : Int32) (y4 : Int32) (x7 : hSt) (g8 : hSt) (g9 : hSt) (y10 : hSt) (v3_73 : Int32) (v4_73 : Int32) (g_73 : hSt) {oM : Int32 × hSt} (x : hSt) (n : Nat) (q0 : Int32 × hSt) (h0 : hiter (fun q : Int32 × hSt => m_get_L92 v4_73 q.1 q.2) n q0 = some x) (kx0 : ∀ (H : Heap) (locs : List Loc) (ls : Array Slot), hW D vwCl ad (Sum.elim so (mSH C)) (Sum.elim t x) lt H → va_S (hA s0) s.heap H locs → lv_has ls 6 [(0, .ref (ad (.inr 0))), (1, .int p0), (2, .int p1), (3, .int v3_73), (4, .int v4_73)] → W p l e rm_m_get s m args below meth c H locs 0 0 (MQ below (va_Qi (fun (r : Int32) (_ : Unit) => r = oM.1) (fun (_ : Unit) (U : State) => hW D vwCl ad (Sum.elim so (mSH C)) (Sum.elim t oM.2) lt U.heap) (hA s0)) args s 0 0 (hA s0)) (F0 m 125 ls [])) : ∀ (H : Heap) (locs : List Loc) (ls : Array Slot), hW D vwCl ad (Sum.elim so (mSH C)) (Sum.elim t q0.2) lt H → va_S (hA s0) s.heap H locs → lv_has ls 6 [(0, .ref (ad (.inr 0))), (1, .int p0), (2, .int p1), (3, .int v3_73), (4, .int v4_73), (5, .int q0.1)] → W p l e rm_m_get s m args below meth c H locs 0 0 (MQ below (va_Qi (fun (r : Int32) (_ : Unit) => r = oM.1) (fun (_ : Unit) (U : State) => hW D vwCl ad (Sum.elim so (mSH C)) (Sum.elim t oM.2) lt U.heap) (hA s0)) args s 0 0 (hA s0)) (F0 m 92 ls []) := by
  obtain ⟨hx, hb, hr, hml, hown, hts, hlocks, hK, hZ0, hA0⟩ := CX
  refine hiter_W (Wh := fun q => ∀ (H : Heap) (locs : List Loc) (ls : Array Slot), hW D vwCl ad (Sum.elim so (mSH C)) (Sum.elim t q.2) lt H → va_S (hA s0) s.heap H locs → lv_has ls 6 [(0, .ref (ad (.inr 0))), (1, .int p0), (2, .int p1), (3, .int v3_73), (4, .int v4_73), (5, .int q.1)] → W p l e rm_m_get s m args below meth c H locs 0 0 (MQ below (va_Qi (fun (r : Int32) (_ : Unit) => r = oM.1) (fun (_ : Unit) (U : State) => hW D vwCl ad (Sum.elim so (mSH C)) (Sum.elim t oM.2) lt U.heap) (hA s0)) args s 0 0 (hA s0)) (F0 m 92 ls [])) ?_ n q0 h0
  intro q o hf kc kx1 H locs ls hM hS hl
  obtain ⟨v5_92, g_92⟩ := q
  replace hf : m_get_L92 v4_73 v5_92 g_92 = some o := hf
  have kx : ∀ x' : hSt, o = .inr x' → ∀ (H : Heap) (locs : List Loc) (ls : Array Slot), hW D vwCl ad (Sum.elim so (mSH C)) (Sum.elim t x') lt H → va_S (hA s0) s.heap H locs → lv_has ls 6 [(0, .ref (ad (.inr 0))), (1, .int p0), (2, .int p1), (3, .int v3_73), (4, .int v4_73)] → W p l e rm_m_get s m args below meth c H locs 0 0 (MQ below (va_Qi (fun (r : Int32) (_ : Unit) => r = oM.1) (fun (_ : Unit) (U : State) => hW D vwCl ad (Sum.elim so (mSH C)) (Sum.elim t oM.2) lt U.heap) (hA s0)) args s 0 0 (hA s0)) (F0 m 125 ls []) := fun x' ex => by rw [kx1 _ ex]; exact kx0
  unfold m_get_L92 at hf
  refine lv_iload hx hb dX5_get_92 (lv_at hl 5 rfl) ?_
  refine lv_bipush (v := 30) hx hb dX5_get_94 (by decide) ?_
  refine hb_icmp_ge (tgt := 125) hx hb dX5_get_96 (by decide) hf (fun hf => ?_) (fun hf => ?_)
  · exact kx g_92 (Option.some.inj hf).symm H locs ls hM hS (lv_sub hl [0, 1, 2, 3, 4] rfl)
  · refine lv_aload_n hx hb dX5_get_99 rfl (lv_at hl 0 rfl) ?_
    refine hr_get (ci := 5) (C := RX5) (T := TX5) (N := 55) (r := .inr 0) hx hb hts in_X5 hown hK hM mS_0 rfl 42 (by decide) (hts _ q1410) rfl (v := .ref (ad (.inr 43))) rfl dX5_get_100 ?_
    refine lv_iload hx hb dX5_get_103 (lv_at hl 5 rfl) ?_
    refine lv_aload_n hx hb dX5_get_105 rfl (lv_at hl 0 rfl) ?_
    refine hr_get (ci := 5) (C := RX5) (T := TX5) (N := 55) (r := .inr 0) hx hb hts in_X5 hown hK hM mS_0 rfl 38 (by decide) (hts _ q1406) rfl (v := .ref (ad (.inr 39))) rfl dX5_get_106 ?_
    refine lv_bipush (v := 30) hx hb dX5_get_109 (by decide) ?_
    refine lv_iload hx hb dX5_get_111 (lv_at hl 4 rfl) ?_
    refine lv_imul hx hb dX5_get_113 ?_
    refine lv_iload hx hb dX5_get_114 (lv_at hl 5 rfl) ?_
    refine lv_iadd hx hb dX5_get_116 ?_
    refine hm_iald (r := 39) hx hb hK hM 0 mS_39 rfl hf dX5_get_117 (fun x11 hf => ?_)
    refine hm_iast (r := 43) hx hb hK hM hIx hS 0 mS_43 rfl hf dX5_get_118 (fun g12 H locs hf hM hS => ?_)
    obtain ⟨y5_13, ey, hf⟩ := hlet_ex hf
    refine lv_iinc (v := y5_13) (lv' := [(5, .int y5_13), (0, .ref (ad (.inr 0))), (1, .int p0), (2, .int p1), (3, .int v3_73), (4, .int v4_73)]) hx hb dX5_get_119 hl (k := 5) rfl (by rw [ey]; rfl) (by decide) rfl (fun ls hl => ?_)
    refine lv_goto (tgt := 92) hx hb dX5_get_122 (by decide) ?_
    exact kc (y5_13, g12) (Option.some.inj hf).symm H locs ls hM hS (lv_sub hl [1, 2, 3, 4, 5, 0] rfl)
set_option maxHeartbeats 4000000 in
set_option maxRecDepth 100000 in
theorem w_m_get_L158 {p : Program} {l : Launch} {e : Env} {s : State} {m : MethodId} {args : Array Value} {below : List Frame} {meth : Method} {c : Code} {D : va_G} {C : Nat → Nat} {a0 : Array Value} {s0 : State} {ad : Rl → Nat} {so : Nat → Option hS} {t : hSt} {lt : Rl → Nat → Int64} (CX : hCx D C a0 s0 p s m args meth c cX5_get 6 RX5 (some .int)) (hIx : hI (hA s0) ad (Sum.elim so (mSH C))) (g : hSt) (p0 : Int32) (p1 : Int32) (g1 : hSt) (y2 : Int32) (y4 : Int32) (x7 : hSt) (g8 : hSt) (g9 : hSt) (y10 : hSt) (v3_73 : Int32) (v4_73 : Int32) (g_73 : hSt) (x14 : hSt) (x15 : Int32) {oM : Int32 × hSt} (x : hSt) (n : Nat) (q0 : Int32 × hSt) (h0 : hiter (fun q : Int32 × hSt => m_get_L158 p0 v4_73 q.1 q.2) n q0 = some x) (kx0 : ∀ (H : Heap) (locs : List Loc) (ls : Array Slot), hW D vwCl ad (Sum.elim so (mSH C)) (Sum.elim t x) lt H → va_S (hA s0) s.heap H locs → lv_has ls 6 [(0, .ref (ad (.inr 0))), (1, .int p0), (2, .int p1), (3, .int v3_73), (4, .int v4_73)] → W p l e rm_m_get s m args below meth c H locs 0 0 (MQ below (va_Qi (fun (r : Int32) (_ : Unit) => r = oM.1) (fun (_ : Unit) (U : State) => hW D vwCl ad (Sum.elim so (mSH C)) (Sum.elim t oM.2) lt U.heap) (hA s0)) args s 0 0 (hA s0)) (F0 m 198 ls [])) : ∀ (H : Heap) (locs : List Loc) (ls : Array Slot), hW D vwCl ad (Sum.elim so (mSH C)) (Sum.elim t q0.2) lt H → va_S (hA s0) s.heap H locs → lv_has ls 6 [(0, .ref (ad (.inr 0))), (1, .int p0), (2, .int p1), (3, .int v3_73), (4, .int v4_73), (5, .int q0.1)] → W p l e rm_m_get s m args below meth c H locs 0 0 (MQ below (va_Qi (fun (r : Int32) (_ : Unit) => r = oM.1) (fun (_ : Unit) (U : State) => hW D vwCl ad (Sum.elim so (mSH C)) (Sum.elim t oM.2) lt U.heap) (hA s0)) args s 0 0 (hA s0)) (F0 m 158 ls []) := by
  obtain ⟨hx, hb, hr, hml, hown, hts, hlocks, hK, hZ0, hA0⟩ := CX
  refine hiter_W (Wh := fun q => ∀ (H : Heap) (locs : List Loc) (ls : Array Slot), hW D vwCl ad (Sum.elim so (mSH C)) (Sum.elim t q.2) lt H → va_S (hA s0) s.heap H locs → lv_has ls 6 [(0, .ref (ad (.inr 0))), (1, .int p0), (2, .int p1), (3, .int v3_73), (4, .int v4_73), (5, .int q.1)] → W p l e rm_m_get s m args below meth c H locs 0 0 (MQ below (va_Qi (fun (r : Int32) (_ : Unit) => r = oM.1) (fun (_ : Unit) (U : State) => hW D vwCl ad (Sum.elim so (mSH C)) (Sum.elim t oM.2) lt U.heap) (hA s0)) args s 0 0 (hA s0)) (F0 m 158 ls [])) ?_ n q0 h0
  intro q o hf kc kx1 H locs ls hM hS hl
  obtain ⟨v5_158, g_158⟩ := q
  replace hf : m_get_L158 p0 v4_73 v5_158 g_158 = some o := hf
  have kx : ∀ x' : hSt, o = .inr x' → ∀ (H : Heap) (locs : List Loc) (ls : Array Slot), hW D vwCl ad (Sum.elim so (mSH C)) (Sum.elim t x') lt H → va_S (hA s0) s.heap H locs → lv_has ls 6 [(0, .ref (ad (.inr 0))), (1, .int p0), (2, .int p1), (3, .int v3_73), (4, .int v4_73)] → W p l e rm_m_get s m args below meth c H locs 0 0 (MQ below (va_Qi (fun (r : Int32) (_ : Unit) => r = oM.1) (fun (_ : Unit) (U : State) => hW D vwCl ad (Sum.elim so (mSH C)) (Sum.elim t oM.2) lt U.heap) (hA s0)) args s 0 0 (hA s0)) (F0 m 198 ls []) := fun x' ex => by rw [kx1 _ ex]; exact kx0
  unfold m_get_L158 at hf
  refine lv_iload hx hb dX5_get_158 (lv_at hl 5 rfl) ?_
  refine lv_aload_n hx hb dX5_get_160 rfl (lv_at hl 0 rfl) ?_
  refine hr_get (ci := 5) (C := RX5) (T := TX5) (N := 55) (r := .inr 0) hx hb hts in_X5 hown hK hM mS_0 rfl 2 (by decide) (hts _ q1370) rfl (v := .ref (ad (.inr 3))) rfl dX5_get_161 ?_
  refine lv_iconst (v := 0) hx hb dX5_get_164 (by decide) ?_
  refine hm_iald (r := 3) hx hb hK hM 0 mS_3 rfl hf dX5_get_165 (fun x16 hf => ?_)
  refine hb_icmp_ge (tgt := 198) hx hb dX5_get_166 (by decide) hf (fun hf => ?_) (fun hf => ?_)
  · exact kx g_158 (Option.some.inj hf).symm H locs ls hM hS (lv_sub hl [0, 1, 2, 3, 4] rfl)
  · refine lv_aload_n hx hb dX5_get_169 rfl (lv_at hl 0 rfl) ?_
    refine hr_get (ci := 5) (C := RX5) (T := TX5) (N := 55) (r := .inr 0) hx hb hts in_X5 hown hK hM mS_0 rfl 45 (by decide) (hts _ q1413) rfl (v := .int (g_158 0 45)) rfl dX5_get_170 ?_
    refine hb_if_ne (tgt := 198) hx hb dX5_get_173 (by decide) hf (fun hf => ?_) (fun hf => ?_)
    · exact kx g_158 (Option.some.inj hf).symm H locs ls hM hS (lv_sub hl [0, 1, 2, 3, 4] rfl)
    · refine lv_aload_n hx hb dX5_get_176 rfl (lv_at hl 0 rfl) ?_
      refine lv_iload hx hb dX5_get_177 (lv_at hl 5 rfl) ?_
      refine lv_iload_n hx hb dX5_get_179 rfl (lv_at hl 1 rfl) ?_
      refine lv_aload_n hx hb dX5_get_180 rfl (lv_at hl 0 rfl) ?_
      refine hr_get (ci := 5) (C := RX5) (T := TX5) (N := 55) (r := .inr 0) hx hb hts in_X5 hown hK hM mS_0 rfl 39 (by decide) (hts _ q1407) rfl (v := .ref (ad (.inr 40))) rfl dX5_get_181 ?_
      refine lv_iload hx hb dX5_get_184 (lv_at hl 4 rfl) ?_
      refine hm_iald (r := 40) hx hb hK hM 0 mS_40 rfl hf dX5_get_186 (fun x17 hf => ?_)
      refine lv_iconst (v := 1) hx hb dX5_get_187 (by decide) ?_
      refine lv_iadd hx hb dX5_get_188 ?_
      obtain ⟨y18, hq, hf⟩ := hbind hf
      refine hr_callv0 (va_runV (As := [.int v5_158, .int p0, .int (x17 + (1 : Int32))]) (rest := []) ⟨hx, hb, hml, hown, hts⟩ (met_m_goOn l D C a0 s0 ad so t lt g_158 v5_158 p0 (x17 + (1 : Int32)) hq) (cwV 3 hts (lw_V q1783 q1785 qs66 q99 q1786) rfl rfl rfl (by decide +kernel) ⟨Nat.le_of_ble_eq_true rfl, Nat.le_of_ble_eq_true rfl⟩) (hr_preV hZ_c hM hIx hK hZ0 hA0 hS (r := .inr 0) mS_0 (q := (RX5, TX5, 55)) rfl) rfl rfl hl.1 rfl (lv_room (Nat.le_of_ble_eq_true rfl)) dX5_get_189 ⟨Nat.le_of_ble_eq_true rfl, Nat.le_of_ble_eq_true rfl⟩) hS (fun H locs hM hS => ?_)
      obtain ⟨y5_19, ey, hf⟩ := hlet_ex hf
      refine lv_iinc (v := y5_19) (lv' := [(5, .int y5_19), (0, .ref (ad (.inr 0))), (1, .int p0), (2, .int p1), (3, .int v3_73), (4, .int v4_73)]) hx hb dX5_get_192 hl (k := 5) rfl (by rw [ey]; rfl) (by decide) rfl (fun ls hl => ?_)
      refine lv_goto (tgt := 158) hx hb dX5_get_195 (by decide) ?_
      exact kc (y5_19, y18) (Option.some.inj hf).symm H locs ls hM hS (lv_sub hl [1, 2, 3, 4, 5, 0] rfl)
set_option maxHeartbeats 4000000 in
set_option maxRecDepth 100000 in
theorem w_m_get_L73 {p : Program} {l : Launch} {e : Env} {s : State} {m : MethodId} {args : Array Value} {below : List Frame} {meth : Method} {c : Code} {D : va_G} {C : Nat → Nat} {a0 : Array Value} {s0 : State} {ad : Rl → Nat} {so : Nat → Option hS} {t : hSt} {lt : Rl → Nat → Int64} (CX : hCx D C a0 s0 p s m args meth c cX5_get 6 RX5 (some .int)) (hIx : hI (hA s0) ad (Sum.elim so (mSH C))) (g : hSt) (p0 : Int32) (p1 : Int32) (g1 : hSt) (y2 : Int32) (y4 : Int32) (x7 : hSt) (g8 : hSt) (g9 : hSt) (y10 : hSt) {oM : Int32 × hSt} (x : Int32 × hSt) (n : Nat) (q0 : Int32 × Int32 × hSt) (h0 : hiter (fun q : Int32 × Int32 × hSt => m_get_L73 p0 p1 q.1 q.2.1 q.2.2) n q0 = some x) (kx0 : ∀ (H : Heap) (locs : List Loc) (ls : Array Slot), hW D vwCl ad (Sum.elim so (mSH C)) (Sum.elim t x.2) lt H → va_S (hA s0) s.heap H locs → lv_has ls 6 [(0, .ref (ad (.inr 0))), (3, .int x.1)] → W p l e rm_m_get s m args below meth c H locs 0 0 (MQ below (va_Qi (fun (r : Int32) (_ : Unit) => r = oM.1) (fun (_ : Unit) (U : State) => hW D vwCl ad (Sum.elim so (mSH C)) (Sum.elim t oM.2) lt U.heap) (hA s0)) args s 0 0 (hA s0)) (F0 m 204 ls [])) : ∀ (H : Heap) (locs : List Loc) (ls : Array Slot), hW D vwCl ad (Sum.elim so (mSH C)) (Sum.elim t q0.2.2) lt H → va_S (hA s0) s.heap H locs → lv_has ls 6 [(0, .ref (ad (.inr 0))), (1, .int p0), (2, .int p1), (3, .int q0.1), (4, .int q0.2.1)] → W p l e rm_m_get s m args below meth c H locs 0 0 (MQ below (va_Qi (fun (r : Int32) (_ : Unit) => r = oM.1) (fun (_ : Unit) (U : State) => hW D vwCl ad (Sum.elim so (mSH C)) (Sum.elim t oM.2) lt U.heap) (hA s0)) args s 0 0 (hA s0)) (F0 m 73 ls []) := by
  obtain ⟨hx, hb, hr, hml, hown, hts, hlocks, hK, hZ0, hA0⟩ := CX
  refine hiter_W (Wh := fun q => ∀ (H : Heap) (locs : List Loc) (ls : Array Slot), hW D vwCl ad (Sum.elim so (mSH C)) (Sum.elim t q.2.2) lt H → va_S (hA s0) s.heap H locs → lv_has ls 6 [(0, .ref (ad (.inr 0))), (1, .int p0), (2, .int p1), (3, .int q.1), (4, .int q.2.1)] → W p l e rm_m_get s m args below meth c H locs 0 0 (MQ below (va_Qi (fun (r : Int32) (_ : Unit) => r = oM.1) (fun (_ : Unit) (U : State) => hW D vwCl ad (Sum.elim so (mSH C)) (Sum.elim t oM.2) lt U.heap) (hA s0)) args s 0 0 (hA s0)) (F0 m 73 ls [])) ?_ n q0 h0
  intro q o hf kc kx1 H locs ls hM hS hl
  obtain ⟨v3_73, v4_73, g_73⟩ := q
  replace hf : m_get_L73 p0 p1 v3_73 v4_73 g_73 = some o := hf
  have kx : ∀ x' : Int32 × hSt, o = .inr x' → ∀ (H : Heap) (locs : List Loc) (ls : Array Slot), hW D vwCl ad (Sum.elim so (mSH C)) (Sum.elim t x'.2) lt H → va_S (hA s0) s.heap H locs → lv_has ls 6 [(0, .ref (ad (.inr 0))), (3, .int x'.1)] → W p l e rm_m_get s m args below meth c H locs 0 0 (MQ below (va_Qi (fun (r : Int32) (_ : Unit) => r = oM.1) (fun (_ : Unit) (U : State) => hW D vwCl ad (Sum.elim so (mSH C)) (Sum.elim t oM.2) lt U.heap) (hA s0)) args s 0 0 (hA s0)) (F0 m 204 ls []) := fun x' ex => by rw [kx1 _ ex]; exact kx0
  unfold m_get_L73 at hf
  refine lv_iload hx hb dX5_get_73 (lv_at hl 4 rfl) ?_
  refine lv_aload_n hx hb dX5_get_75 rfl (lv_at hl 0 rfl) ?_
  refine hr_get (ci := 5) (C := RX5) (T := TX5) (N := 55) (r := .inr 0) hx hb hts in_X5 hown hK hM mS_0 rfl 44 (by decide) (hts _ q1412) rfl (v := .int (g_73 0 44)) rfl dX5_get_76 ?_
  refine hb_icmp_ge (tgt := 204) hx hb dX5_get_79 (by decide) hf (fun hf => ?_) (fun hf => ?_)
  · exact kx (v3_73, g_73) (Option.some.inj hf).symm H locs ls hM hS (lv_sub hl [0, 3] rfl)
  · refine lv_aload_n hx hb dX5_get_82 rfl (lv_at hl 0 rfl) ?_
    refine hr_get (ci := 5) (C := RX5) (T := TX5) (N := 55) (r := .inr 0) hx hb hts in_X5 hown hK hM mS_0 rfl 45 (by decide) (hts _ q1413) rfl (v := .int (g_73 0 45)) rfl dX5_get_83 ?_
    refine hb_if_ne (tgt := 204) hx hb dX5_get_86 (by decide) hf (fun hf => ?_) (fun hf => ?_)
    · exact kx (v3_73, g_73) (Option.some.inj hf).symm H locs ls hM hS (lv_sub hl [0, 3] rfl)
    · refine lv_iconst (v := 0) hx hb dX5_get_89 (by decide) ?_
      refine lv_istore (lv' := [(5, .int (0 : Int32)), (0, .ref (ad (.inr 0))), (1, .int p0), (2, .int p1), (3, .int v3_73), (4, .int v4_73)]) hx hb dX5_get_90 hl (by decide) rfl (fun ls hl => ?_)
      obtain ⟨x14, hq, hf⟩ := hbind hf
      refine w_m_get_L92 ⟨hx, hb, hr, hml, hown, hts, hlocks, hK, hZ0, hA0⟩ hIx g p0 p1 g1 y2 y4 x7 g8 g9 y10 v3_73 v4_73 g_73 x14 hFU ((0 : Int32), g_73) hq (fun H locs ls hM hS hl => ?_) H locs ls hM hS (lv_sub hl [1, 2, 3, 4, 5, 0] rfl)
      refine lv_aload_n hx hb dX5_get_125 rfl (lv_at hl 0 rfl) ?_
      refine hr_get (ci := 5) (C := RX5) (T := TX5) (N := 55) (r := .inr 0) hx hb hts in_X5 hown hK hM mS_0 rfl 42 (by decide) (hts _ q1410) rfl (v := .ref (ad (.inr 43))) rfl dX5_get_126 ?_
      refine lv_iload_n hx hb dX5_get_129 rfl (lv_at hl 2 rfl) ?_
      refine hm_iald (r := 43) hx hb hK hM 0 mS_43 rfl hf dX5_get_130 (fun x15 hf => ?_)
      refine lv_iload_n hx hb dX5_get_131 rfl (lv_at hl 1 rfl) ?_
      refine hb_icmp_ne (tgt := 155) hx hb dX5_get_132 (by decide) hf (fun hf => ?_) (fun hf => ?_)
      · refine lv_iconst (v := 0) hx hb dX5_get_155 (by decide) ?_
        refine lv_istore (lv' := [(5, .int (0 : Int32)), (0, .ref (ad (.inr 0))), (1, .int p0), (2, .int p1), (3, .int v3_73), (4, .int v4_73)]) hx hb dX5_get_156 hl (by decide) rfl (fun ls hl => ?_)
        obtain ⟨x20, hq, hf⟩ := hbind hf
        refine w_m_get_L158 ⟨hx, hb, hr, hml, hown, hts, hlocks, hK, hZ0, hA0⟩ hIx g p0 p1 g1 y2 y4 x7 g8 g9 y10 v3_73 v4_73 g_73 x14 x15 x20 hFU ((0 : Int32), x14) hq (fun H locs ls hM hS hl => ?_) H locs ls hM hS (lv_sub hl [1, 2, 3, 4, 5, 0] rfl)
        obtain ⟨y4_21, ey, hf⟩ := hlet_ex hf
        refine lv_iinc (v := y4_21) (lv' := [(4, .int y4_21), (0, .ref (ad (.inr 0))), (1, .int p0), (2, .int p1), (3, .int v3_73)]) hx hb dX5_get_198 hl (k := 4) rfl (by rw [ey]; rfl) (by decide) rfl (fun ls hl => ?_)
        refine lv_goto (tgt := 73) hx hb dX5_get_201 (by decide) ?_
        exact kc (v3_73, y4_21, x20) (Option.some.inj hf).symm H locs ls hM hS (lv_sub hl [1, 2, 3, 4, 0] rfl)
      · refine lv_iload_n hx hb dX5_get_135 rfl (lv_at hl 3 rfl) ?_
        refine lv_iconst (v := -1) hx hb dX5_get_136 (by decide) ?_
        refine hb_icmp_ne (tgt := 150) hx hb dX5_get_137 (by decide) hf (fun hf => ?_) (fun hf => ?_)
        · refine lv_iload_n hx hb dX5_get_150 rfl (lv_at hl 3 rfl) ?_
          refine lv_istore_n (lv' := [(3, .int v3_73), (0, .ref (ad (.inr 0))), (1, .int p0), (2, .int p1), (4, .int v4_73)]) hx hb dX5_get_151 rfl hl (by decide) rfl (fun ls hl => ?_)
          refine lv_goto (tgt := 198) hx hb dX5_get_152 (by decide) ?_
          obtain ⟨y4_22, ey, hf⟩ := hlet_ex hf
          refine lv_iinc (v := y4_22) (lv' := [(4, .int y4_22), (3, .int v3_73), (0, .ref (ad (.inr 0))), (1, .int p0), (2, .int p1)]) hx hb dX5_get_198 hl (k := 4) rfl (by rw [ey]; rfl) (by decide) rfl (fun ls hl => ?_)
          refine lv_goto (tgt := 73) hx hb dX5_get_201 (by decide) ?_
          exact kc (v3_73, y4_22, x14) (Option.some.inj hf).symm H locs ls hM hS (lv_sub hl [2, 3, 4, 1, 0] rfl)
        · refine lv_aload_n hx hb dX5_get_140 rfl (lv_at hl 0 rfl) ?_
          refine hr_get (ci := 5) (C := RX5) (T := TX5) (N := 55) (r := .inr 0) hx hb hts in_X5 hown hK hM mS_0 rfl 39 (by decide) (hts _ q1407) rfl (v := .ref (ad (.inr 40))) rfl dX5_get_141 ?_
          refine lv_iload hx hb dX5_get_144 (lv_at hl 4 rfl) ?_
          refine hm_iald (r := 40) hx hb hK hM 0 mS_40 rfl hf dX5_get_146 (fun x23 hf => ?_)
          refine lv_goto (tgt := 151) hx hb dX5_get_147 (by decide) ?_
          refine lv_istore_n (lv' := [(3, .int x23), (0, .ref (ad (.inr 0))), (1, .int p0), (2, .int p1), (4, .int v4_73)]) hx hb dX5_get_151 rfl hl (by decide) rfl (fun ls hl => ?_)
          refine lv_goto (tgt := 198) hx hb dX5_get_152 (by decide) ?_
          obtain ⟨y4_24, ey, hf⟩ := hlet_ex hf
          refine lv_iinc (v := y4_24) (lv' := [(4, .int y4_24), (3, .int x23), (0, .ref (ad (.inr 0))), (1, .int p0), (2, .int p1)]) hx hb dX5_get_198 hl (k := 4) rfl (by rw [ey]; rfl) (by decide) rfl (fun ls hl => ?_)
          refine lv_goto (tgt := 73) hx hb dX5_get_201 (by decide) ?_
          exact kc (x23, y4_24, x14) (Option.some.inj hf).symm H locs ls hM hS (lv_sub hl [2, 3, 4, 1, 0] rfl)
set_option maxHeartbeats 4000000 in
set_option maxRecDepth 100000 in
theorem w_m_get {p : Program} {l : Launch} {e : Env} {s : State} {m : MethodId} {args : Array Value} {below : List Frame} {meth : Method} {c : Code} {D : va_G} {C : Nat → Nat} {a0 : Array Value} {s0 : State} {ad : Rl → Nat} {so : Nat → Option hS} {t : hSt} {lt : Rl → Nat → Int64} (CX : hCx D C a0 s0 p s m args meth c cX5_get 6 RX5 (some .int)) (hIx : hI (hA s0) ad (Sum.elim so (mSH C))) (g : hSt) (p0 : Int32) (p1 : Int32) {o : Int32 × hSt} (hf : m_get g p0 p1 = some o) {H : Heap} {locs : List Loc} (hM : hW D vwCl ad (Sum.elim so (mSH C)) (Sum.elim t g) lt H) (hS : va_S (hA s0) s.heap H locs) {ls : Array Slot} (hl : lv_has ls 6 [(0, .ref (ad (.inr 0))), (1, .int p0), (2, .int p1)]) : W p l e rm_m_get s m args below meth c H locs 0 0 (MQ below (va_Qi (fun (r : Int32) (_ : Unit) => r = o.1) (fun (_ : Unit) (U : State) => hW D vwCl ad (Sum.elim so (mSH C)) (Sum.elim t o.2) lt U.heap) (hA s0)) args s 0 0 (hA s0)) (F0 m 0 ls []) := by
  obtain ⟨hx, hb, hr, hml, hown, hts, hlocks, hK, hZ0, hA0⟩ := CX
  unfold m_get at hf
  refine lv_aload_n hx hb dX5_get_0 rfl (lv_at hl 0 rfl) ?_
  refine lv_iconst (v := 0) hx hb dX5_get_1 (by decide) ?_
  refine hm_put (r := 0) (ci := 5) (C := RX5) (T := TX5) (N := 55) hx hb hts in_X5 tyX5 tyX5_ok nmX5 hown hK hM hIx hS mS_0 rfl 1 (by decide) (hts _ q1369) rfl rfl rfl hf dX5_get_2 (fun g1 H locs hf hM hS => ?_)
  refine lv_aload_n hx hb dX5_get_5 rfl (lv_at hl 0 rfl) ?_
  refine lv_iload_n hx hb dX5_get_6 rfl (lv_at hl 1 rfl) ?_
  obtain ⟨y2, hq, hf⟩ := hbind hf
  refine hr_calli0 (va_runV (As := [.int p0]) (rest := []) ⟨hx, hb, hml, hown, hts⟩ (met_m_isPerson l D C a0 s0 ad so t lt g1 p0 hq) (cwV 1 hts (lw_V q1655 q1657 qs47 q99 q1658) rfl rfl rfl (by decide +kernel) ⟨Nat.le_of_ble_eq_true rfl, Nat.le_of_ble_eq_true rfl⟩) (hr_preV hZ_c hM hIx hK hZ0 hA0 hS (r := .inr 0) mS_0 (q := (RX5, TX5, 55)) rfl) rfl rfl hl.1 rfl (lv_room (Nat.le_of_ble_eq_true rfl)) dX5_get_7 ⟨Nat.le_of_ble_eq_true rfl, Nat.le_of_ble_eq_true rfl⟩) hS (fun H locs hM hS => ?_)
  refine hb_if_eq (tgt := 21) hx hb dX5_get_10 (by decide) hf (fun hf => ?_) (fun hf => ?_)
  · exact w_m_get_B21 ⟨hx, hb, hr, hml, hown, hts, hlocks, hK, hZ0, hA0⟩ hIx g p0 p1 g1 y2 hf hM hS (lv_sub hl [0] rfl)
  · refine lv_aload_n hx hb dX5_get_13 rfl (lv_at hl 0 rfl) ?_
    refine lv_iload_n hx hb dX5_get_14 rfl (lv_at hl 2 rfl) ?_
    obtain ⟨y4, hq, hf⟩ := hbind hf
    refine hr_calli0 (va_runV (As := [.int p1]) (rest := []) ⟨hx, hb, hml, hown, hts⟩ (met_m_isThing l D C a0 s0 ad so t lt g1 p1 hq) (cwV 1 hts (lw_V q1675 q1677 qs51 q99 q1678) rfl rfl rfl (by decide +kernel) ⟨Nat.le_of_ble_eq_true rfl, Nat.le_of_ble_eq_true rfl⟩) (hr_preV hZ_c hM hIx hK hZ0 hA0 hS (r := .inr 0) mS_0 (q := (RX5, TX5, 55)) rfl) rfl rfl hl.1 rfl (lv_room (Nat.le_of_ble_eq_true rfl)) dX5_get_15 ⟨Nat.le_of_ble_eq_true rfl, Nat.le_of_ble_eq_true rfl⟩) hS (fun H locs hM hS => ?_)
    refine hb_if_ne (tgt := 27) hx hb dX5_get_18 (by decide) hf (fun hf => ?_) (fun hf => ?_)
    · refine lv_iconst (v := 0) hx hb dX5_get_27 (by decide) ?_
      refine lv_istore_n (lv' := [(3, .int (0 : Int32)), (0, .ref (ad (.inr 0))), (1, .int p0), (2, .int p1)]) hx hb dX5_get_28 rfl hl (by decide) rfl (fun ls hl => ?_)
      obtain ⟨x7, hq, hf⟩ := hbind hf
      refine w_m_get_L29 ⟨hx, hb, hr, hml, hown, hts, hlocks, hK, hZ0, hA0⟩ hIx g p0 p1 g1 y2 y4 x7 hFU ((0 : Int32), g1) hq (fun H locs ls hM hS hl => ?_) H locs ls hM hS (lv_sub hl [1, 2, 3, 0] rfl)
      refine lv_aload_n hx hb dX5_get_49 rfl (lv_at hl 0 rfl) ?_
      refine lv_iconst (v := 0) hx hb dX5_get_50 (by decide) ?_
      refine hm_put (r := 0) (ci := 5) (C := RX5) (T := TX5) (N := 55) hx hb hts in_X5 tyX5 tyX5_ok nmX5 hown hK hM hIx hS mS_0 rfl 44 (by decide) (hts _ q1412) rfl rfl rfl hf dX5_get_51 (fun g8 H locs hf hM hS => ?_)
      refine lv_aload_n hx hb dX5_get_54 rfl (lv_at hl 0 rfl) ?_
      refine lv_iconst (v := 0) hx hb dX5_get_55 (by decide) ?_
      refine hm_putz (r := 0) (ci := 5) (C := RX5) (T := TX5) (N := 55) hx hb hts in_X5 tyX5 tyX5_ok nmX5 hown hK hM hIx hS mS_0 rfl 45 (by decide) (hts _ q1413) rfl rfl rfl hf dX5_get_56 (fun g9 H locs hf hM hS => ?_)
      refine lv_aload_n hx hb dX5_get_59 rfl (lv_at hl 0 rfl) ?_
      refine lv_aload_n hx hb dX5_get_60 rfl (lv_at hl 0 rfl) ?_
      refine hr_get (ci := 5) (C := RX5) (T := TX5) (N := 55) (r := .inr 0) hx hb hts in_X5 hown hK hM mS_0 rfl 7 (by decide) (hts _ q1375) rfl (v := .ref (ad (.inr 8))) rfl dX5_get_61 ?_
      refine lv_iconst (v := 0) hx hb dX5_get_64 (by decide) ?_
      obtain ⟨y10, hq, hf⟩ := hbind hf
      refine hr_callv0 (va_runV (As := [.ref (ad (.inr 8)), .int (0 : Int32)]) (rest := []) ⟨hx, hb, hml, hown, hts⟩ (met_m_come l D C a0 s0 ad so t lt g9 8 (0 : Int32) ms_8 hq) (cwV 2 hts (lw_V q1772 q1774 qs64 q99 q1775) rfl rfl rfl (by decide +kernel) ⟨Nat.le_of_ble_eq_true rfl, Nat.le_of_ble_eq_true rfl⟩) (hr_preV hZ_c hM hIx hK hZ0 hA0 hS (r := .inr 0) mS_0 (q := (RX5, TX5, 55)) rfl) rfl rfl hl.1 rfl (lv_room (Nat.le_of_ble_eq_true rfl)) dX5_get_65 ⟨Nat.le_of_ble_eq_true rfl, Nat.le_of_ble_eq_true rfl⟩) hS (fun H locs hM hS => ?_)
      refine lv_iconst (v := -1) hx hb dX5_get_68 (by decide) ?_
      refine lv_istore_n (lv' := [(3, .int (-1 : Int32)), (0, .ref (ad (.inr 0))), (1, .int p0), (2, .int p1)]) hx hb dX5_get_69 rfl hl (by decide) rfl (fun ls hl => ?_)
      refine lv_iconst (v := 0) hx hb dX5_get_70 (by decide) ?_
      refine lv_istore (lv' := [(4, .int (0 : Int32)), (3, .int (-1 : Int32)), (0, .ref (ad (.inr 0))), (1, .int p0), (2, .int p1)]) hx hb dX5_get_71 hl (by decide) rfl (fun ls hl => ?_)
      obtain ⟨x25, hq, hf⟩ := hbind hf
      refine w_m_get_L73 ⟨hx, hb, hr, hml, hown, hts, hlocks, hK, hZ0, hA0⟩ hIx g p0 p1 g1 y2 y4 x7 g8 g9 y10 x25 hFU ((-1 : Int32), (0 : Int32), y10) hq (fun H locs ls hM hS hl => ?_) H locs ls hM hS (lv_sub hl [2, 3, 4, 1, 0] rfl)
      refine lv_aload_n hx hb dX5_get_204 rfl (lv_at hl 0 rfl) ?_
      refine hr_get (ci := 5) (C := RX5) (T := TX5) (N := 55) (r := .inr 0) hx hb hts in_X5 hown hK hM mS_0 rfl 45 (by decide) (hts _ q1413) rfl (v := .int (x25.2 0 45)) rfl dX5_get_205 ?_
      refine hb_if_eq (tgt := 216) hx hb dX5_get_208 (by decide) hf (fun hf => ?_) (fun hf => ?_)
      · refine lv_iload_n hx hb dX5_get_216 rfl (lv_at hl 1 rfl) ?_
        have eo := Option.some.inj hf
        subst eo
        exact W.iret (v := x25.1) hx hb hr (fun T ht hW => ⟨⟨x25.1, (), rfl, rfl, by dsimp only; rw [ht]; exact hM⟩, hS.F ht⟩) hS.2.2 dX5_get_217
      · refine lv_bipush (v := -2) hx hb dX5_get_211 (by decide) ?_
        refine lv_goto (tgt := 217) hx hb dX5_get_213 (by decide) ?_
        have eo := Option.some.inj hf
        subst eo
        exact W.iret (v := (-2 : Int32)) hx hb hr (fun T ht hW => ⟨⟨(-2 : Int32), (), rfl, rfl, by dsimp only; rw [ht]; exact hM⟩, hS.F ht⟩) hS.2.2 dX5_get_217
    · exact w_m_get_B21 ⟨hx, hb, hr, hml, hown, hts, hlocks, hK, hZ0, hA0⟩ hIx g p0 p1 g1 y2 hf hM hS (lv_sub hl [0] rfl)
set_option maxHeartbeats 4000000 in
set_option maxRecDepth 100000 in
theorem met_m_get (l : Launch) (D : va_G) (C : Nat → Nat) (a0 : Array Value) (s0 : State) (ad : Rl → Nat) (so : Nat → Option hS) (t : hSt) (lt : Rl → Nat → Int64) (g : hSt) (p0 : Int32) (p1 : Int32) {o : Int32 × hSt} (hf : m_get g p0 p1 = some o) : Met l yX5_get (ws_ yX5_get cX5_get 6 (some .int)) rm_m_get (va_Pc [.ref (ad (.inr 0)), .int p0, .int p1] (hB D vwCl (hT C) (hA s0) (hZ a0 s0) ad (Sum.elim so (mSH C)) (Sum.elim t g) lt)) (va_Qi (fun (r : Int32) (_ : Unit) => r = o.1) (fun (_ : Unit) (U : State) => hW D vwCl ad (Sum.elim so (mSH C)) (Sum.elim t o.2) lt U.heap) (hA s0)) 0 0 (hA s0) := by
  refine Met.ofW (cc := cX5_get) (maxL := 6) (ret := (some .int)) (by decide) rfl ?_
  intro p e s m args below meth c s₁ B hml hv
  obtain ⟨rfl, hM, hIx, hK, hZ0, hA0⟩ := hv
  have hl := lv_entry ([.ref (ad (.inr 0)), .int p0, .int p1]) (n := 6) (Nat.le_of_ble_eq_true rfl)
  rw [lg_entry_eq]
  generalize (lg_sl ([.ref (ad (.inr 0)), .int p0, .int p1]) ++ List.replicate (6 - (lg_sl ([.ref (ad (.inr 0)), .int p0, .int p1])).length) Slot.unset).toArray = ls at hl ⊢
  have hl : lv_has ls 6 [(0, .ref (ad (.inr 0))), (1, .int p0), (2, .int p1)] := hl
  exact w_m_get ⟨B.exec, B.bytes, B.returns, hml, findClass_of_methodNamed B.named, fun w h => atoms_spec (ws := ws_ yX5_get cX5_get 6 (some .int)) B.pre w (List.mem_cons_of_mem _ h), B.notSynchronized, hK, hZ0, hA0⟩ hIx g p0 p1 hf hM va_S.rf hl

