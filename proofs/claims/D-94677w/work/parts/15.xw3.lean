/-! WALKS (printed by tools/gen.py): 15.xw 3 -/
set_option maxRecDepth 100000
def rm_x_answers : Room := { frames := 13, cells := 2, slots := 12, locals := 164 }
set_option maxHeartbeats 4000000 in
set_option maxRecDepth 100000 in
theorem w_x_answers_B76 {p : Program} {l : Launch} {e : Env} {s : State} {m : MethodId} {args : Array Value} {below : List Frame} {meth : Method} {c : Code} {D : va_G} {C : Nat → Nat} {a0 : Array Value} {s0 : State} {ad : Rl → Nat} {so : Nat → Option hS} {pr : hPr} {t : hSt} {tl : hLt} (CX : hCx D C a0 s0 p s m args meth c cX1_answers 6 RX1 (some .int)) (hIx : hI (hA s0) ad (Sum.elim (xSH C pr) so)) (hex : ∀ x ∈ c.exceptionTable.toList, False) (hlst : l.stackTraces = false) (g : hSt) (gl : hLt) (p0 : Int32) (p1 : Int32) (p2 : Int32) (y2 : Int32) (x4 : Int32) (y5 : hLt) (v4_45 : Int32) (v5_45 : Int32) (k0_76 : Int32) {oM : (Int32 × hLt) ⊕ Nat} {o : (Int32 × Int32) ⊕ (Int32)} (hf : x_answers_B76 g y5 v4_45 v5_45 k0_76 = some o) (kc : ∀ s' : Int32 × Int32, o = .inl s' → ∀ (H : Heap) (locs : List Loc) (ls : Array Slot), hW D vwCl ad (Sum.elim (xSH C pr) so) (Sum.elim g t) (Sum.elim y5 tl) H → va_S (hA s0) s.heap H locs → lv_has ls 6 [(0, .ref (ad (.inl 0))), (1, .int p0), (2, .int p1), (3, .int p2), (4, .int s'.1), (5, .int s'.2)] → W p l e rm_x_answers s m args below meth c H locs 2 12 (vx_MQ below (va_Qi (fun (r : Int32) (v : Int32 × hLt) => oM = .inl v ∧ r = v.1) (fun (v : Int32 × hLt) (U : State) => hW D vwCl ad (Sum.elim (xSH C pr) so) (Sum.elim g t) (Sum.elim v.2 tl) U.heap) (hA s0)) (vx_X (fun k : Nat => oM = .inr k) (fun (E : String) (k : Nat) (U : State) => E = hEx k ∧ hW D vwCl ad (Sum.elim (xSH C pr) so) (Sum.elim g t) (Sum.elim gl tl) U.heap) (hA s0)) args s 2 12 (hA s0)) (F0 m 45 ls [])) (kx : ∀ x' : Int32, o = .inr x' → ∀ (H : Heap) (locs : List Loc) (ls : Array Slot), hW D vwCl ad (Sum.elim (xSH C pr) so) (Sum.elim g t) (Sum.elim y5 tl) H → va_S (hA s0) s.heap H locs → lv_has ls 6 [(4, .int x')] → W p l e rm_x_answers s m args below meth c H locs 2 12 (vx_MQ below (va_Qi (fun (r : Int32) (v : Int32 × hLt) => oM = .inl v ∧ r = v.1) (fun (v : Int32 × hLt) (U : State) => hW D vwCl ad (Sum.elim (xSH C pr) so) (Sum.elim g t) (Sum.elim v.2 tl) U.heap) (hA s0)) (vx_X (fun k : Nat => oM = .inr k) (fun (E : String) (k : Nat) (U : State) => E = hEx k ∧ hW D vwCl ad (Sum.elim (xSH C pr) so) (Sum.elim g t) (Sum.elim gl tl) U.heap) (hA s0)) args s 2 12 (hA s0)) (F0 m 93 ls [])) {H : Heap} {locs : List Loc} (hM : hW D vwCl ad (Sum.elim (xSH C pr) so) (Sum.elim g t) (Sum.elim y5 tl) H) (hS : va_S (hA s0) s.heap H locs) {ls : Array Slot} (hl : lv_has ls 6 [(0, .ref (ad (.inl 0))), (1, .int p0), (2, .int p1), (3, .int p2), (4, .int v4_45), (5, .int v5_45)]) : W p l e rm_x_answers s m args below meth c H locs 2 12 (vx_MQ below (va_Qi (fun (r : Int32) (v : Int32 × hLt) => oM = .inl v ∧ r = v.1) (fun (v : Int32 × hLt) (U : State) => hW D vwCl ad (Sum.elim (xSH C pr) so) (Sum.elim g t) (Sum.elim v.2 tl) U.heap) (hA s0)) (vx_X (fun k : Nat => oM = .inr k) (fun (E : String) (k : Nat) (U : State) => E = hEx k ∧ hW D vwCl ad (Sum.elim (xSH C pr) so) (Sum.elim g t) (Sum.elim gl tl) U.heap) (hA s0)) args s 2 12 (hA s0)) (F0 m 76 ls [.int k0_76, .ref (ad (.inl 0))]) := by
  obtain ⟨hx, hb, hr, hml, hown, hts, hlocks, hK, hZ0, hA0⟩ := CX
  unfold x_answers_B76 at hf
  refine lv_iload hx hb dX1_answers_76 (lv_at hl 5 rfl) ?_
  obtain ⟨y6, hq, hf⟩ := hbind hf
  refine hr_calli0 (va_runV (As := [.int k0_76, .int v5_45]) (rest := []) ⟨hx, hb, hml, hown, hts⟩ (met_x_isMadeBetween l D C a0 s0 ad so pr t tl g y5 k0_76 v5_45 hq) (cwV 2 hts (lw_V q1308 q1310 qs31 q76 q1311) rfl rfl rfl (by decide +kernel) ⟨Nat.le_of_ble_eq_true rfl, Nat.le_of_ble_eq_true rfl⟩) (hr_preV hZ_c hM hIx hK hZ0 hA0 hS (r := .inl 0) xS_0 (q := (RX1, TX1, 19)) rfl) rfl rfl hl.1 rfl (lv_room (Nat.le_of_ble_eq_true rfl)) dX1_answers_78 ⟨Nat.le_of_ble_eq_true rfl, Nat.le_of_ble_eq_true rfl⟩) hS (fun H locs hM hS => ?_)
  refine hb_if_eq (tgt := 87) hx hb dX1_answers_81 (by decide) hf (fun hf => ?_) (fun hf => ?_)
  · obtain ⟨y5_7, ey, hf⟩ := hlet_ex hf
    refine lv_iinc (v := y5_7) (lv' := [(5, .int y5_7), (0, .ref (ad (.inl 0))), (1, .int p0), (2, .int p1), (3, .int p2), (4, .int v4_45)]) hx hb dX1_answers_87 hl (k := 5) rfl (by rw [ey]; rfl) (by decide) rfl (fun ls hl => ?_)
    refine lv_goto (tgt := 45) hx hb dX1_answers_90 (by decide) ?_
    exact kc (v4_45, y5_7) (Option.some.inj hf).symm H locs ls hM hS (lv_sub hl [1, 2, 3, 4, 5, 0] rfl)
  · obtain ⟨y4_8, ey, hf⟩ := hlet_ex hf
    refine lv_iinc (v := y4_8) (lv' := [(4, .int y4_8), (0, .ref (ad (.inl 0))), (1, .int p0), (2, .int p1), (3, .int p2), (5, .int v5_45)]) hx hb dX1_answers_84 hl (k := 4) rfl (by rw [ey]; rfl) (by decide) rfl (fun ls hl => ?_)
    obtain ⟨y5_9, ey, hf⟩ := hlet_ex hf
    refine lv_iinc (v := y5_9) (lv' := [(5, .int y5_9), (4, .int y4_8), (0, .ref (ad (.inl 0))), (1, .int p0), (2, .int p1), (3, .int p2)]) hx hb dX1_answers_87 hl (k := 5) rfl (by rw [ey]; rfl) (by decide) rfl (fun ls hl => ?_)
    refine lv_goto (tgt := 45) hx hb dX1_answers_90 (by decide) ?_
    exact kc (y4_8, y5_9) (Option.some.inj hf).symm H locs ls hM hS (lv_sub hl [2, 3, 4, 5, 1, 0] rfl)
set_option maxHeartbeats 4000000 in
set_option maxRecDepth 100000 in
theorem w_x_answers_L45 {p : Program} {l : Launch} {e : Env} {s : State} {m : MethodId} {args : Array Value} {below : List Frame} {meth : Method} {c : Code} {D : va_G} {C : Nat → Nat} {a0 : Array Value} {s0 : State} {ad : Rl → Nat} {so : Nat → Option hS} {pr : hPr} {t : hSt} {tl : hLt} (CX : hCx D C a0 s0 p s m args meth c cX1_answers 6 RX1 (some .int)) (hIx : hI (hA s0) ad (Sum.elim (xSH C pr) so)) (hex : ∀ x ∈ c.exceptionTable.toList, False) (hlst : l.stackTraces = false) (g : hSt) (gl : hLt) (p0 : Int32) (p1 : Int32) (p2 : Int32) (y2 : Int32) (x4 : Int32) (y5 : hLt) {oM : (Int32 × hLt) ⊕ Nat} (x : Int32) (n : Nat) (q0 : Int32 × Int32) (h0 : hiter (fun q : Int32 × Int32 => x_answers_L45 g p0 p1 p2 y5 q.1 q.2) n q0 = some x) (kx0 : ∀ (H : Heap) (locs : List Loc) (ls : Array Slot), hW D vwCl ad (Sum.elim (xSH C pr) so) (Sum.elim g t) (Sum.elim y5 tl) H → va_S (hA s0) s.heap H locs → lv_has ls 6 [(4, .int x)] → W p l e rm_x_answers s m args below meth c H locs 2 12 (vx_MQ below (va_Qi (fun (r : Int32) (v : Int32 × hLt) => oM = .inl v ∧ r = v.1) (fun (v : Int32 × hLt) (U : State) => hW D vwCl ad (Sum.elim (xSH C pr) so) (Sum.elim g t) (Sum.elim v.2 tl) U.heap) (hA s0)) (vx_X (fun k : Nat => oM = .inr k) (fun (E : String) (k : Nat) (U : State) => E = hEx k ∧ hW D vwCl ad (Sum.elim (xSH C pr) so) (Sum.elim g t) (Sum.elim gl tl) U.heap) (hA s0)) args s 2 12 (hA s0)) (F0 m 93 ls [])) : ∀ (H : Heap) (locs : List Loc) (ls : Array Slot), hW D vwCl ad (Sum.elim (xSH C pr) so) (Sum.elim g t) (Sum.elim y5 tl) H → va_S (hA s0) s.heap H locs → lv_has ls 6 [(0, .ref (ad (.inl 0))), (1, .int p0), (2, .int p1), (3, .int p2), (4, .int q0.1), (5, .int q0.2)] → W p l e rm_x_answers s m args below meth c H locs 2 12 (vx_MQ below (va_Qi (fun (r : Int32) (v : Int32 × hLt) => oM = .inl v ∧ r = v.1) (fun (v : Int32 × hLt) (U : State) => hW D vwCl ad (Sum.elim (xSH C pr) so) (Sum.elim g t) (Sum.elim v.2 tl) U.heap) (hA s0)) (vx_X (fun k : Nat => oM = .inr k) (fun (E : String) (k : Nat) (U : State) => E = hEx k ∧ hW D vwCl ad (Sum.elim (xSH C pr) so) (Sum.elim g t) (Sum.elim gl tl) U.heap) (hA s0)) args s 2 12 (hA s0)) (F0 m 45 ls []) := by
  obtain ⟨hx, hb, hr, hml, hown, hts, hlocks, hK, hZ0, hA0⟩ := CX
  refine hiter_W (Wh := fun q => ∀ (H : Heap) (locs : List Loc) (ls : Array Slot), hW D vwCl ad (Sum.elim (xSH C pr) so) (Sum.elim g t) (Sum.elim y5 tl) H → va_S (hA s0) s.heap H locs → lv_has ls 6 [(0, .ref (ad (.inl 0))), (1, .int p0), (2, .int p1), (3, .int p2), (4, .int q.1), (5, .int q.2)] → W p l e rm_x_answers s m args below meth c H locs 2 12 (vx_MQ below (va_Qi (fun (r : Int32) (v : Int32 × hLt) => oM = .inl v ∧ r = v.1) (fun (v : Int32 × hLt) (U : State) => hW D vwCl ad (Sum.elim (xSH C pr) so) (Sum.elim g t) (Sum.elim v.2 tl) U.heap) (hA s0)) (vx_X (fun k : Nat => oM = .inr k) (fun (E : String) (k : Nat) (U : State) => E = hEx k ∧ hW D vwCl ad (Sum.elim (xSH C pr) so) (Sum.elim g t) (Sum.elim gl tl) U.heap) (hA s0)) args s 2 12 (hA s0)) (F0 m 45 ls [])) ?_ n q0 h0
  intro q o hf kc kx1 H locs ls hM hS hl
  obtain ⟨v4_45, v5_45⟩ := q
  replace hf : x_answers_L45 g p0 p1 p2 y5 v4_45 v5_45 = some o := hf
  have kx : ∀ x' : Int32, o = .inr x' → ∀ (H : Heap) (locs : List Loc) (ls : Array Slot), hW D vwCl ad (Sum.elim (xSH C pr) so) (Sum.elim g t) (Sum.elim y5 tl) H → va_S (hA s0) s.heap H locs → lv_has ls 6 [(4, .int x')] → W p l e rm_x_answers s m args below meth c H locs 2 12 (vx_MQ below (va_Qi (fun (r : Int32) (v : Int32 × hLt) => oM = .inl v ∧ r = v.1) (fun (v : Int32 × hLt) (U : State) => hW D vwCl ad (Sum.elim (xSH C pr) so) (Sum.elim g t) (Sum.elim v.2 tl) U.heap) (hA s0)) (vx_X (fun k : Nat => oM = .inr k) (fun (E : String) (k : Nat) (U : State) => E = hEx k ∧ hW D vwCl ad (Sum.elim (xSH C pr) so) (Sum.elim g t) (Sum.elim gl tl) U.heap) (hA s0)) args s 2 12 (hA s0)) (F0 m 93 ls []) := fun x' ex => by rw [kx1 _ ex]; exact kx0
  unfold x_answers_L45 at hf
  refine lv_iload hx hb dX1_answers_45 (lv_at hl 5 rfl) ?_
  refine lv_iload_n hx hb dX1_answers_47 rfl (lv_at hl 2 rfl) ?_
  refine hb_icmp_gt (tgt := 93) hx hb dX1_answers_48 (by decide) hf (fun hf => ?_) (fun hf => ?_)
  · exact kx v4_45 (Option.some.inj hf).symm H locs ls hM hS (lv_sub hl [4] rfl)
  · refine lv_aload_n hx hb dX1_answers_51 rfl (lv_at hl 0 rfl) ?_
    refine lv_iload_n hx hb dX1_answers_52 rfl (lv_at hl 3 rfl) ?_
    refine hb_if_eq (tgt := 74) hx hb dX1_answers_53 (by decide) hf (fun hf => ?_) (fun hf => ?_)
    · refine lv_iload hx hb dX1_answers_74 (lv_at hl 5 rfl) ?_
      exact w_x_answers_B76 ⟨hx, hb, hr, hml, hown, hts, hlocks, hK, hZ0, hA0⟩ hIx hex hlst g gl p0 p1 p2 y2 x4 y5 v4_45 v5_45 v5_45 hf kc kx hM hS (lv_sub hl [0, 1, 2, 3, 4, 5] rfl)
    · refine lv_iload hx hb dX1_answers_56 (lv_at hl 5 rfl) ?_
      refine lv_aload_n hx hb dX1_answers_58 rfl (lv_at hl 0 rfl) ?_
      refine hr_get (ci := 0) (C := RX1) (T := TX1) (N := 19) (r := .inl 0) hx hb hts in_X1 hown hK hM xS_0 rfl 1 (by decide) (hts _ q560) rfl (v := .ref (ad (.inl 20))) rfl dX1_answers_59 ?_
      refine hr_getN (ci := 3) (C := RX3) (T := TX3) (N := 3) (r := .inl 20) hx hb hts in_X3 hown hK hM xS_20 rfl 0 (by decide) (hZ_nest hZ0 q544 rfl) rfl (v := .ref (ad (.inl 24))) rfl dX1_answers_62 ?_
      refine hr_getN (ci := 1) (C := RX4) (T := TX4) (N := 6) (r := .inl 24) hx hb hts in_X4 hown hK hM (xs_st24 (C := C) (pr := pr)).o rfl 1 (by decide) (hZ_nest hZ0 q514 rfl) rfl (v := .ref (ad (.inl (24 + 2)))) rfl dX1_answers_65 ?_
      refine lv_iload_n hx hb dX1_answers_68 rfl (lv_at hl 1 rfl) ?_
      refine hx_iald (r := (24 + 2)) hx hb hK hM 0 (xs_st24 (C := C) (pr := pr)).a2 rfl hf dX1_answers_69 (fun x10 hf => ?_)
      refine lv_isub hx hb dX1_answers_70 ?_
      refine lv_goto (tgt := 76) hx hb dX1_answers_71 (by decide) ?_
      exact w_x_answers_B76 ⟨hx, hb, hr, hml, hown, hts, hlocks, hK, hZ0, hA0⟩ hIx hex hlst g gl p0 p1 p2 y2 x4 y5 v4_45 v5_45 (v5_45 - x10) hf kc kx hM hS (lv_sub hl [0, 1, 2, 3, 4, 5] rfl)
set_option maxHeartbeats 4000000 in
set_option maxRecDepth 100000 in
theorem w_x_answers {p : Program} {l : Launch} {e : Env} {s : State} {m : MethodId} {args : Array Value} {below : List Frame} {meth : Method} {c : Code} {D : va_G} {C : Nat → Nat} {a0 : Array Value} {s0 : State} {ad : Rl → Nat} {so : Nat → Option hS} {pr : hPr} {t : hSt} {tl : hLt} (CX : hCx D C a0 s0 p s m args meth c cX1_answers 6 RX1 (some .int)) (hIx : hI (hA s0) ad (Sum.elim (xSH C pr) so)) (hex : ∀ x ∈ c.exceptionTable.toList, False) (hlst : l.stackTraces = false) (g : hSt) (gl : hLt) (p0 : Int32) (p1 : Int32) (p2 : Int32) {o : (Int32 × hLt) ⊕ Nat} (hf : x_answers g gl p0 p1 p2 = some o) {H : Heap} {locs : List Loc} (hM : hW D vwCl ad (Sum.elim (xSH C pr) so) (Sum.elim g t) (Sum.elim gl tl) H) (hS : va_S (hA s0) s.heap H locs) {ls : Array Slot} (hl : lv_has ls 6 [(0, .ref (ad (.inl 0))), (1, .int p0), (2, .int p1), (3, .int p2)]) : W p l e rm_x_answers s m args below meth c H locs 0 0 (vx_MQ below (va_Qi (fun (r : Int32) (v : Int32 × hLt) => o = .inl v ∧ r = v.1) (fun (v : Int32 × hLt) (U : State) => hW D vwCl ad (Sum.elim (xSH C pr) so) (Sum.elim g t) (Sum.elim v.2 tl) U.heap) (hA s0)) (vx_X (fun k : Nat => o = .inr k) (fun (E : String) (k : Nat) (U : State) => E = hEx k ∧ hW D vwCl ad (Sum.elim (xSH C pr) so) (Sum.elim g t) (Sum.elim gl tl) U.heap) (hA s0)) args s 2 12 (hA s0)) (F0 m 0 ls []) := by
  obtain ⟨hx, hb, hr, hml, hown, hts, hlocks, hK, hZ0, hA0⟩ := CX
  unfold x_answers at hf
  refine lv_aload_n hx hb dX1_answers_0 rfl (lv_at hl 0 rfl) ?_
  refine lv_iload_n hx hb dX1_answers_1 rfl (lv_at hl 1 rfl) ?_
  obtain ⟨z1, hq, hf⟩ := hbind hf
  refine hr_xcallv hf (vx_runV (As := [.int p0]) (rest := []) ⟨hx, hb, hml, hown, hts⟩ (met_x_person_2 l D C a0 s0 ad so pr t (Sum.elim gl tl) g p0 hlst hq) (cwV 1 hts (lw_V q1184 q1186 qs24 q76 q1187) rfl rfl rfl (by decide +kernel) ⟨Nat.le_of_ble_eq_true rfl, Nat.le_of_ble_eq_true rfl⟩) (hr_preV hZ_c hM hIx hK hZ0 hA0 hS (r := .inl 0) xS_0 (q := (RX1, TX1, 19)) rfl) rfl rfl hl.1 rfl (lv_room (Nat.le_of_ble_eq_true rfl)) dX1_answers_2 ⟨Nat.le_of_ble_eq_true rfl, Nat.le_of_ble_eq_true rfl⟩) hS hex hlocks hIx (Nat.le_of_ble_eq_true rfl) (Nat.le_of_ble_eq_true rfl) (fun H locs hf hM hS => ?_)
  refine lv_iload_n hx hb dX1_answers_5 rfl (lv_at hl 2 rfl) ?_
  refine lv_iconst (v := 1) hx hb dX1_answers_6 (by decide) ?_
  refine lv_sipush (v := 999) hx hb dX1_answers_7 (by decide) ?_
  obtain ⟨y2, hq, hf⟩ := hbind hf
  refine hr_calli0 (va_runS (As := [.int p1, .int (1 : Int32), .int (999 : Int32)]) (rest := []) ⟨hx, hb, hml, hown, hts⟩ (met_x_within l D C a0 s0 ad so pr (Sum.elim g t) (Sum.elim gl tl) p1 (1 : Int32) (999 : Int32) hq) (va_cwS 3 hts (lw_S q1156 q1157 q76 q1158) rfl rfl rfl (by decide +kernel) ⟨Nat.le_of_ble_eq_true rfl, Nat.le_of_ble_eq_true rfl⟩) (hr_preS hZ_c hM hIx hK hZ0 hA0 hS) rfl rfl hl.1 rfl (lv_room (Nat.le_of_ble_eq_true rfl)) dX1_answers_10 ⟨Nat.le_of_ble_eq_true rfl, Nat.le_of_ble_eq_true rfl⟩) hS (fun H locs hM hS => ?_)
  obtain ⟨z3, hq, hf⟩ := hbind hf
  refine hr_xcallv hf (vx_runS (As := [.int y2]) (rest := []) ⟨hx, hb, hml, hown, hts⟩ (met_x_right l D C a0 s0 ad so pr (Sum.elim g t) (Sum.elim gl tl) y2 hlst hq) (va_cwS 1 hts (lw_S q927 q928 q76 q929) rfl rfl rfl (by decide +kernel) ⟨Nat.le_of_ble_eq_true rfl, Nat.le_of_ble_eq_true rfl⟩) (hr_preS hZ_c hM hIx hK hZ0 hA0 hS) rfl rfl hl.1 rfl (lv_room (Nat.le_of_ble_eq_true rfl)) dX1_answers_13 ⟨Nat.le_of_ble_eq_true rfl, Nat.le_of_ble_eq_true rfl⟩) hS hex hlocks hIx (Nat.le_of_ble_eq_true rfl) (Nat.le_of_ble_eq_true rfl) (fun H locs hf hM hS => ?_)
  refine lv_aload_n hx hb dX1_answers_16 rfl (lv_at hl 0 rfl) ?_
  refine lv_aload_n hx hb dX1_answers_17 rfl (lv_at hl 0 rfl) ?_
  refine hr_get (ci := 0) (C := RX1) (T := TX1) (N := 19) (r := .inl 0) hx hb hts in_X1 hown hK hM xS_0 rfl 1 (by decide) (hts _ q560) rfl (v := .ref (ad (.inl 20))) rfl dX1_answers_18 ?_
  refine hr_getN (ci := 3) (C := RX3) (T := TX3) (N := 3) (r := .inl 20) hx hb hts in_X3 hown hK hM xS_20 rfl 0 (by decide) (hZ_nest hZ0 q544 rfl) rfl (v := .ref (ad (.inl 24))) rfl dX1_answers_21 ?_
  refine lv_aload_n hx hb dX1_answers_24 rfl (lv_at hl 0 rfl) ?_
  refine hr_get (ci := 0) (C := RX1) (T := TX1) (N := 19) (r := .inl 0) hx hb hts in_X1 hown hK hM xS_0 rfl 1 (by decide) (hts _ q560) rfl (v := .ref (ad (.inl 20))) rfl dX1_answers_25 ?_
  refine hr_getN (ci := 3) (C := RX3) (T := TX3) (N := 3) (r := .inl 20) hx hb hts in_X3 hown hK hM xS_20 rfl 0 (by decide) (hZ_nest hZ0 q544 rfl) rfl (v := .ref (ad (.inl 24))) rfl dX1_answers_28 ?_
  refine hr_getN (ci := 1) (C := RX4) (T := TX4) (N := 6) (r := .inl 24) hx hb hts in_X4 hown hK hM (xs_st24 (C := C) (pr := pr)).o rfl 0 (by decide) (hZ_nest hZ0 q510 rfl) rfl (v := .ref (ad (.inl (24 + 1)))) rfl dX1_answers_31 ?_
  refine lv_iload_n hx hb dX1_answers_34 rfl (lv_at hl 1 rfl) ?_
  refine hx_iald (r := (24 + 1)) hx hb hK hM 0 (xs_st24 (C := C) (pr := pr)).a1 rfl hf dX1_answers_35 (fun x4 hf => ?_)
  obtain ⟨y5, hq, hf⟩ := hbind hf
  refine hr_callv0 (va_runV (As := [.ref (ad (.inl 24)), .int x4]) (rest := []) ⟨hx, hb, hml, hown, hts⟩ (met_x_makes l D C a0 s0 ad so pr t tl g gl 24 x4 xs_st24 hq) (cwV 2 hts (lw_V q1300 q1302 qs29 q76 q1303) rfl rfl rfl (by decide +kernel) ⟨Nat.le_of_ble_eq_true rfl, Nat.le_of_ble_eq_true rfl⟩) (hr_preV hZ_c hM hIx hK hZ0 hA0 hS (r := .inl 0) xS_0 (q := (RX1, TX1, 19)) rfl) rfl rfl hl.1 rfl (lv_room (Nat.le_of_ble_eq_true rfl)) dX1_answers_36 ⟨Nat.le_of_ble_eq_true rfl, Nat.le_of_ble_eq_true rfl⟩) hS (fun H locs hM hS => ?_)
  refine lv_iconst (v := 0) hx hb dX1_answers_39 (by decide) ?_
  refine lv_istore (lv' := [(4, .int (0 : Int32)), (0, .ref (ad (.inl 0))), (1, .int p0), (2, .int p1), (3, .int p2)]) hx hb dX1_answers_40 hl (by decide) rfl (fun ls hl => ?_)
  refine lv_iconst (v := 1) hx hb dX1_answers_42 (by decide) ?_
  refine lv_istore (lv' := [(5, .int (1 : Int32)), (4, .int (0 : Int32)), (0, .ref (ad (.inl 0))), (1, .int p0), (2, .int p1), (3, .int p2)]) hx hb dX1_answers_43 hl (by decide) rfl (fun ls hl => ?_)
  obtain ⟨x11, hq, hf⟩ := hbind hf
  refine w_x_answers_L45 ⟨hx, hb, hr, hml, hown, hts, hlocks, hK, hZ0, hA0⟩ hIx hex hlst g gl p0 p1 p2 y2 x4 y5 x11 hFU ((0 : Int32), (1 : Int32)) hq (fun H locs ls hM hS hl => ?_) H locs ls hM hS (lv_sub hl [2, 3, 4, 5, 1, 0] rfl)
  refine lv_iload hx hb dX1_answers_93 (lv_at hl 0 rfl) ?_
  have eo := Option.some.inj hf
  subst eo
  refine W.widen (k := 2) (n := 12) (Nat.le_of_ble_eq_true rfl) (Nat.le_of_ble_eq_true rfl) ?_
  exact vx_ret (W.iret (v := x11) hx hb hr (fun T ht hW => ⟨⟨x11, (x11, y5), rfl, ⟨rfl, rfl⟩, by dsimp only; rw [ht]; exact hM⟩, hS.F ht⟩) hS.2.2 dX1_answers_95)
set_option maxHeartbeats 4000000 in
set_option maxRecDepth 100000 in
theorem met_x_answers (l : Launch) (D : va_G) (C : Nat → Nat) (a0 : Array Value) (s0 : State) (ad : Rl → Nat) (so : Nat → Option hS) (pr : hPr) (t : hSt) (tl : hLt) (g : hSt) (gl : hLt) (p0 : Int32) (p1 : Int32) (p2 : Int32) (hlst : l.stackTraces = false) {o : (Int32 × hLt) ⊕ Nat} (hf : x_answers g gl p0 p1 p2 = some o) : vx_Met l yX1_answers (ws_ yX1_answers cX1_answers 6 (some .int)) rm_x_answers (va_Pc [.ref (ad (.inl 0)), .int p0, .int p1, .int p2] (hB D vwCl (hT C) (hA s0) (hZ a0 s0) ad (Sum.elim (xSH C pr) so) (Sum.elim g t) (Sum.elim gl tl))) (va_Qi (fun (r : Int32) (v : Int32 × hLt) => o = .inl v ∧ r = v.1) (fun (v : Int32 × hLt) (U : State) => hW D vwCl ad (Sum.elim (xSH C pr) so) (Sum.elim g t) (Sum.elim v.2 tl) U.heap) (hA s0)) (vx_X (fun k : Nat => o = .inr k) (fun (E : String) (k : Nat) (U : State) => E = hEx k ∧ hW D vwCl ad (Sum.elim (xSH C pr) so) (Sum.elim g t) (Sum.elim gl tl) U.heap) (hA s0)) 2 12 (hA s0) := by
  refine vx_ofW (cc := cX1_answers) (maxL := 6) (ret := (some .int)) (by decide) rfl ?_
  intro p e s m args below meth c s₁ B hml hex hv
  obtain ⟨rfl, hM, hIx, hK, hZ0, hA0⟩ := hv
  have hl := lv_entry ([.ref (ad (.inl 0)), .int p0, .int p1, .int p2]) (n := 6) (Nat.le_of_ble_eq_true rfl)
  rw [lg_entry_eq]
  generalize (lg_sl ([.ref (ad (.inl 0)), .int p0, .int p1, .int p2]) ++ List.replicate (6 - (lg_sl ([.ref (ad (.inl 0)), .int p0, .int p1, .int p2])).length) Slot.unset).toArray = ls at hl ⊢
  have hl : lv_has ls 6 [(0, .ref (ad (.inl 0))), (1, .int p0), (2, .int p1), (3, .int p2)] := hl
  exact w_x_answers ⟨B.exec, B.bytes, B.returns, hml, findClass_of_methodNamed B.named, fun w h => atoms_spec (ws := ws_ yX1_answers cX1_answers 6 (some .int)) B.pre w (List.mem_cons_of_mem _ h), B.notSynchronized, hK, hZ0, hA0⟩ hIx hex hlst g gl p0 p1 p2 hf hM va_S.rf hl

def rm_x_round : Room := { frames := 13, cells := 2, slots := 12, locals := 266 }
set_option maxHeartbeats 4000000 in
set_option maxRecDepth 100000 in
theorem w_x_round_B132 {p : Program} {l : Launch} {e : Env} {s : State} {m : MethodId} {args : Array Value} {below : List Frame} {meth : Method} {c : Code} {D : va_G} {C : Nat → Nat} {a0 : Array Value} {s0 : State} {ad : Rl → Nat} {so : Nat → Option hS} {pr : hPr} {t : hSt} {lt : Rl → Nat → Int64} (CX : hCx D C a0 s0 p s m args meth c cX1_round 7 RX1 (some .int)) (hIx : hI (hA s0) ad (Sum.elim (xSH C pr) so)) (hex : ∀ x ∈ c.exceptionTable.toList, False) (hlst : l.stackTraces = false) (g : hSt) (p0 : Int32) (p1 : Int32) (y2 : Int32) (y4 : hSt) (v3_33 : Int32) (v4_33 : Int32) (g_33 : hSt) {oM : (Int32 × hSt) ⊕ Nat} {o : (Int32 × Int32 × hSt) ⊕ ((Int32 × Int32 × hSt) ⊕ (Int32 × hSt))} (hf : x_round_B132 p0 p1 v3_33 v4_33 g_33 = some o) (kc : ∀ s' : Int32 × Int32 × hSt, o = .inl s' → ∀ (H : Heap) (locs : List Loc) (ls : Array Slot), hW D vwCl ad (Sum.elim (xSH C pr) so) (Sum.elim s'.2.2 t) lt H → va_S (hA s0) s.heap H locs → lv_has ls 7 [(0, .ref (ad (.inl 0))), (1, .int p0), (2, .int p1), (3, .int s'.1), (4, .int s'.2.1)] → W p l e rm_x_round s m args below meth c H locs 2 12 (vx_MQ below (va_Qi (fun (r : Int32) (v : Int32 × hSt) => oM = .inl v ∧ r = v.1) (fun (v : Int32 × hSt) (U : State) => hW D vwCl ad (Sum.elim (xSH C pr) so) (Sum.elim v.2 t) lt U.heap) (hA s0)) (vx_X (fun k : Nat => oM = .inr k) (fun (E : String) (k : Nat) (U : State) => E = hEx k ∧ hW D vwCl ad (Sum.elim (xSH C pr) so) (Sum.elim g t) lt U.heap) (hA s0)) args s 2 12 (hA s0)) (F0 m 33 ls [])) (kx : ∀ x' : Int32 × Int32 × hSt, o = .inr (.inl x') → ∀ (H : Heap) (locs : List Loc) (ls : Array Slot), hW D vwCl ad (Sum.elim (xSH C pr) so) (Sum.elim x'.2.2 t) lt H → va_S (hA s0) s.heap H locs → lv_has ls 7 [(0, .ref (ad (.inl 0))), (1, .int p0), (2, .int p1), (3, .int x'.1), (4, .int x'.2.1)] → W p l e rm_x_round s m args below meth c H locs 2 12 (vx_MQ below (va_Qi (fun (r : Int32) (v : Int32 × hSt) => oM = .inl v ∧ r = v.1) (fun (v : Int32 × hSt) (U : State) => hW D vwCl ad (Sum.elim (xSH C pr) so) (Sum.elim v.2 t) lt U.heap) (hA s0)) (vx_X (fun k : Nat => oM = .inr k) (fun (E : String) (k : Nat) (U : State) => E = hEx k ∧ hW D vwCl ad (Sum.elim (xSH C pr) so) (Sum.elim g t) lt U.heap) (hA s0)) args s 2 12 (hA s0)) (F0 m 132 ls [])) (kr : ∀ r : Int32 × hSt, o = .inr (.inr r) → Sum.inl r = oM) {H : Heap} {locs : List Loc} (hM : hW D vwCl ad (Sum.elim (xSH C pr) so) (Sum.elim g_33 t) lt H) (hS : va_S (hA s0) s.heap H locs) {ls : Array Slot} (hl : lv_has ls 7 [(0, .ref (ad (.inl 0))), (1, .int p0), (2, .int p1), (3, .int v3_33), (4, .int v4_33)]) : W p l e rm_x_round s m args below meth c H locs 2 12 (vx_MQ below (va_Qi (fun (r : Int32) (v : Int32 × hSt) => oM = .inl v ∧ r = v.1) (fun (v : Int32 × hSt) (U : State) => hW D vwCl ad (Sum.elim (xSH C pr) so) (Sum.elim v.2 t) lt U.heap) (hA s0)) (vx_X (fun k : Nat => oM = .inr k) (fun (E : String) (k : Nat) (U : State) => E = hEx k ∧ hW D vwCl ad (Sum.elim (xSH C pr) so) (Sum.elim g t) lt U.heap) (hA s0)) args s 2 12 (hA s0)) (F0 m 132 ls []) := by
  obtain ⟨hx, hb, hr, hml, hown, hts, hlocks, hK, hZ0, hA0⟩ := CX
  unfold x_round_B132 at hf
  refine lv_iload_n hx hb dX1_round_132 rfl (lv_at hl 2 rfl) ?_
  refine hb_if_ne (tgt := 141) hx hb dX1_round_133 (by decide) hf (fun hf => ?_) (fun hf => ?_)
  · refine lv_iload_n hx hb dX1_round_141 rfl (lv_at hl 2 rfl) ?_
    refine lv_iconst (v := 1) hx hb dX1_round_142 (by decide) ?_
    refine hb_icmp_ne (tgt := 150) hx hb dX1_round_143 (by decide) hf (fun hf => ?_) (fun hf => ?_)
    · refine lv_aload_n hx hb dX1_round_150 rfl (lv_at hl 0 rfl) ?_
      refine hr_get (ci := 0) (C := RX1) (T := TX1) (N := 19) (r := .inl 0) hx hb hts in_X1 hown hK hM xS_0 rfl 2 (by decide) (hts _ q561) rfl (v := .ref (ad (.inl 30))) rfl dX1_round_151 ?_
      refine hr_getN (ci := 1) (C := RX4) (T := TX4) (N := 6) (r := .inl 30) hx hb hts in_X4 hown hK hM (xs_st30 (C := C) (pr := pr)).o rfl 0 (by decide) (hZ_nest hZ0 q510 rfl) rfl (v := .ref (ad (.inl (30 + 1)))) rfl dX1_round_154 ?_
      refine lv_iload_n hx hb dX1_round_157 rfl (lv_at hl 1 rfl) ?_
      refine hx_iald (r := (30 + 1)) hx hb hK hM 0 (xs_st30 (C := C) (pr := pr)).a1 rfl hf dX1_round_158 (fun x5 hf => ?_)
      refine lv_aload_n hx hb dX1_round_159 rfl (lv_at hl 0 rfl) ?_
      refine hr_get (ci := 0) (C := RX1) (T := TX1) (N := 19) (r := .inl 0) hx hb hts in_X1 hown hK hM xS_0 rfl 0 (by decide) (hts _ q559) rfl (v := .ref (ad (.inl 10))) rfl dX1_round_160 ?_
      obtain ⟨y6, hq, hf⟩ := hbind hf
      refine hr_calli0 (va_runSN (As := [.int x5, .ref (ad (.inl 10))]) (rest := []) ⟨hx, hb, hml, hown, hts⟩ (met_x_lst_worth l D C a0 s0 ad so pr t lt g_33 x5 hq) ⟨va_cnB 2 hts (lw_meth q864) rfl rfl rfl (hZ_nest hZ0 q1206 rfl) (hts _ q108) (by decide +kernel) ⟨Nat.le_of_ble_eq_true rfl, Nat.le_of_ble_eq_true rfl⟩, hts _ q863, trivial⟩ (hr_preS hZ_c hM hIx hK hZ0 hA0 hS) rfl rfl hl.1 rfl (lv_room (Nat.le_of_ble_eq_true rfl)) dX1_round_163 ⟨Nat.le_of_ble_eq_true rfl, Nat.le_of_ble_eq_true rfl⟩) hS (fun H locs hM hS => ?_)
      refine lv_aload_n hx hb dX1_round_166 rfl (lv_at hl 0 rfl) ?_
      refine hr_get (ci := 0) (C := RX1) (T := TX1) (N := 19) (r := .inl 0) hx hb hts in_X1 hown hK hM xS_0 rfl 1 (by decide) (hts _ q560) rfl (v := .ref (ad (.inl 20))) rfl dX1_round_167 ?_
      refine hr_getN (ci := 3) (C := RX3) (T := TX3) (N := 3) (r := .inl 20) hx hb hts in_X3 hown hK hM xS_20 rfl 0 (by decide) (hZ_nest hZ0 q544 rfl) rfl (v := .ref (ad (.inl 24))) rfl dX1_round_170 ?_
      refine hr_getN (ci := 1) (C := RX4) (T := TX4) (N := 6) (r := .inl 24) hx hb hts in_X4 hown hK hM (xs_st24 (C := C) (pr := pr)).o rfl 0 (by decide) (hZ_nest hZ0 q510 rfl) rfl (v := .ref (ad (.inl (24 + 1)))) rfl dX1_round_173 ?_
      refine lv_iload_n hx hb dX1_round_176 rfl (lv_at hl 1 rfl) ?_
      refine hx_iald (r := (24 + 1)) hx hb hK hM 0 (xs_st24 (C := C) (pr := pr)).a1 rfl hf dX1_round_177 (fun x7 hf => ?_)
      refine lv_aload_n hx hb dX1_round_178 rfl (lv_at hl 0 rfl) ?_
      refine hr_get (ci := 0) (C := RX1) (T := TX1) (N := 19) (r := .inl 0) hx hb hts in_X1 hown hK hM xS_0 rfl 0 (by decide) (hts _ q559) rfl (v := .ref (ad (.inl 10))) rfl dX1_round_179 ?_
      obtain ⟨y8, hq, hf⟩ := hbind hf
      refine hr_calli0 (va_runSN (As := [.int x7, .ref (ad (.inl 10))]) (rest := [.int y6]) ⟨hx, hb, hml, hown, hts⟩ (met_x_lst_worth l D C a0 s0 ad so pr t lt g_33 x7 hq) ⟨va_cnB 2 hts (lw_meth q864) rfl rfl rfl (hZ_nest hZ0 q1206 rfl) (hts _ q108) (by decide +kernel) ⟨Nat.le_of_ble_eq_true rfl, Nat.le_of_ble_eq_true rfl⟩, hts _ q863, trivial⟩ (hr_preS hZ_c hM hIx hK hZ0 hA0 hS) rfl rfl hl.1 rfl (lv_room (Nat.le_of_ble_eq_true rfl)) dX1_round_182 ⟨Nat.le_of_ble_eq_true rfl, Nat.le_of_ble_eq_true rfl⟩) hS (fun H locs hM hS => ?_)
      refine lv_isub hx hb dX1_round_185 ?_
      have eo := kr ((y6 - y8), g_33) (Option.some.inj hf).symm
      subst eo
      refine W.widen (k := 2) (n := 12) (Nat.le_of_ble_eq_true rfl) (Nat.le_of_ble_eq_true rfl) ?_
      exact vx_ret (W.iret (v := (y6 - y8)) hx hb hr (fun T ht hW => ⟨⟨(y6 - y8), ((y6 - y8), g_33), rfl, ⟨rfl, rfl⟩, by dsimp only; rw [ht]; exact hM⟩, hS.F ht⟩) hS.2.2 dX1_round_186)
    · refine lv_iload_n hx hb dX1_round_146 rfl (lv_at hl 3 rfl) ?_
      refine lv_goto (tgt := 186) hx hb dX1_round_147 (by decide) ?_
      have eo := kr (v3_33, g_33) (Option.some.inj hf).symm
      subst eo
      refine W.widen (k := 2) (n := 12) (Nat.le_of_ble_eq_true rfl) (Nat.le_of_ble_eq_true rfl) ?_
      exact vx_ret (W.iret (v := v3_33) hx hb hr (fun T ht hW => ⟨⟨v3_33, (v3_33, g_33), rfl, ⟨rfl, rfl⟩, by dsimp only; rw [ht]; exact hM⟩, hS.F ht⟩) hS.2.2 dX1_round_186)
  · refine lv_iload hx hb dX1_round_136 (lv_at hl 4 rfl) ?_
    refine lv_goto (tgt := 186) hx hb dX1_round_138 (by decide) ?_
    have eo := kr (v4_33, g_33) (Option.some.inj hf).symm
    subst eo
    refine W.widen (k := 2) (n := 12) (Nat.le_of_ble_eq_true rfl) (Nat.le_of_ble_eq_true rfl) ?_
    exact vx_ret (W.iret (v := v4_33) hx hb hr (fun T ht hW => ⟨⟨v4_33, (v4_33, g_33), rfl, ⟨rfl, rfl⟩, by dsimp only; rw [ht]; exact hM⟩, hS.F ht⟩) hS.2.2 dX1_round_186)
set_option maxHeartbeats 4000000 in
set_option maxRecDepth 100000 in
theorem w_x_round_B50 {p : Program} {l : Launch} {e : Env} {s : State} {m : MethodId} {args : Array Value} {below : List Frame} {meth : Method} {c : Code} {D : va_G} {C : Nat → Nat} {a0 : Array Value} {s0 : State} {ad : Rl → Nat} {so : Nat → Option hS} {pr : hPr} {t : hSt} {lt : Rl → Nat → Int64} (CX : hCx D C a0 s0 p s m args meth c cX1_round 7 RX1 (some .int)) (hIx : hI (hA s0) ad (Sum.elim (xSH C pr) so)) (hex : ∀ x ∈ c.exceptionTable.toList, False) (hlst : l.stackTraces = false) (g : hSt) (p0 : Int32) (p1 : Int32) (y2 : Int32) (y4 : hSt) (v3_33 : Int32) (v4_33 : Int32) (g_33 : hSt) {oM : (Int32 × hSt) ⊕ Nat} {o : (Int32 × Int32 × hSt) ⊕ ((Int32 × Int32 × hSt) ⊕ (Int32 × hSt))} (hf : x_round_B50 pr p0 p1 v3_33 v4_33 g_33 = some o) (kc : ∀ s' : Int32 × Int32 × hSt, o = .inl s' → ∀ (H : Heap) (locs : List Loc) (ls : Array Slot), hW D vwCl ad (Sum.elim (xSH C pr) so) (Sum.elim s'.2.2 t) lt H → va_S (hA s0) s.heap H locs → lv_has ls 7 [(0, .ref (ad (.inl 0))), (1, .int p0), (2, .int p1), (3, .int s'.1), (4, .int s'.2.1)] → W p l e rm_x_round s m args below meth c H locs 2 12 (vx_MQ below (va_Qi (fun (r : Int32) (v : Int32 × hSt) => oM = .inl v ∧ r = v.1) (fun (v : Int32 × hSt) (U : State) => hW D vwCl ad (Sum.elim (xSH C pr) so) (Sum.elim v.2 t) lt U.heap) (hA s0)) (vx_X (fun k : Nat => oM = .inr k) (fun (E : String) (k : Nat) (U : State) => E = hEx k ∧ hW D vwCl ad (Sum.elim (xSH C pr) so) (Sum.elim g t) lt U.heap) (hA s0)) args s 2 12 (hA s0)) (F0 m 33 ls [])) (kx : ∀ x' : Int32 × Int32 × hSt, o = .inr (.inl x') → ∀ (H : Heap) (locs : List Loc) (ls : Array Slot), hW D vwCl ad (Sum.elim (xSH C pr) so) (Sum.elim x'.2.2 t) lt H → va_S (hA s0) s.heap H locs → lv_has ls 7 [(0, .ref (ad (.inl 0))), (1, .int p0), (2, .int p1), (3, .int x'.1), (4, .int x'.2.1)] → W p l e rm_x_round s m args below meth c H locs 2 12 (vx_MQ below (va_Qi (fun (r : Int32) (v : Int32 × hSt) => oM = .inl v ∧ r = v.1) (fun (v : Int32 × hSt) (U : State) => hW D vwCl ad (Sum.elim (xSH C pr) so) (Sum.elim v.2 t) lt U.heap) (hA s0)) (vx_X (fun k : Nat => oM = .inr k) (fun (E : String) (k : Nat) (U : State) => E = hEx k ∧ hW D vwCl ad (Sum.elim (xSH C pr) so) (Sum.elim g t) lt U.heap) (hA s0)) args s 2 12 (hA s0)) (F0 m 132 ls [])) (kr : ∀ r : Int32 × hSt, o = .inr (.inr r) → Sum.inl r = oM) {H : Heap} {locs : List Loc} (hM : hW D vwCl ad (Sum.elim (xSH C pr) so) (Sum.elim g_33 t) lt H) (hS : va_S (hA s0) s.heap H locs) {ls : Array Slot} (hl : lv_has ls 7 [(0, .ref (ad (.inl 0))), (1, .int p0), (2, .int p1), (3, .int v3_33), (4, .int v4_33)]) : W p l e rm_x_round s m args below meth c H locs 2 12 (vx_MQ below (va_Qi (fun (r : Int32) (v : Int32 × hSt) => oM = .inl v ∧ r = v.1) (fun (v : Int32 × hSt) (U : State) => hW D vwCl ad (Sum.elim (xSH C pr) so) (Sum.elim v.2 t) lt U.heap) (hA s0)) (vx_X (fun k : Nat => oM = .inr k) (fun (E : String) (k : Nat) (U : State) => E = hEx k ∧ hW D vwCl ad (Sum.elim (xSH C pr) so) (Sum.elim g t) lt U.heap) (hA s0)) args s 2 12 (hA s0)) (F0 m 50 ls []) := by
  obtain ⟨hx, hb, hr, hml, hown, hts, hlocks, hK, hZ0, hA0⟩ := CX
  unfold x_round_B50 at hf
  refine lv_aload_n hx hb dX1_round_50 rfl (lv_at hl 0 rfl) ?_
  refine lv_aload_n hx hb dX1_round_51 rfl (lv_at hl 0 rfl) ?_
  refine hr_get (ci := 0) (C := RX1) (T := TX1) (N := 19) (r := .inl 0) hx hb hts in_X1 hown hK hM xS_0 rfl 2 (by decide) (hts _ q561) rfl (v := .ref (ad (.inl 30))) rfl dX1_round_52 ?_
  refine lv_iload_n hx hb dX1_round_55 rfl (lv_at hl 3 rfl) ?_
  obtain ⟨y9, hq, hf⟩ := hbind hf
  refine hr_calli0 (va_runV (As := [.ref (ad (.inl 30)), .int v3_33]) (rest := []) ⟨hx, hb, hml, hown, hts⟩ (met_x_chosen l D C a0 s0 ad so pr t lt g_33 30 v3_33 xs_st30 hq) (cwV 2 hts (lw_V q798 q800 qs10 q76 q801) rfl rfl rfl (by decide +kernel) ⟨Nat.le_of_ble_eq_true rfl, Nat.le_of_ble_eq_true rfl⟩) (hr_preV hZ_c hM hIx hK hZ0 hA0 hS (r := .inl 0) xS_0 (q := (RX1, TX1, 19)) rfl) rfl rfl hl.1 rfl (lv_room (Nat.le_of_ble_eq_true rfl)) dX1_round_56 ⟨Nat.le_of_ble_eq_true rfl, Nat.le_of_ble_eq_true rfl⟩) hS (fun H locs hM hS => ?_)
  refine lv_istore (lv' := [(5, .int y9), (0, .ref (ad (.inl 0))), (1, .int p0), (2, .int p1), (3, .int v3_33), (4, .int v4_33)]) hx hb dX1_round_59 hl (by decide) rfl (fun ls hl => ?_)
  refine lv_iload hx hb dX1_round_61 (lv_at hl 0 rfl) ?_
  refine lv_iconst (v := -1) hx hb dX1_round_63 (by decide) ?_
  refine hb_icmp_ne (tgt := 70) hx hb dX1_round_64 (by decide) hf (fun hf => ?_) (fun hf => ?_)
  · refine lv_aload_n hx hb dX1_round_70 rfl (lv_at hl 1 rfl) ?_
    refine lv_aload_n hx hb dX1_round_71 rfl (lv_at hl 1 rfl) ?_
    refine hr_get (ci := 0) (C := RX1) (T := TX1) (N := 19) (r := .inl 0) hx hb hts in_X1 hown hK hM xS_0 rfl 2 (by decide) (hts _ q561) rfl (v := .ref (ad (.inl 30))) rfl dX1_round_72 ?_
    refine lv_iload_n hx hb dX1_round_75 rfl (lv_at hl 4 rfl) ?_
    refine lv_aload_n hx hb dX1_round_76 rfl (lv_at hl 1 rfl) ?_
    refine hr_get (ci := 0) (C := RX1) (T := TX1) (N := 19) (r := .inl 0) hx hb hts in_X1 hown hK hM xS_0 rfl 2 (by decide) (hts _ q561) rfl (v := .ref (ad (.inl 30))) rfl dX1_round_77 ?_
    refine hr_getN (ci := 1) (C := RX4) (T := TX4) (N := 6) (r := .inl 30) hx hb hts in_X4 hown hK hM (xs_st30 (C := C) (pr := pr)).o rfl 3 (by decide) (hZ_nest hZ0 q522 rfl) rfl (v := .ref (ad (.inl (30 + 4)))) rfl dX1_round_80 ?_
    refine lv_iload_n hx hb dX1_round_83 rfl (lv_at hl 4 rfl) ?_
    refine hx_iald (r := (30 + 4)) hx hb hK hM 0 (xs_st30 (C := C) (pr := pr)).a4 rfl hf dX1_round_84 (fun x10 hf => ?_)
    obtain ⟨y11, hq, hf⟩ := hbind hf
    refine hr_calli0 (va_runV (As := [.ref (ad (.inl 30)), .int v3_33, .int x10]) (rest := []) ⟨hx, hb, hml, hown, hts⟩ (met_x_toWhom l D C a0 s0 ad so pr t lt g_33 30 v3_33 x10 xs_st30 hq) (cwV 3 hts (lw_V q871 q873 qs12 q76 q874) rfl rfl rfl (by decide +kernel) ⟨Nat.le_of_ble_eq_true rfl, Nat.le_of_ble_eq_true rfl⟩) (hr_preV hZ_c hM hIx hK hZ0 hA0 hS (r := .inl 0) xS_0 (q := (RX1, TX1, 19)) rfl) rfl rfl hl.1 rfl (lv_room (Nat.le_of_ble_eq_true rfl)) dX1_round_85 ⟨Nat.le_of_ble_eq_true rfl, Nat.le_of_ble_eq_true rfl⟩) hS (fun H locs hM hS => ?_)
    refine lv_istore (lv' := [(6, .int y11), (5, .int y9), (0, .ref (ad (.inl 0))), (1, .int p0), (2, .int p1), (3, .int v3_33), (4, .int v4_33)]) hx hb dX1_round_88 hl (by decide) rfl (fun ls hl => ?_)
    refine lv_aload_n hx hb dX1_round_90 rfl (lv_at hl 2 rfl) ?_
    refine lv_aload_n hx hb dX1_round_91 rfl (lv_at hl 2 rfl) ?_
    refine hr_get (ci := 0) (C := RX1) (T := TX1) (N := 19) (r := .inl 0) hx hb hts in_X1 hown hK hM xS_0 rfl 2 (by decide) (hts _ q561) rfl (v := .ref (ad (.inl 30))) rfl dX1_round_92 ?_
    refine lv_iload_n hx hb dX1_round_95 rfl (lv_at hl 5 rfl) ?_
    refine lv_iload hx hb dX1_round_96 (lv_at hl 1 rfl) ?_
    refine lv_aload_n hx hb dX1_round_98 rfl (lv_at hl 2 rfl) ?_
    refine lv_aload_n hx hb dX1_round_99 rfl (lv_at hl 2 rfl) ?_
    refine hr_get (ci := 0) (C := RX1) (T := TX1) (N := 19) (r := .inl 0) hx hb hts in_X1 hown hK hM xS_0 rfl 2 (by decide) (hts _ q561) rfl (v := .ref (ad (.inl 30))) rfl dX1_round_100 ?_
    refine lv_iload_n hx hb dX1_round_103 rfl (lv_at hl 5 rfl) ?_
    refine lv_iload hx hb dX1_round_104 (lv_at hl 1 rfl) ?_
    refine lv_aload_n hx hb dX1_round_106 rfl (lv_at hl 2 rfl) ?_
    refine hr_get (ci := 0) (C := RX1) (T := TX1) (N := 19) (r := .inl 0) hx hb hts in_X1 hown hK hM xS_0 rfl 2 (by decide) (hts _ q561) rfl (v := .ref (ad (.inl 30))) rfl dX1_round_107 ?_
    refine hr_getN (ci := 1) (C := RX4) (T := TX4) (N := 6) (r := .inl 30) hx hb hts in_X4 hown hK hM (xs_st30 (C := C) (pr := pr)).o rfl 2 (by decide) (hZ_nest hZ0 q518 rfl) rfl (v := .ref (ad (.inl (30 + 3)))) rfl dX1_round_110 ?_
    refine lv_iload_n hx hb dX1_round_113 rfl (lv_at hl 5 rfl) ?_
    refine hx_iald (r := (30 + 3)) hx hb hK hM 0 (xs_st30 (C := C) (pr := pr)).a3 rfl hf dX1_round_114 (fun x12 hf => ?_)
    obtain ⟨y13, hq, hf⟩ := hbind hf
    refine hr_calli0 (va_runV (As := [.ref (ad (.inl 30)), .int v3_33, .int y9, .int x12]) (rest := [.int y9, .int v3_33, .ref (ad (.inl 30)), .ref (ad (.inl 0))]) ⟨hx, hb, hml, hown, hts⟩ (met_x_sandFor l D C a0 s0 ad so pr t lt g_33 30 v3_33 y9 x12 xs_st30 hq) (cwV 4 hts (lw_V q842 q844 qs11 q76 q845) rfl rfl rfl (by decide +kernel) ⟨Nat.le_of_ble_eq_true rfl, Nat.le_of_ble_eq_true rfl⟩) (hr_preV hZ_c hM hIx hK hZ0 hA0 hS (r := .inl 0) xS_0 (q := (RX1, TX1, 19)) rfl) rfl rfl hl.1 rfl (lv_room (Nat.le_of_ble_eq_true rfl)) dX1_round_115 ⟨Nat.le_of_ble_eq_true rfl, Nat.le_of_ble_eq_true rfl⟩) hS (fun H locs hM hS => ?_)
    refine lv_iload hx hb dX1_round_118 (lv_at hl 0 rfl) ?_
    obtain ⟨y14, hq, hf⟩ := hbind hf
    refine hr_callv0 (va_runV (As := [.ref (ad (.inl 30)), .int v3_33, .int y9, .int y13, .int y11]) (rest := []) ⟨hx, hb, hml, hown, hts⟩ (met_x_gives l D C a0 s0 ad so pr t lt g_33 30 v3_33 y9 y13 y11 xs_st30 hq) (cwV 5 hts (lw_V q758 q760 qs8 q76 q761) rfl rfl rfl (by decide +kernel) ⟨Nat.le_of_ble_eq_true rfl, Nat.le_of_ble_eq_true rfl⟩) (hr_preV hZ_c hM hIx hK hZ0 hA0 hS (r := .inl 0) xS_0 (q := (RX1, TX1, 19)) rfl) rfl rfl hl.1 rfl (lv_room (Nat.le_of_ble_eq_true rfl)) dX1_round_120 ⟨Nat.le_of_ble_eq_true rfl, Nat.le_of_ble_eq_true rfl⟩) hS (fun H locs hM hS => ?_)
    refine lv_iload hx hb dX1_round_123 (lv_at hl 0 rfl) ?_
    refine lv_istore_n (lv' := [(3, .int y11), (6, .int y11), (5, .int y9), (0, .ref (ad (.inl 0))), (1, .int p0), (2, .int p1), (4, .int v4_33)]) hx hb dX1_round_125 rfl hl (by decide) rfl (fun ls hl => ?_)
    obtain ⟨y4_15, ey, hf⟩ := hlet_ex hf
    refine lv_iinc (v := y4_15) (lv' := [(4, .int y4_15), (3, .int y11), (6, .int y11), (5, .int y9), (0, .ref (ad (.inl 0))), (1, .int p0), (2, .int p1)]) hx hb dX1_round_126 hl (k := 6) rfl (by rw [ey]; rfl) (by decide) rfl (fun ls hl => ?_)
    refine lv_goto (tgt := 33) hx hb dX1_round_129 (by decide) ?_
    exact kc (y11, y4_15, y14) (Option.some.inj hf).symm H locs ls hM hS (lv_sub hl [4, 5, 6, 1, 0] rfl)
  · refine lv_goto (tgt := 132) hx hb dX1_round_67 (by decide) ?_
    exact w_x_round_B132 ⟨hx, hb, hr, hml, hown, hts, hlocks, hK, hZ0, hA0⟩ hIx hex hlst g p0 p1 y2 y4 v3_33 v4_33 g_33 hf kc kx kr hM hS (lv_sub hl [1, 2, 3, 4, 5] rfl)
set_option maxHeartbeats 4000000 in
set_option maxRecDepth 100000 in
theorem w_x_round_L33 {p : Program} {l : Launch} {e : Env} {s : State} {m : MethodId} {args : Array Value} {below : List Frame} {meth : Method} {c : Code} {D : va_G} {C : Nat → Nat} {a0 : Array Value} {s0 : State} {ad : Rl → Nat} {so : Nat → Option hS} {pr : hPr} {t : hSt} {lt : Rl → Nat → Int64} (CX : hCx D C a0 s0 p s m args meth c cX1_round 7 RX1 (some .int)) (hIx : hI (hA s0) ad (Sum.elim (xSH C pr) so)) (hex : ∀ x ∈ c.exceptionTable.toList, False) (hlst : l.stackTraces = false) (g : hSt) (p0 : Int32) (p1 : Int32) (y2 : Int32) (y4 : hSt) {oM : (Int32 × hSt) ⊕ Nat} (x : (Int32 × Int32 × hSt) ⊕ (Int32 × hSt)) (n : Nat) (q0 : Int32 × Int32 × hSt) (h0 : hiter (fun q : Int32 × Int32 × hSt => x_round_L33 pr p0 p1 q.1 q.2.1 q.2.2) n q0 = some x) (kx0 : ∀ x' : Int32 × Int32 × hSt, x = .inl x' → ∀ (H : Heap) (locs : List Loc) (ls : Array Slot), hW D vwCl ad (Sum.elim (xSH C pr) so) (Sum.elim x'.2.2 t) lt H → va_S (hA s0) s.heap H locs → lv_has ls 7 [(0, .ref (ad (.inl 0))), (1, .int p0), (2, .int p1), (3, .int x'.1), (4, .int x'.2.1)] → W p l e rm_x_round s m args below meth c H locs 2 12 (vx_MQ below (va_Qi (fun (r : Int32) (v : Int32 × hSt) => oM = .inl v ∧ r = v.1) (fun (v : Int32 × hSt) (U : State) => hW D vwCl ad (Sum.elim (xSH C pr) so) (Sum.elim v.2 t) lt U.heap) (hA s0)) (vx_X (fun k : Nat => oM = .inr k) (fun (E : String) (k : Nat) (U : State) => E = hEx k ∧ hW D vwCl ad (Sum.elim (xSH C pr) so) (Sum.elim g t) lt U.heap) (hA s0)) args s 2 12 (hA s0)) (F0 m 132 ls [])) (kr0 : ∀ r : Int32 × hSt, x = .inr r → Sum.inl r = oM) : ∀ (H : Heap) (locs : List Loc) (ls : Array Slot), hW D vwCl ad (Sum.elim (xSH C pr) so) (Sum.elim q0.2.2 t) lt H → va_S (hA s0) s.heap H locs → lv_has ls 7 [(0, .ref (ad (.inl 0))), (1, .int p0), (2, .int p1), (3, .int q0.1), (4, .int q0.2.1)] → W p l e rm_x_round s m args below meth c H locs 2 12 (vx_MQ below (va_Qi (fun (r : Int32) (v : Int32 × hSt) => oM = .inl v ∧ r = v.1) (fun (v : Int32 × hSt) (U : State) => hW D vwCl ad (Sum.elim (xSH C pr) so) (Sum.elim v.2 t) lt U.heap) (hA s0)) (vx_X (fun k : Nat => oM = .inr k) (fun (E : String) (k : Nat) (U : State) => E = hEx k ∧ hW D vwCl ad (Sum.elim (xSH C pr) so) (Sum.elim g t) lt U.heap) (hA s0)) args s 2 12 (hA s0)) (F0 m 33 ls []) := by
  obtain ⟨hx, hb, hr, hml, hown, hts, hlocks, hK, hZ0, hA0⟩ := CX
  refine hiter_W (Wh := fun q => ∀ (H : Heap) (locs : List Loc) (ls : Array Slot), hW D vwCl ad (Sum.elim (xSH C pr) so) (Sum.elim q.2.2 t) lt H → va_S (hA s0) s.heap H locs → lv_has ls 7 [(0, .ref (ad (.inl 0))), (1, .int p0), (2, .int p1), (3, .int q.1), (4, .int q.2.1)] → W p l e rm_x_round s m args below meth c H locs 2 12 (vx_MQ below (va_Qi (fun (r : Int32) (v : Int32 × hSt) => oM = .inl v ∧ r = v.1) (fun (v : Int32 × hSt) (U : State) => hW D vwCl ad (Sum.elim (xSH C pr) so) (Sum.elim v.2 t) lt U.heap) (hA s0)) (vx_X (fun k : Nat => oM = .inr k) (fun (E : String) (k : Nat) (U : State) => E = hEx k ∧ hW D vwCl ad (Sum.elim (xSH C pr) so) (Sum.elim g t) lt U.heap) (hA s0)) args s 2 12 (hA s0)) (F0 m 33 ls [])) ?_ n q0 h0
  intro q o hf kc kx1 H locs ls hM hS hl
  obtain ⟨v3_33, v4_33, g_33⟩ := q
  replace hf : x_round_L33 pr p0 p1 v3_33 v4_33 g_33 = some o := hf
  have kx : ∀ x' : Int32 × Int32 × hSt, o = .inr (.inl x') → ∀ (H : Heap) (locs : List Loc) (ls : Array Slot), hW D vwCl ad (Sum.elim (xSH C pr) so) (Sum.elim x'.2.2 t) lt H → va_S (hA s0) s.heap H locs → lv_has ls 7 [(0, .ref (ad (.inl 0))), (1, .int p0), (2, .int p1), (3, .int x'.1), (4, .int x'.2.1)] → W p l e rm_x_round s m args below meth c H locs 2 12 (vx_MQ below (va_Qi (fun (r : Int32) (v : Int32 × hSt) => oM = .inl v ∧ r = v.1) (fun (v : Int32 × hSt) (U : State) => hW D vwCl ad (Sum.elim (xSH C pr) so) (Sum.elim v.2 t) lt U.heap) (hA s0)) (vx_X (fun k : Nat => oM = .inr k) (fun (E : String) (k : Nat) (U : State) => E = hEx k ∧ hW D vwCl ad (Sum.elim (xSH C pr) so) (Sum.elim g t) lt U.heap) (hA s0)) args s 2 12 (hA s0)) (F0 m 132 ls []) := fun x' ex => kx0 x' (kx1 _ ex).symm
  have kr : ∀ r : Int32 × hSt, o = .inr (.inr r) → Sum.inl r = oM := fun r ex => kr0 r (kx1 _ ex).symm
  unfold x_round_L33 at hf
  refine lv_iload hx hb dX1_round_33 (lv_at hl 4 rfl) ?_
  refine lv_bipush (v := 20) hx hb dX1_round_35 (by decide) ?_
  refine hb_icmp_ge (tgt := 132) hx hb dX1_round_37 (by decide) hf (fun hf => ?_) (fun hf => ?_)
  · exact w_x_round_B132 ⟨hx, hb, hr, hml, hown, hts, hlocks, hK, hZ0, hA0⟩ hIx hex hlst g p0 p1 y2 y4 v3_33 v4_33 g_33 hf kc kx kr hM hS (lv_sub hl [0, 1, 2, 3, 4] rfl)
  · refine lv_iload hx hb dX1_round_40 (lv_at hl 4 rfl) ?_
    refine hb_if_eq (tgt := 50) hx hb dX1_round_42 (by decide) hf (fun hf => ?_) (fun hf => ?_)
    · exact w_x_round_B50 ⟨hx, hb, hr, hml, hown, hts, hlocks, hK, hZ0, hA0⟩ hIx hex hlst g p0 p1 y2 y4 v3_33 v4_33 g_33 hf kc kx kr hM hS (lv_sub hl [0, 1, 2, 3, 4] rfl)
    · refine lv_iload_n hx hb dX1_round_45 rfl (lv_at hl 3 rfl) ?_
      refine lv_iload_n hx hb dX1_round_46 rfl (lv_at hl 1 rfl) ?_
      refine hb_icmp_eq (tgt := 132) hx hb dX1_round_47 (by decide) hf (fun hf => ?_) (fun hf => ?_)
      · exact w_x_round_B132 ⟨hx, hb, hr, hml, hown, hts, hlocks, hK, hZ0, hA0⟩ hIx hex hlst g p0 p1 y2 y4 v3_33 v4_33 g_33 hf kc kx kr hM hS (lv_sub hl [0, 1, 2, 3, 4] rfl)
      · exact w_x_round_B50 ⟨hx, hb, hr, hml, hown, hts, hlocks, hK, hZ0, hA0⟩ hIx hex hlst g p0 p1 y2 y4 v3_33 v4_33 g_33 hf kc kx kr hM hS (lv_sub hl [0, 1, 2, 3, 4] rfl)
set_option maxHeartbeats 4000000 in
set_option maxRecDepth 100000 in
theorem w_x_round {p : Program} {l : Launch} {e : Env} {s : State} {m : MethodId} {args : Array Value} {below : List Frame} {meth : Method} {c : Code} {D : va_G} {C : Nat → Nat} {a0 : Array Value} {s0 : State} {ad : Rl → Nat} {so : Nat → Option hS} {pr : hPr} {t : hSt} {lt : Rl → Nat → Int64} (CX : hCx D C a0 s0 p s m args meth c cX1_round 7 RX1 (some .int)) (hIx : hI (hA s0) ad (Sum.elim (xSH C pr) so)) (hex : ∀ x ∈ c.exceptionTable.toList, False) (hlst : l.stackTraces = false) (g : hSt) (p0 : Int32) (p1 : Int32) {o : (Int32 × hSt) ⊕ Nat} (hf : x_round g pr p0 p1 = some o) {H : Heap} {locs : List Loc} (hM : hW D vwCl ad (Sum.elim (xSH C pr) so) (Sum.elim g t) lt H) (hS : va_S (hA s0) s.heap H locs) {ls : Array Slot} (hl : lv_has ls 7 [(0, .ref (ad (.inl 0))), (1, .int p0), (2, .int p1)]) : W p l e rm_x_round s m args below meth c H locs 0 0 (vx_MQ below (va_Qi (fun (r : Int32) (v : Int32 × hSt) => o = .inl v ∧ r = v.1) (fun (v : Int32 × hSt) (U : State) => hW D vwCl ad (Sum.elim (xSH C pr) so) (Sum.elim v.2 t) lt U.heap) (hA s0)) (vx_X (fun k : Nat => o = .inr k) (fun (E : String) (k : Nat) (U : State) => E = hEx k ∧ hW D vwCl ad (Sum.elim (xSH C pr) so) (Sum.elim g t) lt U.heap) (hA s0)) args s 2 12 (hA s0)) (F0 m 0 ls []) := by
  obtain ⟨hx, hb, hr, hml, hown, hts, hlocks, hK, hZ0, hA0⟩ := CX
  unfold x_round at hf
  refine lv_aload_n hx hb dX1_round_0 rfl (lv_at hl 0 rfl) ?_
  refine lv_iload_n hx hb dX1_round_1 rfl (lv_at hl 1 rfl) ?_
  obtain ⟨z1, hq, hf⟩ := hbind hf
  refine hr_xcallv hf (vx_runV (As := [.int p0]) (rest := []) ⟨hx, hb, hml, hown, hts⟩ (met_x_person_2 l D C a0 s0 ad so pr t lt g p0 hlst hq) (cwV 1 hts (lw_V q1184 q1186 qs24 q76 q1187) rfl rfl rfl (by decide +kernel) ⟨Nat.le_of_ble_eq_true rfl, Nat.le_of_ble_eq_true rfl⟩) (hr_preV hZ_c hM hIx hK hZ0 hA0 hS (r := .inl 0) xS_0 (q := (RX1, TX1, 19)) rfl) rfl rfl hl.1 rfl (lv_room (Nat.le_of_ble_eq_true rfl)) dX1_round_2 ⟨Nat.le_of_ble_eq_true rfl, Nat.le_of_ble_eq_true rfl⟩) hS hex hlocks hIx (Nat.le_of_ble_eq_true rfl) (Nat.le_of_ble_eq_true rfl) (fun H locs hf hM hS => ?_)
  refine lv_iload_n hx hb dX1_round_5 rfl (lv_at hl 2 rfl) ?_
  refine lv_iconst (v := 0) hx hb dX1_round_6 (by decide) ?_
  refine lv_iconst (v := 2) hx hb dX1_round_7 (by decide) ?_
  obtain ⟨y2, hq, hf⟩ := hbind hf
  refine hr_calli0 (va_runS (As := [.int p1, .int (0 : Int32), .int (2 : Int32)]) (rest := []) ⟨hx, hb, hml, hown, hts⟩ (met_x_within l D C a0 s0 ad so pr (Sum.elim g t) lt p1 (0 : Int32) (2 : Int32) hq) (va_cwS 3 hts (lw_S q1156 q1157 q76 q1158) rfl rfl rfl (by decide +kernel) ⟨Nat.le_of_ble_eq_true rfl, Nat.le_of_ble_eq_true rfl⟩) (hr_preS hZ_c hM hIx hK hZ0 hA0 hS) rfl rfl hl.1 rfl (lv_room (Nat.le_of_ble_eq_true rfl)) dX1_round_8 ⟨Nat.le_of_ble_eq_true rfl, Nat.le_of_ble_eq_true rfl⟩) hS (fun H locs hM hS => ?_)
  obtain ⟨z3, hq, hf⟩ := hbind hf
  refine hr_xcallv hf (vx_runS (As := [.int y2]) (rest := []) ⟨hx, hb, hml, hown, hts⟩ (met_x_there l D C a0 s0 ad so pr (Sum.elim g t) lt y2 hlst hq) (va_cwS 1 hts (lw_S q1159 q1160 q76 q1161) rfl rfl rfl (by decide +kernel) ⟨Nat.le_of_ble_eq_true rfl, Nat.le_of_ble_eq_true rfl⟩) (hr_preS hZ_c hM hIx hK hZ0 hA0 hS) rfl rfl hl.1 rfl (lv_room (Nat.le_of_ble_eq_true rfl)) dX1_round_11 ⟨Nat.le_of_ble_eq_true rfl, Nat.le_of_ble_eq_true rfl⟩) hS hex hlocks hIx (Nat.le_of_ble_eq_true rfl) (Nat.le_of_ble_eq_true rfl) (fun H locs hf hM hS => ?_)
  refine lv_aload_n hx hb dX1_round_14 rfl (lv_at hl 0 rfl) ?_
  refine hr_get (ci := 0) (C := RX1) (T := TX1) (N := 19) (r := .inl 0) hx hb hts in_X1 hown hK hM xS_0 rfl 2 (by decide) (hts _ q561) rfl (v := .ref (ad (.inl 30))) rfl dX1_round_15 ?_
  refine lv_aload_n hx hb dX1_round_18 rfl (lv_at hl 0 rfl) ?_
  refine hr_get (ci := 0) (C := RX1) (T := TX1) (N := 19) (r := .inl 0) hx hb hts in_X1 hown hK hM xS_0 rfl 1 (by decide) (hts _ q560) rfl (v := .ref (ad (.inl 20))) rfl dX1_round_19 ?_
  refine hr_getN (ci := 3) (C := RX3) (T := TX3) (N := 3) (r := .inl 20) hx hb hts in_X3 hown hK hM xS_20 rfl 0 (by decide) (hZ_nest hZ0 q544 rfl) rfl (v := .ref (ad (.inl 24))) rfl dX1_round_22 ?_
  obtain ⟨y4, hq, hf⟩ := hbind hf
  refine hr_callv0 (va_runV (As := [.ref (ad (.inl 24))]) (rest := []) ⟨hx, hb, hml, hown, hts⟩ (met_x_st_like l D C a0 s0 ad so pr t lt g 30 24 xs_st30 xs_st24 hq) (cwV 1 hts (lw_V q793 q794 q795 q98 q796) rfl rfl rfl (by decide +kernel) ⟨Nat.le_of_ble_eq_true rfl, Nat.le_of_ble_eq_true rfl⟩) (hr_preV hZ_c hM hIx hK hZ0 hA0 hS (r := .inl 30) (xs_st30 (C := C) (pr := pr)).o (q := (RX4, TX4, 6)) rfl) rfl rfl hl.1 rfl (lv_room (Nat.le_of_ble_eq_true rfl)) dX1_round_25 ⟨Nat.le_of_ble_eq_true rfl, Nat.le_of_ble_eq_true rfl⟩) hS (fun H locs hM hS => ?_)
  refine lv_iload_n hx hb dX1_round_28 rfl (lv_at hl 1 rfl) ?_
  refine lv_istore_n (lv' := [(3, .int p0), (0, .ref (ad (.inl 0))), (1, .int p0), (2, .int p1)]) hx hb dX1_round_29 rfl hl (by decide) rfl (fun ls hl => ?_)
  refine lv_iconst (v := 0) hx hb dX1_round_30 (by decide) ?_
  refine lv_istore (lv' := [(4, .int (0 : Int32)), (3, .int p0), (0, .ref (ad (.inl 0))), (1, .int p0), (2, .int p1)]) hx hb dX1_round_31 hl (by decide) rfl (fun ls hl => ?_)
  obtain ⟨x16, hq, hf⟩ := hbind hf
  refine w_x_round_L33 ⟨hx, hb, hr, hml, hown, hts, hlocks, hK, hZ0, hA0⟩ hIx hex hlst g p0 p1 y2 y4 x16 hFU (p0, (0 : Int32), y4) hq (fun e17 ex1 H locs ls hM hS hl => ?_) (fun r er => ?_) H locs ls hM hS (lv_sub hl [2, 3, 4, 1, 0] rfl)
  · subst ex1
    replace hf := hcase_l hf
    refine lv_iload_n hx hb dX1_round_132 rfl (lv_at hl 2 rfl) ?_
    refine hb_if_ne (tgt := 141) hx hb dX1_round_133 (by decide) hf (fun hf => ?_) (fun hf => ?_)
    · refine lv_iload_n hx hb dX1_round_141 rfl (lv_at hl 2 rfl) ?_
      refine lv_iconst (v := 1) hx hb dX1_round_142 (by decide) ?_
      refine hb_icmp_ne (tgt := 150) hx hb dX1_round_143 (by decide) hf (fun hf => ?_) (fun hf => ?_)
      · refine lv_aload_n hx hb dX1_round_150 rfl (lv_at hl 0 rfl) ?_
        refine hr_get (ci := 0) (C := RX1) (T := TX1) (N := 19) (r := .inl 0) hx hb hts in_X1 hown hK hM xS_0 rfl 2 (by decide) (hts _ q561) rfl (v := .ref (ad (.inl 30))) rfl dX1_round_151 ?_
        refine hr_getN (ci := 1) (C := RX4) (T := TX4) (N := 6) (r := .inl 30) hx hb hts in_X4 hown hK hM (xs_st30 (C := C) (pr := pr)).o rfl 0 (by decide) (hZ_nest hZ0 q510 rfl) rfl (v := .ref (ad (.inl (30 + 1)))) rfl dX1_round_154 ?_
        refine lv_iload_n hx hb dX1_round_157 rfl (lv_at hl 1 rfl) ?_
        refine hx_iald (r := (30 + 1)) hx hb hK hM 0 (xs_st30 (C := C) (pr := pr)).a1 rfl hf dX1_round_158 (fun x18 hf => ?_)
        refine lv_aload_n hx hb dX1_round_159 rfl (lv_at hl 0 rfl) ?_
        refine hr_get (ci := 0) (C := RX1) (T := TX1) (N := 19) (r := .inl 0) hx hb hts in_X1 hown hK hM xS_0 rfl 0 (by decide) (hts _ q559) rfl (v := .ref (ad (.inl 10))) rfl dX1_round_160 ?_
        obtain ⟨y19, hq, hf⟩ := hbind hf
        refine hr_calli0 (va_runSN (As := [.int x18, .ref (ad (.inl 10))]) (rest := []) ⟨hx, hb, hml, hown, hts⟩ (met_x_lst_worth l D C a0 s0 ad so pr t lt e17.2.2 x18 hq) ⟨va_cnB 2 hts (lw_meth q864) rfl rfl rfl (hZ_nest hZ0 q1206 rfl) (hts _ q108) (by decide +kernel) ⟨Nat.le_of_ble_eq_true rfl, Nat.le_of_ble_eq_true rfl⟩, hts _ q863, trivial⟩ (hr_preS hZ_c hM hIx hK hZ0 hA0 hS) rfl rfl hl.1 rfl (lv_room (Nat.le_of_ble_eq_true rfl)) dX1_round_163 ⟨Nat.le_of_ble_eq_true rfl, Nat.le_of_ble_eq_true rfl⟩) hS (fun H locs hM hS => ?_)
        refine lv_aload_n hx hb dX1_round_166 rfl (lv_at hl 0 rfl) ?_
        refine hr_get (ci := 0) (C := RX1) (T := TX1) (N := 19) (r := .inl 0) hx hb hts in_X1 hown hK hM xS_0 rfl 1 (by decide) (hts _ q560) rfl (v := .ref (ad (.inl 20))) rfl dX1_round_167 ?_
        refine hr_getN (ci := 3) (C := RX3) (T := TX3) (N := 3) (r := .inl 20) hx hb hts in_X3 hown hK hM xS_20 rfl 0 (by decide) (hZ_nest hZ0 q544 rfl) rfl (v := .ref (ad (.inl 24))) rfl dX1_round_170 ?_
        refine hr_getN (ci := 1) (C := RX4) (T := TX4) (N := 6) (r := .inl 24) hx hb hts in_X4 hown hK hM (xs_st24 (C := C) (pr := pr)).o rfl 0 (by decide) (hZ_nest hZ0 q510 rfl) rfl (v := .ref (ad (.inl (24 + 1)))) rfl dX1_round_173 ?_
        refine lv_iload_n hx hb dX1_round_176 rfl (lv_at hl 1 rfl) ?_
        refine hx_iald (r := (24 + 1)) hx hb hK hM 0 (xs_st24 (C := C) (pr := pr)).a1 rfl hf dX1_round_177 (fun x20 hf => ?_)
        refine lv_aload_n hx hb dX1_round_178 rfl (lv_at hl 0 rfl) ?_
        refine hr_get (ci := 0) (C := RX1) (T := TX1) (N := 19) (r := .inl 0) hx hb hts in_X1 hown hK hM xS_0 rfl 0 (by decide) (hts _ q559) rfl (v := .ref (ad (.inl 10))) rfl dX1_round_179 ?_
        obtain ⟨y21, hq, hf⟩ := hbind hf
        refine hr_calli0 (va_runSN (As := [.int x20, .ref (ad (.inl 10))]) (rest := [.int y19]) ⟨hx, hb, hml, hown, hts⟩ (met_x_lst_worth l D C a0 s0 ad so pr t lt e17.2.2 x20 hq) ⟨va_cnB 2 hts (lw_meth q864) rfl rfl rfl (hZ_nest hZ0 q1206 rfl) (hts _ q108) (by decide +kernel) ⟨Nat.le_of_ble_eq_true rfl, Nat.le_of_ble_eq_true rfl⟩, hts _ q863, trivial⟩ (hr_preS hZ_c hM hIx hK hZ0 hA0 hS) rfl rfl hl.1 rfl (lv_room (Nat.le_of_ble_eq_true rfl)) dX1_round_182 ⟨Nat.le_of_ble_eq_true rfl, Nat.le_of_ble_eq_true rfl⟩) hS (fun H locs hM hS => ?_)
        refine lv_isub hx hb dX1_round_185 ?_
        have eo := Option.some.inj hf
        subst eo
        refine W.widen (k := 2) (n := 12) (Nat.le_of_ble_eq_true rfl) (Nat.le_of_ble_eq_true rfl) ?_
        exact vx_ret (W.iret (v := (y19 - y21)) hx hb hr (fun T ht hW => ⟨⟨(y19 - y21), ((y19 - y21), e17.2.2), rfl, ⟨rfl, rfl⟩, by dsimp only; rw [ht]; exact hM⟩, hS.F ht⟩) hS.2.2 dX1_round_186)
      · refine lv_iload_n hx hb dX1_round_146 rfl (lv_at hl 3 rfl) ?_
        refine lv_goto (tgt := 186) hx hb dX1_round_147 (by decide) ?_
        have eo := Option.some.inj hf
        subst eo
        refine W.widen (k := 2) (n := 12) (Nat.le_of_ble_eq_true rfl) (Nat.le_of_ble_eq_true rfl) ?_
        exact vx_ret (W.iret (v := e17.1) hx hb hr (fun T ht hW => ⟨⟨e17.1, (e17.1, e17.2.2), rfl, ⟨rfl, rfl⟩, by dsimp only; rw [ht]; exact hM⟩, hS.F ht⟩) hS.2.2 dX1_round_186)
    · refine lv_iload hx hb dX1_round_136 (lv_at hl 4 rfl) ?_
      refine lv_goto (tgt := 186) hx hb dX1_round_138 (by decide) ?_
      have eo := Option.some.inj hf
      subst eo
      refine W.widen (k := 2) (n := 12) (Nat.le_of_ble_eq_true rfl) (Nat.le_of_ble_eq_true rfl) ?_
      exact vx_ret (W.iret (v := e17.2.1) hx hb hr (fun T ht hW => ⟨⟨e17.2.1, (e17.2.1, e17.2.2), rfl, ⟨rfl, rfl⟩, by dsimp only; rw [ht]; exact hM⟩, hS.F ht⟩) hS.2.2 dX1_round_186)
  · subst er
    first | exact Option.some.inj (hcase_r hf) | exact Option.some.inj hf
set_option maxHeartbeats 4000000 in
set_option maxRecDepth 100000 in
theorem met_x_round (l : Launch) (D : va_G) (C : Nat → Nat) (a0 : Array Value) (s0 : State) (ad : Rl → Nat) (so : Nat → Option hS) (pr : hPr) (t : hSt) (lt : Rl → Nat → Int64) (g : hSt) (p0 : Int32) (p1 : Int32) (hlst : l.stackTraces = false) {o : (Int32 × hSt) ⊕ Nat} (hf : x_round g pr p0 p1 = some o) : vx_Met l yX1_round (ws_ yX1_round cX1_round 7 (some .int)) rm_x_round (va_Pc [.ref (ad (.inl 0)), .int p0, .int p1] (hB D vwCl (hT C) (hA s0) (hZ a0 s0) ad (Sum.elim (xSH C pr) so) (Sum.elim g t) lt)) (va_Qi (fun (r : Int32) (v : Int32 × hSt) => o = .inl v ∧ r = v.1) (fun (v : Int32 × hSt) (U : State) => hW D vwCl ad (Sum.elim (xSH C pr) so) (Sum.elim v.2 t) lt U.heap) (hA s0)) (vx_X (fun k : Nat => o = .inr k) (fun (E : String) (k : Nat) (U : State) => E = hEx k ∧ hW D vwCl ad (Sum.elim (xSH C pr) so) (Sum.elim g t) lt U.heap) (hA s0)) 2 12 (hA s0) := by
  refine vx_ofW (cc := cX1_round) (maxL := 7) (ret := (some .int)) (by decide) rfl ?_
  intro p e s m args below meth c s₁ B hml hex hv
  obtain ⟨rfl, hM, hIx, hK, hZ0, hA0⟩ := hv
  have hl := lv_entry ([.ref (ad (.inl 0)), .int p0, .int p1]) (n := 7) (Nat.le_of_ble_eq_true rfl)
  rw [lg_entry_eq]
  generalize (lg_sl ([.ref (ad (.inl 0)), .int p0, .int p1]) ++ List.replicate (7 - (lg_sl ([.ref (ad (.inl 0)), .int p0, .int p1])).length) Slot.unset).toArray = ls at hl ⊢
  have hl : lv_has ls 7 [(0, .ref (ad (.inl 0))), (1, .int p0), (2, .int p1)] := hl
  exact w_x_round ⟨B.exec, B.bytes, B.returns, hml, findClass_of_methodNamed B.named, fun w h => atoms_spec (ws := ws_ yX1_round cX1_round 7 (some .int)) B.pre w (List.mem_cons_of_mem _ h), B.notSynchronized, hK, hZ0, hA0⟩ hIx hex hlst g p0 p1 hf hM va_S.rf hl

def rm_x_answerR : Nat → Room
  | 0 => { frames := 1, cells := 0, slots := 0, locals := 32 }
  | d + 1 => rm_x_answer (rm_x_answerR d)
theorem met_x_answerR_d (l : Launch) (D : va_G) (C : Nat → Nat) (a0 : Array Value) (s0 : State) (ad : Rl → Nat) (so : Nat → Option hS) (t : hSt) (lt : Rl → Nat → Int64) : ∀ (d : Nat) (pr : hPr) (g : hSt) (p0 : Int32) (p1 : Int32) (o : Int32 × hSt), x_answerR d g pr p0 p1 = some o → Met l yX1_answer (ws_ yX1_answer cX1_answer 8 (some .boolean)) (rm_x_answerR d) (va_Pc [.ref (ad (.inl 0)), .int p0, .int p1] (hB D vwCl (hT C) (hA s0) (hZ a0 s0) ad (Sum.elim (xSH C pr) so) (Sum.elim g t) lt)) (va_Qi (fun (r : Int32) (_ : Unit) => r = o.1) (fun (_ : Unit) (U : State) => hW D vwCl ad (Sum.elim (xSH C pr) so) (Sum.elim o.2 t) lt U.heap) (hA s0)) 0 0 (hA s0) := by
  intro d
  induction d with
  | zero => intro pr g p0 p1 o h; cases h
  | succ d ih => intro pr g p0 p1 o h; exact met_x_answer l D C a0 s0 ad so pr t lt (x_answerR d) g p0 p1 (rm_x_answerR d) (by cases d <;> exact ⟨rfl, rfl⟩) (fun g pr p0 p1 o h => ih pr g p0 p1 o h) h
theorem met_x_answerR8 (l : Launch) (D : va_G) (C : Nat → Nat) (a0 : Array Value) (s0 : State) (ad : Rl → Nat) (so : Nat → Option hS) (pr : hPr) (t : hSt) (lt : Rl → Nat → Int64) (g : hSt) (p0 : Int32) (p1 : Int32) {o : Int32 × hSt} (h : x_answerR 8 g pr p0 p1 = some o) : Met l yX1_answer (ws_ yX1_answer cX1_answer 8 (some .boolean)) (rm_x_answerR 8) (va_Pc [.ref (ad (.inl 0)), .int p0, .int p1] (hB D vwCl (hT C) (hA s0) (hZ a0 s0) ad (Sum.elim (xSH C pr) so) (Sum.elim g t) lt)) (va_Qi (fun (r : Int32) (_ : Unit) => r = o.1) (fun (_ : Unit) (U : State) => hW D vwCl ad (Sum.elim (xSH C pr) so) (Sum.elim o.2 t) lt U.heap) (hA s0)) 0 0 (hA s0) := met_x_answerR_d l D C a0 s0 ad so t lt 8 pr g p0 p1 o h
def rm_x_week : Room := { frames := 99, cells := 1, slots := 6, locals := 2180 }
set_option maxHeartbeats 4000000 in
set_option maxRecDepth 100000 in
theorem w_x_week_L13 {p : Program} {l : Launch} {e : Env} {s : State} {m : MethodId} {args : Array Value} {below : List Frame} {meth : Method} {c : Code} {D : va_G} {C : Nat → Nat} {a0 : Array Value} {s0 : State} {ad : Rl → Nat} {so : Nat → Option hS} {pr : hPr} {t : hSt} {lt : Rl → Nat → Int64} (CX : hCx D C a0 s0 p s m args meth c cX1_week 4 RX1 (some .int)) (hIx : hI (hA s0) ad (Sum.elim (xSH C pr) so)) (hex : ∀ x ∈ c.exceptionTable.toList, False) (hlst : l.stackTraces = false) (g : hSt) (p0 : Int32) (y1 : Int32) {oM : (Int32 × hSt) ⊕ Nat} (x : Int32) (n : Nat) (q0 : Int32 × Int32) (h0 : hiter (fun q : Int32 × Int32 => x_week_L13 g q.1 q.2) n q0 = some x) (kx0 : ∀ (H : Heap) (locs : List Loc) (ls : Array Slot), hW D vwCl ad (Sum.elim (xSH C pr) so) (Sum.elim g t) lt H → va_S (hA s0) s.heap H locs → lv_has ls 4 [(0, .ref (ad (.inl 0))), (1, .int p0), (2, .int x)] → W p l e rm_x_week s m args below meth c H locs 1 6 (vx_MQ below (va_Qi (fun (r : Int32) (v : Int32 × hSt) => oM = .inl v ∧ r = v.1) (fun (v : Int32 × hSt) (U : State) => hW D vwCl ad (Sum.elim (xSH C pr) so) (Sum.elim v.2 t) lt U.heap) (hA s0)) (vx_X (fun k : Nat => oM = .inr k) (fun (E : String) (k : Nat) (U : State) => E = hEx k ∧ hW D vwCl ad (Sum.elim (xSH C pr) so) (Sum.elim g t) lt U.heap) (hA s0)) args s 1 6 (hA s0)) (F0 m 54 ls [])) : ∀ (H : Heap) (locs : List Loc) (ls : Array Slot), hW D vwCl ad (Sum.elim (xSH C pr) so) (Sum.elim g t) lt H → va_S (hA s0) s.heap H locs → lv_has ls 4 [(0, .ref (ad (.inl 0))), (1, .int p0), (2, .int q0.1), (3, .int q0.2)] → W p l e rm_x_week s m args below meth c H locs 1 6 (vx_MQ below (va_Qi (fun (r : Int32) (v : Int32 × hSt) => oM = .inl v ∧ r = v.1) (fun (v : Int32 × hSt) (U : State) => hW D vwCl ad (Sum.elim (xSH C pr) so) (Sum.elim v.2 t) lt U.heap) (hA s0)) (vx_X (fun k : Nat => oM = .inr k) (fun (E : String) (k : Nat) (U : State) => E = hEx k ∧ hW D vwCl ad (Sum.elim (xSH C pr) so) (Sum.elim g t) lt U.heap) (hA s0)) args s 1 6 (hA s0)) (F0 m 13 ls []) := by
  obtain ⟨hx, hb, hr, hml, hown, hts, hlocks, hK, hZ0, hA0⟩ := CX
  refine hiter_W (Wh := fun q => ∀ (H : Heap) (locs : List Loc) (ls : Array Slot), hW D vwCl ad (Sum.elim (xSH C pr) so) (Sum.elim g t) lt H → va_S (hA s0) s.heap H locs → lv_has ls 4 [(0, .ref (ad (.inl 0))), (1, .int p0), (2, .int q.1), (3, .int q.2)] → W p l e rm_x_week s m args below meth c H locs 1 6 (vx_MQ below (va_Qi (fun (r : Int32) (v : Int32 × hSt) => oM = .inl v ∧ r = v.1) (fun (v : Int32 × hSt) (U : State) => hW D vwCl ad (Sum.elim (xSH C pr) so) (Sum.elim v.2 t) lt U.heap) (hA s0)) (vx_X (fun k : Nat => oM = .inr k) (fun (E : String) (k : Nat) (U : State) => E = hEx k ∧ hW D vwCl ad (Sum.elim (xSH C pr) so) (Sum.elim g t) lt U.heap) (hA s0)) args s 1 6 (hA s0)) (F0 m 13 ls [])) ?_ n q0 h0
  intro q o hf kc kx1 H locs ls hM hS hl
  obtain ⟨v2_13, v3_13⟩ := q
  replace hf : x_week_L13 g v2_13 v3_13 = some o := hf
  have kx : ∀ x' : Int32, o = .inr x' → ∀ (H : Heap) (locs : List Loc) (ls : Array Slot), hW D vwCl ad (Sum.elim (xSH C pr) so) (Sum.elim g t) lt H → va_S (hA s0) s.heap H locs → lv_has ls 4 [(0, .ref (ad (.inl 0))), (1, .int p0), (2, .int x')] → W p l e rm_x_week s m args below meth c H locs 1 6 (vx_MQ below (va_Qi (fun (r : Int32) (v : Int32 × hSt) => oM = .inl v ∧ r = v.1) (fun (v : Int32 × hSt) (U : State) => hW D vwCl ad (Sum.elim (xSH C pr) so) (Sum.elim v.2 t) lt U.heap) (hA s0)) (vx_X (fun k : Nat => oM = .inr k) (fun (E : String) (k : Nat) (U : State) => E = hEx k ∧ hW D vwCl ad (Sum.elim (xSH C pr) so) (Sum.elim g t) lt U.heap) (hA s0)) args s 1 6 (hA s0)) (F0 m 54 ls []) := fun x' ex => by rw [kx1 _ ex]; exact kx0
  unfold x_week_L13 at hf
  refine lv_iload_n hx hb dX1_week_13 rfl (lv_at hl 3 rfl) ?_
  refine lv_aload_n hx hb dX1_week_14 rfl (lv_at hl 0 rfl) ?_
  refine hr_get (ci := 0) (C := RX1) (T := TX1) (N := 19) (r := .inl 0) hx hb hts in_X1 hown hK hM xS_0 rfl 0 (by decide) (hts _ q559) rfl (v := .ref (ad (.inl 10))) rfl dX1_week_15 ?_
  refine hr_getN (ci := 2) (C := RX2) (T := TX2) (N := 6) (r := .inl 10) hx hb hts in_X2 hown hK hM xS_10 rfl 0 (by decide) (hZ_nest hZ0 q468 rfl) rfl (v := .ref (ad (.inl 11))) rfl dX1_week_18 ?_
  obtain ⟨y3, hq, hf⟩ := hbind hf
  refine hr_calli0 (va_runV (As := []) (rest := [.int v3_13]) ⟨hx, hb, hml, hown, hts⟩ (met_x_al_size l D C a0 s0 ad so pr t lt g 11 xs_11 hq) (cwV 0 hts (lw_V q642 q643 q644 q80 q645) rfl rfl rfl (by decide +kernel) ⟨Nat.le_of_ble_eq_true rfl, Nat.le_of_ble_eq_true rfl⟩) (hr_preV hZ_c hM hIx hK hZ0 hA0 hS (r := .inl 11) xS_11 (q := (RJ2, TJ2, 3)) rfl) rfl rfl hl.1 rfl (lv_room (Nat.le_of_ble_eq_true rfl)) dX1_week_21 ⟨Nat.le_of_ble_eq_true rfl, Nat.le_of_ble_eq_true rfl⟩) hS (fun H locs hM hS => ?_)
  refine hb_icmp_ge (tgt := 54) hx hb dX1_week_24 (by decide) hf (fun hf => ?_) (fun hf => ?_)
  · exact kx v2_13 (Option.some.inj hf).symm H locs ls hM hS (lv_sub hl [0, 1, 2] rfl)
  · refine lv_aload_n hx hb dX1_week_27 rfl (lv_at hl 0 rfl) ?_
    refine hr_get (ci := 0) (C := RX1) (T := TX1) (N := 19) (r := .inl 0) hx hb hts in_X1 hown hK hM xS_0 rfl 1 (by decide) (hts _ q560) rfl (v := .ref (ad (.inl 20))) rfl dX1_week_28 ?_
    refine hr_getN (ci := 3) (C := RX3) (T := TX3) (N := 3) (r := .inl 20) hx hb hts in_X3 hown hK hM xS_20 rfl 0 (by decide) (hZ_nest hZ0 q544 rfl) rfl (v := .ref (ad (.inl 24))) rfl dX1_week_31 ?_
    refine hr_getN (ci := 1) (C := RX4) (T := TX4) (N := 6) (r := .inl 24) hx hb hts in_X4 hown hK hM (xs_st24 (C := C) (pr := pr)).o rfl 2 (by decide) (hZ_nest hZ0 q518 rfl) rfl (v := .ref (ad (.inl (24 + 3)))) rfl dX1_week_34 ?_
    refine lv_iload_n hx hb dX1_week_37 rfl (lv_at hl 3 rfl) ?_
    refine hx_iald (r := (24 + 3)) hx hb hK hM 0 (xs_st24 (C := C) (pr := pr)).a3 rfl hf dX1_week_38 (fun x4 hf => ?_)
    refine hb_if_le (tgt := 48) hx hb dX1_week_39 (by decide) hf (fun hf => ?_) (fun hf => ?_)
    · obtain ⟨y3_5, ey, hf⟩ := hlet_ex hf
      refine lv_iinc (v := y3_5) (lv' := [(3, .int y3_5), (0, .ref (ad (.inl 0))), (1, .int p0), (2, .int v2_13)]) hx hb dX1_week_48 hl (k := 3) rfl (by rw [ey]; rfl) (by decide) rfl (fun ls hl => ?_)
      refine lv_goto (tgt := 13) hx hb dX1_week_51 (by decide) ?_
      exact kc (v2_13, y3_5) (Option.some.inj hf).symm H locs ls hM hS (lv_sub hl [1, 2, 3, 0] rfl)
    · refine lv_iload_n hx hb dX1_week_42 rfl (lv_at hl 2 rfl) ?_
      refine lv_iconst (v := 1) hx hb dX1_week_43 (by decide) ?_
      refine lv_iload_n hx hb dX1_week_44 rfl (lv_at hl 3 rfl) ?_
      refine lv_ishl hx hb dX1_week_45 ?_
      refine lv_ior hx hb dX1_week_46 ?_
      refine hb_top hf (fun y2_6 hf => ?_)
      refine lv_istore_n (lv' := [(2, .int y2_6), (0, .ref (ad (.inl 0))), (1, .int p0), (3, .int v3_13)]) hx hb dX1_week_47 rfl hl (by decide) rfl (fun ls hl => ?_)
      obtain ⟨y3_7, ey, hf⟩ := hlet_ex hf
      refine lv_iinc (v := y3_7) (lv' := [(3, .int y3_7), (2, .int y2_6), (0, .ref (ad (.inl 0))), (1, .int p0)]) hx hb dX1_week_48 hl (k := 3) rfl (by rw [ey]; rfl) (by decide) rfl (fun ls hl => ?_)
      refine lv_goto (tgt := 13) hx hb dX1_week_51 (by decide) ?_
      exact kc (y2_6, y3_7) (Option.some.inj hf).symm H locs ls hM hS (lv_sub hl [2, 3, 1, 0] rfl)
set_option maxHeartbeats 4000000 in
set_option maxRecDepth 100000 in
theorem w_x_week {p : Program} {l : Launch} {e : Env} {s : State} {m : MethodId} {args : Array Value} {below : List Frame} {meth : Method} {c : Code} {D : va_G} {C : Nat → Nat} {a0 : Array Value} {s0 : State} {ad : Rl → Nat} {so : Nat → Option hS} {pr : hPr} {t : hSt} {lt : Rl → Nat → Int64} (CX : hCx D C a0 s0 p s m args meth c cX1_week 4 RX1 (some .int)) (hIx : hI (hA s0) ad (Sum.elim (xSH C pr) so)) (hex : ∀ x ∈ c.exceptionTable.toList, False) (hlst : l.stackTraces = false) (g : hSt) (p0 : Int32) {o : (Int32 × hSt) ⊕ Nat} (hf : x_week g pr p0 = some o) {H : Heap} {locs : List Loc} (hM : hW D vwCl ad (Sum.elim (xSH C pr) so) (Sum.elim g t) lt H) (hS : va_S (hA s0) s.heap H locs) {ls : Array Slot} (hl : lv_has ls 4 [(0, .ref (ad (.inl 0))), (1, .int p0)]) : W p l e rm_x_week s m args below meth c H locs 0 0 (vx_MQ below (va_Qi (fun (r : Int32) (v : Int32 × hSt) => o = .inl v ∧ r = v.1) (fun (v : Int32 × hSt) (U : State) => hW D vwCl ad (Sum.elim (xSH C pr) so) (Sum.elim v.2 t) lt U.heap) (hA s0)) (vx_X (fun k : Nat => o = .inr k) (fun (E : String) (k : Nat) (U : State) => E = hEx k ∧ hW D vwCl ad (Sum.elim (xSH C pr) so) (Sum.elim g t) lt U.heap) (hA s0)) args s 1 6 (hA s0)) (F0 m 0 ls []) := by
  obtain ⟨hx, hb, hr, hml, hown, hts, hlocks, hK, hZ0, hA0⟩ := CX
  unfold x_week at hf
  refine lv_iload_n hx hb dX1_week_0 rfl (lv_at hl 1 rfl) ?_
  refine lv_iconst (v := 0) hx hb dX1_week_1 (by decide) ?_
  refine lv_iconst (v := 2) hx hb dX1_week_2 (by decide) ?_
  obtain ⟨y1, hq, hf⟩ := hbind hf
  refine hr_calli0 (va_runS (As := [.int p0, .int (0 : Int32), .int (2 : Int32)]) (rest := []) ⟨hx, hb, hml, hown, hts⟩ (met_x_within l D C a0 s0 ad so pr (Sum.elim g t) lt p0 (0 : Int32) (2 : Int32) hq) (va_cwS 3 hts (lw_S q1156 q1157 q76 q1158) rfl rfl rfl (by decide +kernel) ⟨Nat.le_of_ble_eq_true rfl, Nat.le_of_ble_eq_true rfl⟩) (hr_preS hZ_c hM hIx hK hZ0 hA0 hS) rfl rfl hl.1 rfl (lv_room (Nat.le_of_ble_eq_true rfl)) dX1_week_3 ⟨Nat.le_of_ble_eq_true rfl, Nat.le_of_ble_eq_true rfl⟩) hS (fun H locs hM hS => ?_)
  obtain ⟨z2, hq, hf⟩ := hbind hf
  refine hr_xcallv hf (vx_runS (As := [.int y1]) (rest := []) ⟨hx, hb, hml, hown, hts⟩ (met_x_there l D C a0 s0 ad so pr (Sum.elim g t) lt y1 hlst hq) (va_cwS 1 hts (lw_S q1159 q1160 q76 q1161) rfl rfl rfl (by decide +kernel) ⟨Nat.le_of_ble_eq_true rfl, Nat.le_of_ble_eq_true rfl⟩) (hr_preS hZ_c hM hIx hK hZ0 hA0 hS) rfl rfl hl.1 rfl (lv_room (Nat.le_of_ble_eq_true rfl)) dX1_week_6 ⟨Nat.le_of_ble_eq_true rfl, Nat.le_of_ble_eq_true rfl⟩) hS hex hlocks hIx (Nat.le_of_ble_eq_true rfl) (Nat.le_of_ble_eq_true rfl) (fun H locs hf hM hS => ?_)
  refine lv_iconst (v := 0) hx hb dX1_week_9 (by decide) ?_
  refine lv_istore_n (lv' := [(2, .int (0 : Int32)), (0, .ref (ad (.inl 0))), (1, .int p0)]) hx hb dX1_week_10 rfl hl (by decide) rfl (fun ls hl => ?_)
  refine lv_iconst (v := 0) hx hb dX1_week_11 (by decide) ?_
  refine lv_istore_n (lv' := [(3, .int (0 : Int32)), (2, .int (0 : Int32)), (0, .ref (ad (.inl 0))), (1, .int p0)]) hx hb dX1_week_12 rfl hl (by decide) rfl (fun ls hl => ?_)
  obtain ⟨x8, hq, hf⟩ := hbind hf
  refine w_x_week_L13 ⟨hx, hb, hr, hml, hown, hts, hlocks, hK, hZ0, hA0⟩ hIx hex hlst g p0 y1 x8 hFU ((0 : Int32), (0 : Int32)) hq (fun H locs ls hM hS hl => ?_) H locs ls hM hS (lv_sub hl [2, 3, 1, 0] rfl)
  refine lv_aload_n hx hb dX1_week_54 rfl (lv_at hl 0 rfl) ?_
  refine lv_iconst (v := 0) hx hb dX1_week_55 (by decide) ?_
  refine hx_put (r := 0) (ci := 0) (C := RX1) (T := TX1) (N := 19) hx hb hts in_X1 tyX1 tyX1_ok nmX1 hown hK hM hIx hS xS_0 rfl 10 (by decide) (hts _ q569) rfl rfl rfl hf dX1_week_56 (fun g9 H locs hf hM hS => ?_)
  refine lv_aload_n hx hb dX1_week_59 rfl (lv_at hl 0 rfl) ?_
  refine lv_iconst (v := 0) hx hb dX1_week_60 (by decide) ?_
  refine hx_put (r := 0) (ci := 0) (C := RX1) (T := TX1) (N := 19) hx hb hts in_X1 tyX1 tyX1_ok nmX1 hown hK hM hIx hS xS_0 rfl 11 (by decide) (hts _ q570) rfl rfl rfl hf dX1_week_61 (fun g10 H locs hf hM hS => ?_)
  refine lv_aload_n hx hb dX1_week_64 rfl (lv_at hl 0 rfl) ?_
  refine hr_get (ci := 0) (C := RX1) (T := TX1) (N := 19) (r := .inl 0) hx hb hts in_X1 hown hK hM xS_0 rfl 6 (by decide) (hts _ q565) rfl (v := .ref (ad (.inl 2))) rfl dX1_week_65 ?_
  refine lv_iconst (v := 0) hx hb dX1_week_68 (by decide) ?_
  obtain ⟨r11, hq, hf⟩ := hbind hf
  refine hx_bel hx hb hK hM hq dX1_week_69 (fun h_r11 => ?_)
  refine lv_aload_n hx hb dX1_week_70 rfl (lv_at hl 0 rfl) ?_
  refine hr_get (ci := 0) (C := RX1) (T := TX1) (N := 19) (r := .inl 0) hx hb hts in_X1 hown hK hM xS_0 rfl 1 (by decide) (hts _ q560) rfl (v := .ref (ad (.inl 20))) rfl dX1_week_71 ?_
  refine hr_getN (ci := 3) (C := RX3) (T := TX3) (N := 3) (r := .inl 20) hx hb hts in_X3 hown hK hM xS_20 rfl 0 (by decide) (hZ_nest hZ0 q544 rfl) rfl (v := .ref (ad (.inl 24))) rfl dX1_week_74 ?_
  obtain ⟨y12, hq, hf⟩ := hbind hf
  refine hr_callv0 (va_runV (As := [.ref (ad (.inl 24))]) (rest := []) ⟨hx, hb, hml, hown, hts⟩ (met_x_st_like l D C a0 s0 ad so pr t lt g10 r11 24 h_r11 xs_st24 hq) (cwV 1 hts (lw_V q793 q794 q795 q98 q796) rfl rfl rfl (by decide +kernel) ⟨Nat.le_of_ble_eq_true rfl, Nat.le_of_ble_eq_true rfl⟩) (hr_preV hZ_c hM hIx hK hZ0 hA0 hS (r := .inl r11) h_r11.o (q := (RX4, TX4, 6)) rfl) rfl rfl hl.1 rfl (lv_room (Nat.le_of_ble_eq_true rfl)) dX1_week_77 ⟨Nat.le_of_ble_eq_true rfl, Nat.le_of_ble_eq_true rfl⟩) hS (fun H locs hM hS => ?_)
  refine lv_aload_n hx hb dX1_week_80 rfl (lv_at hl 0 rfl) ?_
  refine lv_iconst (v := 0) hx hb dX1_week_81 (by decide) ?_
  refine lv_iload_n hx hb dX1_week_82 rfl (lv_at hl 2 rfl) ?_
  obtain ⟨y13, hq, hf⟩ := hbind hf
  refine hr_calli0 (va_runV (As := [.int (0 : Int32), .int x8]) (rest := []) ⟨hx, hb, hml, hown, hts⟩ (met_x_answerR8 l D C a0 s0 ad so pr t lt y12 (0 : Int32) x8 hq) (cwV 2 hts (lw_V q1254 q1256 qs25 q76 q1257) rfl rfl rfl (by decide +kernel) ⟨Nat.le_of_ble_eq_true rfl, Nat.le_of_ble_eq_true rfl⟩) (hr_preV hZ_c hM hIx hK hZ0 hA0 hS (r := .inl 0) xS_0 (q := (RX1, TX1, 19)) rfl) rfl rfl hl.1 rfl (lv_room (Nat.le_of_ble_eq_true rfl)) dX1_week_83 ⟨Nat.le_of_ble_eq_true rfl, Nat.le_of_ble_eq_true rfl⟩) hS (fun H locs hM hS => ?_)
  refine lv_istore_n (lv' := [(3, .int y13.1), (0, .ref (ad (.inl 0))), (1, .int p0), (2, .int x8)]) hx hb dX1_week_86 rfl hl (by decide) rfl (fun ls hl => ?_)
  refine lv_aload_n hx hb dX1_week_87 rfl (lv_at hl 1 rfl) ?_
  refine hr_get (ci := 0) (C := RX1) (T := TX1) (N := 19) (r := .inl 0) hx hb hts in_X1 hown hK hM xS_0 rfl 10 (by decide) (hts _ q569) rfl (v := .int (y13.2 0 10)) rfl dX1_week_88 ?_
  refine lv_bipush (v := -2) hx hb dX1_week_91 (by decide) ?_
  refine hb_icmp_ne (tgt := 99) hx hb dX1_week_93 (by decide) hf (fun hf => ?_) (fun hf => ?_)
  · refine lv_iload_n hx hb dX1_week_99 rfl (lv_at hl 2 rfl) ?_
    refine hb_if_ne (tgt := 115) hx hb dX1_week_100 (by decide) hf (fun hf => ?_) (fun hf => ?_)
    · refine lv_iload_n hx hb dX1_week_115 rfl (lv_at hl 2 rfl) ?_
      refine lv_iconst (v := 1) hx hb dX1_week_116 (by decide) ?_
      refine hb_icmp_ne (tgt := 127) hx hb dX1_week_117 (by decide) hf (fun hf => ?_) (fun hf => ?_)
      · refine lv_aload_n hx hb dX1_week_127 rfl (lv_at hl 1 rfl) ?_
        refine hr_get (ci := 0) (C := RX1) (T := TX1) (N := 19) (r := .inl 0) hx hb hts in_X1 hown hK hM xS_0 rfl 10 (by decide) (hts _ q569) rfl (v := .int (y13.2 0 10)) rfl dX1_week_128 ?_
        have eo := Option.some.inj hf
        subst eo
        refine W.widen (k := 1) (n := 6) (Nat.le_of_ble_eq_true rfl) (Nat.le_of_ble_eq_true rfl) ?_
        exact vx_ret (W.iret (v := (y13.2 0 10)) hx hb hr (fun T ht hW => ⟨⟨(y13.2 0 10), ((y13.2 0 10), y13.2), rfl, ⟨rfl, rfl⟩, by dsimp only; rw [ht]; exact hM⟩, hS.F ht⟩) hS.2.2 dX1_week_131)
      · refine lv_aload_n hx hb dX1_week_120 rfl (lv_at hl 1 rfl) ?_
        refine hr_get (ci := 0) (C := RX1) (T := TX1) (N := 19) (r := .inl 0) hx hb hts in_X1 hown hK hM xS_0 rfl 11 (by decide) (hts _ q570) rfl (v := .int (y13.2 0 11)) rfl dX1_week_121 ?_
        refine lv_goto (tgt := 131) hx hb dX1_week_124 (by decide) ?_
        have eo := Option.some.inj hf
        subst eo
        refine W.widen (k := 1) (n := 6) (Nat.le_of_ble_eq_true rfl) (Nat.le_of_ble_eq_true rfl) ?_
        exact vx_ret (W.iret (v := (y13.2 0 11)) hx hb hr (fun T ht hW => ⟨⟨(y13.2 0 11), ((y13.2 0 11), y13.2), rfl, ⟨rfl, rfl⟩, by dsimp only; rw [ht]; exact hM⟩, hS.F ht⟩) hS.2.2 dX1_week_131)
    · refine lv_iload_n hx hb dX1_week_103 rfl (lv_at hl 0 rfl) ?_
      refine hb_if_eq (tgt := 111) hx hb dX1_week_104 (by decide) hf (fun hf => ?_) (fun hf => ?_)
      · refine lv_iconst (v := 0) hx hb dX1_week_111 (by decide) ?_
        refine lv_goto (tgt := 131) hx hb dX1_week_112 (by decide) ?_
        have eo := Option.some.inj hf
        subst eo
        refine W.widen (k := 1) (n := 6) (Nat.le_of_ble_eq_true rfl) (Nat.le_of_ble_eq_true rfl) ?_
        exact vx_ret (W.iret (v := (0 : Int32)) hx hb hr (fun T ht hW => ⟨⟨(0 : Int32), ((0 : Int32), y13.2), rfl, ⟨rfl, rfl⟩, by dsimp only; rw [ht]; exact hM⟩, hS.F ht⟩) hS.2.2 dX1_week_131)
      · refine lv_iconst (v := 1) hx hb dX1_week_107 (by decide) ?_
        refine lv_goto (tgt := 131) hx hb dX1_week_108 (by decide) ?_
        have eo := Option.some.inj hf
        subst eo
        refine W.widen (k := 1) (n := 6) (Nat.le_of_ble_eq_true rfl) (Nat.le_of_ble_eq_true rfl) ?_
        exact vx_ret (W.iret (v := (1 : Int32)) hx hb hr (fun T ht hW => ⟨⟨(1 : Int32), ((1 : Int32), y13.2), rfl, ⟨rfl, rfl⟩, by dsimp only; rw [ht]; exact hM⟩, hS.F ht⟩) hS.2.2 dX1_week_131)
  · refine lv_bipush (v := -2) hx hb dX1_week_96 (by decide) ?_
    have eo := Option.some.inj hf
    subst eo
    refine W.widen (k := 1) (n := 6) (Nat.le_of_ble_eq_true rfl) (Nat.le_of_ble_eq_true rfl) ?_
    exact vx_ret (W.iret (v := (-2 : Int32)) hx hb hr (fun T ht hW => ⟨⟨(-2 : Int32), ((-2 : Int32), y13.2), rfl, ⟨rfl, rfl⟩, by dsimp only; rw [ht]; exact hM⟩, hS.F ht⟩) hS.2.2 dX1_week_98)
set_option maxHeartbeats 4000000 in
set_option maxRecDepth 100000 in
theorem met_x_week (l : Launch) (D : va_G) (C : Nat → Nat) (a0 : Array Value) (s0 : State) (ad : Rl → Nat) (so : Nat → Option hS) (pr : hPr) (t : hSt) (lt : Rl → Nat → Int64) (g : hSt) (p0 : Int32) (hlst : l.stackTraces = false) {o : (Int32 × hSt) ⊕ Nat} (hf : x_week g pr p0 = some o) : vx_Met l yX1_week (ws_ yX1_week cX1_week 4 (some .int)) rm_x_week (va_Pc [.ref (ad (.inl 0)), .int p0] (hB D vwCl (hT C) (hA s0) (hZ a0 s0) ad (Sum.elim (xSH C pr) so) (Sum.elim g t) lt)) (va_Qi (fun (r : Int32) (v : Int32 × hSt) => o = .inl v ∧ r = v.1) (fun (v : Int32 × hSt) (U : State) => hW D vwCl ad (Sum.elim (xSH C pr) so) (Sum.elim v.2 t) lt U.heap) (hA s0)) (vx_X (fun k : Nat => o = .inr k) (fun (E : String) (k : Nat) (U : State) => E = hEx k ∧ hW D vwCl ad (Sum.elim (xSH C pr) so) (Sum.elim g t) lt U.heap) (hA s0)) 1 6 (hA s0) := by
  refine vx_ofW (cc := cX1_week) (maxL := 4) (ret := (some .int)) (by decide) rfl ?_
  intro p e s m args below meth c s₁ B hml hex hv
  obtain ⟨rfl, hM, hIx, hK, hZ0, hA0⟩ := hv
  have hl := lv_entry ([.ref (ad (.inl 0)), .int p0]) (n := 4) (Nat.le_of_ble_eq_true rfl)
  rw [lg_entry_eq]
  generalize (lg_sl ([.ref (ad (.inl 0)), .int p0]) ++ List.replicate (4 - (lg_sl ([.ref (ad (.inl 0)), .int p0])).length) Slot.unset).toArray = ls at hl ⊢
  have hl : lv_has ls 4 [(0, .ref (ad (.inl 0))), (1, .int p0)] := hl
  exact w_x_week ⟨B.exec, B.bytes, B.returns, hml, findClass_of_methodNamed B.named, fun w h => atoms_spec (ws := ws_ yX1_week cX1_week 4 (some .int)) B.pre w (List.mem_cons_of_mem _ h), B.notSynchronized, hK, hZ0, hA0⟩ hIx hex hlst g p0 hf hM va_S.rf hl

