/-! WALKS (printed by tools/gen.py): 12.mw 5 -/
set_option maxRecDepth 100000
def rm_m_answerOn (rmR : Room) : Room := { frames := rmR.frames + 8, cells := 0, slots := 0, locals := rmR.locals + 81 }
set_option maxHeartbeats 4000000 in
set_option maxRecDepth 100000 in
theorem w_m_answerOn_L109 {p : Program} {l : Launch} {e : Env} {s : State} {m : MethodId} {args : Array Value} {below : List Frame} {meth : Method} {c : Code} {D : va_G} {C : Nat → Nat} {a0 : Array Value} {s0 : State} {ad : Rl → Nat} {so : Nat → Option hS} {t : hSt} {lt : Rl → Nat → Int64} (CX : hCx D C a0 s0 p s m args meth c cX5_answerOn 8 RX5 (none)) (hIx : hI (hA s0) ad (Sum.elim so (mSH C))) (rcf : hSt → Int32 → Int32 → Option (hSt)) (g : hSt) (p0 : Int32) (p1 : Int32) (p2 : Int32) (v4_3 : Int32) (g_3 : hSt) (x1 : Int32) (y2 : hSt) (x3 : Int32) (y4 : Int32) (g5 : hSt) (x6 : Int32) (y7 : Int32) (rmR : Room) (hmR : rmR.cells = 0 ∧ rmR.slots = 0) (h_rec : ∀ (g : hSt) (p0 : Int32) (p1 : Int32) (o : hSt), rcf g p0 p1 = some o → Met l yX5_weekOn (ws_ yX5_weekOn cX5_weekOn 4 (none)) rmR (va_Pc [.ref (ad (.inr 0)), .int p0, .int p1] (hB D vwCl (hT C) (hA s0) (hZ a0 s0) ad (Sum.elim so (mSH C)) (Sum.elim t g) lt)) (va_Qv (fun (_ : Unit) => True) (fun (_ : Unit) (U : State) => hW D vwCl ad (Sum.elim so (mSH C)) (Sum.elim t o) lt U.heap) (hA s0)) 0 0 (hA s0)) {oM : hSt} (x : hSt) (n : Nat) (q0 : Int32 × hSt) (h0 : hiter (fun q : Int32 × hSt => m_answerOn_L109 v4_3 y7 q.1 q.2) n q0 = some x) (kx0 : ∀ (H : Heap) (locs : List Loc) (ls : Array Slot), hW D vwCl ad (Sum.elim so (mSH C)) (Sum.elim t x) lt H → va_S (hA s0) s.heap H locs → lv_has ls 8 [(0, .ref (ad (.inr 0))), (1, .int p0), (2, .int p1), (3, .int p2), (4, .int v4_3), (5, .int y4), (6, .int y7)] → W p l e (rm_m_answerOn rmR) s m args below meth c H locs 0 0 (MQ below (va_Qv (fun (_ : Unit) => True) (fun (_ : Unit) (U : State) => hW D vwCl ad (Sum.elim so (mSH C)) (Sum.elim t oM) lt U.heap) (hA s0)) args s 0 0 (hA s0)) (F0 m 146 ls [])) : ∀ (H : Heap) (locs : List Loc) (ls : Array Slot), hW D vwCl ad (Sum.elim so (mSH C)) (Sum.elim t q0.2) lt H → va_S (hA s0) s.heap H locs → lv_has ls 8 [(0, .ref (ad (.inr 0))), (1, .int p0), (2, .int p1), (3, .int p2), (4, .int v4_3), (5, .int y4), (6, .int y7), (7, .int q0.1)] → W p l e (rm_m_answerOn rmR) s m args below meth c H locs 0 0 (MQ below (va_Qv (fun (_ : Unit) => True) (fun (_ : Unit) (U : State) => hW D vwCl ad (Sum.elim so (mSH C)) (Sum.elim t oM) lt U.heap) (hA s0)) args s 0 0 (hA s0)) (F0 m 109 ls []) := by
  obtain ⟨hx, hb, hr, hml, hown, hts, hlocks, hK, hZ0, hA0⟩ := CX
  refine hiter_W (Wh := fun q => ∀ (H : Heap) (locs : List Loc) (ls : Array Slot), hW D vwCl ad (Sum.elim so (mSH C)) (Sum.elim t q.2) lt H → va_S (hA s0) s.heap H locs → lv_has ls 8 [(0, .ref (ad (.inr 0))), (1, .int p0), (2, .int p1), (3, .int p2), (4, .int v4_3), (5, .int y4), (6, .int y7), (7, .int q.1)] → W p l e (rm_m_answerOn rmR) s m args below meth c H locs 0 0 (MQ below (va_Qv (fun (_ : Unit) => True) (fun (_ : Unit) (U : State) => hW D vwCl ad (Sum.elim so (mSH C)) (Sum.elim t oM) lt U.heap) (hA s0)) args s 0 0 (hA s0)) (F0 m 109 ls [])) ?_ n q0 h0
  intro q o hf kc kx1 H locs ls hM hS hl
  obtain ⟨v7_109, g_109⟩ := q
  replace hf : m_answerOn_L109 v4_3 y7 v7_109 g_109 = some o := hf
  have kx : ∀ x' : hSt, o = .inr x' → ∀ (H : Heap) (locs : List Loc) (ls : Array Slot), hW D vwCl ad (Sum.elim so (mSH C)) (Sum.elim t x') lt H → va_S (hA s0) s.heap H locs → lv_has ls 8 [(0, .ref (ad (.inr 0))), (1, .int p0), (2, .int p1), (3, .int p2), (4, .int v4_3), (5, .int y4), (6, .int y7)] → W p l e (rm_m_answerOn rmR) s m args below meth c H locs 0 0 (MQ below (va_Qv (fun (_ : Unit) => True) (fun (_ : Unit) (U : State) => hW D vwCl ad (Sum.elim so (mSH C)) (Sum.elim t oM) lt U.heap) (hA s0)) args s 0 0 (hA s0)) (F0 m 146 ls []) := fun x' ex => by rw [kx1 _ ex]; exact kx0
  unfold m_answerOn_L109 at hf
  refine lv_iload hx hb dX5_answerOn_109 (lv_at hl 7 rfl) ?_
  refine lv_aload_n hx hb dX5_answerOn_111 rfl (lv_at hl 0 rfl) ?_
  refine hr_get (ci := 5) (C := RX5) (T := TX5) (N := 55) (r := .inr 0) hx hb hts in_X5 hown hK hM mS_0 rfl 2 (by decide) (hts _ q1370) rfl (v := .ref (ad (.inr 3))) rfl dX5_answerOn_112 ?_
  refine lv_iconst (v := 1) hx hb dX5_answerOn_115 (by decide) ?_
  refine hm_iald (r := 3) hx hb hK hM 0 mS_3 rfl hf dX5_answerOn_116 (fun x8 hf => ?_)
  refine hb_icmp_ge (tgt := 146) hx hb dX5_answerOn_117 (by decide) hf (fun hf => ?_) (fun hf => ?_)
  · exact kx g_109 (Option.some.inj hf).symm H locs ls hM hS (lv_sub hl [0, 1, 2, 3, 4, 5, 6] rfl)
  · refine lv_iload hx hb dX5_answerOn_120 (lv_at hl 4 rfl) ?_
    refine lv_iload hx hb dX5_answerOn_122 (lv_at hl 7 rfl) ?_
    refine lv_ishr hx hb dX5_answerOn_124 ?_
    refine lv_iconst (v := 1) hx hb dX5_answerOn_125 (by decide) ?_
    refine lv_iand hx hb dX5_answerOn_126 ?_
    refine lv_iconst (v := 1) hx hb dX5_answerOn_127 (by decide) ?_
    refine hb_icmp_ne (tgt := 140) hx hb dX5_answerOn_128 (by decide) hf (fun hf => ?_) (fun hf => ?_)
    · obtain ⟨y7_9, ey, hf⟩ := hlet_ex hf
      refine lv_iinc (v := y7_9) (lv' := [(7, .int y7_9), (0, .ref (ad (.inr 0))), (1, .int p0), (2, .int p1), (3, .int p2), (4, .int v4_3), (5, .int y4), (6, .int y7)]) hx hb dX5_answerOn_140 hl (k := 7) rfl (by rw [ey]; rfl) (by decide) rfl (fun ls hl => ?_)
      refine lv_goto (tgt := 109) hx hb dX5_answerOn_143 (by decide) ?_
      exact kc (y7_9, g_109) (Option.some.inj hf).symm H locs ls hM hS (lv_sub hl [1, 2, 3, 4, 5, 6, 7, 0] rfl)
    · refine lv_aload_n hx hb dX5_answerOn_131 rfl (lv_at hl 0 rfl) ?_
      refine hr_get (ci := 5) (C := RX5) (T := TX5) (N := 55) (r := .inr 0) hx hb hts in_X5 hown hK hM mS_0 rfl 27 (by decide) (hts _ q1395) rfl (v := .ref (ad (.inr 28))) rfl dX5_answerOn_132 ?_
      refine lv_iload hx hb dX5_answerOn_135 (lv_at hl 7 rfl) ?_
      refine lv_iload hx hb dX5_answerOn_137 (lv_at hl 6 rfl) ?_
      refine hm_iast (r := 28) hx hb hK hM hIx hS 0 mS_28 rfl hf dX5_answerOn_139 (fun g10 H locs hf hM hS => ?_)
      obtain ⟨y7_11, ey, hf⟩ := hlet_ex hf
      refine lv_iinc (v := y7_11) (lv' := [(7, .int y7_11), (0, .ref (ad (.inr 0))), (1, .int p0), (2, .int p1), (3, .int p2), (4, .int v4_3), (5, .int y4), (6, .int y7)]) hx hb dX5_answerOn_140 hl (k := 7) rfl (by rw [ey]; rfl) (by decide) rfl (fun ls hl => ?_)
      refine lv_goto (tgt := 109) hx hb dX5_answerOn_143 (by decide) ?_
      exact kc (y7_11, g10) (Option.some.inj hf).symm H locs ls hM hS (lv_sub hl [1, 2, 3, 4, 5, 6, 7, 0] rfl)
set_option maxHeartbeats 4000000 in
set_option maxRecDepth 100000 in
theorem w_m_answerOn_L178 {p : Program} {l : Launch} {e : Env} {s : State} {m : MethodId} {args : Array Value} {below : List Frame} {meth : Method} {c : Code} {D : va_G} {C : Nat → Nat} {a0 : Array Value} {s0 : State} {ad : Rl → Nat} {so : Nat → Option hS} {t : hSt} {lt : Rl → Nat → Int64} (CX : hCx D C a0 s0 p s m args meth c cX5_answerOn 8 RX5 (none)) (hIx : hI (hA s0) ad (Sum.elim so (mSH C))) (rcf : hSt → Int32 → Int32 → Option (hSt)) (g : hSt) (p0 : Int32) (p1 : Int32) (p2 : Int32) (v4_3 : Int32) (g_3 : hSt) (x1 : Int32) (y2 : hSt) (x3 : Int32) (y4 : Int32) (g5 : hSt) (x6 : Int32) (y7 : Int32) (x12 : hSt) (x13 : Int32) (g14 : hSt) (x15 : Int32) (g16 : hSt) (rmR : Room) (hmR : rmR.cells = 0 ∧ rmR.slots = 0) (h_rec : ∀ (g : hSt) (p0 : Int32) (p1 : Int32) (o : hSt), rcf g p0 p1 = some o → Met l yX5_weekOn (ws_ yX5_weekOn cX5_weekOn 4 (none)) rmR (va_Pc [.ref (ad (.inr 0)), .int p0, .int p1] (hB D vwCl (hT C) (hA s0) (hZ a0 s0) ad (Sum.elim so (mSH C)) (Sum.elim t g) lt)) (va_Qv (fun (_ : Unit) => True) (fun (_ : Unit) (U : State) => hW D vwCl ad (Sum.elim so (mSH C)) (Sum.elim t o) lt U.heap) (hA s0)) 0 0 (hA s0)) {oM : hSt} (x : hSt) (n : Nat) (q0 : Int32 × hSt) (h0 : hiter (fun q : Int32 × hSt => m_answerOn_L178 p0 q.1 q.2) n q0 = some x) (kx0 : ∀ (H : Heap) (locs : List Loc) (ls : Array Slot), hW D vwCl ad (Sum.elim so (mSH C)) (Sum.elim t x) lt H → va_S (hA s0) s.heap H locs → lv_has ls 8 [(0, .ref (ad (.inr 0))), (1, .int p0), (2, .int p1), (3, .int p2), (4, .int v4_3)] → W p l e (rm_m_answerOn rmR) s m args below meth c H locs 0 0 (MQ below (va_Qv (fun (_ : Unit) => True) (fun (_ : Unit) (U : State) => hW D vwCl ad (Sum.elim so (mSH C)) (Sum.elim t oM) lt U.heap) (hA s0)) args s 0 0 (hA s0)) (F0 m 212 ls [])) : ∀ (H : Heap) (locs : List Loc) (ls : Array Slot), hW D vwCl ad (Sum.elim so (mSH C)) (Sum.elim t q0.2) lt H → va_S (hA s0) s.heap H locs → lv_has ls 8 [(0, .ref (ad (.inr 0))), (1, .int p0), (2, .int p1), (3, .int p2), (4, .int v4_3), (7, .int q0.1)] → W p l e (rm_m_answerOn rmR) s m args below meth c H locs 0 0 (MQ below (va_Qv (fun (_ : Unit) => True) (fun (_ : Unit) (U : State) => hW D vwCl ad (Sum.elim so (mSH C)) (Sum.elim t oM) lt U.heap) (hA s0)) args s 0 0 (hA s0)) (F0 m 178 ls []) := by
  obtain ⟨hx, hb, hr, hml, hown, hts, hlocks, hK, hZ0, hA0⟩ := CX
  refine hiter_W (Wh := fun q => ∀ (H : Heap) (locs : List Loc) (ls : Array Slot), hW D vwCl ad (Sum.elim so (mSH C)) (Sum.elim t q.2) lt H → va_S (hA s0) s.heap H locs → lv_has ls 8 [(0, .ref (ad (.inr 0))), (1, .int p0), (2, .int p1), (3, .int p2), (4, .int v4_3), (7, .int q.1)] → W p l e (rm_m_answerOn rmR) s m args below meth c H locs 0 0 (MQ below (va_Qv (fun (_ : Unit) => True) (fun (_ : Unit) (U : State) => hW D vwCl ad (Sum.elim so (mSH C)) (Sum.elim t oM) lt U.heap) (hA s0)) args s 0 0 (hA s0)) (F0 m 178 ls [])) ?_ n q0 h0
  intro q o hf kc kx1 H locs ls hM hS hl
  obtain ⟨v7_178, g_178⟩ := q
  replace hf : m_answerOn_L178 p0 v7_178 g_178 = some o := hf
  have kx : ∀ x' : hSt, o = .inr x' → ∀ (H : Heap) (locs : List Loc) (ls : Array Slot), hW D vwCl ad (Sum.elim so (mSH C)) (Sum.elim t x') lt H → va_S (hA s0) s.heap H locs → lv_has ls 8 [(0, .ref (ad (.inr 0))), (1, .int p0), (2, .int p1), (3, .int p2), (4, .int v4_3)] → W p l e (rm_m_answerOn rmR) s m args below meth c H locs 0 0 (MQ below (va_Qv (fun (_ : Unit) => True) (fun (_ : Unit) (U : State) => hW D vwCl ad (Sum.elim so (mSH C)) (Sum.elim t oM) lt U.heap) (hA s0)) args s 0 0 (hA s0)) (F0 m 212 ls []) := fun x' ex => by rw [kx1 _ ex]; exact kx0
  unfold m_answerOn_L178 at hf
  refine lv_iload hx hb dX5_answerOn_178 (lv_at hl 5 rfl) ?_
  refine lv_bipush (v := 30) hx hb dX5_answerOn_180 (by decide) ?_
  refine hb_icmp_ge (tgt := 212) hx hb dX5_answerOn_182 (by decide) hf (fun hf => ?_) (fun hf => ?_)
  · exact kx g_178 (Option.some.inj hf).symm H locs ls hM hS (lv_sub hl [0, 1, 2, 3, 4] rfl)
  · refine lv_aload_n hx hb dX5_answerOn_185 rfl (lv_at hl 0 rfl) ?_
    refine hr_get (ci := 5) (C := RX5) (T := TX5) (N := 55) (r := .inr 0) hx hb hts in_X5 hown hK hM mS_0 rfl 26 (by decide) (hts _ q1394) rfl (v := .ref (ad (.inr 27))) rfl dX5_answerOn_186 ?_
    refine lv_bipush (v := 30) hx hb dX5_answerOn_189 (by decide) ?_
    refine lv_iload_n hx hb dX5_answerOn_191 rfl (lv_at hl 1 rfl) ?_
    refine lv_iconst (v := 1) hx hb dX5_answerOn_192 (by decide) ?_
    refine lv_iadd hx hb dX5_answerOn_193 ?_
    refine lv_imul hx hb dX5_answerOn_194 ?_
    refine lv_iload hx hb dX5_answerOn_195 (lv_at hl 5 rfl) ?_
    refine lv_iadd hx hb dX5_answerOn_197 ?_
    refine lv_aload_n hx hb dX5_answerOn_198 rfl (lv_at hl 0 rfl) ?_
    refine hr_get (ci := 5) (C := RX5) (T := TX5) (N := 55) (r := .inr 0) hx hb hts in_X5 hown hK hM mS_0 rfl 27 (by decide) (hts _ q1395) rfl (v := .ref (ad (.inr 28))) rfl dX5_answerOn_199 ?_
    refine lv_iload hx hb dX5_answerOn_202 (lv_at hl 5 rfl) ?_
    refine hm_iald (r := 28) hx hb hK hM 0 mS_28 rfl hf dX5_answerOn_204 (fun x17 hf => ?_)
    refine hm_iast (r := 27) hx hb hK hM hIx hS 0 mS_27 rfl hf dX5_answerOn_205 (fun g18 H locs hf hM hS => ?_)
    obtain ⟨y7_19, ey, hf⟩ := hlet_ex hf
    refine lv_iinc (v := y7_19) (lv' := [(7, .int y7_19), (0, .ref (ad (.inr 0))), (1, .int p0), (2, .int p1), (3, .int p2), (4, .int v4_3)]) hx hb dX5_answerOn_206 hl (k := 5) rfl (by rw [ey]; rfl) (by decide) rfl (fun ls hl => ?_)
    refine lv_goto (tgt := 178) hx hb dX5_answerOn_209 (by decide) ?_
    exact kc (y7_19, g18) (Option.some.inj hf).symm H locs ls hM hS (lv_sub hl [1, 2, 3, 4, 5, 0] rfl)
set_option maxHeartbeats 4000000 in
set_option maxRecDepth 100000 in
theorem w_m_answerOn_L3 {p : Program} {l : Launch} {e : Env} {s : State} {m : MethodId} {args : Array Value} {below : List Frame} {meth : Method} {c : Code} {D : va_G} {C : Nat → Nat} {a0 : Array Value} {s0 : State} {ad : Rl → Nat} {so : Nat → Option hS} {t : hSt} {lt : Rl → Nat → Int64} (CX : hCx D C a0 s0 p s m args meth c cX5_answerOn 8 RX5 (none)) (hIx : hI (hA s0) ad (Sum.elim so (mSH C))) (rcf : hSt → Int32 → Int32 → Option (hSt)) (g : hSt) (p0 : Int32) (p1 : Int32) (p2 : Int32) (rmR : Room) (hmR : rmR.cells = 0 ∧ rmR.slots = 0) (h_rec : ∀ (g : hSt) (p0 : Int32) (p1 : Int32) (o : hSt), rcf g p0 p1 = some o → Met l yX5_weekOn (ws_ yX5_weekOn cX5_weekOn 4 (none)) rmR (va_Pc [.ref (ad (.inr 0)), .int p0, .int p1] (hB D vwCl (hT C) (hA s0) (hZ a0 s0) ad (Sum.elim so (mSH C)) (Sum.elim t g) lt)) (va_Qv (fun (_ : Unit) => True) (fun (_ : Unit) (U : State) => hW D vwCl ad (Sum.elim so (mSH C)) (Sum.elim t o) lt U.heap) (hA s0)) 0 0 (hA s0)) {oM : hSt} (x : (hSt) ⊕ (hSt)) (n : Nat) (q0 : Int32 × hSt) (h0 : hiter (fun q : Int32 × hSt => m_answerOn_L3 rcf p0 p1 p2 q.1 q.2) n q0 = some x) (kx0 : ∀ x' : hSt, x = .inl x' → ∀ (H : Heap) (locs : List Loc) (ls : Array Slot), hW D vwCl ad (Sum.elim so (mSH C)) (Sum.elim t x') lt H → va_S (hA s0) s.heap H locs → lv_has ls 8 [] → W p l e (rm_m_answerOn rmR) s m args below meth c H locs 0 0 (MQ below (va_Qv (fun (_ : Unit) => True) (fun (_ : Unit) (U : State) => hW D vwCl ad (Sum.elim so (mSH C)) (Sum.elim t oM) lt U.heap) (hA s0)) args s 0 0 (hA s0)) (F0 m 230 ls [])) (kr0 : ∀ r : hSt, x = .inr r → r = oM) : ∀ (H : Heap) (locs : List Loc) (ls : Array Slot), hW D vwCl ad (Sum.elim so (mSH C)) (Sum.elim t q0.2) lt H → va_S (hA s0) s.heap H locs → lv_has ls 8 [(0, .ref (ad (.inr 0))), (1, .int p0), (2, .int p1), (3, .int p2), (4, .int q0.1)] → W p l e (rm_m_answerOn rmR) s m args below meth c H locs 0 0 (MQ below (va_Qv (fun (_ : Unit) => True) (fun (_ : Unit) (U : State) => hW D vwCl ad (Sum.elim so (mSH C)) (Sum.elim t oM) lt U.heap) (hA s0)) args s 0 0 (hA s0)) (F0 m 3 ls []) := by
  obtain ⟨hx, hb, hr, hml, hown, hts, hlocks, hK, hZ0, hA0⟩ := CX
  refine hiter_W (Wh := fun q => ∀ (H : Heap) (locs : List Loc) (ls : Array Slot), hW D vwCl ad (Sum.elim so (mSH C)) (Sum.elim t q.2) lt H → va_S (hA s0) s.heap H locs → lv_has ls 8 [(0, .ref (ad (.inr 0))), (1, .int p0), (2, .int p1), (3, .int p2), (4, .int q.1)] → W p l e (rm_m_answerOn rmR) s m args below meth c H locs 0 0 (MQ below (va_Qv (fun (_ : Unit) => True) (fun (_ : Unit) (U : State) => hW D vwCl ad (Sum.elim so (mSH C)) (Sum.elim t oM) lt U.heap) (hA s0)) args s 0 0 (hA s0)) (F0 m 3 ls [])) ?_ n q0 h0
  intro q o hf kc kx1 H locs ls hM hS hl
  obtain ⟨v4_3, g_3⟩ := q
  replace hf : m_answerOn_L3 rcf p0 p1 p2 v4_3 g_3 = some o := hf
  have kx : ∀ x' : hSt, o = .inr (.inl x') → ∀ (H : Heap) (locs : List Loc) (ls : Array Slot), hW D vwCl ad (Sum.elim so (mSH C)) (Sum.elim t x') lt H → va_S (hA s0) s.heap H locs → lv_has ls 8 [] → W p l e (rm_m_answerOn rmR) s m args below meth c H locs 0 0 (MQ below (va_Qv (fun (_ : Unit) => True) (fun (_ : Unit) (U : State) => hW D vwCl ad (Sum.elim so (mSH C)) (Sum.elim t oM) lt U.heap) (hA s0)) args s 0 0 (hA s0)) (F0 m 230 ls []) := fun x' ex => kx0 x' (kx1 _ ex).symm
  have kr : ∀ r : hSt, o = .inr (.inr r) → r = oM := fun r ex => kr0 r (kx1 _ ex).symm
  unfold m_answerOn_L3 at hf
  refine lv_iload hx hb dX5_answerOn_3 (lv_at hl 4 rfl) ?_
  refine lv_iconst (v := 1) hx hb dX5_answerOn_5 (by decide) ?_
  refine lv_aload_n hx hb dX5_answerOn_6 rfl (lv_at hl 0 rfl) ?_
  refine hr_get (ci := 5) (C := RX5) (T := TX5) (N := 55) (r := .inr 0) hx hb hts in_X5 hown hK hM mS_0 rfl 2 (by decide) (hts _ q1370) rfl (v := .ref (ad (.inr 3))) rfl dX5_answerOn_7 ?_
  refine lv_iconst (v := 1) hx hb dX5_answerOn_10 (by decide) ?_
  refine hm_iald (r := 3) hx hb hK hM 0 mS_3 rfl hf dX5_answerOn_11 (fun x1 hf => ?_)
  refine lv_ishl hx hb dX5_answerOn_12 ?_
  refine hb_icmp_ge (tgt := 230) hx hb dX5_answerOn_13 (by decide) hf (fun hf => ?_) (fun hf => ?_)
  · exact kx g_3 (Option.some.inj hf).symm H locs ls hM hS (lv_sub hl [] rfl)
  · refine lv_aload_n hx hb dX5_answerOn_16 rfl (lv_at hl 0 rfl) ?_
    refine hr_get (ci := 5) (C := RX5) (T := TX5) (N := 55) (r := .inr 0) hx hb hts in_X5 hown hK hM mS_0 rfl 37 (by decide) (hts _ q1405) rfl (v := .int (g_3 0 37)) rfl dX5_answerOn_17 ?_
    refine hb_if_ne (tgt := 230) hx hb dX5_answerOn_20 (by decide) hf (fun hf => ?_) (fun hf => ?_)
    · exact kx g_3 (Option.some.inj hf).symm H locs ls hM hS (lv_sub hl [] rfl)
    · refine lv_aload_n hx hb dX5_answerOn_23 rfl (lv_at hl 0 rfl) ?_
      refine hr_get (ci := 5) (C := RX5) (T := TX5) (N := 55) (r := .inr 0) hx hb hts in_X5 hown hK hM mS_0 rfl 36 (by decide) (hts _ q1404) rfl (v := .int (g_3 0 36)) rfl dX5_answerOn_24 ?_
      refine hb_if_ne (tgt := 230) hx hb dX5_answerOn_27 (by decide) hf (fun hf => ?_) (fun hf => ?_)
      · exact kx g_3 (Option.some.inj hf).symm H locs ls hM hS (lv_sub hl [] rfl)
      · refine lv_aload_n hx hb dX5_answerOn_30 rfl (lv_at hl 0 rfl) ?_
        refine lv_iload_n hx hb dX5_answerOn_31 rfl (lv_at hl 1 rfl) ?_
        obtain ⟨y2, hq, hf⟩ := hbind hf
        refine hr_callv0 (va_runV (As := [.int p0]) (rest := []) ⟨hx, hb, hml, hown, hts⟩ (met_m_loadRow l D C a0 s0 ad so t lt g_3 p0 hq) (cwV 1 hts (lw_V q1760 q1762 qs63 q99 q1763) rfl rfl rfl (by decide +kernel) ⟨(by first | exact Nat.le_of_ble_eq_true rfl | (simp only [rm_m_answerOn, rm_m_loadRow, rm_m_sandFor, rm_m_whomOf]; omega)), (by first | exact Nat.le_of_ble_eq_true rfl | (simp only [rm_m_answerOn, rm_m_loadRow, rm_m_sandFor, rm_m_whomOf]; omega))⟩) (hr_preV hZ_c hM hIx hK hZ0 hA0 hS (r := .inr 0) mS_0 (q := (RX5, TX5, 55)) rfl) rfl rfl hl.1 rfl (lv_room (Nat.le_of_ble_eq_true rfl)) dX5_answerOn_32 ⟨(by first | exact Nat.le_of_ble_eq_true rfl | (simp only [rm_m_answerOn, rm_m_loadRow, rm_m_sandFor, rm_m_whomOf]; omega)), (by first | exact Nat.le_of_ble_eq_true rfl | (simp only [rm_m_answerOn, rm_m_loadRow, rm_m_sandFor, rm_m_whomOf]; omega))⟩) hS (fun H locs hM hS => ?_)
        refine lv_aload_n hx hb dX5_answerOn_35 rfl (lv_at hl 0 rfl) ?_
        refine lv_aload_n hx hb dX5_answerOn_36 rfl (lv_at hl 0 rfl) ?_
        refine hr_get (ci := 5) (C := RX5) (T := TX5) (N := 55) (r := .inr 0) hx hb hts in_X5 hown hK hM mS_0 rfl 27 (by decide) (hts _ q1395) rfl (v := .ref (ad (.inr 28))) rfl dX5_answerOn_37 ?_
        refine lv_iload_n hx hb dX5_answerOn_40 rfl (lv_at hl 3 rfl) ?_
        refine lv_iload hx hb dX5_answerOn_41 (lv_at hl 4 rfl) ?_
        refine lv_aload_n hx hb dX5_answerOn_43 rfl (lv_at hl 0 rfl) ?_
        refine hr_get (ci := 5) (C := RX5) (T := TX5) (N := 55) (r := .inr 0) hx hb hts in_X5 hown hK hM mS_0 rfl 28 (by decide) (hts _ q1396) rfl (v := .ref (ad (.inr 29))) rfl dX5_answerOn_44 ?_
        refine lv_iload_n hx hb dX5_answerOn_47 rfl (lv_at hl 3 rfl) ?_
        refine hm_iald (r := 29) hx hb hK hM 0 mS_29 rfl hf dX5_answerOn_48 (fun x3 hf => ?_)
        obtain ⟨y4, hq, hf⟩ := hbind hf
        refine hr_calli0 (va_runV (As := [.ref (ad (.inr 28)), .int p2, .int v4_3, .int x3]) (rest := []) ⟨hx, hb, hml, hown, hts⟩ (met_m_sandFor l D C a0 s0 ad so t lt y2 28 p2 v4_3 x3 ms_28 hq) (cwV 4 hts (lw_V q1720 q1722 qs57 q99 q1723) rfl rfl rfl (by decide +kernel) ⟨(by first | exact Nat.le_of_ble_eq_true rfl | (simp only [rm_m_answerOn, rm_m_loadRow, rm_m_sandFor, rm_m_whomOf]; omega)), (by first | exact Nat.le_of_ble_eq_true rfl | (simp only [rm_m_answerOn, rm_m_loadRow, rm_m_sandFor, rm_m_whomOf]; omega))⟩) (hr_preV hZ_c hM hIx hK hZ0 hA0 hS (r := .inr 0) mS_0 (q := (RX5, TX5, 55)) rfl) rfl rfl hl.1 rfl (lv_room (Nat.le_of_ble_eq_true rfl)) dX5_answerOn_49 ⟨(by first | exact Nat.le_of_ble_eq_true rfl | (simp only [rm_m_answerOn, rm_m_loadRow, rm_m_sandFor, rm_m_whomOf]; omega)), (by first | exact Nat.le_of_ble_eq_true rfl | (simp only [rm_m_answerOn, rm_m_loadRow, rm_m_sandFor, rm_m_whomOf]; omega))⟩) hS (fun H locs hM hS => ?_)
        refine lv_istore (lv' := [(5, .int y4), (0, .ref (ad (.inr 0))), (1, .int p0), (2, .int p1), (3, .int p2), (4, .int v4_3)]) hx hb dX5_answerOn_52 hl (by decide) rfl (fun ls hl => ?_)
        refine lv_iload hx hb dX5_answerOn_54 (lv_at hl 0 rfl) ?_
        refine lv_iconst (v := -1) hx hb dX5_answerOn_56 (by decide) ?_
        refine hb_icmp_ne (tgt := 63) hx hb dX5_answerOn_57 (by decide) hf (fun hf => ?_) (fun hf => ?_)
        · refine lv_aload_n hx hb dX5_answerOn_63 rfl (lv_at hl 1 rfl) ?_
          refine hr_get (ci := 5) (C := RX5) (T := TX5) (N := 55) (r := .inr 0) hx hb hts in_X5 hown hK hM mS_0 rfl 34 (by decide) (hts _ q1402) rfl (v := .int (y2 0 34)) rfl dX5_answerOn_64 ?_
          refine lv_sipush (v := 20000) hx hb dX5_answerOn_67 (by decide) ?_
          refine hb_icmp_ne (tgt := 79) hx hb dX5_answerOn_70 (by decide) hf (fun hf => ?_) (fun hf => ?_)
          · refine lv_aload_n hx hb dX5_answerOn_79 rfl (lv_at hl 1 rfl) ?_
            refine lv_dup hx hb dX5_answerOn_80 rfl ?_
            refine hr_get (ci := 5) (C := RX5) (T := TX5) (N := 55) (r := .inr 0) hx hb hts in_X5 hown hK hM mS_0 rfl 34 (by decide) (hts _ q1402) rfl (v := .int (y2 0 34)) rfl dX5_answerOn_81 ?_
            refine lv_iconst (v := 1) hx hb dX5_answerOn_84 (by decide) ?_
            refine lv_iadd hx hb dX5_answerOn_85 ?_
            refine hm_put (r := 0) (ci := 5) (C := RX5) (T := TX5) (N := 55) hx hb hts in_X5 tyX5 tyX5_ok nmX5 hown hK hM hIx hS mS_0 rfl 34 (by decide) (hts _ q1402) rfl rfl rfl hf dX5_answerOn_86 (fun g5 H locs hf hM hS => ?_)
            refine lv_aload_n hx hb dX5_answerOn_89 rfl (lv_at hl 1 rfl) ?_
            refine lv_aload_n hx hb dX5_answerOn_90 rfl (lv_at hl 1 rfl) ?_
            refine hr_get (ci := 5) (C := RX5) (T := TX5) (N := 55) (r := .inr 0) hx hb hts in_X5 hown hK hM mS_0 rfl 27 (by decide) (hts _ q1395) rfl (v := .ref (ad (.inr 28))) rfl dX5_answerOn_91 ?_
            refine lv_iload_n hx hb dX5_answerOn_94 rfl (lv_at hl 4 rfl) ?_
            refine lv_aload_n hx hb dX5_answerOn_95 rfl (lv_at hl 1 rfl) ?_
            refine hr_get (ci := 5) (C := RX5) (T := TX5) (N := 55) (r := .inr 0) hx hb hts in_X5 hown hK hM mS_0 rfl 29 (by decide) (hts _ q1397) rfl (v := .ref (ad (.inr 30))) rfl dX5_answerOn_96 ?_
            refine lv_iload_n hx hb dX5_answerOn_99 rfl (lv_at hl 4 rfl) ?_
            refine hm_iald (r := 30) hx hb hK hM 0 mS_30 rfl hf dX5_answerOn_100 (fun x6 hf => ?_)
            obtain ⟨y7, hq, hf⟩ := hbind hf
            refine hr_calli0 (va_runV (As := [.ref (ad (.inr 28)), .int p2, .int x6]) (rest := []) ⟨hx, hb, hml, hown, hts⟩ (met_m_whomOf l D C a0 s0 ad so t lt g5 28 p2 x6 ms_28 hq) (cwV 3 hts (lw_V q1739 q1741 qs60 q99 q1742) rfl rfl rfl (by decide +kernel) ⟨(by first | exact Nat.le_of_ble_eq_true rfl | (simp only [rm_m_answerOn, rm_m_loadRow, rm_m_sandFor, rm_m_whomOf]; omega)), (by first | exact Nat.le_of_ble_eq_true rfl | (simp only [rm_m_answerOn, rm_m_loadRow, rm_m_sandFor, rm_m_whomOf]; omega))⟩) (hr_preV hZ_c hM hIx hK hZ0 hA0 hS (r := .inr 0) mS_0 (q := (RX5, TX5, 55)) rfl) rfl rfl hl.1 rfl (lv_room (Nat.le_of_ble_eq_true rfl)) dX5_answerOn_101 ⟨(by first | exact Nat.le_of_ble_eq_true rfl | (simp only [rm_m_answerOn, rm_m_loadRow, rm_m_sandFor, rm_m_whomOf]; omega)), (by first | exact Nat.le_of_ble_eq_true rfl | (simp only [rm_m_answerOn, rm_m_loadRow, rm_m_sandFor, rm_m_whomOf]; omega))⟩) hS (fun H locs hM hS => ?_)
            refine lv_istore (lv' := [(6, .int y7), (5, .int y4), (0, .ref (ad (.inr 0))), (1, .int p0), (2, .int p1), (3, .int p2), (4, .int v4_3)]) hx hb dX5_answerOn_104 hl (by decide) rfl (fun ls hl => ?_)
            refine lv_iconst (v := 0) hx hb dX5_answerOn_106 (by decide) ?_
            refine lv_istore (lv' := [(7, .int (0 : Int32)), (6, .int y7), (5, .int y4), (0, .ref (ad (.inr 0))), (1, .int p0), (2, .int p1), (3, .int p2), (4, .int v4_3)]) hx hb dX5_answerOn_107 hl (by decide) rfl (fun ls hl => ?_)
            obtain ⟨x12, hq, hf⟩ := hbind hf
            refine w_m_answerOn_L109 ⟨hx, hb, hr, hml, hown, hts, hlocks, hK, hZ0, hA0⟩ hIx rcf g p0 p1 p2 v4_3 g_3 x1 y2 x3 y4 g5 x6 y7 rmR hmR h_rec x12 hFU ((0 : Int32), g5) hq (fun H locs ls hM hS hl => ?_) H locs ls hM hS (lv_sub hl [3, 4, 5, 6, 7, 2, 1, 0] rfl)
            refine lv_aload_n hx hb dX5_answerOn_146 rfl (lv_at hl 0 rfl) ?_
            refine hr_get (ci := 5) (C := RX5) (T := TX5) (N := 55) (r := .inr 0) hx hb hts in_X5 hown hK hM mS_0 rfl 27 (by decide) (hts _ q1395) rfl (v := .ref (ad (.inr 28))) rfl dX5_answerOn_147 ?_
            refine lv_bipush (v := 12) hx hb dX5_answerOn_150 (by decide) ?_
            refine lv_iload_n hx hb dX5_answerOn_152 rfl (lv_at hl 3 rfl) ?_
            refine lv_iadd hx hb dX5_answerOn_153 ?_
            refine lv_dup2_11 hx hb dX5_answerOn_154 rfl rfl ?_
            refine hm_iald (r := 28) hx hb hK hM 0 mS_28 rfl hf dX5_answerOn_155 (fun x13 hf => ?_)
            refine lv_iload hx hb dX5_answerOn_156 (lv_at hl 5 rfl) ?_
            refine lv_isub hx hb dX5_answerOn_158 ?_
            refine hm_iast (r := 28) hx hb hK hM hIx hS 0 mS_28 rfl hf dX5_answerOn_159 (fun g14 H locs hf hM hS => ?_)
            refine lv_aload_n hx hb dX5_answerOn_160 rfl (lv_at hl 0 rfl) ?_
            refine hr_get (ci := 5) (C := RX5) (T := TX5) (N := 55) (r := .inr 0) hx hb hts in_X5 hown hK hM mS_0 rfl 27 (by decide) (hts _ q1395) rfl (v := .ref (ad (.inr 28))) rfl dX5_answerOn_161 ?_
            refine lv_bipush (v := 12) hx hb dX5_answerOn_164 (by decide) ?_
            refine lv_iload hx hb dX5_answerOn_166 (lv_at hl 6 rfl) ?_
            refine lv_iadd hx hb dX5_answerOn_168 ?_
            refine lv_dup2_11 hx hb dX5_answerOn_169 rfl rfl ?_
            refine hm_iald (r := 28) hx hb hK hM 0 mS_28 rfl hf dX5_answerOn_170 (fun x15 hf => ?_)
            refine lv_iload hx hb dX5_answerOn_171 (lv_at hl 5 rfl) ?_
            refine lv_iadd hx hb dX5_answerOn_173 ?_
            refine hm_iast (r := 28) hx hb hK hM hIx hS 0 mS_28 rfl hf dX5_answerOn_174 (fun g16 H locs hf hM hS => ?_)
            refine lv_iconst (v := 0) hx hb dX5_answerOn_175 (by decide) ?_
            refine lv_istore (lv' := [(7, .int (0 : Int32)), (0, .ref (ad (.inr 0))), (1, .int p0), (2, .int p1), (3, .int p2), (4, .int v4_3), (5, .int y4), (6, .int y7)]) hx hb dX5_answerOn_176 hl (by decide) rfl (fun ls hl => ?_)
            obtain ⟨x20, hq, hf⟩ := hbind hf
            refine w_m_answerOn_L178 ⟨hx, hb, hr, hml, hown, hts, hlocks, hK, hZ0, hA0⟩ hIx rcf g p0 p1 p2 v4_3 g_3 x1 y2 x3 y4 g5 x6 y7 x12 x13 g14 x15 g16 rmR hmR h_rec x20 hFU ((0 : Int32), g16) hq (fun H locs ls hM hS hl => ?_) H locs ls hM hS (lv_sub hl [1, 2, 3, 4, 5, 0] rfl)
            refine lv_aload_n hx hb dX5_answerOn_212 rfl (lv_at hl 0 rfl) ?_
            refine lv_iload_n hx hb dX5_answerOn_213 rfl (lv_at hl 1 rfl) ?_
            refine lv_iconst (v := 1) hx hb dX5_answerOn_214 (by decide) ?_
            refine lv_iadd hx hb dX5_answerOn_215 ?_
            refine lv_iload_n hx hb dX5_answerOn_216 rfl (lv_at hl 2 rfl) ?_
            refine lv_iconst (v := 1) hx hb dX5_answerOn_217 (by decide) ?_
            refine lv_iload_n hx hb dX5_answerOn_218 rfl (lv_at hl 3 rfl) ?_
            refine lv_ishl hx hb dX5_answerOn_219 ?_
            refine lv_ior hx hb dX5_answerOn_220 ?_
            obtain ⟨y21, hq, hf⟩ := hbind hf
            refine hr_callv0 (va_runV (As := [.int (p0 + (1 : Int32)), .int (p1 ||| ((1 : Int32) <<< (p2 &&& (31 : Int32))))]) (rest := []) ⟨hx, hb, hml, hown, hts⟩ (h_rec x20 (p0 + (1 : Int32)) (p1 ||| ((1 : Int32) <<< (p2 &&& (31 : Int32)))) _ hq) (cwV 2 hts (lw_V q1752 q1754 qs61 q99 q1755) rfl hmR.1 hmR.2 (by decide +kernel) ⟨(by first | exact Nat.le_of_ble_eq_true rfl | (simp only [rm_m_answerOn, rm_m_loadRow, rm_m_sandFor, rm_m_whomOf]; omega)), (by first | exact Nat.le_of_ble_eq_true rfl | (simp only [rm_m_answerOn, rm_m_loadRow, rm_m_sandFor, rm_m_whomOf]; omega))⟩) (hr_preV hZ_c hM hIx hK hZ0 hA0 hS (r := .inr 0) mS_0 (q := (RX5, TX5, 55)) rfl) rfl rfl hl.1 rfl (lv_room (Nat.le_of_ble_eq_true rfl)) dX5_answerOn_221 ⟨(by first | exact Nat.le_of_ble_eq_true rfl | (simp only [rm_m_answerOn, rm_m_loadRow, rm_m_sandFor, rm_m_whomOf]; omega)), (by first | exact Nat.le_of_ble_eq_true rfl | (simp only [rm_m_answerOn, rm_m_loadRow, rm_m_sandFor, rm_m_whomOf]; omega))⟩) hS (fun H locs hM hS => ?_)
            obtain ⟨y4_22, ey, hf⟩ := hlet_ex hf
            refine lv_iinc (v := y4_22) (lv' := [(4, .int y4_22), (0, .ref (ad (.inr 0))), (1, .int p0), (2, .int p1), (3, .int p2)]) hx hb dX5_answerOn_224 hl (k := 4) rfl (by rw [ey]; rfl) (by decide) rfl (fun ls hl => ?_)
            refine lv_goto (tgt := 3) hx hb dX5_answerOn_227 (by decide) ?_
            exact kc (y4_22, y21) (Option.some.inj hf).symm H locs ls hM hS (lv_sub hl [1, 2, 3, 4, 0] rfl)
          · refine lv_aload_n hx hb dX5_answerOn_73 rfl (lv_at hl 1 rfl) ?_
            refine lv_iconst (v := 1) hx hb dX5_answerOn_74 (by decide) ?_
            refine hm_putz (r := 0) (ci := 5) (C := RX5) (T := TX5) (N := 55) hx hb hts in_X5 tyX5 tyX5_ok nmX5 hown hK hM hIx hS mS_0 rfl 36 (by decide) (hts _ q1404) rfl rfl rfl hf dX5_answerOn_75 (fun g23 H locs hf hM hS => ?_)
            have eo := kr g23 (Option.some.inj hf).symm
            subst eo
            exact W.vret hx hb hr (fun T ht hW => ⟨⟨(), rfl, trivial, by dsimp only; rw [ht]; exact hM⟩, hS.F ht⟩) hS.2.2 dX5_answerOn_78
        · refine lv_goto (tgt := 224) hx hb dX5_answerOn_60 (by decide) ?_
          obtain ⟨y4_24, ey, hf⟩ := hlet_ex hf
          refine lv_iinc (v := y4_24) (lv' := [(4, .int y4_24), (5, .int y4), (0, .ref (ad (.inr 0))), (1, .int p0), (2, .int p1), (3, .int p2)]) hx hb dX5_answerOn_224 hl (k := 5) rfl (by rw [ey]; rfl) (by decide) rfl (fun ls hl => ?_)
          refine lv_goto (tgt := 3) hx hb dX5_answerOn_227 (by decide) ?_
          exact kc (y4_24, y2) (Option.some.inj hf).symm H locs ls hM hS (lv_sub hl [2, 3, 4, 5, 0] rfl)
set_option maxHeartbeats 4000000 in
set_option maxRecDepth 100000 in
theorem w_m_answerOn {p : Program} {l : Launch} {e : Env} {s : State} {m : MethodId} {args : Array Value} {below : List Frame} {meth : Method} {c : Code} {D : va_G} {C : Nat → Nat} {a0 : Array Value} {s0 : State} {ad : Rl → Nat} {so : Nat → Option hS} {t : hSt} {lt : Rl → Nat → Int64} (CX : hCx D C a0 s0 p s m args meth c cX5_answerOn 8 RX5 (none)) (hIx : hI (hA s0) ad (Sum.elim so (mSH C))) (rcf : hSt → Int32 → Int32 → Option (hSt)) (g : hSt) (p0 : Int32) (p1 : Int32) (p2 : Int32) (rmR : Room) (hmR : rmR.cells = 0 ∧ rmR.slots = 0) (h_rec : ∀ (g : hSt) (p0 : Int32) (p1 : Int32) (o : hSt), rcf g p0 p1 = some o → Met l yX5_weekOn (ws_ yX5_weekOn cX5_weekOn 4 (none)) rmR (va_Pc [.ref (ad (.inr 0)), .int p0, .int p1] (hB D vwCl (hT C) (hA s0) (hZ a0 s0) ad (Sum.elim so (mSH C)) (Sum.elim t g) lt)) (va_Qv (fun (_ : Unit) => True) (fun (_ : Unit) (U : State) => hW D vwCl ad (Sum.elim so (mSH C)) (Sum.elim t o) lt U.heap) (hA s0)) 0 0 (hA s0)) {o : hSt} (hf : m_answerOn rcf g p0 p1 p2 = some o) {H : Heap} {locs : List Loc} (hM : hW D vwCl ad (Sum.elim so (mSH C)) (Sum.elim t g) lt H) (hS : va_S (hA s0) s.heap H locs) {ls : Array Slot} (hl : lv_has ls 8 [(0, .ref (ad (.inr 0))), (1, .int p0), (2, .int p1), (3, .int p2)]) : W p l e (rm_m_answerOn rmR) s m args below meth c H locs 0 0 (MQ below (va_Qv (fun (_ : Unit) => True) (fun (_ : Unit) (U : State) => hW D vwCl ad (Sum.elim so (mSH C)) (Sum.elim t o) lt U.heap) (hA s0)) args s 0 0 (hA s0)) (F0 m 0 ls []) := by
  obtain ⟨hx, hb, hr, hml, hown, hts, hlocks, hK, hZ0, hA0⟩ := CX
  unfold m_answerOn at hf
  refine lv_iconst (v := 0) hx hb dX5_answerOn_0 (by decide) ?_
  refine lv_istore (lv' := [(4, .int (0 : Int32)), (0, .ref (ad (.inr 0))), (1, .int p0), (2, .int p1), (3, .int p2)]) hx hb dX5_answerOn_1 hl (by decide) rfl (fun ls hl => ?_)
  obtain ⟨x25, hq, hf⟩ := hbind hf
  refine w_m_answerOn_L3 ⟨hx, hb, hr, hml, hown, hts, hlocks, hK, hZ0, hA0⟩ hIx rcf g p0 p1 p2 rmR hmR h_rec x25 hFU ((0 : Int32), g) hq (fun e26 ex1 H locs ls hM hS hl => ?_) (fun r er => ?_) H locs ls hM hS (lv_sub hl [1, 2, 3, 4, 0] rfl)
  · subst ex1
    replace hf := hcase_l hf
    have eo := Option.some.inj hf
    subst eo
    exact W.vret hx hb hr (fun T ht hW => ⟨⟨(), rfl, trivial, by dsimp only; rw [ht]; exact hM⟩, hS.F ht⟩) hS.2.2 dX5_answerOn_230
  · subst er
    first | exact Option.some.inj (hcase_r hf) | exact Option.some.inj hf
set_option maxHeartbeats 4000000 in
set_option maxRecDepth 100000 in
theorem met_m_answerOn (l : Launch) (D : va_G) (C : Nat → Nat) (a0 : Array Value) (s0 : State) (ad : Rl → Nat) (so : Nat → Option hS) (t : hSt) (lt : Rl → Nat → Int64) (rcf : hSt → Int32 → Int32 → Option (hSt)) (g : hSt) (p0 : Int32) (p1 : Int32) (p2 : Int32) (rmR : Room) (hmR : rmR.cells = 0 ∧ rmR.slots = 0) (h_rec : ∀ (g : hSt) (p0 : Int32) (p1 : Int32) (o : hSt), rcf g p0 p1 = some o → Met l yX5_weekOn (ws_ yX5_weekOn cX5_weekOn 4 (none)) rmR (va_Pc [.ref (ad (.inr 0)), .int p0, .int p1] (hB D vwCl (hT C) (hA s0) (hZ a0 s0) ad (Sum.elim so (mSH C)) (Sum.elim t g) lt)) (va_Qv (fun (_ : Unit) => True) (fun (_ : Unit) (U : State) => hW D vwCl ad (Sum.elim so (mSH C)) (Sum.elim t o) lt U.heap) (hA s0)) 0 0 (hA s0)) {o : hSt} (hf : m_answerOn rcf g p0 p1 p2 = some o) : Met l yX5_answerOn (ws_ yX5_answerOn cX5_answerOn 8 (none)) (rm_m_answerOn rmR) (va_Pc [.ref (ad (.inr 0)), .int p0, .int p1, .int p2] (hB D vwCl (hT C) (hA s0) (hZ a0 s0) ad (Sum.elim so (mSH C)) (Sum.elim t g) lt)) (va_Qv (fun (_ : Unit) => True) (fun (_ : Unit) (U : State) => hW D vwCl ad (Sum.elim so (mSH C)) (Sum.elim t o) lt U.heap) (hA s0)) 0 0 (hA s0) := by
  refine Met.ofW (cc := cX5_answerOn) (maxL := 8) (ret := (none)) (by decide) rfl ?_
  intro p e s m args below meth c s₁ B hml hv
  obtain ⟨rfl, hM, hIx, hK, hZ0, hA0⟩ := hv
  have hl := lv_entry ([.ref (ad (.inr 0)), .int p0, .int p1, .int p2]) (n := 8) (by first | exact Nat.le_of_ble_eq_true rfl | (simp only [rm_m_answerOn, rm_m_loadRow, rm_m_sandFor, rm_m_whomOf]; omega))
  rw [lg_entry_eq]
  generalize (lg_sl ([.ref (ad (.inr 0)), .int p0, .int p1, .int p2]) ++ List.replicate (8 - (lg_sl ([.ref (ad (.inr 0)), .int p0, .int p1, .int p2])).length) Slot.unset).toArray = ls at hl ⊢
  have hl : lv_has ls 8 [(0, .ref (ad (.inr 0))), (1, .int p0), (2, .int p1), (3, .int p2)] := hl
  exact w_m_answerOn ⟨B.exec, B.bytes, B.returns, hml, findClass_of_methodNamed B.named, fun w h => atoms_spec (ws := ws_ yX5_answerOn cX5_answerOn 8 (none)) B.pre w (List.mem_cons_of_mem _ h), B.notSynchronized, hK, hZ0, hA0⟩ hIx rcf g p0 p1 p2 rmR hmR h_rec hf hM va_S.rf hl

def rm_m_weekOn (rmR : Room) : Room := { frames := rmR.frames + 10, cells := 0, slots := 0, locals := rmR.locals + 109 }
set_option maxHeartbeats 4000000 in
set_option maxRecDepth 100000 in
theorem w_m_weekOn_L28 {p : Program} {l : Launch} {e : Env} {s : State} {m : MethodId} {args : Array Value} {below : List Frame} {meth : Method} {c : Code} {D : va_G} {C : Nat → Nat} {a0 : Array Value} {s0 : State} {ad : Rl → Nat} {so : Nat → Option hS} {t : hSt} {lt : Rl → Nat → Int64} (CX : hCx D C a0 s0 p s m args meth c cX5_weekOn 4 RX5 (none)) (hIx : hI (hA s0) ad (Sum.elim so (mSH C))) (rcf : hSt → Int32 → Int32 → Option (hSt)) (g : hSt) (p0 : Int32) (p1 : Int32) (g1 : hSt) (rmR : Room) (hmR : rmR.cells = 0 ∧ rmR.slots = 0) (h_rec : ∀ (g : hSt) (p0 : Int32) (p1 : Int32) (o : hSt), rcf g p0 p1 = some o → Met l yX5_weekOn (ws_ yX5_weekOn cX5_weekOn 4 (none)) rmR (va_Pc [.ref (ad (.inr 0)), .int p0, .int p1] (hB D vwCl (hT C) (hA s0) (hZ a0 s0) ad (Sum.elim so (mSH C)) (Sum.elim t g) lt)) (va_Qv (fun (_ : Unit) => True) (fun (_ : Unit) (U : State) => hW D vwCl ad (Sum.elim so (mSH C)) (Sum.elim t o) lt U.heap) (hA s0)) 0 0 (hA s0)) {oM : hSt} (x : hSt) (n : Nat) (q0 : Int32 × hSt) (h0 : hiter (fun q : Int32 × hSt => m_weekOn_L28 rcf p0 p1 q.1 q.2) n q0 = some x) (kx0 : ∀ (H : Heap) (locs : List Loc) (ls : Array Slot), hW D vwCl ad (Sum.elim so (mSH C)) (Sum.elim t x) lt H → va_S (hA s0) s.heap H locs → lv_has ls 4 [] → W p l e (rm_m_weekOn rmR) s m args below meth c H locs 0 0 (MQ below (va_Qv (fun (_ : Unit) => True) (fun (_ : Unit) (U : State) => hW D vwCl ad (Sum.elim so (mSH C)) (Sum.elim t oM) lt U.heap) (hA s0)) args s 0 0 (hA s0)) (F0 m 93 ls [])) : ∀ (H : Heap) (locs : List Loc) (ls : Array Slot), hW D vwCl ad (Sum.elim so (mSH C)) (Sum.elim t q0.2) lt H → va_S (hA s0) s.heap H locs → lv_has ls 4 [(0, .ref (ad (.inr 0))), (1, .int p0), (2, .int p1), (3, .int q0.1)] → W p l e (rm_m_weekOn rmR) s m args below meth c H locs 0 0 (MQ below (va_Qv (fun (_ : Unit) => True) (fun (_ : Unit) (U : State) => hW D vwCl ad (Sum.elim so (mSH C)) (Sum.elim t oM) lt U.heap) (hA s0)) args s 0 0 (hA s0)) (F0 m 28 ls []) := by
  obtain ⟨hx, hb, hr, hml, hown, hts, hlocks, hK, hZ0, hA0⟩ := CX
  refine hiter_W (Wh := fun q => ∀ (H : Heap) (locs : List Loc) (ls : Array Slot), hW D vwCl ad (Sum.elim so (mSH C)) (Sum.elim t q.2) lt H → va_S (hA s0) s.heap H locs → lv_has ls 4 [(0, .ref (ad (.inr 0))), (1, .int p0), (2, .int p1), (3, .int q.1)] → W p l e (rm_m_weekOn rmR) s m args below meth c H locs 0 0 (MQ below (va_Qv (fun (_ : Unit) => True) (fun (_ : Unit) (U : State) => hW D vwCl ad (Sum.elim so (mSH C)) (Sum.elim t oM) lt U.heap) (hA s0)) args s 0 0 (hA s0)) (F0 m 28 ls [])) ?_ n q0 h0
  intro q o hf kc kx1 H locs ls hM hS hl
  obtain ⟨v3_28, g_28⟩ := q
  replace hf : m_weekOn_L28 rcf p0 p1 v3_28 g_28 = some o := hf
  have kx : ∀ x' : hSt, o = .inr x' → ∀ (H : Heap) (locs : List Loc) (ls : Array Slot), hW D vwCl ad (Sum.elim so (mSH C)) (Sum.elim t x') lt H → va_S (hA s0) s.heap H locs → lv_has ls 4 [] → W p l e (rm_m_weekOn rmR) s m args below meth c H locs 0 0 (MQ below (va_Qv (fun (_ : Unit) => True) (fun (_ : Unit) (U : State) => hW D vwCl ad (Sum.elim so (mSH C)) (Sum.elim t oM) lt U.heap) (hA s0)) args s 0 0 (hA s0)) (F0 m 93 ls []) := fun x' ex => by rw [kx1 _ ex]; exact kx0
  unfold m_weekOn_L28 at hf
  refine lv_iload_n hx hb dX5_weekOn_28 rfl (lv_at hl 3 rfl) ?_
  refine lv_aload_n hx hb dX5_weekOn_29 rfl (lv_at hl 0 rfl) ?_
  refine hr_get (ci := 5) (C := RX5) (T := TX5) (N := 55) (r := .inr 0) hx hb hts in_X5 hown hK hM mS_0 rfl 2 (by decide) (hts _ q1370) rfl (v := .ref (ad (.inr 3))) rfl dX5_weekOn_30 ?_
  refine lv_iconst (v := 0) hx hb dX5_weekOn_33 (by decide) ?_
  refine hm_iald (r := 3) hx hb hK hM 0 mS_3 rfl hf dX5_weekOn_34 (fun x2 hf => ?_)
  refine hb_icmp_ge (tgt := 93) hx hb dX5_weekOn_35 (by decide) hf (fun hf => ?_) (fun hf => ?_)
  · exact kx g_28 (Option.some.inj hf).symm H locs ls hM hS (lv_sub hl [] rfl)
  · refine lv_aload_n hx hb dX5_weekOn_38 rfl (lv_at hl 0 rfl) ?_
    refine hr_get (ci := 5) (C := RX5) (T := TX5) (N := 55) (r := .inr 0) hx hb hts in_X5 hown hK hM mS_0 rfl 37 (by decide) (hts _ q1405) rfl (v := .int (g_28 0 37)) rfl dX5_weekOn_39 ?_
    refine hb_if_ne (tgt := 93) hx hb dX5_weekOn_42 (by decide) hf (fun hf => ?_) (fun hf => ?_)
    · exact kx g_28 (Option.some.inj hf).symm H locs ls hM hS (lv_sub hl [] rfl)
    · refine lv_aload_n hx hb dX5_weekOn_45 rfl (lv_at hl 0 rfl) ?_
      refine hr_get (ci := 5) (C := RX5) (T := TX5) (N := 55) (r := .inr 0) hx hb hts in_X5 hown hK hM mS_0 rfl 36 (by decide) (hts _ q1404) rfl (v := .int (g_28 0 36)) rfl dX5_weekOn_46 ?_
      refine hb_if_ne (tgt := 93) hx hb dX5_weekOn_49 (by decide) hf (fun hf => ?_) (fun hf => ?_)
      · exact kx g_28 (Option.some.inj hf).symm H locs ls hM hS (lv_sub hl [] rfl)
      · refine lv_aload_n hx hb dX5_weekOn_52 rfl (lv_at hl 0 rfl) ?_
        refine hr_get (ci := 5) (C := RX5) (T := TX5) (N := 55) (r := .inr 0) hx hb hts in_X5 hown hK hM mS_0 rfl 28 (by decide) (hts _ q1396) rfl (v := .ref (ad (.inr 29))) rfl dX5_weekOn_53 ?_
        refine lv_iload_n hx hb dX5_weekOn_56 rfl (lv_at hl 3 rfl) ?_
        refine hm_iald (r := 29) hx hb hK hM 0 mS_29 rfl hf dX5_weekOn_57 (fun x3 hf => ?_)
        refine hb_if_eq (tgt := 87) hx hb dX5_weekOn_58 (by decide) hf (fun hf => ?_) (fun hf => ?_)
        · obtain ⟨y3_4, ey, hf⟩ := hlet_ex hf
          refine lv_iinc (v := y3_4) (lv' := [(3, .int y3_4), (0, .ref (ad (.inr 0))), (1, .int p0), (2, .int p1)]) hx hb dX5_weekOn_87 hl (k := 3) rfl (by rw [ey]; rfl) (by decide) rfl (fun ls hl => ?_)
          refine lv_goto (tgt := 28) hx hb dX5_weekOn_90 (by decide) ?_
          exact kc (y3_4, g_28) (Option.some.inj hf).symm H locs ls hM hS (lv_sub hl [1, 2, 3, 0] rfl)
        · refine lv_iload_n hx hb dX5_weekOn_61 rfl (lv_at hl 2 rfl) ?_
          refine lv_iload_n hx hb dX5_weekOn_62 rfl (lv_at hl 3 rfl) ?_
          refine lv_ishr hx hb dX5_weekOn_63 ?_
          refine lv_iconst (v := 1) hx hb dX5_weekOn_64 (by decide) ?_
          refine lv_iand hx hb dX5_weekOn_65 ?_
          refine lv_iconst (v := 1) hx hb dX5_weekOn_66 (by decide) ?_
          refine hb_icmp_ne (tgt := 73) hx hb dX5_weekOn_67 (by decide) hf (fun hf => ?_) (fun hf => ?_)
          · refine lv_aload_n hx hb dX5_weekOn_73 rfl (lv_at hl 0 rfl) ?_
            refine hr_get (ci := 5) (C := RX5) (T := TX5) (N := 55) (r := .inr 0) hx hb hts in_X5 hown hK hM mS_0 rfl 30 (by decide) (hts _ q1398) rfl (v := .ref (ad (.inr 31))) rfl dX5_weekOn_74 ?_
            refine lv_iload_n hx hb dX5_weekOn_77 rfl (lv_at hl 1 rfl) ?_
            refine lv_iload_n hx hb dX5_weekOn_78 rfl (lv_at hl 3 rfl) ?_
            refine hm_iast (r := 31) hx hb hK hM hIx hS 0 mS_31 rfl hf dX5_weekOn_79 (fun g5 H locs hf hM hS => ?_)
            refine lv_aload_n hx hb dX5_weekOn_80 rfl (lv_at hl 0 rfl) ?_
            refine lv_iload_n hx hb dX5_weekOn_81 rfl (lv_at hl 1 rfl) ?_
            refine lv_iload_n hx hb dX5_weekOn_82 rfl (lv_at hl 2 rfl) ?_
            refine lv_iload_n hx hb dX5_weekOn_83 rfl (lv_at hl 3 rfl) ?_
            obtain ⟨y6, hq, hf⟩ := hbind hf
            refine hr_callv0 (va_runV (As := [.int p0, .int p1, .int v3_28]) (rest := []) ⟨hx, hb, hml, hown, hts⟩ (met_m_answerOn l D C a0 s0 ad so t lt rcf g5 p0 p1 v3_28 rmR hmR h_rec hq) (cwV 3 hts (lw_V q1756 q1758 qs62 q99 q1759) rfl rfl rfl (by decide +kernel) ⟨(by first | exact Nat.le_of_ble_eq_true rfl | (simp only [rm_m_weekOn, rm_m_answerOn]; omega)), (by first | exact Nat.le_of_ble_eq_true rfl | (simp only [rm_m_weekOn, rm_m_answerOn]; omega))⟩) (hr_preV hZ_c hM hIx hK hZ0 hA0 hS (r := .inr 0) mS_0 (q := (RX5, TX5, 55)) rfl) rfl rfl hl.1 rfl (lv_room (Nat.le_of_ble_eq_true rfl)) dX5_weekOn_84 ⟨(by first | exact Nat.le_of_ble_eq_true rfl | (simp only [rm_m_weekOn, rm_m_answerOn]; omega)), (by first | exact Nat.le_of_ble_eq_true rfl | (simp only [rm_m_weekOn, rm_m_answerOn]; omega))⟩) hS (fun H locs hM hS => ?_)
            obtain ⟨y3_7, ey, hf⟩ := hlet_ex hf
            refine lv_iinc (v := y3_7) (lv' := [(3, .int y3_7), (0, .ref (ad (.inr 0))), (1, .int p0), (2, .int p1)]) hx hb dX5_weekOn_87 hl (k := 3) rfl (by rw [ey]; rfl) (by decide) rfl (fun ls hl => ?_)
            refine lv_goto (tgt := 28) hx hb dX5_weekOn_90 (by decide) ?_
            exact kc (y3_7, y6) (Option.some.inj hf).symm H locs ls hM hS (lv_sub hl [1, 2, 3, 0] rfl)
          · refine lv_goto (tgt := 87) hx hb dX5_weekOn_70 (by decide) ?_
            obtain ⟨y3_8, ey, hf⟩ := hlet_ex hf
            refine lv_iinc (v := y3_8) (lv' := [(3, .int y3_8), (0, .ref (ad (.inr 0))), (1, .int p0), (2, .int p1)]) hx hb dX5_weekOn_87 hl (k := 3) rfl (by rw [ey]; rfl) (by decide) rfl (fun ls hl => ?_)
            refine lv_goto (tgt := 28) hx hb dX5_weekOn_90 (by decide) ?_
            exact kc (y3_8, g_28) (Option.some.inj hf).symm H locs ls hM hS (lv_sub hl [1, 2, 3, 0] rfl)
set_option maxHeartbeats 4000000 in
set_option maxRecDepth 100000 in
theorem w_m_weekOn {p : Program} {l : Launch} {e : Env} {s : State} {m : MethodId} {args : Array Value} {below : List Frame} {meth : Method} {c : Code} {D : va_G} {C : Nat → Nat} {a0 : Array Value} {s0 : State} {ad : Rl → Nat} {so : Nat → Option hS} {t : hSt} {lt : Rl → Nat → Int64} (CX : hCx D C a0 s0 p s m args meth c cX5_weekOn 4 RX5 (none)) (hIx : hI (hA s0) ad (Sum.elim so (mSH C))) (rcf : hSt → Int32 → Int32 → Option (hSt)) (g : hSt) (p0 : Int32) (p1 : Int32) (rmR : Room) (hmR : rmR.cells = 0 ∧ rmR.slots = 0) (h_rec : ∀ (g : hSt) (p0 : Int32) (p1 : Int32) (o : hSt), rcf g p0 p1 = some o → Met l yX5_weekOn (ws_ yX5_weekOn cX5_weekOn 4 (none)) rmR (va_Pc [.ref (ad (.inr 0)), .int p0, .int p1] (hB D vwCl (hT C) (hA s0) (hZ a0 s0) ad (Sum.elim so (mSH C)) (Sum.elim t g) lt)) (va_Qv (fun (_ : Unit) => True) (fun (_ : Unit) (U : State) => hW D vwCl ad (Sum.elim so (mSH C)) (Sum.elim t o) lt U.heap) (hA s0)) 0 0 (hA s0)) {o : hSt} (hf : m_weekOn rcf g p0 p1 = some o) {H : Heap} {locs : List Loc} (hM : hW D vwCl ad (Sum.elim so (mSH C)) (Sum.elim t g) lt H) (hS : va_S (hA s0) s.heap H locs) {ls : Array Slot} (hl : lv_has ls 4 [(0, .ref (ad (.inr 0))), (1, .int p0), (2, .int p1)]) : W p l e (rm_m_weekOn rmR) s m args below meth c H locs 0 0 (MQ below (va_Qv (fun (_ : Unit) => True) (fun (_ : Unit) (U : State) => hW D vwCl ad (Sum.elim so (mSH C)) (Sum.elim t o) lt U.heap) (hA s0)) args s 0 0 (hA s0)) (F0 m 0 ls []) := by
  obtain ⟨hx, hb, hr, hml, hown, hts, hlocks, hK, hZ0, hA0⟩ := CX
  unfold m_weekOn at hf
  refine lv_aload_n hx hb dX5_weekOn_0 rfl (lv_at hl 0 rfl) ?_
  refine lv_aload_n hx hb dX5_weekOn_1 rfl (lv_at hl 0 rfl) ?_
  refine hr_get (ci := 5) (C := RX5) (T := TX5) (N := 55) (r := .inr 0) hx hb hts in_X5 hown hK hM mS_0 rfl 35 (by decide) (hts _ q1403) rfl (v := .int (g 0 35)) rfl dX5_weekOn_2 ?_
  refine lv_iload_n hx hb dX5_weekOn_5 rfl (lv_at hl 1 rfl) ?_
  refine va_mmax hx hb (by rw [hml]; exact hl.1.symm) hown (hts _ q1691) (hts _ q240) (hts _ q90) (hts _ q241) (by first | exact Nat.le_of_ble_eq_true rfl | (simp only [rm_m_weekOn, rm_m_answerOn]; omega)) (by first | exact Nat.le_of_ble_eq_true rfl | (simp only [rm_m_weekOn, rm_m_answerOn]; omega)) (by first | exact Nat.le_of_ble_eq_true rfl | (simp only [rm_m_weekOn, rm_m_answerOn]; omega)) (by first | exact Nat.le_of_ble_eq_true rfl | (simp only [rm_m_weekOn, rm_m_answerOn]; omega)) dX5_weekOn_6 ?_
  refine hm_put (r := 0) (ci := 5) (C := RX5) (T := TX5) (N := 55) hx hb hts in_X5 tyX5 tyX5_ok nmX5 hown hK hM hIx hS mS_0 rfl 35 (by decide) (hts _ q1403) rfl rfl rfl hf dX5_weekOn_9 (fun g1 H locs hf hM hS => ?_)
  refine lv_iload_n hx hb dX5_weekOn_12 rfl (lv_at hl 1 rfl) ?_
  refine lv_aload_n hx hb dX5_weekOn_13 rfl (lv_at hl 0 rfl) ?_
  refine hr_get (ci := 5) (C := RX5) (T := TX5) (N := 55) (r := .inr 0) hx hb hts in_X5 hown hK hM mS_0 rfl 33 (by decide) (hts _ q1401) rfl (v := .int (g1 0 33)) rfl dX5_weekOn_14 ?_
  refine hb_icmp_ne (tgt := 26) hx hb dX5_weekOn_17 (by decide) hf (fun hf => ?_) (fun hf => ?_)
  · refine lv_iconst (v := 0) hx hb dX5_weekOn_26 (by decide) ?_
    refine lv_istore_n (lv' := [(3, .int (0 : Int32)), (0, .ref (ad (.inr 0))), (1, .int p0), (2, .int p1)]) hx hb dX5_weekOn_27 rfl hl (by decide) rfl (fun ls hl => ?_)
    obtain ⟨x9, hq, hf⟩ := hbind hf
    refine w_m_weekOn_L28 ⟨hx, hb, hr, hml, hown, hts, hlocks, hK, hZ0, hA0⟩ hIx rcf g p0 p1 g1 rmR hmR h_rec x9 hFU ((0 : Int32), g1) hq (fun H locs ls hM hS hl => ?_) H locs ls hM hS (lv_sub hl [1, 2, 3, 0] rfl)
    have eo := Option.some.inj hf
    subst eo
    exact W.vret hx hb hr (fun T ht hW => ⟨⟨(), rfl, trivial, by dsimp only; rw [ht]; exact hM⟩, hS.F ht⟩) hS.2.2 dX5_weekOn_93
  · refine lv_aload_n hx hb dX5_weekOn_20 rfl (lv_at hl 0 rfl) ?_
    refine lv_iconst (v := 1) hx hb dX5_weekOn_21 (by decide) ?_
    refine hm_putz (r := 0) (ci := 5) (C := RX5) (T := TX5) (N := 55) hx hb hts in_X5 tyX5 tyX5_ok nmX5 hown hK hM hIx hS mS_0 rfl 37 (by decide) (hts _ q1405) rfl rfl rfl hf dX5_weekOn_22 (fun g10 H locs hf hM hS => ?_)
    have eo := Option.some.inj hf
    subst eo
    exact W.vret hx hb hr (fun T ht hW => ⟨⟨(), rfl, trivial, by dsimp only; rw [ht]; exact hM⟩, hS.F ht⟩) hS.2.2 dX5_weekOn_25
set_option maxHeartbeats 4000000 in
set_option maxRecDepth 100000 in
theorem met_m_weekOn (l : Launch) (D : va_G) (C : Nat → Nat) (a0 : Array Value) (s0 : State) (ad : Rl → Nat) (so : Nat → Option hS) (t : hSt) (lt : Rl → Nat → Int64) (rcf : hSt → Int32 → Int32 → Option (hSt)) (g : hSt) (p0 : Int32) (p1 : Int32) (rmR : Room) (hmR : rmR.cells = 0 ∧ rmR.slots = 0) (h_rec : ∀ (g : hSt) (p0 : Int32) (p1 : Int32) (o : hSt), rcf g p0 p1 = some o → Met l yX5_weekOn (ws_ yX5_weekOn cX5_weekOn 4 (none)) rmR (va_Pc [.ref (ad (.inr 0)), .int p0, .int p1] (hB D vwCl (hT C) (hA s0) (hZ a0 s0) ad (Sum.elim so (mSH C)) (Sum.elim t g) lt)) (va_Qv (fun (_ : Unit) => True) (fun (_ : Unit) (U : State) => hW D vwCl ad (Sum.elim so (mSH C)) (Sum.elim t o) lt U.heap) (hA s0)) 0 0 (hA s0)) {o : hSt} (hf : m_weekOn rcf g p0 p1 = some o) : Met l yX5_weekOn (ws_ yX5_weekOn cX5_weekOn 4 (none)) (rm_m_weekOn rmR) (va_Pc [.ref (ad (.inr 0)), .int p0, .int p1] (hB D vwCl (hT C) (hA s0) (hZ a0 s0) ad (Sum.elim so (mSH C)) (Sum.elim t g) lt)) (va_Qv (fun (_ : Unit) => True) (fun (_ : Unit) (U : State) => hW D vwCl ad (Sum.elim so (mSH C)) (Sum.elim t o) lt U.heap) (hA s0)) 0 0 (hA s0) := by
  refine Met.ofW (cc := cX5_weekOn) (maxL := 4) (ret := (none)) (by decide) rfl ?_
  intro p e s m args below meth c s₁ B hml hv
  obtain ⟨rfl, hM, hIx, hK, hZ0, hA0⟩ := hv
  have hl := lv_entry ([.ref (ad (.inr 0)), .int p0, .int p1]) (n := 4) (by first | exact Nat.le_of_ble_eq_true rfl | (simp only [rm_m_weekOn, rm_m_answerOn]; omega))
  rw [lg_entry_eq]
  generalize (lg_sl ([.ref (ad (.inr 0)), .int p0, .int p1]) ++ List.replicate (4 - (lg_sl ([.ref (ad (.inr 0)), .int p0, .int p1])).length) Slot.unset).toArray = ls at hl ⊢
  have hl : lv_has ls 4 [(0, .ref (ad (.inr 0))), (1, .int p0), (2, .int p1)] := hl
  exact w_m_weekOn ⟨B.exec, B.bytes, B.returns, hml, findClass_of_methodNamed B.named, fun w h => atoms_spec (ws := ws_ yX5_weekOn cX5_weekOn 4 (none)) B.pre w (List.mem_cons_of_mem _ h), B.notSynchronized, hK, hZ0, hA0⟩ hIx rcf g p0 p1 rmR hmR h_rec hf hM va_S.rf hl

def rm_m_weekR : Nat → Room
  | 0 => { frames := 1, cells := 0, slots := 0, locals := 32 }
  | d + 1 => rm_m_weekOn (rm_m_weekR d)
theorem met_m_weekR_d (l : Launch) (D : va_G) (C : Nat → Nat) (a0 : Array Value) (s0 : State) (ad : Rl → Nat) (so : Nat → Option hS) (t : hSt) (lt : Rl → Nat → Int64) : ∀ (d : Nat) (g : hSt) (p0 : Int32) (p1 : Int32) (o : hSt), m_weekR d g p0 p1 = some o → Met l yX5_weekOn (ws_ yX5_weekOn cX5_weekOn 4 (none)) (rm_m_weekR d) (va_Pc [.ref (ad (.inr 0)), .int p0, .int p1] (hB D vwCl (hT C) (hA s0) (hZ a0 s0) ad (Sum.elim so (mSH C)) (Sum.elim t g) lt)) (va_Qv (fun (_ : Unit) => True) (fun (_ : Unit) (U : State) => hW D vwCl ad (Sum.elim so (mSH C)) (Sum.elim t o) lt U.heap) (hA s0)) 0 0 (hA s0) := by
  intro d
  induction d with
  | zero => intro g p0 p1 o h; cases h
  | succ d ih => intro g p0 p1 o h; exact met_m_weekOn l D C a0 s0 ad so t lt (m_weekR d) g p0 p1 (rm_m_weekR d) (by cases d <;> exact ⟨rfl, rfl⟩) (fun g p0 p1 o h => ih g p0 p1 o h) h
theorem met_m_weekR8 (l : Launch) (D : va_G) (C : Nat → Nat) (a0 : Array Value) (s0 : State) (ad : Rl → Nat) (so : Nat → Option hS) (t : hSt) (lt : Rl → Nat → Int64) (g : hSt) (p0 : Int32) (p1 : Int32) {o : hSt} (h : m_weekR 8 g p0 p1 = some o) : Met l yX5_weekOn (ws_ yX5_weekOn cX5_weekOn 4 (none)) (rm_m_weekR 8) (va_Pc [.ref (ad (.inr 0)), .int p0, .int p1] (hB D vwCl (hT C) (hA s0) (hZ a0 s0) ad (Sum.elim so (mSH C)) (Sum.elim t g) lt)) (va_Qv (fun (_ : Unit) => True) (fun (_ : Unit) (U : State) => hW D vwCl ad (Sum.elim so (mSH C)) (Sum.elim t o) lt U.heap) (hA s0)) 0 0 (hA s0) := met_m_weekR_d l D C a0 s0 ad so t lt 8 g p0 p1 o h
def rm_m_week : Room := { frames := 147, cells := 0, slots := 0, locals := 1576 }
set_option maxHeartbeats 4000000 in
set_option maxRecDepth 100000 in
theorem w_m_week_B96 {p : Program} {l : Launch} {e : Env} {s : State} {m : MethodId} {args : Array Value} {below : List Frame} {meth : Method} {c : Code} {D : va_G} {C : Nat → Nat} {a0 : Array Value} {s0 : State} {ad : Rl → Nat} {so : Nat → Option hS} {t : hSt} {lt : Rl → Nat → Int64} (CX : hCx D C a0 s0 p s m args meth c cX5_week 3 RX5 (some .int)) (hIx : hI (hA s0) ad (Sum.elim so (mSH C))) (g : hSt) (p0 : Int32) (g1 : hSt) (y2 : Int32) (g3 : hSt) (v2_27 : Int32) (g_27 : hSt) (x4 : Int32) (k0_61 : Int32) (k1_61 : Int32) (g5 : hSt) (x6 : Int32) (g7 : hSt) (x8 : Int32) (k0_96 : Int32) (k1_96 : Int32) {oM : Int32 × hSt} {o : (Int32 × hSt) ⊕ (hSt)} (hf : m_week_B96 v2_27 g7 k0_96 k1_96 = some o) (kc : ∀ s' : Int32 × hSt, o = .inl s' → ∀ (H : Heap) (locs : List Loc) (ls : Array Slot), hW D vwCl ad (Sum.elim so (mSH C)) (Sum.elim t s'.2) lt H → va_S (hA s0) s.heap H locs → lv_has ls 3 [(0, .ref (ad (.inr 0))), (1, .int p0), (2, .int s'.1)] → W p l e rm_m_week s m args below meth c H locs 0 0 (MQ below (va_Qi (fun (r : Int32) (_ : Unit) => r = oM.1) (fun (_ : Unit) (U : State) => hW D vwCl ad (Sum.elim so (mSH C)) (Sum.elim t oM.2) lt U.heap) (hA s0)) args s 0 0 (hA s0)) (F0 m 27 ls [])) (kx : ∀ x' : hSt, o = .inr x' → ∀ (H : Heap) (locs : List Loc) (ls : Array Slot), hW D vwCl ad (Sum.elim so (mSH C)) (Sum.elim t x') lt H → va_S (hA s0) s.heap H locs → lv_has ls 3 [(0, .ref (ad (.inr 0))), (1, .int p0)] → W p l e rm_m_week s m args below meth c H locs 0 0 (MQ below (va_Qi (fun (r : Int32) (_ : Unit) => r = oM.1) (fun (_ : Unit) (U : State) => hW D vwCl ad (Sum.elim so (mSH C)) (Sum.elim t oM.2) lt U.heap) (hA s0)) args s 0 0 (hA s0)) (F0 m 106 ls [])) {H : Heap} {locs : List Loc} (hM : hW D vwCl ad (Sum.elim so (mSH C)) (Sum.elim t g7) lt H) (hS : va_S (hA s0) s.heap H locs) {ls : Array Slot} (hl : lv_has ls 3 [(0, .ref (ad (.inr 0))), (1, .int p0), (2, .int v2_27)]) : W p l e rm_m_week s m args below meth c H locs 0 0 (MQ below (va_Qi (fun (r : Int32) (_ : Unit) => r = oM.1) (fun (_ : Unit) (U : State) => hW D vwCl ad (Sum.elim so (mSH C)) (Sum.elim t oM.2) lt U.heap) (hA s0)) args s 0 0 (hA s0)) (F0 m 96 ls [.int k0_96, .int k1_96, .ref (ad (.inr 0))]) := by
  obtain ⟨hx, hb, hr, hml, hown, hts, hlocks, hK, hZ0, hA0⟩ := CX
  unfold m_week_B96 at hf
  refine lv_iadd hx hb dX5_week_96 ?_
  refine hm_put (r := 0) (ci := 5) (C := RX5) (T := TX5) (N := 55) hx hb hts in_X5 tyX5 tyX5_ok nmX5 hown hK hM hIx hS mS_0 rfl 33 (by decide) (hts _ q1401) rfl rfl rfl hf dX5_week_97 (fun g9 H locs hf hM hS => ?_)
  obtain ⟨y2_10, ey, hf⟩ := hlet_ex hf
  refine lv_iinc (v := y2_10) (lv' := [(2, .int y2_10), (0, .ref (ad (.inr 0))), (1, .int p0)]) hx hb dX5_week_100 hl (k := 2) rfl (by rw [ey]; rfl) (by decide) rfl (fun ls hl => ?_)
  refine lv_goto (tgt := 27) hx hb dX5_week_103 (by decide) ?_
  exact kc (y2_10, g9) (Option.some.inj hf).symm H locs ls hM hS (lv_sub hl [1, 2, 0] rfl)
set_option maxHeartbeats 4000000 in
set_option maxRecDepth 100000 in
theorem w_m_week_B61 {p : Program} {l : Launch} {e : Env} {s : State} {m : MethodId} {args : Array Value} {below : List Frame} {meth : Method} {c : Code} {D : va_G} {C : Nat → Nat} {a0 : Array Value} {s0 : State} {ad : Rl → Nat} {so : Nat → Option hS} {t : hSt} {lt : Rl → Nat → Int64} (CX : hCx D C a0 s0 p s m args meth c cX5_week 3 RX5 (some .int)) (hIx : hI (hA s0) ad (Sum.elim so (mSH C))) (g : hSt) (p0 : Int32) (g1 : hSt) (y2 : Int32) (g3 : hSt) (v2_27 : Int32) (g_27 : hSt) (x4 : Int32) (k0_61 : Int32) (k1_61 : Int32) {oM : Int32 × hSt} {o : (Int32 × hSt) ⊕ (hSt)} (hf : m_week_B61 v2_27 g_27 k0_61 k1_61 = some o) (kc : ∀ s' : Int32 × hSt, o = .inl s' → ∀ (H : Heap) (locs : List Loc) (ls : Array Slot), hW D vwCl ad (Sum.elim so (mSH C)) (Sum.elim t s'.2) lt H → va_S (hA s0) s.heap H locs → lv_has ls 3 [(0, .ref (ad (.inr 0))), (1, .int p0), (2, .int s'.1)] → W p l e rm_m_week s m args below meth c H locs 0 0 (MQ below (va_Qi (fun (r : Int32) (_ : Unit) => r = oM.1) (fun (_ : Unit) (U : State) => hW D vwCl ad (Sum.elim so (mSH C)) (Sum.elim t oM.2) lt U.heap) (hA s0)) args s 0 0 (hA s0)) (F0 m 27 ls [])) (kx : ∀ x' : hSt, o = .inr x' → ∀ (H : Heap) (locs : List Loc) (ls : Array Slot), hW D vwCl ad (Sum.elim so (mSH C)) (Sum.elim t x') lt H → va_S (hA s0) s.heap H locs → lv_has ls 3 [(0, .ref (ad (.inr 0))), (1, .int p0)] → W p l e rm_m_week s m args below meth c H locs 0 0 (MQ below (va_Qi (fun (r : Int32) (_ : Unit) => r = oM.1) (fun (_ : Unit) (U : State) => hW D vwCl ad (Sum.elim so (mSH C)) (Sum.elim t oM.2) lt U.heap) (hA s0)) args s 0 0 (hA s0)) (F0 m 106 ls [])) {H : Heap} {locs : List Loc} (hM : hW D vwCl ad (Sum.elim so (mSH C)) (Sum.elim t g_27) lt H) (hS : va_S (hA s0) s.heap H locs) {ls : Array Slot} (hl : lv_has ls 3 [(0, .ref (ad (.inr 0))), (1, .int p0), (2, .int v2_27)]) : W p l e rm_m_week s m args below meth c H locs 0 0 (MQ below (va_Qi (fun (r : Int32) (_ : Unit) => r = oM.1) (fun (_ : Unit) (U : State) => hW D vwCl ad (Sum.elim so (mSH C)) (Sum.elim t oM.2) lt U.heap) (hA s0)) args s 0 0 (hA s0)) (F0 m 61 ls [.int k0_61, .int k1_61, .ref (ad (.inr 29))]) := by
  obtain ⟨hx, hb, hr, hml, hown, hts, hlocks, hK, hZ0, hA0⟩ := CX
  unfold m_week_B61 at hf
  refine hm_iast (r := 29) hx hb hK hM hIx hS 0 mS_29 rfl hf dX5_week_61 (fun g5 H locs hf hM hS => ?_)
  refine lv_aload_n hx hb dX5_week_62 rfl (lv_at hl 0 rfl) ?_
  refine hr_get (ci := 5) (C := RX5) (T := TX5) (N := 55) (r := .inr 0) hx hb hts in_X5 hown hK hM mS_0 rfl 29 (by decide) (hts _ q1397) rfl (v := .ref (ad (.inr 30))) rfl dX5_week_63 ?_
  refine lv_iload_n hx hb dX5_week_66 rfl (lv_at hl 2 rfl) ?_
  refine lv_aload_n hx hb dX5_week_67 rfl (lv_at hl 0 rfl) ?_
  refine hr_get (ci := 5) (C := RX5) (T := TX5) (N := 55) (r := .inr 0) hx hb hts in_X5 hown hK hM mS_0 rfl 7 (by decide) (hts _ q1375) rfl (v := .ref (ad (.inr 8))) rfl dX5_week_68 ?_
  refine lv_bipush (v := 24) hx hb dX5_week_71 (by decide) ?_
  refine lv_iload_n hx hb dX5_week_73 rfl (lv_at hl 2 rfl) ?_
  refine lv_iadd hx hb dX5_week_74 ?_
  refine hm_iald (r := 8) hx hb hK hM 0 mS_8 rfl hf dX5_week_75 (fun x6 hf => ?_)
  refine hm_iast (r := 30) hx hb hK hM hIx hS 0 mS_30 rfl hf dX5_week_76 (fun g7 H locs hf hM hS => ?_)
  refine lv_aload_n hx hb dX5_week_77 rfl (lv_at hl 0 rfl) ?_
  refine lv_dup hx hb dX5_week_78 rfl ?_
  refine hr_get (ci := 5) (C := RX5) (T := TX5) (N := 55) (r := .inr 0) hx hb hts in_X5 hown hK hM mS_0 rfl 33 (by decide) (hts _ q1401) rfl (v := .int (g7 0 33)) rfl dX5_week_79 ?_
  refine lv_aload_n hx hb dX5_week_82 rfl (lv_at hl 0 rfl) ?_
  refine hr_get (ci := 5) (C := RX5) (T := TX5) (N := 55) (r := .inr 0) hx hb hts in_X5 hown hK hM mS_0 rfl 28 (by decide) (hts _ q1396) rfl (v := .ref (ad (.inr 29))) rfl dX5_week_83 ?_
  refine lv_iload_n hx hb dX5_week_86 rfl (lv_at hl 2 rfl) ?_
  refine hm_iald (r := 29) hx hb hK hM 0 mS_29 rfl hf dX5_week_87 (fun x8 hf => ?_)
  refine hb_if_le (tgt := 95) hx hb dX5_week_88 (by decide) hf (fun hf => ?_) (fun hf => ?_)
  · refine lv_iconst (v := 0) hx hb dX5_week_95 (by decide) ?_
    exact w_m_week_B96 ⟨hx, hb, hr, hml, hown, hts, hlocks, hK, hZ0, hA0⟩ hIx g p0 g1 y2 g3 v2_27 g_27 x4 k0_61 k1_61 g5 x6 g7 x8 (0 : Int32) (g7 0 33) hf kc kx hM hS (lv_sub hl [0, 1, 2] rfl)
  · refine lv_iconst (v := 1) hx hb dX5_week_91 (by decide) ?_
    refine lv_goto (tgt := 96) hx hb dX5_week_92 (by decide) ?_
    exact w_m_week_B96 ⟨hx, hb, hr, hml, hown, hts, hlocks, hK, hZ0, hA0⟩ hIx g p0 g1 y2 g3 v2_27 g_27 x4 k0_61 k1_61 g5 x6 g7 x8 (1 : Int32) (g7 0 33) hf kc kx hM hS (lv_sub hl [0, 1, 2] rfl)
set_option maxHeartbeats 4000000 in
set_option maxRecDepth 100000 in
theorem w_m_week_L27 {p : Program} {l : Launch} {e : Env} {s : State} {m : MethodId} {args : Array Value} {below : List Frame} {meth : Method} {c : Code} {D : va_G} {C : Nat → Nat} {a0 : Array Value} {s0 : State} {ad : Rl → Nat} {so : Nat → Option hS} {t : hSt} {lt : Rl → Nat → Int64} (CX : hCx D C a0 s0 p s m args meth c cX5_week 3 RX5 (some .int)) (hIx : hI (hA s0) ad (Sum.elim so (mSH C))) (g : hSt) (p0 : Int32) (g1 : hSt) (y2 : Int32) (g3 : hSt) {oM : Int32 × hSt} (x : hSt) (n : Nat) (q0 : Int32 × hSt) (h0 : hiter (fun q : Int32 × hSt => m_week_L27 q.1 q.2) n q0 = some x) (kx0 : ∀ (H : Heap) (locs : List Loc) (ls : Array Slot), hW D vwCl ad (Sum.elim so (mSH C)) (Sum.elim t x) lt H → va_S (hA s0) s.heap H locs → lv_has ls 3 [(0, .ref (ad (.inr 0))), (1, .int p0)] → W p l e rm_m_week s m args below meth c H locs 0 0 (MQ below (va_Qi (fun (r : Int32) (_ : Unit) => r = oM.1) (fun (_ : Unit) (U : State) => hW D vwCl ad (Sum.elim so (mSH C)) (Sum.elim t oM.2) lt U.heap) (hA s0)) args s 0 0 (hA s0)) (F0 m 106 ls [])) : ∀ (H : Heap) (locs : List Loc) (ls : Array Slot), hW D vwCl ad (Sum.elim so (mSH C)) (Sum.elim t q0.2) lt H → va_S (hA s0) s.heap H locs → lv_has ls 3 [(0, .ref (ad (.inr 0))), (1, .int p0), (2, .int q0.1)] → W p l e rm_m_week s m args below meth c H locs 0 0 (MQ below (va_Qi (fun (r : Int32) (_ : Unit) => r = oM.1) (fun (_ : Unit) (U : State) => hW D vwCl ad (Sum.elim so (mSH C)) (Sum.elim t oM.2) lt U.heap) (hA s0)) args s 0 0 (hA s0)) (F0 m 27 ls []) := by
  obtain ⟨hx, hb, hr, hml, hown, hts, hlocks, hK, hZ0, hA0⟩ := CX
  refine hiter_W (Wh := fun q => ∀ (H : Heap) (locs : List Loc) (ls : Array Slot), hW D vwCl ad (Sum.elim so (mSH C)) (Sum.elim t q.2) lt H → va_S (hA s0) s.heap H locs → lv_has ls 3 [(0, .ref (ad (.inr 0))), (1, .int p0), (2, .int q.1)] → W p l e rm_m_week s m args below meth c H locs 0 0 (MQ below (va_Qi (fun (r : Int32) (_ : Unit) => r = oM.1) (fun (_ : Unit) (U : State) => hW D vwCl ad (Sum.elim so (mSH C)) (Sum.elim t oM.2) lt U.heap) (hA s0)) args s 0 0 (hA s0)) (F0 m 27 ls [])) ?_ n q0 h0
  intro q o hf kc kx1 H locs ls hM hS hl
  obtain ⟨v2_27, g_27⟩ := q
  replace hf : m_week_L27 v2_27 g_27 = some o := hf
  have kx : ∀ x' : hSt, o = .inr x' → ∀ (H : Heap) (locs : List Loc) (ls : Array Slot), hW D vwCl ad (Sum.elim so (mSH C)) (Sum.elim t x') lt H → va_S (hA s0) s.heap H locs → lv_has ls 3 [(0, .ref (ad (.inr 0))), (1, .int p0)] → W p l e rm_m_week s m args below meth c H locs 0 0 (MQ below (va_Qi (fun (r : Int32) (_ : Unit) => r = oM.1) (fun (_ : Unit) (U : State) => hW D vwCl ad (Sum.elim so (mSH C)) (Sum.elim t oM.2) lt U.heap) (hA s0)) args s 0 0 (hA s0)) (F0 m 106 ls []) := fun x' ex => by rw [kx1 _ ex]; exact kx0
  unfold m_week_L27 at hf
  refine lv_iload_n hx hb dX5_week_27 rfl (lv_at hl 2 rfl) ?_
  refine lv_bipush (v := 6) hx hb dX5_week_28 (by decide) ?_
  refine hb_icmp_ge (tgt := 106) hx hb dX5_week_30 (by decide) hf (fun hf => ?_) (fun hf => ?_)
  · exact kx g_27 (Option.some.inj hf).symm H locs ls hM hS (lv_sub hl [0, 1] rfl)
  · refine lv_aload_n hx hb dX5_week_33 rfl (lv_at hl 0 rfl) ?_
    refine hr_get (ci := 5) (C := RX5) (T := TX5) (N := 55) (r := .inr 0) hx hb hts in_X5 hown hK hM mS_0 rfl 28 (by decide) (hts _ q1396) rfl (v := .ref (ad (.inr 29))) rfl dX5_week_34 ?_
    refine lv_iload_n hx hb dX5_week_37 rfl (lv_at hl 2 rfl) ?_
    refine lv_iload_n hx hb dX5_week_38 rfl (lv_at hl 2 rfl) ?_
    refine lv_aload_n hx hb dX5_week_39 rfl (lv_at hl 0 rfl) ?_
    refine hr_get (ci := 5) (C := RX5) (T := TX5) (N := 55) (r := .inr 0) hx hb hts in_X5 hown hK hM mS_0 rfl 2 (by decide) (hts _ q1370) rfl (v := .ref (ad (.inr 3))) rfl dX5_week_40 ?_
    refine lv_iconst (v := 0) hx hb dX5_week_43 (by decide) ?_
    refine hm_iald (r := 3) hx hb hK hM 0 mS_3 rfl hf dX5_week_44 (fun x4 hf => ?_)
    refine hb_icmp_ge (tgt := 60) hx hb dX5_week_45 (by decide) hf (fun hf => ?_) (fun hf => ?_)
    · refine lv_iconst (v := 0) hx hb dX5_week_60 (by decide) ?_
      exact w_m_week_B61 ⟨hx, hb, hr, hml, hown, hts, hlocks, hK, hZ0, hA0⟩ hIx g p0 g1 y2 g3 v2_27 g_27 x4 (0 : Int32) v2_27 hf kc kx hM hS (lv_sub hl [0, 1, 2] rfl)
    · refine lv_aload_n hx hb dX5_week_48 rfl (lv_at hl 0 rfl) ?_
      refine hr_get (ci := 5) (C := RX5) (T := TX5) (N := 55) (r := .inr 0) hx hb hts in_X5 hown hK hM mS_0 rfl 7 (by decide) (hts _ q1375) rfl (v := .ref (ad (.inr 8))) rfl dX5_week_49 ?_
      refine lv_bipush (v := 18) hx hb dX5_week_52 (by decide) ?_
      refine lv_iload_n hx hb dX5_week_54 rfl (lv_at hl 2 rfl) ?_
      refine lv_iadd hx hb dX5_week_55 ?_
      refine hm_iald (r := 8) hx hb hK hM 0 mS_8 rfl hf dX5_week_56 (fun x11 hf => ?_)
      refine lv_goto (tgt := 61) hx hb dX5_week_57 (by decide) ?_
      exact w_m_week_B61 ⟨hx, hb, hr, hml, hown, hts, hlocks, hK, hZ0, hA0⟩ hIx g p0 g1 y2 g3 v2_27 g_27 x4 x11 v2_27 hf kc kx hM hS (lv_sub hl [0, 1, 2] rfl)
set_option maxHeartbeats 4000000 in
set_option maxRecDepth 100000 in
theorem w_m_week_L108 {p : Program} {l : Launch} {e : Env} {s : State} {m : MethodId} {args : Array Value} {below : List Frame} {meth : Method} {c : Code} {D : va_G} {C : Nat → Nat} {a0 : Array Value} {s0 : State} {ad : Rl → Nat} {so : Nat → Option hS} {t : hSt} {lt : Rl → Nat → Int64} (CX : hCx D C a0 s0 p s m args meth c cX5_week 3 RX5 (some .int)) (hIx : hI (hA s0) ad (Sum.elim so (mSH C))) (g : hSt) (p0 : Int32) (g1 : hSt) (y2 : Int32) (g3 : hSt) (x12 : hSt) {oM : Int32 × hSt} (x : hSt) (n : Nat) (q0 : Int32 × hSt) (h0 : hiter (fun q : Int32 × hSt => m_week_L108 q.1 q.2) n q0 = some x) (kx0 : ∀ (H : Heap) (locs : List Loc) (ls : Array Slot), hW D vwCl ad (Sum.elim so (mSH C)) (Sum.elim t x) lt H → va_S (hA s0) s.heap H locs → lv_has ls 3 [(0, .ref (ad (.inr 0))), (1, .int p0)] → W p l e rm_m_week s m args below meth c H locs 0 0 (MQ below (va_Qi (fun (r : Int32) (_ : Unit) => r = oM.1) (fun (_ : Unit) (U : State) => hW D vwCl ad (Sum.elim so (mSH C)) (Sum.elim t oM.2) lt U.heap) (hA s0)) args s 0 0 (hA s0)) (F0 m 132 ls [])) : ∀ (H : Heap) (locs : List Loc) (ls : Array Slot), hW D vwCl ad (Sum.elim so (mSH C)) (Sum.elim t q0.2) lt H → va_S (hA s0) s.heap H locs → lv_has ls 3 [(0, .ref (ad (.inr 0))), (1, .int p0), (2, .int q0.1)] → W p l e rm_m_week s m args below meth c H locs 0 0 (MQ below (va_Qi (fun (r : Int32) (_ : Unit) => r = oM.1) (fun (_ : Unit) (U : State) => hW D vwCl ad (Sum.elim so (mSH C)) (Sum.elim t oM.2) lt U.heap) (hA s0)) args s 0 0 (hA s0)) (F0 m 108 ls []) := by
  obtain ⟨hx, hb, hr, hml, hown, hts, hlocks, hK, hZ0, hA0⟩ := CX
  refine hiter_W (Wh := fun q => ∀ (H : Heap) (locs : List Loc) (ls : Array Slot), hW D vwCl ad (Sum.elim so (mSH C)) (Sum.elim t q.2) lt H → va_S (hA s0) s.heap H locs → lv_has ls 3 [(0, .ref (ad (.inr 0))), (1, .int p0), (2, .int q.1)] → W p l e rm_m_week s m args below meth c H locs 0 0 (MQ below (va_Qi (fun (r : Int32) (_ : Unit) => r = oM.1) (fun (_ : Unit) (U : State) => hW D vwCl ad (Sum.elim so (mSH C)) (Sum.elim t oM.2) lt U.heap) (hA s0)) args s 0 0 (hA s0)) (F0 m 108 ls [])) ?_ n q0 h0
  intro q o hf kc kx1 H locs ls hM hS hl
  obtain ⟨v2_108, g_108⟩ := q
  replace hf : m_week_L108 v2_108 g_108 = some o := hf
  have kx : ∀ x' : hSt, o = .inr x' → ∀ (H : Heap) (locs : List Loc) (ls : Array Slot), hW D vwCl ad (Sum.elim so (mSH C)) (Sum.elim t x') lt H → va_S (hA s0) s.heap H locs → lv_has ls 3 [(0, .ref (ad (.inr 0))), (1, .int p0)] → W p l e rm_m_week s m args below meth c H locs 0 0 (MQ below (va_Qi (fun (r : Int32) (_ : Unit) => r = oM.1) (fun (_ : Unit) (U : State) => hW D vwCl ad (Sum.elim so (mSH C)) (Sum.elim t oM.2) lt U.heap) (hA s0)) args s 0 0 (hA s0)) (F0 m 132 ls []) := fun x' ex => by rw [kx1 _ ex]; exact kx0
  unfold m_week_L108 at hf
  refine lv_iload_n hx hb dX5_week_108 rfl (lv_at hl 2 rfl) ?_
  refine lv_bipush (v := 30) hx hb dX5_week_109 (by decide) ?_
  refine hb_icmp_ge (tgt := 132) hx hb dX5_week_111 (by decide) hf (fun hf => ?_) (fun hf => ?_)
  · exact kx g_108 (Option.some.inj hf).symm H locs ls hM hS (lv_sub hl [0, 1] rfl)
  · refine lv_aload_n hx hb dX5_week_114 rfl (lv_at hl 0 rfl) ?_
    refine hr_get (ci := 5) (C := RX5) (T := TX5) (N := 55) (r := .inr 0) hx hb hts in_X5 hown hK hM mS_0 rfl 26 (by decide) (hts _ q1394) rfl (v := .ref (ad (.inr 27))) rfl dX5_week_115 ?_
    refine lv_iload_n hx hb dX5_week_118 rfl (lv_at hl 2 rfl) ?_
    refine lv_aload_n hx hb dX5_week_119 rfl (lv_at hl 0 rfl) ?_
    refine hr_get (ci := 5) (C := RX5) (T := TX5) (N := 55) (r := .inr 0) hx hb hts in_X5 hown hK hM mS_0 rfl 7 (by decide) (hts _ q1375) rfl (v := .ref (ad (.inr 8))) rfl dX5_week_120 ?_
    refine lv_iload_n hx hb dX5_week_123 rfl (lv_at hl 2 rfl) ?_
    refine hm_iald (r := 8) hx hb hK hM 0 mS_8 rfl hf dX5_week_124 (fun x13 hf => ?_)
    refine hm_iast (r := 27) hx hb hK hM hIx hS 0 mS_27 rfl hf dX5_week_125 (fun g14 H locs hf hM hS => ?_)
    obtain ⟨y2_15, ey, hf⟩ := hlet_ex hf
    refine lv_iinc (v := y2_15) (lv' := [(2, .int y2_15), (0, .ref (ad (.inr 0))), (1, .int p0)]) hx hb dX5_week_126 hl (k := 2) rfl (by rw [ey]; rfl) (by decide) rfl (fun ls hl => ?_)
    refine lv_goto (tgt := 108) hx hb dX5_week_129 (by decide) ?_
    exact kc (y2_15, g14) (Option.some.inj hf).symm H locs ls hM hS (lv_sub hl [1, 2, 0] rfl)
set_option maxHeartbeats 4000000 in
set_option maxRecDepth 100000 in
theorem w_m_week_B211 {p : Program} {l : Launch} {e : Env} {s : State} {m : MethodId} {args : Array Value} {below : List Frame} {meth : Method} {c : Code} {D : va_G} {C : Nat → Nat} {a0 : Array Value} {s0 : State} {ad : Rl → Nat} {so : Nat → Option hS} {t : hSt} {lt : Rl → Nat → Int64} (CX : hCx D C a0 s0 p s m args meth c cX5_week 3 RX5 (some .int)) (hIx : hI (hA s0) ad (Sum.elim so (mSH C))) (g : hSt) (p0 : Int32) (g1 : hSt) (y2 : Int32) (g3 : hSt) (x12 : hSt) (x16 : hSt) (g17 : hSt) (g18 : hSt) (g19 : hSt) (g20 : hSt) (y21 : hSt) (g_211 : hSt) {o : Int32 × hSt} (hf : m_week_B211 p0 g_211 = some o) {H : Heap} {locs : List Loc} (hM : hW D vwCl ad (Sum.elim so (mSH C)) (Sum.elim t g_211) lt H) (hS : va_S (hA s0) s.heap H locs) {ls : Array Slot} (hl : lv_has ls 3 [(0, .ref (ad (.inr 0))), (1, .int p0)]) : W p l e rm_m_week s m args below meth c H locs 0 0 (MQ below (va_Qi (fun (r : Int32) (_ : Unit) => r = o.1) (fun (_ : Unit) (U : State) => hW D vwCl ad (Sum.elim so (mSH C)) (Sum.elim t o.2) lt U.heap) (hA s0)) args s 0 0 (hA s0)) (F0 m 211 ls []) := by
  obtain ⟨hx, hb, hr, hml, hown, hts, hlocks, hK, hZ0, hA0⟩ := CX
  unfold m_week_B211 at hf
  refine lv_iload_n hx hb dX5_week_211 rfl (lv_at hl 1 rfl) ?_
  refine hb_if_ne (tgt := 230) hx hb dX5_week_212 (by decide) hf (fun hf => ?_) (fun hf => ?_)
  · refine lv_iload_n hx hb dX5_week_230 rfl (lv_at hl 1 rfl) ?_
    refine lv_iconst (v := 1) hx hb dX5_week_231 (by decide) ?_
    refine hb_icmp_ne (tgt := 242) hx hb dX5_week_232 (by decide) hf (fun hf => ?_) (fun hf => ?_)
    · refine lv_aload_n hx hb dX5_week_242 rfl (lv_at hl 0 rfl) ?_
      refine hr_get (ci := 5) (C := RX5) (T := TX5) (N := 55) (r := .inr 0) hx hb hts in_X5 hown hK hM mS_0 rfl 34 (by decide) (hts _ q1402) rfl (v := .int (g_211 0 34)) rfl dX5_week_243 ?_
      have eo := Option.some.inj hf
      subst eo
      exact W.iret (v := (g_211 0 34)) hx hb hr (fun T ht hW => ⟨⟨(g_211 0 34), (), rfl, rfl, by dsimp only; rw [ht]; exact hM⟩, hS.F ht⟩) hS.2.2 dX5_week_246
    · refine lv_aload_n hx hb dX5_week_235 rfl (lv_at hl 0 rfl) ?_
      refine hr_get (ci := 5) (C := RX5) (T := TX5) (N := 55) (r := .inr 0) hx hb hts in_X5 hown hK hM mS_0 rfl 35 (by decide) (hts _ q1403) rfl (v := .int (g_211 0 35)) rfl dX5_week_236 ?_
      refine lv_goto (tgt := 246) hx hb dX5_week_239 (by decide) ?_
      have eo := Option.some.inj hf
      subst eo
      exact W.iret (v := (g_211 0 35)) hx hb hr (fun T ht hW => ⟨⟨(g_211 0 35), (), rfl, rfl, by dsimp only; rw [ht]; exact hM⟩, hS.F ht⟩) hS.2.2 dX5_week_246
  · refine lv_aload_n hx hb dX5_week_215 rfl (lv_at hl 0 rfl) ?_
    refine hr_get (ci := 5) (C := RX5) (T := TX5) (N := 55) (r := .inr 0) hx hb hts in_X5 hown hK hM mS_0 rfl 37 (by decide) (hts _ q1405) rfl (v := .int (g_211 0 37)) rfl dX5_week_216 ?_
    refine hb_if_eq (tgt := 226) hx hb dX5_week_219 (by decide) hf (fun hf => ?_) (fun hf => ?_)
    · refine lv_iconst (v := 0) hx hb dX5_week_226 (by decide) ?_
      refine lv_goto (tgt := 246) hx hb dX5_week_227 (by decide) ?_
      have eo := Option.some.inj hf
      subst eo
      exact W.iret (v := (0 : Int32)) hx hb hr (fun T ht hW => ⟨⟨(0 : Int32), (), rfl, rfl, by dsimp only; rw [ht]; exact hM⟩, hS.F ht⟩) hS.2.2 dX5_week_246
    · refine lv_iconst (v := 1) hx hb dX5_week_222 (by decide) ?_
      refine lv_goto (tgt := 246) hx hb dX5_week_223 (by decide) ?_
      have eo := Option.some.inj hf
      subst eo
      exact W.iret (v := (1 : Int32)) hx hb hr (fun T ht hW => ⟨⟨(1 : Int32), (), rfl, rfl, by dsimp only; rw [ht]; exact hM⟩, hS.F ht⟩) hS.2.2 dX5_week_246
set_option maxHeartbeats 4000000 in
set_option maxRecDepth 100000 in
theorem w_m_week_L185 {p : Program} {l : Launch} {e : Env} {s : State} {m : MethodId} {args : Array Value} {below : List Frame} {meth : Method} {c : Code} {D : va_G} {C : Nat → Nat} {a0 : Array Value} {s0 : State} {ad : Rl → Nat} {so : Nat → Option hS} {t : hSt} {lt : Rl → Nat → Int64} (CX : hCx D C a0 s0 p s m args meth c cX5_week 3 RX5 (some .int)) (hIx : hI (hA s0) ad (Sum.elim so (mSH C))) (g : hSt) (p0 : Int32) (g1 : hSt) (y2 : Int32) (g3 : hSt) (x12 : hSt) (x16 : hSt) (g17 : hSt) (g18 : hSt) (g19 : hSt) (g20 : hSt) (y21 : hSt) (g22 : hSt) {oM : Int32 × hSt} (x : hSt) (n : Nat) (q0 : Int32 × hSt) (h0 : hiter (fun q : Int32 × hSt => m_week_L185 q.1 q.2) n q0 = some x) (kx0 : ∀ (H : Heap) (locs : List Loc) (ls : Array Slot), hW D vwCl ad (Sum.elim so (mSH C)) (Sum.elim t x) lt H → va_S (hA s0) s.heap H locs → lv_has ls 3 [(0, .ref (ad (.inr 0))), (1, .int p0)] → W p l e rm_m_week s m args below meth c H locs 0 0 (MQ below (va_Qi (fun (r : Int32) (_ : Unit) => r = oM.1) (fun (_ : Unit) (U : State) => hW D vwCl ad (Sum.elim so (mSH C)) (Sum.elim t oM.2) lt U.heap) (hA s0)) args s 0 0 (hA s0)) (F0 m 211 ls [])) : ∀ (H : Heap) (locs : List Loc) (ls : Array Slot), hW D vwCl ad (Sum.elim so (mSH C)) (Sum.elim t q0.2) lt H → va_S (hA s0) s.heap H locs → lv_has ls 3 [(0, .ref (ad (.inr 0))), (1, .int p0), (2, .int q0.1)] → W p l e rm_m_week s m args below meth c H locs 0 0 (MQ below (va_Qi (fun (r : Int32) (_ : Unit) => r = oM.1) (fun (_ : Unit) (U : State) => hW D vwCl ad (Sum.elim so (mSH C)) (Sum.elim t oM.2) lt U.heap) (hA s0)) args s 0 0 (hA s0)) (F0 m 185 ls []) := by
  obtain ⟨hx, hb, hr, hml, hown, hts, hlocks, hK, hZ0, hA0⟩ := CX
  refine hiter_W (Wh := fun q => ∀ (H : Heap) (locs : List Loc) (ls : Array Slot), hW D vwCl ad (Sum.elim so (mSH C)) (Sum.elim t q.2) lt H → va_S (hA s0) s.heap H locs → lv_has ls 3 [(0, .ref (ad (.inr 0))), (1, .int p0), (2, .int q.1)] → W p l e rm_m_week s m args below meth c H locs 0 0 (MQ below (va_Qi (fun (r : Int32) (_ : Unit) => r = oM.1) (fun (_ : Unit) (U : State) => hW D vwCl ad (Sum.elim so (mSH C)) (Sum.elim t oM.2) lt U.heap) (hA s0)) args s 0 0 (hA s0)) (F0 m 185 ls [])) ?_ n q0 h0
  intro q o hf kc kx1 H locs ls hM hS hl
  obtain ⟨v2_185, g_185⟩ := q
  replace hf : m_week_L185 v2_185 g_185 = some o := hf
  have kx : ∀ x' : hSt, o = .inr x' → ∀ (H : Heap) (locs : List Loc) (ls : Array Slot), hW D vwCl ad (Sum.elim so (mSH C)) (Sum.elim t x') lt H → va_S (hA s0) s.heap H locs → lv_has ls 3 [(0, .ref (ad (.inr 0))), (1, .int p0)] → W p l e rm_m_week s m args below meth c H locs 0 0 (MQ below (va_Qi (fun (r : Int32) (_ : Unit) => r = oM.1) (fun (_ : Unit) (U : State) => hW D vwCl ad (Sum.elim so (mSH C)) (Sum.elim t oM.2) lt U.heap) (hA s0)) args s 0 0 (hA s0)) (F0 m 211 ls []) := fun x' ex => by rw [kx1 _ ex]; exact kx0
  unfold m_week_L185 at hf
  refine lv_iload_n hx hb dX5_week_185 rfl (lv_at hl 2 rfl) ?_
  refine lv_aload_n hx hb dX5_week_186 rfl (lv_at hl 0 rfl) ?_
  refine hr_get (ci := 5) (C := RX5) (T := TX5) (N := 55) (r := .inr 0) hx hb hts in_X5 hown hK hM mS_0 rfl 33 (by decide) (hts _ q1401) rfl (v := .int (g_185 0 33)) rfl dX5_week_187 ?_
  refine hb_icmp_ge (tgt := 211) hx hb dX5_week_190 (by decide) hf (fun hf => ?_) (fun hf => ?_)
  · exact kx g_185 (Option.some.inj hf).symm H locs ls hM hS (lv_sub hl [0, 1] rfl)
  · refine lv_aload_n hx hb dX5_week_193 rfl (lv_at hl 0 rfl) ?_
    refine hr_get (ci := 5) (C := RX5) (T := TX5) (N := 55) (r := .inr 0) hx hb hts in_X5 hown hK hM mS_0 rfl 31 (by decide) (hts _ q1399) rfl (v := .ref (ad (.inr 32))) rfl dX5_week_194 ?_
    refine lv_iload_n hx hb dX5_week_197 rfl (lv_at hl 2 rfl) ?_
    refine lv_aload_n hx hb dX5_week_198 rfl (lv_at hl 0 rfl) ?_
    refine hr_get (ci := 5) (C := RX5) (T := TX5) (N := 55) (r := .inr 0) hx hb hts in_X5 hown hK hM mS_0 rfl 30 (by decide) (hts _ q1398) rfl (v := .ref (ad (.inr 31))) rfl dX5_week_199 ?_
    refine lv_iload_n hx hb dX5_week_202 rfl (lv_at hl 2 rfl) ?_
    refine hm_iald (r := 31) hx hb hK hM 0 mS_31 rfl hf dX5_week_203 (fun x23 hf => ?_)
    refine hm_iast (r := 32) hx hb hK hM hIx hS 0 mS_32 rfl hf dX5_week_204 (fun g24 H locs hf hM hS => ?_)
    obtain ⟨y2_25, ey, hf⟩ := hlet_ex hf
    refine lv_iinc (v := y2_25) (lv' := [(2, .int y2_25), (0, .ref (ad (.inr 0))), (1, .int p0)]) hx hb dX5_week_205 hl (k := 2) rfl (by rw [ey]; rfl) (by decide) rfl (fun ls hl => ?_)
    refine lv_goto (tgt := 185) hx hb dX5_week_208 (by decide) ?_
    exact kc (y2_25, g24) (Option.some.inj hf).symm H locs ls hM hS (lv_sub hl [1, 2, 0] rfl)
set_option maxHeartbeats 4000000 in
set_option maxRecDepth 100000 in
theorem w_m_week {p : Program} {l : Launch} {e : Env} {s : State} {m : MethodId} {args : Array Value} {below : List Frame} {meth : Method} {c : Code} {D : va_G} {C : Nat → Nat} {a0 : Array Value} {s0 : State} {ad : Rl → Nat} {so : Nat → Option hS} {t : hSt} {lt : Rl → Nat → Int64} (CX : hCx D C a0 s0 p s m args meth c cX5_week 3 RX5 (some .int)) (hIx : hI (hA s0) ad (Sum.elim so (mSH C))) (g : hSt) (p0 : Int32) {o : Int32 × hSt} (hf : m_week g p0 = some o) {H : Heap} {locs : List Loc} (hM : hW D vwCl ad (Sum.elim so (mSH C)) (Sum.elim t g) lt H) (hS : va_S (hA s0) s.heap H locs) {ls : Array Slot} (hl : lv_has ls 3 [(0, .ref (ad (.inr 0))), (1, .int p0)]) : W p l e rm_m_week s m args below meth c H locs 0 0 (MQ below (va_Qi (fun (r : Int32) (_ : Unit) => r = o.1) (fun (_ : Unit) (U : State) => hW D vwCl ad (Sum.elim so (mSH C)) (Sum.elim t o.2) lt U.heap) (hA s0)) args s 0 0 (hA s0)) (F0 m 0 ls []) := by
  obtain ⟨hx, hb, hr, hml, hown, hts, hlocks, hK, hZ0, hA0⟩ := CX
  unfold m_week at hf
  refine lv_aload_n hx hb dX5_week_0 rfl (lv_at hl 0 rfl) ?_
  refine lv_iconst (v := 0) hx hb dX5_week_1 (by decide) ?_
  refine hm_put (r := 0) (ci := 5) (C := RX5) (T := TX5) (N := 55) hx hb hts in_X5 tyX5 tyX5_ok nmX5 hown hK hM hIx hS mS_0 rfl 1 (by decide) (hts _ q1369) rfl rfl rfl hf dX5_week_2 (fun g1 H locs hf hM hS => ?_)
  refine lv_iload_n hx hb dX5_week_5 rfl (lv_at hl 1 rfl) ?_
  refine lv_iconst (v := 0) hx hb dX5_week_6 (by decide) ?_
  refine lv_iconst (v := 2) hx hb dX5_week_7 (by decide) ?_
  obtain ⟨y2, hq, hf⟩ := hbind hf
  refine hr_calli0 (va_runS (As := [.int p0, .int (0 : Int32), .int (2 : Int32)]) (rest := []) ⟨hx, hb, hml, hown, hts⟩ (met_m_isIn l D C a0 s0 ad so (Sum.elim t g1) lt p0 (0 : Int32) (2 : Int32) hq) (va_cwS 3 hts (lw_S q1648 q1649 q99 q1650) rfl rfl rfl (by decide +kernel) ⟨Nat.le_of_ble_eq_true rfl, Nat.le_of_ble_eq_true rfl⟩) (hr_preS hZ_c hM hIx hK hZ0 hA0 hS) rfl rfl hl.1 rfl (lv_room (Nat.le_of_ble_eq_true rfl)) dX5_week_8 ⟨Nat.le_of_ble_eq_true rfl, Nat.le_of_ble_eq_true rfl⟩) hS (fun H locs hM hS => ?_)
  refine hb_if_ne (tgt := 20) hx hb dX5_week_11 (by decide) hf (fun hf => ?_) (fun hf => ?_)
  · refine lv_aload_n hx hb dX5_week_20 rfl (lv_at hl 0 rfl) ?_
    refine lv_iconst (v := 0) hx hb dX5_week_21 (by decide) ?_
    refine hm_put (r := 0) (ci := 5) (C := RX5) (T := TX5) (N := 55) hx hb hts in_X5 tyX5 tyX5_ok nmX5 hown hK hM hIx hS mS_0 rfl 33 (by decide) (hts _ q1401) rfl rfl rfl hf dX5_week_22 (fun g3 H locs hf hM hS => ?_)
    refine lv_iconst (v := 0) hx hb dX5_week_25 (by decide) ?_
    refine lv_istore_n (lv' := [(2, .int (0 : Int32)), (0, .ref (ad (.inr 0))), (1, .int p0)]) hx hb dX5_week_26 rfl hl (by decide) rfl (fun ls hl => ?_)
    obtain ⟨x12, hq, hf⟩ := hbind hf
    refine w_m_week_L27 ⟨hx, hb, hr, hml, hown, hts, hlocks, hK, hZ0, hA0⟩ hIx g p0 g1 y2 g3 x12 hFU ((0 : Int32), g3) hq (fun H locs ls hM hS hl => ?_) H locs ls hM hS (lv_sub hl [1, 2, 0] rfl)
    refine lv_iconst (v := 0) hx hb dX5_week_106 (by decide) ?_
    refine lv_istore_n (lv' := [(2, .int (0 : Int32)), (0, .ref (ad (.inr 0))), (1, .int p0)]) hx hb dX5_week_107 rfl hl (by decide) rfl (fun ls hl => ?_)
    obtain ⟨x16, hq, hf⟩ := hbind hf
    refine w_m_week_L108 ⟨hx, hb, hr, hml, hown, hts, hlocks, hK, hZ0, hA0⟩ hIx g p0 g1 y2 g3 x12 x16 hFU ((0 : Int32), x12) hq (fun H locs ls hM hS hl => ?_) H locs ls hM hS (lv_sub hl [1, 2, 0] rfl)
    refine lv_aload_n hx hb dX5_week_132 rfl (lv_at hl 0 rfl) ?_
    refine lv_iconst (v := 0) hx hb dX5_week_133 (by decide) ?_
    refine hm_put (r := 0) (ci := 5) (C := RX5) (T := TX5) (N := 55) hx hb hts in_X5 tyX5 tyX5_ok nmX5 hown hK hM hIx hS mS_0 rfl 34 (by decide) (hts _ q1402) rfl rfl rfl hf dX5_week_134 (fun g17 H locs hf hM hS => ?_)
    refine lv_aload_n hx hb dX5_week_137 rfl (lv_at hl 0 rfl) ?_
    refine lv_iconst (v := 0) hx hb dX5_week_138 (by decide) ?_
    refine hm_put (r := 0) (ci := 5) (C := RX5) (T := TX5) (N := 55) hx hb hts in_X5 tyX5 tyX5_ok nmX5 hown hK hM hIx hS mS_0 rfl 35 (by decide) (hts _ q1403) rfl rfl rfl hf dX5_week_139 (fun g18 H locs hf hM hS => ?_)
    refine lv_aload_n hx hb dX5_week_142 rfl (lv_at hl 0 rfl) ?_
    refine lv_iconst (v := 0) hx hb dX5_week_143 (by decide) ?_
    refine hm_putz (r := 0) (ci := 5) (C := RX5) (T := TX5) (N := 55) hx hb hts in_X5 tyX5 tyX5_ok nmX5 hown hK hM hIx hS mS_0 rfl 36 (by decide) (hts _ q1404) rfl rfl rfl hf dX5_week_144 (fun g19 H locs hf hM hS => ?_)
    refine lv_aload_n hx hb dX5_week_147 rfl (lv_at hl 0 rfl) ?_
    refine lv_iconst (v := 0) hx hb dX5_week_148 (by decide) ?_
    refine hm_putz (r := 0) (ci := 5) (C := RX5) (T := TX5) (N := 55) hx hb hts in_X5 tyX5 tyX5_ok nmX5 hown hK hM hIx hS mS_0 rfl 37 (by decide) (hts _ q1405) rfl rfl rfl hf dX5_week_149 (fun g20 H locs hf hM hS => ?_)
    refine lv_aload_n hx hb dX5_week_152 rfl (lv_at hl 0 rfl) ?_
    refine lv_iconst (v := 0) hx hb dX5_week_153 (by decide) ?_
    refine lv_iconst (v := 0) hx hb dX5_week_154 (by decide) ?_
    obtain ⟨y21, hq, hf⟩ := hbind hf
    refine hr_callv0 (va_runV (As := [.int (0 : Int32), .int (0 : Int32)]) (rest := []) ⟨hx, hb, hml, hown, hts⟩ (met_m_weekR8 l D C a0 s0 ad so t lt g20 (0 : Int32) (0 : Int32) hq) (cwV 2 hts (lw_V q1752 q1754 qs61 q99 q1755) rfl rfl rfl (by decide +kernel) ⟨Nat.le_of_ble_eq_true rfl, Nat.le_of_ble_eq_true rfl⟩) (hr_preV hZ_c hM hIx hK hZ0 hA0 hS (r := .inr 0) mS_0 (q := (RX5, TX5, 55)) rfl) rfl rfl hl.1 rfl (lv_room (Nat.le_of_ble_eq_true rfl)) dX5_week_155 ⟨Nat.le_of_ble_eq_true rfl, Nat.le_of_ble_eq_true rfl⟩) hS (fun H locs hM hS => ?_)
    refine lv_aload_n hx hb dX5_week_158 rfl (lv_at hl 0 rfl) ?_
    refine hr_get (ci := 5) (C := RX5) (T := TX5) (N := 55) (r := .inr 0) hx hb hts in_X5 hown hK hM mS_0 rfl 36 (by decide) (hts _ q1404) rfl (v := .int (y21 0 36)) rfl dX5_week_159 ?_
    refine hb_if_eq (tgt := 168) hx hb dX5_week_162 (by decide) hf (fun hf => ?_) (fun hf => ?_)
    · refine lv_aload_n hx hb dX5_week_168 rfl (lv_at hl 0 rfl) ?_
      refine hr_get (ci := 5) (C := RX5) (T := TX5) (N := 55) (r := .inr 0) hx hb hts in_X5 hown hK hM mS_0 rfl 37 (by decide) (hts _ q1405) rfl (v := .int (y21 0 37)) rfl dX5_week_169 ?_
      refine hb_if_eq (tgt := 211) hx hb dX5_week_172 (by decide) hf (fun hf => ?_) (fun hf => ?_)
      · exact w_m_week_B211 ⟨hx, hb, hr, hml, hown, hts, hlocks, hK, hZ0, hA0⟩ hIx g p0 g1 y2 g3 x12 x16 g17 g18 g19 g20 y21 y21 hf hM hS (lv_sub hl [0, 1] rfl)
      · refine lv_aload_n hx hb dX5_week_175 rfl (lv_at hl 0 rfl) ?_
        refine lv_aload_n hx hb dX5_week_176 rfl (lv_at hl 0 rfl) ?_
        refine hr_get (ci := 5) (C := RX5) (T := TX5) (N := 55) (r := .inr 0) hx hb hts in_X5 hown hK hM mS_0 rfl 33 (by decide) (hts _ q1401) rfl (v := .int (y21 0 33)) rfl dX5_week_177 ?_
        refine hm_put (r := 0) (ci := 5) (C := RX5) (T := TX5) (N := 55) hx hb hts in_X5 tyX5 tyX5_ok nmX5 hown hK hM hIx hS mS_0 rfl 32 (by decide) (hts _ q1400) rfl rfl rfl hf dX5_week_180 (fun g22 H locs hf hM hS => ?_)
        refine lv_iconst (v := 0) hx hb dX5_week_183 (by decide) ?_
        refine lv_istore_n (lv' := [(2, .int (0 : Int32)), (0, .ref (ad (.inr 0))), (1, .int p0)]) hx hb dX5_week_184 rfl hl (by decide) rfl (fun ls hl => ?_)
        obtain ⟨x26, hq, hf⟩ := hbind hf
        refine w_m_week_L185 ⟨hx, hb, hr, hml, hown, hts, hlocks, hK, hZ0, hA0⟩ hIx g p0 g1 y2 g3 x12 x16 g17 g18 g19 g20 y21 g22 x26 hFU ((0 : Int32), g22) hq (fun H locs ls hM hS hl => ?_) H locs ls hM hS (lv_sub hl [1, 2, 0] rfl)
        exact w_m_week_B211 ⟨hx, hb, hr, hml, hown, hts, hlocks, hK, hZ0, hA0⟩ hIx g p0 g1 y2 g3 x12 x16 g17 g18 g19 g20 y21 x26 hf hM hS (lv_sub hl [0, 1] rfl)
    · refine lv_bipush (v := -2) hx hb dX5_week_165 (by decide) ?_
      have eo := Option.some.inj hf
      subst eo
      exact W.iret (v := (-2 : Int32)) hx hb hr (fun T ht hW => ⟨⟨(-2 : Int32), (), rfl, rfl, by dsimp only; rw [ht]; exact hM⟩, hS.F ht⟩) hS.2.2 dX5_week_167
  · refine lv_aload_n hx hb dX5_week_14 rfl (lv_at hl 0 rfl) ?_
    refine lv_iconst (v := 1) hx hb dX5_week_15 (by decide) ?_
    obtain ⟨y27, hq, hf⟩ := hbind hf
    refine hr_calli0 (va_runV (As := [.int (1 : Int32)]) (rest := []) ⟨hx, hb, hml, hown, hts⟩ (met_m_fail l D C a0 s0 ad so t lt g1 (1 : Int32) hq) (cwV 1 hts (lw_V q1547 q1549 qs33 q99 q1550) rfl rfl rfl (by decide +kernel) ⟨Nat.le_of_ble_eq_true rfl, Nat.le_of_ble_eq_true rfl⟩) (hr_preV hZ_c hM hIx hK hZ0 hA0 hS (r := .inr 0) mS_0 (q := (RX5, TX5, 55)) rfl) rfl rfl hl.1 rfl (lv_room (Nat.le_of_ble_eq_true rfl)) dX5_week_16 ⟨Nat.le_of_ble_eq_true rfl, Nat.le_of_ble_eq_true rfl⟩) hS (fun H locs hM hS => ?_)
    have eo := Option.some.inj hf
    subst eo
    exact W.iret (v := y27.1) hx hb hr (fun T ht hW => ⟨⟨y27.1, (), rfl, rfl, by dsimp only; rw [ht]; exact hM⟩, hS.F ht⟩) hS.2.2 dX5_week_19
set_option maxHeartbeats 4000000 in
set_option maxRecDepth 100000 in
theorem met_m_week (l : Launch) (D : va_G) (C : Nat → Nat) (a0 : Array Value) (s0 : State) (ad : Rl → Nat) (so : Nat → Option hS) (t : hSt) (lt : Rl → Nat → Int64) (g : hSt) (p0 : Int32) {o : Int32 × hSt} (hf : m_week g p0 = some o) : Met l yX5_week (ws_ yX5_week cX5_week 3 (some .int)) rm_m_week (va_Pc [.ref (ad (.inr 0)), .int p0] (hB D vwCl (hT C) (hA s0) (hZ a0 s0) ad (Sum.elim so (mSH C)) (Sum.elim t g) lt)) (va_Qi (fun (r : Int32) (_ : Unit) => r = o.1) (fun (_ : Unit) (U : State) => hW D vwCl ad (Sum.elim so (mSH C)) (Sum.elim t o.2) lt U.heap) (hA s0)) 0 0 (hA s0) := by
  refine Met.ofW (cc := cX5_week) (maxL := 3) (ret := (some .int)) (by decide) rfl ?_
  intro p e s m args below meth c s₁ B hml hv
  obtain ⟨rfl, hM, hIx, hK, hZ0, hA0⟩ := hv
  have hl := lv_entry ([.ref (ad (.inr 0)), .int p0]) (n := 3) (Nat.le_of_ble_eq_true rfl)
  rw [lg_entry_eq]
  generalize (lg_sl ([.ref (ad (.inr 0)), .int p0]) ++ List.replicate (3 - (lg_sl ([.ref (ad (.inr 0)), .int p0])).length) Slot.unset).toArray = ls at hl ⊢
  have hl : lv_has ls 3 [(0, .ref (ad (.inr 0))), (1, .int p0)] := hl
  exact w_m_week ⟨B.exec, B.bytes, B.returns, hml, findClass_of_methodNamed B.named, fun w h => atoms_spec (ws := ws_ yX5_week cX5_week 3 (some .int)) B.pre w (List.mem_cons_of_mem _ h), B.notSynchronized, hK, hZ0, hA0⟩ hIx g p0 hf hM va_S.rf hl

