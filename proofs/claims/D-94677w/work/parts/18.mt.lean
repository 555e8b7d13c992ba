/-! TEXTS of the reference (printed by tools/gen.py) -/
set_option maxRecDepth 100000
def m_is_B75 (v3_39 : Int32) (k0_75 : Int32) : Option ((Int32 × Int32) ⊕ (Int32)) :=
  hlet (v3_39 + (1 : Int32)) fun y3_3 => some (.inl (k0_75, y3_3))
def m_is_L39 (g : hSt) (tx0 : List Int32) (v2_39 : Int32) (v3_39 : Int32) : Option ((Int32 × Int32) ⊕ (Int32)) :=
  if v2_39 = 0 then (some (.inr v2_39)) else (if (Int32.ofNat tx0.length) ≤ v3_39 then (some (.inr v2_39)) else ((hsch tx0 v3_39).bind fun x1 => (hrd 700 (g 14) ((g 0 19) + v3_39)).bind fun x2 => if x1 = x2 then (m_is_B75 v3_39 (1 : Int32)) else (m_is_B75 v3_39 (0 : Int32))))
def m_is_B36 (g : hSt) (tx0 : List Int32) (k0_36 : Int32) : Option (Int32) :=
  (hiter (fun q : Int32 × Int32 => m_is_L39 g tx0 q.1 q.2) hFU (k0_36, (0 : Int32))).bind fun x4 => if x4 = 0 ∨ x4 = 1 then some x4 else none
def m_is_B35 (g : hSt) (tx0 : List Int32) : Option (Int32) :=
  m_is_B36 g tx0 (0 : Int32)
def m_is (g : hSt) (tx0 : List Int32) : Option (Int32) :=
  if (g 0 21) = 0 then (if (g 0 17) = (1 : Int32) then (if (Int32.ofNat tx0.length) = ((g 0 20) - (g 0 19)) then (m_is_B36 g tx0 (1 : Int32)) else (m_is_B35 g tx0)) else (m_is_B35 g tx0)) else (m_is_B35 g tx0)

def m_passes (g : hSt) (tx0 : List Int32) : Option (Int32 × hSt) :=
  (m_is g tx0).bind fun y1 => if y1 = 0 then (if y1 = 0 ∨ y1 = 1 then some (y1, g) else none) else ((m_stepOn g).bind fun y2 => if y1 = 0 ∨ y1 = 1 then some (y1, y2) else none)

def m_readOne_L68 (g5 : hSt) (v2_68 : Int32) (v3_68 : Int32) : Option ((Int32 × Int32) ⊕ (Int32)) :=
  if (5 : Int32) ≤ v3_68 then (some (.inr v2_68)) else ((hkd v3_68).bind fun k6 => (m_is g5 (txk k6)).bind fun y7 => if y7 = 0 then (hlet (v3_68 + (1 : Int32)) fun y3_8 => some (.inl (v2_68, y3_8))) else (hlet (v3_68 + (1 : Int32)) fun y3_9 => some (.inl (v3_68, y3_9))))
def m_readOne_B169 (k0_169 : Int32) (k1_169 : Int32) (g_169 : hSt) : Option (hSt) :=
  hwr 12 g_169 5 k1_169 k0_169 fun g13 => (hrd 8 (g13 3) (4 : Int32)).bind fun x14 => hwr 8 g13 3 (4 : Int32) (x14 + (1 : Int32)) fun g15 => some g15
def m_readOne_B108 (x3 : Int32) (x10 : Int32) (g_108 : hSt) : Option (hSt) :=
  if (g_108 0 21) = 0 then ((m_stepOn g_108).bind fun y11 => hwr 12 y11 4 ((6 : Int32) + x3) x10 fun g12 => if x10 = (3 : Int32) then ((m_readNumber g12 (0 : Int32) (11 : Int32)).bind fun y17 => m_readOne_B169 y17.1 ((6 : Int32) + x3) y17.2) else (if x10 = (4 : Int32) then ((m_readNumber g12 (0 : Int32) (99 : Int32)).bind fun y16 => m_readOne_B169 y16.1 ((6 : Int32) + x3) y16.2) else (m_readOne_B169 (0 : Int32) ((6 : Int32) + x3) g12))) else (some g_108)
def m_readOne_B63 (x3 : Int32) (k0_63 : Int32) (k1_63 : Int32) (g_63 : hSt) : Option (hSt) :=
  hwr 30 g_63 9 k1_63 k0_63 fun g5 => (hiter (fun q : Int32 × Int32 => m_readOne_L68 g5 q.1 q.2) hFU ((-1 : Int32), (0 : Int32))).bind fun x10 => if x10 = (-1 : Int32) then ((m_wrong g5 (1 : Int32)).bind fun y18 => m_readOne_B108 x3 x10 y18) else (m_readOne_B108 x3 x10 g5)
def m_readOne_B16 (g_16 : hSt) : Option (hSt) :=
  if (g_16 0 21) = 0 then ((m_stepOn g_16).bind fun y2 => (hrd 8 (y2 3) (4 : Int32)).bind fun x3 => (m_passes y2 tx_sand).bind fun y4 => if y4.1 = 0 then (m_readOne_B63 x3 (0 : Int32) ((12 : Int32) + x3) y4.2) else ((m_readNumber y4.2 (0 : Int32) (99 : Int32)).bind fun y19 => m_readOne_B63 x3 y19.1 ((12 : Int32) + x3) y19.2)) else (some g_16)
def m_readOne (g : hSt) : Option (hSt) :=
  (hrd 8 (g 3) (4 : Int32)).bind fun x1 => if x1 = (6 : Int32) then ((m_wrong g (2 : Int32)).bind fun y20 => m_readOne_B16 y20) else (m_readOne_B16 g)

def m_readThing_B16 (g_16 : hSt) : Option (hSt) :=
  if (g_16 0 21) = 0 then ((m_stepOn g_16).bind fun y2 => (hrd 8 (y2 3) (5 : Int32)).bind fun x3 => (m_readNumber y2 (1 : Int32) (99 : Int32)).bind fun y4 => hwr 12 y4.2 11 x3 y4.1 fun g5 => (m_readNumber g5 (0 : Int32) (999 : Int32)).bind fun y6 => hwr 24 y6.2 6 ((12 : Int32) + x3) y6.1 fun g7 => (m_readPerson g7).bind fun y8 => hwr 30 y8.2 9 x3 y8.1 fun g9 => (m_passes g9 tx_wet).bind fun y10 => hwr 24 y10.2 12 ((12 : Int32) + x3) (vp_nar .boolean y10.1) fun g11 => (hrd 8 (g11 3) (5 : Int32)).bind fun x12 => hwr 8 g11 3 (5 : Int32) (x12 + (1 : Int32)) fun g13 => some g13) else (some g_16)
def m_readThing (g : hSt) : Option (hSt) :=
  (hrd 8 (g 3) (5 : Int32)).bind fun x1 => if x1 = (12 : Int32) then ((m_wrong g (2 : Int32)).bind fun y14 => m_readThing_B16 y14) else (m_readThing_B16 g)

def m_readOwes_B101 (y1 : Int32 × hSt) (y6 : Int32 × hSt) (g_101 : hSt) : Option (hSt) :=
  hwr 30 g_101 9 ((24 : Int32) + y1.1) y6.1 fun g7 => some g7
def m_readOwes_B90 (y1 : Int32 × hSt) (y6 : Int32 × hSt) (g_90 : hSt) : Option (hSt) :=
  if (g_90 0 21) = 0 then ((m_stepOn g_90).bind fun y8 => m_readOwes_B101 y1 y6 y8) else (m_readOwes_B101 y1 y6 g_90)
def m_readOwes_B29 (y1 : Int32 × hSt) (g_29 : hSt) : Option (hSt) :=
  if (g_29 0 21) = 0 then ((m_stepOn g_29).bind fun y2 => (m_readNumber y2 (1 : Int32) (999 : Int32)).bind fun y3 => hwr 30 y3.2 9 ((18 : Int32) + y1.1) y3.1 fun g4 => (m_passes g4 tx_to).bind fun y5 => if y5.1 = 0 then (some y5.2) else ((m_personNow y5.2).bind fun y6 => if (y6.2 0 21) = 0 then (if y6.1 = y1.1 then ((m_wrong y6.2 (4 : Int32)).bind fun y9 => m_readOwes_B90 y1 y6 y9) else (m_readOwes_B90 y1 y6 y6.2)) else (m_readOwes_B90 y1 y6 y6.2))) else (some g_29)
def m_readOwes (g : hSt) : Option (hSt) :=
  (m_personNow g).bind fun y1 => if (y1.2 0 21) = 0 then ((hrd 30 (y1.2 9) ((18 : Int32) + y1.1)).bind fun x10 => if x10 ≤ 0 then (m_readOwes_B29 y1 y1.2) else ((m_wrong y1.2 (4 : Int32)).bind fun y11 => m_readOwes_B29 y1 y11)) else (m_readOwes_B29 y1 y1.2)

def m_readLaw_B36 (y1 : Int32) (g_36 : hSt) : Option (hSt) :=
  if y1 = 0 then (hwr 8 g_36 3 (6 : Int32) (1 : Int32) fun g2 => some g2) else (hwr 8 g_36 3 (6 : Int32) (0 : Int32) fun g3 => some g3)
def m_readLaw_B25 (y1 : Int32) (g_25 : hSt) : Option (hSt) :=
  if (g_25 0 21) = 0 then ((m_stepOn g_25).bind fun y4 => m_readLaw_B36 y1 y4) else (m_readLaw_B36 y1 g_25)
def m_readLaw (g : hSt) : Option (hSt) :=
  (m_is g tx_giver).bind fun y1 => if y1 = 0 then ((m_is g tx_anyone).bind fun y5 => if y5 = 0 then ((m_wrong g (1 : Int32)).bind fun y6 => m_readLaw_B25 y1 y6) else (m_readLaw_B25 y1 g)) else (m_readLaw_B25 y1 g)

def m_readLine_B179 (p0 : Int32) (k0_27 : Int32) (g_179 : hSt) : Option (Int32 × hSt) :=
  some ((p0 ||| k0_27), g_179)
def m_readLine_B168 (p0 : Int32) (k0_27 : Int32) (g_168 : hSt) : Option (Int32 × hSt) :=
  if (g_168 0 21) = 0 then ((m_stepOn g_168).bind fun y7 => m_readLine_B179 p0 k0_27 y7) else (m_readLine_B179 p0 k0_27 g_168)
def m_readLine_B148 (p0 : Int32) (k0_27 : Int32) (g_148 : hSt) : Option (Int32 × hSt) :=
  if (g_148 0 21) = 0 then (if (g_148 0 17) = (3 : Int32) then (m_readLine_B168 p0 k0_27 g_148) else ((m_wrong g_148 (1 : Int32)).bind fun y8 => m_readLine_B168 p0 k0_27 y8)) else (m_readLine_B168 p0 k0_27 g_148)
def m_readLine_B126 (p0 : Int32) (k0_27 : Int32) (g_126 : hSt) : Option (Int32 × hSt) :=
  (m_readNumber g_126 (0 : Int32) (9 : Int32)).bind fun y9 => hwr 8 y9.2 3 (7 : Int32) y9.1 fun g10 => m_readLine_B148 p0 k0_27 g10
def m_readLine_B103 (p0 : Int32) (k0_27 : Int32) (g_103 : hSt) : Option (Int32 × hSt) :=
  (m_readLaw g_103).bind fun y12 => m_readLine_B148 p0 k0_27 y12
def m_readLine_B39 (p0 : Int32) (k0_27 : Int32) (g_39 : hSt) : Option (Int32 × hSt) :=
  (m_is g_39 tx_person).bind fun y3 => if y3 = 0 then ((m_is g_39 tx_thing).bind fun y4 => if y4 = 0 then ((m_passes g_39 tx_owes).bind fun y5 => if y5.1 = 0 then (if k0_27 = (1 : Int32) then (if (y5.2 0 21) = 0 then ((m_stepOn y5.2).bind fun y13 => m_readLine_B103 p0 k0_27 y13) else (m_readLine_B103 p0 k0_27 y5.2)) else (if k0_27 = (2 : Int32) then (if (y5.2 0 21) = 0 then ((m_stepOn y5.2).bind fun y11 => m_readLine_B126 p0 k0_27 y11) else (m_readLine_B126 p0 k0_27 y5.2)) else ((m_wrong y5.2 (1 : Int32)).bind fun y6 => m_readLine_B148 p0 k0_27 y6))) else ((m_readOwes y5.2).bind fun y14 => m_readLine_B148 p0 k0_27 y14)) else ((m_readThing g_39).bind fun y15 => m_readLine_B148 p0 k0_27 y15)) else ((m_readOne g_39).bind fun y16 => m_readLine_B148 p0 k0_27 y16)
def m_readLine_B27 (g : hSt) (p0 : Int32) (k0_27 : Int32) : Option (Int32 × hSt) :=
  if (p0 &&& k0_27) = 0 then (m_readLine_B39 p0 k0_27 g) else ((m_wrong g (5 : Int32)).bind fun y17 => m_readLine_B39 p0 k0_27 y17)
def m_readLine (g : hSt) (p0 : Int32) : Option (Int32 × hSt) :=
  (m_is g tx_law).bind fun y1 => if y1 = 0 then ((m_is g tx_within).bind fun y2 => if y2 = 0 then (m_readLine_B27 g p0 (0 : Int32)) else (m_readLine_B27 g p0 (2 : Int32))) else (m_readLine_B27 g p0 (1 : Int32))

def m_town_B17 (g1 : hSt) : Option (Int32 × hSt) :=
  (m_fail g1 (1 : Int32)).bind fun y2 => some (y2.1, y2.2)
def m_town_L50 (v2_50 : Int32) (g_50 : hSt) : Option ((Int32 × hSt) ⊕ (hSt)) :=
  if (8 : Int32) ≤ v2_50 then (some (.inr g_50)) else (hwr 8 g_50 3 v2_50 (0 : Int32) fun g8 => hlet (v2_50 + (1 : Int32)) fun y2_9 => some (.inl (y2_9, g8)))
def m_town_L82 (v2_82 : Int32) (g_82 : hSt) : Option ((Int32 × hSt) ⊕ (hSt)) :=
  if (g_82 0 21) = 0 then (if (g_82 0 17) = 0 then (some (.inr g_82)) else ((m_readLine g_82 v2_82).bind fun y13 => some (.inl (y13.1, y13.2)))) else (some (.inr g_82))
def m_town_L137 (v3_137 : Int32) (g_137 : hSt) : Option ((Int32 × hSt) ⊕ (hSt)) :=
  if (4 : Int32) ≤ v3_137 then (some (.inr g_137)) else ((hrd 8 (g_137 3) ((4 : Int32) + v3_137)).bind fun x15 => hwr 8 g_137 3 v3_137 x15 fun g16 => hlet (v3_137 + (1 : Int32)) fun y3_17 => some (.inl (y3_17, g16)))
def m_town_L164 (v3_164 : Int32) (g_164 : hSt) : Option ((Int32 × hSt) ⊕ (hSt)) :=
  if (6 : Int32) ≤ v3_164 then (some (.inr g_164)) else ((hrd 12 (g_164 4) ((6 : Int32) + v3_164)).bind fun x19 => hwr 12 g_164 4 v3_164 x19 fun g20 => (hrd 12 (g20 5) ((6 : Int32) + v3_164)).bind fun x21 => hwr 12 g20 5 v3_164 x21 fun g22 => hlet (v3_164 + (1 : Int32)) fun y3_23 => some (.inl (y3_23, g22)))
def m_town_L208 (v3_208 : Int32) (g_208 : hSt) : Option ((Int32 × hSt) ⊕ (hSt)) :=
  if (12 : Int32) ≤ v3_208 then (some (.inr g_208)) else ((hrd 24 (g_208 6) ((12 : Int32) + v3_208)).bind fun x25 => hwr 24 g_208 6 v3_208 x25 fun g26 => (hrd 12 (g26 11) v3_208).bind fun x27 => hwr 12 g26 10 v3_208 x27 fun g28 => (hrd 24 (g28 12) ((12 : Int32) + v3_208)).bind fun x29 => hwr 24 g28 12 v3_208 (vp_nar .boolean x29) fun g30 => hlet (v3_208 + (1 : Int32)) fun y3_31 => some (.inl (y3_31, g30)))
def m_town (g : hSt) (p0 : Int32) : Option (Int32 × hSt) :=
  hpt g 0 1 (0 : Int32) fun g1 => if p0 < 0 then (m_town_B17 g1) else (if p0 ≤ (g1 0 14) then (hpt g1 0 14 (0 : Int32) fun g3 => hpt g3 0 16 p0 fun g4 => hpt g4 0 15 (0 : Int32) fun g5 => hpt g5 0 21 (0 : Int32) fun g6 => hpt g6 0 23 (-1 : Int32) fun g7 => (hiter (fun q : Int32 × hSt => m_town_L50 q.1 q.2) hFU ((4 : Int32), g7)).bind fun x10 => (m_begin x10 9).bind fun y11 => (m_stepOn y11).bind fun y12 => (hiter (fun q : Int32 × hSt => m_town_L82 q.1 q.2) hFU ((0 : Int32), y12)).bind fun x14 => if (x14 0 21) = 0 then ((hiter (fun q : Int32 × hSt => m_town_L137 q.1 q.2) hFU ((0 : Int32), x14)).bind fun x18 => (hiter (fun q : Int32 × hSt => m_town_L164 q.1 q.2) hFU ((0 : Int32), x18)).bind fun x24 => (hiter (fun q : Int32 × hSt => m_town_L208 q.1 q.2) hFU ((0 : Int32), x24)).bind fun x32 => (m_copy x32 9 8).bind fun y33 => hpt y33 0 12 (0 : Int32) fun g34 => hpt g34 0 24 (0 : Int32) fun g35 => hpt g35 0 32 (-1 : Int32) fun g36 => hptz g36 0 48 (0 : Int32) fun g37 => some ((0 : Int32), g37)) else (hpt x14 0 23 (x14 0 22) fun g38 => (hrd 2 (g38 7) (0 : Int32)).bind fun x39 => hwr 2 g38 7 (0 : Int32) (x39 + (1 : Int32)) fun g40 => some ((g40 0 21), g40))) else (m_town_B17 g1))

def rm_m_is : Room := { frames := 9, cells := 0, slots := 0, locals := 160 }
set_option maxHeartbeats 4000000 in
set_option maxRecDepth 100000 in
theorem w_m_is_B75 {p : Program} {l : Launch} {e : Env} {s : State} {m : MethodId} {args : Array Value} {below : List Frame} {meth : Method} {c : Code} {D : va_G} {C : Nat → Nat} {a0 : Array Value} {s0 : State} {ad : Rl → Nat} {so : Nat → Option hS} {t : hSt} {lt : Rl → Nat → Int64} (CX : hCx D C a0 s0 p s m args meth c cX5_is 4 RX5 (some .boolean)) (hIx : hI (hA s0) ad (Sum.elim so (mSH C))) (g : hSt) (tx0 : List Int32) (k0_36 : Int32) (v2_39 : Int32) (v3_39 : Int32) (x1 : Int32) (x2 : Int32) (k0_75 : Int32) (v0 : Nat) (h_t0 : hLi s0 v0 tx0) {oM : Int32} {o : (Int32 × Int32) ⊕ (Int32)} (hf : m_is_B75 v3_39 k0_75 = some o) (kc : ∀ s' : Int32 × Int32, o = .inl s' → ∀ (H : Heap) (locs : List Loc) (ls : Array Slot), hW D vwCl ad (Sum.elim so (mSH C)) (Sum.elim t g) lt H → va_S (hA s0) s.heap H locs → lv_has ls 4 [(0, .ref (ad (.inr 0))), (1, .ref v0), (2, .int s'.1), (3, .int s'.2)] → W p l e rm_m_is s m args below meth c H locs 0 0 (MQ below (va_Qi (fun (r : Int32) (_ : Unit) => r = oM) (fun (_ : Unit) (U : State) => hW D vwCl ad (Sum.elim so (mSH C)) (Sum.elim t g) lt U.heap) (hA s0)) args s 0 0 (hA s0)) (F0 m 39 ls [])) (kx : ∀ x' : Int32, o = .inr x' → ∀ (H : Heap) (locs : List Loc) (ls : Array Slot), hW D vwCl ad (Sum.elim so (mSH C)) (Sum.elim t g) lt H → va_S (hA s0) s.heap H locs → lv_has ls 4 [(2, .int x')] → W p l e rm_m_is s m args below meth c H locs 0 0 (MQ below (va_Qi (fun (r : Int32) (_ : Unit) => r = oM) (fun (_ : Unit) (U : State) => hW D vwCl ad (Sum.elim so (mSH C)) (Sum.elim t g) lt U.heap) (hA s0)) args s 0 0 (hA s0)) (F0 m 82 ls [])) {H : Heap} {locs : List Loc} (hM : hW D vwCl ad (Sum.elim so (mSH C)) (Sum.elim t g) lt H) (hS : va_S (hA s0) s.heap H locs) {ls : Array Slot} (hl : lv_has ls 4 [(0, .ref (ad (.inr 0))), (1, .ref v0), (3, .int v3_39)]) : W p l e rm_m_is s m args below meth c H locs 0 0 (MQ below (va_Qi (fun (r : Int32) (_ : Unit) => r = oM) (fun (_ : Unit) (U : State) => hW D vwCl ad (Sum.elim so (mSH C)) (Sum.elim t g) lt U.heap) (hA s0)) args s 0 0 (hA s0)) (F0 m 75 ls [.int k0_75]) := by
  obtain ⟨hx, hb, hr, hml, hown, hts, hlocks, hK, hZ0, hA0⟩ := CX
  unfold m_is_B75 at hf
  refine lv_istore_n (lv' := [(2, .int k0_75), (0, .ref (ad (.inr 0))), (1, .ref v0), (3, .int v3_39)]) hx hb dX5_is_75 rfl hl (by decide) rfl (fun ls hl => ?_)
  obtain ⟨y3_3, ey, hf⟩ := hlet_ex hf
  refine lv_iinc (v := y3_3) (lv' := [(3, .int y3_3), (2, .int k0_75), (0, .ref (ad (.inr 0))), (1, .ref v0)]) hx hb dX5_is_76 hl (k := 3) rfl (by rw [ey]; rfl) (by decide) rfl (fun ls hl => ?_)
  refine lv_goto (tgt := 39) hx hb dX5_is_79 (by decide) ?_
  exact kc (k0_75, y3_3) (Option.some.inj hf).symm H locs ls hM hS (lv_sub hl [2, 3, 1, 0] rfl)
set_option maxHeartbeats 4000000 in
set_option maxRecDepth 100000 in
theorem w_m_is_L39 {p : Program} {l : Launch} {e : Env} {s : State} {m : MethodId} {args : Array Value} {below : List Frame} {meth : Method} {c : Code} {D : va_G} {C : Nat → Nat} {a0 : Array Value} {s0 : State} {ad : Rl → Nat} {so : Nat → Option hS} {t : hSt} {lt : Rl → Nat → Int64} (CX : hCx D C a0 s0 p s m args meth c cX5_is 4 RX5 (some .boolean)) (hIx : hI (hA s0) ad (Sum.elim so (mSH C))) (g : hSt) (tx0 : List Int32) (k0_36 : Int32) (v0 : Nat) (h_t0 : hLi s0 v0 tx0) {oM : Int32} (x : Int32) (n : Nat) (q0 : Int32 × Int32) (h0 : hiter (fun q : Int32 × Int32 => m_is_L39 g tx0 q.1 q.2) n q0 = some x) (kx0 : ∀ (H : Heap) (locs : List Loc) (ls : Array Slot), hW D vwCl ad (Sum.elim so (mSH C)) (Sum.elim t g) lt H → va_S (hA s0) s.heap H locs → lv_has ls 4 [(2, .int x)] → W p l e rm_m_is s m args below meth c H locs 0 0 (MQ below (va_Qi (fun (r : Int32) (_ : Unit) => r = oM) (fun (_ : Unit) (U : State) => hW D vwCl ad (Sum.elim so (mSH C)) (Sum.elim t g) lt U.heap) (hA s0)) args s 0 0 (hA s0)) (F0 m 82 ls [])) : ∀ (H : Heap) (locs : List Loc) (ls : Array Slot), hW D vwCl ad (Sum.elim so (mSH C)) (Sum.elim t g) lt H → va_S (hA s0) s.heap H locs → lv_has ls 4 [(0, .ref (ad (.inr 0))), (1, .ref v0), (2, .int q0.1), (3, .int q0.2)] → W p l e rm_m_is s m args below meth c H locs 0 0 (MQ below (va_Qi (fun (r : Int32) (_ : Unit) => r = oM) (fun (_ : Unit) (U : State) => hW D vwCl ad (Sum.elim so (mSH C)) (Sum.elim t g) lt U.heap) (hA s0)) args s 0 0 (hA s0)) (F0 m 39 ls []) := by
  obtain ⟨hx, hb, hr, hml, hown, hts, hlocks, hK, hZ0, hA0⟩ := CX
  refine hiter_W (Wh := fun q => ∀ (H : Heap) (locs : List Loc) (ls : Array Slot), hW D vwCl ad (Sum.elim so (mSH C)) (Sum.elim t g) lt H → va_S (hA s0) s.heap H locs → lv_has ls 4 [(0, .ref (ad (.inr 0))), (1, .ref v0), (2, .int q.1), (3, .int q.2)] → W p l e rm_m_is s m args below meth c H locs 0 0 (MQ below (va_Qi (fun (r : Int32) (_ : Unit) => r = oM) (fun (_ : Unit) (U : State) => hW D vwCl ad (Sum.elim so (mSH C)) (Sum.elim t g) lt U.heap) (hA s0)) args s 0 0 (hA s0)) (F0 m 39 ls [])) ?_ n q0 h0
  intro q o hf kc kx1 H locs ls hM hS hl
  obtain ⟨v2_39, v3_39⟩ := q
  replace hf : m_is_L39 g tx0 v2_39 v3_39 = some o := hf
  have kx : ∀ x' : Int32, o = .inr x' → ∀ (H : Heap) (locs : List Loc) (ls : Array Slot), hW D vwCl ad (Sum.elim so (mSH C)) (Sum.elim t g) lt H → va_S (hA s0) s.heap H locs → lv_has ls 4 [(2, .int x')] → W p l e rm_m_is s m args below meth c H locs 0 0 (MQ below (va_Qi (fun (r : Int32) (_ : Unit) => r = oM) (fun (_ : Unit) (U : State) => hW D vwCl ad (Sum.elim so (mSH C)) (Sum.elim t g) lt U.heap) (hA s0)) args s 0 0 (hA s0)) (F0 m 82 ls []) := fun x' ex => by rw [kx1 _ ex]; exact kx0
  unfold m_is_L39 at hf
  refine lv_iload_n hx hb dX5_is_39 rfl (lv_at hl 2 rfl) ?_
  refine hb_if_eq (tgt := 82) hx hb dX5_is_40 (by decide) hf (fun hf => ?_) (fun hf => ?_)
  · exact kx v2_39 (Option.some.inj hf).symm H locs ls hM hS (lv_sub hl [2] rfl)
  · refine lv_iload_n hx hb dX5_is_43 rfl (lv_at hl 3 rfl) ?_
    refine lv_aload_n hx hb dX5_is_44 rfl (lv_at hl 1 rfl) ?_
    refine hr_strI rfl (va_runV (As := []) (rest := [.int v3_39]) ⟨hx, hb, hml, hown, hts⟩ (met_s_length l v0 h_t0.choose tx0) (cwV 0 hts (lw_V q1576 q295 q296 q87 q297) rfl rfl rfl (by decide +kernel) ⟨Nat.le_of_ble_eq_true rfl, Nat.le_of_ble_eq_true rfl⟩) (hl_preV hpk_L ⟨h_t0.choose_spec, hZ_CS hZ0⟩ hZ0 hS h_t0.choose_spec.1) rfl rfl hl.1 rfl (lv_room (Nat.le_of_ble_eq_true rfl)) dX5_is_45 ⟨Nat.le_of_ble_eq_true rfl, Nat.le_of_ble_eq_true rfl⟩) hM hS (fun H locs hM hS => ?_)
    refine hb_icmp_ge (tgt := 82) hx hb dX5_is_48 (by decide) hf (fun hf => ?_) (fun hf => ?_)
    · exact kx v2_39 (Option.some.inj hf).symm H locs ls hM hS (lv_sub hl [2] rfl)
    · refine lv_aload_n hx hb dX5_is_51 rfl (lv_at hl 1 rfl) ?_
      refine lv_iload_n hx hb dX5_is_52 rfl (lv_at hl 3 rfl) ?_
      obtain ⟨x1, hq, hf⟩ := hbind hf
      obtain ⟨hc0, hc1, ec⟩ := hsch_ok hq
      refine hr_strI ec (va_runV (As := [.int v3_39]) (rest := []) ⟨hx, hb, hml, hown, hts⟩ (met_s_charAt l v0 h_t0.choose tx0 v3_39 hc0 hc1 h_t0.choose_spec.2.2.2.2) (cwV 1 hts (lw_V q1577 q1578 q1579 q87 q1580) rfl rfl rfl (by decide +kernel) ⟨Nat.le_of_ble_eq_true rfl, Nat.le_of_ble_eq_true rfl⟩) (hl_preV hpk_LF ⟨⟨h_t0.choose_spec, hZ_CS hZ0⟩, hZ_FM hZ0⟩ hZ0 hS h_t0.choose_spec.1) rfl rfl hl.1 rfl (lv_room (Nat.le_of_ble_eq_true rfl)) dX5_is_53 ⟨Nat.le_of_ble_eq_true rfl, Nat.le_of_ble_eq_true rfl⟩) hM hS (fun H locs hM hS => ?_)
      refine lv_aload_n hx hb dX5_is_56 rfl (lv_at hl 0 rfl) ?_
      refine hr_get (ci := 5) (C := RX5) (T := TX5) (N := 55) (r := .inr 0) hx hb hts in_X5 hown hK hM mS_0 rfl 13 (by decide) (hts _ q1381) rfl (v := .ref (ad (.inr 14))) rfl dX5_is_57 ?_
      refine lv_aload_n hx hb dX5_is_60 rfl (lv_at hl 0 rfl) ?_
      refine hr_get (ci := 5) (C := RX5) (T := TX5) (N := 55) (r := .inr 0) hx hb hts in_X5 hown hK hM mS_0 rfl 19 (by decide) (hts _ q1387) rfl (v := .int (g 0 19)) rfl dX5_is_61 ?_
      refine lv_iload_n hx hb dX5_is_64 rfl (lv_at hl 3 rfl) ?_
      refine lv_iadd hx hb dX5_is_65 ?_
      refine hm_iald (r := 14) hx hb hK hM 0 mS_14 rfl hf dX5_is_66 (fun x2 hf => ?_)
      refine hb_icmp_ne (tgt := 74) hx hb dX5_is_67 (by decide) hf (fun hf => ?_) (fun hf => ?_)
      · refine lv_iconst (v := 0) hx hb dX5_is_74 (by decide) ?_
        exact w_m_is_B75 ⟨hx, hb, hr, hml, hown, hts, hlocks, hK, hZ0, hA0⟩ hIx g tx0 k0_36 v2_39 v3_39 x1 x2 (0 : Int32) v0 h_t0 hf kc kx hM hS (lv_sub hl [0, 1, 3] rfl)
      · refine lv_iconst (v := 1) hx hb dX5_is_70 (by decide) ?_
        refine lv_goto (tgt := 75) hx hb dX5_is_71 (by decide) ?_
        exact w_m_is_B75 ⟨hx, hb, hr, hml, hown, hts, hlocks, hK, hZ0, hA0⟩ hIx g tx0 k0_36 v2_39 v3_39 x1 x2 (1 : Int32) v0 h_t0 hf kc kx hM hS (lv_sub hl [0, 1, 3] rfl)
set_option maxHeartbeats 4000000 in
set_option maxRecDepth 100000 in
theorem w_m_is_B36 {p : Program} {l : Launch} {e : Env} {s : State} {m : MethodId} {args : Array Value} {below : List Frame} {meth : Method} {c : Code} {D : va_G} {C : Nat → Nat} {a0 : Array Value} {s0 : State} {ad : Rl → Nat} {so : Nat → Option hS} {t : hSt} {lt : Rl → Nat → Int64} (CX : hCx D C a0 s0 p s m args meth c cX5_is 4 RX5 (some .boolean)) (hIx : hI (hA s0) ad (Sum.elim so (mSH C))) (g : hSt) (tx0 : List Int32) (k0_36 : Int32) (v0 : Nat) (h_t0 : hLi s0 v0 tx0) {o : Int32} (hf : m_is_B36 g tx0 k0_36 = some o) {H : Heap} {locs : List Loc} (hM : hW D vwCl ad (Sum.elim so (mSH C)) (Sum.elim t g) lt H) (hS : va_S (hA s0) s.heap H locs) {ls : Array Slot} (hl : lv_has ls 4 [(0, .ref (ad (.inr 0))), (1, .ref v0)]) : W p l e rm_m_is s m args below meth c H locs 0 0 (MQ below (va_Qi (fun (r : Int32) (_ : Unit) => r = o) (fun (_ : Unit) (U : State) => hW D vwCl ad (Sum.elim so (mSH C)) (Sum.elim t g) lt U.heap) (hA s0)) args s 0 0 (hA s0)) (F0 m 36 ls [.int k0_36]) := by
  obtain ⟨hx, hb, hr, hml, hown, hts, hlocks, hK, hZ0, hA0⟩ := CX
  unfold m_is_B36 at hf
  refine lv_istore_n (lv' := [(2, .int k0_36), (0, .ref (ad (.inr 0))), (1, .ref v0)]) hx hb dX5_is_36 rfl hl (by decide) rfl (fun ls hl => ?_)
  refine lv_iconst (v := 0) hx hb dX5_is_37 (by decide) ?_
  refine lv_istore_n (lv' := [(3, .int (0 : Int32)), (2, .int k0_36), (0, .ref (ad (.inr 0))), (1, .ref v0)]) hx hb dX5_is_38 rfl hl (by decide) rfl (fun ls hl => ?_)
  obtain ⟨x4, hq, hf⟩ := hbind hf
  refine w_m_is_L39 ⟨hx, hb, hr, hml, hown, hts, hlocks, hK, hZ0, hA0⟩ hIx g tx0 k0_36 v0 h_t0 x4 hFU (k0_36, (0 : Int32)) hq (fun H locs ls hM hS hl => ?_) H locs ls hM hS (lv_sub hl [2, 3, 1, 0] rfl)
  refine lv_iload_n hx hb dX5_is_82 rfl (lv_at hl 0 rfl) ?_
  obtain ⟨hbv, hf⟩ := hif_s hf
  have eo := Option.some.inj hf
  subst eo
  exact W.zret (v := x4) hx hb hr (hz_n hbv).1 (fun T ht hW => ⟨⟨x4, (), rfl, rfl, by dsimp only; rw [ht]; exact hM⟩, hS.F ht⟩) hS.2.2 dX5_is_83
set_option maxHeartbeats 4000000 in
set_option maxRecDepth 100000 in
theorem w_m_is_B35 {p : Program} {l : Launch} {e : Env} {s : State} {m : MethodId} {args : Array Value} {below : List Frame} {meth : Method} {c : Code} {D : va_G} {C : Nat → Nat} {a0 : Array Value} {s0 : State} {ad : Rl → Nat} {so : Nat → Option hS} {t : hSt} {lt : Rl → Nat → Int64} (CX : hCx D C a0 s0 p s m args meth c cX5_is 4 RX5 (some .boolean)) (hIx : hI (hA s0) ad (Sum.elim so (mSH C))) (g : hSt) (tx0 : List Int32) (v0 : Nat) (h_t0 : hLi s0 v0 tx0) {o : Int32} (hf : m_is_B35 g tx0 = some o) {H : Heap} {locs : List Loc} (hM : hW D vwCl ad (Sum.elim so (mSH C)) (Sum.elim t g) lt H) (hS : va_S (hA s0) s.heap H locs) {ls : Array Slot} (hl : lv_has ls 4 [(0, .ref (ad (.inr 0))), (1, .ref v0)]) : W p l e rm_m_is s m args below meth c H locs 0 0 (MQ below (va_Qi (fun (r : Int32) (_ : Unit) => r = o) (fun (_ : Unit) (U : State) => hW D vwCl ad (Sum.elim so (mSH C)) (Sum.elim t g) lt U.heap) (hA s0)) args s 0 0 (hA s0)) (F0 m 35 ls []) := by
  obtain ⟨hx, hb, hr, hml, hown, hts, hlocks, hK, hZ0, hA0⟩ := CX
  unfold m_is_B35 at hf
  refine lv_iconst (v := 0) hx hb dX5_is_35 (by decide) ?_
  exact w_m_is_B36 ⟨hx, hb, hr, hml, hown, hts, hlocks, hK, hZ0, hA0⟩ hIx g tx0 (0 : Int32) v0 h_t0 hf hM hS (lv_sub hl [0, 1] rfl)
set_option maxHeartbeats 4000000 in
set_option maxRecDepth 100000 in
theorem w_m_is {p : Program} {l : Launch} {e : Env} {s : State} {m : MethodId} {args : Array Value} {below : List Frame} {meth : Method} {c : Code} {D : va_G} {C : Nat → Nat} {a0 : Array Value} {s0 : State} {ad : Rl → Nat} {so : Nat → Option hS} {t : hSt} {lt : Rl → Nat → Int64} (CX : hCx D C a0 s0 p s m args meth c cX5_is 4 RX5 (some .boolean)) (hIx : hI (hA s0) ad (Sum.elim so (mSH C))) (g : hSt) (tx0 : List Int32) (v0 : Nat) (h_t0 : hLi s0 v0 tx0) {o : Int32} (hf : m_is g tx0 = some o) {H : Heap} {locs : List Loc} (hM : hW D vwCl ad (Sum.elim so (mSH C)) (Sum.elim t g) lt H) (hS : va_S (hA s0) s.heap H locs) {ls : Array Slot} (hl : lv_has ls 4 [(0, .ref (ad (.inr 0))), (1, .ref v0)]) : W p l e rm_m_is s m args below meth c H locs 0 0 (MQ below (va_Qi (fun (r : Int32) (_ : Unit) => r = o) (fun (_ : Unit) (U : State) => hW D vwCl ad (Sum.elim so (mSH C)) (Sum.elim t g) lt U.heap) (hA s0)) args s 0 0 (hA s0)) (F0 m 0 ls []) := by
  obtain ⟨hx, hb, hr, hml, hown, hts, hlocks, hK, hZ0, hA0⟩ := CX
  unfold m_is at hf
  refine lv_aload_n hx hb dX5_is_0 rfl (lv_at hl 0 rfl) ?_
  refine hr_get (ci := 5) (C := RX5) (T := TX5) (N := 55) (r := .inr 0) hx hb hts in_X5 hown hK hM mS_0 rfl 21 (by decide) (hts _ q1389) rfl (v := .int (g 0 21)) rfl dX5_is_1 ?_
  refine hb_if_ne (tgt := 35) hx hb dX5_is_4 (by decide) hf (fun hf => ?_) (fun hf => ?_)
  · exact w_m_is_B35 ⟨hx, hb, hr, hml, hown, hts, hlocks, hK, hZ0, hA0⟩ hIx g tx0 v0 h_t0 hf hM hS (lv_sub hl [0, 1] rfl)
  · refine lv_aload_n hx hb dX5_is_7 rfl (lv_at hl 0 rfl) ?_
    refine hr_get (ci := 5) (C := RX5) (T := TX5) (N := 55) (r := .inr 0) hx hb hts in_X5 hown hK hM mS_0 rfl 17 (by decide) (hts _ q1385) rfl (v := .int (g 0 17)) rfl dX5_is_8 ?_
    refine lv_iconst (v := 1) hx hb dX5_is_11 (by decide) ?_
    refine hb_icmp_ne (tgt := 35) hx hb dX5_is_12 (by decide) hf (fun hf => ?_) (fun hf => ?_)
    · exact w_m_is_B35 ⟨hx, hb, hr, hml, hown, hts, hlocks, hK, hZ0, hA0⟩ hIx g tx0 v0 h_t0 hf hM hS (lv_sub hl [0, 1] rfl)
    · refine lv_aload_n hx hb dX5_is_15 rfl (lv_at hl 1 rfl) ?_
      refine hr_strI rfl (va_runV (As := []) (rest := []) ⟨hx, hb, hml, hown, hts⟩ (met_s_length l v0 h_t0.choose tx0) (cwV 0 hts (lw_V q1576 q295 q296 q87 q297) rfl rfl rfl (by decide +kernel) ⟨Nat.le_of_ble_eq_true rfl, Nat.le_of_ble_eq_true rfl⟩) (hl_preV hpk_L ⟨h_t0.choose_spec, hZ_CS hZ0⟩ hZ0 hS h_t0.choose_spec.1) rfl rfl hl.1 rfl (lv_room (Nat.le_of_ble_eq_true rfl)) dX5_is_16 ⟨Nat.le_of_ble_eq_true rfl, Nat.le_of_ble_eq_true rfl⟩) hM hS (fun H locs hM hS => ?_)
      refine lv_aload_n hx hb dX5_is_19 rfl (lv_at hl 0 rfl) ?_
      refine hr_get (ci := 5) (C := RX5) (T := TX5) (N := 55) (r := .inr 0) hx hb hts in_X5 hown hK hM mS_0 rfl 20 (by decide) (hts _ q1388) rfl (v := .int (g 0 20)) rfl dX5_is_20 ?_
      refine lv_aload_n hx hb dX5_is_23 rfl (lv_at hl 0 rfl) ?_
      refine hr_get (ci := 5) (C := RX5) (T := TX5) (N := 55) (r := .inr 0) hx hb hts in_X5 hown hK hM mS_0 rfl 19 (by decide) (hts _ q1387) rfl (v := .int (g 0 19)) rfl dX5_is_24 ?_
      refine lv_isub hx hb dX5_is_27 ?_
      refine hb_icmp_ne (tgt := 35) hx hb dX5_is_28 (by decide) hf (fun hf => ?_) (fun hf => ?_)
      · exact w_m_is_B35 ⟨hx, hb, hr, hml, hown, hts, hlocks, hK, hZ0, hA0⟩ hIx g tx0 v0 h_t0 hf hM hS (lv_sub hl [0, 1] rfl)
      · refine lv_iconst (v := 1) hx hb dX5_is_31 (by decide) ?_
        refine lv_goto (tgt := 36) hx hb dX5_is_32 (by decide) ?_
        exact w_m_is_B36 ⟨hx, hb, hr, hml, hown, hts, hlocks, hK, hZ0, hA0⟩ hIx g tx0 (1 : Int32) v0 h_t0 hf hM hS (lv_sub hl [0, 1] rfl)
set_option maxHeartbeats 4000000 in
set_option maxRecDepth 100000 in
theorem met_m_is (l : Launch) (D : va_G) (C : Nat → Nat) (a0 : Array Value) (s0 : State) (ad : Rl → Nat) (so : Nat → Option hS) (t : hSt) (lt : Rl → Nat → Int64) (g : hSt) (tx0 : List Int32) (v0 : Nat) (h_t0 : hLi s0 v0 tx0) {o : Int32} (hf : m_is g tx0 = some o) : Met l yX5_is (ws_ yX5_is cX5_is 4 (some .boolean)) rm_m_is (va_Pc [.ref (ad (.inr 0)), .ref v0] (hB D vwCl (hT C) (hA s0) (hZ a0 s0) ad (Sum.elim so (mSH C)) (Sum.elim t g) lt)) (va_Qi (fun (r : Int32) (_ : Unit) => r = o) (fun (_ : Unit) (U : State) => hW D vwCl ad (Sum.elim so (mSH C)) (Sum.elim t g) lt U.heap) (hA s0)) 0 0 (hA s0) := by
  refine Met.ofW (cc := cX5_is) (maxL := 4) (ret := (some .boolean)) (by decide) rfl ?_
  intro p e s m args below meth c s₁ B hml hv
  obtain ⟨rfl, hM, hIx, hK, hZ0, hA0⟩ := hv
  have hl := lv_entry ([.ref (ad (.inr 0)), .ref v0]) (n := 4) (Nat.le_of_ble_eq_true rfl)
  rw [lg_entry_eq]
  generalize (lg_sl ([.ref (ad (.inr 0)), .ref v0]) ++ List.replicate (4 - (lg_sl ([.ref (ad (.inr 0)), .ref v0])).length) Slot.unset).toArray = ls at hl ⊢
  have hl : lv_has ls 4 [(0, .ref (ad (.inr 0))), (1, .ref v0)] := hl
  exact w_m_is ⟨B.exec, B.bytes, B.returns, hml, findClass_of_methodNamed B.named, fun w h => atoms_spec (ws := ws_ yX5_is cX5_is 4 (some .boolean)) B.pre w (List.mem_cons_of_mem _ h), B.notSynchronized, hK, hZ0, hA0⟩ hIx g tx0 v0 h_t0 hf hM va_S.rf hl

def rm_m_passes : Room := { frames := 11, cells := 0, slots := 0, locals := 184 }
set_option maxHeartbeats 4000000 in
set_option maxRecDepth 100000 in
theorem w_m_passes {p : Program} {l : Launch} {e : Env} {s : State} {m : MethodId} {args : Array Value} {below : List Frame} {meth : Method} {c : Code} {D : va_G} {C : Nat → Nat} {a0 : Array Value} {s0 : State} {ad : Rl → Nat} {so : Nat → Option hS} {t : hSt} {lt : Rl → Nat → Int64} (CX : hCx D C a0 s0 p s m args meth c cX5_passes 3 RX5 (some .boolean)) (hIx : hI (hA s0) ad (Sum.elim so (mSH C))) (g : hSt) (tx0 : List Int32) (v0 : Nat) (h_t0 : hLi s0 v0 tx0) {o : Int32 × hSt} (hf : m_passes g tx0 = some o) {H : Heap} {locs : List Loc} (hM : hW D vwCl ad (Sum.elim so (mSH C)) (Sum.elim t g) lt H) (hS : va_S (hA s0) s.heap H locs) {ls : Array Slot} (hl : lv_has ls 3 [(0, .ref (ad (.inr 0))), (1, .ref v0)]) : W p l e rm_m_passes s m args below meth c H locs 0 0 (MQ below (va_Qi (fun (r : Int32) (_ : Unit) => r = o.1) (fun (_ : Unit) (U : State) => hW D vwCl ad (Sum.elim so (mSH C)) (Sum.elim t o.2) lt U.heap) (hA s0)) args s 0 0 (hA s0)) (F0 m 0 ls []) := by
  obtain ⟨hx, hb, hr, hml, hown, hts, hlocks, hK, hZ0, hA0⟩ := CX
  unfold m_passes at hf
  refine lv_aload_n hx hb dX5_passes_0 rfl (lv_at hl 0 rfl) ?_
  refine lv_aload_n hx hb dX5_passes_1 rfl (lv_at hl 1 rfl) ?_
  obtain ⟨y1, hq, hf⟩ := hbind hf
  refine hr_calli0 (va_runV (As := [.ref v0]) (rest := []) ⟨hx, hb, hml, hown, hts⟩ (met_m_is l D C a0 s0 ad so t lt g tx0 v0 h_t0 hq) (cwV 1 hts (lw_V q1572 q1574 qs37 q99 q1575) rfl rfl rfl (by decide +kernel) ⟨Nat.le_of_ble_eq_true rfl, Nat.le_of_ble_eq_true rfl⟩) (hr_preV hZ_c hM hIx hK hZ0 hA0 hS (r := .inr 0) mS_0 (q := (RX5, TX5, 55)) rfl) rfl rfl hl.1 rfl (lv_room (Nat.le_of_ble_eq_true rfl)) dX5_passes_2 ⟨Nat.le_of_ble_eq_true rfl, Nat.le_of_ble_eq_true rfl⟩) hS (fun H locs hM hS => ?_)
  refine lv_istore_n (lv' := [(2, .int y1), (0, .ref (ad (.inr 0))), (1, .ref v0)]) hx hb dX5_passes_5 rfl hl (by decide) rfl (fun ls hl => ?_)
  refine lv_iload_n hx hb dX5_passes_6 rfl (lv_at hl 0 rfl) ?_
  refine hb_if_eq (tgt := 14) hx hb dX5_passes_7 (by decide) hf (fun hf => ?_) (fun hf => ?_)
  · refine lv_iload_n hx hb dX5_passes_14 rfl (lv_at hl 0 rfl) ?_
    obtain ⟨hbv, hf⟩ := hif_s hf
    have eo := Option.some.inj hf
    subst eo
    exact W.zret (v := y1) hx hb hr (hz_n hbv).1 (fun T ht hW => ⟨⟨y1, (), rfl, rfl, by dsimp only; rw [ht]; exact hM⟩, hS.F ht⟩) hS.2.2 dX5_passes_15
  · refine lv_aload_n hx hb dX5_passes_10 rfl (lv_at hl 1 rfl) ?_
    obtain ⟨y2, hq, hf⟩ := hbind hf
    refine hr_callv0 (va_runV (As := []) (rest := []) ⟨hx, hb, hml, hown, hts⟩ (met_m_stepOn l D C a0 s0 ad so t lt g hq) (cwV 0 hts (lw_V q1551 q1553 qs34 q99 q1554) rfl rfl rfl (by decide +kernel) ⟨Nat.le_of_ble_eq_true rfl, Nat.le_of_ble_eq_true rfl⟩) (hr_preV hZ_c hM hIx hK hZ0 hA0 hS (r := .inr 0) mS_0 (q := (RX5, TX5, 55)) rfl) rfl rfl hl.1 rfl (lv_room (Nat.le_of_ble_eq_true rfl)) dX5_passes_11 ⟨Nat.le_of_ble_eq_true rfl, Nat.le_of_ble_eq_true rfl⟩) hS (fun H locs hM hS => ?_)
    refine lv_iload_n hx hb dX5_passes_14 rfl (lv_at hl 0 rfl) ?_
    obtain ⟨hbv, hf⟩ := hif_s hf
    have eo := Option.some.inj hf
    subst eo
    exact W.zret (v := y1) hx hb hr (hz_n hbv).1 (fun T ht hW => ⟨⟨y1, (), rfl, rfl, by dsimp only; rw [ht]; exact hM⟩, hS.F ht⟩) hS.2.2 dX5_passes_15
set_option maxHeartbeats 4000000 in
set_option maxRecDepth 100000 in
theorem met_m_passes (l : Launch) (D : va_G) (C : Nat → Nat) (a0 : Array Value) (s0 : State) (ad : Rl → Nat) (so : Nat → Option hS) (t : hSt) (lt : Rl → Nat → Int64) (g : hSt) (tx0 : List Int32) (v0 : Nat) (h_t0 : hLi s0 v0 tx0) {o : Int32 × hSt} (hf : m_passes g tx0 = some o) : Met l yX5_passes (ws_ yX5_passes cX5_passes 3 (some .boolean)) rm_m_passes (va_Pc [.ref (ad (.inr 0)), .ref v0] (hB D vwCl (hT C) (hA s0) (hZ a0 s0) ad (Sum.elim so (mSH C)) (Sum.elim t g) lt)) (va_Qi (fun (r : Int32) (_ : Unit) => r = o.1) (fun (_ : Unit) (U : State) => hW D vwCl ad (Sum.elim so (mSH C)) (Sum.elim t o.2) lt U.heap) (hA s0)) 0 0 (hA s0) := by
  refine Met.ofW (cc := cX5_passes) (maxL := 3) (ret := (some .boolean)) (by decide) rfl ?_
  intro p e s m args below meth c s₁ B hml hv
  obtain ⟨rfl, hM, hIx, hK, hZ0, hA0⟩ := hv
  have hl := lv_entry ([.ref (ad (.inr 0)), .ref v0]) (n := 3) (Nat.le_of_ble_eq_true rfl)
  rw [lg_entry_eq]
  generalize (lg_sl ([.ref (ad (.inr 0)), .ref v0]) ++ List.replicate (3 - (lg_sl ([.ref (ad (.inr 0)), .ref v0])).length) Slot.unset).toArray = ls at hl ⊢
  have hl : lv_has ls 3 [(0, .ref (ad (.inr 0))), (1, .ref v0)] := hl
  exact w_m_passes ⟨B.exec, B.bytes, B.returns, hml, findClass_of_methodNamed B.named, fun w h => atoms_spec (ws := ws_ yX5_passes cX5_passes 3 (some .boolean)) B.pre w (List.mem_cons_of_mem _ h), B.notSynchronized, hK, hZ0, hA0⟩ hIx g tx0 v0 h_t0 hf hM va_S.rf hl

def rm_m_readOne : Room := { frames := 13, cells := 0, slots := 0, locals := 207 }
set_option maxHeartbeats 4000000 in
set_option maxRecDepth 100000 in
theorem w_m_readOne_L68 {p : Program} {l : Launch} {e : Env} {s : State} {m : MethodId} {args : Array Value} {below : List Frame} {meth : Method} {c : Code} {D : va_G} {C : Nat → Nat} {a0 : Array Value} {s0 : State} {ad : Rl → Nat} {so : Nat → Option hS} {t : hSt} {lt : Rl → Nat → Int64} (CX : hCx D C a0 s0 p s m args meth c cX5_readOne 4 RX5 (none)) (hIx : hI (hA s0) ad (Sum.elim so (mSH C))) (g : hSt) (x1 : Int32) (g_16 : hSt) (y2 : hSt) (x3 : Int32) (y4 : Int32 × hSt) (k0_63 : Int32) (k1_63 : Int32) (g_63 : hSt) (g5 : hSt) (hlk : ∀ i, i < 5 → hLi s0 (C (100 + i)) (txk i)) {oM : hSt} (x : Int32) (n : Nat) (q0 : Int32 × Int32) (h0 : hiter (fun q : Int32 × Int32 => m_readOne_L68 g5 q.1 q.2) n q0 = some x) (kx0 : ∀ (H : Heap) (locs : List Loc) (ls : Array Slot), hW D vwCl ad (Sum.elim so (mSH C)) (Sum.elim t g5) lt H → va_S (hA s0) s.heap H locs → lv_has ls 4 [(0, .ref (ad (.inr 0))), (1, .int x3), (2, .int x)] → W p l e rm_m_readOne s m args below meth c H locs 0 0 (MQ below (va_Qv (fun (_ : Unit) => True) (fun (_ : Unit) (U : State) => hW D vwCl ad (Sum.elim so (mSH C)) (Sum.elim t oM) lt U.heap) (hA s0)) args s 0 0 (hA s0)) (F0 m 98 ls [])) : ∀ (H : Heap) (locs : List Loc) (ls : Array Slot), hW D vwCl ad (Sum.elim so (mSH C)) (Sum.elim t g5) lt H → va_S (hA s0) s.heap H locs → lv_has ls 4 [(0, .ref (ad (.inr 0))), (1, .int x3), (2, .int q0.1), (3, .int q0.2)] → W p l e rm_m_readOne s m args below meth c H locs 0 0 (MQ below (va_Qv (fun (_ : Unit) => True) (fun (_ : Unit) (U : State) => hW D vwCl ad (Sum.elim so (mSH C)) (Sum.elim t oM) lt U.heap) (hA s0)) args s 0 0 (hA s0)) (F0 m 68 ls []) := by
  obtain ⟨hx, hb, hr, hml, hown, hts, hlocks, hK, hZ0, hA0⟩ := CX
  refine hiter_W (Wh := fun q => ∀ (H : Heap) (locs : List Loc) (ls : Array Slot), hW D vwCl ad (Sum.elim so (mSH C)) (Sum.elim t g5) lt H → va_S (hA s0) s.heap H locs → lv_has ls 4 [(0, .ref (ad (.inr 0))), (1, .int x3), (2, .int q.1), (3, .int q.2)] → W p l e rm_m_readOne s m args below meth c H locs 0 0 (MQ below (va_Qv (fun (_ : Unit) => True) (fun (_ : Unit) (U : State) => hW D vwCl ad (Sum.elim so (mSH C)) (Sum.elim t oM) lt U.heap) (hA s0)) args s 0 0 (hA s0)) (F0 m 68 ls [])) ?_ n q0 h0
  intro q o hf kc kx1 H locs ls hM hS hl
  obtain ⟨v2_68, v3_68⟩ := q
  replace hf : m_readOne_L68 g5 v2_68 v3_68 = some o := hf
  have kx : ∀ x' : Int32, o = .inr x' → ∀ (H : Heap) (locs : List Loc) (ls : Array Slot), hW D vwCl ad (Sum.elim so (mSH C)) (Sum.elim t g5) lt H → va_S (hA s0) s.heap H locs → lv_has ls 4 [(0, .ref (ad (.inr 0))), (1, .int x3), (2, .int x')] → W p l e rm_m_readOne s m args below meth c H locs 0 0 (MQ below (va_Qv (fun (_ : Unit) => True) (fun (_ : Unit) (U : State) => hW D vwCl ad (Sum.elim so (mSH C)) (Sum.elim t oM) lt U.heap) (hA s0)) args s 0 0 (hA s0)) (F0 m 98 ls []) := fun x' ex => by rw [kx1 _ ex]; exact kx0
  unfold m_readOne_L68 at hf
  refine lv_iload_n hx hb dX5_readOne_68 rfl (lv_at hl 3 rfl) ?_
  refine lv_aload_n hx hb dX5_readOne_69 rfl (lv_at hl 0 rfl) ?_
  refine hr_get (ci := 5) (C := RX5) (T := TX5) (N := 55) (r := .inr 0) hx hb hts in_X5 hown hK hM mS_0 rfl 0 (by decide) (hts _ q1368) rfl (v := .ref (ad (.inr 1))) rfl dX5_readOne_70 ?_
  refine hr_alenq hx hb hK hM 6 (r := .inr 1) mS_1 rfl (v := 5) rfl dX5_readOne_73 ?_
  refine hb_icmp_ge (tgt := 98) hx hb dX5_readOne_74 (by decide) hf (fun hf => ?_) (fun hf => ?_)
  · exact kx v2_68 (Option.some.inj hf).symm H locs ls hM hS (lv_sub hl [0, 1, 2] rfl)
  · refine lv_aload_n hx hb dX5_readOne_77 rfl (lv_at hl 0 rfl) ?_
    refine lv_aload_n hx hb dX5_readOne_78 rfl (lv_at hl 0 rfl) ?_
    refine hr_get (ci := 5) (C := RX5) (T := TX5) (N := 55) (r := .inr 0) hx hb hts in_X5 hown hK hM mS_0 rfl 0 (by decide) (hts _ q1368) rfl (v := .ref (ad (.inr 1))) rfl dX5_readOne_79 ?_
    refine lv_iload_n hx hb dX5_readOne_82 rfl (lv_at hl 3 rfl) ?_
    obtain ⟨k6, hq, hf⟩ := hbind hf
    obtain ⟨hk0, hk1, h_k6⟩ := hkd_ok hq
    refine hr_aald hx hb hK hM 6 (r := .inr 1) mS_1 rfl (by rw [hk1]; exact fun z => z.elim hk0 (fun q => absurd h_k6 (Nat.not_lt.mpr q))) (by rw [hk1]) dX5_readOne_83 ?_
    obtain ⟨y7, hq, hf⟩ := hbind hf
    refine hr_calli0 (va_runV (As := [.ref (C (100 + k6))]) (rest := []) ⟨hx, hb, hml, hown, hts⟩ (met_m_is l D C a0 s0 ad so t lt g5 (txk k6) (C (100 + k6)) (hlk k6 h_k6) hq) (cwV 1 hts (lw_V q1572 q1574 qs37 q99 q1575) rfl rfl rfl (by decide +kernel) ⟨Nat.le_of_ble_eq_true rfl, Nat.le_of_ble_eq_true rfl⟩) (hr_preV hZ_c hM hIx hK hZ0 hA0 hS (r := .inr 0) mS_0 (q := (RX5, TX5, 55)) rfl) rfl rfl hl.1 rfl (lv_room (Nat.le_of_ble_eq_true rfl)) dX5_readOne_84 ⟨Nat.le_of_ble_eq_true rfl, Nat.le_of_ble_eq_true rfl⟩) hS (fun H locs hM hS => ?_)
    refine hb_if_eq (tgt := 92) hx hb dX5_readOne_87 (by decide) hf (fun hf => ?_) (fun hf => ?_)
    · obtain ⟨y3_8, ey, hf⟩ := hlet_ex hf
      refine lv_iinc (v := y3_8) (lv' := [(3, .int y3_8), (0, .ref (ad (.inr 0))), (1, .int x3), (2, .int v2_68)]) hx hb dX5_readOne_92 hl (k := 3) rfl (by rw [ey]; rfl) (by decide) rfl (fun ls hl => ?_)
      refine lv_goto (tgt := 68) hx hb dX5_readOne_95 (by decide) ?_
      exact kc (v2_68, y3_8) (Option.some.inj hf).symm H locs ls hM hS (lv_sub hl [1, 2, 3, 0] rfl)
    · refine lv_iload_n hx hb dX5_readOne_90 rfl (lv_at hl 3 rfl) ?_
      refine lv_istore_n (lv' := [(2, .int v3_68), (0, .ref (ad (.inr 0))), (1, .int x3), (3, .int v3_68)]) hx hb dX5_readOne_91 rfl hl (by decide) rfl (fun ls hl => ?_)
      obtain ⟨y3_9, ey, hf⟩ := hlet_ex hf
      refine lv_iinc (v := y3_9) (lv' := [(3, .int y3_9), (2, .int v3_68), (0, .ref (ad (.inr 0))), (1, .int x3)]) hx hb dX5_readOne_92 hl (k := 3) rfl (by rw [ey]; rfl) (by decide) rfl (fun ls hl => ?_)
      refine lv_goto (tgt := 68) hx hb dX5_readOne_95 (by decide) ?_
      exact kc (v3_68, y3_9) (Option.some.inj hf).symm H locs ls hM hS (lv_sub hl [2, 3, 1, 0] rfl)
set_option maxHeartbeats 4000000 in
set_option maxRecDepth 100000 in
theorem w_m_readOne_B169 {p : Program} {l : Launch} {e : Env} {s : State} {m : MethodId} {args : Array Value} {below : List Frame} {meth : Method} {c : Code} {D : va_G} {C : Nat → Nat} {a0 : Array Value} {s0 : State} {ad : Rl → Nat} {so : Nat → Option hS} {t : hSt} {lt : Rl → Nat → Int64} (CX : hCx D C a0 s0 p s m args meth c cX5_readOne 4 RX5 (none)) (hIx : hI (hA s0) ad (Sum.elim so (mSH C))) (g : hSt) (x1 : Int32) (g_16 : hSt) (y2 : hSt) (x3 : Int32) (y4 : Int32 × hSt) (k0_63 : Int32) (k1_63 : Int32) (g_63 : hSt) (g5 : hSt) (x10 : Int32) (g_108 : hSt) (y11 : hSt) (g12 : hSt) (k0_169 : Int32) (k1_169 : Int32) (g_169 : hSt) (hlk : ∀ i, i < 5 → hLi s0 (C (100 + i)) (txk i)) {o : hSt} (hf : m_readOne_B169 k0_169 k1_169 g_169 = some o) {H : Heap} {locs : List Loc} (hM : hW D vwCl ad (Sum.elim so (mSH C)) (Sum.elim t g_169) lt H) (hS : va_S (hA s0) s.heap H locs) {ls : Array Slot} (hl : lv_has ls 4 [(0, .ref (ad (.inr 0)))]) : W p l e rm_m_readOne s m args below meth c H locs 0 0 (MQ below (va_Qv (fun (_ : Unit) => True) (fun (_ : Unit) (U : State) => hW D vwCl ad (Sum.elim so (mSH C)) (Sum.elim t o) lt U.heap) (hA s0)) args s 0 0 (hA s0)) (F0 m 169 ls [.int k0_169, .int k1_169, .ref (ad (.inr 5))]) := by
  obtain ⟨hx, hb, hr, hml, hown, hts, hlocks, hK, hZ0, hA0⟩ := CX
  unfold m_readOne_B169 at hf
  refine hm_iast (r := 5) hx hb hK hM hIx hS 0 mS_5 rfl hf dX5_readOne_169 (fun g13 H locs hf hM hS => ?_)
  refine lv_aload_n hx hb dX5_readOne_170 rfl (lv_at hl 0 rfl) ?_
  refine hr_get (ci := 5) (C := RX5) (T := TX5) (N := 55) (r := .inr 0) hx hb hts in_X5 hown hK hM mS_0 rfl 2 (by decide) (hts _ q1370) rfl (v := .ref (ad (.inr 3))) rfl dX5_readOne_171 ?_
  refine lv_iconst (v := 4) hx hb dX5_readOne_174 (by decide) ?_
  refine lv_dup2_11 hx hb dX5_readOne_175 rfl rfl ?_
  refine hm_iald (r := 3) hx hb hK hM 0 mS_3 rfl hf dX5_readOne_176 (fun x14 hf => ?_)
  refine lv_iconst (v := 1) hx hb dX5_readOne_177 (by decide) ?_
  refine lv_iadd hx hb dX5_readOne_178 ?_
  refine hm_iast (r := 3) hx hb hK hM hIx hS 0 mS_3 rfl hf dX5_readOne_179 (fun g15 H locs hf hM hS => ?_)
  have eo := Option.some.inj hf
  subst eo
  exact W.vret hx hb hr (fun T ht hW => ⟨⟨(), rfl, trivial, by dsimp only; rw [ht]; exact hM⟩, hS.F ht⟩) hS.2.2 dX5_readOne_180
set_option maxHeartbeats 4000000 in
set_option maxRecDepth 100000 in
theorem w_m_readOne_B108 {p : Program} {l : Launch} {e : Env} {s : State} {m : MethodId} {args : Array Value} {below : List Frame} {meth : Method} {c : Code} {D : va_G} {C : Nat → Nat} {a0 : Array Value} {s0 : State} {ad : Rl → Nat} {so : Nat → Option hS} {t : hSt} {lt : Rl → Nat → Int64} (CX : hCx D C a0 s0 p s m args meth c cX5_readOne 4 RX5 (none)) (hIx : hI (hA s0) ad (Sum.elim so (mSH C))) (g : hSt) (x1 : Int32) (g_16 : hSt) (y2 : hSt) (x3 : Int32) (y4 : Int32 × hSt) (k0_63 : Int32) (k1_63 : Int32) (g_63 : hSt) (g5 : hSt) (x10 : Int32) (g_108 : hSt) (hlk : ∀ i, i < 5 → hLi s0 (C (100 + i)) (txk i)) {o : hSt} (hf : m_readOne_B108 x3 x10 g_108 = some o) {H : Heap} {locs : List Loc} (hM : hW D vwCl ad (Sum.elim so (mSH C)) (Sum.elim t g_108) lt H) (hS : va_S (hA s0) s.heap H locs) {ls : Array Slot} (hl : lv_has ls 4 [(0, .ref (ad (.inr 0))), (1, .int x3), (2, .int x10)]) : W p l e rm_m_readOne s m args below meth c H locs 0 0 (MQ below (va_Qv (fun (_ : Unit) => True) (fun (_ : Unit) (U : State) => hW D vwCl ad (Sum.elim so (mSH C)) (Sum.elim t o) lt U.heap) (hA s0)) args s 0 0 (hA s0)) (F0 m 108 ls []) := by
  obtain ⟨hx, hb, hr, hml, hown, hts, hlocks, hK, hZ0, hA0⟩ := CX
  unfold m_readOne_B108 at hf
  refine lv_aload_n hx hb dX5_readOne_108 rfl (lv_at hl 0 rfl) ?_
  refine hr_get (ci := 5) (C := RX5) (T := TX5) (N := 55) (r := .inr 0) hx hb hts in_X5 hown hK hM mS_0 rfl 21 (by decide) (hts _ q1389) rfl (v := .int (g_108 0 21)) rfl dX5_readOne_109 ?_
  refine hb_if_eq (tgt := 116) hx hb dX5_readOne_112 (by decide) hf (fun hf => ?_) (fun hf => ?_)
  · refine lv_aload_n hx hb dX5_readOne_116 rfl (lv_at hl 0 rfl) ?_
    obtain ⟨y11, hq, hf⟩ := hbind hf
    refine hr_callv0 (va_runV (As := []) (rest := []) ⟨hx, hb, hml, hown, hts⟩ (met_m_stepOn l D C a0 s0 ad so t lt g_108 hq) (cwV 0 hts (lw_V q1551 q1553 qs34 q99 q1554) rfl rfl rfl (by decide +kernel) ⟨Nat.le_of_ble_eq_true rfl, Nat.le_of_ble_eq_true rfl⟩) (hr_preV hZ_c hM hIx hK hZ0 hA0 hS (r := .inr 0) mS_0 (q := (RX5, TX5, 55)) rfl) rfl rfl hl.1 rfl (lv_room (Nat.le_of_ble_eq_true rfl)) dX5_readOne_117 ⟨Nat.le_of_ble_eq_true rfl, Nat.le_of_ble_eq_true rfl⟩) hS (fun H locs hM hS => ?_)
    refine lv_aload_n hx hb dX5_readOne_120 rfl (lv_at hl 0 rfl) ?_
    refine hr_get (ci := 5) (C := RX5) (T := TX5) (N := 55) (r := .inr 0) hx hb hts in_X5 hown hK hM mS_0 rfl 3 (by decide) (hts _ q1371) rfl (v := .ref (ad (.inr 4))) rfl dX5_readOne_121 ?_
    refine lv_bipush (v := 6) hx hb dX5_readOne_124 (by decide) ?_
    refine lv_iload_n hx hb dX5_readOne_126 rfl (lv_at hl 1 rfl) ?_
    refine lv_iadd hx hb dX5_readOne_127 ?_
    refine lv_iload_n hx hb dX5_readOne_128 rfl (lv_at hl 2 rfl) ?_
    refine hm_iast (r := 4) hx hb hK hM hIx hS 0 mS_4 rfl hf dX5_readOne_129 (fun g12 H locs hf hM hS => ?_)
    refine lv_aload_n hx hb dX5_readOne_130 rfl (lv_at hl 0 rfl) ?_
    refine hr_get (ci := 5) (C := RX5) (T := TX5) (N := 55) (r := .inr 0) hx hb hts in_X5 hown hK hM mS_0 rfl 4 (by decide) (hts _ q1372) rfl (v := .ref (ad (.inr 5))) rfl dX5_readOne_131 ?_
    refine lv_bipush (v := 6) hx hb dX5_readOne_134 (by decide) ?_
    refine lv_iload_n hx hb dX5_readOne_136 rfl (lv_at hl 1 rfl) ?_
    refine lv_iadd hx hb dX5_readOne_137 ?_
    refine lv_iload_n hx hb dX5_readOne_138 rfl (lv_at hl 2 rfl) ?_
    refine lv_iconst (v := 3) hx hb dX5_readOne_139 (by decide) ?_
    refine hb_icmp_ne (tgt := 153) hx hb dX5_readOne_140 (by decide) hf (fun hf => ?_) (fun hf => ?_)
    · refine lv_iload_n hx hb dX5_readOne_153 rfl (lv_at hl 2 rfl) ?_
      refine lv_iconst (v := 4) hx hb dX5_readOne_154 (by decide) ?_
      refine hb_icmp_ne (tgt := 168) hx hb dX5_readOne_155 (by decide) hf (fun hf => ?_) (fun hf => ?_)
      · refine lv_iconst (v := 0) hx hb dX5_readOne_168 (by decide) ?_
        exact w_m_readOne_B169 ⟨hx, hb, hr, hml, hown, hts, hlocks, hK, hZ0, hA0⟩ hIx g x1 g_16 y2 x3 y4 k0_63 k1_63 g_63 g5 x10 g_108 y11 g12 (0 : Int32) ((6 : Int32) + x3) g12 hlk hf hM hS (lv_sub hl [0] rfl)
      · refine lv_aload_n hx hb dX5_readOne_158 rfl (lv_at hl 0 rfl) ?_
        refine lv_iconst (v := 0) hx hb dX5_readOne_159 (by decide) ?_
        refine lv_bipush (v := 99) hx hb dX5_readOne_160 (by decide) ?_
        obtain ⟨y16, hq, hf⟩ := hbind hf
        refine hr_calli0 (va_runV (As := [.int (0 : Int32), .int (99 : Int32)]) (rest := [.int ((6 : Int32) + x3), .ref (ad (.inr 5))]) ⟨hx, hb, hml, hown, hts⟩ (met_m_readNumber l D C a0 s0 ad so t lt g12 (0 : Int32) (99 : Int32) hq) (cwV 2 hts (lw_V q1607 q1609 qs41 q99 q1610) rfl rfl rfl (by decide +kernel) ⟨Nat.le_of_ble_eq_true rfl, Nat.le_of_ble_eq_true rfl⟩) (hr_preV hZ_c hM hIx hK hZ0 hA0 hS (r := .inr 0) mS_0 (q := (RX5, TX5, 55)) rfl) rfl rfl hl.1 rfl (lv_room (Nat.le_of_ble_eq_true rfl)) dX5_readOne_162 ⟨Nat.le_of_ble_eq_true rfl, Nat.le_of_ble_eq_true rfl⟩) hS (fun H locs hM hS => ?_)
        refine lv_goto (tgt := 169) hx hb dX5_readOne_165 (by decide) ?_
        exact w_m_readOne_B169 ⟨hx, hb, hr, hml, hown, hts, hlocks, hK, hZ0, hA0⟩ hIx g x1 g_16 y2 x3 y4 k0_63 k1_63 g_63 g5 x10 g_108 y11 g12 y16.1 ((6 : Int32) + x3) y16.2 hlk hf hM hS (lv_sub hl [0] rfl)
    · refine lv_aload_n hx hb dX5_readOne_143 rfl (lv_at hl 0 rfl) ?_
      refine lv_iconst (v := 0) hx hb dX5_readOne_144 (by decide) ?_
      refine lv_bipush (v := 11) hx hb dX5_readOne_145 (by decide) ?_
      obtain ⟨y17, hq, hf⟩ := hbind hf
      refine hr_calli0 (va_runV (As := [.int (0 : Int32), .int (11 : Int32)]) (rest := [.int ((6 : Int32) + x3), .ref (ad (.inr 5))]) ⟨hx, hb, hml, hown, hts⟩ (met_m_readNumber l D C a0 s0 ad so t lt g12 (0 : Int32) (11 : Int32) hq) (cwV 2 hts (lw_V q1607 q1609 qs41 q99 q1610) rfl rfl rfl (by decide +kernel) ⟨Nat.le_of_ble_eq_true rfl, Nat.le_of_ble_eq_true rfl⟩) (hr_preV hZ_c hM hIx hK hZ0 hA0 hS (r := .inr 0) mS_0 (q := (RX5, TX5, 55)) rfl) rfl rfl hl.1 rfl (lv_room (Nat.le_of_ble_eq_true rfl)) dX5_readOne_147 ⟨Nat.le_of_ble_eq_true rfl, Nat.le_of_ble_eq_true rfl⟩) hS (fun H locs hM hS => ?_)
      refine lv_goto (tgt := 169) hx hb dX5_readOne_150 (by decide) ?_
      exact w_m_readOne_B169 ⟨hx, hb, hr, hml, hown, hts, hlocks, hK, hZ0, hA0⟩ hIx g x1 g_16 y2 x3 y4 k0_63 k1_63 g_63 g5 x10 g_108 y11 g12 y17.1 ((6 : Int32) + x3) y17.2 hlk hf hM hS (lv_sub hl [0] rfl)
  · have eo := Option.some.inj hf
    subst eo
    exact W.vret hx hb hr (fun T ht hW => ⟨⟨(), rfl, trivial, by dsimp only; rw [ht]; exact hM⟩, hS.F ht⟩) hS.2.2 dX5_readOne_115
set_option maxHeartbeats 4000000 in
set_option maxRecDepth 100000 in
theorem w_m_readOne_B63 {p : Program} {l : Launch} {e : Env} {s : State} {m : MethodId} {args : Array Value} {below : List Frame} {meth : Method} {c : Code} {D : va_G} {C : Nat → Nat} {a0 : Array Value} {s0 : State} {ad : Rl → Nat} {so : Nat → Option hS} {t : hSt} {lt : Rl → Nat → Int64} (CX : hCx D C a0 s0 p s m args meth c cX5_readOne 4 RX5 (none)) (hIx : hI (hA s0) ad (Sum.elim so (mSH C))) (g : hSt) (x1 : Int32) (g_16 : hSt) (y2 : hSt) (x3 : Int32) (y4 : Int32 × hSt) (k0_63 : Int32) (k1_63 : Int32) (g_63 : hSt) (hlk : ∀ i, i < 5 → hLi s0 (C (100 + i)) (txk i)) {o : hSt} (hf : m_readOne_B63 x3 k0_63 k1_63 g_63 = some o) {H : Heap} {locs : List Loc} (hM : hW D vwCl ad (Sum.elim so (mSH C)) (Sum.elim t g_63) lt H) (hS : va_S (hA s0) s.heap H locs) {ls : Array Slot} (hl : lv_has ls 4 [(0, .ref (ad (.inr 0))), (1, .int x3)]) : W p l e rm_m_readOne s m args below meth c H locs 0 0 (MQ below (va_Qv (fun (_ : Unit) => True) (fun (_ : Unit) (U : State) => hW D vwCl ad (Sum.elim so (mSH C)) (Sum.elim t o) lt U.heap) (hA s0)) args s 0 0 (hA s0)) (F0 m 63 ls [.int k0_63, .int k1_63, .ref (ad (.inr 9))]) := by
  obtain ⟨hx, hb, hr, hml, hown, hts, hlocks, hK, hZ0, hA0⟩ := CX
  unfold m_readOne_B63 at hf
  refine hm_iast (r := 9) hx hb hK hM hIx hS 0 mS_9 rfl hf dX5_readOne_63 (fun g5 H locs hf hM hS => ?_)
  refine lv_iconst (v := -1) hx hb dX5_readOne_64 (by decide) ?_
  refine lv_istore_n (lv' := [(2, .int (-1 : Int32)), (0, .ref (ad (.inr 0))), (1, .int x3)]) hx hb dX5_readOne_65 rfl hl (by decide) rfl (fun ls hl => ?_)
  refine lv_iconst (v := 0) hx hb dX5_readOne_66 (by decide) ?_
  refine lv_istore_n (lv' := [(3, .int (0 : Int32)), (2, .int (-1 : Int32)), (0, .ref (ad (.inr 0))), (1, .int x3)]) hx hb dX5_readOne_67 rfl hl (by decide) rfl (fun ls hl => ?_)
  obtain ⟨x10, hq, hf⟩ := hbind hf
  refine w_m_readOne_L68 ⟨hx, hb, hr, hml, hown, hts, hlocks, hK, hZ0, hA0⟩ hIx g x1 g_16 y2 x3 y4 k0_63 k1_63 g_63 g5 hlk x10 hFU ((-1 : Int32), (0 : Int32)) hq (fun H locs ls hM hS hl => ?_) H locs ls hM hS (lv_sub hl [2, 3, 1, 0] rfl)
  refine lv_iload_n hx hb dX5_readOne_98 rfl (lv_at hl 2 rfl) ?_
  refine lv_iconst (v := -1) hx hb dX5_readOne_99 (by decide) ?_
  refine hb_icmp_ne (tgt := 108) hx hb dX5_readOne_100 (by decide) hf (fun hf => ?_) (fun hf => ?_)
  · exact w_m_readOne_B108 ⟨hx, hb, hr, hml, hown, hts, hlocks, hK, hZ0, hA0⟩ hIx g x1 g_16 y2 x3 y4 k0_63 k1_63 g_63 g5 x10 g5 hlk hf hM hS (lv_sub hl [0, 1, 2] rfl)
  · refine lv_aload_n hx hb dX5_readOne_103 rfl (lv_at hl 0 rfl) ?_
    refine lv_iconst (v := 1) hx hb dX5_readOne_104 (by decide) ?_
    obtain ⟨y18, hq, hf⟩ := hbind hf
    refine hr_callv0 (va_runV (As := [.int (1 : Int32)]) (rest := []) ⟨hx, hb, hml, hown, hts⟩ (met_m_wrong l D C a0 s0 ad so t lt g5 (1 : Int32) hq) (cwV 1 hts (lw_V q1593 q1595 qs38 q99 q1596) rfl rfl rfl (by decide +kernel) ⟨Nat.le_of_ble_eq_true rfl, Nat.le_of_ble_eq_true rfl⟩) (hr_preV hZ_c hM hIx hK hZ0 hA0 hS (r := .inr 0) mS_0 (q := (RX5, TX5, 55)) rfl) rfl rfl hl.1 rfl (lv_room (Nat.le_of_ble_eq_true rfl)) dX5_readOne_105 ⟨Nat.le_of_ble_eq_true rfl, Nat.le_of_ble_eq_true rfl⟩) hS (fun H locs hM hS => ?_)
    exact w_m_readOne_B108 ⟨hx, hb, hr, hml, hown, hts, hlocks, hK, hZ0, hA0⟩ hIx g x1 g_16 y2 x3 y4 k0_63 k1_63 g_63 g5 x10 y18 hlk hf hM hS (lv_sub hl [0, 1, 2] rfl)
set_option maxHeartbeats 4000000 in
set_option maxRecDepth 100000 in
theorem w_m_readOne_B16 {p : Program} {l : Launch} {e : Env} {s : State} {m : MethodId} {args : Array Value} {below : List Frame} {meth : Method} {c : Code} {D : va_G} {C : Nat → Nat} {a0 : Array Value} {s0 : State} {ad : Rl → Nat} {so : Nat → Option hS} {t : hSt} {lt : Rl → Nat → Int64} (CX : hCx D C a0 s0 p s m args meth c cX5_readOne 4 RX5 (none)) (hIx : hI (hA s0) ad (Sum.elim so (mSH C))) (g : hSt) (x1 : Int32) (g_16 : hSt) (hlk : ∀ i, i < 5 → hLi s0 (C (100 + i)) (txk i)) {o : hSt} (hf : m_readOne_B16 g_16 = some o) {H : Heap} {locs : List Loc} (hM : hW D vwCl ad (Sum.elim so (mSH C)) (Sum.elim t g_16) lt H) (hS : va_S (hA s0) s.heap H locs) {ls : Array Slot} (hl : lv_has ls 4 [(0, .ref (ad (.inr 0)))]) : W p l e rm_m_readOne s m args below meth c H locs 0 0 (MQ below (va_Qv (fun (_ : Unit) => True) (fun (_ : Unit) (U : State) => hW D vwCl ad (Sum.elim so (mSH C)) (Sum.elim t o) lt U.heap) (hA s0)) args s 0 0 (hA s0)) (F0 m 16 ls []) := by
  obtain ⟨hx, hb, hr, hml, hown, hts, hlocks, hK, hZ0, hA0⟩ := CX
  unfold m_readOne_B16 at hf
  refine lv_aload_n hx hb dX5_readOne_16 rfl (lv_at hl 0 rfl) ?_
  refine hr_get (ci := 5) (C := RX5) (T := TX5) (N := 55) (r := .inr 0) hx hb hts in_X5 hown hK hM mS_0 rfl 21 (by decide) (hts _ q1389) rfl (v := .int (g_16 0 21)) rfl dX5_readOne_17 ?_
  refine hb_if_eq (tgt := 24) hx hb dX5_readOne_20 (by decide) hf (fun hf => ?_) (fun hf => ?_)
  · refine lv_aload_n hx hb dX5_readOne_24 rfl (lv_at hl 0 rfl) ?_
    obtain ⟨y2, hq, hf⟩ := hbind hf
    refine hr_callv0 (va_runV (As := []) (rest := []) ⟨hx, hb, hml, hown, hts⟩ (met_m_stepOn l D C a0 s0 ad so t lt g_16 hq) (cwV 0 hts (lw_V q1551 q1553 qs34 q99 q1554) rfl rfl rfl (by decide +kernel) ⟨Nat.le_of_ble_eq_true rfl, Nat.le_of_ble_eq_true rfl⟩) (hr_preV hZ_c hM hIx hK hZ0 hA0 hS (r := .inr 0) mS_0 (q := (RX5, TX5, 55)) rfl) rfl rfl hl.1 rfl (lv_room (Nat.le_of_ble_eq_true rfl)) dX5_readOne_25 ⟨Nat.le_of_ble_eq_true rfl, Nat.le_of_ble_eq_true rfl⟩) hS (fun H locs hM hS => ?_)
    refine lv_aload_n hx hb dX5_readOne_28 rfl (lv_at hl 0 rfl) ?_
    refine hr_get (ci := 5) (C := RX5) (T := TX5) (N := 55) (r := .inr 0) hx hb hts in_X5 hown hK hM mS_0 rfl 2 (by decide) (hts _ q1370) rfl (v := .ref (ad (.inr 3))) rfl dX5_readOne_29 ?_
    refine lv_iconst (v := 4) hx hb dX5_readOne_32 (by decide) ?_
    refine hm_iald (r := 3) hx hb hK hM 0 mS_3 rfl hf dX5_readOne_33 (fun x3 hf => ?_)
    refine lv_istore_n (lv' := [(1, .int x3), (0, .ref (ad (.inr 0)))]) hx hb dX5_readOne_34 rfl hl (by decide) rfl (fun ls hl => ?_)
    refine lv_aload_n hx hb dX5_readOne_35 rfl (lv_at hl 1 rfl) ?_
    refine hr_get (ci := 5) (C := RX5) (T := TX5) (N := 55) (r := .inr 0) hx hb hts in_X5 hown hK hM mS_0 rfl 8 (by decide) (hts _ q1376) rfl (v := .ref (ad (.inr 9))) rfl dX5_readOne_36 ?_
    refine lv_bipush (v := 12) hx hb dX5_readOne_39 (by decide) ?_
    refine lv_iload_n hx hb dX5_readOne_41 rfl (lv_at hl 0 rfl) ?_
    refine lv_iadd hx hb dX5_readOne_42 ?_
    refine lv_aload_n hx hb dX5_readOne_43 rfl (lv_at hl 1 rfl) ?_
    refine va_ldcS hx hb hown (hlr_X5_202 hZ0) dX5_readOne_44 ?_
    obtain ⟨y4, hq, hf⟩ := hbind hf
    refine hr_calli0 (va_runV (As := [.ref (litA a0 s0 RX5 202)]) (rest := [.int ((12 : Int32) + x3), .ref (ad (.inr 9))]) ⟨hx, hb, hml, hown, hts⟩ (met_m_passes l D C a0 s0 ad so t lt y2 tx_sand (litA a0 s0 RX5 202) ((hlt_X5_202 hZ0).1) hq) (cwV 1 hts (lw_V q1603 q1605 qs40 q99 q1606) rfl rfl rfl (by decide +kernel) ⟨Nat.le_of_ble_eq_true rfl, Nat.le_of_ble_eq_true rfl⟩) (hr_preV hZ_c hM hIx hK hZ0 hA0 hS (r := .inr 0) mS_0 (q := (RX5, TX5, 55)) rfl) rfl rfl hl.1 rfl (lv_room (Nat.le_of_ble_eq_true rfl)) dX5_readOne_46 ⟨Nat.le_of_ble_eq_true rfl, Nat.le_of_ble_eq_true rfl⟩) hS (fun H locs hM hS => ?_)
    refine hb_if_eq (tgt := 62) hx hb dX5_readOne_49 (by decide) hf (fun hf => ?_) (fun hf => ?_)
    · refine lv_iconst (v := 0) hx hb dX5_readOne_62 (by decide) ?_
      exact w_m_readOne_B63 ⟨hx, hb, hr, hml, hown, hts, hlocks, hK, hZ0, hA0⟩ hIx g x1 g_16 y2 x3 y4 (0 : Int32) ((12 : Int32) + x3) y4.2 hlk hf hM hS (lv_sub hl [1, 0] rfl)
    · refine lv_aload_n hx hb dX5_readOne_52 rfl (lv_at hl 1 rfl) ?_
      refine lv_iconst (v := 0) hx hb dX5_readOne_53 (by decide) ?_
      refine lv_bipush (v := 99) hx hb dX5_readOne_54 (by decide) ?_
      obtain ⟨y19, hq, hf⟩ := hbind hf
      refine hr_calli0 (va_runV (As := [.int (0 : Int32), .int (99 : Int32)]) (rest := [.int ((12 : Int32) + x3), .ref (ad (.inr 9))]) ⟨hx, hb, hml, hown, hts⟩ (met_m_readNumber l D C a0 s0 ad so t lt y4.2 (0 : Int32) (99 : Int32) hq) (cwV 2 hts (lw_V q1607 q1609 qs41 q99 q1610) rfl rfl rfl (by decide +kernel) ⟨Nat.le_of_ble_eq_true rfl, Nat.le_of_ble_eq_true rfl⟩) (hr_preV hZ_c hM hIx hK hZ0 hA0 hS (r := .inr 0) mS_0 (q := (RX5, TX5, 55)) rfl) rfl rfl hl.1 rfl (lv_room (Nat.le_of_ble_eq_true rfl)) dX5_readOne_56 ⟨Nat.le_of_ble_eq_true rfl, Nat.le_of_ble_eq_true rfl⟩) hS (fun H locs hM hS => ?_)
      refine lv_goto (tgt := 63) hx hb dX5_readOne_59 (by decide) ?_
      exact w_m_readOne_B63 ⟨hx, hb, hr, hml, hown, hts, hlocks, hK, hZ0, hA0⟩ hIx g x1 g_16 y2 x3 y4 y19.1 ((12 : Int32) + x3) y19.2 hlk hf hM hS (lv_sub hl [1, 0] rfl)
  · have eo := Option.some.inj hf
    subst eo
    exact W.vret hx hb hr (fun T ht hW => ⟨⟨(), rfl, trivial, by dsimp only; rw [ht]; exact hM⟩, hS.F ht⟩) hS.2.2 dX5_readOne_23
set_option maxHeartbeats 4000000 in
set_option maxRecDepth 100000 in
theorem w_m_readOne {p : Program} {l : Launch} {e : Env} {s : State} {m : MethodId} {args : Array Value} {below : List Frame} {meth : Method} {c : Code} {D : va_G} {C : Nat → Nat} {a0 : Array Value} {s0 : State} {ad : Rl → Nat} {so : Nat → Option hS} {t : hSt} {lt : Rl → Nat → Int64} (CX : hCx D C a0 s0 p s m args meth c cX5_readOne 4 RX5 (none)) (hIx : hI (hA s0) ad (Sum.elim so (mSH C))) (g : hSt) (hlk : ∀ i, i < 5 → hLi s0 (C (100 + i)) (txk i)) {o : hSt} (hf : m_readOne g = some o) {H : Heap} {locs : List Loc} (hM : hW D vwCl ad (Sum.elim so (mSH C)) (Sum.elim t g) lt H) (hS : va_S (hA s0) s.heap H locs) {ls : Array Slot} (hl : lv_has ls 4 [(0, .ref (ad (.inr 0)))]) : W p l e rm_m_readOne s m args below meth c H locs 0 0 (MQ below (va_Qv (fun (_ : Unit) => True) (fun (_ : Unit) (U : State) => hW D vwCl ad (Sum.elim so (mSH C)) (Sum.elim t o) lt U.heap) (hA s0)) args s 0 0 (hA s0)) (F0 m 0 ls []) := by
  obtain ⟨hx, hb, hr, hml, hown, hts, hlocks, hK, hZ0, hA0⟩ := CX
  unfold m_readOne at hf
  refine lv_aload_n hx hb dX5_readOne_0 rfl (lv_at hl 0 rfl) ?_
  refine hr_get (ci := 5) (C := RX5) (T := TX5) (N := 55) (r := .inr 0) hx hb hts in_X5 hown hK hM mS_0 rfl 2 (by decide) (hts _ q1370) rfl (v := .ref (ad (.inr 3))) rfl dX5_readOne_1 ?_
  refine lv_iconst (v := 4) hx hb dX5_readOne_4 (by decide) ?_
  refine hm_iald (r := 3) hx hb hK hM 0 mS_3 rfl hf dX5_readOne_5 (fun x1 hf => ?_)
  refine lv_bipush (v := 6) hx hb dX5_readOne_6 (by decide) ?_
  refine hb_icmp_ne (tgt := 16) hx hb dX5_readOne_8 (by decide) hf (fun hf => ?_) (fun hf => ?_)
  · exact w_m_readOne_B16 ⟨hx, hb, hr, hml, hown, hts, hlocks, hK, hZ0, hA0⟩ hIx g x1 g hlk hf hM hS (lv_sub hl [0] rfl)
  · refine lv_aload_n hx hb dX5_readOne_11 rfl (lv_at hl 0 rfl) ?_
    refine lv_iconst (v := 2) hx hb dX5_readOne_12 (by decide) ?_
    obtain ⟨y20, hq, hf⟩ := hbind hf
    refine hr_callv0 (va_runV (As := [.int (2 : Int32)]) (rest := []) ⟨hx, hb, hml, hown, hts⟩ (met_m_wrong l D C a0 s0 ad so t lt g (2 : Int32) hq) (cwV 1 hts (lw_V q1593 q1595 qs38 q99 q1596) rfl rfl rfl (by decide +kernel) ⟨Nat.le_of_ble_eq_true rfl, Nat.le_of_ble_eq_true rfl⟩) (hr_preV hZ_c hM hIx hK hZ0 hA0 hS (r := .inr 0) mS_0 (q := (RX5, TX5, 55)) rfl) rfl rfl hl.1 rfl (lv_room (Nat.le_of_ble_eq_true rfl)) dX5_readOne_13 ⟨Nat.le_of_ble_eq_true rfl, Nat.le_of_ble_eq_true rfl⟩) hS (fun H locs hM hS => ?_)
    exact w_m_readOne_B16 ⟨hx, hb, hr, hml, hown, hts, hlocks, hK, hZ0, hA0⟩ hIx g x1 y20 hlk hf hM hS (lv_sub hl [0] rfl)
set_option maxHeartbeats 4000000 in
set_option maxRecDepth 100000 in
theorem met_m_readOne (l : Launch) (D : va_G) (C : Nat → Nat) (a0 : Array Value) (s0 : State) (ad : Rl → Nat) (so : Nat → Option hS) (t : hSt) (lt : Rl → Nat → Int64) (g : hSt) (hlk : ∀ i, i < 5 → hLi s0 (C (100 + i)) (txk i)) {o : hSt} (hf : m_readOne g = some o) : Met l yX5_readOne (ws_ yX5_readOne cX5_readOne 4 (none)) rm_m_readOne (va_Pc [.ref (ad (.inr 0))] (hB D vwCl (hT C) (hA s0) (hZ a0 s0) ad (Sum.elim so (mSH C)) (Sum.elim t g) lt)) (va_Qv (fun (_ : Unit) => True) (fun (_ : Unit) (U : State) => hW D vwCl ad (Sum.elim so (mSH C)) (Sum.elim t o) lt U.heap) (hA s0)) 0 0 (hA s0) := by
  refine Met.ofW (cc := cX5_readOne) (maxL := 4) (ret := (none)) (by decide) rfl ?_
  intro p e s m args below meth c s₁ B hml hv
  obtain ⟨rfl, hM, hIx, hK, hZ0, hA0⟩ := hv
  have hl := lv_entry ([.ref (ad (.inr 0))]) (n := 4) (Nat.le_of_ble_eq_true rfl)
  rw [lg_entry_eq]
  generalize (lg_sl ([.ref (ad (.inr 0))]) ++ List.replicate (4 - (lg_sl ([.ref (ad (.inr 0))])).length) Slot.unset).toArray = ls at hl ⊢
  have hl : lv_has ls 4 [(0, .ref (ad (.inr 0)))] := hl
  exact w_m_readOne ⟨B.exec, B.bytes, B.returns, hml, findClass_of_methodNamed B.named, fun w h => atoms_spec (ws := ws_ yX5_readOne cX5_readOne 4 (none)) B.pre w (List.mem_cons_of_mem _ h), B.notSynchronized, hK, hZ0, hA0⟩ hIx g hlk hf hM va_S.rf hl

def rm_m_readThing : Room := { frames := 13, cells := 0, slots := 0, locals := 207 }
set_option maxHeartbeats 4000000 in
set_option maxRecDepth 100000 in
theorem w_m_readThing_B16 {p : Program} {l : Launch} {e : Env} {s : State} {m : MethodId} {args : Array Value} {below : List Frame} {meth : Method} {c : Code} {D : va_G} {C : Nat → Nat} {a0 : Array Value} {s0 : State} {ad : Rl → Nat} {so : Nat → Option hS} {t : hSt} {lt : Rl → Nat → Int64} (CX : hCx D C a0 s0 p s m args meth c cX5_readThing 2 RX5 (none)) (hIx : hI (hA s0) ad (Sum.elim so (mSH C))) (g : hSt) (x1 : Int32) (g_16 : hSt) {o : hSt} (hf : m_readThing_B16 g_16 = some o) {H : Heap} {locs : List Loc} (hM : hW D vwCl ad (Sum.elim so (mSH C)) (Sum.elim t g_16) lt H) (hS : va_S (hA s0) s.heap H locs) {ls : Array Slot} (hl : lv_has ls 2 [(0, .ref (ad (.inr 0)))]) : W p l e rm_m_readThing s m args below meth c H locs 0 0 (MQ below (va_Qv (fun (_ : Unit) => True) (fun (_ : Unit) (U : State) => hW D vwCl ad (Sum.elim so (mSH C)) (Sum.elim t o) lt U.heap) (hA s0)) args s 0 0 (hA s0)) (F0 m 16 ls []) := by
  obtain ⟨hx, hb, hr, hml, hown, hts, hlocks, hK, hZ0, hA0⟩ := CX
  unfold m_readThing_B16 at hf
  refine lv_aload_n hx hb dX5_readThing_16 rfl (lv_at hl 0 rfl) ?_
  refine hr_get (ci := 5) (C := RX5) (T := TX5) (N := 55) (r := .inr 0) hx hb hts in_X5 hown hK hM mS_0 rfl 21 (by decide) (hts _ q1389) rfl (v := .int (g_16 0 21)) rfl dX5_readThing_17 ?_
  refine hb_if_eq (tgt := 24) hx hb dX5_readThing_20 (by decide) hf (fun hf => ?_) (fun hf => ?_)
  · refine lv_aload_n hx hb dX5_readThing_24 rfl (lv_at hl 0 rfl) ?_
    obtain ⟨y2, hq, hf⟩ := hbind hf
    refine hr_callv0 (va_runV (As := []) (rest := []) ⟨hx, hb, hml, hown, hts⟩ (met_m_stepOn l D C a0 s0 ad so t lt g_16 hq) (cwV 0 hts (lw_V q1551 q1553 qs34 q99 q1554) rfl rfl rfl (by decide +kernel) ⟨Nat.le_of_ble_eq_true rfl, Nat.le_of_ble_eq_true rfl⟩) (hr_preV hZ_c hM hIx hK hZ0 hA0 hS (r := .inr 0) mS_0 (q := (RX5, TX5, 55)) rfl) rfl rfl hl.1 rfl (lv_room (Nat.le_of_ble_eq_true rfl)) dX5_readThing_25 ⟨Nat.le_of_ble_eq_true rfl, Nat.le_of_ble_eq_true rfl⟩) hS (fun H locs hM hS => ?_)
    refine lv_aload_n hx hb dX5_readThing_28 rfl (lv_at hl 0 rfl) ?_
    refine hr_get (ci := 5) (C := RX5) (T := TX5) (N := 55) (r := .inr 0) hx hb hts in_X5 hown hK hM mS_0 rfl 2 (by decide) (hts _ q1370) rfl (v := .ref (ad (.inr 3))) rfl dX5_readThing_29 ?_
    refine lv_iconst (v := 5) hx hb dX5_readThing_32 (by decide) ?_
    refine hm_iald (r := 3) hx hb hK hM 0 mS_3 rfl hf dX5_readThing_33 (fun x3 hf => ?_)
    refine lv_istore_n (lv' := [(1, .int x3), (0, .ref (ad (.inr 0)))]) hx hb dX5_readThing_34 rfl hl (by decide) rfl (fun ls hl => ?_)
    refine lv_aload_n hx hb dX5_readThing_35 rfl (lv_at hl 1 rfl) ?_
    refine hr_get (ci := 5) (C := RX5) (T := TX5) (N := 55) (r := .inr 0) hx hb hts in_X5 hown hK hM mS_0 rfl 10 (by decide) (hts _ q1378) rfl (v := .ref (ad (.inr 11))) rfl dX5_readThing_36 ?_
    refine lv_iload_n hx hb dX5_readThing_39 rfl (lv_at hl 0 rfl) ?_
    refine lv_aload_n hx hb dX5_readThing_40 rfl (lv_at hl 1 rfl) ?_
    refine lv_iconst (v := 1) hx hb dX5_readThing_41 (by decide) ?_
    refine lv_bipush (v := 99) hx hb dX5_readThing_42 (by decide) ?_
    obtain ⟨y4, hq, hf⟩ := hbind hf
    refine hr_calli0 (va_runV (As := [.int (1 : Int32), .int (99 : Int32)]) (rest := [.int x3, .ref (ad (.inr 11))]) ⟨hx, hb, hml, hown, hts⟩ (met_m_readNumber l D C a0 s0 ad so t lt y2 (1 : Int32) (99 : Int32) hq) (cwV 2 hts (lw_V q1607 q1609 qs41 q99 q1610) rfl rfl rfl (by decide +kernel) ⟨Nat.le_of_ble_eq_true rfl, Nat.le_of_ble_eq_true rfl⟩) (hr_preV hZ_c hM hIx hK hZ0 hA0 hS (r := .inr 0) mS_0 (q := (RX5, TX5, 55)) rfl) rfl rfl hl.1 rfl (lv_room (Nat.le_of_ble_eq_true rfl)) dX5_readThing_44 ⟨Nat.le_of_ble_eq_true rfl, Nat.le_of_ble_eq_true rfl⟩) hS (fun H locs hM hS => ?_)
    refine hm_iast (r := 11) hx hb hK hM hIx hS 0 mS_11 rfl hf dX5_readThing_47 (fun g5 H locs hf hM hS => ?_)
    refine lv_aload_n hx hb dX5_readThing_48 rfl (lv_at hl 1 rfl) ?_
    refine hr_get (ci := 5) (C := RX5) (T := TX5) (N := 55) (r := .inr 0) hx hb hts in_X5 hown hK hM mS_0 rfl 5 (by decide) (hts _ q1373) rfl (v := .ref (ad (.inr 6))) rfl dX5_readThing_49 ?_
    refine lv_bipush (v := 12) hx hb dX5_readThing_52 (by decide) ?_
    refine lv_iload_n hx hb dX5_readThing_54 rfl (lv_at hl 0 rfl) ?_
    refine lv_iadd hx hb dX5_readThing_55 ?_
    refine lv_aload_n hx hb dX5_readThing_56 rfl (lv_at hl 1 rfl) ?_
    refine lv_iconst (v := 0) hx hb dX5_readThing_57 (by decide) ?_
    refine lv_sipush (v := 999) hx hb dX5_readThing_58 (by decide) ?_
    obtain ⟨y6, hq, hf⟩ := hbind hf
    refine hr_calli0 (va_runV (As := [.int (0 : Int32), .int (999 : Int32)]) (rest := [.int ((12 : Int32) + x3), .ref (ad (.inr 6))]) ⟨hx, hb, hml, hown, hts⟩ (met_m_readNumber l D C a0 s0 ad so t lt g5 (0 : Int32) (999 : Int32) hq) (cwV 2 hts (lw_V q1607 q1609 qs41 q99 q1610) rfl rfl rfl (by decide +kernel) ⟨Nat.le_of_ble_eq_true rfl, Nat.le_of_ble_eq_true rfl⟩) (hr_preV hZ_c hM hIx hK hZ0 hA0 hS (r := .inr 0) mS_0 (q := (RX5, TX5, 55)) rfl) rfl rfl hl.1 rfl (lv_room (Nat.le_of_ble_eq_true rfl)) dX5_readThing_61 ⟨Nat.le_of_ble_eq_true rfl, Nat.le_of_ble_eq_true rfl⟩) hS (fun H locs hM hS => ?_)
    refine hm_iast (r := 6) hx hb hK hM hIx hS 0 mS_6 rfl hf dX5_readThing_64 (fun g7 H locs hf hM hS => ?_)
    refine lv_aload_n hx hb dX5_readThing_65 rfl (lv_at hl 1 rfl) ?_
    refine hr_get (ci := 5) (C := RX5) (T := TX5) (N := 55) (r := .inr 0) hx hb hts in_X5 hown hK hM mS_0 rfl 8 (by decide) (hts _ q1376) rfl (v := .ref (ad (.inr 9))) rfl dX5_readThing_66 ?_
    refine lv_iload_n hx hb dX5_readThing_69 rfl (lv_at hl 0 rfl) ?_
    refine lv_aload_n hx hb dX5_readThing_70 rfl (lv_at hl 1 rfl) ?_
    obtain ⟨y8, hq, hf⟩ := hbind hf
    refine hr_calli0 (va_runV (As := []) (rest := [.int x3, .ref (ad (.inr 9))]) ⟨hx, hb, hml, hown, hts⟩ (met_m_readPerson l D C a0 s0 ad so t lt g7 hq) (cwV 0 hts (lw_V q1616 q1618 qs43 q99 q1619) rfl rfl rfl (by decide +kernel) ⟨Nat.le_of_ble_eq_true rfl, Nat.le_of_ble_eq_true rfl⟩) (hr_preV hZ_c hM hIx hK hZ0 hA0 hS (r := .inr 0) mS_0 (q := (RX5, TX5, 55)) rfl) rfl rfl hl.1 rfl (lv_room (Nat.le_of_ble_eq_true rfl)) dX5_readThing_71 ⟨Nat.le_of_ble_eq_true rfl, Nat.le_of_ble_eq_true rfl⟩) hS (fun H locs hM hS => ?_)
    refine hm_iast (r := 9) hx hb hK hM hIx hS 0 mS_9 rfl hf dX5_readThing_74 (fun g9 H locs hf hM hS => ?_)
    refine lv_aload_n hx hb dX5_readThing_75 rfl (lv_at hl 1 rfl) ?_
    refine hr_get (ci := 5) (C := RX5) (T := TX5) (N := 55) (r := .inr 0) hx hb hts in_X5 hown hK hM mS_0 rfl 11 (by decide) (hts _ q1379) rfl (v := .ref (ad (.inr 12))) rfl dX5_readThing_76 ?_
    refine lv_bipush (v := 12) hx hb dX5_readThing_79 (by decide) ?_
    refine lv_iload_n hx hb dX5_readThing_81 rfl (lv_at hl 0 rfl) ?_
    refine lv_iadd hx hb dX5_readThing_82 ?_
    refine lv_aload_n hx hb dX5_readThing_83 rfl (lv_at hl 1 rfl) ?_
    refine va_ldcS hx hb hown (hlr_X5_213 hZ0) dX5_readThing_84 ?_
    obtain ⟨y10, hq, hf⟩ := hbind hf
    refine hr_calli0 (va_runV (As := [.ref (litA a0 s0 RX5 213)]) (rest := [.int ((12 : Int32) + x3), .ref (ad (.inr 12))]) ⟨hx, hb, hml, hown, hts⟩ (met_m_passes l D C a0 s0 ad so t lt g9 tx_wet (litA a0 s0 RX5 213) ((hlt_X5_213 hZ0).1) hq) (cwV 1 hts (lw_V q1603 q1605 qs40 q99 q1606) rfl rfl rfl (by decide +kernel) ⟨Nat.le_of_ble_eq_true rfl, Nat.le_of_ble_eq_true rfl⟩) (hr_preV hZ_c hM hIx hK hZ0 hA0 hS (r := .inr 0) mS_0 (q := (RX5, TX5, 55)) rfl) rfl rfl hl.1 rfl (lv_room (Nat.le_of_ble_eq_true rfl)) dX5_readThing_86 ⟨Nat.le_of_ble_eq_true rfl, Nat.le_of_ble_eq_true rfl⟩) hS (fun H locs hM hS => ?_)
    refine hm_zast (r := 12) hx hb hK hM hIx hS 2 mS_12 rfl hf dX5_readThing_89 (fun g11 H locs hf hM hS => ?_)
    refine lv_aload_n hx hb dX5_readThing_90 rfl (lv_at hl 1 rfl) ?_
    refine hr_get (ci := 5) (C := RX5) (T := TX5) (N := 55) (r := .inr 0) hx hb hts in_X5 hown hK hM mS_0 rfl 2 (by decide) (hts _ q1370) rfl (v := .ref (ad (.inr 3))) rfl dX5_readThing_91 ?_
    refine lv_iconst (v := 5) hx hb dX5_readThing_94 (by decide) ?_
    refine lv_dup2_11 hx hb dX5_readThing_95 rfl rfl ?_
    refine hm_iald (r := 3) hx hb hK hM 0 mS_3 rfl hf dX5_readThing_96 (fun x12 hf => ?_)
    refine lv_iconst (v := 1) hx hb dX5_readThing_97 (by decide) ?_
    refine lv_iadd hx hb dX5_readThing_98 ?_
    refine hm_iast (r := 3) hx hb hK hM hIx hS 0 mS_3 rfl hf dX5_readThing_99 (fun g13 H locs hf hM hS => ?_)
    have eo := Option.some.inj hf
    subst eo
    exact W.vret hx hb hr (fun T ht hW => ⟨⟨(), rfl, trivial, by dsimp only; rw [ht]; exact hM⟩, hS.F ht⟩) hS.2.2 dX5_readThing_100
  · have eo := Option.some.inj hf
    subst eo
    exact W.vret hx hb hr (fun T ht hW => ⟨⟨(), rfl, trivial, by dsimp only; rw [ht]; exact hM⟩, hS.F ht⟩) hS.2.2 dX5_readThing_23
set_option maxHeartbeats 4000000 in
set_option maxRecDepth 100000 in
theorem w_m_readThing {p : Program} {l : Launch} {e : Env} {s : State} {m : MethodId} {args : Array Value} {below : List Frame} {meth : Method} {c : Code} {D : va_G} {C : Nat → Nat} {a0 : Array Value} {s0 : State} {ad : Rl → Nat} {so : Nat → Option hS} {t : hSt} {lt : Rl → Nat → Int64} (CX : hCx D C a0 s0 p s m args meth c cX5_readThing 2 RX5 (none)) (hIx : hI (hA s0) ad (Sum.elim so (mSH C))) (g : hSt) {o : hSt} (hf : m_readThing g = some o) {H : Heap} {locs : List Loc} (hM : hW D vwCl ad (Sum.elim so (mSH C)) (Sum.elim t g) lt H) (hS : va_S (hA s0) s.heap H locs) {ls : Array Slot} (hl : lv_has ls 2 [(0, .ref (ad (.inr 0)))]) : W p l e rm_m_readThing s m args below meth c H locs 0 0 (MQ below (va_Qv (fun (_ : Unit) => True) (fun (_ : Unit) (U : State) => hW D vwCl ad (Sum.elim so (mSH C)) (Sum.elim t o) lt U.heap) (hA s0)) args s 0 0 (hA s0)) (F0 m 0 ls []) := by
  obtain ⟨hx, hb, hr, hml, hown, hts, hlocks, hK, hZ0, hA0⟩ := CX
  unfold m_readThing at hf
  refine lv_aload_n hx hb dX5_readThing_0 rfl (lv_at hl 0 rfl) ?_
  refine hr_get (ci := 5) (C := RX5) (T := TX5) (N := 55) (r := .inr 0) hx hb hts in_X5 hown hK hM mS_0 rfl 2 (by decide) (hts _ q1370) rfl (v := .ref (ad (.inr 3))) rfl dX5_readThing_1 ?_
  refine lv_iconst (v := 5) hx hb dX5_readThing_4 (by decide) ?_
  refine hm_iald (r := 3) hx hb hK hM 0 mS_3 rfl hf dX5_readThing_5 (fun x1 hf => ?_)
  refine lv_bipush (v := 12) hx hb dX5_readThing_6 (by decide) ?_
  refine hb_icmp_ne (tgt := 16) hx hb dX5_readThing_8 (by decide) hf (fun hf => ?_) (fun hf => ?_)
  · exact w_m_readThing_B16 ⟨hx, hb, hr, hml, hown, hts, hlocks, hK, hZ0, hA0⟩ hIx g x1 g hf hM hS (lv_sub hl [0] rfl)
  · refine lv_aload_n hx hb dX5_readThing_11 rfl (lv_at hl 0 rfl) ?_
    refine lv_iconst (v := 2) hx hb dX5_readThing_12 (by decide) ?_
    obtain ⟨y14, hq, hf⟩ := hbind hf
    refine hr_callv0 (va_runV (As := [.int (2 : Int32)]) (rest := []) ⟨hx, hb, hml, hown, hts⟩ (met_m_wrong l D C a0 s0 ad so t lt g (2 : Int32) hq) (cwV 1 hts (lw_V q1593 q1595 qs38 q99 q1596) rfl rfl rfl (by decide +kernel) ⟨Nat.le_of_ble_eq_true rfl, Nat.le_of_ble_eq_true rfl⟩) (hr_preV hZ_c hM hIx hK hZ0 hA0 hS (r := .inr 0) mS_0 (q := (RX5, TX5, 55)) rfl) rfl rfl hl.1 rfl (lv_room (Nat.le_of_ble_eq_true rfl)) dX5_readThing_13 ⟨Nat.le_of_ble_eq_true rfl, Nat.le_of_ble_eq_true rfl⟩) hS (fun H locs hM hS => ?_)
    exact w_m_readThing_B16 ⟨hx, hb, hr, hml, hown, hts, hlocks, hK, hZ0, hA0⟩ hIx g x1 y14 hf hM hS (lv_sub hl [0] rfl)
set_option maxHeartbeats 4000000 in
set_option maxRecDepth 100000 in
theorem met_m_readThing (l : Launch) (D : va_G) (C : Nat → Nat) (a0 : Array Value) (s0 : State) (ad : Rl → Nat) (so : Nat → Option hS) (t : hSt) (lt : Rl → Nat → Int64) (g : hSt) {o : hSt} (hf : m_readThing g = some o) : Met l yX5_readThing (ws_ yX5_readThing cX5_readThing 2 (none)) rm_m_readThing (va_Pc [.ref (ad (.inr 0))] (hB D vwCl (hT C) (hA s0) (hZ a0 s0) ad (Sum.elim so (mSH C)) (Sum.elim t g) lt)) (va_Qv (fun (_ : Unit) => True) (fun (_ : Unit) (U : State) => hW D vwCl ad (Sum.elim so (mSH C)) (Sum.elim t o) lt U.heap) (hA s0)) 0 0 (hA s0) := by
  refine Met.ofW (cc := cX5_readThing) (maxL := 2) (ret := (none)) (by decide) rfl ?_
  intro p e s m args below meth c s₁ B hml hv
  obtain ⟨rfl, hM, hIx, hK, hZ0, hA0⟩ := hv
  have hl := lv_entry ([.ref (ad (.inr 0))]) (n := 2) (Nat.le_of_ble_eq_true rfl)
  rw [lg_entry_eq]
  generalize (lg_sl ([.ref (ad (.inr 0))]) ++ List.replicate (2 - (lg_sl ([.ref (ad (.inr 0))])).length) Slot.unset).toArray = ls at hl ⊢
  have hl : lv_has ls 2 [(0, .ref (ad (.inr 0)))] := hl
  exact w_m_readThing ⟨B.exec, B.bytes, B.returns, hml, findClass_of_methodNamed B.named, fun w h => atoms_spec (ws := ws_ yX5_readThing cX5_readThing 2 (none)) B.pre w (List.mem_cons_of_mem _ h), B.notSynchronized, hK, hZ0, hA0⟩ hIx g hf hM va_S.rf hl

def rm_m_readOwes : Room := { frames := 13, cells := 0, slots := 0, locals := 207 }
set_option maxHeartbeats 4000000 in
set_option maxRecDepth 100000 in
theorem w_m_readOwes_B101 {p : Program} {l : Launch} {e : Env} {s : State} {m : MethodId} {args : Array Value} {below : List Frame} {meth : Method} {c : Code} {D : va_G} {C : Nat → Nat} {a0 : Array Value} {s0 : State} {ad : Rl → Nat} {so : Nat → Option hS} {t : hSt} {lt : Rl → Nat → Int64} (CX : hCx D C a0 s0 p s m args meth c cX5_readOwes 3 RX5 (none)) (hIx : hI (hA s0) ad (Sum.elim so (mSH C))) (g : hSt) (y1 : Int32 × hSt) (g_29 : hSt) (y2 : hSt) (y3 : Int32 × hSt) (g4 : hSt) (y5 : Int32 × hSt) (y6 : Int32 × hSt) (g_90 : hSt) (g_101 : hSt) {o : hSt} (hf : m_readOwes_B101 y1 y6 g_101 = some o) {H : Heap} {locs : List Loc} (hM : hW D vwCl ad (Sum.elim so (mSH C)) (Sum.elim t g_101) lt H) (hS : va_S (hA s0) s.heap H locs) {ls : Array Slot} (hl : lv_has ls 3 [(0, .ref (ad (.inr 0))), (1, .int y1.1), (2, .int y6.1)]) : W p l e rm_m_readOwes s m args below meth c H locs 0 0 (MQ below (va_Qv (fun (_ : Unit) => True) (fun (_ : Unit) (U : State) => hW D vwCl ad (Sum.elim so (mSH C)) (Sum.elim t o) lt U.heap) (hA s0)) args s 0 0 (hA s0)) (F0 m 101 ls []) := by
  obtain ⟨hx, hb, hr, hml, hown, hts, hlocks, hK, hZ0, hA0⟩ := CX
  unfold m_readOwes_B101 at hf
  refine lv_aload_n hx hb dX5_readOwes_101 rfl (lv_at hl 0 rfl) ?_
  refine hr_get (ci := 5) (C := RX5) (T := TX5) (N := 55) (r := .inr 0) hx hb hts in_X5 hown hK hM mS_0 rfl 8 (by decide) (hts _ q1376) rfl (v := .ref (ad (.inr 9))) rfl dX5_readOwes_102 ?_
  refine lv_bipush (v := 24) hx hb dX5_readOwes_105 (by decide) ?_
  refine lv_iload_n hx hb dX5_readOwes_107 rfl (lv_at hl 1 rfl) ?_
  refine lv_iadd hx hb dX5_readOwes_108 ?_
  refine lv_iload_n hx hb dX5_readOwes_109 rfl (lv_at hl 2 rfl) ?_
  refine hm_iast (r := 9) hx hb hK hM hIx hS 0 mS_9 rfl hf dX5_readOwes_110 (fun g7 H locs hf hM hS => ?_)
  have eo := Option.some.inj hf
  subst eo
  exact W.vret hx hb hr (fun T ht hW => ⟨⟨(), rfl, trivial, by dsimp only; rw [ht]; exact hM⟩, hS.F ht⟩) hS.2.2 dX5_readOwes_111
set_option maxHeartbeats 4000000 in
set_option maxRecDepth 100000 in
theorem w_m_readOwes_B90 {p : Program} {l : Launch} {e : Env} {s : State} {m : MethodId} {args : Array Value} {below : List Frame} {meth : Method} {c : Code} {D : va_G} {C : Nat → Nat} {a0 : Array Value} {s0 : State} {ad : Rl → Nat} {so : Nat → Option hS} {t : hSt} {lt : Rl → Nat → Int64} (CX : hCx D C a0 s0 p s m args meth c cX5_readOwes 3 RX5 (none)) (hIx : hI (hA s0) ad (Sum.elim so (mSH C))) (g : hSt) (y1 : Int32 × hSt) (g_29 : hSt) (y2 : hSt) (y3 : Int32 × hSt) (g4 : hSt) (y5 : Int32 × hSt) (y6 : Int32 × hSt) (g_90 : hSt) {o : hSt} (hf : m_readOwes_B90 y1 y6 g_90 = some o) {H : Heap} {locs : List Loc} (hM : hW D vwCl ad (Sum.elim so (mSH C)) (Sum.elim t g_90) lt H) (hS : va_S (hA s0) s.heap H locs) {ls : Array Slot} (hl : lv_has ls 3 [(0, .ref (ad (.inr 0))), (1, .int y1.1), (2, .int y6.1)]) : W p l e rm_m_readOwes s m args below meth c H locs 0 0 (MQ below (va_Qv (fun (_ : Unit) => True) (fun (_ : Unit) (U : State) => hW D vwCl ad (Sum.elim so (mSH C)) (Sum.elim t o) lt U.heap) (hA s0)) args s 0 0 (hA s0)) (F0 m 90 ls []) := by
  obtain ⟨hx, hb, hr, hml, hown, hts, hlocks, hK, hZ0, hA0⟩ := CX
  unfold m_readOwes_B90 at hf
  refine lv_aload_n hx hb dX5_readOwes_90 rfl (lv_at hl 0 rfl) ?_
  refine hr_get (ci := 5) (C := RX5) (T := TX5) (N := 55) (r := .inr 0) hx hb hts in_X5 hown hK hM mS_0 rfl 21 (by decide) (hts _ q1389) rfl (v := .int (g_90 0 21)) rfl dX5_readOwes_91 ?_
  refine hb_if_ne (tgt := 101) hx hb dX5_readOwes_94 (by decide) hf (fun hf => ?_) (fun hf => ?_)
  · exact w_m_readOwes_B101 ⟨hx, hb, hr, hml, hown, hts, hlocks, hK, hZ0, hA0⟩ hIx g y1 g_29 y2 y3 g4 y5 y6 g_90 g_90 hf hM hS (lv_sub hl [0, 1, 2] rfl)
  · refine lv_aload_n hx hb dX5_readOwes_97 rfl (lv_at hl 0 rfl) ?_
    obtain ⟨y8, hq, hf⟩ := hbind hf
    refine hr_callv0 (va_runV (As := []) (rest := []) ⟨hx, hb, hml, hown, hts⟩ (met_m_stepOn l D C a0 s0 ad so t lt g_90 hq) (cwV 0 hts (lw_V q1551 q1553 qs34 q99 q1554) rfl rfl rfl (by decide +kernel) ⟨Nat.le_of_ble_eq_true rfl, Nat.le_of_ble_eq_true rfl⟩) (hr_preV hZ_c hM hIx hK hZ0 hA0 hS (r := .inr 0) mS_0 (q := (RX5, TX5, 55)) rfl) rfl rfl hl.1 rfl (lv_room (Nat.le_of_ble_eq_true rfl)) dX5_readOwes_98 ⟨Nat.le_of_ble_eq_true rfl, Nat.le_of_ble_eq_true rfl⟩) hS (fun H locs hM hS => ?_)
    exact w_m_readOwes_B101 ⟨hx, hb, hr, hml, hown, hts, hlocks, hK, hZ0, hA0⟩ hIx g y1 g_29 y2 y3 g4 y5 y6 g_90 y8 hf hM hS (lv_sub hl [0, 1, 2] rfl)
set_option maxHeartbeats 4000000 in
set_option maxRecDepth 100000 in
theorem w_m_readOwes_B29 {p : Program} {l : Launch} {e : Env} {s : State} {m : MethodId} {args : Array Value} {below : List Frame} {meth : Method} {c : Code} {D : va_G} {C : Nat → Nat} {a0 : Array Value} {s0 : State} {ad : Rl → Nat} {so : Nat → Option hS} {t : hSt} {lt : Rl → Nat → Int64} (CX : hCx D C a0 s0 p s m args meth c cX5_readOwes 3 RX5 (none)) (hIx : hI (hA s0) ad (Sum.elim so (mSH C))) (g : hSt) (y1 : Int32 × hSt) (g_29 : hSt) {o : hSt} (hf : m_readOwes_B29 y1 g_29 = some o) {H : Heap} {locs : List Loc} (hM : hW D vwCl ad (Sum.elim so (mSH C)) (Sum.elim t g_29) lt H) (hS : va_S (hA s0) s.heap H locs) {ls : Array Slot} (hl : lv_has ls 3 [(0, .ref (ad (.inr 0))), (1, .int y1.1)]) : W p l e rm_m_readOwes s m args below meth c H locs 0 0 (MQ below (va_Qv (fun (_ : Unit) => True) (fun (_ : Unit) (U : State) => hW D vwCl ad (Sum.elim so (mSH C)) (Sum.elim t o) lt U.heap) (hA s0)) args s 0 0 (hA s0)) (F0 m 29 ls []) := by
  obtain ⟨hx, hb, hr, hml, hown, hts, hlocks, hK, hZ0, hA0⟩ := CX
  unfold m_readOwes_B29 at hf
  refine lv_aload_n hx hb dX5_readOwes_29 rfl (lv_at hl 0 rfl) ?_
  refine hr_get (ci := 5) (C := RX5) (T := TX5) (N := 55) (r := .inr 0) hx hb hts in_X5 hown hK hM mS_0 rfl 21 (by decide) (hts _ q1389) rfl (v := .int (g_29 0 21)) rfl dX5_readOwes_30 ?_
  refine hb_if_eq (tgt := 37) hx hb dX5_readOwes_33 (by decide) hf (fun hf => ?_) (fun hf => ?_)
  · refine lv_aload_n hx hb dX5_readOwes_37 rfl (lv_at hl 0 rfl) ?_
    obtain ⟨y2, hq, hf⟩ := hbind hf
    refine hr_callv0 (va_runV (As := []) (rest := []) ⟨hx, hb, hml, hown, hts⟩ (met_m_stepOn l D C a0 s0 ad so t lt g_29 hq) (cwV 0 hts (lw_V q1551 q1553 qs34 q99 q1554) rfl rfl rfl (by decide +kernel) ⟨Nat.le_of_ble_eq_true rfl, Nat.le_of_ble_eq_true rfl⟩) (hr_preV hZ_c hM hIx hK hZ0 hA0 hS (r := .inr 0) mS_0 (q := (RX5, TX5, 55)) rfl) rfl rfl hl.1 rfl (lv_room (Nat.le_of_ble_eq_true rfl)) dX5_readOwes_38 ⟨Nat.le_of_ble_eq_true rfl, Nat.le_of_ble_eq_true rfl⟩) hS (fun H locs hM hS => ?_)
    refine lv_aload_n hx hb dX5_readOwes_41 rfl (lv_at hl 0 rfl) ?_
    refine hr_get (ci := 5) (C := RX5) (T := TX5) (N := 55) (r := .inr 0) hx hb hts in_X5 hown hK hM mS_0 rfl 8 (by decide) (hts _ q1376) rfl (v := .ref (ad (.inr 9))) rfl dX5_readOwes_42 ?_
    refine lv_bipush (v := 18) hx hb dX5_readOwes_45 (by decide) ?_
    refine lv_iload_n hx hb dX5_readOwes_47 rfl (lv_at hl 1 rfl) ?_
    refine lv_iadd hx hb dX5_readOwes_48 ?_
    refine lv_aload_n hx hb dX5_readOwes_49 rfl (lv_at hl 0 rfl) ?_
    refine lv_iconst (v := 1) hx hb dX5_readOwes_50 (by decide) ?_
    refine lv_sipush (v := 999) hx hb dX5_readOwes_51 (by decide) ?_
    obtain ⟨y3, hq, hf⟩ := hbind hf
    refine hr_calli0 (va_runV (As := [.int (1 : Int32), .int (999 : Int32)]) (rest := [.int ((18 : Int32) + y1.1), .ref (ad (.inr 9))]) ⟨hx, hb, hml, hown, hts⟩ (met_m_readNumber l D C a0 s0 ad so t lt y2 (1 : Int32) (999 : Int32) hq) (cwV 2 hts (lw_V q1607 q1609 qs41 q99 q1610) rfl rfl rfl (by decide +kernel) ⟨Nat.le_of_ble_eq_true rfl, Nat.le_of_ble_eq_true rfl⟩) (hr_preV hZ_c hM hIx hK hZ0 hA0 hS (r := .inr 0) mS_0 (q := (RX5, TX5, 55)) rfl) rfl rfl hl.1 rfl (lv_room (Nat.le_of_ble_eq_true rfl)) dX5_readOwes_54 ⟨Nat.le_of_ble_eq_true rfl, Nat.le_of_ble_eq_true rfl⟩) hS (fun H locs hM hS => ?_)
    refine hm_iast (r := 9) hx hb hK hM hIx hS 0 mS_9 rfl hf dX5_readOwes_57 (fun g4 H locs hf hM hS => ?_)
    refine lv_aload_n hx hb dX5_readOwes_58 rfl (lv_at hl 0 rfl) ?_
    refine va_ldcS hx hb hown (hlr_X5_215 hZ0) dX5_readOwes_59 ?_
    obtain ⟨y5, hq, hf⟩ := hbind hf
    refine hr_calli0 (va_runV (As := [.ref (litA a0 s0 RX5 215)]) (rest := []) ⟨hx, hb, hml, hown, hts⟩ (met_m_passes l D C a0 s0 ad so t lt g4 tx_to (litA a0 s0 RX5 215) ((hlt_X5_215 hZ0).1) hq) (cwV 1 hts (lw_V q1603 q1605 qs40 q99 q1606) rfl rfl rfl (by decide +kernel) ⟨Nat.le_of_ble_eq_true rfl, Nat.le_of_ble_eq_true rfl⟩) (hr_preV hZ_c hM hIx hK hZ0 hA0 hS (r := .inr 0) mS_0 (q := (RX5, TX5, 55)) rfl) rfl rfl hl.1 rfl (lv_room (Nat.le_of_ble_eq_true rfl)) dX5_readOwes_61 ⟨Nat.le_of_ble_eq_true rfl, Nat.le_of_ble_eq_true rfl⟩) hS (fun H locs hM hS => ?_)
    refine hb_if_ne (tgt := 68) hx hb dX5_readOwes_64 (by decide) hf (fun hf => ?_) (fun hf => ?_)
    · refine lv_aload_n hx hb dX5_readOwes_68 rfl (lv_at hl 0 rfl) ?_
      obtain ⟨y6, hq, hf⟩ := hbind hf
      refine hr_calli0 (va_runV (As := []) (rest := []) ⟨hx, hb, hml, hown, hts⟩ (met_m_personNow l D C a0 s0 ad so t lt y5.2 hq) (cwV 0 hts (lw_V q1620 q1622 qs44 q99 q1623) rfl rfl rfl (by decide +kernel) ⟨Nat.le_of_ble_eq_true rfl, Nat.le_of_ble_eq_true rfl⟩) (hr_preV hZ_c hM hIx hK hZ0 hA0 hS (r := .inr 0) mS_0 (q := (RX5, TX5, 55)) rfl) rfl rfl hl.1 rfl (lv_room (Nat.le_of_ble_eq_true rfl)) dX5_readOwes_69 ⟨Nat.le_of_ble_eq_true rfl, Nat.le_of_ble_eq_true rfl⟩) hS (fun H locs hM hS => ?_)
      refine lv_istore_n (lv' := [(2, .int y6.1), (0, .ref (ad (.inr 0))), (1, .int y1.1)]) hx hb dX5_readOwes_72 rfl hl (by decide) rfl (fun ls hl => ?_)
      refine lv_aload_n hx hb dX5_readOwes_73 rfl (lv_at hl 1 rfl) ?_
      refine hr_get (ci := 5) (C := RX5) (T := TX5) (N := 55) (r := .inr 0) hx hb hts in_X5 hown hK hM mS_0 rfl 21 (by decide) (hts _ q1389) rfl (v := .int (y6.2 0 21)) rfl dX5_readOwes_74 ?_
      refine hb_if_ne (tgt := 90) hx hb dX5_readOwes_77 (by decide) hf (fun hf => ?_) (fun hf => ?_)
      · exact w_m_readOwes_B90 ⟨hx, hb, hr, hml, hown, hts, hlocks, hK, hZ0, hA0⟩ hIx g y1 g_29 y2 y3 g4 y5 y6 y6.2 hf hM hS (lv_sub hl [1, 2, 0] rfl)
      · refine lv_iload_n hx hb dX5_readOwes_80 rfl (lv_at hl 0 rfl) ?_
        refine lv_iload_n hx hb dX5_readOwes_81 rfl (lv_at hl 2 rfl) ?_
        refine hb_icmp_ne (tgt := 90) hx hb dX5_readOwes_82 (by decide) hf (fun hf => ?_) (fun hf => ?_)
        · exact w_m_readOwes_B90 ⟨hx, hb, hr, hml, hown, hts, hlocks, hK, hZ0, hA0⟩ hIx g y1 g_29 y2 y3 g4 y5 y6 y6.2 hf hM hS (lv_sub hl [1, 2, 0] rfl)
        · refine lv_aload_n hx hb dX5_readOwes_85 rfl (lv_at hl 1 rfl) ?_
          refine lv_iconst (v := 4) hx hb dX5_readOwes_86 (by decide) ?_
          obtain ⟨y9, hq, hf⟩ := hbind hf
          refine hr_callv0 (va_runV (As := [.int (4 : Int32)]) (rest := []) ⟨hx, hb, hml, hown, hts⟩ (met_m_wrong l D C a0 s0 ad so t lt y6.2 (4 : Int32) hq) (cwV 1 hts (lw_V q1593 q1595 qs38 q99 q1596) rfl rfl rfl (by decide +kernel) ⟨Nat.le_of_ble_eq_true rfl, Nat.le_of_ble_eq_true rfl⟩) (hr_preV hZ_c hM hIx hK hZ0 hA0 hS (r := .inr 0) mS_0 (q := (RX5, TX5, 55)) rfl) rfl rfl hl.1 rfl (lv_room (Nat.le_of_ble_eq_true rfl)) dX5_readOwes_87 ⟨Nat.le_of_ble_eq_true rfl, Nat.le_of_ble_eq_true rfl⟩) hS (fun H locs hM hS => ?_)
          exact w_m_readOwes_B90 ⟨hx, hb, hr, hml, hown, hts, hlocks, hK, hZ0, hA0⟩ hIx g y1 g_29 y2 y3 g4 y5 y6 y9 hf hM hS (lv_sub hl [1, 2, 0] rfl)
    · have eo := Option.some.inj hf
      subst eo
      exact W.vret hx hb hr (fun T ht hW => ⟨⟨(), rfl, trivial, by dsimp only; rw [ht]; exact hM⟩, hS.F ht⟩) hS.2.2 dX5_readOwes_67
  · have eo := Option.some.inj hf
    subst eo
    exact W.vret hx hb hr (fun T ht hW => ⟨⟨(), rfl, trivial, by dsimp only; rw [ht]; exact hM⟩, hS.F ht⟩) hS.2.2 dX5_readOwes_36
set_option maxHeartbeats 4000000 in
set_option maxRecDepth 100000 in
theorem w_m_readOwes {p : Program} {l : Launch} {e : Env} {s : State} {m : MethodId} {args : Array Value} {below : List Frame} {meth : Method} {c : Code} {D : va_G} {C : Nat → Nat} {a0 : Array Value} {s0 : State} {ad : Rl → Nat} {so : Nat → Option hS} {t : hSt} {lt : Rl → Nat → Int64} (CX : hCx D C a0 s0 p s m args meth c cX5_readOwes 3 RX5 (none)) (hIx : hI (hA s0) ad (Sum.elim so (mSH C))) (g : hSt) {o : hSt} (hf : m_readOwes g = some o) {H : Heap} {locs : List Loc} (hM : hW D vwCl ad (Sum.elim so (mSH C)) (Sum.elim t g) lt H) (hS : va_S (hA s0) s.heap H locs) {ls : Array Slot} (hl : lv_has ls 3 [(0, .ref (ad (.inr 0)))]) : W p l e rm_m_readOwes s m args below meth c H locs 0 0 (MQ below (va_Qv (fun (_ : Unit) => True) (fun (_ : Unit) (U : State) => hW D vwCl ad (Sum.elim so (mSH C)) (Sum.elim t o) lt U.heap) (hA s0)) args s 0 0 (hA s0)) (F0 m 0 ls []) := by
  obtain ⟨hx, hb, hr, hml, hown, hts, hlocks, hK, hZ0, hA0⟩ := CX
  unfold m_readOwes at hf
  refine lv_aload_n hx hb dX5_readOwes_0 rfl (lv_at hl 0 rfl) ?_
  obtain ⟨y1, hq, hf⟩ := hbind hf
  refine hr_calli0 (va_runV (As := []) (rest := []) ⟨hx, hb, hml, hown, hts⟩ (met_m_personNow l D C a0 s0 ad so t lt g hq) (cwV 0 hts (lw_V q1620 q1622 qs44 q99 q1623) rfl rfl rfl (by decide +kernel) ⟨Nat.le_of_ble_eq_true rfl, Nat.le_of_ble_eq_true rfl⟩) (hr_preV hZ_c hM hIx hK hZ0 hA0 hS (r := .inr 0) mS_0 (q := (RX5, TX5, 55)) rfl) rfl rfl hl.1 rfl (lv_room (Nat.le_of_ble_eq_true rfl)) dX5_readOwes_1 ⟨Nat.le_of_ble_eq_true rfl, Nat.le_of_ble_eq_true rfl⟩) hS (fun H locs hM hS => ?_)
  refine lv_istore_n (lv' := [(1, .int y1.1), (0, .ref (ad (.inr 0)))]) hx hb dX5_readOwes_4 rfl hl (by decide) rfl (fun ls hl => ?_)
  refine lv_aload_n hx hb dX5_readOwes_5 rfl (lv_at hl 1 rfl) ?_
  refine hr_get (ci := 5) (C := RX5) (T := TX5) (N := 55) (r := .inr 0) hx hb hts in_X5 hown hK hM mS_0 rfl 21 (by decide) (hts _ q1389) rfl (v := .int (y1.2 0 21)) rfl dX5_readOwes_6 ?_
  refine hb_if_ne (tgt := 29) hx hb dX5_readOwes_9 (by decide) hf (fun hf => ?_) (fun hf => ?_)
  · exact w_m_readOwes_B29 ⟨hx, hb, hr, hml, hown, hts, hlocks, hK, hZ0, hA0⟩ hIx g y1 y1.2 hf hM hS (lv_sub hl [1, 0] rfl)
  · refine lv_aload_n hx hb dX5_readOwes_12 rfl (lv_at hl 1 rfl) ?_
    refine hr_get (ci := 5) (C := RX5) (T := TX5) (N := 55) (r := .inr 0) hx hb hts in_X5 hown hK hM mS_0 rfl 8 (by decide) (hts _ q1376) rfl (v := .ref (ad (.inr 9))) rfl dX5_readOwes_13 ?_
    refine lv_bipush (v := 18) hx hb dX5_readOwes_16 (by decide) ?_
    refine lv_iload_n hx hb dX5_readOwes_18 rfl (lv_at hl 0 rfl) ?_
    refine lv_iadd hx hb dX5_readOwes_19 ?_
    refine hm_iald (r := 9) hx hb hK hM 0 mS_9 rfl hf dX5_readOwes_20 (fun x10 hf => ?_)
    refine hb_if_le (tgt := 29) hx hb dX5_readOwes_21 (by decide) hf (fun hf => ?_) (fun hf => ?_)
    · exact w_m_readOwes_B29 ⟨hx, hb, hr, hml, hown, hts, hlocks, hK, hZ0, hA0⟩ hIx g y1 y1.2 hf hM hS (lv_sub hl [1, 0] rfl)
    · refine lv_aload_n hx hb dX5_readOwes_24 rfl (lv_at hl 1 rfl) ?_
      refine lv_iconst (v := 4) hx hb dX5_readOwes_25 (by decide) ?_
      obtain ⟨y11, hq, hf⟩ := hbind hf
      refine hr_callv0 (va_runV (As := [.int (4 : Int32)]) (rest := []) ⟨hx, hb, hml, hown, hts⟩ (met_m_wrong l D C a0 s0 ad so t lt y1.2 (4 : Int32) hq) (cwV 1 hts (lw_V q1593 q1595 qs38 q99 q1596) rfl rfl rfl (by decide +kernel) ⟨Nat.le_of_ble_eq_true rfl, Nat.le_of_ble_eq_true rfl⟩) (hr_preV hZ_c hM hIx hK hZ0 hA0 hS (r := .inr 0) mS_0 (q := (RX5, TX5, 55)) rfl) rfl rfl hl.1 rfl (lv_room (Nat.le_of_ble_eq_true rfl)) dX5_readOwes_26 ⟨Nat.le_of_ble_eq_true rfl, Nat.le_of_ble_eq_true rfl⟩) hS (fun H locs hM hS => ?_)
      exact w_m_readOwes_B29 ⟨hx, hb, hr, hml, hown, hts, hlocks, hK, hZ0, hA0⟩ hIx g y1 y11 hf hM hS (lv_sub hl [1, 0] rfl)
set_option maxHeartbeats 4000000 in
set_option maxRecDepth 100000 in
theorem met_m_readOwes (l : Launch) (D : va_G) (C : Nat → Nat) (a0 : Array Value) (s0 : State) (ad : Rl → Nat) (so : Nat → Option hS) (t : hSt) (lt : Rl → Nat → Int64) (g : hSt) {o : hSt} (hf : m_readOwes g = some o) : Met l yX5_readOwes (ws_ yX5_readOwes cX5_readOwes 3 (none)) rm_m_readOwes (va_Pc [.ref (ad (.inr 0))] (hB D vwCl (hT C) (hA s0) (hZ a0 s0) ad (Sum.elim so (mSH C)) (Sum.elim t g) lt)) (va_Qv (fun (_ : Unit) => True) (fun (_ : Unit) (U : State) => hW D vwCl ad (Sum.elim so (mSH C)) (Sum.elim t o) lt U.heap) (hA s0)) 0 0 (hA s0) := by
  refine Met.ofW (cc := cX5_readOwes) (maxL := 3) (ret := (none)) (by decide) rfl ?_
  intro p e s m args below meth c s₁ B hml hv
  obtain ⟨rfl, hM, hIx, hK, hZ0, hA0⟩ := hv
  have hl := lv_entry ([.ref (ad (.inr 0))]) (n := 3) (Nat.le_of_ble_eq_true rfl)
  rw [lg_entry_eq]
  generalize (lg_sl ([.ref (ad (.inr 0))]) ++ List.replicate (3 - (lg_sl ([.ref (ad (.inr 0))])).length) Slot.unset).toArray = ls at hl ⊢
  have hl : lv_has ls 3 [(0, .ref (ad (.inr 0)))] := hl
  exact w_m_readOwes ⟨B.exec, B.bytes, B.returns, hml, findClass_of_methodNamed B.named, fun w h => atoms_spec (ws := ws_ yX5_readOwes cX5_readOwes 3 (none)) B.pre w (List.mem_cons_of_mem _ h), B.notSynchronized, hK, hZ0, hA0⟩ hIx g hf hM va_S.rf hl

def rm_m_readLaw : Room := { frames := 11, cells := 0, slots := 0, locals := 184 }
set_option maxHeartbeats 4000000 in
set_option maxRecDepth 100000 in
theorem w_m_readLaw_B36 {p : Program} {l : Launch} {e : Env} {s : State} {m : MethodId} {args : Array Value} {below : List Frame} {meth : Method} {c : Code} {D : va_G} {C : Nat → Nat} {a0 : Array Value} {s0 : State} {ad : Rl → Nat} {so : Nat → Option hS} {t : hSt} {lt : Rl → Nat → Int64} (CX : hCx D C a0 s0 p s m args meth c cX5_readLaw 2 RX5 (none)) (hIx : hI (hA s0) ad (Sum.elim so (mSH C))) (g : hSt) (y1 : Int32) (g_25 : hSt) (g_36 : hSt) {o : hSt} (hf : m_readLaw_B36 y1 g_36 = some o) {H : Heap} {locs : List Loc} (hM : hW D vwCl ad (Sum.elim so (mSH C)) (Sum.elim t g_36) lt H) (hS : va_S (hA s0) s.heap H locs) {ls : Array Slot} (hl : lv_has ls 2 [(0, .ref (ad (.inr 0))), (1, .int y1)]) : W p l e rm_m_readLaw s m args below meth c H locs 0 0 (MQ below (va_Qv (fun (_ : Unit) => True) (fun (_ : Unit) (U : State) => hW D vwCl ad (Sum.elim so (mSH C)) (Sum.elim t o) lt U.heap) (hA s0)) args s 0 0 (hA s0)) (F0 m 36 ls []) := by
  obtain ⟨hx, hb, hr, hml, hown, hts, hlocks, hK, hZ0, hA0⟩ := CX
  unfold m_readLaw_B36 at hf
  refine lv_aload_n hx hb dX5_readLaw_36 rfl (lv_at hl 0 rfl) ?_
  refine hr_get (ci := 5) (C := RX5) (T := TX5) (N := 55) (r := .inr 0) hx hb hts in_X5 hown hK hM mS_0 rfl 2 (by decide) (hts _ q1370) rfl (v := .ref (ad (.inr 3))) rfl dX5_readLaw_37 ?_
  refine lv_bipush (v := 6) hx hb dX5_readLaw_40 (by decide) ?_
  refine lv_iload_n hx hb dX5_readLaw_42 rfl (lv_at hl 1 rfl) ?_
  refine hb_if_eq (tgt := 50) hx hb dX5_readLaw_43 (by decide) hf (fun hf => ?_) (fun hf => ?_)
  · refine lv_iconst (v := 1) hx hb dX5_readLaw_50 (by decide) ?_
    refine hm_iast (r := 3) hx hb hK hM hIx hS 0 mS_3 rfl hf dX5_readLaw_51 (fun g2 H locs hf hM hS => ?_)
    have eo := Option.some.inj hf
    subst eo
    exact W.vret hx hb hr (fun T ht hW => ⟨⟨(), rfl, trivial, by dsimp only; rw [ht]; exact hM⟩, hS.F ht⟩) hS.2.2 dX5_readLaw_52
  · refine lv_iconst (v := 0) hx hb dX5_readLaw_46 (by decide) ?_
    refine lv_goto (tgt := 51) hx hb dX5_readLaw_47 (by decide) ?_
    refine hm_iast (r := 3) hx hb hK hM hIx hS 0 mS_3 rfl hf dX5_readLaw_51 (fun g3 H locs hf hM hS => ?_)
    have eo := Option.some.inj hf
    subst eo
    exact W.vret hx hb hr (fun T ht hW => ⟨⟨(), rfl, trivial, by dsimp only; rw [ht]; exact hM⟩, hS.F ht⟩) hS.2.2 dX5_readLaw_52
set_option maxHeartbeats 4000000 in
set_option maxRecDepth 100000 in
theorem w_m_readLaw_B25 {p : Program} {l : Launch} {e : Env} {s : State} {m : MethodId} {args : Array Value} {below : List Frame} {meth : Method} {c : Code} {D : va_G} {C : Nat → Nat} {a0 : Array Value} {s0 : State} {ad : Rl → Nat} {so : Nat → Option hS} {t : hSt} {lt : Rl → Nat → Int64} (CX : hCx D C a0 s0 p s m args meth c cX5_readLaw 2 RX5 (none)) (hIx : hI (hA s0) ad (Sum.elim so (mSH C))) (g : hSt) (y1 : Int32) (g_25 : hSt) {o : hSt} (hf : m_readLaw_B25 y1 g_25 = some o) {H : Heap} {locs : List Loc} (hM : hW D vwCl ad (Sum.elim so (mSH C)) (Sum.elim t g_25) lt H) (hS : va_S (hA s0) s.heap H locs) {ls : Array Slot} (hl : lv_has ls 2 [(0, .ref (ad (.inr 0))), (1, .int y1)]) : W p l e rm_m_readLaw s m args below meth c H locs 0 0 (MQ below (va_Qv (fun (_ : Unit) => True) (fun (_ : Unit) (U : State) => hW D vwCl ad (Sum.elim so (mSH C)) (Sum.elim t o) lt U.heap) (hA s0)) args s 0 0 (hA s0)) (F0 m 25 ls []) := by
  obtain ⟨hx, hb, hr, hml, hown, hts, hlocks, hK, hZ0, hA0⟩ := CX
  unfold m_readLaw_B25 at hf
  refine lv_aload_n hx hb dX5_readLaw_25 rfl (lv_at hl 0 rfl) ?_
  refine hr_get (ci := 5) (C := RX5) (T := TX5) (N := 55) (r := .inr 0) hx hb hts in_X5 hown hK hM mS_0 rfl 21 (by decide) (hts _ q1389) rfl (v := .int (g_25 0 21)) rfl dX5_readLaw_26 ?_
  refine hb_if_ne (tgt := 36) hx hb dX5_readLaw_29 (by decide) hf (fun hf => ?_) (fun hf => ?_)
  · exact w_m_readLaw_B36 ⟨hx, hb, hr, hml, hown, hts, hlocks, hK, hZ0, hA0⟩ hIx g y1 g_25 g_25 hf hM hS (lv_sub hl [0, 1] rfl)
  · refine lv_aload_n hx hb dX5_readLaw_32 rfl (lv_at hl 0 rfl) ?_
    obtain ⟨y4, hq, hf⟩ := hbind hf
    refine hr_callv0 (va_runV (As := []) (rest := []) ⟨hx, hb, hml, hown, hts⟩ (met_m_stepOn l D C a0 s0 ad so t lt g_25 hq) (cwV 0 hts (lw_V q1551 q1553 qs34 q99 q1554) rfl rfl rfl (by decide +kernel) ⟨Nat.le_of_ble_eq_true rfl, Nat.le_of_ble_eq_true rfl⟩) (hr_preV hZ_c hM hIx hK hZ0 hA0 hS (r := .inr 0) mS_0 (q := (RX5, TX5, 55)) rfl) rfl rfl hl.1 rfl (lv_room (Nat.le_of_ble_eq_true rfl)) dX5_readLaw_33 ⟨Nat.le_of_ble_eq_true rfl, Nat.le_of_ble_eq_true rfl⟩) hS (fun H locs hM hS => ?_)
    exact w_m_readLaw_B36 ⟨hx, hb, hr, hml, hown, hts, hlocks, hK, hZ0, hA0⟩ hIx g y1 g_25 y4 hf hM hS (lv_sub hl [0, 1] rfl)
set_option maxHeartbeats 4000000 in
set_option maxRecDepth 100000 in
theorem w_m_readLaw {p : Program} {l : Launch} {e : Env} {s : State} {m : MethodId} {args : Array Value} {below : List Frame} {meth : Method} {c : Code} {D : va_G} {C : Nat → Nat} {a0 : Array Value} {s0 : State} {ad : Rl → Nat} {so : Nat → Option hS} {t : hSt} {lt : Rl → Nat → Int64} (CX : hCx D C a0 s0 p s m args meth c cX5_readLaw 2 RX5 (none)) (hIx : hI (hA s0) ad (Sum.elim so (mSH C))) (g : hSt) {o : hSt} (hf : m_readLaw g = some o) {H : Heap} {locs : List Loc} (hM : hW D vwCl ad (Sum.elim so (mSH C)) (Sum.elim t g) lt H) (hS : va_S (hA s0) s.heap H locs) {ls : Array Slot} (hl : lv_has ls 2 [(0, .ref (ad (.inr 0)))]) : W p l e rm_m_readLaw s m args below meth c H locs 0 0 (MQ below (va_Qv (fun (_ : Unit) => True) (fun (_ : Unit) (U : State) => hW D vwCl ad (Sum.elim so (mSH C)) (Sum.elim t o) lt U.heap) (hA s0)) args s 0 0 (hA s0)) (F0 m 0 ls []) := by
  obtain ⟨hx, hb, hr, hml, hown, hts, hlocks, hK, hZ0, hA0⟩ := CX
  unfold m_readLaw at hf
  refine lv_aload_n hx hb dX5_readLaw_0 rfl (lv_at hl 0 rfl) ?_
  refine va_ldcS hx hb hown (hlr_X5_217 hZ0) dX5_readLaw_1 ?_
  obtain ⟨y1, hq, hf⟩ := hbind hf
  refine hr_calli0 (va_runV (As := [.ref (litA a0 s0 RX5 217)]) (rest := []) ⟨hx, hb, hml, hown, hts⟩ (met_m_is l D C a0 s0 ad so t lt g tx_giver (litA a0 s0 RX5 217) ((hlt_X5_217 hZ0).1) hq) (cwV 1 hts (lw_V q1572 q1574 qs37 q99 q1575) rfl rfl rfl (by decide +kernel) ⟨Nat.le_of_ble_eq_true rfl, Nat.le_of_ble_eq_true rfl⟩) (hr_preV hZ_c hM hIx hK hZ0 hA0 hS (r := .inr 0) mS_0 (q := (RX5, TX5, 55)) rfl) rfl rfl hl.1 rfl (lv_room (Nat.le_of_ble_eq_true rfl)) dX5_readLaw_3 ⟨Nat.le_of_ble_eq_true rfl, Nat.le_of_ble_eq_true rfl⟩) hS (fun H locs hM hS => ?_)
  refine lv_istore_n (lv' := [(1, .int y1), (0, .ref (ad (.inr 0)))]) hx hb dX5_readLaw_6 rfl hl (by decide) rfl (fun ls hl => ?_)
  refine lv_iload_n hx hb dX5_readLaw_7 rfl (lv_at hl 0 rfl) ?_
  refine hb_if_ne (tgt := 25) hx hb dX5_readLaw_8 (by decide) hf (fun hf => ?_) (fun hf => ?_)
  · exact w_m_readLaw_B25 ⟨hx, hb, hr, hml, hown, hts, hlocks, hK, hZ0, hA0⟩ hIx g y1 g hf hM hS (lv_sub hl [1, 0] rfl)
  · refine lv_aload_n hx hb dX5_readLaw_11 rfl (lv_at hl 1 rfl) ?_
    refine va_ldcS hx hb hown (hlr_X5_219 hZ0) dX5_readLaw_12 ?_
    obtain ⟨y5, hq, hf⟩ := hbind hf
    refine hr_calli0 (va_runV (As := [.ref (litA a0 s0 RX5 219)]) (rest := []) ⟨hx, hb, hml, hown, hts⟩ (met_m_is l D C a0 s0 ad so t lt g tx_anyone (litA a0 s0 RX5 219) ((hlt_X5_219 hZ0).1) hq) (cwV 1 hts (lw_V q1572 q1574 qs37 q99 q1575) rfl rfl rfl (by decide +kernel) ⟨Nat.le_of_ble_eq_true rfl, Nat.le_of_ble_eq_true rfl⟩) (hr_preV hZ_c hM hIx hK hZ0 hA0 hS (r := .inr 0) mS_0 (q := (RX5, TX5, 55)) rfl) rfl rfl hl.1 rfl (lv_room (Nat.le_of_ble_eq_true rfl)) dX5_readLaw_14 ⟨Nat.le_of_ble_eq_true rfl, Nat.le_of_ble_eq_true rfl⟩) hS (fun H locs hM hS => ?_)
    refine hb_if_ne (tgt := 25) hx hb dX5_readLaw_17 (by decide) hf (fun hf => ?_) (fun hf => ?_)
    · exact w_m_readLaw_B25 ⟨hx, hb, hr, hml, hown, hts, hlocks, hK, hZ0, hA0⟩ hIx g y1 g hf hM hS (lv_sub hl [1, 0] rfl)
    · refine lv_aload_n hx hb dX5_readLaw_20 rfl (lv_at hl 1 rfl) ?_
      refine lv_iconst (v := 1) hx hb dX5_readLaw_21 (by decide) ?_
      obtain ⟨y6, hq, hf⟩ := hbind hf
      refine hr_callv0 (va_runV (As := [.int (1 : Int32)]) (rest := []) ⟨hx, hb, hml, hown, hts⟩ (met_m_wrong l D C a0 s0 ad so t lt g (1 : Int32) hq) (cwV 1 hts (lw_V q1593 q1595 qs38 q99 q1596) rfl rfl rfl (by decide +kernel) ⟨Nat.le_of_ble_eq_true rfl, Nat.le_of_ble_eq_true rfl⟩) (hr_preV hZ_c hM hIx hK hZ0 hA0 hS (r := .inr 0) mS_0 (q := (RX5, TX5, 55)) rfl) rfl rfl hl.1 rfl (lv_room (Nat.le_of_ble_eq_true rfl)) dX5_readLaw_22 ⟨Nat.le_of_ble_eq_true rfl, Nat.le_of_ble_eq_true rfl⟩) hS (fun H locs hM hS => ?_)
      exact w_m_readLaw_B25 ⟨hx, hb, hr, hml, hown, hts, hlocks, hK, hZ0, hA0⟩ hIx g y1 y6 hf hM hS (lv_sub hl [1, 0] rfl)
set_option maxHeartbeats 4000000 in
set_option maxRecDepth 100000 in
theorem met_m_readLaw (l : Launch) (D : va_G) (C : Nat → Nat) (a0 : Array Value) (s0 : State) (ad : Rl → Nat) (so : Nat → Option hS) (t : hSt) (lt : Rl → Nat → Int64) (g : hSt) {o : hSt} (hf : m_readLaw g = some o) : Met l yX5_readLaw (ws_ yX5_readLaw cX5_readLaw 2 (none)) rm_m_readLaw (va_Pc [.ref (ad (.inr 0))] (hB D vwCl (hT C) (hA s0) (hZ a0 s0) ad (Sum.elim so (mSH C)) (Sum.elim t g) lt)) (va_Qv (fun (_ : Unit) => True) (fun (_ : Unit) (U : State) => hW D vwCl ad (Sum.elim so (mSH C)) (Sum.elim t o) lt U.heap) (hA s0)) 0 0 (hA s0) := by
  refine Met.ofW (cc := cX5_readLaw) (maxL := 2) (ret := (none)) (by decide) rfl ?_
  intro p e s m args below meth c s₁ B hml hv
  obtain ⟨rfl, hM, hIx, hK, hZ0, hA0⟩ := hv
  have hl := lv_entry ([.ref (ad (.inr 0))]) (n := 2) (Nat.le_of_ble_eq_true rfl)
  rw [lg_entry_eq]
  generalize (lg_sl ([.ref (ad (.inr 0))]) ++ List.replicate (2 - (lg_sl ([.ref (ad (.inr 0))])).length) Slot.unset).toArray = ls at hl ⊢
  have hl : lv_has ls 2 [(0, .ref (ad (.inr 0)))] := hl
  exact w_m_readLaw ⟨B.exec, B.bytes, B.returns, hml, findClass_of_methodNamed B.named, fun w h => atoms_spec (ws := ws_ yX5_readLaw cX5_readLaw 2 (none)) B.pre w (List.mem_cons_of_mem _ h), B.notSynchronized, hK, hZ0, hA0⟩ hIx g hf hM va_S.rf hl

def rm_m_readLine : Room := { frames := 15, cells := 0, slots := 0, locals := 231 }
set_option maxHeartbeats 4000000 in
set_option maxRecDepth 100000 in
theorem w_m_readLine_B179 {p : Program} {l : Launch} {e : Env} {s : State} {m : MethodId} {args : Array Value} {below : List Frame} {meth : Method} {c : Code} {D : va_G} {C : Nat → Nat} {a0 : Array Value} {s0 : State} {ad : Rl → Nat} {so : Nat → Option hS} {t : hSt} {lt : Rl → Nat → Int64} (CX : hCx D C a0 s0 p s m args meth c cX5_readLine 3 RX5 (some .int)) (hIx : hI (hA s0) ad (Sum.elim so (mSH C))) (g : hSt) (p0 : Int32) (y1 : Int32) (k0_27 : Int32) (g_39 : hSt) (y3 : Int32) (g_148 : hSt) (g_168 : hSt) (g_179 : hSt) (hlk : ∀ i, i < 5 → hLi s0 (C (100 + i)) (txk i)) {o : Int32 × hSt} (hf : m_readLine_B179 p0 k0_27 g_179 = some o) {H : Heap} {locs : List Loc} (hM : hW D vwCl ad (Sum.elim so (mSH C)) (Sum.elim t g_179) lt H) (hS : va_S (hA s0) s.heap H locs) {ls : Array Slot} (hl : lv_has ls 3 [(1, .int p0), (2, .int k0_27)]) : W p l e rm_m_readLine s m args below meth c H locs 0 0 (MQ below (va_Qi (fun (r : Int32) (_ : Unit) => r = o.1) (fun (_ : Unit) (U : State) => hW D vwCl ad (Sum.elim so (mSH C)) (Sum.elim t o.2) lt U.heap) (hA s0)) args s 0 0 (hA s0)) (F0 m 179 ls []) := by
  obtain ⟨hx, hb, hr, hml, hown, hts, hlocks, hK, hZ0, hA0⟩ := CX
  unfold m_readLine_B179 at hf
  refine lv_iload_n hx hb dX5_readLine_179 rfl (lv_at hl 0 rfl) ?_
  refine lv_iload_n hx hb dX5_readLine_180 rfl (lv_at hl 1 rfl) ?_
  refine lv_ior hx hb dX5_readLine_181 ?_
  have eo := Option.some.inj hf
  subst eo
  exact W.iret (v := (p0 ||| k0_27)) hx hb hr (fun T ht hW => ⟨⟨(p0 ||| k0_27), (), rfl, rfl, by dsimp only; rw [ht]; exact hM⟩, hS.F ht⟩) hS.2.2 dX5_readLine_182
set_option maxHeartbeats 4000000 in
set_option maxRecDepth 100000 in
theorem w_m_readLine_B168 {p : Program} {l : Launch} {e : Env} {s : State} {m : MethodId} {args : Array Value} {below : List Frame} {meth : Method} {c : Code} {D : va_G} {C : Nat → Nat} {a0 : Array Value} {s0 : State} {ad : Rl → Nat} {so : Nat → Option hS} {t : hSt} {lt : Rl → Nat → Int64} (CX : hCx D C a0 s0 p s m args meth c cX5_readLine 3 RX5 (some .int)) (hIx : hI (hA s0) ad (Sum.elim so (mSH C))) (g : hSt) (p0 : Int32) (y1 : Int32) (k0_27 : Int32) (g_39 : hSt) (y3 : Int32) (g_148 : hSt) (g_168 : hSt) (hlk : ∀ i, i < 5 → hLi s0 (C (100 + i)) (txk i)) {o : Int32 × hSt} (hf : m_readLine_B168 p0 k0_27 g_168 = some o) {H : Heap} {locs : List Loc} (hM : hW D vwCl ad (Sum.elim so (mSH C)) (Sum.elim t g_168) lt H) (hS : va_S (hA s0) s.heap H locs) {ls : Array Slot} (hl : lv_has ls 3 [(0, .ref (ad (.inr 0))), (1, .int p0), (2, .int k0_27)]) : W p l e rm_m_readLine s m args below meth c H locs 0 0 (MQ below (va_Qi (fun (r : Int32) (_ : Unit) => r = o.1) (fun (_ : Unit) (U : State) => hW D vwCl ad (Sum.elim so (mSH C)) (Sum.elim t o.2) lt U.heap) (hA s0)) args s 0 0 (hA s0)) (F0 m 168 ls []) := by
  obtain ⟨hx, hb, hr, hml, hown, hts, hlocks, hK, hZ0, hA0⟩ := CX
  unfold m_readLine_B168 at hf
  refine lv_aload_n hx hb dX5_readLine_168 rfl (lv_at hl 0 rfl) ?_
  refine hr_get (ci := 5) (C := RX5) (T := TX5) (N := 55) (r := .inr 0) hx hb hts in_X5 hown hK hM mS_0 rfl 21 (by decide) (hts _ q1389) rfl (v := .int (g_168 0 21)) rfl dX5_readLine_169 ?_
  refine hb_if_ne (tgt := 179) hx hb dX5_readLine_172 (by decide) hf (fun hf => ?_) (fun hf => ?_)
  · exact w_m_readLine_B179 ⟨hx, hb, hr, hml, hown, hts, hlocks, hK, hZ0, hA0⟩ hIx g p0 y1 k0_27 g_39 y3 g_148 g_168 g_168 hlk hf hM hS (lv_sub hl [1, 2] rfl)
  · refine lv_aload_n hx hb dX5_readLine_175 rfl (lv_at hl 0 rfl) ?_
    obtain ⟨y7, hq, hf⟩ := hbind hf
    refine hr_callv0 (va_runV (As := []) (rest := []) ⟨hx, hb, hml, hown, hts⟩ (met_m_stepOn l D C a0 s0 ad so t lt g_168 hq) (cwV 0 hts (lw_V q1551 q1553 qs34 q99 q1554) rfl rfl rfl (by decide +kernel) ⟨Nat.le_of_ble_eq_true rfl, Nat.le_of_ble_eq_true rfl⟩) (hr_preV hZ_c hM hIx hK hZ0 hA0 hS (r := .inr 0) mS_0 (q := (RX5, TX5, 55)) rfl) rfl rfl hl.1 rfl (lv_room (Nat.le_of_ble_eq_true rfl)) dX5_readLine_176 ⟨Nat.le_of_ble_eq_true rfl, Nat.le_of_ble_eq_true rfl⟩) hS (fun H locs hM hS => ?_)
    exact w_m_readLine_B179 ⟨hx, hb, hr, hml, hown, hts, hlocks, hK, hZ0, hA0⟩ hIx g p0 y1 k0_27 g_39 y3 g_148 g_168 y7 hlk hf hM hS (lv_sub hl [1, 2] rfl)
set_option maxHeartbeats 4000000 in
set_option maxRecDepth 100000 in
theorem w_m_readLine_B148 {p : Program} {l : Launch} {e : Env} {s : State} {m : MethodId} {args : Array Value} {below : List Frame} {meth : Method} {c : Code} {D : va_G} {C : Nat → Nat} {a0 : Array Value} {s0 : State} {ad : Rl → Nat} {so : Nat → Option hS} {t : hSt} {lt : Rl → Nat → Int64} (CX : hCx D C a0 s0 p s m args meth c cX5_readLine 3 RX5 (some .int)) (hIx : hI (hA s0) ad (Sum.elim so (mSH C))) (g : hSt) (p0 : Int32) (y1 : Int32) (k0_27 : Int32) (g_39 : hSt) (y3 : Int32) (g_148 : hSt) (hlk : ∀ i, i < 5 → hLi s0 (C (100 + i)) (txk i)) {o : Int32 × hSt} (hf : m_readLine_B148 p0 k0_27 g_148 = some o) {H : Heap} {locs : List Loc} (hM : hW D vwCl ad (Sum.elim so (mSH C)) (Sum.elim t g_148) lt H) (hS : va_S (hA s0) s.heap H locs) {ls : Array Slot} (hl : lv_has ls 3 [(0, .ref (ad (.inr 0))), (1, .int p0), (2, .int k0_27)]) : W p l e rm_m_readLine s m args below meth c H locs 0 0 (MQ below (va_Qi (fun (r : Int32) (_ : Unit) => r = o.1) (fun (_ : Unit) (U : State) => hW D vwCl ad (Sum.elim so (mSH C)) (Sum.elim t o.2) lt U.heap) (hA s0)) args s 0 0 (hA s0)) (F0 m 148 ls []) := by
  obtain ⟨hx, hb, hr, hml, hown, hts, hlocks, hK, hZ0, hA0⟩ := CX
  unfold m_readLine_B148 at hf
  refine lv_aload_n hx hb dX5_readLine_148 rfl (lv_at hl 0 rfl) ?_
  refine hr_get (ci := 5) (C := RX5) (T := TX5) (N := 55) (r := .inr 0) hx hb hts in_X5 hown hK hM mS_0 rfl 21 (by decide) (hts _ q1389) rfl (v := .int (g_148 0 21)) rfl dX5_readLine_149 ?_
  refine hb_if_ne (tgt := 168) hx hb dX5_readLine_152 (by decide) hf (fun hf => ?_) (fun hf => ?_)
  · exact w_m_readLine_B168 ⟨hx, hb, hr, hml, hown, hts, hlocks, hK, hZ0, hA0⟩ hIx g p0 y1 k0_27 g_39 y3 g_148 g_148 hlk hf hM hS (lv_sub hl [0, 1, 2] rfl)
  · refine lv_aload_n hx hb dX5_readLine_155 rfl (lv_at hl 0 rfl) ?_
    refine hr_get (ci := 5) (C := RX5) (T := TX5) (N := 55) (r := .inr 0) hx hb hts in_X5 hown hK hM mS_0 rfl 17 (by decide) (hts _ q1385) rfl (v := .int (g_148 0 17)) rfl dX5_readLine_156 ?_
    refine lv_iconst (v := 3) hx hb dX5_readLine_159 (by decide) ?_
    refine hb_icmp_eq (tgt := 168) hx hb dX5_readLine_160 (by decide) hf (fun hf => ?_) (fun hf => ?_)
    · exact w_m_readLine_B168 ⟨hx, hb, hr, hml, hown, hts, hlocks, hK, hZ0, hA0⟩ hIx g p0 y1 k0_27 g_39 y3 g_148 g_148 hlk hf hM hS (lv_sub hl [0, 1, 2] rfl)
    · refine lv_aload_n hx hb dX5_readLine_163 rfl (lv_at hl 0 rfl) ?_
      refine lv_iconst (v := 1) hx hb dX5_readLine_164 (by decide) ?_
      obtain ⟨y8, hq, hf⟩ := hbind hf
      refine hr_callv0 (va_runV (As := [.int (1 : Int32)]) (rest := []) ⟨hx, hb, hml, hown, hts⟩ (met_m_wrong l D C a0 s0 ad so t lt g_148 (1 : Int32) hq) (cwV 1 hts (lw_V q1593 q1595 qs38 q99 q1596) rfl rfl rfl (by decide +kernel) ⟨Nat.le_of_ble_eq_true rfl, Nat.le_of_ble_eq_true rfl⟩) (hr_preV hZ_c hM hIx hK hZ0 hA0 hS (r := .inr 0) mS_0 (q := (RX5, TX5, 55)) rfl) rfl rfl hl.1 rfl (lv_room (Nat.le_of_ble_eq_true rfl)) dX5_readLine_165 ⟨Nat.le_of_ble_eq_true rfl, Nat.le_of_ble_eq_true rfl⟩) hS (fun H locs hM hS => ?_)
      exact w_m_readLine_B168 ⟨hx, hb, hr, hml, hown, hts, hlocks, hK, hZ0, hA0⟩ hIx g p0 y1 k0_27 g_39 y3 g_148 y8 hlk hf hM hS (lv_sub hl [0, 1, 2] rfl)
set_option maxHeartbeats 4000000 in
set_option maxRecDepth 100000 in
theorem w_m_readLine_B126 {p : Program} {l : Launch} {e : Env} {s : State} {m : MethodId} {args : Array Value} {below : List Frame} {meth : Method} {c : Code} {D : va_G} {C : Nat → Nat} {a0 : Array Value} {s0 : State} {ad : Rl → Nat} {so : Nat → Option hS} {t : hSt} {lt : Rl → Nat → Int64} (CX : hCx D C a0 s0 p s m args meth c cX5_readLine 3 RX5 (some .int)) (hIx : hI (hA s0) ad (Sum.elim so (mSH C))) (g : hSt) (p0 : Int32) (y1 : Int32) (k0_27 : Int32) (g_39 : hSt) (y3 : Int32) (y4 : Int32) (y5 : Int32 × hSt) (g_126 : hSt) (hlk : ∀ i, i < 5 → hLi s0 (C (100 + i)) (txk i)) {o : Int32 × hSt} (hf : m_readLine_B126 p0 k0_27 g_126 = some o) {H : Heap} {locs : List Loc} (hM : hW D vwCl ad (Sum.elim so (mSH C)) (Sum.elim t g_126) lt H) (hS : va_S (hA s0) s.heap H locs) {ls : Array Slot} (hl : lv_has ls 3 [(0, .ref (ad (.inr 0))), (1, .int p0), (2, .int k0_27)]) : W p l e rm_m_readLine s m args below meth c H locs 0 0 (MQ below (va_Qi (fun (r : Int32) (_ : Unit) => r = o.1) (fun (_ : Unit) (U : State) => hW D vwCl ad (Sum.elim so (mSH C)) (Sum.elim t o.2) lt U.heap) (hA s0)) args s 0 0 (hA s0)) (F0 m 126 ls []) := by
  obtain ⟨hx, hb, hr, hml, hown, hts, hlocks, hK, hZ0, hA0⟩ := CX
  unfold m_readLine_B126 at hf
  refine lv_aload_n hx hb dX5_readLine_126 rfl (lv_at hl 0 rfl) ?_
  refine hr_get (ci := 5) (C := RX5) (T := TX5) (N := 55) (r := .inr 0) hx hb hts in_X5 hown hK hM mS_0 rfl 2 (by decide) (hts _ q1370) rfl (v := .ref (ad (.inr 3))) rfl dX5_readLine_127 ?_
  refine lv_bipush (v := 7) hx hb dX5_readLine_130 (by decide) ?_
  refine lv_aload_n hx hb dX5_readLine_132 rfl (lv_at hl 0 rfl) ?_
  refine lv_iconst (v := 0) hx hb dX5_readLine_133 (by decide) ?_
  refine lv_bipush (v := 9) hx hb dX5_readLine_134 (by decide) ?_
  obtain ⟨y9, hq, hf⟩ := hbind hf
  refine hr_calli0 (va_runV (As := [.int (0 : Int32), .int (9 : Int32)]) (rest := [.int (7 : Int32), .ref (ad (.inr 3))]) ⟨hx, hb, hml, hown, hts⟩ (met_m_readNumber l D C a0 s0 ad so t lt g_126 (0 : Int32) (9 : Int32) hq) (cwV 2 hts (lw_V q1607 q1609 qs41 q99 q1610) rfl rfl rfl (by decide +kernel) ⟨Nat.le_of_ble_eq_true rfl, Nat.le_of_ble_eq_true rfl⟩) (hr_preV hZ_c hM hIx hK hZ0 hA0 hS (r := .inr 0) mS_0 (q := (RX5, TX5, 55)) rfl) rfl rfl hl.1 rfl (lv_room (Nat.le_of_ble_eq_true rfl)) dX5_readLine_136 ⟨Nat.le_of_ble_eq_true rfl, Nat.le_of_ble_eq_true rfl⟩) hS (fun H locs hM hS => ?_)
  refine hm_iast (r := 3) hx hb hK hM hIx hS 0 mS_3 rfl hf dX5_readLine_139 (fun g10 H locs hf hM hS => ?_)
  refine lv_goto (tgt := 148) hx hb dX5_readLine_140 (by decide) ?_
  exact w_m_readLine_B148 ⟨hx, hb, hr, hml, hown, hts, hlocks, hK, hZ0, hA0⟩ hIx g p0 y1 k0_27 g_39 y3 g10 hlk hf hM hS (lv_sub hl [0, 1, 2] rfl)
set_option maxHeartbeats 4000000 in
set_option maxRecDepth 100000 in
theorem w_m_readLine_B103 {p : Program} {l : Launch} {e : Env} {s : State} {m : MethodId} {args : Array Value} {below : List Frame} {meth : Method} {c : Code} {D : va_G} {C : Nat → Nat} {a0 : Array Value} {s0 : State} {ad : Rl → Nat} {so : Nat → Option hS} {t : hSt} {lt : Rl → Nat → Int64} (CX : hCx D C a0 s0 p s m args meth c cX5_readLine 3 RX5 (some .int)) (hIx : hI (hA s0) ad (Sum.elim so (mSH C))) (g : hSt) (p0 : Int32) (y1 : Int32) (k0_27 : Int32) (g_39 : hSt) (y3 : Int32) (y4 : Int32) (y5 : Int32 × hSt) (g_103 : hSt) (hlk : ∀ i, i < 5 → hLi s0 (C (100 + i)) (txk i)) {o : Int32 × hSt} (hf : m_readLine_B103 p0 k0_27 g_103 = some o) {H : Heap} {locs : List Loc} (hM : hW D vwCl ad (Sum.elim so (mSH C)) (Sum.elim t g_103) lt H) (hS : va_S (hA s0) s.heap H locs) {ls : Array Slot} (hl : lv_has ls 3 [(0, .ref (ad (.inr 0))), (1, .int p0), (2, .int k0_27)]) : W p l e rm_m_readLine s m args below meth c H locs 0 0 (MQ below (va_Qi (fun (r : Int32) (_ : Unit) => r = o.1) (fun (_ : Unit) (U : State) => hW D vwCl ad (Sum.elim so (mSH C)) (Sum.elim t o.2) lt U.heap) (hA s0)) args s 0 0 (hA s0)) (F0 m 103 ls []) := by
  obtain ⟨hx, hb, hr, hml, hown, hts, hlocks, hK, hZ0, hA0⟩ := CX
  unfold m_readLine_B103 at hf
  refine lv_aload_n hx hb dX5_readLine_103 rfl (lv_at hl 0 rfl) ?_
  obtain ⟨y12, hq, hf⟩ := hbind hf
  refine hr_callv0 (va_runV (As := []) (rest := []) ⟨hx, hb, hml, hown, hts⟩ (met_m_readLaw l D C a0 s0 ad so t lt g_103 hq) (cwV 0 hts (lw_V q1631 q1633 qs46 q99 q1634) rfl rfl rfl (by decide +kernel) ⟨Nat.le_of_ble_eq_true rfl, Nat.le_of_ble_eq_true rfl⟩) (hr_preV hZ_c hM hIx hK hZ0 hA0 hS (r := .inr 0) mS_0 (q := (RX5, TX5, 55)) rfl) rfl rfl hl.1 rfl (lv_room (Nat.le_of_ble_eq_true rfl)) dX5_readLine_104 ⟨Nat.le_of_ble_eq_true rfl, Nat.le_of_ble_eq_true rfl⟩) hS (fun H locs hM hS => ?_)
  refine lv_goto (tgt := 148) hx hb dX5_readLine_107 (by decide) ?_
  exact w_m_readLine_B148 ⟨hx, hb, hr, hml, hown, hts, hlocks, hK, hZ0, hA0⟩ hIx g p0 y1 k0_27 g_39 y3 y12 hlk hf hM hS (lv_sub hl [0, 1, 2] rfl)
set_option maxHeartbeats 4000000 in
set_option maxRecDepth 100000 in
theorem w_m_readLine_B39 {p : Program} {l : Launch} {e : Env} {s : State} {m : MethodId} {args : Array Value} {below : List Frame} {meth : Method} {c : Code} {D : va_G} {C : Nat → Nat} {a0 : Array Value} {s0 : State} {ad : Rl → Nat} {so : Nat → Option hS} {t : hSt} {lt : Rl → Nat → Int64} (CX : hCx D C a0 s0 p s m args meth c cX5_readLine 3 RX5 (some .int)) (hIx : hI (hA s0) ad (Sum.elim so (mSH C))) (g : hSt) (p0 : Int32) (y1 : Int32) (k0_27 : Int32) (g_39 : hSt) (hlk : ∀ i, i < 5 → hLi s0 (C (100 + i)) (txk i)) {o : Int32 × hSt} (hf : m_readLine_B39 p0 k0_27 g_39 = some o) {H : Heap} {locs : List Loc} (hM : hW D vwCl ad (Sum.elim so (mSH C)) (Sum.elim t g_39) lt H) (hS : va_S (hA s0) s.heap H locs) {ls : Array Slot} (hl : lv_has ls 3 [(0, .ref (ad (.inr 0))), (1, .int p0), (2, .int k0_27)]) : W p l e rm_m_readLine s m args below meth c H locs 0 0 (MQ below (va_Qi (fun (r : Int32) (_ : Unit) => r = o.1) (fun (_ : Unit) (U : State) => hW D vwCl ad (Sum.elim so (mSH C)) (Sum.elim t o.2) lt U.heap) (hA s0)) args s 0 0 (hA s0)) (F0 m 39 ls []) := by
  obtain ⟨hx, hb, hr, hml, hown, hts, hlocks, hK, hZ0, hA0⟩ := CX
  unfold m_readLine_B39 at hf
  refine lv_aload_n hx hb dX5_readLine_39 rfl (lv_at hl 0 rfl) ?_
  refine va_ldcS hx hb hown (hlr_X5_225 hZ0) dX5_readLine_40 ?_
  obtain ⟨y3, hq, hf⟩ := hbind hf
  refine hr_calli0 (va_runV (As := [.ref (litA a0 s0 RX5 225)]) (rest := []) ⟨hx, hb, hml, hown, hts⟩ (met_m_is l D C a0 s0 ad so t lt g_39 tx_person (litA a0 s0 RX5 225) ((hlt_X5_225 hZ0).1) hq) (cwV 1 hts (lw_V q1572 q1574 qs37 q99 q1575) rfl rfl rfl (by decide +kernel) ⟨Nat.le_of_ble_eq_true rfl, Nat.le_of_ble_eq_true rfl⟩) (hr_preV hZ_c hM hIx hK hZ0 hA0 hS (r := .inr 0) mS_0 (q := (RX5, TX5, 55)) rfl) rfl rfl hl.1 rfl (lv_room (Nat.le_of_ble_eq_true rfl)) dX5_readLine_42 ⟨Nat.le_of_ble_eq_true rfl, Nat.le_of_ble_eq_true rfl⟩) hS (fun H locs hM hS => ?_)
  refine hb_if_eq (tgt := 55) hx hb dX5_readLine_45 (by decide) hf (fun hf => ?_) (fun hf => ?_)
  · refine lv_aload_n hx hb dX5_readLine_55 rfl (lv_at hl 0 rfl) ?_
    refine va_ldcS hx hb hown (hlr_X5_230 hZ0) dX5_readLine_56 ?_
    obtain ⟨y4, hq, hf⟩ := hbind hf
    refine hr_calli0 (va_runV (As := [.ref (litA a0 s0 RX5 230)]) (rest := []) ⟨hx, hb, hml, hown, hts⟩ (met_m_is l D C a0 s0 ad so t lt g_39 tx_thing (litA a0 s0 RX5 230) ((hlt_X5_230 hZ0).1) hq) (cwV 1 hts (lw_V q1572 q1574 qs37 q99 q1575) rfl rfl rfl (by decide +kernel) ⟨Nat.le_of_ble_eq_true rfl, Nat.le_of_ble_eq_true rfl⟩) (hr_preV hZ_c hM hIx hK hZ0 hA0 hS (r := .inr 0) mS_0 (q := (RX5, TX5, 55)) rfl) rfl rfl hl.1 rfl (lv_room (Nat.le_of_ble_eq_true rfl)) dX5_readLine_58 ⟨Nat.le_of_ble_eq_true rfl, Nat.le_of_ble_eq_true rfl⟩) hS (fun H locs hM hS => ?_)
    refine hb_if_eq (tgt := 71) hx hb dX5_readLine_61 (by decide) hf (fun hf => ?_) (fun hf => ?_)
    · refine lv_aload_n hx hb dX5_readLine_71 rfl (lv_at hl 0 rfl) ?_
      refine va_ldcS hx hb hown (hlr_X5_235 hZ0) dX5_readLine_72 ?_
      obtain ⟨y5, hq, hf⟩ := hbind hf
      refine hr_calli0 (va_runV (As := [.ref (litA a0 s0 RX5 235)]) (rest := []) ⟨hx, hb, hml, hown, hts⟩ (met_m_passes l D C a0 s0 ad so t lt g_39 tx_owes (litA a0 s0 RX5 235) ((hlt_X5_235 hZ0).1) hq) (cwV 1 hts (lw_V q1603 q1605 qs40 q99 q1606) rfl rfl rfl (by decide +kernel) ⟨Nat.le_of_ble_eq_true rfl, Nat.le_of_ble_eq_true rfl⟩) (hr_preV hZ_c hM hIx hK hZ0 hA0 hS (r := .inr 0) mS_0 (q := (RX5, TX5, 55)) rfl) rfl rfl hl.1 rfl (lv_room (Nat.le_of_ble_eq_true rfl)) dX5_readLine_74 ⟨Nat.le_of_ble_eq_true rfl, Nat.le_of_ble_eq_true rfl⟩) hS (fun H locs hM hS => ?_)
      refine hb_if_eq (tgt := 87) hx hb dX5_readLine_77 (by decide) hf (fun hf => ?_) (fun hf => ?_)
      · refine lv_iload_n hx hb dX5_readLine_87 rfl (lv_at hl 2 rfl) ?_
        refine lv_iconst (v := 1) hx hb dX5_readLine_88 (by decide) ?_
        refine hb_icmp_ne (tgt := 110) hx hb dX5_readLine_89 (by decide) hf (fun hf => ?_) (fun hf => ?_)
        · refine lv_iload_n hx hb dX5_readLine_110 rfl (lv_at hl 2 rfl) ?_
          refine lv_iconst (v := 2) hx hb dX5_readLine_111 (by decide) ?_
          refine hb_icmp_ne (tgt := 143) hx hb dX5_readLine_112 (by decide) hf (fun hf => ?_) (fun hf => ?_)
          · refine lv_aload_n hx hb dX5_readLine_143 rfl (lv_at hl 0 rfl) ?_
            refine lv_iconst (v := 1) hx hb dX5_readLine_144 (by decide) ?_
            obtain ⟨y6, hq, hf⟩ := hbind hf
            refine hr_callv0 (va_runV (As := [.int (1 : Int32)]) (rest := []) ⟨hx, hb, hml, hown, hts⟩ (met_m_wrong l D C a0 s0 ad so t lt y5.2 (1 : Int32) hq) (cwV 1 hts (lw_V q1593 q1595 qs38 q99 q1596) rfl rfl rfl (by decide +kernel) ⟨Nat.le_of_ble_eq_true rfl, Nat.le_of_ble_eq_true rfl⟩) (hr_preV hZ_c hM hIx hK hZ0 hA0 hS (r := .inr 0) mS_0 (q := (RX5, TX5, 55)) rfl) rfl rfl hl.1 rfl (lv_room (Nat.le_of_ble_eq_true rfl)) dX5_readLine_145 ⟨Nat.le_of_ble_eq_true rfl, Nat.le_of_ble_eq_true rfl⟩) hS (fun H locs hM hS => ?_)
            exact w_m_readLine_B148 ⟨hx, hb, hr, hml, hown, hts, hlocks, hK, hZ0, hA0⟩ hIx g p0 y1 k0_27 g_39 y3 y6 hlk hf hM hS (lv_sub hl [0, 1, 2] rfl)
          · refine lv_aload_n hx hb dX5_readLine_115 rfl (lv_at hl 0 rfl) ?_
            refine hr_get (ci := 5) (C := RX5) (T := TX5) (N := 55) (r := .inr 0) hx hb hts in_X5 hown hK hM mS_0 rfl 21 (by decide) (hts _ q1389) rfl (v := .int (y5.2 0 21)) rfl dX5_readLine_116 ?_
            refine hb_if_ne (tgt := 126) hx hb dX5_readLine_119 (by decide) hf (fun hf => ?_) (fun hf => ?_)
            · exact w_m_readLine_B126 ⟨hx, hb, hr, hml, hown, hts, hlocks, hK, hZ0, hA0⟩ hIx g p0 y1 k0_27 g_39 y3 y4 y5 y5.2 hlk hf hM hS (lv_sub hl [0, 1, 2] rfl)
            · refine lv_aload_n hx hb dX5_readLine_122 rfl (lv_at hl 0 rfl) ?_
              obtain ⟨y11, hq, hf⟩ := hbind hf
              refine hr_callv0 (va_runV (As := []) (rest := []) ⟨hx, hb, hml, hown, hts⟩ (met_m_stepOn l D C a0 s0 ad so t lt y5.2 hq) (cwV 0 hts (lw_V q1551 q1553 qs34 q99 q1554) rfl rfl rfl (by decide +kernel) ⟨Nat.le_of_ble_eq_true rfl, Nat.le_of_ble_eq_true rfl⟩) (hr_preV hZ_c hM hIx hK hZ0 hA0 hS (r := .inr 0) mS_0 (q := (RX5, TX5, 55)) rfl) rfl rfl hl.1 rfl (lv_room (Nat.le_of_ble_eq_true rfl)) dX5_readLine_123 ⟨Nat.le_of_ble_eq_true rfl, Nat.le_of_ble_eq_true rfl⟩) hS (fun H locs hM hS => ?_)
              exact w_m_readLine_B126 ⟨hx, hb, hr, hml, hown, hts, hlocks, hK, hZ0, hA0⟩ hIx g p0 y1 k0_27 g_39 y3 y4 y5 y11 hlk hf hM hS (lv_sub hl [0, 1, 2] rfl)
        · refine lv_aload_n hx hb dX5_readLine_92 rfl (lv_at hl 0 rfl) ?_
          refine hr_get (ci := 5) (C := RX5) (T := TX5) (N := 55) (r := .inr 0) hx hb hts in_X5 hown hK hM mS_0 rfl 21 (by decide) (hts _ q1389) rfl (v := .int (y5.2 0 21)) rfl dX5_readLine_93 ?_
          refine hb_if_ne (tgt := 103) hx hb dX5_readLine_96 (by decide) hf (fun hf => ?_) (fun hf => ?_)
          · exact w_m_readLine_B103 ⟨hx, hb, hr, hml, hown, hts, hlocks, hK, hZ0, hA0⟩ hIx g p0 y1 k0_27 g_39 y3 y4 y5 y5.2 hlk hf hM hS (lv_sub hl [0, 1, 2] rfl)
          · refine lv_aload_n hx hb dX5_readLine_99 rfl (lv_at hl 0 rfl) ?_
            obtain ⟨y13, hq, hf⟩ := hbind hf
            refine hr_callv0 (va_runV (As := []) (rest := []) ⟨hx, hb, hml, hown, hts⟩ (met_m_stepOn l D C a0 s0 ad so t lt y5.2 hq) (cwV 0 hts (lw_V q1551 q1553 qs34 q99 q1554) rfl rfl rfl (by decide +kernel) ⟨Nat.le_of_ble_eq_true rfl, Nat.le_of_ble_eq_true rfl⟩) (hr_preV hZ_c hM hIx hK hZ0 hA0 hS (r := .inr 0) mS_0 (q := (RX5, TX5, 55)) rfl) rfl rfl hl.1 rfl (lv_room (Nat.le_of_ble_eq_true rfl)) dX5_readLine_100 ⟨Nat.le_of_ble_eq_true rfl, Nat.le_of_ble_eq_true rfl⟩) hS (fun H locs hM hS => ?_)
            exact w_m_readLine_B103 ⟨hx, hb, hr, hml, hown, hts, hlocks, hK, hZ0, hA0⟩ hIx g p0 y1 k0_27 g_39 y3 y4 y5 y13 hlk hf hM hS (lv_sub hl [0, 1, 2] rfl)
      · refine lv_aload_n hx hb dX5_readLine_80 rfl (lv_at hl 0 rfl) ?_
        obtain ⟨y14, hq, hf⟩ := hbind hf
        refine hr_callv0 (va_runV (As := []) (rest := []) ⟨hx, hb, hml, hown, hts⟩ (met_m_readOwes l D C a0 s0 ad so t lt y5.2 hq) (cwV 0 hts (lw_V q1626 q1628 qs45 q99 q1629) rfl rfl rfl (by decide +kernel) ⟨Nat.le_of_ble_eq_true rfl, Nat.le_of_ble_eq_true rfl⟩) (hr_preV hZ_c hM hIx hK hZ0 hA0 hS (r := .inr 0) mS_0 (q := (RX5, TX5, 55)) rfl) rfl rfl hl.1 rfl (lv_room (Nat.le_of_ble_eq_true rfl)) dX5_readLine_81 ⟨Nat.le_of_ble_eq_true rfl, Nat.le_of_ble_eq_true rfl⟩) hS (fun H locs hM hS => ?_)
        refine lv_goto (tgt := 148) hx hb dX5_readLine_84 (by decide) ?_
        exact w_m_readLine_B148 ⟨hx, hb, hr, hml, hown, hts, hlocks, hK, hZ0, hA0⟩ hIx g p0 y1 k0_27 g_39 y3 y14 hlk hf hM hS (lv_sub hl [0, 1, 2] rfl)
    · refine lv_aload_n hx hb dX5_readLine_64 rfl (lv_at hl 0 rfl) ?_
      obtain ⟨y15, hq, hf⟩ := hbind hf
      refine hr_callv0 (va_runV (As := []) (rest := []) ⟨hx, hb, hml, hown, hts⟩ (met_m_readThing l D C a0 s0 ad so t lt g_39 hq) (cwV 0 hts (lw_V q1612 q1614 qs42 q99 q1615) rfl rfl rfl (by decide +kernel) ⟨Nat.le_of_ble_eq_true rfl, Nat.le_of_ble_eq_true rfl⟩) (hr_preV hZ_c hM hIx hK hZ0 hA0 hS (r := .inr 0) mS_0 (q := (RX5, TX5, 55)) rfl) rfl rfl hl.1 rfl (lv_room (Nat.le_of_ble_eq_true rfl)) dX5_readLine_65 ⟨Nat.le_of_ble_eq_true rfl, Nat.le_of_ble_eq_true rfl⟩) hS (fun H locs hM hS => ?_)
      refine lv_goto (tgt := 148) hx hb dX5_readLine_68 (by decide) ?_
      exact w_m_readLine_B148 ⟨hx, hb, hr, hml, hown, hts, hlocks, hK, hZ0, hA0⟩ hIx g p0 y1 k0_27 g_39 y3 y15 hlk hf hM hS (lv_sub hl [0, 1, 2] rfl)
  · refine lv_aload_n hx hb dX5_readLine_48 rfl (lv_at hl 0 rfl) ?_
    obtain ⟨y16, hq, hf⟩ := hbind hf
    refine hr_callv0 (va_runV (As := []) (rest := []) ⟨hx, hb, hml, hown, hts⟩ (met_m_readOne l D C a0 s0 ad so t lt g_39 hlk hq) (cwV 0 hts (lw_V q1598 q1600 qs39 q99 q1601) rfl rfl rfl (by decide +kernel) ⟨Nat.le_of_ble_eq_true rfl, Nat.le_of_ble_eq_true rfl⟩) (hr_preV hZ_c hM hIx hK hZ0 hA0 hS (r := .inr 0) mS_0 (q := (RX5, TX5, 55)) rfl) rfl rfl hl.1 rfl (lv_room (Nat.le_of_ble_eq_true rfl)) dX5_readLine_49 ⟨Nat.le_of_ble_eq_true rfl, Nat.le_of_ble_eq_true rfl⟩) hS (fun H locs hM hS => ?_)
    refine lv_goto (tgt := 148) hx hb dX5_readLine_52 (by decide) ?_
    exact w_m_readLine_B148 ⟨hx, hb, hr, hml, hown, hts, hlocks, hK, hZ0, hA0⟩ hIx g p0 y1 k0_27 g_39 y3 y16 hlk hf hM hS (lv_sub hl [0, 1, 2] rfl)
set_option maxHeartbeats 4000000 in
set_option maxRecDepth 100000 in
theorem w_m_readLine_B27 {p : Program} {l : Launch} {e : Env} {s : State} {m : MethodId} {args : Array Value} {below : List Frame} {meth : Method} {c : Code} {D : va_G} {C : Nat → Nat} {a0 : Array Value} {s0 : State} {ad : Rl → Nat} {so : Nat → Option hS} {t : hSt} {lt : Rl → Nat → Int64} (CX : hCx D C a0 s0 p s m args meth c cX5_readLine 3 RX5 (some .int)) (hIx : hI (hA s0) ad (Sum.elim so (mSH C))) (g : hSt) (p0 : Int32) (y1 : Int32) (k0_27 : Int32) (hlk : ∀ i, i < 5 → hLi s0 (C (100 + i)) (txk i)) {o : Int32 × hSt} (hf : m_readLine_B27 g p0 k0_27 = some o) {H : Heap} {locs : List Loc} (hM : hW D vwCl ad (Sum.elim so (mSH C)) (Sum.elim t g) lt H) (hS : va_S (hA s0) s.heap H locs) {ls : Array Slot} (hl : lv_has ls 3 [(0, .ref (ad (.inr 0))), (1, .int p0)]) : W p l e rm_m_readLine s m args below meth c H locs 0 0 (MQ below (va_Qi (fun (r : Int32) (_ : Unit) => r = o.1) (fun (_ : Unit) (U : State) => hW D vwCl ad (Sum.elim so (mSH C)) (Sum.elim t o.2) lt U.heap) (hA s0)) args s 0 0 (hA s0)) (F0 m 27 ls [.int k0_27]) := by
  obtain ⟨hx, hb, hr, hml, hown, hts, hlocks, hK, hZ0, hA0⟩ := CX
  unfold m_readLine_B27 at hf
  refine lv_istore_n (lv' := [(2, .int k0_27), (0, .ref (ad (.inr 0))), (1, .int p0)]) hx hb dX5_readLine_27 rfl hl (by decide) rfl (fun ls hl => ?_)
  refine lv_iload_n hx hb dX5_readLine_28 rfl (lv_at hl 2 rfl) ?_
  refine lv_iload_n hx hb dX5_readLine_29 rfl (lv_at hl 0 rfl) ?_
  refine lv_iand hx hb dX5_readLine_30 ?_
  refine hb_if_eq (tgt := 39) hx hb dX5_readLine_31 (by decide) hf (fun hf => ?_) (fun hf => ?_)
  · exact w_m_readLine_B39 ⟨hx, hb, hr, hml, hown, hts, hlocks, hK, hZ0, hA0⟩ hIx g p0 y1 k0_27 g hlk hf hM hS (lv_sub hl [1, 2, 0] rfl)
  · refine lv_aload_n hx hb dX5_readLine_34 rfl (lv_at hl 1 rfl) ?_
    refine lv_iconst (v := 5) hx hb dX5_readLine_35 (by decide) ?_
    obtain ⟨y17, hq, hf⟩ := hbind hf
    refine hr_callv0 (va_runV (As := [.int (5 : Int32)]) (rest := []) ⟨hx, hb, hml, hown, hts⟩ (met_m_wrong l D C a0 s0 ad so t lt g (5 : Int32) hq) (cwV 1 hts (lw_V q1593 q1595 qs38 q99 q1596) rfl rfl rfl (by decide +kernel) ⟨Nat.le_of_ble_eq_true rfl, Nat.le_of_ble_eq_true rfl⟩) (hr_preV hZ_c hM hIx hK hZ0 hA0 hS (r := .inr 0) mS_0 (q := (RX5, TX5, 55)) rfl) rfl rfl hl.1 rfl (lv_room (Nat.le_of_ble_eq_true rfl)) dX5_readLine_36 ⟨Nat.le_of_ble_eq_true rfl, Nat.le_of_ble_eq_true rfl⟩) hS (fun H locs hM hS => ?_)
    exact w_m_readLine_B39 ⟨hx, hb, hr, hml, hown, hts, hlocks, hK, hZ0, hA0⟩ hIx g p0 y1 k0_27 y17 hlk hf hM hS (lv_sub hl [1, 2, 0] rfl)
set_option maxHeartbeats 4000000 in
set_option maxRecDepth 100000 in
theorem w_m_readLine {p : Program} {l : Launch} {e : Env} {s : State} {m : MethodId} {args : Array Value} {below : List Frame} {meth : Method} {c : Code} {D : va_G} {C : Nat → Nat} {a0 : Array Value} {s0 : State} {ad : Rl → Nat} {so : Nat → Option hS} {t : hSt} {lt : Rl → Nat → Int64} (CX : hCx D C a0 s0 p s m args meth c cX5_readLine 3 RX5 (some .int)) (hIx : hI (hA s0) ad (Sum.elim so (mSH C))) (g : hSt) (p0 : Int32) (hlk : ∀ i, i < 5 → hLi s0 (C (100 + i)) (txk i)) {o : Int32 × hSt} (hf : m_readLine g p0 = some o) {H : Heap} {locs : List Loc} (hM : hW D vwCl ad (Sum.elim so (mSH C)) (Sum.elim t g) lt H) (hS : va_S (hA s0) s.heap H locs) {ls : Array Slot} (hl : lv_has ls 3 [(0, .ref (ad (.inr 0))), (1, .int p0)]) : W p l e rm_m_readLine s m args below meth c H locs 0 0 (MQ below (va_Qi (fun (r : Int32) (_ : Unit) => r = o.1) (fun (_ : Unit) (U : State) => hW D vwCl ad (Sum.elim so (mSH C)) (Sum.elim t o.2) lt U.heap) (hA s0)) args s 0 0 (hA s0)) (F0 m 0 ls []) := by
  obtain ⟨hx, hb, hr, hml, hown, hts, hlocks, hK, hZ0, hA0⟩ := CX
  unfold m_readLine at hf
  refine lv_aload_n hx hb dX5_readLine_0 rfl (lv_at hl 0 rfl) ?_
  refine va_ldcS hx hb hown (hlr_X5_221 hZ0) dX5_readLine_1 ?_
  obtain ⟨y1, hq, hf⟩ := hbind hf
  refine hr_calli0 (va_runV (As := [.ref (litA a0 s0 RX5 221)]) (rest := []) ⟨hx, hb, hml, hown, hts⟩ (met_m_is l D C a0 s0 ad so t lt g tx_law (litA a0 s0 RX5 221) ((hlt_X5_221 hZ0).1) hq) (cwV 1 hts (lw_V q1572 q1574 qs37 q99 q1575) rfl rfl rfl (by decide +kernel) ⟨Nat.le_of_ble_eq_true rfl, Nat.le_of_ble_eq_true rfl⟩) (hr_preV hZ_c hM hIx hK hZ0 hA0 hS (r := .inr 0) mS_0 (q := (RX5, TX5, 55)) rfl) rfl rfl hl.1 rfl (lv_room (Nat.le_of_ble_eq_true rfl)) dX5_readLine_3 ⟨Nat.le_of_ble_eq_true rfl, Nat.le_of_ble_eq_true rfl⟩) hS (fun H locs hM hS => ?_)
  refine hb_if_eq (tgt := 13) hx hb dX5_readLine_6 (by decide) hf (fun hf => ?_) (fun hf => ?_)
  · refine lv_aload_n hx hb dX5_readLine_13 rfl (lv_at hl 0 rfl) ?_
    refine va_ldcS hx hb hown (hlr_X5_223 hZ0) dX5_readLine_14 ?_
    obtain ⟨y2, hq, hf⟩ := hbind hf
    refine hr_calli0 (va_runV (As := [.ref (litA a0 s0 RX5 223)]) (rest := []) ⟨hx, hb, hml, hown, hts⟩ (met_m_is l D C a0 s0 ad so t lt g tx_within (litA a0 s0 RX5 223) ((hlt_X5_223 hZ0).1) hq) (cwV 1 hts (lw_V q1572 q1574 qs37 q99 q1575) rfl rfl rfl (by decide +kernel) ⟨Nat.le_of_ble_eq_true rfl, Nat.le_of_ble_eq_true rfl⟩) (hr_preV hZ_c hM hIx hK hZ0 hA0 hS (r := .inr 0) mS_0 (q := (RX5, TX5, 55)) rfl) rfl rfl hl.1 rfl (lv_room (Nat.le_of_ble_eq_true rfl)) dX5_readLine_16 ⟨Nat.le_of_ble_eq_true rfl, Nat.le_of_ble_eq_true rfl⟩) hS (fun H locs hM hS => ?_)
    refine hb_if_eq (tgt := 26) hx hb dX5_readLine_19 (by decide) hf (fun hf => ?_) (fun hf => ?_)
    · refine lv_iconst (v := 0) hx hb dX5_readLine_26 (by decide) ?_
      exact w_m_readLine_B27 ⟨hx, hb, hr, hml, hown, hts, hlocks, hK, hZ0, hA0⟩ hIx g p0 y1 (0 : Int32) hlk hf hM hS (lv_sub hl [0, 1] rfl)
    · refine lv_iconst (v := 2) hx hb dX5_readLine_22 (by decide) ?_
      refine lv_goto (tgt := 27) hx hb dX5_readLine_23 (by decide) ?_
      exact w_m_readLine_B27 ⟨hx, hb, hr, hml, hown, hts, hlocks, hK, hZ0, hA0⟩ hIx g p0 y1 (2 : Int32) hlk hf hM hS (lv_sub hl [0, 1] rfl)
  · refine lv_iconst (v := 1) hx hb dX5_readLine_9 (by decide) ?_
    refine lv_goto (tgt := 27) hx hb dX5_readLine_10 (by decide) ?_
    exact w_m_readLine_B27 ⟨hx, hb, hr, hml, hown, hts, hlocks, hK, hZ0, hA0⟩ hIx g p0 y1 (1 : Int32) hlk hf hM hS (lv_sub hl [0, 1] rfl)
set_option maxHeartbeats 4000000 in
set_option maxRecDepth 100000 in
theorem met_m_readLine (l : Launch) (D : va_G) (C : Nat → Nat) (a0 : Array Value) (s0 : State) (ad : Rl → Nat) (so : Nat → Option hS) (t : hSt) (lt : Rl → Nat → Int64) (g : hSt) (p0 : Int32) (hlk : ∀ i, i < 5 → hLi s0 (C (100 + i)) (txk i)) {o : Int32 × hSt} (hf : m_readLine g p0 = some o) : Met l yX5_readLine (ws_ yX5_readLine cX5_readLine 3 (some .int)) rm_m_readLine (va_Pc [.ref (ad (.inr 0)), .int p0] (hB D vwCl (hT C) (hA s0) (hZ a0 s0) ad (Sum.elim so (mSH C)) (Sum.elim t g) lt)) (va_Qi (fun (r : Int32) (_ : Unit) => r = o.1) (fun (_ : Unit) (U : State) => hW D vwCl ad (Sum.elim so (mSH C)) (Sum.elim t o.2) lt U.heap) (hA s0)) 0 0 (hA s0) := by
  refine Met.ofW (cc := cX5_readLine) (maxL := 3) (ret := (some .int)) (by decide) rfl ?_
  intro p e s m args below meth c s₁ B hml hv
  obtain ⟨rfl, hM, hIx, hK, hZ0, hA0⟩ := hv
  have hl := lv_entry ([.ref (ad (.inr 0)), .int p0]) (n := 3) (Nat.le_of_ble_eq_true rfl)
  rw [lg_entry_eq]
  generalize (lg_sl ([.ref (ad (.inr 0)), .int p0]) ++ List.replicate (3 - (lg_sl ([.ref (ad (.inr 0)), .int p0])).length) Slot.unset).toArray = ls at hl ⊢
  have hl : lv_has ls 3 [(0, .ref (ad (.inr 0))), (1, .int p0)] := hl
  exact w_m_readLine ⟨B.exec, B.bytes, B.returns, hml, findClass_of_methodNamed B.named, fun w h => atoms_spec (ws := ws_ yX5_readLine cX5_readLine 3 (some .int)) B.pre w (List.mem_cons_of_mem _ h), B.notSynchronized, hK, hZ0, hA0⟩ hIx g p0 hlk hf hM va_S.rf hl

def rm_m_town : Room := { frames := 17, cells := 0, slots := 0, locals := 254 }
set_option maxHeartbeats 4000000 in
set_option maxRecDepth 100000 in
theorem w_m_town_B17 {p : Program} {l : Launch} {e : Env} {s : State} {m : MethodId} {args : Array Value} {below : List Frame} {meth : Method} {c : Code} {D : va_G} {C : Nat → Nat} {a0 : Array Value} {s0 : State} {ad : Rl → Nat} {so : Nat → Option hS} {t : hSt} {lt : Rl → Nat → Int64} (CX : hCx D C a0 s0 p s m args meth c cX5_town 4 RX5 (some .int)) (hIx : hI (hA s0) ad (Sum.elim so (mSH C))) (g : hSt) (p0 : Int32) (g1 : hSt) (hlk : ∀ i, i < 5 → hLi s0 (C (100 + i)) (txk i)) {o : Int32 × hSt} (hf : m_town_B17 g1 = some o) {H : Heap} {locs : List Loc} (hM : hW D vwCl ad (Sum.elim so (mSH C)) (Sum.elim t g1) lt H) (hS : va_S (hA s0) s.heap H locs) {ls : Array Slot} (hl : lv_has ls 4 [(0, .ref (ad (.inr 0)))]) : W p l e rm_m_town s m args below meth c H locs 0 0 (MQ below (va_Qi (fun (r : Int32) (_ : Unit) => r = o.1) (fun (_ : Unit) (U : State) => hW D vwCl ad (Sum.elim so (mSH C)) (Sum.elim t o.2) lt U.heap) (hA s0)) args s 0 0 (hA s0)) (F0 m 17 ls []) := by
  obtain ⟨hx, hb, hr, hml, hown, hts, hlocks, hK, hZ0, hA0⟩ := CX
  unfold m_town_B17 at hf
  refine lv_aload_n hx hb dX5_town_17 rfl (lv_at hl 0 rfl) ?_
  refine lv_iconst (v := 1) hx hb dX5_town_18 (by decide) ?_
  obtain ⟨y2, hq, hf⟩ := hbind hf
  refine hr_calli0 (va_runV (As := [.int (1 : Int32)]) (rest := []) ⟨hx, hb, hml, hown, hts⟩ (met_m_fail l D C a0 s0 ad so t lt g1 (1 : Int32) hq) (cwV 1 hts (lw_V q1547 q1549 qs33 q99 q1550) rfl rfl rfl (by decide +kernel) ⟨Nat.le_of_ble_eq_true rfl, Nat.le_of_ble_eq_true rfl⟩) (hr_preV hZ_c hM hIx hK hZ0 hA0 hS (r := .inr 0) mS_0 (q := (RX5, TX5, 55)) rfl) rfl rfl hl.1 rfl (lv_room (Nat.le_of_ble_eq_true rfl)) dX5_town_19 ⟨Nat.le_of_ble_eq_true rfl, Nat.le_of_ble_eq_true rfl⟩) hS (fun H locs hM hS => ?_)
  have eo := Option.some.inj hf
  subst eo
  exact W.iret (v := y2.1) hx hb hr (fun T ht hW => ⟨⟨y2.1, (), rfl, rfl, by dsimp only; rw [ht]; exact hM⟩, hS.F ht⟩) hS.2.2 dX5_town_22
set_option maxHeartbeats 4000000 in
set_option maxRecDepth 100000 in
theorem w_m_town_L50 {p : Program} {l : Launch} {e : Env} {s : State} {m : MethodId} {args : Array Value} {below : List Frame} {meth : Method} {c : Code} {D : va_G} {C : Nat → Nat} {a0 : Array Value} {s0 : State} {ad : Rl → Nat} {so : Nat → Option hS} {t : hSt} {lt : Rl → Nat → Int64} (CX : hCx D C a0 s0 p s m args meth c cX5_town 4 RX5 (some .int)) (hIx : hI (hA s0) ad (Sum.elim so (mSH C))) (g : hSt) (p0 : Int32) (g1 : hSt) (g3 : hSt) (g4 : hSt) (g5 : hSt) (g6 : hSt) (g7 : hSt) (hlk : ∀ i, i < 5 → hLi s0 (C (100 + i)) (txk i)) {oM : Int32 × hSt} (x : hSt) (n : Nat) (q0 : Int32 × hSt) (h0 : hiter (fun q : Int32 × hSt => m_town_L50 q.1 q.2) n q0 = some x) (kx0 : ∀ (H : Heap) (locs : List Loc) (ls : Array Slot), hW D vwCl ad (Sum.elim so (mSH C)) (Sum.elim t x) lt H → va_S (hA s0) s.heap H locs → lv_has ls 4 [(0, .ref (ad (.inr 0)))] → W p l e rm_m_town s m args below meth c H locs 0 0 (MQ below (va_Qi (fun (r : Int32) (_ : Unit) => r = oM.1) (fun (_ : Unit) (U : State) => hW D vwCl ad (Sum.elim so (mSH C)) (Sum.elim t oM.2) lt U.heap) (hA s0)) args s 0 0 (hA s0)) (F0 m 69 ls [])) : ∀ (H : Heap) (locs : List Loc) (ls : Array Slot), hW D vwCl ad (Sum.elim so (mSH C)) (Sum.elim t q0.2) lt H → va_S (hA s0) s.heap H locs → lv_has ls 4 [(0, .ref (ad (.inr 0))), (2, .int q0.1)] → W p l e rm_m_town s m args below meth c H locs 0 0 (MQ below (va_Qi (fun (r : Int32) (_ : Unit) => r = oM.1) (fun (_ : Unit) (U : State) => hW D vwCl ad (Sum.elim so (mSH C)) (Sum.elim t oM.2) lt U.heap) (hA s0)) args s 0 0 (hA s0)) (F0 m 50 ls []) := by
  obtain ⟨hx, hb, hr, hml, hown, hts, hlocks, hK, hZ0, hA0⟩ := CX
  refine hiter_W (Wh := fun q => ∀ (H : Heap) (locs : List Loc) (ls : Array Slot), hW D vwCl ad (Sum.elim so (mSH C)) (Sum.elim t q.2) lt H → va_S (hA s0) s.heap H locs → lv_has ls 4 [(0, .ref (ad (.inr 0))), (2, .int q.1)] → W p l e rm_m_town s m args below meth c H locs 0 0 (MQ below (va_Qi (fun (r : Int32) (_ : Unit) => r = oM.1) (fun (_ : Unit) (U : State) => hW D vwCl ad (Sum.elim so (mSH C)) (Sum.elim t oM.2) lt U.heap) (hA s0)) args s 0 0 (hA s0)) (F0 m 50 ls [])) ?_ n q0 h0
  intro q o hf kc kx1 H locs ls hM hS hl
  obtain ⟨v2_50, g_50⟩ := q
  replace hf : m_town_L50 v2_50 g_50 = some o := hf
  have kx : ∀ x' : hSt, o = .inr x' → ∀ (H : Heap) (locs : List Loc) (ls : Array Slot), hW D vwCl ad (Sum.elim so (mSH C)) (Sum.elim t x') lt H → va_S (hA s0) s.heap H locs → lv_has ls 4 [(0, .ref (ad (.inr 0)))] → W p l e rm_m_town s m args below meth c H locs 0 0 (MQ below (va_Qi (fun (r : Int32) (_ : Unit) => r = oM.1) (fun (_ : Unit) (U : State) => hW D vwCl ad (Sum.elim so (mSH C)) (Sum.elim t oM.2) lt U.heap) (hA s0)) args s 0 0 (hA s0)) (F0 m 69 ls []) := fun x' ex => by rw [kx1 _ ex]; exact kx0
  unfold m_town_L50 at hf
  refine lv_iload_n hx hb dX5_town_50 rfl (lv_at hl 1 rfl) ?_
  refine lv_bipush (v := 8) hx hb dX5_town_51 (by decide) ?_
  refine hb_icmp_ge (tgt := 69) hx hb dX5_town_53 (by decide) hf (fun hf => ?_) (fun hf => ?_)
  · exact kx g_50 (Option.some.inj hf).symm H locs ls hM hS (lv_sub hl [0] rfl)
  · refine lv_aload_n hx hb dX5_town_56 rfl (lv_at hl 0 rfl) ?_
    refine hr_get (ci := 5) (C := RX5) (T := TX5) (N := 55) (r := .inr 0) hx hb hts in_X5 hown hK hM mS_0 rfl 2 (by decide) (hts _ q1370) rfl (v := .ref (ad (.inr 3))) rfl dX5_town_57 ?_
    refine lv_iload_n hx hb dX5_town_60 rfl (lv_at hl 1 rfl) ?_
    refine lv_iconst (v := 0) hx hb dX5_town_61 (by decide) ?_
    refine hm_iast (r := 3) hx hb hK hM hIx hS 0 mS_3 rfl hf dX5_town_62 (fun g8 H locs hf hM hS => ?_)
    obtain ⟨y2_9, ey, hf⟩ := hlet_ex hf
    refine lv_iinc (v := y2_9) (lv' := [(2, .int y2_9), (0, .ref (ad (.inr 0)))]) hx hb dX5_town_63 hl (k := 1) rfl (by rw [ey]; rfl) (by decide) rfl (fun ls hl => ?_)
    refine lv_goto (tgt := 50) hx hb dX5_town_66 (by decide) ?_
    exact kc (y2_9, g8) (Option.some.inj hf).symm H locs ls hM hS (lv_sub hl [1, 0] rfl)
set_option maxHeartbeats 4000000 in
set_option maxRecDepth 100000 in
theorem w_m_town_L82 {p : Program} {l : Launch} {e : Env} {s : State} {m : MethodId} {args : Array Value} {below : List Frame} {meth : Method} {c : Code} {D : va_G} {C : Nat → Nat} {a0 : Array Value} {s0 : State} {ad : Rl → Nat} {so : Nat → Option hS} {t : hSt} {lt : Rl → Nat → Int64} (CX : hCx D C a0 s0 p s m args meth c cX5_town 4 RX5 (some .int)) (hIx : hI (hA s0) ad (Sum.elim so (mSH C))) (g : hSt) (p0 : Int32) (g1 : hSt) (g3 : hSt) (g4 : hSt) (g5 : hSt) (g6 : hSt) (g7 : hSt) (x10 : hSt) (y11 : hSt) (y12 : hSt) (hlk : ∀ i, i < 5 → hLi s0 (C (100 + i)) (txk i)) {oM : Int32 × hSt} (x : hSt) (n : Nat) (q0 : Int32 × hSt) (h0 : hiter (fun q : Int32 × hSt => m_town_L82 q.1 q.2) n q0 = some x) (kx0 : ∀ (H : Heap) (locs : List Loc) (ls : Array Slot), hW D vwCl ad (Sum.elim so (mSH C)) (Sum.elim t x) lt H → va_S (hA s0) s.heap H locs → lv_has ls 4 [(0, .ref (ad (.inr 0)))] → W p l e rm_m_town s m args below meth c H locs 0 0 (MQ below (va_Qi (fun (r : Int32) (_ : Unit) => r = oM.1) (fun (_ : Unit) (U : State) => hW D vwCl ad (Sum.elim so (mSH C)) (Sum.elim t oM.2) lt U.heap) (hA s0)) args s 0 0 (hA s0)) (F0 m 105 ls [])) : ∀ (H : Heap) (locs : List Loc) (ls : Array Slot), hW D vwCl ad (Sum.elim so (mSH C)) (Sum.elim t q0.2) lt H → va_S (hA s0) s.heap H locs → lv_has ls 4 [(0, .ref (ad (.inr 0))), (2, .int q0.1)] → W p l e rm_m_town s m args below meth c H locs 0 0 (MQ below (va_Qi (fun (r : Int32) (_ : Unit) => r = oM.1) (fun (_ : Unit) (U : State) => hW D vwCl ad (Sum.elim so (mSH C)) (Sum.elim t oM.2) lt U.heap) (hA s0)) args s 0 0 (hA s0)) (F0 m 82 ls []) := by
  obtain ⟨hx, hb, hr, hml, hown, hts, hlocks, hK, hZ0, hA0⟩ := CX
  refine hiter_W (Wh := fun q => ∀ (H : Heap) (locs : List Loc) (ls : Array Slot), hW D vwCl ad (Sum.elim so (mSH C)) (Sum.elim t q.2) lt H → va_S (hA s0) s.heap H locs → lv_has ls 4 [(0, .ref (ad (.inr 0))), (2, .int q.1)] → W p l e rm_m_town s m args below meth c H locs 0 0 (MQ below (va_Qi (fun (r : Int32) (_ : Unit) => r = oM.1) (fun (_ : Unit) (U : State) => hW D vwCl ad (Sum.elim so (mSH C)) (Sum.elim t oM.2) lt U.heap) (hA s0)) args s 0 0 (hA s0)) (F0 m 82 ls [])) ?_ n q0 h0
  intro q o hf kc kx1 H locs ls hM hS hl
  obtain ⟨v2_82, g_82⟩ := q
  replace hf : m_town_L82 v2_82 g_82 = some o := hf
  have kx : ∀ x' : hSt, o = .inr x' → ∀ (H : Heap) (locs : List Loc) (ls : Array Slot), hW D vwCl ad (Sum.elim so (mSH C)) (Sum.elim t x') lt H → va_S (hA s0) s.heap H locs → lv_has ls 4 [(0, .ref (ad (.inr 0)))] → W p l e rm_m_town s m args below meth c H locs 0 0 (MQ below (va_Qi (fun (r : Int32) (_ : Unit) => r = oM.1) (fun (_ : Unit) (U : State) => hW D vwCl ad (Sum.elim so (mSH C)) (Sum.elim t oM.2) lt U.heap) (hA s0)) args s 0 0 (hA s0)) (F0 m 105 ls []) := fun x' ex => by rw [kx1 _ ex]; exact kx0
  unfold m_town_L82 at hf
  refine lv_aload_n hx hb dX5_town_82 rfl (lv_at hl 0 rfl) ?_
  refine hr_get (ci := 5) (C := RX5) (T := TX5) (N := 55) (r := .inr 0) hx hb hts in_X5 hown hK hM mS_0 rfl 21 (by decide) (hts _ q1389) rfl (v := .int (g_82 0 21)) rfl dX5_town_83 ?_
  refine hb_if_ne (tgt := 105) hx hb dX5_town_86 (by decide) hf (fun hf => ?_) (fun hf => ?_)
  · exact kx g_82 (Option.some.inj hf).symm H locs ls hM hS (lv_sub hl [0] rfl)
  · refine lv_aload_n hx hb dX5_town_89 rfl (lv_at hl 0 rfl) ?_
    refine hr_get (ci := 5) (C := RX5) (T := TX5) (N := 55) (r := .inr 0) hx hb hts in_X5 hown hK hM mS_0 rfl 17 (by decide) (hts _ q1385) rfl (v := .int (g_82 0 17)) rfl dX5_town_90 ?_
    refine hb_if_eq (tgt := 105) hx hb dX5_town_93 (by decide) hf (fun hf => ?_) (fun hf => ?_)
    · exact kx g_82 (Option.some.inj hf).symm H locs ls hM hS (lv_sub hl [0] rfl)
    · refine lv_aload_n hx hb dX5_town_96 rfl (lv_at hl 0 rfl) ?_
      refine lv_iload_n hx hb dX5_town_97 rfl (lv_at hl 1 rfl) ?_
      obtain ⟨y13, hq, hf⟩ := hbind hf
      refine hr_calli0 (va_runV (As := [.int v2_82]) (rest := []) ⟨hx, hb, hml, hown, hts⟩ (met_m_readLine l D C a0 s0 ad so t lt g_82 v2_82 hlk hq) (cwV 1 hts (lw_V q1567 q1569 qs36 q99 q1570) rfl rfl rfl (by decide +kernel) ⟨Nat.le_of_ble_eq_true rfl, Nat.le_of_ble_eq_true rfl⟩) (hr_preV hZ_c hM hIx hK hZ0 hA0 hS (r := .inr 0) mS_0 (q := (RX5, TX5, 55)) rfl) rfl rfl hl.1 rfl (lv_room (Nat.le_of_ble_eq_true rfl)) dX5_town_98 ⟨Nat.le_of_ble_eq_true rfl, Nat.le_of_ble_eq_true rfl⟩) hS (fun H locs hM hS => ?_)
      refine lv_istore_n (lv' := [(2, .int y13.1), (0, .ref (ad (.inr 0)))]) hx hb dX5_town_101 rfl hl (by decide) rfl (fun ls hl => ?_)
      refine lv_goto (tgt := 82) hx hb dX5_town_102 (by decide) ?_
      exact kc (y13.1, y13.2) (Option.some.inj hf).symm H locs ls hM hS (lv_sub hl [1, 0] rfl)
set_option maxHeartbeats 4000000 in
set_option maxRecDepth 100000 in
theorem w_m_town_L137 {p : Program} {l : Launch} {e : Env} {s : State} {m : MethodId} {args : Array Value} {below : List Frame} {meth : Method} {c : Code} {D : va_G} {C : Nat → Nat} {a0 : Array Value} {s0 : State} {ad : Rl → Nat} {so : Nat → Option hS} {t : hSt} {lt : Rl → Nat → Int64} (CX : hCx D C a0 s0 p s m args meth c cX5_town 4 RX5 (some .int)) (hIx : hI (hA s0) ad (Sum.elim so (mSH C))) (g : hSt) (p0 : Int32) (g1 : hSt) (g3 : hSt) (g4 : hSt) (g5 : hSt) (g6 : hSt) (g7 : hSt) (x10 : hSt) (y11 : hSt) (y12 : hSt) (x14 : hSt) (hlk : ∀ i, i < 5 → hLi s0 (C (100 + i)) (txk i)) {oM : Int32 × hSt} (x : hSt) (n : Nat) (q0 : Int32 × hSt) (h0 : hiter (fun q : Int32 × hSt => m_town_L137 q.1 q.2) n q0 = some x) (kx0 : ∀ (H : Heap) (locs : List Loc) (ls : Array Slot), hW D vwCl ad (Sum.elim so (mSH C)) (Sum.elim t x) lt H → va_S (hA s0) s.heap H locs → lv_has ls 4 [(0, .ref (ad (.inr 0)))] → W p l e rm_m_town s m args below meth c H locs 0 0 (MQ below (va_Qi (fun (r : Int32) (_ : Unit) => r = oM.1) (fun (_ : Unit) (U : State) => hW D vwCl ad (Sum.elim so (mSH C)) (Sum.elim t oM.2) lt U.heap) (hA s0)) args s 0 0 (hA s0)) (F0 m 162 ls [])) : ∀ (H : Heap) (locs : List Loc) (ls : Array Slot), hW D vwCl ad (Sum.elim so (mSH C)) (Sum.elim t q0.2) lt H → va_S (hA s0) s.heap H locs → lv_has ls 4 [(0, .ref (ad (.inr 0))), (3, .int q0.1)] → W p l e rm_m_town s m args below meth c H locs 0 0 (MQ below (va_Qi (fun (r : Int32) (_ : Unit) => r = oM.1) (fun (_ : Unit) (U : State) => hW D vwCl ad (Sum.elim so (mSH C)) (Sum.elim t oM.2) lt U.heap) (hA s0)) args s 0 0 (hA s0)) (F0 m 137 ls []) := by
  obtain ⟨hx, hb, hr, hml, hown, hts, hlocks, hK, hZ0, hA0⟩ := CX
  refine hiter_W (Wh := fun q => ∀ (H : Heap) (locs : List Loc) (ls : Array Slot), hW D vwCl ad (Sum.elim so (mSH C)) (Sum.elim t q.2) lt H → va_S (hA s0) s.heap H locs → lv_has ls 4 [(0, .ref (ad (.inr 0))), (3, .int q.1)] → W p l e rm_m_town s m args below meth c H locs 0 0 (MQ below (va_Qi (fun (r : Int32) (_ : Unit) => r = oM.1) (fun (_ : Unit) (U : State) => hW D vwCl ad (Sum.elim so (mSH C)) (Sum.elim t oM.2) lt U.heap) (hA s0)) args s 0 0 (hA s0)) (F0 m 137 ls [])) ?_ n q0 h0
  intro q o hf kc kx1 H locs ls hM hS hl
  obtain ⟨v3_137, g_137⟩ := q
  replace hf : m_town_L137 v3_137 g_137 = some o := hf
  have kx : ∀ x' : hSt, o = .inr x' → ∀ (H : Heap) (locs : List Loc) (ls : Array Slot), hW D vwCl ad (Sum.elim so (mSH C)) (Sum.elim t x') lt H → va_S (hA s0) s.heap H locs → lv_has ls 4 [(0, .ref (ad (.inr 0)))] → W p l e rm_m_town s m args below meth c H locs 0 0 (MQ below (va_Qi (fun (r : Int32) (_ : Unit) => r = oM.1) (fun (_ : Unit) (U : State) => hW D vwCl ad (Sum.elim so (mSH C)) (Sum.elim t oM.2) lt U.heap) (hA s0)) args s 0 0 (hA s0)) (F0 m 162 ls []) := fun x' ex => by rw [kx1 _ ex]; exact kx0
  unfold m_town_L137 at hf
  refine lv_iload_n hx hb dX5_town_137 rfl (lv_at hl 1 rfl) ?_
  refine lv_iconst (v := 4) hx hb dX5_town_138 (by decide) ?_
  refine hb_icmp_ge (tgt := 162) hx hb dX5_town_139 (by decide) hf (fun hf => ?_) (fun hf => ?_)
  · exact kx g_137 (Option.some.inj hf).symm H locs ls hM hS (lv_sub hl [0] rfl)
  · refine lv_aload_n hx hb dX5_town_142 rfl (lv_at hl 0 rfl) ?_
    refine hr_get (ci := 5) (C := RX5) (T := TX5) (N := 55) (r := .inr 0) hx hb hts in_X5 hown hK hM mS_0 rfl 2 (by decide) (hts _ q1370) rfl (v := .ref (ad (.inr 3))) rfl dX5_town_143 ?_
    refine lv_iload_n hx hb dX5_town_146 rfl (lv_at hl 1 rfl) ?_
    refine lv_aload_n hx hb dX5_town_147 rfl (lv_at hl 0 rfl) ?_
    refine hr_get (ci := 5) (C := RX5) (T := TX5) (N := 55) (r := .inr 0) hx hb hts in_X5 hown hK hM mS_0 rfl 2 (by decide) (hts _ q1370) rfl (v := .ref (ad (.inr 3))) rfl dX5_town_148 ?_
    refine lv_iconst (v := 4) hx hb dX5_town_151 (by decide) ?_
    refine lv_iload_n hx hb dX5_town_152 rfl (lv_at hl 1 rfl) ?_
    refine lv_iadd hx hb dX5_town_153 ?_
    refine hm_iald (r := 3) hx hb hK hM 0 mS_3 rfl hf dX5_town_154 (fun x15 hf => ?_)
    refine hm_iast (r := 3) hx hb hK hM hIx hS 0 mS_3 rfl hf dX5_town_155 (fun g16 H locs hf hM hS => ?_)
    obtain ⟨y3_17, ey, hf⟩ := hlet_ex hf
    refine lv_iinc (v := y3_17) (lv' := [(3, .int y3_17), (0, .ref (ad (.inr 0)))]) hx hb dX5_town_156 hl (k := 1) rfl (by rw [ey]; rfl) (by decide) rfl (fun ls hl => ?_)
    refine lv_goto (tgt := 137) hx hb dX5_town_159 (by decide) ?_
    exact kc (y3_17, g16) (Option.some.inj hf).symm H locs ls hM hS (lv_sub hl [1, 0] rfl)
set_option maxHeartbeats 4000000 in
set_option maxRecDepth 100000 in
theorem w_m_town_L164 {p : Program} {l : Launch} {e : Env} {s : State} {m : MethodId} {args : Array Value} {below : List Frame} {meth : Method} {c : Code} {D : va_G} {C : Nat → Nat} {a0 : Array Value} {s0 : State} {ad : Rl → Nat} {so : Nat → Option hS} {t : hSt} {lt : Rl → Nat → Int64} (CX : hCx D C a0 s0 p s m args meth c cX5_town 4 RX5 (some .int)) (hIx : hI (hA s0) ad (Sum.elim so (mSH C))) (g : hSt) (p0 : Int32) (g1 : hSt) (g3 : hSt) (g4 : hSt) (g5 : hSt) (g6 : hSt) (g7 : hSt) (x10 : hSt) (y11 : hSt) (y12 : hSt) (x14 : hSt) (x18 : hSt) (hlk : ∀ i, i < 5 → hLi s0 (C (100 + i)) (txk i)) {oM : Int32 × hSt} (x : hSt) (n : Nat) (q0 : Int32 × hSt) (h0 : hiter (fun q : Int32 × hSt => m_town_L164 q.1 q.2) n q0 = some x) (kx0 : ∀ (H : Heap) (locs : List Loc) (ls : Array Slot), hW D vwCl ad (Sum.elim so (mSH C)) (Sum.elim t x) lt H → va_S (hA s0) s.heap H locs → lv_has ls 4 [(0, .ref (ad (.inr 0)))] → W p l e rm_m_town s m args below meth c H locs 0 0 (MQ below (va_Qi (fun (r : Int32) (_ : Unit) => r = oM.1) (fun (_ : Unit) (U : State) => hW D vwCl ad (Sum.elim so (mSH C)) (Sum.elim t oM.2) lt U.heap) (hA s0)) args s 0 0 (hA s0)) (F0 m 206 ls [])) : ∀ (H : Heap) (locs : List Loc) (ls : Array Slot), hW D vwCl ad (Sum.elim so (mSH C)) (Sum.elim t q0.2) lt H → va_S (hA s0) s.heap H locs → lv_has ls 4 [(0, .ref (ad (.inr 0))), (3, .int q0.1)] → W p l e rm_m_town s m args below meth c H locs 0 0 (MQ below (va_Qi (fun (r : Int32) (_ : Unit) => r = oM.1) (fun (_ : Unit) (U : State) => hW D vwCl ad (Sum.elim so (mSH C)) (Sum.elim t oM.2) lt U.heap) (hA s0)) args s 0 0 (hA s0)) (F0 m 164 ls []) := by
  obtain ⟨hx, hb, hr, hml, hown, hts, hlocks, hK, hZ0, hA0⟩ := CX
  refine hiter_W (Wh := fun q => ∀ (H : Heap) (locs : List Loc) (ls : Array Slot), hW D vwCl ad (Sum.elim so (mSH C)) (Sum.elim t q.2) lt H → va_S (hA s0) s.heap H locs → lv_has ls 4 [(0, .ref (ad (.inr 0))), (3, .int q.1)] → W p l e rm_m_town s m args below meth c H locs 0 0 (MQ below (va_Qi (fun (r : Int32) (_ : Unit) => r = oM.1) (fun (_ : Unit) (U : State) => hW D vwCl ad (Sum.elim so (mSH C)) (Sum.elim t oM.2) lt U.heap) (hA s0)) args s 0 0 (hA s0)) (F0 m 164 ls [])) ?_ n q0 h0
  intro q o hf kc kx1 H locs ls hM hS hl
  obtain ⟨v3_164, g_164⟩ := q
  replace hf : m_town_L164 v3_164 g_164 = some o := hf
  have kx : ∀ x' : hSt, o = .inr x' → ∀ (H : Heap) (locs : List Loc) (ls : Array Slot), hW D vwCl ad (Sum.elim so (mSH C)) (Sum.elim t x') lt H → va_S (hA s0) s.heap H locs → lv_has ls 4 [(0, .ref (ad (.inr 0)))] → W p l e rm_m_town s m args below meth c H locs 0 0 (MQ below (va_Qi (fun (r : Int32) (_ : Unit) => r = oM.1) (fun (_ : Unit) (U : State) => hW D vwCl ad (Sum.elim so (mSH C)) (Sum.elim t oM.2) lt U.heap) (hA s0)) args s 0 0 (hA s0)) (F0 m 206 ls []) := fun x' ex => by rw [kx1 _ ex]; exact kx0
  unfold m_town_L164 at hf
  refine lv_iload_n hx hb dX5_town_164 rfl (lv_at hl 1 rfl) ?_
  refine lv_bipush (v := 6) hx hb dX5_town_165 (by decide) ?_
  refine hb_icmp_ge (tgt := 206) hx hb dX5_town_167 (by decide) hf (fun hf => ?_) (fun hf => ?_)
  · exact kx g_164 (Option.some.inj hf).symm H locs ls hM hS (lv_sub hl [0] rfl)
  · refine lv_aload_n hx hb dX5_town_170 rfl (lv_at hl 0 rfl) ?_
    refine hr_get (ci := 5) (C := RX5) (T := TX5) (N := 55) (r := .inr 0) hx hb hts in_X5 hown hK hM mS_0 rfl 3 (by decide) (hts _ q1371) rfl (v := .ref (ad (.inr 4))) rfl dX5_town_171 ?_
    refine lv_iload_n hx hb dX5_town_174 rfl (lv_at hl 1 rfl) ?_
    refine lv_aload_n hx hb dX5_town_175 rfl (lv_at hl 0 rfl) ?_
    refine hr_get (ci := 5) (C := RX5) (T := TX5) (N := 55) (r := .inr 0) hx hb hts in_X5 hown hK hM mS_0 rfl 3 (by decide) (hts _ q1371) rfl (v := .ref (ad (.inr 4))) rfl dX5_town_176 ?_
    refine lv_bipush (v := 6) hx hb dX5_town_179 (by decide) ?_
    refine lv_iload_n hx hb dX5_town_181 rfl (lv_at hl 1 rfl) ?_
    refine lv_iadd hx hb dX5_town_182 ?_
    refine hm_iald (r := 4) hx hb hK hM 0 mS_4 rfl hf dX5_town_183 (fun x19 hf => ?_)
    refine hm_iast (r := 4) hx hb hK hM hIx hS 0 mS_4 rfl hf dX5_town_184 (fun g20 H locs hf hM hS => ?_)
    refine lv_aload_n hx hb dX5_town_185 rfl (lv_at hl 0 rfl) ?_
    refine hr_get (ci := 5) (C := RX5) (T := TX5) (N := 55) (r := .inr 0) hx hb hts in_X5 hown hK hM mS_0 rfl 4 (by decide) (hts _ q1372) rfl (v := .ref (ad (.inr 5))) rfl dX5_town_186 ?_
    refine lv_iload_n hx hb dX5_town_189 rfl (lv_at hl 1 rfl) ?_
    refine lv_aload_n hx hb dX5_town_190 rfl (lv_at hl 0 rfl) ?_
    refine hr_get (ci := 5) (C := RX5) (T := TX5) (N := 55) (r := .inr 0) hx hb hts in_X5 hown hK hM mS_0 rfl 4 (by decide) (hts _ q1372) rfl (v := .ref (ad (.inr 5))) rfl dX5_town_191 ?_
    refine lv_bipush (v := 6) hx hb dX5_town_194 (by decide) ?_
    refine lv_iload_n hx hb dX5_town_196 rfl (lv_at hl 1 rfl) ?_
    refine lv_iadd hx hb dX5_town_197 ?_
    refine hm_iald (r := 5) hx hb hK hM 0 mS_5 rfl hf dX5_town_198 (fun x21 hf => ?_)
    refine hm_iast (r := 5) hx hb hK hM hIx hS 0 mS_5 rfl hf dX5_town_199 (fun g22 H locs hf hM hS => ?_)
    obtain ⟨y3_23, ey, hf⟩ := hlet_ex hf
    refine lv_iinc (v := y3_23) (lv' := [(3, .int y3_23), (0, .ref (ad (.inr 0)))]) hx hb dX5_town_200 hl (k := 1) rfl (by rw [ey]; rfl) (by decide) rfl (fun ls hl => ?_)
    refine lv_goto (tgt := 164) hx hb dX5_town_203 (by decide) ?_
    exact kc (y3_23, g22) (Option.some.inj hf).symm H locs ls hM hS (lv_sub hl [1, 0] rfl)
set_option maxHeartbeats 4000000 in
set_option maxRecDepth 100000 in
theorem w_m_town_L208 {p : Program} {l : Launch} {e : Env} {s : State} {m : MethodId} {args : Array Value} {below : List Frame} {meth : Method} {c : Code} {D : va_G} {C : Nat → Nat} {a0 : Array Value} {s0 : State} {ad : Rl → Nat} {so : Nat → Option hS} {t : hSt} {lt : Rl → Nat → Int64} (CX : hCx D C a0 s0 p s m args meth c cX5_town 4 RX5 (some .int)) (hIx : hI (hA s0) ad (Sum.elim so (mSH C))) (g : hSt) (p0 : Int32) (g1 : hSt) (g3 : hSt) (g4 : hSt) (g5 : hSt) (g6 : hSt) (g7 : hSt) (x10 : hSt) (y11 : hSt) (y12 : hSt) (x14 : hSt) (x18 : hSt) (x24 : hSt) (hlk : ∀ i, i < 5 → hLi s0 (C (100 + i)) (txk i)) {oM : Int32 × hSt} (x : hSt) (n : Nat) (q0 : Int32 × hSt) (h0 : hiter (fun q : Int32 × hSt => m_town_L208 q.1 q.2) n q0 = some x) (kx0 : ∀ (H : Heap) (locs : List Loc) (ls : Array Slot), hW D vwCl ad (Sum.elim so (mSH C)) (Sum.elim t x) lt H → va_S (hA s0) s.heap H locs → lv_has ls 4 [(0, .ref (ad (.inr 0)))] → W p l e rm_m_town s m args below meth c H locs 0 0 (MQ below (va_Qi (fun (r : Int32) (_ : Unit) => r = oM.1) (fun (_ : Unit) (U : State) => hW D vwCl ad (Sum.elim so (mSH C)) (Sum.elim t oM.2) lt U.heap) (hA s0)) args s 0 0 (hA s0)) (F0 m 262 ls [])) : ∀ (H : Heap) (locs : List Loc) (ls : Array Slot), hW D vwCl ad (Sum.elim so (mSH C)) (Sum.elim t q0.2) lt H → va_S (hA s0) s.heap H locs → lv_has ls 4 [(0, .ref (ad (.inr 0))), (3, .int q0.1)] → W p l e rm_m_town s m args below meth c H locs 0 0 (MQ below (va_Qi (fun (r : Int32) (_ : Unit) => r = oM.1) (fun (_ : Unit) (U : State) => hW D vwCl ad (Sum.elim so (mSH C)) (Sum.elim t oM.2) lt U.heap) (hA s0)) args s 0 0 (hA s0)) (F0 m 208 ls []) := by
  obtain ⟨hx, hb, hr, hml, hown, hts, hlocks, hK, hZ0, hA0⟩ := CX
  refine hiter_W (Wh := fun q => ∀ (H : Heap) (locs : List Loc) (ls : Array Slot), hW D vwCl ad (Sum.elim so (mSH C)) (Sum.elim t q.2) lt H → va_S (hA s0) s.heap H locs → lv_has ls 4 [(0, .ref (ad (.inr 0))), (3, .int q.1)] → W p l e rm_m_town s m args below meth c H locs 0 0 (MQ below (va_Qi (fun (r : Int32) (_ : Unit) => r = oM.1) (fun (_ : Unit) (U : State) => hW D vwCl ad (Sum.elim so (mSH C)) (Sum.elim t oM.2) lt U.heap) (hA s0)) args s 0 0 (hA s0)) (F0 m 208 ls [])) ?_ n q0 h0
  intro q o hf kc kx1 H locs ls hM hS hl
  obtain ⟨v3_208, g_208⟩ := q
  replace hf : m_town_L208 v3_208 g_208 = some o := hf
  have kx : ∀ x' : hSt, o = .inr x' → ∀ (H : Heap) (locs : List Loc) (ls : Array Slot), hW D vwCl ad (Sum.elim so (mSH C)) (Sum.elim t x') lt H → va_S (hA s0) s.heap H locs → lv_has ls 4 [(0, .ref (ad (.inr 0)))] → W p l e rm_m_town s m args below meth c H locs 0 0 (MQ below (va_Qi (fun (r : Int32) (_ : Unit) => r = oM.1) (fun (_ : Unit) (U : State) => hW D vwCl ad (Sum.elim so (mSH C)) (Sum.elim t oM.2) lt U.heap) (hA s0)) args s 0 0 (hA s0)) (F0 m 262 ls []) := fun x' ex => by rw [kx1 _ ex]; exact kx0
  unfold m_town_L208 at hf
  refine lv_iload_n hx hb dX5_town_208 rfl (lv_at hl 1 rfl) ?_
  refine lv_bipush (v := 12) hx hb dX5_town_209 (by decide) ?_
  refine hb_icmp_ge (tgt := 262) hx hb dX5_town_211 (by decide) hf (fun hf => ?_) (fun hf => ?_)
  · exact kx g_208 (Option.some.inj hf).symm H locs ls hM hS (lv_sub hl [0] rfl)
  · refine lv_aload_n hx hb dX5_town_214 rfl (lv_at hl 0 rfl) ?_
    refine hr_get (ci := 5) (C := RX5) (T := TX5) (N := 55) (r := .inr 0) hx hb hts in_X5 hown hK hM mS_0 rfl 5 (by decide) (hts _ q1373) rfl (v := .ref (ad (.inr 6))) rfl dX5_town_215 ?_
    refine lv_iload_n hx hb dX5_town_218 rfl (lv_at hl 1 rfl) ?_
    refine lv_aload_n hx hb dX5_town_219 rfl (lv_at hl 0 rfl) ?_
    refine hr_get (ci := 5) (C := RX5) (T := TX5) (N := 55) (r := .inr 0) hx hb hts in_X5 hown hK hM mS_0 rfl 5 (by decide) (hts _ q1373) rfl (v := .ref (ad (.inr 6))) rfl dX5_town_220 ?_
    refine lv_bipush (v := 12) hx hb dX5_town_223 (by decide) ?_
    refine lv_iload_n hx hb dX5_town_225 rfl (lv_at hl 1 rfl) ?_
    refine lv_iadd hx hb dX5_town_226 ?_
    refine hm_iald (r := 6) hx hb hK hM 0 mS_6 rfl hf dX5_town_227 (fun x25 hf => ?_)
    refine hm_iast (r := 6) hx hb hK hM hIx hS 0 mS_6 rfl hf dX5_town_228 (fun g26 H locs hf hM hS => ?_)
    refine lv_aload_n hx hb dX5_town_229 rfl (lv_at hl 0 rfl) ?_
    refine hr_get (ci := 5) (C := RX5) (T := TX5) (N := 55) (r := .inr 0) hx hb hts in_X5 hown hK hM mS_0 rfl 9 (by decide) (hts _ q1377) rfl (v := .ref (ad (.inr 10))) rfl dX5_town_230 ?_
    refine lv_iload_n hx hb dX5_town_233 rfl (lv_at hl 1 rfl) ?_
    refine lv_aload_n hx hb dX5_town_234 rfl (lv_at hl 0 rfl) ?_
    refine hr_get (ci := 5) (C := RX5) (T := TX5) (N := 55) (r := .inr 0) hx hb hts in_X5 hown hK hM mS_0 rfl 10 (by decide) (hts _ q1378) rfl (v := .ref (ad (.inr 11))) rfl dX5_town_235 ?_
    refine lv_iload_n hx hb dX5_town_238 rfl (lv_at hl 1 rfl) ?_
    refine hm_iald (r := 11) hx hb hK hM 0 mS_11 rfl hf dX5_town_239 (fun x27 hf => ?_)
    refine hm_iast (r := 10) hx hb hK hM hIx hS 0 mS_10 rfl hf dX5_town_240 (fun g28 H locs hf hM hS => ?_)
    refine lv_aload_n hx hb dX5_town_241 rfl (lv_at hl 0 rfl) ?_
    refine hr_get (ci := 5) (C := RX5) (T := TX5) (N := 55) (r := .inr 0) hx hb hts in_X5 hown hK hM mS_0 rfl 11 (by decide) (hts _ q1379) rfl (v := .ref (ad (.inr 12))) rfl dX5_town_242 ?_
    refine lv_iload_n hx hb dX5_town_245 rfl (lv_at hl 1 rfl) ?_
    refine lv_aload_n hx hb dX5_town_246 rfl (lv_at hl 0 rfl) ?_
    refine hr_get (ci := 5) (C := RX5) (T := TX5) (N := 55) (r := .inr 0) hx hb hts in_X5 hown hK hM mS_0 rfl 11 (by decide) (hts _ q1379) rfl (v := .ref (ad (.inr 12))) rfl dX5_town_247 ?_
    refine lv_bipush (v := 12) hx hb dX5_town_250 (by decide) ?_
    refine lv_iload_n hx hb dX5_town_252 rfl (lv_at hl 1 rfl) ?_
    refine lv_iadd hx hb dX5_town_253 ?_
    refine hm_zald (r := 12) hx hb hK hM 2 mS_12 rfl hf dX5_town_254 (fun x29 hf => ?_)
    refine hm_zast (r := 12) hx hb hK hM hIx hS 2 mS_12 rfl hf dX5_town_255 (fun g30 H locs hf hM hS => ?_)
    obtain ⟨y3_31, ey, hf⟩ := hlet_ex hf
    refine lv_iinc (v := y3_31) (lv' := [(3, .int y3_31), (0, .ref (ad (.inr 0)))]) hx hb dX5_town_256 hl (k := 1) rfl (by rw [ey]; rfl) (by decide) rfl (fun ls hl => ?_)
    refine lv_goto (tgt := 208) hx hb dX5_town_259 (by decide) ?_
    exact kc (y3_31, g30) (Option.some.inj hf).symm H locs ls hM hS (lv_sub hl [1, 0] rfl)
set_option maxHeartbeats 4000000 in
set_option maxRecDepth 100000 in
theorem w_m_town {p : Program} {l : Launch} {e : Env} {s : State} {m : MethodId} {args : Array Value} {below : List Frame} {meth : Method} {c : Code} {D : va_G} {C : Nat → Nat} {a0 : Array Value} {s0 : State} {ad : Rl → Nat} {so : Nat → Option hS} {t : hSt} {lt : Rl → Nat → Int64} (CX : hCx D C a0 s0 p s m args meth c cX5_town 4 RX5 (some .int)) (hIx : hI (hA s0) ad (Sum.elim so (mSH C))) (g : hSt) (p0 : Int32) (hlk : ∀ i, i < 5 → hLi s0 (C (100 + i)) (txk i)) {o : Int32 × hSt} (hf : m_town g p0 = some o) {H : Heap} {locs : List Loc} (hM : hW D vwCl ad (Sum.elim so (mSH C)) (Sum.elim t g) lt H) (hS : va_S (hA s0) s.heap H locs) {ls : Array Slot} (hl : lv_has ls 4 [(0, .ref (ad (.inr 0))), (1, .int p0)]) : W p l e rm_m_town s m args below meth c H locs 0 0 (MQ below (va_Qi (fun (r : Int32) (_ : Unit) => r = o.1) (fun (_ : Unit) (U : State) => hW D vwCl ad (Sum.elim so (mSH C)) (Sum.elim t o.2) lt U.heap) (hA s0)) args s 0 0 (hA s0)) (F0 m 0 ls []) := by
  obtain ⟨hx, hb, hr, hml, hown, hts, hlocks, hK, hZ0, hA0⟩ := CX
  unfold m_town at hf
  refine lv_aload_n hx hb dX5_town_0 rfl (lv_at hl 0 rfl) ?_
  refine lv_iconst (v := 0) hx hb dX5_town_1 (by decide) ?_
  refine hm_put (r := 0) (ci := 5) (C := RX5) (T := TX5) (N := 55) hx hb hts in_X5 tyX5 tyX5_ok nmX5 hown hK hM hIx hS mS_0 rfl 1 (by decide) (hts _ q1369) rfl rfl rfl hf dX5_town_2 (fun g1 H locs hf hM hS => ?_)
  refine lv_iload_n hx hb dX5_town_5 rfl (lv_at hl 1 rfl) ?_
  refine hb_if_lt (tgt := 17) hx hb dX5_town_6 (by decide) hf (fun hf => ?_) (fun hf => ?_)
  · exact w_m_town_B17 ⟨hx, hb, hr, hml, hown, hts, hlocks, hK, hZ0, hA0⟩ hIx g p0 g1 hlk hf hM hS (lv_sub hl [0] rfl)
  · refine lv_iload_n hx hb dX5_town_9 rfl (lv_at hl 1 rfl) ?_
    refine lv_aload_n hx hb dX5_town_10 rfl (lv_at hl 0 rfl) ?_
    refine hr_get (ci := 5) (C := RX5) (T := TX5) (N := 55) (r := .inr 0) hx hb hts in_X5 hown hK hM mS_0 rfl 14 (by decide) (hts _ q1382) rfl (v := .int (g1 0 14)) rfl dX5_town_11 ?_
    refine hb_icmp_le (tgt := 23) hx hb dX5_town_14 (by decide) hf (fun hf => ?_) (fun hf => ?_)
    · refine lv_aload_n hx hb dX5_town_23 rfl (lv_at hl 0 rfl) ?_
      refine lv_iconst (v := 0) hx hb dX5_town_24 (by decide) ?_
      refine hm_put (r := 0) (ci := 5) (C := RX5) (T := TX5) (N := 55) hx hb hts in_X5 tyX5 tyX5_ok nmX5 hown hK hM hIx hS mS_0 rfl 14 (by decide) (hts _ q1382) rfl rfl rfl hf dX5_town_25 (fun g3 H locs hf hM hS => ?_)
      refine lv_aload_n hx hb dX5_town_28 rfl (lv_at hl 0 rfl) ?_
      refine lv_iload_n hx hb dX5_town_29 rfl (lv_at hl 1 rfl) ?_
      refine hm_put (r := 0) (ci := 5) (C := RX5) (T := TX5) (N := 55) hx hb hts in_X5 tyX5 tyX5_ok nmX5 hown hK hM hIx hS mS_0 rfl 16 (by decide) (hts _ q1384) rfl rfl rfl hf dX5_town_30 (fun g4 H locs hf hM hS => ?_)
      refine lv_aload_n hx hb dX5_town_33 rfl (lv_at hl 0 rfl) ?_
      refine lv_iconst (v := 0) hx hb dX5_town_34 (by decide) ?_
      refine hm_put (r := 0) (ci := 5) (C := RX5) (T := TX5) (N := 55) hx hb hts in_X5 tyX5 tyX5_ok nmX5 hown hK hM hIx hS mS_0 rfl 15 (by decide) (hts _ q1383) rfl rfl rfl hf dX5_town_35 (fun g5 H locs hf hM hS => ?_)
      refine lv_aload_n hx hb dX5_town_38 rfl (lv_at hl 0 rfl) ?_
      refine lv_iconst (v := 0) hx hb dX5_town_39 (by decide) ?_
      refine hm_put (r := 0) (ci := 5) (C := RX5) (T := TX5) (N := 55) hx hb hts in_X5 tyX5 tyX5_ok nmX5 hown hK hM hIx hS mS_0 rfl 21 (by decide) (hts _ q1389) rfl rfl rfl hf dX5_town_40 (fun g6 H locs hf hM hS => ?_)
      refine lv_aload_n hx hb dX5_town_43 rfl (lv_at hl 0 rfl) ?_
      refine lv_iconst (v := -1) hx hb dX5_town_44 (by decide) ?_
      refine hm_put (r := 0) (ci := 5) (C := RX5) (T := TX5) (N := 55) hx hb hts in_X5 tyX5 tyX5_ok nmX5 hown hK hM hIx hS mS_0 rfl 23 (by decide) (hts _ q1391) rfl rfl rfl hf dX5_town_45 (fun g7 H locs hf hM hS => ?_)
      refine lv_iconst (v := 4) hx hb dX5_town_48 (by decide) ?_
      refine lv_istore_n (lv' := [(2, .int (4 : Int32)), (0, .ref (ad (.inr 0))), (1, .int p0)]) hx hb dX5_town_49 rfl hl (by decide) rfl (fun ls hl => ?_)
      obtain ⟨x10, hq, hf⟩ := hbind hf
      refine w_m_town_L50 ⟨hx, hb, hr, hml, hown, hts, hlocks, hK, hZ0, hA0⟩ hIx g p0 g1 g3 g4 g5 g6 g7 hlk x10 hFU ((4 : Int32), g7) hq (fun H locs ls hM hS hl => ?_) H locs ls hM hS (lv_sub hl [1, 0] rfl)
      refine lv_aload_n hx hb dX5_town_69 rfl (lv_at hl 0 rfl) ?_
      refine hr_get (ci := 5) (C := RX5) (T := TX5) (N := 55) (r := .inr 0) hx hb hts in_X5 hown hK hM mS_0 rfl 8 (by decide) (hts _ q1376) rfl (v := .ref (ad (.inr 9))) rfl dX5_town_70 ?_
      obtain ⟨y11, hq, hf⟩ := hbind hf
      refine hr_callv0 (va_runS (As := [.ref (ad (.inr 9))]) (rest := []) ⟨hx, hb, hml, hown, hts⟩ (met_m_begin l D C a0 s0 ad so t lt x10 9 ms_9 hq) (va_cwS 1 hts (lw_S q1365 q1366 q99 q1367) rfl rfl rfl (by decide +kernel) ⟨Nat.le_of_ble_eq_true rfl, Nat.le_of_ble_eq_true rfl⟩) (hr_preS hZ_c hM hIx hK hZ0 hA0 hS) rfl rfl hl.1 rfl (lv_room (Nat.le_of_ble_eq_true rfl)) dX5_town_73 ⟨Nat.le_of_ble_eq_true rfl, Nat.le_of_ble_eq_true rfl⟩) hS (fun H locs hM hS => ?_)
      refine lv_aload_n hx hb dX5_town_76 rfl (lv_at hl 0 rfl) ?_
      obtain ⟨y12, hq, hf⟩ := hbind hf
      refine hr_callv0 (va_runV (As := []) (rest := []) ⟨hx, hb, hml, hown, hts⟩ (met_m_stepOn l D C a0 s0 ad so t lt y11 hq) (cwV 0 hts (lw_V q1551 q1553 qs34 q99 q1554) rfl rfl rfl (by decide +kernel) ⟨Nat.le_of_ble_eq_true rfl, Nat.le_of_ble_eq_true rfl⟩) (hr_preV hZ_c hM hIx hK hZ0 hA0 hS (r := .inr 0) mS_0 (q := (RX5, TX5, 55)) rfl) rfl rfl hl.1 rfl (lv_room (Nat.le_of_ble_eq_true rfl)) dX5_town_77 ⟨Nat.le_of_ble_eq_true rfl, Nat.le_of_ble_eq_true rfl⟩) hS (fun H locs hM hS => ?_)
      refine lv_iconst (v := 0) hx hb dX5_town_80 (by decide) ?_
      refine lv_istore_n (lv' := [(2, .int (0 : Int32)), (0, .ref (ad (.inr 0)))]) hx hb dX5_town_81 rfl hl (by decide) rfl (fun ls hl => ?_)
      obtain ⟨x14, hq, hf⟩ := hbind hf
      refine w_m_town_L82 ⟨hx, hb, hr, hml, hown, hts, hlocks, hK, hZ0, hA0⟩ hIx g p0 g1 g3 g4 g5 g6 g7 x10 y11 y12 hlk x14 hFU ((0 : Int32), y12) hq (fun H locs ls hM hS hl => ?_) H locs ls hM hS (lv_sub hl [1, 0] rfl)
      refine lv_aload_n hx hb dX5_town_105 rfl (lv_at hl 0 rfl) ?_
      refine hr_get (ci := 5) (C := RX5) (T := TX5) (N := 55) (r := .inr 0) hx hb hts in_X5 hown hK hM mS_0 rfl 21 (by decide) (hts _ q1389) rfl (v := .int (x14 0 21)) rfl dX5_town_106 ?_
      refine hb_if_eq (tgt := 135) hx hb dX5_town_109 (by decide) hf (fun hf => ?_) (fun hf => ?_)
      · refine lv_iconst (v := 0) hx hb dX5_town_135 (by decide) ?_
        refine lv_istore_n (lv' := [(3, .int (0 : Int32)), (0, .ref (ad (.inr 0)))]) hx hb dX5_town_136 rfl hl (by decide) rfl (fun ls hl => ?_)
        obtain ⟨x18, hq, hf⟩ := hbind hf
        refine w_m_town_L137 ⟨hx, hb, hr, hml, hown, hts, hlocks, hK, hZ0, hA0⟩ hIx g p0 g1 g3 g4 g5 g6 g7 x10 y11 y12 x14 hlk x18 hFU ((0 : Int32), x14) hq (fun H locs ls hM hS hl => ?_) H locs ls hM hS (lv_sub hl [1, 0] rfl)
        refine lv_iconst (v := 0) hx hb dX5_town_162 (by decide) ?_
        refine lv_istore_n (lv' := [(3, .int (0 : Int32)), (0, .ref (ad (.inr 0)))]) hx hb dX5_town_163 rfl hl (by decide) rfl (fun ls hl => ?_)
        obtain ⟨x24, hq, hf⟩ := hbind hf
        refine w_m_town_L164 ⟨hx, hb, hr, hml, hown, hts, hlocks, hK, hZ0, hA0⟩ hIx g p0 g1 g3 g4 g5 g6 g7 x10 y11 y12 x14 x18 hlk x24 hFU ((0 : Int32), x18) hq (fun H locs ls hM hS hl => ?_) H locs ls hM hS (lv_sub hl [1, 0] rfl)
        refine lv_iconst (v := 0) hx hb dX5_town_206 (by decide) ?_
        refine lv_istore_n (lv' := [(3, .int (0 : Int32)), (0, .ref (ad (.inr 0)))]) hx hb dX5_town_207 rfl hl (by decide) rfl (fun ls hl => ?_)
        obtain ⟨x32, hq, hf⟩ := hbind hf
        refine w_m_town_L208 ⟨hx, hb, hr, hml, hown, hts, hlocks, hK, hZ0, hA0⟩ hIx g p0 g1 g3 g4 g5 g6 g7 x10 y11 y12 x14 x18 x24 hlk x32 hFU ((0 : Int32), x24) hq (fun H locs ls hM hS hl => ?_) H locs ls hM hS (lv_sub hl [1, 0] rfl)
        refine lv_aload_n hx hb dX5_town_262 rfl (lv_at hl 0 rfl) ?_
        refine hr_get (ci := 5) (C := RX5) (T := TX5) (N := 55) (r := .inr 0) hx hb hts in_X5 hown hK hM mS_0 rfl 8 (by decide) (hts _ q1376) rfl (v := .ref (ad (.inr 9))) rfl dX5_town_263 ?_
        refine lv_aload_n hx hb dX5_town_266 rfl (lv_at hl 0 rfl) ?_
        refine hr_get (ci := 5) (C := RX5) (T := TX5) (N := 55) (r := .inr 0) hx hb hts in_X5 hown hK hM mS_0 rfl 7 (by decide) (hts _ q1375) rfl (v := .ref (ad (.inr 8))) rfl dX5_town_267 ?_
        obtain ⟨y33, hq, hf⟩ := hbind hf
        refine hr_callv0 (va_runS (As := [.ref (ad (.inr 9)), .ref (ad (.inr 8))]) (rest := []) ⟨hx, hb, hml, hown, hts⟩ (met_m_copy l D C a0 s0 ad so t lt x32 9 8 ms_9 ms_8 hq) (va_cwS 2 hts (lw_S q1637 q1638 q99 q1639) rfl rfl rfl (by decide +kernel) ⟨Nat.le_of_ble_eq_true rfl, Nat.le_of_ble_eq_true rfl⟩) (hr_preS hZ_c hM hIx hK hZ0 hA0 hS) rfl rfl hl.1 rfl (lv_room (Nat.le_of_ble_eq_true rfl)) dX5_town_270 ⟨Nat.le_of_ble_eq_true rfl, Nat.le_of_ble_eq_true rfl⟩) hS (fun H locs hM hS => ?_)
        refine lv_aload_n hx hb dX5_town_273 rfl (lv_at hl 0 rfl) ?_
        refine lv_iconst (v := 0) hx hb dX5_town_274 (by decide) ?_
        refine hm_put (r := 0) (ci := 5) (C := RX5) (T := TX5) (N := 55) hx hb hts in_X5 tyX5 tyX5_ok nmX5 hown hK hM hIx hS mS_0 rfl 12 (by decide) (hts _ q1380) rfl rfl rfl hf dX5_town_275 (fun g34 H locs hf hM hS => ?_)
        refine lv_aload_n hx hb dX5_town_278 rfl (lv_at hl 0 rfl) ?_
        refine lv_iconst (v := 0) hx hb dX5_town_279 (by decide) ?_
        refine hm_put (r := 0) (ci := 5) (C := RX5) (T := TX5) (N := 55) hx hb hts in_X5 tyX5 tyX5_ok nmX5 hown hK hM hIx hS mS_0 rfl 24 (by decide) (hts _ q1392) rfl rfl rfl hf dX5_town_280 (fun g35 H locs hf hM hS => ?_)
        refine lv_aload_n hx hb dX5_town_283 rfl (lv_at hl 0 rfl) ?_
        refine lv_iconst (v := -1) hx hb dX5_town_284 (by decide) ?_
        refine hm_put (r := 0) (ci := 5) (C := RX5) (T := TX5) (N := 55) hx hb hts in_X5 tyX5 tyX5_ok nmX5 hown hK hM hIx hS mS_0 rfl 32 (by decide) (hts _ q1400) rfl rfl rfl hf dX5_town_285 (fun g36 H locs hf hM hS => ?_)
        refine lv_aload_n hx hb dX5_town_288 rfl (lv_at hl 0 rfl) ?_
        refine lv_iconst (v := 0) hx hb dX5_town_289 (by decide) ?_
        refine hm_putz (r := 0) (ci := 5) (C := RX5) (T := TX5) (N := 55) hx hb hts in_X5 tyX5 tyX5_ok nmX5 hown hK hM hIx hS mS_0 rfl 48 (by decide) (hts _ q1416) rfl rfl rfl hf dX5_town_290 (fun g37 H locs hf hM hS => ?_)
        refine lv_iconst (v := 0) hx hb dX5_town_293 (by decide) ?_
        have eo := Option.some.inj hf
        subst eo
        exact W.iret (v := (0 : Int32)) hx hb hr (fun T ht hW => ⟨⟨(0 : Int32), (), rfl, rfl, by dsimp only; rw [ht]; exact hM⟩, hS.F ht⟩) hS.2.2 dX5_town_294
      · refine lv_aload_n hx hb dX5_town_112 rfl (lv_at hl 0 rfl) ?_
        refine lv_aload_n hx hb dX5_town_113 rfl (lv_at hl 0 rfl) ?_
        refine hr_get (ci := 5) (C := RX5) (T := TX5) (N := 55) (r := .inr 0) hx hb hts in_X5 hown hK hM mS_0 rfl 22 (by decide) (hts _ q1390) rfl (v := .int (x14 0 22)) rfl dX5_town_114 ?_
        refine hm_put (r := 0) (ci := 5) (C := RX5) (T := TX5) (N := 55) hx hb hts in_X5 tyX5 tyX5_ok nmX5 hown hK hM hIx hS mS_0 rfl 23 (by decide) (hts _ q1391) rfl rfl rfl hf dX5_town_117 (fun g38 H locs hf hM hS => ?_)
        refine lv_aload_n hx hb dX5_town_120 rfl (lv_at hl 0 rfl) ?_
        refine hr_get (ci := 5) (C := RX5) (T := TX5) (N := 55) (r := .inr 0) hx hb hts in_X5 hown hK hM mS_0 rfl 6 (by decide) (hts _ q1374) rfl (v := .ref (ad (.inr 7))) rfl dX5_town_121 ?_
        refine lv_iconst (v := 0) hx hb dX5_town_124 (by decide) ?_
        refine lv_dup2_11 hx hb dX5_town_125 rfl rfl ?_
        refine hm_iald (r := 7) hx hb hK hM 0 mS_7 rfl hf dX5_town_126 (fun x39 hf => ?_)
        refine lv_iconst (v := 1) hx hb dX5_town_127 (by decide) ?_
        refine lv_iadd hx hb dX5_town_128 ?_
        refine hm_iast (r := 7) hx hb hK hM hIx hS 0 mS_7 rfl hf dX5_town_129 (fun g40 H locs hf hM hS => ?_)
        refine lv_aload_n hx hb dX5_town_130 rfl (lv_at hl 0 rfl) ?_
        refine hr_get (ci := 5) (C := RX5) (T := TX5) (N := 55) (r := .inr 0) hx hb hts in_X5 hown hK hM mS_0 rfl 21 (by decide) (hts _ q1389) rfl (v := .int (g40 0 21)) rfl dX5_town_131 ?_
        have eo := Option.some.inj hf
        subst eo
        exact W.iret (v := (g40 0 21)) hx hb hr (fun T ht hW => ⟨⟨(g40 0 21), (), rfl, rfl, by dsimp only; rw [ht]; exact hM⟩, hS.F ht⟩) hS.2.2 dX5_town_134
    · exact w_m_town_B17 ⟨hx, hb, hr, hml, hown, hts, hlocks, hK, hZ0, hA0⟩ hIx g p0 g1 hlk hf hM hS (lv_sub hl [0] rfl)
set_option maxHeartbeats 4000000 in
set_option maxRecDepth 100000 in
theorem met_m_town (l : Launch) (D : va_G) (C : Nat → Nat) (a0 : Array Value) (s0 : State) (ad : Rl → Nat) (so : Nat → Option hS) (t : hSt) (lt : Rl → Nat → Int64) (g : hSt) (p0 : Int32) (hlk : ∀ i, i < 5 → hLi s0 (C (100 + i)) (txk i)) {o : Int32 × hSt} (hf : m_town g p0 = some o) : Met l yX5_town (ws_ yX5_town cX5_town 4 (some .int)) rm_m_town (va_Pc [.ref (ad (.inr 0)), .int p0] (hB D vwCl (hT C) (hA s0) (hZ a0 s0) ad (Sum.elim so (mSH C)) (Sum.elim t g) lt)) (va_Qi (fun (r : Int32) (_ : Unit) => r = o.1) (fun (_ : Unit) (U : State) => hW D vwCl ad (Sum.elim so (mSH C)) (Sum.elim t o.2) lt U.heap) (hA s0)) 0 0 (hA s0) := by
  refine Met.ofW (cc := cX5_town) (maxL := 4) (ret := (some .int)) (by decide) rfl ?_
  intro p e s m args below meth c s₁ B hml hv
  obtain ⟨rfl, hM, hIx, hK, hZ0, hA0⟩ := hv
  have hl := lv_entry ([.ref (ad (.inr 0)), .int p0]) (n := 4) (Nat.le_of_ble_eq_true rfl)
  rw [lg_entry_eq]
  generalize (lg_sl ([.ref (ad (.inr 0)), .int p0]) ++ List.replicate (4 - (lg_sl ([.ref (ad (.inr 0)), .int p0])).length) Slot.unset).toArray = ls at hl ⊢
  have hl : lv_has ls 4 [(0, .ref (ad (.inr 0))), (1, .int p0)] := hl
  exact w_m_town ⟨B.exec, B.bytes, B.returns, hml, findClass_of_methodNamed B.named, fun w h => atoms_spec (ws := ws_ yX5_town cX5_town 4 (some .int)) B.pre w (List.mem_cons_of_mem _ h), B.notSynchronized, hK, hZ0, hA0⟩ hIx g p0 hlk hf hM va_S.rf hl

