/-! PURE FUNCTIONS of the reference (printed by tools/gen.py out of the decode rows): m_f mirrors HeavyGiftsModel.f -/
set_option maxRecDepth 100000
def m_begin_B27 (r0 : Nat) (v1_2 : Int32) (g_2 : hSt) (k0_27 : Int32) (k1_27 : Int32) : Option ((Int32 × hSt) ⊕ (hSt)) :=
  hwr 30 g_2 r0 k1_27 k0_27 fun g1 => hlet (v1_2 + (1 : Int32)) fun y1_2 => some (.inl (y1_2, g1))
def m_begin_L2 (r0 : Nat) (v1_2 : Int32) (g_2 : hSt) : Option ((Int32 × hSt) ⊕ (hSt)) :=
  if (30 : Int32) ≤ v1_2 then (some (.inr g_2)) else (if v1_2 < (12 : Int32) then (m_begin_B27 r0 v1_2 g_2 (-1 : Int32) v1_2) else (if v1_2 < (24 : Int32) then (m_begin_B27 r0 v1_2 g_2 (0 : Int32) v1_2) else (m_begin_B27 r0 v1_2 g_2 (-1 : Int32) v1_2)))
def m_begin (g : hSt) (r0 : Nat) : Option (hSt) :=
  (hiter (fun q : Int32 × hSt => m_begin_L2 r0 q.1 q.2) hFU ((0 : Int32), g)).bind fun x3 => some x3

def m_thrown (g : hSt) : Option (Int32) :=
  some (g 0 1)

def m_feed_B76 (v6_23 : Int32) (g_23 : hSt) (k0_76 : Int32) : Option ((Int32 × hSt) ⊕ (hSt)) :=
  hwr 700 g_23 14 (g_23 0 14) ((k0_76 >>> (((24 : Int32) - ((8 : Int32) * (v6_23 - v6_23 / (4 : Int32) * (4 : Int32)))) &&& (31 : Int32))) &&& (255 : Int32)) fun g2 => hpt g2 0 14 ((g2 0 14) + (1 : Int32)) fun g3 => hlet (v6_23 + (1 : Int32)) fun y6_4 => some (.inl (y6_4, g3))
def m_feed_L23 (p0 : Int32) (p1 : Int32) (p2 : Int32) (p3 : Int32) (p4 : Int32) (v6_23 : Int32) (g_23 : hSt) : Option ((Int32 × hSt) ⊕ (hSt)) :=
  if (20 : Int32) ≤ v6_23 then (some (.inr g_23)) else (if (4 : Int32) ≤ v6_23 then (if (8 : Int32) ≤ v6_23 then (if (12 : Int32) ≤ v6_23 then (if (16 : Int32) ≤ v6_23 then (m_feed_B76 v6_23 g_23 p4) else (m_feed_B76 v6_23 g_23 p3)) else (m_feed_B76 v6_23 g_23 p2)) else (m_feed_B76 v6_23 g_23 p1)) else (m_feed_B76 v6_23 g_23 p0))
def m_feed (g : hSt) (p0 : Int32) (p1 : Int32) (p2 : Int32) (p3 : Int32) (p4 : Int32) : Option (Int32 × hSt) :=
  hpt g 0 1 (0 : Int32) fun g1 => if ((g1 0 14) + (20 : Int32)) ≤ (700 : Int32) then ((hiter (fun q : Int32 × hSt => m_feed_L23 p0 p1 p2 p3 p4 q.1 q.2) hFU ((0 : Int32), g1)).bind fun x5 => some ((x5 0 14), x5)) else (some ((-1 : Int32), g1))

def m_fail (g : hSt) (p0 : Int32) : Option (Int32 × hSt) :=
  hpt g 0 1 p0 fun g1 => some ((0 : Int32), g1)

def m_byteAt (g : hSt) (p0 : Int32) : Option (Int32) :=
  if (g 0 16) ≤ p0 then (some (-1 : Int32)) else ((hrd 700 (g 14) p0).bind fun x1 => some x1)

def m_isLetter_B16 : Option (Int32) :=
  some (0 : Int32)
def m_isLetter (p0 : Int32) : Option (Int32) :=
  if p0 < (97 : Int32) then (m_isLetter_B16) else (if (122 : Int32) < p0 then (m_isLetter_B16) else (some (1 : Int32)))

def m_isDigit_B16 : Option (Int32) :=
  some (0 : Int32)
def m_isDigit (p0 : Int32) : Option (Int32) :=
  if p0 < (48 : Int32) then (m_isDigit_B16) else (if (57 : Int32) < p0 then (m_isDigit_B16) else (some (1 : Int32)))

def m_stepOn_B26 (g_0 : hSt) : Option ((hSt) ⊕ (hSt)) :=
  hpt g_0 0 15 ((g_0 0 15) + (1 : Int32)) fun g2 => some (.inl g2)
def m_stepOn_L0 (g_0 : hSt) : Option ((hSt) ⊕ (hSt)) :=
  (m_byteAt g_0 (g_0 0 15)).bind fun y1 => if y1 = (32 : Int32) then (m_stepOn_B26 g_0) else ((m_byteAt g_0 (g_0 0 15)).bind fun y3 => if y3 = (10 : Int32) then (m_stepOn_B26 g_0) else (some (.inr g_0)))
def m_stepOn_B211 (g_211 : hSt) : Option (hSt) :=
  hpt g_211 0 20 (g_211 0 15) fun g11 => some g11
def m_stepOn_B208 (g9 : hSt) (k0_208 : Int32) : Option (hSt) :=
  hpt g9 0 17 k0_208 fun g10 => m_stepOn_B211 g10
def m_stepOn_L123 (g_123 : hSt) : Option ((hSt) ⊕ (hSt)) :=
  (m_byteAt g_123 (g_123 0 15)).bind fun y13 => (m_isDigit y13).bind fun y14 => if y14 = 0 then (some (.inr g_123)) else ((m_byteAt g_123 (g_123 0 15)).bind fun y15 => hpt g_123 0 18 (hmin (100000 : Int32) ((((10 : Int32) * (g_123 0 18)) + y15) - (48 : Int32))) fun g16 => hpt g16 0 15 ((g16 0 15) + (1 : Int32)) fun g17 => some (.inl g17))
def m_stepOn_L76 (g_76 : hSt) : Option ((hSt) ⊕ (hSt)) :=
  (m_byteAt g_76 (g_76 0 15)).bind fun y20 => (m_isLetter y20).bind fun y21 => if y21 = 0 then (some (.inr g_76)) else (hpt g_76 0 15 ((g_76 0 15) + (1 : Int32)) fun g22 => some (.inl g22))
def m_stepOn (g : hSt) : Option (hSt) :=
  (hiter (fun q : hSt => m_stepOn_L0 q) hFU g).bind fun x4 => hpt x4 0 19 (x4 0 15) fun g5 => (m_byteAt g5 (g5 0 15)).bind fun y6 => if y6 = (-1 : Int32) then (hpt g5 0 17 (0 : Int32) fun g25 => m_stepOn_B211 g25) else ((m_isLetter y6).bind fun y7 => if y7 = 0 then ((m_isDigit y6).bind fun y8 => if y8 = 0 then (hpt g5 0 15 ((g5 0 15) + (1 : Int32)) fun g9 => if y6 = (59 : Int32) then (m_stepOn_B208 g9 (3 : Int32)) else (m_stepOn_B208 g9 (4 : Int32))) else (hpt g5 0 18 (0 : Int32) fun g12 => (hiter (fun q : hSt => m_stepOn_L123 q) hFU g12).bind fun x18 => hpt x18 0 17 (2 : Int32) fun g19 => m_stepOn_B211 g19)) else ((hiter (fun q : hSt => m_stepOn_L76 q) hFU g5).bind fun x23 => hpt x23 0 17 (1 : Int32) fun g24 => m_stepOn_B211 g24))

def m_wrong (g : hSt) (p0 : Int32) : Option (hSt) :=
  if (g 0 21) = 0 then (hpt g 0 21 p0 fun g1 => hpt g1 0 22 (g1 0 19) fun g2 => some g2) else (some g)

def m_readNumber_B59 (g_59 : hSt) : Option (Int32 × hSt) :=
  hlet (g_59 0 18) fun y3_2 => if (g_59 0 21) = 0 then ((m_stepOn g_59).bind fun y3 => some (y3_2, y3)) else (some (y3_2, g_59))
def m_readNumber_B54 (g : hSt) : Option (Int32 × hSt) :=
  (m_wrong g (2 : Int32)).bind fun y1 => m_readNumber_B59 y1
def m_readNumber (g : hSt) (p0 : Int32) (p1 : Int32) : Option (Int32 × hSt) :=
  if (g 0 21) = 0 then (if (g 0 17) = (2 : Int32) then (if (4 : Int32) < ((g 0 20) - (g 0 19)) then (m_readNumber_B54 g) else (if (g 0 18) < p0 then (m_readNumber_B54 g) else (if (g 0 18) ≤ p1 then (m_readNumber_B59 g) else (m_readNumber_B54 g)))) else ((m_wrong g (1 : Int32)).bind fun y4 => m_readNumber_B59 y4)) else (some ((0 : Int32), g))

def m_personNow_B64 (g_64 : hSt) : Option (Int32 × hSt) :=
  if (g_64 0 21) = 0 then (some ((g_64 0 18), g_64)) else (some ((0 : Int32), g_64))
def m_personNow (g : hSt) : Option (Int32 × hSt) :=
  if (g 0 21) = 0 then (if (g 0 17) = (2 : Int32) then (if ((g 0 20) - (g 0 19)) ≤ (4 : Int32) then ((hrd 8 (g 3) (4 : Int32)).bind fun x1 => if (g 0 18) < x1 then (m_personNow_B64 g) else ((m_wrong g (3 : Int32)).bind fun y2 => m_personNow_B64 y2)) else ((m_wrong g (2 : Int32)).bind fun y3 => m_personNow_B64 y3)) else ((m_wrong g (1 : Int32)).bind fun y4 => m_personNow_B64 y4)) else (some ((0 : Int32), g))

def m_readPerson (g : hSt) : Option (Int32 × hSt) :=
  (m_personNow g).bind fun y1 => if (y1.2 0 21) = 0 then ((m_stepOn y1.2).bind fun y2 => some (y1.1, y2)) else (some (y1.1, y1.2))

def m_copy_L2 (r0 : Nat) (r1 : Nat) (v2_2 : Int32) (g_2 : hSt) : Option ((Int32 × hSt) ⊕ (hSt)) :=
  if (30 : Int32) ≤ v2_2 then (some (.inr g_2)) else ((hrd 30 (g_2 r0) v2_2).bind fun x1 => hwr 30 g_2 r1 v2_2 x1 fun g2 => hlet (v2_2 + (1 : Int32)) fun y2_3 => some (.inl (y2_3, g2)))
def m_copy (g : hSt) (r0 : Nat) (r1 : Nat) : Option (hSt) :=
  (hiter (fun q : Int32 × hSt => m_copy_L2 r0 r1 q.1 q.2) hFU ((0 : Int32), g)).bind fun x4 => some x4

def m_fault (g : hSt) : Option (Int32 × hSt) :=
  hpt g 0 1 (0 : Int32) fun g1 => some ((g1 0 23), g1)

def m_isIn_B14 : Option (Int32) :=
  some (0 : Int32)
def m_isIn (p0 : Int32) (p1 : Int32) (p2 : Int32) : Option (Int32) :=
  if p0 < p1 then (m_isIn_B14) else (if p2 < p0 then (m_isIn_B14) else (some (1 : Int32)))

def m_count (g : hSt) (p0 : Int32) : Option (Int32 × hSt) :=
  hpt g 0 1 (0 : Int32) fun g1 => (m_isIn p0 (0 : Int32) (3 : Int32)).bind fun y2 => if y2 = 0 then (if p0 = 4 then (some ((g1 0 12), g1)) else (if p0 = 5 then (some ((g1 0 24), g1)) else (if p0 = 6 then (some ((g1 0 14), g1)) else (if p0 = 7 then ((hrd 2 (g1 7) (p0 - (7 : Int32))).bind fun x4 => some (x4, g1)) else (if p0 = 8 then ((hrd 2 (g1 7) (p0 - (7 : Int32))).bind fun x5 => some (x5, g1)) else ((m_fail g1 (1 : Int32)).bind fun y3 => some (y3.1, y3.2))))))) else ((hrd 8 (g1 3) p0).bind fun x6 => some (x6, g1))

def m_isPerson (g : hSt) (p0 : Int32) : Option (Int32) :=
  (hrd 8 (g 3) (0 : Int32)).bind fun x1 => (m_isIn p0 (0 : Int32) (x1 - (1 : Int32))).bind fun y2 => if y2 = 0 ∨ y2 = 1 then some y2 else none

def m_hasOf_B33 (v4_5 : Int32) (k0_33 : Int32) (k1_33 : Int32) : Option ((Int32 × Int32) ⊕ (Int32)) :=
  hlet (k1_33 ||| k0_33) fun y3_3 => hlet (v4_5 + (1 : Int32)) fun y4_4 => some (.inl (y3_3, y4_4))
def m_hasOf_L5 (g : hSt) (r0 : Nat) (p1 : Int32) (v3_5 : Int32) (v4_5 : Int32) : Option ((Int32 × Int32) ⊕ (Int32)) :=
  (hrd 8 (g 3) (1 : Int32)).bind fun x1 => if x1 ≤ v4_5 then (some (.inr v3_5)) else ((hrd 30 (g r0) v4_5).bind fun x2 => if x2 = p1 then (m_hasOf_B33 v4_5 ((1 : Int32) <<< (v4_5 &&& (31 : Int32))) v3_5) else (m_hasOf_B33 v4_5 (0 : Int32) v3_5))
def m_hasOf (g : hSt) (r0 : Nat) (p1 : Int32) : Option (Int32) :=
  (hiter (fun q : Int32 × Int32 => m_hasOf_L5 g r0 p1 q.1 q.2) hFU ((0 : Int32), (0 : Int32))).bind fun x5 => some x5

def m_worthOf_B34 (v3_4 : Int32) (k0_34 : Int32) (k1_34 : Int32) : Option ((Int32 × Int32) ⊕ (Int32)) :=
  hlet (k1_34 + k0_34) fun y2_2 => hlet (v3_4 + (1 : Int32)) fun y3_3 => some (.inl (y2_2, y3_3))
def m_worthOf_L4 (g : hSt) (p0 : Int32) (v2_4 : Int32) (v3_4 : Int32) : Option ((Int32 × Int32) ⊕ (Int32)) :=
  (hrd 8 (g 3) (1 : Int32)).bind fun x1 => if x1 ≤ v3_4 then (some (.inr v2_4)) else (if ((p0 >>> (v3_4 &&& (31 : Int32))) &&& (1 : Int32)) = (1 : Int32) then ((hrd 24 (g 6) v3_4).bind fun x4 => m_worthOf_B34 v3_4 x4 v2_4) else (m_worthOf_B34 v3_4 (0 : Int32) v2_4))
def m_worthOf (g : hSt) (p0 : Int32) : Option (Int32) :=
  (hiter (fun q : Int32 × Int32 => m_worthOf_L4 g p0 q.1 q.2) hFU ((0 : Int32), (0 : Int32))).bind fun x5 => some x5

def m_weightOf_B34 (v3_4 : Int32) (k0_34 : Int32) (k1_34 : Int32) : Option ((Int32 × Int32) ⊕ (Int32)) :=
  hlet (k1_34 + k0_34) fun y2_2 => hlet (v3_4 + (1 : Int32)) fun y3_3 => some (.inl (y2_2, y3_3))
def m_weightOf_L4 (g : hSt) (p0 : Int32) (v2_4 : Int32) (v3_4 : Int32) : Option ((Int32 × Int32) ⊕ (Int32)) :=
  (hrd 8 (g 3) (1 : Int32)).bind fun x1 => if x1 ≤ v3_4 then (some (.inr v2_4)) else (if ((p0 >>> (v3_4 &&& (31 : Int32))) &&& (1 : Int32)) = (1 : Int32) then ((hrd 12 (g 10) v3_4).bind fun x4 => m_weightOf_B34 v3_4 x4 v2_4) else (m_weightOf_B34 v3_4 (0 : Int32) v2_4))
def m_weightOf (g : hSt) (p0 : Int32) : Option (Int32) :=
  (hiter (fun q : Int32 × Int32 => m_weightOf_L4 g p0 q.1 q.2) hFU ((0 : Int32), (0 : Int32))).bind fun x5 => some x5

def m_person (g : hSt) (p0 : Int32) (p1 : Int32) : Option (Int32 × hSt) :=
  hpt g 0 1 (0 : Int32) fun g1 => (m_isPerson g1 p0).bind fun y2 => if y2 = 0 then ((m_fail g1 (1 : Int32)).bind fun y13 => some (y13.1, y13.2)) else (if p1 = 0 then ((hrd 12 (g1 4) p0).bind fun x4 => some (x4, g1)) else (if p1 = 1 then ((hrd 30 (g1 8) ((12 : Int32) + p0)).bind fun x5 => some (x5, g1)) else (if p1 = 2 then ((hrd 30 (g1 8) ((18 : Int32) + p0)).bind fun x6 => some (x6, g1)) else (if p1 = 3 then ((hrd 30 (g1 8) ((24 : Int32) + p0)).bind fun x7 => some (x7, g1)) else (if p1 = 4 then ((m_hasOf g1 8 p0).bind fun y8 => some (y8, g1)) else (if p1 = 5 then ((m_hasOf g1 8 p0).bind fun y9 => (m_worthOf g1 y9).bind fun y10 => some (y10, g1)) else (if p1 = 6 then ((m_hasOf g1 8 p0).bind fun y11 => (m_weightOf g1 y11).bind fun y12 => some (y12, g1)) else ((m_fail g1 (1 : Int32)).bind fun y3 => some (y3.1, y3.2)))))))))

def m_isThing (g : hSt) (p0 : Int32) : Option (Int32) :=
  (hrd 8 (g 3) (1 : Int32)).bind fun x1 => (m_isIn p0 (0 : Int32) (x1 - (1 : Int32))).bind fun y2 => if y2 = 0 ∨ y2 = 1 then some y2 else none

def m_thing (g : hSt) (p0 : Int32) (p1 : Int32) : Option (Int32 × hSt) :=
  hpt g 0 1 (0 : Int32) fun g1 => (m_isThing g1 p0).bind fun y2 => if y2 = 0 then ((m_fail g1 (1 : Int32)).bind fun y8 => some (y8.1, y8.2)) else (if p1 = 0 then ((hrd 12 (g1 10) p0).bind fun x7 => some (x7, g1)) else (if p1 = (1 : Int32) then ((hrd 24 (g1 6) p0).bind fun x6 => some (x6, g1)) else (if p1 = (2 : Int32) then ((hrd 30 (g1 8) p0).bind fun x5 => some (x5, g1)) else (if p1 = (3 : Int32) then ((hrd 24 (g1 12) p0).bind fun x4 => if x4 = 0 then (some ((0 : Int32), g1)) else (some ((1 : Int32), g1))) else ((m_fail g1 (1 : Int32)).bind fun y3 => some (y3.1, y3.2))))))

def m_lightest (g : hSt) (p0 : Int32) : Option (Int32) :=
  (hrd 8 (g 3) (3 : Int32)).bind fun x1 => some (hmax (1 : Int32) (p0 - x1))

def m_troubleOf_B119 (g : hSt) (p0 : Int32) (p1 : Int32) (p2 : Int32) : Option (Int32) :=
  (m_weightOf g p1).bind fun y8 => hlet (y8 + p2) fun y5_9 => (hrd 30 (g 8) ((18 : Int32) + p0)).bind fun x10 => (m_lightest g x10).bind fun y11 => if y11 ≤ y5_9 then ((hrd 30 (g 8) ((18 : Int32) + p0)).bind fun x12 => (hrd 8 (g 3) (3 : Int32)).bind fun x13 => if y5_9 ≤ (x12 + x13) then (some (0 : Int32)) else (some (6 : Int32))) else (some (5 : Int32))
def m_troubleOf (g : hSt) (p0 : Int32) (p1 : Int32) (p2 : Int32) (p3 : Int32) : Option (Int32) :=
  (m_isPerson g p0).bind fun y1 => if y1 = 0 then (some (1 : Int32)) else ((m_isPerson g p3).bind fun y2 => if y2 = 0 then (some (1 : Int32)) else (if p1 < 0 then (some (1 : Int32)) else ((hrd 8 (g 3) (1 : Int32)).bind fun x3 => if ((1 : Int32) <<< (x3 &&& (31 : Int32))) ≤ p1 then (some (1 : Int32)) else (if 0 ≤ p2 then ((hrd 30 (g 8) ((18 : Int32) + p0)).bind fun x4 => if x4 = 0 then (some (2 : Int32)) else ((m_hasOf g 8 p0).bind fun y5 => if (p1 &&& (y5 ^^^ (-1 : Int32))) = 0 then ((hrd 30 (g 8) ((12 : Int32) + p0)).bind fun x6 => if p2 ≤ x6 then (if p3 = p0 then (some (4 : Int32)) else ((hrd 30 (g 8) ((24 : Int32) + p0)).bind fun x7 => if x7 = (-1 : Int32) then (m_troubleOf_B119 g p0 p1 p2) else ((hrd 30 (g 8) ((24 : Int32) + p0)).bind fun x14 => if x14 = p3 then (m_troubleOf_B119 g p0 p1 p2) else (some (4 : Int32))))) else (some (3 : Int32))) else (some (3 : Int32)))) else (some (1 : Int32))))))

def m_judge (g : hSt) (p0 : Int32) (p1 : Int32) (p2 : Int32) (p3 : Int32) : Option (Int32 × hSt) :=
  hpt g 0 1 (0 : Int32) fun g1 => (m_troubleOf g1 p0 p1 p2 p3).bind fun y2 => some (y2, g1)

def m_make_L13 (r0 : Nat) (p2 : Int32) (p4 : Int32) (v7_13 : Int32) (g_13 : hSt) : Option ((Int32 × hSt) ⊕ (hSt)) :=
  (hrd 8 (g_13 3) (1 : Int32)).bind fun x3 => if x3 ≤ v7_13 then (some (.inr g_13)) else (if ((p2 >>> (v7_13 &&& (31 : Int32))) &&& (1 : Int32)) = (1 : Int32) then (hwr 30 g_13 r0 v7_13 p4 fun g5 => hlet (v7_13 + (1 : Int32)) fun y7_6 => some (.inl (y7_6, g5))) else (hlet (v7_13 + (1 : Int32)) fun y7_4 => some (.inl (y7_4, g_13))))
def m_make (g : hSt) (r0 : Nat) (p1 : Int32) (p2 : Int32) (p3 : Int32) (p4 : Int32) : Option (Int32 × hSt) :=
  (m_weightOf g p2).bind fun y1 => hlet (y1 + p3) fun y6_2 => (hiter (fun q : Int32 × hSt => m_make_L13 r0 p2 p4 q.1 q.2) hFU ((0 : Int32), g)).bind fun x7 => (hrd 30 (x7 r0) ((12 : Int32) + p1)).bind fun x8 => hwr 30 x7 r0 ((12 : Int32) + p1) (x8 - p3) fun g9 => (hrd 30 (g9 r0) ((12 : Int32) + p4)).bind fun x10 => hwr 30 g9 r0 ((12 : Int32) + p4) (x10 + p3) fun g11 => hwr 30 g11 r0 ((18 : Int32) + p1) (0 : Int32) fun g12 => hwr 30 g12 r0 ((24 : Int32) + p1) (-1 : Int32) fun g13 => hwr 30 g13 r0 ((18 : Int32) + p4) y6_2 fun g14 => (hrd 8 (g14 3) (2 : Int32)).bind fun x15 => if x15 = 0 then (hwr 30 g14 r0 ((24 : Int32) + p4) p1 fun g17 => some (y6_2, g17)) else (hwr 30 g14 r0 ((24 : Int32) + p4) (-1 : Int32) fun g16 => some (y6_2, g16))

def m_makeNow (g : hSt) (p0 : Int32) (p1 : Int32) (p2 : Int32) (p3 : Int32) : Option (hSt) :=
  hlet ((9 : Int32) * (g 0 24)) fun y5_1 => hwr 1800 g 26 y5_1 p0 fun g2 => hwr 1800 g2 26 (y5_1 + (1 : Int32)) p1 fun g3 => hwr 1800 g3 26 (y5_1 + (2 : Int32)) p2 fun g4 => hwr 1800 g4 26 (y5_1 + (3 : Int32)) p3 fun g5 => (hrd 30 (g5 8) ((18 : Int32) + p0)).bind fun x6 => hwr 1800 g5 26 (y5_1 + (5 : Int32)) x6 fun g7 => (hrd 30 (g7 8) ((24 : Int32) + p0)).bind fun x8 => hwr 1800 g7 26 (y5_1 + (6 : Int32)) x8 fun g9 => (hrd 30 (g9 8) ((18 : Int32) + p3)).bind fun x10 => hwr 1800 g9 26 (y5_1 + (7 : Int32)) x10 fun g11 => (hrd 30 (g11 8) ((24 : Int32) + p3)).bind fun x12 => hwr 1800 g11 26 (y5_1 + (8 : Int32)) x12 fun g13 => (m_make g13 8 p0 p1 p2 p3).bind fun y14 => hwr 1800 y14.2 26 (y5_1 + (4 : Int32)) y14.1 fun g15 => hpt g15 0 24 ((g15 0 24) + (1 : Int32)) fun g16 => some g16

def m_give_B38 (p0 : Int32) (p1 : Int32) (p2 : Int32) (p3 : Int32) (g1 : hSt) (k0_38 : Int32) : Option (Int32 × hSt) :=
  if k0_38 = 0 then ((m_makeNow g1 p0 p1 p2 p3).bind fun y3 => some ((0 : Int32), y3)) else ((hrd 2 (g1 7) (1 : Int32)).bind fun x4 => hwr 2 g1 7 (1 : Int32) (x4 + (1 : Int32)) fun g5 => some (k0_38, g5))
def m_give_B36 (p0 : Int32) (p1 : Int32) (p2 : Int32) (p3 : Int32) (g1 : hSt) (y2 : Int32) : Option (Int32 × hSt) :=
  m_give_B38 p0 p1 p2 p3 g1 y2
def m_give (g : hSt) (p0 : Int32) (p1 : Int32) (p2 : Int32) (p3 : Int32) : Option (Int32 × hSt) :=
  hpt g 0 1 (0 : Int32) fun g1 => (m_troubleOf g1 p0 p1 p2 p3).bind fun y2 => if y2 = 0 then (if (g1 0 24) = (200 : Int32) then (m_give_B38 p0 p1 p2 p3 g1 (7 : Int32)) else (m_give_B36 p0 p1 p2 p3 g1 y2)) else (m_give_B36 p0 p1 p2 p3 g1 y2)

def m_undo_L51 (y1_3 : Int32) (x4 : Int32) (v4_51 : Int32) (g_51 : hSt) : Option ((Int32 × hSt) ⊕ (hSt)) :=
  (hrd 8 (g_51 3) (1 : Int32)).bind fun x6 => if x6 ≤ v4_51 then (some (.inr g_51)) else ((hrd 1800 (g_51 26) (y1_3 + (1 : Int32))).bind fun x7 => if ((x7 >>> (v4_51 &&& (31 : Int32))) &&& (1 : Int32)) = (1 : Int32) then (hwr 30 g_51 8 v4_51 x4 fun g9 => hlet (v4_51 + (1 : Int32)) fun y4_10 => some (.inl (y4_10, g9))) else (hlet (v4_51 + (1 : Int32)) fun y4_8 => some (.inl (y4_8, g_51))))
def m_undo (g : hSt) : Option (Int32 × hSt) :=
  hpt g 0 1 (0 : Int32) fun g1 => if (g1 0 24) = 0 then (some ((-1 : Int32), g1)) else (hpt g1 0 24 ((g1 0 24) - (1 : Int32)) fun g2 => hlet ((9 : Int32) * (g2 0 24)) fun y1_3 => (hrd 1800 (g2 26) y1_3).bind fun x4 => (hrd 1800 (g2 26) (y1_3 + (3 : Int32))).bind fun x5 => (hiter (fun q : Int32 × hSt => m_undo_L51 y1_3 x4 q.1 q.2) hFU ((0 : Int32), g2)).bind fun x11 => (hrd 30 (x11 8) ((12 : Int32) + x4)).bind fun x12 => (hrd 1800 (x11 26) (y1_3 + (2 : Int32))).bind fun x13 => hwr 30 x11 8 ((12 : Int32) + x4) (x12 + x13) fun g14 => (hrd 30 (g14 8) ((12 : Int32) + x5)).bind fun x15 => (hrd 1800 (g14 26) (y1_3 + (2 : Int32))).bind fun x16 => hwr 30 g14 8 ((12 : Int32) + x5) (x15 - x16) fun g17 => (hrd 1800 (g17 26) (y1_3 + (5 : Int32))).bind fun x18 => hwr 30 g17 8 ((18 : Int32) + x4) x18 fun g19 => (hrd 1800 (g19 26) (y1_3 + (6 : Int32))).bind fun x20 => hwr 30 g19 8 ((24 : Int32) + x4) x20 fun g21 => (hrd 1800 (g21 26) (y1_3 + (7 : Int32))).bind fun x22 => hwr 30 g21 8 ((18 : Int32) + x5) x22 fun g23 => (hrd 1800 (g23 26) (y1_3 + (8 : Int32))).bind fun x24 => hwr 30 g23 8 ((24 : Int32) + x5) x24 fun g25 => some ((g25 0 24), g25))

def m_gift_B42 (g1 : hSt) : Option (Int32 × hSt) :=
  (m_fail g1 (1 : Int32)).bind fun y3 => some (y3.1, y3.2)
def m_gift (g : hSt) (p0 : Int32) (p1 : Int32) : Option (Int32 × hSt) :=
  hpt g 0 1 (0 : Int32) fun g1 => (m_isIn p0 (0 : Int32) ((g1 0 24) - (1 : Int32))).bind fun y2 => if y2 = 0 then (m_gift_B42 g1) else ((m_isIn p1 (0 : Int32) (4 : Int32)).bind fun y4 => if y4 = 0 then (m_gift_B42 g1) else ((hrd 1800 (g1 26) (((9 : Int32) * p0) + p1)).bind fun x5 => some (x5, g1)))

def m_sandFor_B85 : Option (Int32) :=
  some (-1 : Int32)
def m_sandFor (g : hSt) (r0 : Nat) (p1 : Int32) (p2 : Int32) (p3 : Int32) : Option (Int32) :=
  if p3 = 0 then (some (-1 : Int32)) else ((hrd 8 (g 3) (0 : Int32)).bind fun x1 => if x1 < (2 : Int32) then (some (-1 : Int32)) else ((m_hasOf g r0 p1).bind fun y2 => if (p2 &&& (y2 ^^^ (-1 : Int32))) = 0 then ((m_weightOf g p2).bind fun y3 => (m_lightest g p3).bind fun y4 => hlet (hmax (0 : Int32) (y4 - y3)) fun y6_5 => (hrd 8 (g 3) (3 : Int32)).bind fun x6 => if (p3 + x6) < (y3 + y6_5) then (m_sandFor_B85) else ((hrd 30 (g r0) ((12 : Int32) + p1)).bind fun x7 => if x7 < y6_5 then (m_sandFor_B85) else (some y6_5))) else (some (-1 : Int32))))

def m_fits (g : hSt) (r0 : Nat) (p1 : Int32) (p2 : Int32) : Option (Int32) :=
  (hrd 30 (g r0) ((18 : Int32) + p1)).bind fun x1 => (m_sandFor g r0 p1 p2 x1).bind fun y2 => if y2 = (-1 : Int32) then (some (0 : Int32)) else (some (1 : Int32))

def m_sets_B54 (v3_23 : Int32) (k0_54 : Int32) (k1_54 : Int32) : Option ((Int32 × Int32) ⊕ (Int32)) :=
  hlet (k1_54 + k0_54) fun y2_5 => hlet (v3_23 + (1 : Int32)) fun y3_6 => some (.inl (y2_5, y3_6))
def m_sets_L23 (p0 : Int32) (g1 : hSt) (v2_23 : Int32) (v3_23 : Int32) : Option ((Int32 × Int32) ⊕ (Int32)) :=
  (hrd 8 (g1 3) (1 : Int32)).bind fun x3 => if ((1 : Int32) <<< (x3 &&& (31 : Int32))) ≤ v3_23 then (some (.inr v2_23)) else ((m_fits g1 8 p0 v3_23).bind fun y4 => if y4 = 0 then (m_sets_B54 v3_23 (0 : Int32) v2_23) else (m_sets_B54 v3_23 (1 : Int32) v2_23))
def m_sets (g : hSt) (p0 : Int32) : Option (Int32 × hSt) :=
  hpt g 0 1 (0 : Int32) fun g1 => (m_isPerson g1 p0).bind fun y2 => if y2 = 0 then ((m_fail g1 (1 : Int32)).bind fun y8 => some (y8.1, y8.2)) else ((hiter (fun q : Int32 × Int32 => m_sets_L23 p0 g1 q.1 q.2) hFU ((0 : Int32), (0 : Int32))).bind fun x7 => some (x7, g1))

def m_bitsOf_L4 (v1_4 : Int32) (v2_4 : Int32) : Option ((Int32 × Int32) ⊕ (Int32)) :=
  if v2_4 = 0 then (some (.inr v1_4)) else (hlet (v1_4 + (1 : Int32)) fun y1_1 => hlet (v2_4 &&& (v2_4 - (1 : Int32))) fun y2_2 => some (.inl (y1_1, y2_2)))
def m_bitsOf (p0 : Int32) : Option (Int32) :=
  (hiter (fun q : Int32 × Int32 => m_bitsOf_L4 q.1 q.2) hFU ((0 : Int32), p0)).bind fun x3 => some x3

def m_rankOf (g : hSt) (p0 : Int32) (p1 : Int32) : Option (Int32) :=
  (hrd 12 (g 4) p0).bind fun x1 => if x1 = (1 : Int32) then ((m_worthOf g p1).bind fun y4 => some y4) else ((hrd 12 (g 4) p0).bind fun x2 => if x2 = (2 : Int32) then ((m_bitsOf p1).bind fun y3 => some y3) else (some (0 : Int32)))

def m_choiceOf_B103 (v5_28 : Int32) : Option ((Int32 × Int32) ⊕ (Int32)) :=
  hlet (v5_28 + (1 : Int32)) fun y5_5 => some (.inl (v5_28, y5_5))
def m_choiceOf_B66 (g : hSt) (r0 : Nat) (p1 : Int32) (v4_28 : Int32) (v5_28 : Int32) : Option ((Int32 × Int32) ⊕ (Int32)) :=
  (m_fits g r0 p1 v5_28).bind fun y4 => if y4 = 0 then (hlet (v5_28 + (1 : Int32)) fun y5_9 => some (.inl (v4_28, y5_9))) else (if v4_28 = (-1 : Int32) then (m_choiceOf_B103 v5_28) else ((m_rankOf g p1 v5_28).bind fun y6 => (m_rankOf g p1 v4_28).bind fun y7 => if y7 ≤ y6 then (hlet (v5_28 + (1 : Int32)) fun y5_8 => some (.inl (v4_28, y5_8))) else (m_choiceOf_B103 v5_28)))
def m_choiceOf_L28 (g : hSt) (r0 : Nat) (p1 : Int32) (v4_28 : Int32) (v5_28 : Int32) : Option ((Int32 × Int32) ⊕ (Int32)) :=
  (hrd 8 (g 3) (1 : Int32)).bind fun x2 => if ((1 : Int32) <<< (x2 &&& (31 : Int32))) ≤ v5_28 then (some (.inr v4_28)) else ((hrd 12 (g 4) p1).bind fun x3 => if x3 = (3 : Int32) then ((hrd 12 (g 5) p1).bind fun x10 => if ((v5_28 >>> (x10 &&& (31 : Int32))) &&& (1 : Int32)) = (1 : Int32) then (hlet (v5_28 + (1 : Int32)) fun y5_11 => some (.inl (v4_28, y5_11))) else (m_choiceOf_B66 g r0 p1 v4_28 v5_28)) else (m_choiceOf_B66 g r0 p1 v4_28 v5_28))
def m_choiceOf_B25 (g : hSt) (r0 : Nat) (p1 : Int32) : Option (Int32) :=
  (hiter (fun q : Int32 × Int32 => m_choiceOf_L28 g r0 p1 q.1 q.2) hFU ((-1 : Int32), (0 : Int32))).bind fun x12 => some x12
def m_choiceOf (g : hSt) (r0 : Nat) (p1 : Int32) (p2 : Int32) : Option (Int32) :=
  (hrd 12 (g 4) p1).bind fun x1 => if x1 = (4 : Int32) then ((hrd 12 (g 5) p1).bind fun x13 => if x13 ≤ p2 then (m_choiceOf_B25 g r0 p1) else (some (-1 : Int32))) else (m_choiceOf_B25 g r0 p1)

def m_whomOf_B53 (g : hSt) (p1 : Int32) : Option (Int32) :=
  (hrd 8 (g 3) (0 : Int32)).bind fun x2 => if x2 = 0 then none else some ((p1 + (1 : Int32)) - (p1 + (1 : Int32)) / x2 * x2)
def m_whomOf (g : hSt) (r0 : Nat) (p1 : Int32) (p2 : Int32) : Option (Int32) :=
  if p2 = (-1 : Int32) then ((hrd 12 (g 4) p1).bind fun x1 => if x1 = (3 : Int32) then ((hrd 12 (g 5) p1).bind fun x3 => (hrd 8 (g 3) (1 : Int32)).bind fun x4 => if x4 ≤ x3 then (m_whomOf_B53 g p1) else ((hrd 12 (g 5) p1).bind fun x5 => (hrd 30 (g r0) x5).bind fun x6 => if x6 = p1 then (m_whomOf_B53 g p1) else ((hrd 12 (g 5) p1).bind fun x7 => (hrd 30 (g r0) x7).bind fun x8 => some x8))) else (m_whomOf_B53 g p1)) else (some p2)

def m_choice_B22 (g1 : hSt) : Option (Int32 × hSt) :=
  (m_fail g1 (1 : Int32)).bind fun y3 => some (y3.1, y3.2)
def m_choice (g : hSt) (p0 : Int32) (p1 : Int32) : Option (Int32 × hSt) :=
  hpt g 0 1 (0 : Int32) fun g1 => (m_isPerson g1 p0).bind fun y2 => if y2 = 0 then (m_choice_B22 g1) else ((m_isIn p1 (0 : Int32) (2 : Int32)).bind fun y4 => if y4 = 0 then (m_choice_B22 g1) else ((m_choiceOf g1 8 p0 (g1 0 12)).bind fun y5 => if y5 = (-1 : Int32) then (some ((-1 : Int32), g1)) else (if p1 = 0 then (some (y5, g1)) else (if p1 = (1 : Int32) then ((hrd 30 (g1 8) ((18 : Int32) + p0)).bind fun x8 => (m_sandFor g1 8 p0 y5 x8).bind fun y9 => some (y9, g1)) else ((hrd 30 (g1 8) ((24 : Int32) + p0)).bind fun x6 => (m_whomOf g1 8 p0 x6).bind fun y7 => some (y7, g1))))))

def m_gap_B141 (v6_80 : Int32) (y8_10 : Int32) : Option ((Int32 × Int32) ⊕ (Int32)) :=
  hlet (v6_80 + (1 : Int32)) fun y6_12 => some (.inl (y8_10, y6_12))
def m_gap_L80 (p0 : Int32) (g1 : hSt) (x3 : Int32) (v5_51 : Int32) (v3_80 : Int32) (v6_80 : Int32) : Option ((Int32 × Int32) ⊕ (Int32)) :=
  (hrd 30 (g1 8) ((12 : Int32) + p0)).bind fun x6 => if x6 < v6_80 then (some (.inr v3_80)) else ((m_weightOf g1 v5_51).bind fun y7 => hlet (y7 + v6_80) fun y7_8 => (hrd 8 (g1 3) (3 : Int32)).bind fun x9 => hlet (hmax (0 : Int32) ((habs (y7_8 - x3)) - x9)) fun y8_10 => if y7_8 ≤ 0 then (hlet (v6_80 + (1 : Int32)) fun y6_11 => some (.inl (v3_80, y6_11))) else (if v3_80 = (-1 : Int32) then (m_gap_B141 v6_80 y8_10) else (if v3_80 ≤ y8_10 then (hlet (v6_80 + (1 : Int32)) fun y6_13 => some (.inl (v3_80, y6_13))) else (m_gap_B141 v6_80 y8_10))))
def m_gap_L51 (p0 : Int32) (g1 : hSt) (x3 : Int32) (y4 : Int32) (v3_51 : Int32) (v5_51 : Int32) : Option ((Int32 × Int32) ⊕ (Int32)) :=
  (hrd 8 (g1 3) (1 : Int32)).bind fun x5 => if ((1 : Int32) <<< (x5 &&& (31 : Int32))) ≤ v5_51 then (some (.inr v3_51)) else (if (v5_51 &&& (y4 ^^^ (-1 : Int32))) = 0 then ((hiter (fun q : Int32 × Int32 => m_gap_L80 p0 g1 x3 v5_51 q.1 q.2) hFU (v3_51, (0 : Int32))).bind fun x14 => hlet (v5_51 + (1 : Int32)) fun y5_15 => some (.inl (x14, y5_15))) else (hlet (v5_51 + (1 : Int32)) fun y5_16 => some (.inl (v3_51, y5_16))))
def m_gap (g : hSt) (p0 : Int32) : Option (Int32 × hSt) :=
  hpt g 0 1 (0 : Int32) fun g1 => (m_isPerson g1 p0).bind fun y2 => if y2 = 0 then ((m_fail g1 (1 : Int32)).bind fun y18 => some (y18.1, y18.2)) else ((hrd 30 (g1 8) ((18 : Int32) + p0)).bind fun x3 => if x3 = 0 then (some ((-1 : Int32), g1)) else ((m_hasOf g1 8 p0).bind fun y4 => (hiter (fun q : Int32 × Int32 => m_gap_L51 p0 g1 x3 y4 q.1 q.2) hFU ((-1 : Int32), (0 : Int32))).bind fun x17 => if x17 = (-1 : Int32) then (some (x3, g1)) else (some (x17, g1))))

def m_loadRow_L2 (p0 : Int32) (v2_2 : Int32) (g_2 : hSt) : Option ((Int32 × hSt) ⊕ (hSt)) :=
  if (30 : Int32) ≤ v2_2 then (some (.inr g_2)) else ((hrd 210 (g_2 27) (((30 : Int32) * p0) + v2_2)).bind fun x1 => hwr 30 g_2 28 v2_2 x1 fun g2 => hlet (v2_2 + (1 : Int32)) fun y2_3 => some (.inl (y2_3, g2)))
def m_loadRow (g : hSt) (p0 : Int32) : Option (hSt) :=
  (hiter (fun q : Int32 × hSt => m_loadRow_L2 p0 q.1 q.2) hFU ((0 : Int32), g)).bind fun x4 => some x4

def m_order (g : hSt) (p0 : Int32) : Option (Int32 × hSt) :=
  hpt g 0 1 (0 : Int32) fun g1 => (m_isIn p0 (0 : Int32) ((g1 0 32) - (1 : Int32))).bind fun y2 => if y2 = 0 then ((m_fail g1 (1 : Int32)).bind fun y3 => some (y3.1, y3.2)) else ((hrd 6 (g1 32) p0).bind fun x4 => some (x4, g1))

def m_foldOf_L4 (g : hSt) (r0 : Nat) (v1_4 : Int32) (v2_4 : Int32) : Option ((Int32 × Int32) ⊕ (Int32)) :=
  if (30 : Int32) ≤ v2_4 then (some (.inr v1_4)) else ((hrd 30 (g r0) v2_4).bind fun x1 => hlet (((31 : Int32) * v1_4) + x1) fun y1_2 => hlet (v2_4 + (1 : Int32)) fun y2_3 => some (.inl (y1_2, y2_3)))
def m_foldOf (g : hSt) (r0 : Nat) : Option (Int32) :=
  (hiter (fun q : Int32 × Int32 => m_foldOf_L4 g r0 q.1 q.2) hFU ((0 : Int32), (0 : Int32))).bind fun x4 => some (x4 &&& (4095 : Int32))

def m_isState_L2 (g : hSt) (p0 : Int32) (r1 : Nat) (v3_2 : Int32) : Option ((Int32) ⊕ ((Unit) ⊕ (Int32))) :=
  if (30 : Int32) ≤ v3_2 then (some (.inr (.inl ()))) else ((hrd 30000 (g 39) (((30 : Int32) * p0) + v3_2)).bind fun x1 => (hrd 30 (g r1) v3_2).bind fun x2 => if x1 = x2 then (hlet (v3_2 + (1 : Int32)) fun y3_3 => some (.inl y3_3)) else (some (.inr (.inr (0 : Int32)))))
def m_isState (g : hSt) (p0 : Int32) (r1 : Nat) : Option (Int32) :=
  (hiter (fun q : Int32 => m_isState_L2 g p0 r1 q) hFU (0 : Int32)).bind fun x4 => hcase x4 (fun e5 => some (1 : Int32)) (fun r => some r)

def m_come_L13 (g : hSt) (r0 : Nat) (v4_13 : Int32) : Option ((Int32) ⊕ ((Unit) ⊕ (hSt))) :=
  if v4_13 = (-1 : Int32) then (some (.inr (.inl ()))) else ((m_isState g v4_13 r0).bind fun y3 => if y3 = 0 then ((hrd 1000 (g 41) v4_13).bind fun x4 => some (.inl x4)) else (some (.inr (.inr g))))
def m_come_L61 (r0 : Nat) (v4_61 : Int32) (g_61 : hSt) : Option ((Int32 × hSt) ⊕ (hSt)) :=
  if (30 : Int32) ≤ v4_61 then (some (.inr g_61)) else ((hrd 30 (g_61 r0) v4_61).bind fun x7 => hwr 30000 g_61 39 (((30 : Int32) * (g_61 0 44)) + v4_61) x7 fun g8 => hlet (v4_61 + (1 : Int32)) fun y4_9 => some (.inl (y4_9, g8)))
def m_come (g : hSt) (r0 : Nat) (p1 : Int32) : Option (hSt) :=
  (m_foldOf g r0).bind fun y1 => (hrd 4096 (g 42) y1).bind fun x2 => (hiter (fun q : Int32 => m_come_L13 g r0 q) hFU x2).bind fun x5 => hcase x5 (fun e6 => if (g 0 44) = (1000 : Int32) then (hptz g 0 45 (1 : Int32) fun g16 => some g16) else ((hiter (fun q : Int32 × hSt => m_come_L61 r0 q.1 q.2) hFU ((0 : Int32), g)).bind fun x10 => hwr 1000 x10 40 (x10 0 44) p1 fun g11 => (hrd 4096 (g11 42) y1).bind fun x12 => hwr 1000 g11 41 (g11 0 44) x12 fun g13 => hwr 4096 g13 42 y1 (g13 0 44) fun g14 => hpt g14 0 44 ((g14 0 44) + (1 : Int32)) fun g15 => some g15)) (fun r => some r)

def m_giveOn (g : hSt) (p0 : Int32) (p1 : Int32) (p2 : Int32) (p3 : Int32) : Option (hSt) :=
  (m_copy g 43 44).bind fun y1 => (hrd 30 (y1 43) ((18 : Int32) + p0)).bind fun x2 => (m_sandFor y1 43 p0 p1 x2).bind fun y3 => (m_make y1 44 p0 p1 y3 p2).bind fun y4 => (m_come y4.2 44 p3).bind fun y5 => some y5

def m_goOn_B146 (p0 : Int32) (p2 : Int32) (v4_69 : Int32) (v5_102 : Int32) (g_102 : hSt) : Option ((Int32 × hSt) ⊕ (hSt)) :=
  (m_giveOn g_102 p0 v4_69 v5_102 p2).bind fun y7 => hlet (v5_102 + (1 : Int32)) fun y5_8 => some (.inl (y5_8, y7))
def m_goOn_L102 (p0 : Int32) (p2 : Int32) (v4_69 : Int32) (v5_102 : Int32) (g_102 : hSt) : Option ((Int32 × hSt) ⊕ (hSt)) :=
  (hrd 8 (g_102 3) (0 : Int32)).bind fun x4 => if x4 ≤ v5_102 then (some (.inr g_102)) else (if v5_102 = p0 then (hlet (v5_102 + (1 : Int32)) fun y5_5 => some (.inl (y5_5, g_102))) else ((hrd 30 (g_102 43) ((24 : Int32) + p0)).bind fun x6 => if x6 = (-1 : Int32) then (m_goOn_B146 p0 p2 v4_69 v5_102 g_102) else ((hrd 30 (g_102 43) ((24 : Int32) + p0)).bind fun x9 => if x9 = v5_102 then (m_goOn_B146 p0 p2 v4_69 v5_102 g_102) else (hlet (v5_102 + (1 : Int32)) fun y5_10 => some (.inl (y5_10, g_102))))))
def m_goOn_L69 (p0 : Int32) (p2 : Int32) (v4_69 : Int32) (g_69 : hSt) : Option ((Int32 × hSt) ⊕ (hSt)) :=
  (hrd 8 (g_69 3) (1 : Int32)).bind fun x2 => if ((1 : Int32) <<< (x2 &&& (31 : Int32))) ≤ v4_69 then (some (.inr g_69)) else ((m_fits g_69 43 p0 v4_69).bind fun y3 => if y3 = 0 then (hlet (v4_69 + (1 : Int32)) fun y4_13 => some (.inl (y4_13, g_69))) else ((hiter (fun q : Int32 × hSt => m_goOn_L102 p0 p2 v4_69 q.1 q.2) hFU ((0 : Int32), g_69)).bind fun x11 => hlet (v4_69 + (1 : Int32)) fun y4_12 => some (.inl (y4_12, x11))))
def m_goOn (g : hSt) (p0 : Int32) (p1 : Int32) (p2 : Int32) : Option (hSt) :=
  (hrd 30 (g 43) ((18 : Int32) + p0)).bind fun x1 => if x1 = 0 then (some g) else (if p0 = p1 then ((hiter (fun q : Int32 × hSt => m_goOn_L69 p0 p2 q.1 q.2) hFU ((0 : Int32), g)).bind fun x14 => some x14) else ((m_choiceOf g 43 p0 (g 0 12)).bind fun y15 => if y15 = (-1 : Int32) then (some g) else ((hrd 30 (g 43) ((24 : Int32) + p0)).bind fun x16 => (m_whomOf g 43 p0 x16).bind fun y17 => (m_giveOn g p0 y15 y17 p2).bind fun y18 => some y18)))

def m_get_B21 (g1 : hSt) : Option (Int32 × hSt) :=
  (m_fail g1 (1 : Int32)).bind fun y3 => some (y3.1, y3.2)
def m_get_L29 (v3_29 : Int32) (g_29 : hSt) : Option ((Int32 × hSt) ⊕ (hSt)) :=
  if (4096 : Int32) ≤ v3_29 then (some (.inr g_29)) else (hwr 4096 g_29 42 v3_29 (-1 : Int32) fun g5 => hlet (v3_29 + (1 : Int32)) fun y3_6 => some (.inl (y3_6, g5)))
def m_get_L92 (v4_73 : Int32) (v5_92 : Int32) (g_92 : hSt) : Option ((Int32 × hSt) ⊕ (hSt)) :=
  if (30 : Int32) ≤ v5_92 then (some (.inr g_92)) else ((hrd 30000 (g_92 39) (((30 : Int32) * v4_73) + v5_92)).bind fun x11 => hwr 30 g_92 43 v5_92 x11 fun g12 => hlet (v5_92 + (1 : Int32)) fun y5_13 => some (.inl (y5_13, g12)))
def m_get_L158 (p0 : Int32) (v4_73 : Int32) (v5_158 : Int32) (g_158 : hSt) : Option ((Int32 × hSt) ⊕ (hSt)) :=
  (hrd 8 (g_158 3) (0 : Int32)).bind fun x16 => if x16 ≤ v5_158 then (some (.inr g_158)) else (if (g_158 0 45) = 0 then ((hrd 1000 (g_158 40) v4_73).bind fun x17 => (m_goOn g_158 v5_158 p0 (x17 + (1 : Int32))).bind fun y18 => hlet (v5_158 + (1 : Int32)) fun y5_19 => some (.inl (y5_19, y18))) else (some (.inr g_158)))
def m_get_L73 (p0 : Int32) (p1 : Int32) (v3_73 : Int32) (v4_73 : Int32) (g_73 : hSt) : Option ((Int32 × Int32 × hSt) ⊕ (Int32 × hSt)) :=
  if (g_73 0 44) ≤ v4_73 then (some (.inr (v3_73, g_73))) else (if (g_73 0 45) = 0 then ((hiter (fun q : Int32 × hSt => m_get_L92 v4_73 q.1 q.2) hFU ((0 : Int32), g_73)).bind fun x14 => (hrd 30 (x14 43) p1).bind fun x15 => if x15 = p0 then (if v3_73 = (-1 : Int32) then ((hrd 1000 (x14 40) v4_73).bind fun x23 => hlet (v4_73 + (1 : Int32)) fun y4_24 => some (.inl (x23, y4_24, x14))) else (hlet (v4_73 + (1 : Int32)) fun y4_22 => some (.inl (v3_73, y4_22, x14)))) else ((hiter (fun q : Int32 × hSt => m_get_L158 p0 v4_73 q.1 q.2) hFU ((0 : Int32), x14)).bind fun x20 => hlet (v4_73 + (1 : Int32)) fun y4_21 => some (.inl (v3_73, y4_21, x20)))) else (some (.inr (v3_73, g_73))))
def m_get (g : hSt) (p0 : Int32) (p1 : Int32) : Option (Int32 × hSt) :=
  hpt g 0 1 (0 : Int32) fun g1 => (m_isPerson g1 p0).bind fun y2 => if y2 = 0 then (m_get_B21 g1) else ((m_isThing g1 p1).bind fun y4 => if y4 = 0 then (m_get_B21 g1) else ((hiter (fun q : Int32 × hSt => m_get_L29 q.1 q.2) hFU ((0 : Int32), g1)).bind fun x7 => hpt x7 0 44 (0 : Int32) fun g8 => hptz g8 0 45 (0 : Int32) fun g9 => (m_come g9 8 (0 : Int32)).bind fun y10 => (hiter (fun q : Int32 × Int32 × hSt => m_get_L73 p0 p1 q.1 q.2.1 q.2.2) hFU ((-1 : Int32), (0 : Int32), y10)).bind fun x25 => if (x25.2 0 45) = 0 then (some (x25.1, x25.2)) else (some ((-2 : Int32), x25.2))))

def m_anyFits_L2 (g : hSt) (p0 : Int32) (v2_2 : Int32) : Option ((Int32) ⊕ ((Unit) ⊕ (Int32))) :=
  (hrd 8 (g 3) (1 : Int32)).bind fun x1 => if ((1 : Int32) <<< (x1 &&& (31 : Int32))) ≤ v2_2 then (some (.inr (.inl ()))) else ((m_fits g 8 p0 v2_2).bind fun y2 => if y2 = 0 then (hlet (v2_2 + (1 : Int32)) fun y2_3 => some (.inl y2_3)) else (some (.inr (.inr (1 : Int32)))))
def m_anyFits (g : hSt) (p0 : Int32) : Option (Int32) :=
  (hiter (fun q : Int32 => m_anyFits_L2 g p0 q) hFU (0 : Int32)).bind fun x4 => hcase x4 (fun e5 => some (0 : Int32)) (fun r => some r)

def m_fitsWith (g : hSt) (p0 : Int32) (p1 : Int32) (p2 : Int32) : Option (Int32 × hSt) :=
  (hrd 12 (g 10) p1).bind fun x1 => hwr 12 g 10 p1 p2 fun g2 => (m_anyFits g2 p0).bind fun y3 => hwr 12 g2 10 p1 x1 fun g4 => if y3 = 0 ∨ y3 = 1 then some (y3, g4) else none

def m_cut_B22 (g1 : hSt) : Option (Int32 × hSt) :=
  (m_fail g1 (1 : Int32)).bind fun y3 => some (y3.1, y3.2)
def m_cut_B164 (v7_82 : Int32) (g_142 : hSt) (y3_9 : Int32) (k0_164 : Int32) : Option ((Int32 × Int32 × Int32 × hSt) ⊕ (Int32 × Int32 × hSt)) :=
  hlet (v7_82 + (1 : Int32)) fun y7_10 => some (.inl (y3_9, k0_164, y7_10, g_142))
def m_cut_B142 (v6_63 : Int32) (v3_82 : Int32) (v4_82 : Int32) (v7_82 : Int32) (g_142 : hSt) : Option ((Int32 × Int32 × Int32 × hSt) ⊕ (Int32 × Int32 × hSt)) :=
  hlet (v3_82 + (1 : Int32)) fun y3_9 => if v4_82 = (-1 : Int32) then (m_cut_B164 v7_82 g_142 y3_9 (((100 : Int32) * v6_63) + v7_82)) else (m_cut_B164 v7_82 g_142 y3_9 v4_82)
def m_cut_L82 (p0 : Int32) (v6_63 : Int32) (v3_82 : Int32) (v4_82 : Int32) (v7_82 : Int32) (g_82 : hSt) : Option ((Int32 × Int32 × Int32 × hSt) ⊕ (Int32 × Int32 × hSt)) :=
  (hrd 12 (g_82 10) v6_63).bind fun x6 => if (x6 / (2 : Int32)) < v7_82 then (some (.inr (v3_82, v4_82, g_82))) else ((hrd 30 (g_82 8) v6_63).bind fun x7 => if x7 = p0 then ((m_fitsWith g_82 p0 v6_63 v7_82).bind fun y8 => if y8.1 = 0 then ((hrd 12 (y8.2 10) v6_63).bind fun x11 => (m_fitsWith y8.2 p0 v6_63 (x11 - v7_82)).bind fun y12 => if y12.1 = 0 then (hlet (v7_82 + (1 : Int32)) fun y7_13 => some (.inl (v3_82, v4_82, y7_13, y12.2))) else (m_cut_B142 v6_63 v3_82 v4_82 v7_82 y12.2)) else (m_cut_B142 v6_63 v3_82 v4_82 v7_82 y8.2)) else (some (.inr (v3_82, v4_82, g_82))))
def m_cut_L63 (p0 : Int32) (k0_58 : Int32) (v3_63 : Int32) (v4_63 : Int32) (v6_63 : Int32) (g_63 : hSt) : Option ((Int32 × Int32 × Int32 × hSt) ⊕ (Int32 × Int32 × hSt)) :=
  (hrd 8 (g_63 3) (1 : Int32)).bind fun x5 => if x5 ≤ v6_63 then (some (.inr (v3_63, v4_63, g_63))) else (if k0_58 = 0 then (some (.inr (v3_63, v4_63, g_63))) else ((hiter (fun q : Int32 × Int32 × Int32 × hSt => m_cut_L82 p0 v6_63 q.1 q.2.1 q.2.2.1 q.2.2.2) hFU (v3_63, v4_63, (1 : Int32), g_63)).bind fun x14 => hlet (v6_63 + (1 : Int32)) fun y6_15 => some (.inl (x14.1, x14.2.1, y6_15, x14.2.2))))
def m_cut_B58 (p0 : Int32) (p1 : Int32) (g1 : hSt) (k0_58 : Int32) : Option (Int32 × hSt) :=
  (hiter (fun q : Int32 × Int32 × Int32 × hSt => m_cut_L63 p0 k0_58 q.1 q.2.1 q.2.2.1 q.2.2.2) hFU ((0 : Int32), (-1 : Int32), (0 : Int32), g1)).bind fun x16 => if p1 = 0 then (some (x16.1, x16.2.2)) else (some (x16.2.1, x16.2.2))
def m_cut_B57 (p0 : Int32) (p1 : Int32) (g1 : hSt) : Option (Int32 × hSt) :=
  m_cut_B58 p0 p1 g1 (0 : Int32)
def m_cut (g : hSt) (p0 : Int32) (p1 : Int32) : Option (Int32 × hSt) :=
  hpt g 0 1 (0 : Int32) fun g1 => (m_isPerson g1 p0).bind fun y2 => if y2 = 0 then (m_cut_B22 g1) else (if p1 < 0 then (m_cut_B22 g1) else (if p1 ≤ (1 : Int32) then ((hrd 30 (g1 8) ((18 : Int32) + p0)).bind fun x4 => if x4 ≤ 0 then (m_cut_B57 p0 p1 g1) else ((m_anyFits g1 p0).bind fun y17 => if y17 = 0 then (m_cut_B58 p0 p1 g1 (1 : Int32)) else (m_cut_B57 p0 p1 g1))) else (m_cut_B22 g1)))

def m_keep_L30 (p0 : Int32) (p1 : Int32) (g1 : hSt) (v3_30 : Int32) (v4_30 : Int32) (v5_30 : Int32) : Option ((Int32 × Int32 × Int32) ⊕ ((Int32) ⊕ (Int32 × hSt))) :=
  if p0 ≤ v4_30 then (some (.inr (.inl v3_30))) else (hlet (hmin v5_30 (p0 - v4_30)) fun y6_3 => if v3_30 = p1 then (some (.inr (.inr (y6_3, g1)))) else (hlet (v4_30 + y6_3) fun y4_4 => hlet (v3_30 + (1 : Int32)) fun y3_5 => hlet (v5_30 * (2 : Int32)) fun y5_6 => some (.inl (y3_5, y4_4, y5_6))))
def m_keep (g : hSt) (p0 : Int32) (p1 : Int32) : Option (Int32 × hSt) :=
  hpt g 0 1 (0 : Int32) fun g1 => (m_isIn p0 (1 : Int32) (999 : Int32)).bind fun y2 => if y2 = 0 then ((m_fail g1 (2 : Int32)).bind fun y10 => some (y10.1, y10.2)) else ((hiter (fun q : Int32 × Int32 × Int32 => m_keep_L30 p0 p1 g1 q.1 q.2.1 q.2.2) hFU ((0 : Int32), (0 : Int32), (1 : Int32))).bind fun x7 => hcase x7 (fun e8 => if p1 = (-1 : Int32) then (some (e8, g1)) else ((m_fail g1 (1 : Int32)).bind fun y9 => some (y9.1, y9.2))) (fun r => some r))

def m_tellWeights_B26 (v3_2 : Int32) (g_2 : hSt) (k0_26 : Int32) (k1_26 : Int32) : Option ((Int32 × hSt) ⊕ (hSt)) :=
  hwr 4000 g_2 47 k1_26 (vp_nar .boolean k0_26) fun g1 => hlet (v3_2 + (1 : Int32)) fun y3_2 => some (.inl (y3_2, g1))
def m_tellWeights_L2 (p1 : Int32) (v3_2 : Int32) (g_2 : hSt) : Option ((Int32 × hSt) ⊕ (hSt)) :=
  if (4000 : Int32) ≤ v3_2 then (some (.inr g_2)) else (if p1 < v3_2 then (m_tellWeights_B26 v3_2 g_2 (0 : Int32) v3_2) else (m_tellWeights_B26 v3_2 g_2 (1 : Int32) v3_2))
def m_tellWeights_L65 (v3_35 : Int32) (v4_65 : Int32) (g_65 : hSt) : Option ((Int32 × hSt) ⊕ (hSt)) :=
  (hrd 12 (g_65 10) v3_35).bind fun x6 => if v4_65 < x6 then (some (.inr g_65)) else ((hrd 4000 (g_65 47) v4_65).bind fun x7 => (hrd 12 (g_65 10) v3_35).bind fun x8 => (hrd 4000 (g_65 47) (v4_65 - x8)).bind fun x9 => hwr 4000 g_65 47 v4_65 (vp_nar .boolean (x7 ||| x9)) fun g10 => hlet (v4_65 + (-1 : Int32)) fun y4_11 => some (.inl (y4_11, g10)))
def m_tellWeights_L35 (p0 : Int32) (v3_35 : Int32) (g_35 : hSt) : Option ((Int32 × hSt) ⊕ (hSt)) :=
  (hrd 8 (g_35 3) (1 : Int32)).bind fun x4 => if x4 ≤ v3_35 then (some (.inr g_35)) else (if ((p0 >>> (v3_35 &&& (31 : Int32))) &&& (1 : Int32)) = 0 then (hlet (v3_35 + (1 : Int32)) fun y3_14 => some (.inl (y3_14, g_35))) else (hlet ((4000 : Int32) - (1 : Int32)) fun y4_5 => (hiter (fun q : Int32 × hSt => m_tellWeights_L65 v3_35 q.1 q.2) hFU (y4_5, g_35)).bind fun x12 => hlet (v3_35 + (1 : Int32)) fun y3_13 => some (.inl (y3_13, x12))))
def m_tellWeights (g : hSt) (p0 : Int32) (p1 : Int32) : Option (hSt) :=
  (hiter (fun q : Int32 × hSt => m_tellWeights_L2 p1 q.1 q.2) hFU ((0 : Int32), g)).bind fun x3 => (hiter (fun q : Int32 × hSt => m_tellWeights_L35 p0 q.1 q.2) hFU ((0 : Int32), x3)).bind fun x15 => some x15

def m_madeUpTo_B24 (v3_4 : Int32) (k0_24 : Int32) (k1_24 : Int32) : Option ((Int32 × Int32) ⊕ (Int32)) :=
  hlet (k1_24 + k0_24) fun y2_2 => hlet (v3_4 + (1 : Int32)) fun y3_3 => some (.inl (y2_2, y3_3))
def m_madeUpTo_L4 (g : hSt) (p0 : Int32) (v2_4 : Int32) (v3_4 : Int32) : Option ((Int32 × Int32) ⊕ (Int32)) :=
  if p0 < v3_4 then (some (.inr v2_4)) else ((hrd 4000 (g 47) v3_4).bind fun x1 => if x1 = 0 then (m_madeUpTo_B24 v3_4 (0 : Int32) v2_4) else (m_madeUpTo_B24 v3_4 (1 : Int32) v2_4))
def m_madeUpTo (g : hSt) (p0 : Int32) : Option (Int32) :=
  (hiter (fun q : Int32 × Int32 => m_madeUpTo_L4 g p0 q.1 q.2) hFU ((0 : Int32), (1 : Int32))).bind fun x4 => some x4

def m_fewest_B66 (p0 : Int32) (v2_26 : Int32) (v3_26 : Int32) (g_26 : hSt) : Option ((Int32 × Int32 × hSt) ⊕ (Int32 × hSt)) :=
  (m_tellWeights g_26 v3_26 (0 : Int32)).bind fun y6 => (m_madeUpTo y6 p0).bind fun y7 => if y7 = p0 then (hlet (v3_26 + (1 : Int32)) fun y3_9 => some (.inl (v3_26, y3_9, y6))) else (hlet (v3_26 + (1 : Int32)) fun y3_8 => some (.inl (v2_26, y3_8, y6)))
def m_fewest_L26 (p0 : Int32) (v2_26 : Int32) (v3_26 : Int32) (g_26 : hSt) : Option ((Int32 × Int32 × hSt) ⊕ (Int32 × hSt)) :=
  (hrd 8 (g_26 3) (1 : Int32)).bind fun x3 => if ((1 : Int32) <<< (x3 &&& (31 : Int32))) ≤ v3_26 then (some (.inr (v2_26, g_26))) else ((m_weightOf g_26 v3_26).bind fun y4 => if y4 < p0 then (hlet (v3_26 + (1 : Int32)) fun y3_5 => some (.inl (v2_26, y3_5, g_26))) else (if v2_26 = (-1 : Int32) then (m_fewest_B66 p0 v2_26 v3_26 g_26) else ((m_bitsOf v3_26).bind fun y10 => (m_bitsOf v2_26).bind fun y11 => if y10 < y11 then (m_fewest_B66 p0 v2_26 v3_26 g_26) else (hlet (v3_26 + (1 : Int32)) fun y3_12 => some (.inl (v2_26, y3_12, g_26))))))
def m_fewest (g : hSt) (p0 : Int32) : Option (Int32 × hSt) :=
  hpt g 0 1 (0 : Int32) fun g1 => (m_isIn p0 (1 : Int32) (999 : Int32)).bind fun y2 => if y2 = 0 then ((m_fail g1 (1 : Int32)).bind fun y14 => some (y14.1, y14.2)) else ((hiter (fun q : Int32 × Int32 × hSt => m_fewest_L26 p0 q.1 q.2.1 q.2.2) hFU ((-1 : Int32), (0 : Int32), g1)).bind fun x13 => some (x13.1, x13.2))

def m_answers_B63 (p1 : Int32) (g1 : hSt) (k0_63 : Int32) (k1_63 : Int32) : Option (Int32 × hSt) :=
  (m_tellWeights g1 k1_63 k0_63).bind fun y5 => (m_madeUpTo y5 p1).bind fun y6 => some (y6, y5)
def m_answers (g : hSt) (p0 : Int32) (p1 : Int32) (p2 : Int32) : Option (Int32 × hSt) :=
  hpt g 0 1 (0 : Int32) fun g1 => (m_isPerson g1 p0).bind fun y2 => if y2 = 0 then ((m_fail g1 (1 : Int32)).bind fun y9 => some (y9.1, y9.2)) else ((m_isIn p1 (1 : Int32) (999 : Int32)).bind fun y3 => if y3 = 0 then ((m_fail g1 (2 : Int32)).bind fun y8 => some (y8.1, y8.2)) else ((m_hasOf g1 8 p0).bind fun y4 => if p2 = 0 then (m_answers_B63 p1 g1 (0 : Int32) y4) else ((hrd 30 (g1 8) ((12 : Int32) + p0)).bind fun x7 => m_answers_B63 p1 g1 x7 y4)))

def m_round_B22 (g1 : hSt) : Option (Int32 × hSt) :=
  (m_fail g1 (1 : Int32)).bind fun y3 => some (y3.1, y3.2)
def m_round_L59 (p0 : Int32) (v3_59 : Int32) (v4_59 : Int32) (v5_59 : Int32) (g_59 : hSt) : Option ((Int32 × Int32 × Int32 × hSt) ⊕ (Int32 × Int32 × hSt)) :=
  if v5_59 = (-1 : Int32) then (some (.inr (v3_59, v4_59, g_59))) else (if (20 : Int32) ≤ v3_59 then (some (.inr (v3_59, v4_59, g_59))) else ((hrd 30 (g_59 43) ((24 : Int32) + v4_59)).bind fun x7 => (m_whomOf g_59 43 v4_59 x7).bind fun y8 => (hrd 30 (g_59 43) ((18 : Int32) + v4_59)).bind fun x9 => (m_sandFor g_59 43 v4_59 v5_59 x9).bind fun y10 => (m_make g_59 43 v4_59 v5_59 y10 y8).bind fun y11 => hlet (v3_59 + (1 : Int32)) fun y3_12 => if y8 = p0 then (some (.inl (y3_12, y8, (-1 : Int32), y11.2))) else ((m_choiceOf y11.2 43 y8 (y11.2 0 12)).bind fun y13 => some (.inl (y3_12, y8, y13, y11.2)))))
def m_round (g : hSt) (p0 : Int32) (p1 : Int32) : Option (Int32 × hSt) :=
  hpt g 0 1 (0 : Int32) fun g1 => (m_isPerson g1 p0).bind fun y2 => if y2 = 0 then (m_round_B22 g1) else ((m_isIn p1 (0 : Int32) (2 : Int32)).bind fun y4 => if y4 = 0 then (m_round_B22 g1) else ((m_copy g1 8 43).bind fun y5 => (m_choiceOf y5 43 p0 (y5 0 12)).bind fun y6 => (hiter (fun q : Int32 × Int32 × Int32 × hSt => m_round_L59 p0 q.1 q.2.1 q.2.2.1 q.2.2.2) hFU ((0 : Int32), p0, y6, y5)).bind fun x14 => if p1 = 0 then (some (x14.1, x14.2.2)) else (if p1 = (1 : Int32) then (some (x14.2.1, x14.2.2)) else ((m_hasOf x14.2.2 43 p0).bind fun y15 => (m_worthOf x14.2.2 y15).bind fun y16 => (m_hasOf x14.2.2 8 p0).bind fun y17 => (m_worthOf x14.2.2 y17).bind fun y18 => some ((y16 - y18), x14.2.2)))))

def m_dry_L2 (v1_2 : Int32) (g_2 : hSt) : Option ((Int32 × hSt) ⊕ (hSt)) :=
  (hrd 8 (g_2 3) (1 : Int32)).bind fun x1 => if x1 ≤ v1_2 then (some (.inr g_2)) else ((hrd 24 (g_2 12) v1_2).bind fun x2 => if x2 = 0 then (hlet (v1_2 + (1 : Int32)) fun y1_3 => some (.inl (y1_3, g_2))) else ((hrd 12 (g_2 10) v1_2).bind fun x4 => if x4 ≤ (1 : Int32) then (hlet (v1_2 + (1 : Int32)) fun y1_5 => some (.inl (y1_5, g_2))) else ((hrd 12 (g_2 10) v1_2).bind fun x6 => hwr 12 g_2 10 v1_2 (x6 - (1 : Int32)) fun g7 => hlet (v1_2 + (1 : Int32)) fun y1_8 => some (.inl (y1_8, g7)))))
def m_dry (g : hSt) : Option (hSt) :=
  (hiter (fun q : Int32 × hSt => m_dry_L2 q.1 q.2) hFU ((0 : Int32), g)).bind fun x9 => some x9

def m_days_L33 (v2_33 : Int32) (v4_33 : Int32) (g_33 : hSt) : Option ((Int32 × Int32 × hSt) ⊕ (Int32 × hSt)) :=
  (hrd 8 (g_33 3) (0 : Int32)).bind fun x3 => if x3 ≤ v4_33 then (some (.inr (v2_33, g_33))) else ((m_choiceOf g_33 8 v4_33 (g_33 0 12)).bind fun y4 => if y4 = (-1 : Int32) then (hlet (v4_33 + (1 : Int32)) fun y4_5 => some (.inl (v2_33, y4_5, g_33))) else (if (g_33 0 24) = (200 : Int32) then (hlet (v4_33 + (1 : Int32)) fun y4_13 => some (.inl (v2_33, y4_13, g_33))) else ((hrd 30 (g_33 8) ((18 : Int32) + v4_33)).bind fun x6 => (m_sandFor g_33 8 v4_33 y4 x6).bind fun y7 => (hrd 30 (g_33 8) ((24 : Int32) + v4_33)).bind fun x8 => (m_whomOf g_33 8 v4_33 x8).bind fun y9 => (m_makeNow g_33 v4_33 y4 y7 y9).bind fun y10 => hlet (v2_33 + (1 : Int32)) fun y2_11 => hlet (v4_33 + (1 : Int32)) fun y4_12 => some (.inl (y2_11, y4_12, y10)))))
def m_days_L25 (p0 : Int32) (v2_25 : Int32) (v3_25 : Int32) (g_25 : hSt) : Option ((Int32 × Int32 × hSt) ⊕ (Int32 × hSt)) :=
  if p0 ≤ v3_25 then (some (.inr (v2_25, g_25))) else ((hiter (fun q : Int32 × Int32 × hSt => m_days_L33 q.1 q.2.1 q.2.2) hFU (v2_25, (0 : Int32), g_25)).bind fun x14 => (m_dry x14.2).bind fun y15 => hpt y15 0 12 ((y15 0 12) + (1 : Int32)) fun g16 => hlet (v3_25 + (1 : Int32)) fun y3_17 => some (.inl (x14.1, y3_17, g16)))
def m_days (g : hSt) (p0 : Int32) : Option (Int32 × hSt) :=
  hpt g 0 1 (0 : Int32) fun g1 => (m_isIn p0 (0 : Int32) (60 : Int32)).bind fun y2 => if y2 = 0 then ((m_fail g1 (1 : Int32)).bind fun y19 => some (y19.1, y19.2)) else ((hiter (fun q : Int32 × Int32 × hSt => m_days_L25 p0 q.1 q.2.1 q.2.2) hFU ((0 : Int32), (0 : Int32), g1)).bind fun x18 => some (x18.1, x18.2))

def m_isStill_L2 (g : hSt) (r0 : Nat) (p1 : Int32) (v3_2 : Int32) : Option ((Int32) ⊕ ((Unit) ⊕ (Int32))) :=
  (hrd 8 (g 3) (0 : Int32)).bind fun x1 => if x1 ≤ v3_2 then (some (.inr (.inl ()))) else ((hrd 12 (g 4) v3_2).bind fun x2 => if x2 = (4 : Int32) then ((hrd 12 (g 5) v3_2).bind fun x4 => if x4 ≤ p1 then (hlet (v3_2 + (1 : Int32)) fun y3_5 => some (.inl y3_5)) else ((hrd 30 (g r0) ((18 : Int32) + v3_2)).bind fun x6 => if x6 ≤ 0 then (hlet (v3_2 + (1 : Int32)) fun y3_7 => some (.inl y3_7)) else (some (.inr (.inr (0 : Int32)))))) else (hlet (v3_2 + (1 : Int32)) fun y3_3 => some (.inl y3_3)))
def m_isStill_L51 (g : hSt) (v3_51 : Int32) : Option ((Int32) ⊕ ((Unit) ⊕ (Int32))) :=
  (hrd 8 (g 3) (1 : Int32)).bind fun x10 => if x10 ≤ v3_51 then (some (.inr (.inl ()))) else ((hrd 24 (g 12) v3_51).bind fun x11 => if x11 = 0 then (hlet (v3_51 + (1 : Int32)) fun y3_12 => some (.inl y3_12)) else ((hrd 12 (g 10) v3_51).bind fun x13 => if x13 ≤ (1 : Int32) then (hlet (v3_51 + (1 : Int32)) fun y3_14 => some (.inl y3_14)) else (some (.inr (.inr (0 : Int32))))))
def m_isStill (g : hSt) (r0 : Nat) (p1 : Int32) : Option (Int32) :=
  (hiter (fun q : Int32 => m_isStill_L2 g r0 p1 q) hFU (0 : Int32)).bind fun x8 => hcase x8 (fun e9 => (hiter (fun q : Int32 => m_isStill_L51 g q) hFU (0 : Int32)).bind fun x15 => hcase x15 (fun e16 => some (1 : Int32)) (fun r => some r)) (fun r => some r)

def m_stillFrom_L20 (v1_5 : Int32) (v2_20 : Int32) (v3_20 : Int32) (g_20 : hSt) : Option ((Int32 × Int32 × hSt) ⊕ (Int32 × hSt)) :=
  (hrd 8 (g_20 3) (0 : Int32)).bind fun x2 => if x2 ≤ v3_20 then (some (.inr (v2_20, g_20))) else ((m_choiceOf g_20 43 v3_20 v1_5).bind fun y3 => if y3 = (-1 : Int32) then (hlet (v3_20 + (1 : Int32)) fun y3_10 => some (.inl (v2_20, y3_10, g_20))) else ((hrd 30 (g_20 43) ((18 : Int32) + v3_20)).bind fun x4 => (m_sandFor g_20 43 v3_20 y3 x4).bind fun y5 => (hrd 30 (g_20 43) ((24 : Int32) + v3_20)).bind fun x6 => (m_whomOf g_20 43 v3_20 x6).bind fun y7 => (m_make g_20 43 v3_20 y3 y5 y7).bind fun y8 => hlet (v3_20 + (1 : Int32)) fun y3_9 => some (.inl ((1 : Int32), y3_9, y8.2))))
def m_stillFrom_B127 (v1_5 : Int32) (x11 : Int32 × hSt) : Option ((Int32 × hSt) ⊕ ((hSt) ⊕ (Int32 × hSt))) :=
  (m_dry x11.2).bind fun y12 => hlet (v1_5 + (1 : Int32)) fun y1_13 => some (.inl (y1_13, y12))
def m_stillFrom_L5 (v1_5 : Int32) (g_5 : hSt) : Option ((Int32 × hSt) ⊕ ((hSt) ⊕ (Int32 × hSt))) :=
  if ((g_5 0 12) + (100 : Int32)) ≤ v1_5 then (some (.inr (.inl g_5))) else ((hiter (fun q : Int32 × Int32 × hSt => m_stillFrom_L20 v1_5 q.1 q.2.1 q.2.2) hFU ((0 : Int32), (0 : Int32), g_5)).bind fun x11 => if x11.1 = 0 then ((m_isStill x11.2 43 v1_5).bind fun y14 => if y14 = 0 then (m_stillFrom_B127 v1_5 x11) else (some (.inr (.inr (v1_5, x11.2))))) else (m_stillFrom_B127 v1_5 x11))
def m_stillFrom (g : hSt) : Option (Int32 × hSt) :=
  hlet (g 0 12) fun y1_1 => (hiter (fun q : Int32 × hSt => m_stillFrom_L5 q.1 q.2) hFU (y1_1, g)).bind fun x15 => hcase x15 (fun e16 => some ((-1 : Int32), e16)) (fun r => some r)

def m_still_L18 (v1_18 : Int32) (g_18 : hSt) : Option ((Int32 × hSt) ⊕ (hSt)) :=
  if (12 : Int32) ≤ v1_18 then (some (.inr g_18)) else ((hrd 12 (g_18 10) v1_18).bind fun x3 => hwr 12 g_18 48 v1_18 x3 fun g4 => hlet (v1_18 + (1 : Int32)) fun y1_5 => some (.inl (y1_5, g4)))
def m_still_L49 (v2_49 : Int32) (g_49 : hSt) : Option ((Int32 × hSt) ⊕ (hSt)) :=
  if (12 : Int32) ≤ v2_49 then (some (.inr g_49)) else ((hrd 12 (g_49 48) v2_49).bind fun x8 => hwr 12 g_49 10 v2_49 x8 fun g9 => hlet (v2_49 + (1 : Int32)) fun y2_10 => some (.inl (y2_10, g9)))
def m_still (g : hSt) : Option (Int32 × hSt) :=
  hpt g 0 1 (0 : Int32) fun g1 => (m_copy g1 8 43).bind fun y2 => (hiter (fun q : Int32 × hSt => m_still_L18 q.1 q.2) hFU ((0 : Int32), y2)).bind fun x6 => (m_stillFrom x6).bind fun y7 => (hiter (fun q : Int32 × hSt => m_still_L49 q.1 q.2) hFU ((0 : Int32), y7.2)).bind fun x11 => some (y7.1, x11)

def m_image_L39 (v1_39 : Int32) (g_39 : hSt) : Option ((Int32 × hSt) ⊕ (hSt)) :=
  if (12 : Int32) ≤ v1_39 then (some (.inr g_39)) else ((hrd 12 (g_39 10) v1_39).bind fun x6 => hwr 12 g_39 53 v1_39 x6 fun g7 => hlet (v1_39 + (1 : Int32)) fun y1_8 => some (.inl (y1_8, g7)))
def m_image_L65 (v1_65 : Int32) (g_65 : hSt) : Option ((Int32 × hSt) ⊕ (hSt)) :=
  if ((9 : Int32) * (g_65 0 24)) ≤ v1_65 then (some (.inr g_65)) else ((hrd 1800 (g_65 26) v1_65).bind fun x10 => hwr 1800 g_65 54 v1_65 x10 fun g11 => hlet (v1_65 + (1 : Int32)) fun y1_12 => some (.inl (y1_12, g11)))
def m_image (g : hSt) : Option (hSt) :=
  hpt g 0 1 (0 : Int32) fun g1 => hptz g1 0 48 (1 : Int32) fun g2 => hpt g2 0 49 (g2 0 24) fun g3 => hpt g3 0 50 (g3 0 12) fun g4 => (m_copy g4 8 52).bind fun y5 => (hiter (fun q : Int32 × hSt => m_image_L39 q.1 q.2) hFU ((0 : Int32), y5)).bind fun x9 => (hiter (fun q : Int32 × hSt => m_image_L65 q.1 q.2) hFU ((0 : Int32), x9)).bind fun x13 => (hrd 2 (x13 7) (0 : Int32)).bind fun x14 => hwr 2 x13 55 (0 : Int32) x14 fun g15 => (hrd 2 (g15 7) (1 : Int32)).bind fun x16 => hwr 2 g15 55 (1 : Int32) x16 fun g17 => some g17

def m_restore_L43 (v1_43 : Int32) (g_43 : hSt) : Option ((Int32 × hSt) ⊕ (hSt)) :=
  if (12 : Int32) ≤ v1_43 then (some (.inr g_43)) else ((hrd 12 (g_43 53) v1_43).bind fun x5 => hwr 12 g_43 10 v1_43 x5 fun g6 => hlet (v1_43 + (1 : Int32)) fun y1_7 => some (.inl (y1_7, g6)))
def m_restore_L69 (v1_69 : Int32) (g_69 : hSt) : Option ((Int32 × hSt) ⊕ (hSt)) :=
  if ((9 : Int32) * (g_69 0 24)) ≤ v1_69 then (some (.inr g_69)) else ((hrd 1800 (g_69 54) v1_69).bind fun x9 => hwr 1800 g_69 26 v1_69 x9 fun g10 => hlet (v1_69 + (1 : Int32)) fun y1_11 => some (.inl (y1_11, g10)))
def m_restore (g : hSt) : Option (Int32 × hSt) :=
  hpt g 0 1 (0 : Int32) fun g1 => if (g1 0 48) = 0 then (some ((0 : Int32), g1)) else (hpt g1 0 24 (g1 0 49) fun g2 => hpt g2 0 12 (g2 0 50) fun g3 => (m_copy g3 52 8).bind fun y4 => (hiter (fun q : Int32 × hSt => m_restore_L43 q.1 q.2) hFU ((0 : Int32), y4)).bind fun x8 => (hiter (fun q : Int32 × hSt => m_restore_L69 q.1 q.2) hFU ((0 : Int32), x8)).bind fun x12 => (hrd 2 (x12 55) (0 : Int32)).bind fun x13 => hwr 2 x12 7 (0 : Int32) x13 fun g14 => (hrd 2 (g14 55) (1 : Int32)).bind fun x15 => hwr 2 g14 7 (1 : Int32) x15 fun g16 => some ((1 : Int32), g16))

def m_answerOn_L109 (v4_3 : Int32) (y7 : Int32) (v7_109 : Int32) (g_109 : hSt) : Option ((Int32 × hSt) ⊕ (hSt)) :=
  (hrd 8 (g_109 3) (1 : Int32)).bind fun x8 => if x8 ≤ v7_109 then (some (.inr g_109)) else (if ((v4_3 >>> (v7_109 &&& (31 : Int32))) &&& (1 : Int32)) = (1 : Int32) then (hwr 30 g_109 28 v7_109 y7 fun g10 => hlet (v7_109 + (1 : Int32)) fun y7_11 => some (.inl (y7_11, g10))) else (hlet (v7_109 + (1 : Int32)) fun y7_9 => some (.inl (y7_9, g_109))))
def m_answerOn_L178 (p0 : Int32) (v7_178 : Int32) (g_178 : hSt) : Option ((Int32 × hSt) ⊕ (hSt)) :=
  if (30 : Int32) ≤ v7_178 then (some (.inr g_178)) else ((hrd 30 (g_178 28) v7_178).bind fun x17 => hwr 210 g_178 27 (((30 : Int32) * (p0 + (1 : Int32))) + v7_178) x17 fun g18 => hlet (v7_178 + (1 : Int32)) fun y7_19 => some (.inl (y7_19, g18)))
def m_answerOn_L3 (rcf : hSt → Int32 → Int32 → Option (hSt)) (p0 : Int32) (p1 : Int32) (p2 : Int32) (v4_3 : Int32) (g_3 : hSt) : Option ((Int32 × hSt) ⊕ ((hSt) ⊕ (hSt))) :=
  (hrd 8 (g_3 3) (1 : Int32)).bind fun x1 => if ((1 : Int32) <<< (x1 &&& (31 : Int32))) ≤ v4_3 then (some (.inr (.inl g_3))) else (if (g_3 0 37) = 0 then (if (g_3 0 36) = 0 then ((m_loadRow g_3 p0).bind fun y2 => (hrd 6 (y2 29) p2).bind fun x3 => (m_sandFor y2 28 p2 v4_3 x3).bind fun y4 => if y4 = (-1 : Int32) then (hlet (v4_3 + (1 : Int32)) fun y4_24 => some (.inl (y4_24, y2))) else (if (y2 0 34) = (20000 : Int32) then (hptz y2 0 36 (1 : Int32) fun g23 => some (.inr (.inr g23))) else (hpt y2 0 34 ((y2 0 34) + (1 : Int32)) fun g5 => (hrd 6 (g5 30) p2).bind fun x6 => (m_whomOf g5 28 p2 x6).bind fun y7 => (hiter (fun q : Int32 × hSt => m_answerOn_L109 v4_3 y7 q.1 q.2) hFU ((0 : Int32), g5)).bind fun x12 => (hrd 30 (x12 28) ((12 : Int32) + p2)).bind fun x13 => hwr 30 x12 28 ((12 : Int32) + p2) (x13 - y4) fun g14 => (hrd 30 (g14 28) ((12 : Int32) + y7)).bind fun x15 => hwr 30 g14 28 ((12 : Int32) + y7) (x15 + y4) fun g16 => (hiter (fun q : Int32 × hSt => m_answerOn_L178 p0 q.1 q.2) hFU ((0 : Int32), g16)).bind fun x20 => (rcf x20 (p0 + (1 : Int32)) (p1 ||| ((1 : Int32) <<< (p2 &&& (31 : Int32))))).bind fun y21 => hlet (v4_3 + (1 : Int32)) fun y4_22 => some (.inl (y4_22, y21))))) else (some (.inr (.inl g_3)))) else (some (.inr (.inl g_3))))
def m_answerOn (rcf : hSt → Int32 → Int32 → Option (hSt)) (g : hSt) (p0 : Int32) (p1 : Int32) (p2 : Int32) : Option (hSt) :=
  (hiter (fun q : Int32 × hSt => m_answerOn_L3 rcf p0 p1 p2 q.1 q.2) hFU ((0 : Int32), g)).bind fun x25 => hcase x25 (fun e26 => some e26) (fun r => some r)

def m_weekOn_L28 (rcf : hSt → Int32 → Int32 → Option (hSt)) (p0 : Int32) (p1 : Int32) (v3_28 : Int32) (g_28 : hSt) : Option ((Int32 × hSt) ⊕ (hSt)) :=
  (hrd 8 (g_28 3) (0 : Int32)).bind fun x2 => if x2 ≤ v3_28 then (some (.inr g_28)) else (if (g_28 0 37) = 0 then (if (g_28 0 36) = 0 then ((hrd 6 (g_28 29) v3_28).bind fun x3 => if x3 = 0 then (hlet (v3_28 + (1 : Int32)) fun y3_4 => some (.inl (y3_4, g_28))) else (if ((p1 >>> (v3_28 &&& (31 : Int32))) &&& (1 : Int32)) = (1 : Int32) then (hlet (v3_28 + (1 : Int32)) fun y3_8 => some (.inl (y3_8, g_28))) else (hwr 6 g_28 31 p0 v3_28 fun g5 => (m_answerOn rcf g5 p0 p1 v3_28).bind fun y6 => hlet (v3_28 + (1 : Int32)) fun y3_7 => some (.inl (y3_7, y6))))) else (some (.inr g_28))) else (some (.inr g_28)))
def m_weekOn (rcf : hSt → Int32 → Int32 → Option (hSt)) (g : hSt) (p0 : Int32) (p1 : Int32) : Option (hSt) :=
  hpt g 0 35 (hmax (g 0 35) p0) fun g1 => if p0 = (g1 0 33) then (hptz g1 0 37 (1 : Int32) fun g10 => some g10) else ((hiter (fun q : Int32 × hSt => m_weekOn_L28 rcf p0 p1 q.1 q.2) hFU ((0 : Int32), g1)).bind fun x9 => some x9)

def m_weekR : Nat → hSt → Int32 → Int32 → Option (hSt)
  | 0, _, _, _ => none
  | d + 1, g, p0, p1 => m_weekOn (m_weekR d) g p0 p1
def m_week_B96 (v2_27 : Int32) (g7 : hSt) (k0_96 : Int32) (k1_96 : Int32) : Option ((Int32 × hSt) ⊕ (hSt)) :=
  hpt g7 0 33 (k1_96 + k0_96) fun g9 => hlet (v2_27 + (1 : Int32)) fun y2_10 => some (.inl (y2_10, g9))
def m_week_B61 (v2_27 : Int32) (g_27 : hSt) (k0_61 : Int32) (k1_61 : Int32) : Option ((Int32 × hSt) ⊕ (hSt)) :=
  hwr 6 g_27 29 k1_61 k0_61 fun g5 => (hrd 30 (g5 8) ((24 : Int32) + v2_27)).bind fun x6 => hwr 6 g5 30 v2_27 x6 fun g7 => (hrd 6 (g7 29) v2_27).bind fun x8 => if x8 ≤ 0 then (m_week_B96 v2_27 g7 (0 : Int32) (g7 0 33)) else (m_week_B96 v2_27 g7 (1 : Int32) (g7 0 33))
def m_week_L27 (v2_27 : Int32) (g_27 : hSt) : Option ((Int32 × hSt) ⊕ (hSt)) :=
  if (6 : Int32) ≤ v2_27 then (some (.inr g_27)) else ((hrd 8 (g_27 3) (0 : Int32)).bind fun x4 => if x4 ≤ v2_27 then (m_week_B61 v2_27 g_27 (0 : Int32) v2_27) else ((hrd 30 (g_27 8) ((18 : Int32) + v2_27)).bind fun x11 => m_week_B61 v2_27 g_27 x11 v2_27))
def m_week_L108 (v2_108 : Int32) (g_108 : hSt) : Option ((Int32 × hSt) ⊕ (hSt)) :=
  if (30 : Int32) ≤ v2_108 then (some (.inr g_108)) else ((hrd 30 (g_108 8) v2_108).bind fun x13 => hwr 210 g_108 27 v2_108 x13 fun g14 => hlet (v2_108 + (1 : Int32)) fun y2_15 => some (.inl (y2_15, g14)))
def m_week_B211 (p0 : Int32) (g_211 : hSt) : Option (Int32 × hSt) :=
  if p0 = 0 then (if (g_211 0 37) = 0 then (some ((0 : Int32), g_211)) else (some ((1 : Int32), g_211))) else (if p0 = (1 : Int32) then (some ((g_211 0 35), g_211)) else (some ((g_211 0 34), g_211)))
def m_week_L185 (v2_185 : Int32) (g_185 : hSt) : Option ((Int32 × hSt) ⊕ (hSt)) :=
  if (g_185 0 33) ≤ v2_185 then (some (.inr g_185)) else ((hrd 6 (g_185 31) v2_185).bind fun x23 => hwr 6 g_185 32 v2_185 x23 fun g24 => hlet (v2_185 + (1 : Int32)) fun y2_25 => some (.inl (y2_25, g24)))
def m_week (g : hSt) (p0 : Int32) : Option (Int32 × hSt) :=
  hpt g 0 1 (0 : Int32) fun g1 => (m_isIn p0 (0 : Int32) (2 : Int32)).bind fun y2 => if y2 = 0 then ((m_fail g1 (1 : Int32)).bind fun y27 => some (y27.1, y27.2)) else (hpt g1 0 33 (0 : Int32) fun g3 => (hiter (fun q : Int32 × hSt => m_week_L27 q.1 q.2) hFU ((0 : Int32), g3)).bind fun x12 => (hiter (fun q : Int32 × hSt => m_week_L108 q.1 q.2) hFU ((0 : Int32), x12)).bind fun x16 => hpt x16 0 34 (0 : Int32) fun g17 => hpt g17 0 35 (0 : Int32) fun g18 => hptz g18 0 36 (0 : Int32) fun g19 => hptz g19 0 37 (0 : Int32) fun g20 => (m_weekR 8 g20 (0 : Int32) (0 : Int32)).bind fun y21 => if (y21 0 36) = 0 then (if (y21 0 37) = 0 then (m_week_B211 p0 y21) else (hpt y21 0 32 (y21 0 33) fun g22 => (hiter (fun q : Int32 × hSt => m_week_L185 q.1 q.2) hFU ((0 : Int32), g22)).bind fun x26 => m_week_B211 p0 x26)) else (some ((-2 : Int32), y21)))

