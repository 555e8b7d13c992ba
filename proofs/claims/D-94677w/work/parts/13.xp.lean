/-! PURE FUNCTIONS of the class under test (printed by tools/gen.py): x_f mirrors HeavyGifts.f, x_st_f State.f .. -/
set_option maxRecDepth 100000
def x_jI_bitCount (p0 : Int32) : Option (Int32) :=
  hlet (p0 - ((p0.toUInt32 >>> ((1 : Int32).toUInt32 &&& Int32.toUInt32 31)).toInt32 &&& (1431655765 : Int32))) fun y0_1 => hlet ((y0_1 &&& (858993459 : Int32)) + ((y0_1.toUInt32 >>> ((2 : Int32).toUInt32 &&& Int32.toUInt32 31)).toInt32 &&& (858993459 : Int32))) fun y0_2 => hlet ((y0_2 + (y0_2.toUInt32 >>> ((4 : Int32).toUInt32 &&& Int32.toUInt32 31)).toInt32) &&& (252645135 : Int32)) fun y0_3 => hlet (y0_3 + (y0_3.toUInt32 >>> ((8 : Int32).toUInt32 &&& Int32.toUInt32 31)).toInt32) fun y0_4 => hlet (y0_4 + (y0_4.toUInt32 >>> ((16 : Int32).toUInt32 &&& Int32.toUInt32 31)).toInt32) fun y0_5 => some (y0_5 &&& (63 : Int32))

def x_jP_checkIndex_B9 : Option (Int32) :=
  none
def x_jP_checkIndex (p0 : Int32) (p1 : Int32) : Option (Int32) :=
  if p0 < 0 then (x_jP_checkIndex_B9) else (if p0 < p1 then (some p0) else (x_jP_checkIndex_B9))

def x_jO_checkIndex (p0 : Int32) (p1 : Int32) : Option (Int32) :=
  (x_jP_checkIndex p0 p1).bind fun y1 => some y1

def x_al_size (g : hSt) (b : Nat) : Option (Int32) :=
  some (g b 2)

def x_al_isEmpty (g : hSt) (b : Nat) : Option (Int32) :=
  if (g b 2) = 0 then (some (1 : Int32)) else (some (0 : Int32))

def x_st_weight_L4 (g : hSt) (b : Nat) (p0 : Int32) (v2_4 : Int32) (v3_4 : Int32) : Option ((Int32 × Int32) ⊕ (Int32)) :=
  if (12 : Int32) ≤ v3_4 then (some (.inr v2_4)) else (if ((p0 >>> (v3_4 &&& (31 : Int32))) &&& (1 : Int32)) = (1 : Int32) then ((hrd 12 (g (b + 5)) v3_4).bind fun x2 => hlet (v2_4 + x2) fun y2_3 => hlet (v3_4 + (1 : Int32)) fun y3_4 => some (.inl (y2_3, y3_4))) else (hlet (v3_4 + (1 : Int32)) fun y3_1 => some (.inl (v2_4, y3_1))))
def x_st_weight (g : hSt) (b : Nat) (p0 : Int32) : Option (Int32) :=
  (hiter (fun q : Int32 × Int32 => x_st_weight_L4 g b p0 q.1 q.2) hFU ((0 : Int32), (0 : Int32))).bind fun x5 => some x5

def x_st_moves (g : hSt) (b : Nat) (p0 : Int32) (p1 : Int32) (p2 : Int32) (p3 : Int32) : Option (hSt) :=
  (hrd 6 (g (b + 1)) p0).bind fun x1 => hwr 6 g (b + 1) p0 (x1 &&& (p1 ^^^ (-1 : Int32))) fun g2 => (hrd 6 (g2 (b + 1)) p3).bind fun x3 => hwr 6 g2 (b + 1) p3 (x3 ||| p1) fun g4 => (hrd 6 (g4 (b + 2)) p0).bind fun x5 => hwr 6 g4 (b + 2) p0 (x5 - p2) fun g6 => (hrd 6 (g6 (b + 2)) p3).bind fun x7 => hwr 6 g6 (b + 2) p3 (x7 + p2) fun g8 => some g8

def x_st_like (g : hSt) (b : Nat) (b0 : Nat) : Option (hSt) :=
  hcp 6 6 g (b0 + 1) (0 : Int32) (b + 1) (0 : Int32) (6 : Int32) fun g1 => hcp 6 6 g1 (b0 + 2) (0 : Int32) (b + 2) (0 : Int32) (6 : Int32) fun g2 => hcp 6 6 g2 (b0 + 3) (0 : Int32) (b + 3) (0 : Int32) (6 : Int32) fun g3 => hcp 6 6 g3 (b0 + 4) (0 : Int32) (b + 4) (0 : Int32) (6 : Int32) fun g4 => hcp 12 12 g4 (b0 + 5) (0 : Int32) (b + 5) (0 : Int32) (12 : Int32) fun g5 => hpt g5 b 5 (g5 b0 5) fun g6 => some g6

def x_st_owner_L2 (g : hSt) (b : Nat) (p0 : Int32) (v2_2 : Int32) : Option ((Int32) ⊕ ((Unit) ⊕ (Int32))) :=
  if (6 : Int32) ≤ v2_2 then (some (.inr (.inl ()))) else ((hrd 6 (g (b + 1)) v2_2).bind fun x1 => if ((x1 >>> (p0 &&& (31 : Int32))) &&& (1 : Int32)) = (1 : Int32) then (some (.inr (.inr v2_2))) else (hlet (v2_2 + (1 : Int32)) fun y2_2 => some (.inl y2_2)))
def x_st_owner (g : hSt) (b : Nat) (p0 : Int32) : Option (Int32) :=
  (hiter (fun q : Int32 => x_st_owner_L2 g b p0 q) hFU (0 : Int32)).bind fun x3 => hcase x3 (fun e4 => some (-1 : Int32)) (fun r => some r)

def x_st_spot_L4 (g : hSt) (b : Nat) (v1_4 : Int32) (v2_4 : Int32) : Option ((Int32 × Int32) ⊕ (Int32)) :=
  if (6 : Int32) ≤ v2_4 then (some (.inr v1_4)) else ((hrd 6 (g (b + 1)) v2_4).bind fun x1 => (hrd 6 (g (b + 2)) v2_4).bind fun x2 => (hrd 6 (g (b + 3)) v2_4).bind fun x3 => (hrd 6 (g (b + 4)) v2_4).bind fun x4 => hlet (((((((v1_4 * (31 : Int32)) + x1) * (31 : Int32)) + x2) * (31 : Int32)) + (x3 * (7 : Int32))) + x4) fun y1_5 => hlet (v2_4 + (1 : Int32)) fun y2_6 => some (.inl (y1_5, y2_6)))
def x_st_spot (g : hSt) (b : Nat) : Option (Int32) :=
  (hiter (fun q : Int32 × Int32 => x_st_spot_L4 g b q.1 q.2) hFU ((0 : Int32), (0 : Int32))).bind fun x7 => some ((x7 ^^^ (x7.toUInt32 >>> ((12 : Int32).toUInt32 &&& Int32.toUInt32 31)).toInt32) &&& (4095 : Int32))

def x_st_isLike_L2 (g : hSt) (b : Nat) (b0 : Nat) (v2_2 : Int32) : Option ((Int32) ⊕ ((Unit) ⊕ (Int32))) :=
  if (6 : Int32) ≤ v2_2 then (some (.inr (.inl ()))) else ((hrd 6 (g (b + 1)) v2_2).bind fun x1 => (hrd 6 (g (b0 + 1)) v2_2).bind fun x2 => if x1 = x2 then ((hrd 6 (g (b + 2)) v2_2).bind fun x3 => (hrd 6 (g (b0 + 2)) v2_2).bind fun x4 => if x3 = x4 then ((hrd 6 (g (b + 3)) v2_2).bind fun x5 => (hrd 6 (g (b0 + 3)) v2_2).bind fun x6 => if x5 = x6 then ((hrd 6 (g (b + 4)) v2_2).bind fun x7 => (hrd 6 (g (b0 + 4)) v2_2).bind fun x8 => if x7 = x8 then (hlet (v2_2 + (1 : Int32)) fun y2_9 => some (.inl y2_9)) else (some (.inr (.inr (0 : Int32))))) else (some (.inr (.inr (0 : Int32))))) else (some (.inr (.inr (0 : Int32))))) else (some (.inr (.inr (0 : Int32)))))
def x_st_isLike (g : hSt) (b : Nat) (b0 : Nat) : Option (Int32) :=
  (hiter (fun q : Int32 => x_st_isLike_L2 g b b0 q) hFU (0 : Int32)).bind fun x10 => hcase x10 (fun e11 => some (1 : Int32)) (fun r => some r)

def x_tn_all (g : hSt) : Option (Int32) :=
  some (((1 : Int32) <<< ((g 10 2) &&& (31 : Int32))) - (1 : Int32))

def x_lst_worth_L4 (g : hSt) (p0 : Int32) (v2_4 : Int32) (v3_4 : Int32) : Option ((Int32 × Int32) ⊕ (Int32)) :=
  if (12 : Int32) ≤ v3_4 then (some (.inr v2_4)) else (if ((p0 >>> (v3_4 &&& (31 : Int32))) &&& (1 : Int32)) = (1 : Int32) then ((hrd 12 (g 13) v3_4).bind fun x2 => hlet (v2_4 + x2) fun y2_3 => hlet (v3_4 + (1 : Int32)) fun y3_4 => some (.inl (y2_3, y3_4))) else (hlet (v3_4 + (1 : Int32)) fun y3_1 => some (.inl (v2_4, y3_1))))
def x_lst_worth (g : hSt) (p0 : Int32) : Option (Int32) :=
  (hiter (fun q : Int32 × Int32 => x_lst_worth_L4 g p0 q.1 q.2) hFU ((0 : Int32), (0 : Int32))).bind fun x5 => some x5

def x_gv0_isReady (b : Nat) (p0 : Int32) : Option (Int32) :=
  some (1 : Int32)

def x_gv0_mayTake (b : Nat) (p0 : Int32) : Option (Int32) :=
  some (1 : Int32)

def x_gv0_isBetter (b : Nat) (p0 : Int32) (p1 : Int32) : Option (Int32) :=
  some (0 : Int32)

def x_gv0_likes (b : Nat) (b0 : Nat) : Option (Int32) :=
  some (-1 : Int32)

def x_pl_kind (b : Nat) : Option (Int32) :=
  some (0 : Int32)

def x_aim_kind (b : Nat) : Option (Int32) :=
  some (3 : Int32)

def x_aim_mayTake_B23 : Option (Int32) :=
  some (0 : Int32)
def x_aim_mayTake (g : hSt) (b : Nat) (p0 : Int32) : Option (Int32) :=
  (x_gv0_mayTake b p0).bind fun y1 => if y1 = 0 then (x_aim_mayTake_B23) else (if ((p0 >>> ((g b 0) &&& (31 : Int32))) &&& (1 : Int32)) = 0 then (some (1 : Int32)) else (x_aim_mayTake_B23))

def x_aim_likes (g : hSt) (b : Nat) (b0 : Nat) : Option (Int32) :=
  (x_st_owner g b0 (g b 0)).bind fun y1 => some y1

def x_wait_kind (b : Nat) : Option (Int32) :=
  some (4 : Int32)

def x_wait_isReady_B20 : Option (Int32) :=
  some (0 : Int32)
def x_wait_isReady (g : hSt) (b : Nat) (p0 : Int32) : Option (Int32) :=
  (x_gv0_isReady b p0).bind fun y1 => if y1 = 0 then (x_wait_isReady_B20) else (if p0 < (g b 0) then (x_wait_isReady_B20) else (some (1 : Int32)))

def x_lst_kind (b : Nat) : Option (Int32) :=
  some (1 : Int32)

def x_lst_isBetter (g : hSt) (b : Nat) (p0 : Int32) (p1 : Int32) : Option (Int32) :=
  (x_lst_worth g p0).bind fun y1 => (x_lst_worth g p1).bind fun y2 => if y2 ≤ y1 then (some (0 : Int32)) else (some (1 : Int32))

def x_few_kind (b : Nat) : Option (Int32) :=
  some (2 : Int32)

def x_few_isBetter (b : Nat) (p0 : Int32) (p1 : Int32) : Option (Int32) :=
  (x_jI_bitCount p0).bind fun y1 => (x_jI_bitCount p1).bind fun y2 => if y2 ≤ y1 then (some (0 : Int32)) else (some (1 : Int32))

def x_gv_kind (pr : hPr) (g : hSt) (r : Nat) : Option Int32 := if pr r 0 = 0 then x_pl_kind r else if pr r 0 = 1 then x_lst_kind r else if pr r 0 = 2 then x_few_kind r else if pr r 0 = 3 then x_aim_kind r else x_wait_kind r
def x_gv_isReady (pr : hPr) (g : hSt) (r : Nat) (p0 : Int32) : Option Int32 := if pr r 0 = 4 then x_wait_isReady g r p0 else x_gv0_isReady r p0
def x_gv_mayTake (pr : hPr) (g : hSt) (r : Nat) (p0 : Int32) : Option Int32 := if pr r 0 = 3 then x_aim_mayTake g r p0 else x_gv0_mayTake r p0
def x_gv_isBetter (pr : hPr) (g : hSt) (r : Nat) (p0 p1 : Int32) : Option Int32 := if pr r 0 = 1 then x_lst_isBetter g r p0 p1 else if pr r 0 = 2 then x_few_isBetter r p0 p1 else x_gv0_isBetter r p0 p1
def x_gv_likes (pr : hPr) (g : hSt) (r : Nat) (b0 : Nat) : Option Int32 := if pr r 0 = 3 then x_aim_likes g r b0 else x_gv0_likes r b0

def x_there (p0 : Int32) : Option (Unit ⊕ Nat) := some (if p0 = 0 then .inr 1 else .inl ())
def x_right (p0 : Int32) : Option (Unit ⊕ Nat) := some (if p0 = 0 then .inr 2 else .inl ())
def x_lay_L3 (p0 : Int32) (v2_3 : Int32) (g_3 : hSt) : Option ((Int32 × hSt) ⊕ (hSt)) :=
  if v2_3 < 0 then (some (.inr g_3)) else (hwr 700 g_3 1 (g_3 0 4) (vp_nar .byte ((p0 >>> (v2_3 &&& (31 : Int32))).toInt8.toInt32)) fun g1 => hpt g1 0 4 ((g1 0 4) + (1 : Int32)) fun g2 => hlet (v2_3 + (-8 : Int32)) fun y2_3 => some (.inl (y2_3, g2)))
def x_lay (g : hSt) (p0 : Int32) : Option (hSt) :=
  (hiter (fun q : Int32 × hSt => x_lay_L3 p0 q.1 q.2) hFU ((24 : Int32), g)).bind fun x4 => some x4

def x_feed (g : hSt) (p0 : Int32) (p1 : Int32) (p2 : Int32) (p3 : Int32) (p4 : Int32) : Option (Int32 × hSt) :=
  if ((g 0 4) + (20 : Int32)) ≤ (700 : Int32) then ((x_lay g p0).bind fun y1 => (x_lay y1 p1).bind fun y2 => (x_lay y2 p2).bind fun y3 => (x_lay y3 p3).bind fun y4 => (x_lay y4 p4).bind fun y5 => some ((y5 0 4), y5)) else (some ((-1 : Int32), g))

def x_fault (g : hSt) : Option (Int32) :=
  some (g 0 5)

def x_isPerson_B22 : Option (Int32) :=
  some (0 : Int32)
def x_isPerson (g : hSt) (p0 : Int32) : Option (Int32) :=
  if p0 < 0 then (x_isPerson_B22) else ((x_al_size g 11).bind fun y1 => if y1 ≤ p0 then (x_isPerson_B22) else (some (1 : Int32)))

def x_trouble_B117 (g : hSt) (p0 : Int32) (p1 : Int32) (p2 : Int32) : Option (Int32) :=
  (x_st_weight g 24 p1).bind fun y8 => hlet (y8 + p2) fun y6_9 => (hrd 6 (g (24 + 3)) p0).bind fun x10 => if (hmax (1 : Int32) (x10 - (g 10 4))) ≤ y6_9 then ((hrd 6 (g (24 + 3)) p0).bind fun x11 => if y6_9 ≤ (x11 + (g 10 4)) then (some (0 : Int32)) else (some (6 : Int32))) else (some (5 : Int32))
def x_trouble (g : hSt) (p0 : Int32) (p1 : Int32) (p2 : Int32) (p3 : Int32) : Option (Int32) :=
  (x_isPerson g p0).bind fun y1 => if y1 = 0 then (some (1 : Int32)) else ((x_isPerson g p3).bind fun y2 => if y2 = 0 then (some (1 : Int32)) else (if p1 < 0 then (some (1 : Int32)) else ((x_tn_all g).bind fun y3 => if y3 < p1 then (some (1 : Int32)) else (if 0 ≤ p2 then ((hrd 6 (g (24 + 3)) p0).bind fun x4 => if x4 = 0 then (some (2 : Int32)) else ((hrd 6 (g (24 + 1)) p0).bind fun x5 => if (p1 &&& (x5 ^^^ (-1 : Int32))) = 0 then ((hrd 6 (g (24 + 2)) p0).bind fun x6 => if p2 ≤ x6 then (if p3 = p0 then (some (4 : Int32)) else ((hrd 6 (g (24 + 4)) p0).bind fun x7 => if x7 = (-1 : Int32) then (x_trouble_B117 g p0 p1 p2) else ((hrd 6 (g (24 + 4)) p0).bind fun x12 => if x12 = p3 then (x_trouble_B117 g p0 p1 p2) else (some (4 : Int32))))) else (some (3 : Int32))) else (some (3 : Int32)))) else (some (1 : Int32))))))

def x_judge (g : hSt) (p0 : Int32) (p1 : Int32) (p2 : Int32) (p3 : Int32) : Option (Int32) :=
  (x_trouble g p0 p1 p2 p3).bind fun y1 => some y1

def x_gives (g : hSt) (b0 : Nat) (p1 : Int32) (p2 : Int32) (p3 : Int32) (p4 : Int32) : Option (hSt) :=
  (x_st_weight g b0 p2).bind fun y1 => hlet (y1 + p3) fun y6_2 => (x_st_moves g b0 p1 p2 p3 p4).bind fun y3 => hwr 6 y3 (b0 + 3) p1 (0 : Int32) fun g4 => hwr 6 g4 (b0 + 4) p1 (-1 : Int32) fun g5 => hwr 6 g5 (b0 + 3) p4 y6_2 fun g6 => if (g6 10 5) = 0 then (hwr 6 g6 (b0 + 4) p4 p1 fun g7 => some g7) else (hwr 6 g6 (b0 + 4) p4 (-1 : Int32) fun g8 => some g8)

def x_sandFor (g : hSt) (b0 : Nat) (p1 : Int32) (p2 : Int32) (p3 : Int32) : Option (Int32) :=
  (x_st_weight g b0 p2).bind fun y1 => hlet (hmax (0 : Int32) ((hmax (1 : Int32) (p3 - (g 10 4))) - y1)) fun y6_2 => (x_al_size g 11).bind fun y3 => if y3 < (2 : Int32) then (some (-1 : Int32)) else (if p3 = 0 then (some (-1 : Int32)) else ((hrd 6 (g (b0 + 2)) p1).bind fun x4 => if x4 < y6_2 then (some (-1 : Int32)) else (if (y1 + y6_2) ≤ (p3 + (g 10 4)) then (some y6_2) else (some (-1 : Int32)))))

def x_next (p0 : Int32) (p1 : Int32) : Option (Int32) :=
  some (((p0 ||| (p1 ^^^ (-1 : Int32))) + (1 : Int32)) &&& p1)

def x_chosen_B86 (g : hSt) (b0 : Nat) (p1 : Int32) (v5_34 : Int32) (a4_86 : Int32) : Option ((Int32 × Int32) ⊕ (Int32)) :=
  (hrd 6 (g (b0 + 1)) p1).bind fun x4 => (x_next v5_34 x4).bind fun y5 => if y5 = 0 then (some (.inr a4_86)) else (some (.inl (a4_86, y5)))
def x_chosen_B82 (g : hSt) (b0 : Nat) (p1 : Int32) (v5_34 : Int32) : Option ((Int32 × Int32) ⊕ (Int32)) :=
  x_chosen_B86 g b0 p1 v5_34 v5_34
def x_chosen_L34 (g : hSt) (pr : hPr) (b0 : Nat) (p1 : Int32) (r1 : Nat) (v4_34 : Int32) (v5_34 : Int32) : Option ((Int32 × Int32) ⊕ (Int32)) :=
  (x_gv_mayTake pr g r1 v5_34).bind fun y3 => if y3 = 0 then (x_chosen_B86 g b0 p1 v5_34 v4_34) else ((hrd 6 (g (b0 + 3)) p1).bind fun x6 => (x_sandFor g b0 p1 v5_34 x6).bind fun y7 => if y7 = (-1 : Int32) then (x_chosen_B86 g b0 p1 v5_34 v4_34) else (if v4_34 = (-1 : Int32) then (x_chosen_B82 g b0 p1 v5_34) else ((x_gv_isBetter pr g r1 v5_34 v4_34).bind fun y8 => if y8 = 0 then (x_chosen_B86 g b0 p1 v5_34 v4_34) else (x_chosen_B82 g b0 p1 v5_34))))
def x_chosen (g : hSt) (pr : hPr) (b0 : Nat) (p1 : Int32) : Option (Int32) :=
  (hgv pr g p1).bind fun r1 => (x_gv_isReady pr g r1 (g b0 5)).bind fun y2 => if y2 = 0 then (some (-1 : Int32)) else ((hiter (fun q : Int32 × Int32 => x_chosen_L34 g pr b0 p1 r1 q.1 q.2) hFU ((-1 : Int32), (0 : Int32))).bind fun x9 => some x9)

def x_toWhom_B39 (g : hSt) (p1 : Int32) : Option (Int32) :=
  (x_al_size g 11).bind fun y3 => if y3 = 0 then none else some ((p1 + (1 : Int32)) - (p1 + (1 : Int32)) / y3 * y3)
def x_toWhom (g : hSt) (pr : hPr) (b0 : Nat) (p1 : Int32) (p2 : Int32) : Option (Int32) :=
  if p2 = (-1 : Int32) then ((hgv pr g p1).bind fun r1 => (x_gv_likes pr g r1 b0).bind fun y2 => if y2 = (-1 : Int32) then (x_toWhom_B39 g p1) else (if y2 = p1 then (x_toWhom_B39 g p1) else (some y2))) else (some p2)

def x_mayChange_L2 (g : hSt) (pr : hPr) (b0 : Nat) (v2_2 : Int32) : Option ((Int32) ⊕ ((Unit) ⊕ (Int32))) :=
  (x_al_size g 11).bind fun y1 => if y1 ≤ v2_2 then (some (.inr (.inl ()))) else ((hrd 6 (g (b0 + 3)) v2_2).bind fun x2 => if x2 ≤ 0 then (hlet (v2_2 + (1 : Int32)) fun y2_3 => some (.inl y2_3)) else ((hgv pr g v2_2).bind fun r4 => (x_gv_isReady pr g r4 (g b0 5)).bind fun y5 => if y5 = 0 then (some (.inr (.inr (1 : Int32)))) else (hlet (v2_2 + (1 : Int32)) fun y2_6 => some (.inl y2_6))))
def x_mayChange_L59 (g : hSt) (b0 : Nat) (v2_59 : Int32) : Option ((Int32) ⊕ ((Unit) ⊕ (Int32))) :=
  if (g 10 2) ≤ v2_59 then (some (.inr (.inl ()))) else (if (((g 10 3) >>> (v2_59 &&& (31 : Int32))) &&& (1 : Int32)) = (1 : Int32) then ((hrd 12 (g (b0 + 5)) v2_59).bind fun x10 => if x10 ≤ (1 : Int32) then (hlet (v2_59 + (1 : Int32)) fun y2_11 => some (.inl y2_11)) else (some (.inr (.inr (1 : Int32))))) else (hlet (v2_59 + (1 : Int32)) fun y2_9 => some (.inl y2_9)))
def x_mayChange (g : hSt) (pr : hPr) (b0 : Nat) : Option (Int32) :=
  (hiter (fun q : Int32 => x_mayChange_L2 g pr b0 q) hFU (0 : Int32)).bind fun x7 => hcase x7 (fun e8 => (hiter (fun q : Int32 => x_mayChange_L59 g b0 q) hFU (0 : Int32)).bind fun x12 => hcase x12 (fun e13 => some (0 : Int32)) (fun r => some r)) (fun r => some r)

def x_dries_L2 (b0 : Nat) (v2_2 : Int32) (g_2 : hSt) : Option ((Int32 × hSt) ⊕ (hSt)) :=
  if (g_2 10 2) ≤ v2_2 then (some (.inr g_2)) else (if (((g_2 10 3) >>> (v2_2 &&& (31 : Int32))) &&& (1 : Int32)) = (1 : Int32) then ((hrd 12 (g_2 (b0 + 5)) v2_2).bind fun x2 => hwr 12 g_2 (b0 + 5) v2_2 (hmax (1 : Int32) (x2 - (1 : Int32))) fun g3 => hlet (v2_2 + (1 : Int32)) fun y2_4 => some (.inl (y2_4, g3))) else (hlet (v2_2 + (1 : Int32)) fun y2_1 => some (.inl (y2_1, g_2))))
def x_dries (g : hSt) (b0 : Nat) : Option (hSt) :=
  (hiter (fun q : Int32 × hSt => x_dries_L2 b0 q.1 q.2) hFU ((0 : Int32), g)).bind fun x5 => hpt x5 b0 5 ((x5 b0 5) + (1 : Int32)) fun g6 => some g6

def x_still_L26 (pr : hPr) (v2_26 : Int32) (v3_26 : Int32) (g_26 : hSt) : Option ((Int32 × Int32 × hSt) ⊕ (Int32 × hSt)) :=
  (x_al_size g_26 11).bind fun y2 => if y2 ≤ v3_26 then (some (.inr (v2_26, g_26))) else ((x_chosen g_26 pr 30 v3_26).bind fun y3 => if y3 = (-1 : Int32) then (hlet (v3_26 + (1 : Int32)) fun y3_10 => some (.inl (v2_26, y3_10, g_26))) else ((hrd 6 (g_26 (30 + 3)) v3_26).bind fun x4 => (x_sandFor g_26 30 v3_26 y3 x4).bind fun y5 => (hrd 6 (g_26 (30 + 4)) v3_26).bind fun x6 => (x_toWhom g_26 pr 30 v3_26 x6).bind fun y7 => (x_gives g_26 30 v3_26 y3 y5 y7).bind fun y8 => hlet (v3_26 + (1 : Int32)) fun y3_9 => some (.inl ((1 : Int32), y3_9, y8))))
def x_still_B140 (v1_16 : Int32) (x11 : Int32 × hSt) : Option ((Int32 × hSt) ⊕ ((hSt) ⊕ (Int32 × hSt))) :=
  (x_dries x11.2 30).bind fun y12 => hlet (v1_16 + (1 : Int32)) fun y1_13 => some (.inl (y1_13, y12))
def x_still_L16 (pr : hPr) (v1_16 : Int32) (g_16 : hSt) : Option ((Int32 × hSt) ⊕ ((hSt) ⊕ (Int32 × hSt))) :=
  if (100 : Int32) ≤ v1_16 then (some (.inr (.inl g_16))) else ((hiter (fun q : Int32 × Int32 × hSt => x_still_L26 pr q.1 q.2.1 q.2.2) hFU ((0 : Int32), (0 : Int32), g_16)).bind fun x11 => if x11.1 = 0 then ((x_mayChange x11.2 pr 30).bind fun y14 => if y14 = 0 then (some (.inr (.inr ((x11.2 30 5), x11.2)))) else (x_still_B140 v1_16 x11)) else (x_still_B140 v1_16 x11))
def x_still (g : hSt) (pr : hPr) : Option (Int32 × hSt) :=
  (x_st_like g 30 24).bind fun y1 => (hiter (fun q : Int32 × hSt => x_still_L16 pr q.1 q.2) hFU ((0 : Int32), y1)).bind fun x15 => hcase x15 (fun e16 => some ((-1 : Int32), e16)) (fun r => some r)

def x_within_B14 : Option (Int32) :=
  some (0 : Int32)
def x_within (p0 : Int32) (p1 : Int32) (p2 : Int32) : Option (Int32) :=
  if p0 < p1 then (x_within_B14) else (if p2 < p0 then (x_within_B14) else (some (1 : Int32)))

def x_count (g : hSt) (p0 : Int32) : Option ((Int32) ⊕ Nat) :=
  (x_within p0 (0 : Int32) (8 : Int32)).bind fun y1 => (x_there y1).bind fun z2 => hcase z2 (fun _ => if p0 = 0 then ((x_al_size g 11).bind fun y4 => some (.inl y4)) else (if p0 = 1 then (some (.inl (g 10 2))) else (if p0 = 2 then (if (g 10 5) = 0 then (some (.inl (0 : Int32))) else (some (.inl (1 : Int32)))) else (if p0 = 3 then (some (.inl (g 10 4))) else (if p0 = 4 then (some (.inl (g 24 5))) else (if p0 = 5 then ((x_al_size g 21).bind fun y5 => some (.inl y5)) else (if p0 = 6 then (some (.inl (g 0 4))) else ((hrd 2 (g 23) (p0 - (7 : Int32))).bind fun x3 => some (.inl x3))))))))) (fun k => some (.inr k))

def x_person_2 (g : hSt) (p0 : Int32) : Option ((Unit) ⊕ Nat) :=
  (x_isPerson g p0).bind fun y1 => (x_there y1).bind fun z2 => hcase z2 (fun _ => some (.inl ())) (fun k => some (.inr k))

def x_person (g : hSt) (pr : hPr) (p0 : Int32) (p1 : Int32) : Option ((Int32) ⊕ Nat) :=
  (x_person_2 g p0).bind fun z1 => hcase z1 (fun _ => (x_within p1 (0 : Int32) (6 : Int32)).bind fun y2 => (x_there y2).bind fun z3 => hcase z3 (fun _ => if p1 = 0 then ((hgv pr g p0).bind fun r6 => (x_gv_kind pr g r6).bind fun y7 => some (.inl y7)) else (if p1 = 1 then ((hrd 6 (g (24 + 2)) p0).bind fun x8 => some (.inl x8)) else (if p1 = 2 then ((hrd 6 (g (24 + 3)) p0).bind fun x9 => some (.inl x9)) else (if p1 = 3 then ((hrd 6 (g (24 + 3)) p0).bind fun x10 => if x10 = 0 then (some (.inl (-1 : Int32))) else ((hrd 6 (g (24 + 4)) p0).bind fun x11 => some (.inl x11))) else (if p1 = 4 then ((hrd 6 (g (24 + 1)) p0).bind fun x12 => some (.inl x12)) else (if p1 = 5 then ((hrd 6 (g (24 + 1)) p0).bind fun x13 => (x_lst_worth g x13).bind fun y14 => some (.inl y14)) else ((hrd 6 (g (24 + 1)) p0).bind fun x4 => (x_st_weight g 24 x4).bind fun y5 => some (.inl y5)))))))) (fun k => some (.inr k))) (fun k => some (.inr k))

def x_thing_B29 (g : hSt) (p0 : Int32) (p1 : Int32) (k0_29 : Int32) : Option ((Int32) ⊕ Nat) :=
  (x_there k0_29).bind fun z1 => hcase z1 (fun _ => if p1 = 0 then ((hrd 12 (g (24 + 5)) p0).bind fun x2 => some (.inl x2)) else (if p1 = 1 then ((hrd 12 (g 13) p0).bind fun x3 => some (.inl x3)) else (if p1 = 2 then ((x_st_owner g 24 p0).bind fun y4 => some (.inl y4)) else (some (.inl (((g 10 3) >>> (p0 &&& (31 : Int32))) &&& (1 : Int32))))))) (fun k => some (.inr k))
def x_thing_B28 (g : hSt) (p0 : Int32) (p1 : Int32) : Option ((Int32) ⊕ Nat) :=
  x_thing_B29 g p0 p1 (0 : Int32)
def x_thing (g : hSt) (p0 : Int32) (p1 : Int32) : Option ((Int32) ⊕ Nat) :=
  if p0 < 0 then (x_thing_B28 g p0 p1) else (if (g 10 2) ≤ p0 then (x_thing_B28 g p0 p1) else ((x_within p1 (0 : Int32) (3 : Int32)).bind fun y5 => if y5 = 0 then (x_thing_B28 g p0 p1) else (x_thing_B29 g p0 p1 (1 : Int32))))

def x_gift_B32 (g : hSt) (pr : hPr) (p0 : Int32) (p1 : Int32) (k0_32 : Int32) : Option ((Int32) ⊕ Nat) :=
  (x_there k0_32).bind fun z1 => hcase z1 (fun _ => (hgf pr g p0).bind fun r2 => if p1 = 0 then (some (.inl (g r2 0))) else (if p1 = 1 then (some (.inl (g r2 1))) else (if p1 = 2 then (some (.inl (g r2 2))) else (if p1 = 3 then (some (.inl (g r2 3))) else (some (.inl (g r2 4))))))) (fun k => some (.inr k))
def x_gift_B31 (g : hSt) (pr : hPr) (p0 : Int32) (p1 : Int32) : Option ((Int32) ⊕ Nat) :=
  x_gift_B32 g pr p0 p1 (0 : Int32)
def x_gift (g : hSt) (pr : hPr) (p0 : Int32) (p1 : Int32) : Option ((Int32) ⊕ Nat) :=
  if p0 < 0 then (x_gift_B31 g pr p0 p1) else ((x_al_size g 21).bind fun y3 => if y3 ≤ p0 then (x_gift_B31 g pr p0 p1) else ((x_within p1 (0 : Int32) (4 : Int32)).bind fun y4 => if y4 = 0 then (x_gift_B31 g pr p0 p1) else (x_gift_B32 g pr p0 p1 (1 : Int32))))

def x_sets_B39 (g : hSt) (p0 : Int32) (v4_18 : Int32) (a3_39 : Int32) : Option ((Int32 × Int32) ⊕ (Int32)) :=
  (hrd 6 (g (24 + 1)) p0).bind fun x4 => (x_next v4_18 x4).bind fun y5 => if y5 = 0 then (some (.inr a3_39)) else (some (.inl (a3_39, y5)))
def x_sets_L18 (g : hSt) (p0 : Int32) (v3_18 : Int32) (v4_18 : Int32) : Option ((Int32 × Int32) ⊕ (Int32)) :=
  (hrd 6 (g (24 + 3)) p0).bind fun x2 => (x_sandFor g 24 p0 v4_18 x2).bind fun y3 => if y3 = (-1 : Int32) then (x_sets_B39 g p0 v4_18 v3_18) else (hlet (v3_18 + (1 : Int32)) fun y3_6 => x_sets_B39 g p0 v4_18 y3_6)
def x_sets (g : hSt) (p0 : Int32) : Option ((Int32) ⊕ Nat) :=
  (x_person_2 g p0).bind fun z1 => hcase z1 (fun _ => (hiter (fun q : Int32 × Int32 => x_sets_L18 g p0 q.1 q.2) hFU ((0 : Int32), (0 : Int32))).bind fun x7 => some (.inl x7)) (fun k => some (.inr k))

def x_choice (g : hSt) (pr : hPr) (p0 : Int32) (p1 : Int32) : Option ((Int32) ⊕ Nat) :=
  (x_person_2 g p0).bind fun z1 => hcase z1 (fun _ => (x_within p1 (0 : Int32) (2 : Int32)).bind fun y2 => (x_there y2).bind fun z3 => hcase z3 (fun _ => (x_chosen g pr 24 p0).bind fun y4 => if y4 = (-1 : Int32) then (some (.inl (-1 : Int32))) else (if p1 = 0 then (some (.inl y4)) else (if p1 = (1 : Int32) then ((hrd 6 (g (24 + 3)) p0).bind fun x7 => (x_sandFor g 24 p0 y4 x7).bind fun y8 => some (.inl y8)) else ((hrd 6 (g (24 + 4)) p0).bind fun x5 => (x_toWhom g pr 24 p0 x5).bind fun y6 => some (.inl y6))))) (fun k => some (.inr k))) (fun k => some (.inr k))

def x_gap_B95 (g : hSt) (p0 : Int32) (v5_32 : Int32) (a4_95 : Int32) : Option ((Int32 × Int32) ⊕ (Int32)) :=
  (hrd 6 (g (24 + 1)) p0).bind fun x6 => (x_next v5_32 x6).bind fun y7 => if y7 = 0 then (some (.inr a4_95)) else (some (.inl (a4_95, y7)))
def x_gap_B93 (g : hSt) (p0 : Int32) (v5_32 : Int32) (k0_93 : Int32) : Option ((Int32 × Int32) ⊕ (Int32)) :=
  x_gap_B95 g p0 v5_32 k0_93
def x_gap_L32 (g : hSt) (p0 : Int32) (x2 : Int32) (v4_32 : Int32) (v5_32 : Int32) : Option ((Int32 × Int32) ⊕ (Int32)) :=
  (x_st_weight g 24 v5_32).bind fun y3 => (hrd 6 (g (24 + 2)) p0).bind fun x4 => hlet (hmax y3 (hmin (y3 + x4) x2)) fun y7_5 => if y7_5 ≤ 0 then (x_gap_B95 g p0 v5_32 v4_32) else (if v4_32 = (-1 : Int32) then (x_gap_B93 g p0 v5_32 (habs (x2 - y7_5))) else (x_gap_B93 g p0 v5_32 (hmin v4_32 (habs (x2 - y7_5)))))
def x_gap (g : hSt) (p0 : Int32) : Option ((Int32) ⊕ Nat) :=
  (x_person_2 g p0).bind fun z1 => hcase z1 (fun _ => (hrd 6 (g (24 + 3)) p0).bind fun x2 => if x2 = 0 then (some (.inl (-1 : Int32))) else ((hiter (fun q : Int32 × Int32 => x_gap_L32 g p0 x2 q.1 q.2) hFU ((-1 : Int32), (0 : Int32))).bind fun x8 => if x8 = (-1 : Int32) then (some (.inl x2)) else (some (.inl (hmax (0 : Int32) (x8 - (g 10 4))))))) (fun k => some (.inr k))

def x_answer_B216 (r2 : Nat) (v4_47 : Int32) (v6_100 : Int32) (g_216 : hSt) : Option ((Int32 × hSt) ⊕ ((hSt) ⊕ (Int32 × hSt))) :=
  (hrd 6 (g_216 (r2 + 1)) v4_47).bind fun x7 => (x_next v6_100 x7).bind fun y8 => if y8 = 0 then (some (.inr (.inl g_216))) else (some (.inl (y8, g_216)))
def x_answer_L100 (rcf : hSt → hPr → Int32 → Int32 → Option (Int32 × hSt)) (pr : hPr) (p0 : Int32) (p1 : Int32) (r2 : Nat) (v4_47 : Int32) (x5 : Int32) (v6_100 : Int32) (g_100 : hSt) : Option ((Int32 × hSt) ⊕ ((hSt) ⊕ (Int32 × hSt))) :=
  (x_sandFor g_100 r2 v4_47 v6_100 x5).bind fun y6 => if y6 = (-1 : Int32) then (x_answer_B216 r2 v4_47 v6_100 g_100) else (if (g_100 0 10) = (20000 : Int32) then (hpt g_100 0 10 (-2 : Int32) fun g17 => some (.inr (.inr ((1 : Int32), g17)))) else (hpt g_100 0 10 ((g_100 0 10) + (1 : Int32)) fun g9 => (hbel (p0 + (1 : Int32))).bind fun r10 => (x_st_like g9 r10 r2).bind fun y11 => (hbel (p0 + (1 : Int32))).bind fun r12 => (hrd 6 (y11 (24 + 4)) v4_47).bind fun x13 => (x_toWhom y11 pr r2 v4_47 x13).bind fun y14 => (x_st_moves y11 r12 v4_47 v6_100 y6 y14).bind fun y15 => (rcf y15 pr (p0 + (1 : Int32)) (p1 &&& (((1 : Int32) <<< (v4_47 &&& (31 : Int32))) ^^^ (-1 : Int32)))).bind fun y16 => if y16.1 = 0 then (x_answer_B216 r2 v4_47 v6_100 y16.2) else (some (.inr (.inr ((1 : Int32), y16.2))))))
def x_answer_L47 (rcf : hSt → hPr → Int32 → Int32 → Option (Int32 × hSt)) (pr : hPr) (p0 : Int32) (p1 : Int32) (r2 : Nat) (v4_47 : Int32) (g_47 : hSt) : Option ((Int32 × hSt) ⊕ ((hSt) ⊕ (Int32 × hSt))) :=
  (x_al_size g_47 11).bind fun y3 => if y3 ≤ v4_47 then (some (.inr (.inl g_47))) else (if ((p1 >>> (v4_47 &&& (31 : Int32))) &&& (1 : Int32)) = 0 then (hlet (v4_47 + (1 : Int32)) fun y4_21 => some (.inl (y4_21, g_47))) else (hwr 6 g_47 4 p0 v4_47 fun g4 => (hrd 6 (g4 (24 + 3)) v4_47).bind fun x5 => (hiter (fun q : Int32 × hSt => x_answer_L100 rcf pr p0 p1 r2 v4_47 x5 q.1 q.2) hFU ((0 : Int32), g4)).bind fun x18 => hcase x18 (fun e19 => hlet (v4_47 + (1 : Int32)) fun y4_20 => some (.inl (y4_20, e19))) (fun r => some (.inr (.inr r)))))
def x_answer (rcf : hSt → hPr → Int32 → Int32 → Option (Int32 × hSt)) (g : hSt) (pr : hPr) (p0 : Int32) (p1 : Int32) : Option (Int32 × hSt) :=
  hpt g 0 11 (hmax (g 0 11) p0) fun g1 => if p1 = 0 then (hcp 6 6 g1 4 (0 : Int32) 3 (0 : Int32) p0 fun g24 => hpt g24 0 9 p0 fun g25 => some ((1 : Int32), g25)) else ((hbel p0).bind fun r2 => (hiter (fun q : Int32 × hSt => x_answer_L47 rcf pr p0 p1 r2 q.1 q.2) hFU ((0 : Int32), g1)).bind fun x22 => hcase x22 (fun e23 => some ((0 : Int32), e23)) (fun r => some r))

def x_order_B17 (g : hSt) (p0 : Int32) (k0_17 : Int32) : Option ((Int32) ⊕ Nat) :=
  (x_there k0_17).bind fun z1 => hcase z1 (fun _ => (hrd 6 (g 3) p0).bind fun x2 => some (.inl x2)) (fun k => some (.inr k))
def x_order_B16 (g : hSt) (p0 : Int32) : Option ((Int32) ⊕ Nat) :=
  x_order_B17 g p0 (0 : Int32)
def x_order (g : hSt) (p0 : Int32) : Option ((Int32) ⊕ Nat) :=
  if p0 < 0 then (x_order_B16 g p0) else (if (g 0 9) ≤ p0 then (x_order_B16 g p0) else (x_order_B17 g p0 (1 : Int32)))

def x_shifts_B64 (v4_14 : Int32) (gl_14 : hLt) (a5_64 : Int64) : Option ((Int32 × hLt) ⊕ (hLt)) :=
  (hrd 20 (gl_14 8) v4_14).bind fun x5 => hwr 20 gl_14 8 v4_14 (x5 ||| a5_64) fun gl6 => hlet (v4_14 + (-1 : Int32)) fun y4_7 => some (.inl (y4_7, gl6))
def x_shifts_L14 (y2_1 : Int32) (y3_2 : Int32) (v4_14 : Int32) (gl_14 : hLt) : Option ((Int32 × hLt) ⊕ (hLt)) :=
  if v4_14 < y2_1 then (some (.inr gl_14)) else ((hrd 20 (gl_14 8) (v4_14 - y2_1)).bind fun x3 => hlet (x3 <<< (y3_2.toInt64 &&& (63 : Int64))) fun y5_4 => if y3_2 ≤ 0 then (x_shifts_B64 v4_14 gl_14 y5_4) else (if v4_14 ≤ y2_1 then (x_shifts_B64 v4_14 gl_14 y5_4) else ((hrd 20 (gl_14 8) ((v4_14 - y2_1) - (1 : Int32))).bind fun x8 => hlet (y5_4 ||| (x8.toUInt64 >>> (((64 : Int32) - y3_2).toInt64.toUInt64 &&& Int64.toUInt64 63)).toInt64) fun y5_9 => x_shifts_B64 v4_14 gl_14 y5_9)))
def x_shifts (g : hSt) (gl : hLt) (p0 : Int32) : Option (hLt) :=
  hlet (p0 / (64 : Int32)) fun y2_1 => hlet (p0 - p0 / (64 : Int32) * (64 : Int32)) fun y3_2 => (hiter (fun q : Int32 × hLt => x_shifts_L14 y2_1 y3_2 q.1 q.2) hFU ((19 : Int32), gl)).bind fun x10 => some x10

def x_makes_B22 (v3_2 : Int32) (gl_2 : hLt) (k0_22 : Int64) (k1_22 : Int32) : Option ((Int32 × hLt) ⊕ (hLt)) :=
  hwr 20 gl_2 8 k1_22 k0_22 fun gl1 => hlet (v3_2 + (1 : Int32)) fun y3_2 => some (.inl (y3_2, gl1))
def x_makes_L2 (v3_2 : Int32) (gl_2 : hLt) : Option ((Int32 × hLt) ⊕ (hLt)) :=
  if (20 : Int32) ≤ v3_2 then (some (.inr gl_2)) else (if v3_2 = 0 then (x_makes_B22 v3_2 gl_2 (1 : Int64) v3_2) else (x_makes_B22 v3_2 gl_2 (0 : Int64) v3_2))
def x_makes_L31 (g : hSt) (b0 : Nat) (p1 : Int32) (v3_31 : Int32) (gl_31 : hLt) : Option ((Int32 × hLt) ⊕ (hLt)) :=
  if (12 : Int32) ≤ v3_31 then (some (.inr gl_31)) else (if ((p1 >>> (v3_31 &&& (31 : Int32))) &&& (1 : Int32)) = (1 : Int32) then ((hrd 12 (g (b0 + 5)) v3_31).bind fun x5 => (x_shifts g gl_31 x5).bind fun y6 => hlet (v3_31 + (1 : Int32)) fun y3_7 => some (.inl (y3_7, y6))) else (hlet (v3_31 + (1 : Int32)) fun y3_4 => some (.inl (y3_4, gl_31))))
def x_makes (g : hSt) (gl : hLt) (b0 : Nat) (p1 : Int32) : Option (hLt) :=
  (hiter (fun q : Int32 × hLt => x_makes_L2 q.1 q.2) hFU ((0 : Int32), gl)).bind fun x3 => (hiter (fun q : Int32 × hLt => x_makes_L31 g b0 p1 q.1 q.2) hFU ((0 : Int32), x3)).bind fun x8 => some x8

def x_isMade_B36 : Option (Int32) :=
  some (0 : Int32)
def x_isMade (g : hSt) (gl : hLt) (p0 : Int32) : Option (Int32) :=
  if p0 < 0 then (x_isMade_B36) else (if (1280 : Int32) ≤ p0 then (x_isMade_B36) else ((hrd 20 (gl 8) (p0 / (64 : Int32))).bind fun x1 => if (lg_cmp ((x1 >>> ((p0 - p0 / (64 : Int32) * (64 : Int32)).toInt64 &&& (63 : Int64))) &&& (1 : Int64)) (1 : Int64)) = 0 then (some (1 : Int32)) else (x_isMade_B36)))

def x_isMadeBetween_L6 (g : hSt) (gl : hLt) (p1 : Int32) (v3_6 : Int32) : Option ((Int32) ⊕ ((Unit) ⊕ (Int32))) :=
  if p1 < v3_6 then (some (.inr (.inl ()))) else ((x_isMade g gl v3_6).bind fun y2 => if y2 = 0 then (hlet (v3_6 + (1 : Int32)) fun y3_3 => some (.inl y3_3)) else (some (.inr (.inr (1 : Int32)))))
def x_isMadeBetween (g : hSt) (gl : hLt) (p0 : Int32) (p1 : Int32) : Option (Int32) :=
  hlet (hmax (0 : Int32) p0) fun y3_1 => (hiter (fun q : Int32 => x_isMadeBetween_L6 g gl p1 q) hFU y3_1).bind fun x4 => hcase x4 (fun e5 => some (0 : Int32)) (fun r => some r)

def x_cut_B259 (p1 : Int32) (a4_259 : Int32) (a5_259 : Int32) (gl_259 : hLt) : Option ((Int32 × hLt) ⊕ Nat) :=
  if p1 = 0 then (some (.inl (a5_259, gl_259))) else (some (.inl (a4_259, gl_259)))
def x_cut_B228 (v8_106 : Int32) (v4_151 : Int32) (v5_151 : Int32) (v9_151 : Int32) : Option ((Int32 × Int32 × Int32) ⊕ (Int32 × Int32)) :=
  hlet (v5_151 + (1 : Int32)) fun y5_18 => if v4_151 = (-1 : Int32) then (hlet (((100 : Int32) * v8_106) + v9_151) fun y4_20 => hlet (v9_151 + (1 : Int32)) fun y9_21 => some (.inl (y4_20, y5_18, y9_21))) else (hlet (v9_151 + (1 : Int32)) fun y9_19 => some (.inl (v4_151, y5_18, y9_19)))
def x_cut_L151 (g : hSt) (p0 : Int32) (y6_7 : Int32) (y7_9 : Int32) (v8_106 : Int32) (y12 : hLt) (v4_151 : Int32) (v5_151 : Int32) (v9_151 : Int32) : Option ((Int32 × Int32 × Int32) ⊕ (Int32 × Int32)) :=
  (hrd 12 (g (24 + 5)) v8_106).bind fun x13 => if x13 < ((2 : Int32) * v9_151) then (some (.inr (v4_151, v5_151))) else ((hrd 12 (g (24 + 5)) v8_106).bind fun x14 => hlet (x14 - v9_151) fun y10_15 => (hrd 6 (g (24 + 2)) p0).bind fun x16 => (x_isMadeBetween g y12 ((y6_7 - x16) - v9_151) (y7_9 - v9_151)).bind fun y17 => if y17 = 0 then ((hrd 6 (g (24 + 2)) p0).bind fun x22 => (x_isMadeBetween g y12 ((y6_7 - x22) - y10_15) (y7_9 - y10_15)).bind fun y23 => if y23 = 0 then (hlet (v9_151 + (1 : Int32)) fun y9_24 => some (.inl (v4_151, v5_151, y9_24))) else (x_cut_B228 v8_106 v4_151 v5_151 v9_151)) else (x_cut_B228 v8_106 v4_151 v5_151 v9_151))
def x_cut_L106 (g : hSt) (p0 : Int32) (y6_7 : Int32) (y7_9 : Int32) (v4_106 : Int32) (v5_106 : Int32) (v8_106 : Int32) (gl_106 : hLt) : Option ((Int32 × Int32 × Int32 × hLt) ⊕ (Int32 × Int32 × hLt)) :=
  if (12 : Int32) ≤ v8_106 then (some (.inr (v4_106, v5_106, gl_106))) else ((hrd 6 (g (24 + 1)) p0).bind fun x10 => if ((x10 >>> (v8_106 &&& (31 : Int32))) &&& (1 : Int32)) = 0 then (hlet (v8_106 + (1 : Int32)) fun y8_27 => some (.inl (v4_106, v5_106, y8_27, gl_106))) else ((hrd 6 (g (24 + 1)) p0).bind fun x11 => (x_makes g gl_106 24 (x11 &&& (((1 : Int32) <<< (v8_106 &&& (31 : Int32))) ^^^ (-1 : Int32)))).bind fun y12 => (hiter (fun q : Int32 × Int32 × Int32 => x_cut_L151 g p0 y6_7 y7_9 v8_106 y12 q.1 q.2.1 q.2.2) hFU (v4_106, v5_106, (1 : Int32))).bind fun x25 => hlet (v8_106 + (1 : Int32)) fun y8_26 => some (.inl (x25.1, x25.2, y8_26, y12))))
def x_cut_B19 (g : hSt) (gl : hLt) (p0 : Int32) (p1 : Int32) (k0_19 : Int32) : Option ((Int32 × hLt) ⊕ Nat) :=
  (x_there k0_19).bind fun z2 => hcase z2 (fun _ => (hrd 6 (g (24 + 3)) p0).bind fun x3 => if x3 ≤ 0 then (x_cut_B259 p1 (-1 : Int32) (0 : Int32) gl) else ((x_sets g p0).bind fun z4 => hcase z4 (fun y4 => if y4 = 0 then ((x_al_size g 11).bind fun y5 => if y5 ≤ (1 : Int32) then (x_cut_B259 p1 (-1 : Int32) (0 : Int32) gl) else ((hrd 6 (g (24 + 3)) p0).bind fun x6 => hlet (hmax (1 : Int32) (x6 - (g 10 4))) fun y6_7 => (hrd 6 (g (24 + 3)) p0).bind fun x8 => hlet (x8 + (g 10 4)) fun y7_9 => (hiter (fun q : Int32 × Int32 × Int32 × hLt => x_cut_L106 g p0 y6_7 y7_9 q.1 q.2.1 q.2.2.1 q.2.2.2) hFU ((-1 : Int32), (0 : Int32), (0 : Int32), gl)).bind fun x28 => x_cut_B259 p1 x28.1 x28.2.1 x28.2.2)) else (x_cut_B259 p1 (-1 : Int32) (0 : Int32) gl)) (fun k => some (.inr k)))) (fun k => some (.inr k))
def x_cut (g : hSt) (gl : hLt) (p0 : Int32) (p1 : Int32) : Option ((Int32 × hLt) ⊕ Nat) :=
  (x_person_2 g p0).bind fun z1 => hcase z1 (fun _ => if p1 = 0 then (x_cut_B19 g gl p0 p1 (1 : Int32)) else (if p1 = (1 : Int32) then (x_cut_B19 g gl p0 p1 (1 : Int32)) else (x_cut_B19 g gl p0 p1 (0 : Int32)))) (fun k => some (.inr k))

def x_keep_L32 (p0 : Int32) (p1 : Int32) (v3_32 : Int32) (v4_32 : Int32) (v5_32 : Int32) : Option ((Int32 × Int32 × Int32) ⊕ ((Int32) ⊕ (Int32))) :=
  if p0 ≤ v3_32 then (some (.inr (.inl v4_32))) else (hlet (hmin v5_32 (p0 - v3_32)) fun y6_4 => if v4_32 = p1 then (some (.inr (.inr y6_4))) else (hlet (v3_32 + y6_4) fun y3_5 => hlet (v4_32 + (1 : Int32)) fun y4_6 => hlet (v5_32 * (2 : Int32)) fun y5_7 => some (.inl (y3_5, y4_6, y5_7))))
def x_keep_B83 (e9 : Int32) (k0_83 : Int32) : Option ((Int32) ⊕ Nat) :=
  (x_there k0_83).bind fun z10 => hcase z10 (fun _ => some (.inl e9)) (fun k => some (.inr k))
def x_keep_B21 (p0 : Int32) (p1 : Int32) (k0_21 : Int32) : Option ((Int32) ⊕ Nat) :=
  (x_there k0_21).bind fun z3 => hcase z3 (fun _ => (hiter (fun q : Int32 × Int32 × Int32 => x_keep_L32 p0 p1 q.1 q.2.1 q.2.2) hFU ((0 : Int32), (0 : Int32), (1 : Int32))).bind fun x8 => hcase x8 (fun e9 => if p1 = (-1 : Int32) then (x_keep_B83 e9 (1 : Int32)) else (x_keep_B83 e9 (0 : Int32))) (fun r => some (.inl r))) (fun k => some (.inr k))
def x_keep (p0 : Int32) (p1 : Int32) : Option ((Int32) ⊕ Nat) :=
  (x_within p0 (1 : Int32) (999 : Int32)).bind fun y1 => (x_right y1).bind fun z2 => hcase z2 (fun _ => if p1 < (-1 : Int32) then (x_keep_B21 p0 p1 (0 : Int32)) else (x_keep_B21 p0 p1 (1 : Int32))) (fun k => some (.inr k))

def x_fewest_L63 (g : hSt) (p0 : Int32) (y4 : hLt) (v4_63 : Int32) (v5_63 : Int32) : Option ((Int32 × Int32) ⊕ (Int32)) :=
  if p0 < v5_63 then (some (.inr v4_63)) else (if v4_63 = 0 then (some (.inr v4_63)) else ((x_isMade g y4 v5_63).bind fun y5 => hlet (v5_63 + (1 : Int32)) fun y5_6 => some (.inl (y5, y5_6))))
def x_fewest_B45 (g : hSt) (p0 : Int32) (v2_15 : Int32) (v3_15 : Int32) (gl_15 : hLt) : Option ((Int32 × Int32 × hLt) ⊕ (Int32 × hLt)) :=
  (x_makes g gl_15 24 v3_15).bind fun y4 => (hiter (fun q : Int32 × Int32 => x_fewest_L63 g p0 y4 q.1 q.2) hFU ((1 : Int32), (1 : Int32))).bind fun x7 => if x7 = 0 then (hlet (v3_15 + (1 : Int32)) fun y3_8 => some (.inl (v2_15, y3_8, y4))) else (hlet (v3_15 + (1 : Int32)) fun y3_9 => some (.inl (v3_15, y3_9, y4)))
def x_fewest_L15 (g : hSt) (p0 : Int32) (v2_15 : Int32) (v3_15 : Int32) (gl_15 : hLt) : Option ((Int32 × Int32 × hLt) ⊕ (Int32 × hLt)) :=
  (x_tn_all g).bind fun y3 => if y3 < v3_15 then (some (.inr (v2_15, gl_15))) else (if v2_15 = (-1 : Int32) then (x_fewest_B45 g p0 v2_15 v3_15 gl_15) else ((x_jI_bitCount v3_15).bind fun y10 => (x_jI_bitCount v2_15).bind fun y11 => if y10 < y11 then (x_fewest_B45 g p0 v2_15 v3_15 gl_15) else (hlet (v3_15 + (1 : Int32)) fun y3_12 => some (.inl (v2_15, y3_12, gl_15)))))
def x_fewest (g : hSt) (gl : hLt) (p0 : Int32) : Option ((Int32 × hLt) ⊕ Nat) :=
  (x_within p0 (1 : Int32) (999 : Int32)).bind fun y1 => (x_right y1).bind fun z2 => hcase z2 (fun _ => (hiter (fun q : Int32 × Int32 × hLt => x_fewest_L15 g p0 q.1 q.2.1 q.2.2) hFU ((-1 : Int32), (0 : Int32), gl)).bind fun x13 => some (.inl (x13.1, x13.2))) (fun k => some (.inr k))

def x_answers_B76 (g : hSt) (y5 : hLt) (v4_45 : Int32) (v5_45 : Int32) (k0_76 : Int32) : Option ((Int32 × Int32) ⊕ (Int32)) :=
  (x_isMadeBetween g y5 k0_76 v5_45).bind fun y6 => if y6 = 0 then (hlet (v5_45 + (1 : Int32)) fun y5_7 => some (.inl (v4_45, y5_7))) else (hlet (v4_45 + (1 : Int32)) fun y4_8 => hlet (v5_45 + (1 : Int32)) fun y5_9 => some (.inl (y4_8, y5_9)))
def x_answers_L45 (g : hSt) (p0 : Int32) (p1 : Int32) (p2 : Int32) (y5 : hLt) (v4_45 : Int32) (v5_45 : Int32) : Option ((Int32 × Int32) ⊕ (Int32)) :=
  if p1 < v5_45 then (some (.inr v4_45)) else (if p2 = 0 then (x_answers_B76 g y5 v4_45 v5_45 v5_45) else ((hrd 6 (g (24 + 2)) p0).bind fun x10 => x_answers_B76 g y5 v4_45 v5_45 (v5_45 - x10)))
def x_answers (g : hSt) (gl : hLt) (p0 : Int32) (p1 : Int32) (p2 : Int32) : Option ((Int32 × hLt) ⊕ Nat) :=
  (x_person_2 g p0).bind fun z1 => hcase z1 (fun _ => (x_within p1 (1 : Int32) (999 : Int32)).bind fun y2 => (x_right y2).bind fun z3 => hcase z3 (fun _ => (hrd 6 (g (24 + 1)) p0).bind fun x4 => (x_makes g gl 24 x4).bind fun y5 => (hiter (fun q : Int32 × Int32 => x_answers_L45 g p0 p1 p2 y5 q.1 q.2) hFU ((0 : Int32), (1 : Int32))).bind fun x11 => some (.inl (x11, y5))) (fun k => some (.inr k))) (fun k => some (.inr k))

def x_round_B132 (p0 : Int32) (p1 : Int32) (v3_33 : Int32) (v4_33 : Int32) (g_33 : hSt) : Option ((Int32 × Int32 × hSt) ⊕ ((Int32 × Int32 × hSt) ⊕ (Int32 × hSt))) :=
  if p1 = 0 then (some (.inr (.inr (v4_33, g_33)))) else (if p1 = (1 : Int32) then (some (.inr (.inr (v3_33, g_33)))) else ((hrd 6 (g_33 (30 + 1)) p0).bind fun x5 => (x_lst_worth g_33 x5).bind fun y6 => (hrd 6 (g_33 (24 + 1)) p0).bind fun x7 => (x_lst_worth g_33 x7).bind fun y8 => some (.inr (.inr ((y6 - y8), g_33)))))
def x_round_B50 (pr : hPr) (p0 : Int32) (p1 : Int32) (v3_33 : Int32) (v4_33 : Int32) (g_33 : hSt) : Option ((Int32 × Int32 × hSt) ⊕ ((Int32 × Int32 × hSt) ⊕ (Int32 × hSt))) :=
  (x_chosen g_33 pr 30 v3_33).bind fun y9 => if y9 = (-1 : Int32) then (x_round_B132 p0 p1 v3_33 v4_33 g_33) else ((hrd 6 (g_33 (30 + 4)) v3_33).bind fun x10 => (x_toWhom g_33 pr 30 v3_33 x10).bind fun y11 => (hrd 6 (g_33 (30 + 3)) v3_33).bind fun x12 => (x_sandFor g_33 30 v3_33 y9 x12).bind fun y13 => (x_gives g_33 30 v3_33 y9 y13 y11).bind fun y14 => hlet (v4_33 + (1 : Int32)) fun y4_15 => some (.inl (y11, y4_15, y14)))
def x_round_L33 (pr : hPr) (p0 : Int32) (p1 : Int32) (v3_33 : Int32) (v4_33 : Int32) (g_33 : hSt) : Option ((Int32 × Int32 × hSt) ⊕ ((Int32 × Int32 × hSt) ⊕ (Int32 × hSt))) :=
  if (20 : Int32) ≤ v4_33 then (x_round_B132 p0 p1 v3_33 v4_33 g_33) else (if v4_33 = 0 then (x_round_B50 pr p0 p1 v3_33 v4_33 g_33) else (if v3_33 = p0 then (x_round_B132 p0 p1 v3_33 v4_33 g_33) else (x_round_B50 pr p0 p1 v3_33 v4_33 g_33)))
def x_round (g : hSt) (pr : hPr) (p0 : Int32) (p1 : Int32) : Option ((Int32 × hSt) ⊕ Nat) :=
  (x_person_2 g p0).bind fun z1 => hcase z1 (fun _ => (x_within p1 (0 : Int32) (2 : Int32)).bind fun y2 => (x_there y2).bind fun z3 => hcase z3 (fun _ => (x_st_like g 30 24).bind fun y4 => (hiter (fun q : Int32 × Int32 × hSt => x_round_L33 pr p0 p1 q.1 q.2.1 q.2.2) hFU (p0, (0 : Int32), y4)).bind fun x16 => hcase x16 (fun e17 => if p1 = 0 then (some (.inl (e17.2.1, e17.2.2))) else (if p1 = (1 : Int32) then (some (.inl (e17.1, e17.2.2))) else ((hrd 6 (e17.2.2 (30 + 1)) p0).bind fun x18 => (x_lst_worth e17.2.2 x18).bind fun y19 => (hrd 6 (e17.2.2 (24 + 1)) p0).bind fun x20 => (x_lst_worth e17.2.2 x20).bind fun y21 => some (.inl ((y19 - y21), e17.2.2))))) (fun r => some (.inl r))) (fun k => some (.inr k))) (fun k => some (.inr k))

def x_answerR : Nat → hSt → hPr → Int32 → Int32 → Option (Int32 × hSt)
  | 0, _, _, _, _ => none
  | d + 1, g, pr, p0, p1 => x_answer (x_answerR d) g pr p0 p1
def x_week_L13 (g : hSt) (v2_13 : Int32) (v3_13 : Int32) : Option ((Int32 × Int32) ⊕ (Int32)) :=
  (x_al_size g 11).bind fun y3 => if y3 ≤ v3_13 then (some (.inr v2_13)) else ((hrd 6 (g (24 + 3)) v3_13).bind fun x4 => if x4 ≤ 0 then (hlet (v3_13 + (1 : Int32)) fun y3_5 => some (.inl (v2_13, y3_5))) else (hlet (v2_13 ||| ((1 : Int32) <<< (v3_13 &&& (31 : Int32)))) fun y2_6 => hlet (v3_13 + (1 : Int32)) fun y3_7 => some (.inl (y2_6, y3_7))))
def x_week (g : hSt) (pr : hPr) (p0 : Int32) : Option ((Int32 × hSt) ⊕ Nat) :=
  (x_within p0 (0 : Int32) (2 : Int32)).bind fun y1 => (x_there y1).bind fun z2 => hcase z2 (fun _ => (hiter (fun q : Int32 × Int32 => x_week_L13 g q.1 q.2) hFU ((0 : Int32), (0 : Int32))).bind fun x8 => hpt g 0 10 (0 : Int32) fun g9 => hpt g9 0 11 (0 : Int32) fun g10 => (hbel (0 : Int32)).bind fun r11 => (x_st_like g10 r11 24).bind fun y12 => (x_answerR 8 y12 pr (0 : Int32) x8).bind fun y13 => if (y13.2 0 10) = (-2 : Int32) then (some (.inl ((-2 : Int32), y13.2))) else (if p0 = 0 then (if y13.1 = 0 then (some (.inl ((0 : Int32), y13.2))) else (some (.inl ((1 : Int32), y13.2)))) else (if p0 = (1 : Int32) then (some (.inl ((y13.2 0 11), y13.2))) else (some (.inl ((y13.2 0 10), y13.2)))))) (fun k => some (.inr k))

