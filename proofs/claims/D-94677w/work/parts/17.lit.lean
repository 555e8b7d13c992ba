/-! LITERALS (printed by tools/gen_lit.py): where they lie, what they hold; String members in walks. -/
set_option maxRecDepth 100000
/-- v is an old String object that holds t -/
def hLi (s0 : State) (v : Nat) (t : List Int32) : Prop := ∃ b, hTx v b t s0 s0.heap
def litA (a0 : Array Value) (s0 : State) (own : String) (k : Nat) : Nat := match (Term.string own k).eval a0 s0 none [] s0 with
  | some (.ref a) => a
  | _ => 0
theorem h_nar {a : Array Value} {s : State} (h : (Jvm.Cond.and given_1 narrow_1).before a s = true) : ∀ c ∈ flatC narrow_1, c.before a s = true := by
  rw [Cond.before_and, Bool.and_eq_true] at h
  exact flat_of_before _ h.2
theorem h_atom {a : Array Value} {s : State} (h : (Jvm.Cond.and given_1 narrow_1).before a s = true) (i : Nat) {c : Cond} (e : (flatC narrow_1)[i]? = some c) : c.before a s = true := h_nar h c (List.mem_of_getElem? e)
theorem hlit_of {a0 : Array Value} {s0 : State} {own : String} {k : Nat} {t : List Int32} (hn : t.length < 2 ^ 31) (hex : (Cond.exactly (.string own k) "java/lang/String").before a0 s0 = true) (hco : (Cond.eq (.field (.string own k) "java/lang/String" "coder" "B") (.int 0)).before a0 s0 = true)
    (har : (Cond.arrayOf (.field (.string own k) "java/lang/String" "value" "[B") .byte).before a0 s0 = true) (hle : (Cond.eq (.length (.field (.string own k) "java/lang/String" "value" "[B")) (.int (Int32.ofNat t.length))).before a0 s0 = true)
    (hel : ∀ j : Nat, j < t.length → (Cond.eq (.elem (.field (.string own k) "java/lang/String" "value" "[B") (.int (Int32.ofNat j))) (.int (t.getD j 0))).before a0 s0 = true) : hLi s0 (litA a0 s0 own k) t ∧ (Term.string own k).eval a0 s0 none [] s0 = some (.ref (litA a0 s0 own k)) := by
  have z0 : ∀ i : Nat, i < 1 → i = 0 := fun i hi => by omega
  obtain ⟨adK, adV, hS, he⟩ := vk_Sof (args := a0) (s := s0) (N := 1) (tm := fun _ => .string own k) (len := [t.length]) (byt := [t]) (A := N0)
    (fun i hi => by rw [z0 i hi]; exact hn) (fun _ _ => hex) (fun _ _ => hco) (fun _ _ => har) (fun i hi => by rw [z0 i hi]; exact hle)
    (fun i hi j hj => by
      rw [z0 i hi] at hj ⊢
      exact hel j hj) (fun i j hi hj hij => absurd ((z0 i hi).trans (z0 j hj).symm) hij) (fun _ _ z => z)
  have e : (Term.string own k).eval a0 s0 none [] s0 = some (.ref (adK 0)) := he 0 (by omega)
  have e2 : litA a0 s0 own k = adK 0 := by unfold litA; rw [e]
  rw [e2]
  obtain ⟨g1, g2, g3, g4⟩ := hS.1 0 (by omega)
  exact ⟨⟨adV 0, g1, g2, g3, g4, hn⟩, e⟩
theorem hlr_of {a0 : Array Value} {s0 s : State} {own tx : String} {k : Nat} (hZ0 : hZ a0 s0 s s.heap) (q : Cond.stringRef own k tx ∈ lw_tbl) (he : (Term.string own k).eval a0 s0 none [] s0 = some (.ref (litA a0 s0 own k))) : vk_R own k tx (litA a0 s0 own k) s := by
  refine vk_R.warm hZ0.2.2.1 ⟨?_, ?_⟩
  · have h1 := hZ0.1 _ q
    simp only [Cond.before, Cond.holds, Cond.value] at h1 ⊢
    exact h1
  · exact he
def tx_plain : List Int32 := [112, 108, 97, 105, 110]
def tx_least : List Int32 := [108, 101, 97, 115, 116]
def tx_fewest : List Int32 := [102, 101, 119, 101, 115, 116]
def tx_aim : List Int32 := [97, 105, 109]
def tx_wait : List Int32 := [119, 97, 105, 116]
def tx_law : List Int32 := [108, 97, 119]
def tx_within : List Int32 := [119, 105, 116, 104, 105, 110]
def tx_person : List Int32 := [112, 101, 114, 115, 111, 110]
def tx_sand : List Int32 := [115, 97, 110, 100]
def tx_thing : List Int32 := [116, 104, 105, 110, 103]
def tx_wet : List Int32 := [119, 101, 116]
def tx_owes : List Int32 := [111, 119, 101, 115]
def tx_to : List Int32 := [116, 111]
def tx_giver : List Int32 := [103, 105, 118, 101, 114]
def tx_anyone : List Int32 := [97, 110, 121, 111, 110, 101]
def tx_empty : List Int32 := []
def tx_semi : List Int32 := [59]
def txk (k : Nat) : List Int32 := [tx_plain, tx_least, tx_fewest, tx_aim, tx_wait].getD k []
theorem hlt_X5_9 {a0 : Array Value} {s0 U : State} {H : Heap} (h : hZ a0 s0 U H) : hLi s0 (litA a0 s0 RX5 9) tx_plain ∧ (Term.string RX5 9).eval a0 s0 none [] s0 = some (.ref (litA a0 s0 RX5 9)) :=
  hlit_of (by decide) (h_atom h.2.1 510 (by decide +kernel)) (h_atom h.2.1 511 (by decide +kernel)) (h_atom h.2.1 512 (by decide +kernel)) (h_atom h.2.1 513 (by decide +kernel)) (fun j hj => match j, hj with
    | 0, _ => (h_atom h.2.1 514 (by decide +kernel))
    | 1, _ => (h_atom h.2.1 515 (by decide +kernel))
    | 2, _ => (h_atom h.2.1 516 (by decide +kernel))
    | 3, _ => (h_atom h.2.1 517 (by decide +kernel))
    | 4, _ => (h_atom h.2.1 518 (by decide +kernel))
    | j + 5, hj => absurd hj (by simp [tx_plain]))
theorem hlr_X5_9 {a0 : Array Value} {s0 s : State} (h : hZ a0 s0 s s.heap) : vk_R RX5 9 "plain" (litA a0 s0 RX5 9) s := hlr_of h q1360 (hlt_X5_9 h).2
theorem hlt_X5_11 {a0 : Array Value} {s0 U : State} {H : Heap} (h : hZ a0 s0 U H) : hLi s0 (litA a0 s0 RX5 11) tx_least ∧ (Term.string RX5 11).eval a0 s0 none [] s0 = some (.ref (litA a0 s0 RX5 11)) :=
  hlit_of (by decide) (h_atom h.2.1 520 (by decide +kernel)) (h_atom h.2.1 521 (by decide +kernel)) (h_atom h.2.1 522 (by decide +kernel)) (h_atom h.2.1 523 (by decide +kernel)) (fun j hj => match j, hj with
    | 0, _ => (h_atom h.2.1 524 (by decide +kernel))
    | 1, _ => (h_atom h.2.1 525 (by decide +kernel))
    | 2, _ => (h_atom h.2.1 526 (by decide +kernel))
    | 3, _ => (h_atom h.2.1 527 (by decide +kernel))
    | 4, _ => (h_atom h.2.1 528 (by decide +kernel))
    | j + 5, hj => absurd hj (by simp [tx_least]))
theorem hlr_X5_11 {a0 : Array Value} {s0 s : State} (h : hZ a0 s0 s s.heap) : vk_R RX5 11 "least" (litA a0 s0 RX5 11) s := hlr_of h q1361 (hlt_X5_11 h).2
theorem hlt_X5_13 {a0 : Array Value} {s0 U : State} {H : Heap} (h : hZ a0 s0 U H) : hLi s0 (litA a0 s0 RX5 13) tx_fewest ∧ (Term.string RX5 13).eval a0 s0 none [] s0 = some (.ref (litA a0 s0 RX5 13)) :=
  hlit_of (by decide) (h_atom h.2.1 530 (by decide +kernel)) (h_atom h.2.1 531 (by decide +kernel)) (h_atom h.2.1 532 (by decide +kernel)) (h_atom h.2.1 533 (by decide +kernel)) (fun j hj => match j, hj with
    | 0, _ => (h_atom h.2.1 534 (by decide +kernel))
    | 1, _ => (h_atom h.2.1 535 (by decide +kernel))
    | 2, _ => (h_atom h.2.1 536 (by decide +kernel))
    | 3, _ => (h_atom h.2.1 537 (by decide +kernel))
    | 4, _ => (h_atom h.2.1 538 (by decide +kernel))
    | 5, _ => (h_atom h.2.1 539 (by decide +kernel))
    | j + 6, hj => absurd hj (by simp [tx_fewest]))
theorem hlr_X5_13 {a0 : Array Value} {s0 s : State} (h : hZ a0 s0 s s.heap) : vk_R RX5 13 "fewest" (litA a0 s0 RX5 13) s := hlr_of h q1362 (hlt_X5_13 h).2
theorem hlt_X5_15 {a0 : Array Value} {s0 U : State} {H : Heap} (h : hZ a0 s0 U H) : hLi s0 (litA a0 s0 RX5 15) tx_aim ∧ (Term.string RX5 15).eval a0 s0 none [] s0 = some (.ref (litA a0 s0 RX5 15)) :=
  hlit_of (by decide) (h_atom h.2.1 541 (by decide +kernel)) (h_atom h.2.1 542 (by decide +kernel)) (h_atom h.2.1 543 (by decide +kernel)) (h_atom h.2.1 544 (by decide +kernel)) (fun j hj => match j, hj with
    | 0, _ => (h_atom h.2.1 545 (by decide +kernel))
    | 1, _ => (h_atom h.2.1 546 (by decide +kernel))
    | 2, _ => (h_atom h.2.1 547 (by decide +kernel))
    | j + 3, hj => absurd hj (by simp [tx_aim]))
theorem hlr_X5_15 {a0 : Array Value} {s0 s : State} (h : hZ a0 s0 s s.heap) : vk_R RX5 15 "aim" (litA a0 s0 RX5 15) s := hlr_of h q1363 (hlt_X5_15 h).2
theorem hlt_X5_17 {a0 : Array Value} {s0 U : State} {H : Heap} (h : hZ a0 s0 U H) : hLi s0 (litA a0 s0 RX5 17) tx_wait ∧ (Term.string RX5 17).eval a0 s0 none [] s0 = some (.ref (litA a0 s0 RX5 17)) :=
  hlit_of (by decide) (h_atom h.2.1 549 (by decide +kernel)) (h_atom h.2.1 550 (by decide +kernel)) (h_atom h.2.1 551 (by decide +kernel)) (h_atom h.2.1 552 (by decide +kernel)) (fun j hj => match j, hj with
    | 0, _ => (h_atom h.2.1 553 (by decide +kernel))
    | 1, _ => (h_atom h.2.1 554 (by decide +kernel))
    | 2, _ => (h_atom h.2.1 555 (by decide +kernel))
    | 3, _ => (h_atom h.2.1 556 (by decide +kernel))
    | j + 4, hj => absurd hj (by simp [tx_wait]))
theorem hlr_X5_17 {a0 : Array Value} {s0 s : State} (h : hZ a0 s0 s s.heap) : vk_R RX5 17 "wait" (litA a0 s0 RX5 17) s := hlr_of h q1364 (hlt_X5_17 h).2
theorem hlt_X5_221 {a0 : Array Value} {s0 U : State} {H : Heap} (h : hZ a0 s0 U H) : hLi s0 (litA a0 s0 RX5 221) tx_law ∧ (Term.string RX5 221).eval a0 s0 none [] s0 = some (.ref (litA a0 s0 RX5 221)) :=
  hlit_of (by decide) (h_atom h.2.1 558 (by decide +kernel)) (h_atom h.2.1 559 (by decide +kernel)) (h_atom h.2.1 560 (by decide +kernel)) (h_atom h.2.1 561 (by decide +kernel)) (fun j hj => match j, hj with
    | 0, _ => (h_atom h.2.1 562 (by decide +kernel))
    | 1, _ => (h_atom h.2.1 563 (by decide +kernel))
    | 2, _ => (h_atom h.2.1 564 (by decide +kernel))
    | j + 3, hj => absurd hj (by simp [tx_law]))
theorem hlr_X5_221 {a0 : Array Value} {s0 s : State} (h : hZ a0 s0 s s.heap) : vk_R RX5 221 "law" (litA a0 s0 RX5 221) s := hlr_of h q1571 (hlt_X5_221 h).2
theorem hlt_X5_223 {a0 : Array Value} {s0 U : State} {H : Heap} (h : hZ a0 s0 U H) : hLi s0 (litA a0 s0 RX5 223) tx_within ∧ (Term.string RX5 223).eval a0 s0 none [] s0 = some (.ref (litA a0 s0 RX5 223)) :=
  hlit_of (by decide) (h_atom h.2.1 566 (by decide +kernel)) (h_atom h.2.1 567 (by decide +kernel)) (h_atom h.2.1 568 (by decide +kernel)) (h_atom h.2.1 569 (by decide +kernel)) (fun j hj => match j, hj with
    | 0, _ => (h_atom h.2.1 570 (by decide +kernel))
    | 1, _ => (h_atom h.2.1 571 (by decide +kernel))
    | 2, _ => (h_atom h.2.1 572 (by decide +kernel))
    | 3, _ => (h_atom h.2.1 573 (by decide +kernel))
    | 4, _ => (h_atom h.2.1 574 (by decide +kernel))
    | 5, _ => (h_atom h.2.1 575 (by decide +kernel))
    | j + 6, hj => absurd hj (by simp [tx_within]))
theorem hlr_X5_223 {a0 : Array Value} {s0 s : State} (h : hZ a0 s0 s s.heap) : vk_R RX5 223 "within" (litA a0 s0 RX5 223) s := hlr_of h q1592 (hlt_X5_223 h).2
theorem hlt_X5_225 {a0 : Array Value} {s0 U : State} {H : Heap} (h : hZ a0 s0 U H) : hLi s0 (litA a0 s0 RX5 225) tx_person ∧ (Term.string RX5 225).eval a0 s0 none [] s0 = some (.ref (litA a0 s0 RX5 225)) :=
  hlit_of (by decide) (h_atom h.2.1 577 (by decide +kernel)) (h_atom h.2.1 578 (by decide +kernel)) (h_atom h.2.1 579 (by decide +kernel)) (h_atom h.2.1 580 (by decide +kernel)) (fun j hj => match j, hj with
    | 0, _ => (h_atom h.2.1 581 (by decide +kernel))
    | 1, _ => (h_atom h.2.1 582 (by decide +kernel))
    | 2, _ => (h_atom h.2.1 583 (by decide +kernel))
    | 3, _ => (h_atom h.2.1 584 (by decide +kernel))
    | 4, _ => (h_atom h.2.1 585 (by decide +kernel))
    | 5, _ => (h_atom h.2.1 586 (by decide +kernel))
    | j + 6, hj => absurd hj (by simp [tx_person]))
theorem hlr_X5_225 {a0 : Array Value} {s0 s : State} (h : hZ a0 s0 s s.heap) : vk_R RX5 225 "person" (litA a0 s0 RX5 225) s := hlr_of h q1597 (hlt_X5_225 h).2
theorem hlt_X5_202 {a0 : Array Value} {s0 U : State} {H : Heap} (h : hZ a0 s0 U H) : hLi s0 (litA a0 s0 RX5 202) tx_sand ∧ (Term.string RX5 202).eval a0 s0 none [] s0 = some (.ref (litA a0 s0 RX5 202)) :=
  hlit_of (by decide) (h_atom h.2.1 588 (by decide +kernel)) (h_atom h.2.1 589 (by decide +kernel)) (h_atom h.2.1 590 (by decide +kernel)) (h_atom h.2.1 591 (by decide +kernel)) (fun j hj => match j, hj with
    | 0, _ => (h_atom h.2.1 592 (by decide +kernel))
    | 1, _ => (h_atom h.2.1 593 (by decide +kernel))
    | 2, _ => (h_atom h.2.1 594 (by decide +kernel))
    | 3, _ => (h_atom h.2.1 595 (by decide +kernel))
    | j + 4, hj => absurd hj (by simp [tx_sand]))
theorem hlr_X5_202 {a0 : Array Value} {s0 s : State} (h : hZ a0 s0 s s.heap) : vk_R RX5 202 "sand" (litA a0 s0 RX5 202) s := hlr_of h q1602 (hlt_X5_202 h).2
theorem hlt_X5_230 {a0 : Array Value} {s0 U : State} {H : Heap} (h : hZ a0 s0 U H) : hLi s0 (litA a0 s0 RX5 230) tx_thing ∧ (Term.string RX5 230).eval a0 s0 none [] s0 = some (.ref (litA a0 s0 RX5 230)) :=
  hlit_of (by decide) (h_atom h.2.1 597 (by decide +kernel)) (h_atom h.2.1 598 (by decide +kernel)) (h_atom h.2.1 599 (by decide +kernel)) (h_atom h.2.1 600 (by decide +kernel)) (fun j hj => match j, hj with
    | 0, _ => (h_atom h.2.1 601 (by decide +kernel))
    | 1, _ => (h_atom h.2.1 602 (by decide +kernel))
    | 2, _ => (h_atom h.2.1 603 (by decide +kernel))
    | 3, _ => (h_atom h.2.1 604 (by decide +kernel))
    | 4, _ => (h_atom h.2.1 605 (by decide +kernel))
    | j + 5, hj => absurd hj (by simp [tx_thing]))
theorem hlr_X5_230 {a0 : Array Value} {s0 s : State} (h : hZ a0 s0 s s.heap) : vk_R RX5 230 "thing" (litA a0 s0 RX5 230) s := hlr_of h q1611 (hlt_X5_230 h).2
theorem hlt_X5_213 {a0 : Array Value} {s0 U : State} {H : Heap} (h : hZ a0 s0 U H) : hLi s0 (litA a0 s0 RX5 213) tx_wet ∧ (Term.string RX5 213).eval a0 s0 none [] s0 = some (.ref (litA a0 s0 RX5 213)) :=
  hlit_of (by decide) (h_atom h.2.1 607 (by decide +kernel)) (h_atom h.2.1 608 (by decide +kernel)) (h_atom h.2.1 609 (by decide +kernel)) (h_atom h.2.1 610 (by decide +kernel)) (fun j hj => match j, hj with
    | 0, _ => (h_atom h.2.1 611 (by decide +kernel))
    | 1, _ => (h_atom h.2.1 612 (by decide +kernel))
    | 2, _ => (h_atom h.2.1 613 (by decide +kernel))
    | j + 3, hj => absurd hj (by simp [tx_wet]))
theorem hlr_X5_213 {a0 : Array Value} {s0 s : State} (h : hZ a0 s0 s s.heap) : vk_R RX5 213 "wet" (litA a0 s0 RX5 213) s := hlr_of h q1624 (hlt_X5_213 h).2
theorem hlt_X5_235 {a0 : Array Value} {s0 U : State} {H : Heap} (h : hZ a0 s0 U H) : hLi s0 (litA a0 s0 RX5 235) tx_owes ∧ (Term.string RX5 235).eval a0 s0 none [] s0 = some (.ref (litA a0 s0 RX5 235)) :=
  hlit_of (by decide) (h_atom h.2.1 615 (by decide +kernel)) (h_atom h.2.1 616 (by decide +kernel)) (h_atom h.2.1 617 (by decide +kernel)) (h_atom h.2.1 618 (by decide +kernel)) (fun j hj => match j, hj with
    | 0, _ => (h_atom h.2.1 619 (by decide +kernel))
    | 1, _ => (h_atom h.2.1 620 (by decide +kernel))
    | 2, _ => (h_atom h.2.1 621 (by decide +kernel))
    | 3, _ => (h_atom h.2.1 622 (by decide +kernel))
    | j + 4, hj => absurd hj (by simp [tx_owes]))
theorem hlr_X5_235 {a0 : Array Value} {s0 s : State} (h : hZ a0 s0 s s.heap) : vk_R RX5 235 "owes" (litA a0 s0 RX5 235) s := hlr_of h q1625 (hlt_X5_235 h).2
theorem hlt_X5_215 {a0 : Array Value} {s0 U : State} {H : Heap} (h : hZ a0 s0 U H) : hLi s0 (litA a0 s0 RX5 215) tx_to ∧ (Term.string RX5 215).eval a0 s0 none [] s0 = some (.ref (litA a0 s0 RX5 215)) :=
  hlit_of (by decide) (h_atom h.2.1 624 (by decide +kernel)) (h_atom h.2.1 625 (by decide +kernel)) (h_atom h.2.1 626 (by decide +kernel)) (h_atom h.2.1 627 (by decide +kernel)) (fun j hj => match j, hj with
    | 0, _ => (h_atom h.2.1 628 (by decide +kernel))
    | 1, _ => (h_atom h.2.1 629 (by decide +kernel))
    | j + 2, hj => absurd hj (by simp [tx_to]))
theorem hlr_X5_215 {a0 : Array Value} {s0 s : State} (h : hZ a0 s0 s s.heap) : vk_R RX5 215 "to" (litA a0 s0 RX5 215) s := hlr_of h q1630 (hlt_X5_215 h).2
theorem hlt_X5_217 {a0 : Array Value} {s0 U : State} {H : Heap} (h : hZ a0 s0 U H) : hLi s0 (litA a0 s0 RX5 217) tx_giver ∧ (Term.string RX5 217).eval a0 s0 none [] s0 = some (.ref (litA a0 s0 RX5 217)) :=
  hlit_of (by decide) (h_atom h.2.1 631 (by decide +kernel)) (h_atom h.2.1 632 (by decide +kernel)) (h_atom h.2.1 633 (by decide +kernel)) (h_atom h.2.1 634 (by decide +kernel)) (fun j hj => match j, hj with
    | 0, _ => (h_atom h.2.1 635 (by decide +kernel))
    | 1, _ => (h_atom h.2.1 636 (by decide +kernel))
    | 2, _ => (h_atom h.2.1 637 (by decide +kernel))
    | 3, _ => (h_atom h.2.1 638 (by decide +kernel))
    | 4, _ => (h_atom h.2.1 639 (by decide +kernel))
    | j + 5, hj => absurd hj (by simp [tx_giver]))
theorem hlr_X5_217 {a0 : Array Value} {s0 s : State} (h : hZ a0 s0 s s.heap) : vk_R RX5 217 "giver" (litA a0 s0 RX5 217) s := hlr_of h q1635 (hlt_X5_217 h).2
theorem hlt_X5_219 {a0 : Array Value} {s0 U : State} {H : Heap} (h : hZ a0 s0 U H) : hLi s0 (litA a0 s0 RX5 219) tx_anyone ∧ (Term.string RX5 219).eval a0 s0 none [] s0 = some (.ref (litA a0 s0 RX5 219)) :=
  hlit_of (by decide) (h_atom h.2.1 641 (by decide +kernel)) (h_atom h.2.1 642 (by decide +kernel)) (h_atom h.2.1 643 (by decide +kernel)) (h_atom h.2.1 644 (by decide +kernel)) (fun j hj => match j, hj with
    | 0, _ => (h_atom h.2.1 645 (by decide +kernel))
    | 1, _ => (h_atom h.2.1 646 (by decide +kernel))
    | 2, _ => (h_atom h.2.1 647 (by decide +kernel))
    | 3, _ => (h_atom h.2.1 648 (by decide +kernel))
    | 4, _ => (h_atom h.2.1 649 (by decide +kernel))
    | 5, _ => (h_atom h.2.1 650 (by decide +kernel))
    | j + 6, hj => absurd hj (by simp [tx_anyone]))
theorem hlr_X5_219 {a0 : Array Value} {s0 s : State} (h : hZ a0 s0 s s.heap) : vk_R RX5 219 "anyone" (litA a0 s0 RX5 219) s := hlr_of h q1636 (hlt_X5_219 h).2
theorem hlt_X6_9 {a0 : Array Value} {s0 U : State} {H : Heap} (h : hZ a0 s0 U H) : hLi s0 (litA a0 s0 RX6 9) tx_empty ∧ (Term.string RX6 9).eval a0 s0 none [] s0 = some (.ref (litA a0 s0 RX6 9)) :=
  hlit_of (by decide) (h_atom h.2.1 374 (by decide +kernel)) (h_atom h.2.1 375 (by decide +kernel)) (h_atom h.2.1 376 (by decide +kernel)) (h_atom h.2.1 377 (by decide +kernel)) (fun j hj => match j, hj with
    | j + 0, hj => absurd hj (by simp [tx_empty]))
theorem hlr_X6_9 {a0 : Array Value} {s0 s : State} (h : hZ a0 s0 s s.heap) : vk_R RX6 9 "" (litA a0 s0 RX6 9) s := hlr_of h q947 (hlt_X6_9 h).2
theorem hlt_X6_90 {a0 : Array Value} {s0 U : State} {H : Heap} (h : hZ a0 s0 U H) : hLi s0 (litA a0 s0 RX6 90) tx_semi ∧ (Term.string RX6 90).eval a0 s0 none [] s0 = some (.ref (litA a0 s0 RX6 90)) :=
  hlit_of (by decide) (h_atom h.2.1 378 (by decide +kernel)) (h_atom h.2.1 379 (by decide +kernel)) (h_atom h.2.1 380 (by decide +kernel)) (h_atom h.2.1 381 (by decide +kernel)) (fun j hj => match j, hj with
    | 0, _ => (h_atom h.2.1 382 (by decide +kernel))
    | j + 1, hj => absurd hj (by simp [tx_semi]))
theorem hlr_X6_90 {a0 : Array Value} {s0 s : State} (h : hZ a0 s0 s s.heap) : vk_R RX6 90 ";" (litA a0 s0 RX6 90) s := hlr_of h q998 (hlt_X6_90 h).2
theorem hlt_X6_128 {a0 : Array Value} {s0 U : State} {H : Heap} (h : hZ a0 s0 U H) : hLi s0 (litA a0 s0 RX6 128) tx_person ∧ (Term.string RX6 128).eval a0 s0 none [] s0 = some (.ref (litA a0 s0 RX6 128)) :=
  hlit_of (by decide) (h_atom h.2.1 383 (by decide +kernel)) (h_atom h.2.1 384 (by decide +kernel)) (h_atom h.2.1 385 (by decide +kernel)) (h_atom h.2.1 386 (by decide +kernel)) (fun j hj => match j, hj with
    | 0, _ => (h_atom h.2.1 387 (by decide +kernel))
    | 1, _ => (h_atom h.2.1 388 (by decide +kernel))
    | 2, _ => (h_atom h.2.1 389 (by decide +kernel))
    | 3, _ => (h_atom h.2.1 390 (by decide +kernel))
    | 4, _ => (h_atom h.2.1 391 (by decide +kernel))
    | 5, _ => (h_atom h.2.1 392 (by decide +kernel))
    | j + 6, hj => absurd hj (by simp [tx_person]))
theorem hlr_X6_128 {a0 : Array Value} {s0 s : State} (h : hZ a0 s0 s s.heap) : vk_R RX6 128 "person" (litA a0 s0 RX6 128) s := hlr_of h q1030 (hlt_X6_128 h).2
theorem hlt_X6_130 {a0 : Array Value} {s0 U : State} {H : Heap} (h : hZ a0 s0 U H) : hLi s0 (litA a0 s0 RX6 130) tx_sand ∧ (Term.string RX6 130).eval a0 s0 none [] s0 = some (.ref (litA a0 s0 RX6 130)) :=
  hlit_of (by decide) (h_atom h.2.1 393 (by decide +kernel)) (h_atom h.2.1 394 (by decide +kernel)) (h_atom h.2.1 395 (by decide +kernel)) (h_atom h.2.1 396 (by decide +kernel)) (fun j hj => match j, hj with
    | 0, _ => (h_atom h.2.1 397 (by decide +kernel))
    | 1, _ => (h_atom h.2.1 398 (by decide +kernel))
    | 2, _ => (h_atom h.2.1 399 (by decide +kernel))
    | 3, _ => (h_atom h.2.1 400 (by decide +kernel))
    | j + 4, hj => absurd hj (by simp [tx_sand]))
theorem hlr_X6_130 {a0 : Array Value} {s0 s : State} (h : hZ a0 s0 s s.heap) : vk_R RX6 130 "sand" (litA a0 s0 RX6 130) s := hlr_of h q1071 (hlt_X6_130 h).2
theorem hlt_X6_177 {a0 : Array Value} {s0 U : State} {H : Heap} (h : hZ a0 s0 U H) : hLi s0 (litA a0 s0 RX6 177) tx_plain ∧ (Term.string RX6 177).eval a0 s0 none [] s0 = some (.ref (litA a0 s0 RX6 177)) :=
  hlit_of (by decide) (h_atom h.2.1 401 (by decide +kernel)) (h_atom h.2.1 402 (by decide +kernel)) (h_atom h.2.1 403 (by decide +kernel)) (h_atom h.2.1 404 (by decide +kernel)) (fun j hj => match j, hj with
    | 0, _ => (h_atom h.2.1 405 (by decide +kernel))
    | 1, _ => (h_atom h.2.1 406 (by decide +kernel))
    | 2, _ => (h_atom h.2.1 407 (by decide +kernel))
    | 3, _ => (h_atom h.2.1 408 (by decide +kernel))
    | 4, _ => (h_atom h.2.1 409 (by decide +kernel))
    | j + 5, hj => absurd hj (by simp [tx_plain]))
theorem hlr_X6_177 {a0 : Array Value} {s0 s : State} (h : hZ a0 s0 s s.heap) : vk_R RX6 177 "plain" (litA a0 s0 RX6 177) s := hlr_of h q1080 (hlt_X6_177 h).2
theorem hlt_X6_179 {a0 : Array Value} {s0 U : State} {H : Heap} (h : hZ a0 s0 U H) : hLi s0 (litA a0 s0 RX6 179) tx_least ∧ (Term.string RX6 179).eval a0 s0 none [] s0 = some (.ref (litA a0 s0 RX6 179)) :=
  hlit_of (by decide) (h_atom h.2.1 410 (by decide +kernel)) (h_atom h.2.1 411 (by decide +kernel)) (h_atom h.2.1 412 (by decide +kernel)) (h_atom h.2.1 413 (by decide +kernel)) (fun j hj => match j, hj with
    | 0, _ => (h_atom h.2.1 414 (by decide +kernel))
    | 1, _ => (h_atom h.2.1 415 (by decide +kernel))
    | 2, _ => (h_atom h.2.1 416 (by decide +kernel))
    | 3, _ => (h_atom h.2.1 417 (by decide +kernel))
    | 4, _ => (h_atom h.2.1 418 (by decide +kernel))
    | j + 5, hj => absurd hj (by simp [tx_least]))
theorem hlr_X6_179 {a0 : Array Value} {s0 s : State} (h : hZ a0 s0 s s.heap) : vk_R RX6 179 "least" (litA a0 s0 RX6 179) s := hlr_of h q1081 (hlt_X6_179 h).2
theorem hlt_X6_181 {a0 : Array Value} {s0 U : State} {H : Heap} (h : hZ a0 s0 U H) : hLi s0 (litA a0 s0 RX6 181) tx_fewest ∧ (Term.string RX6 181).eval a0 s0 none [] s0 = some (.ref (litA a0 s0 RX6 181)) :=
  hlit_of (by decide) (h_atom h.2.1 419 (by decide +kernel)) (h_atom h.2.1 420 (by decide +kernel)) (h_atom h.2.1 421 (by decide +kernel)) (h_atom h.2.1 422 (by decide +kernel)) (fun j hj => match j, hj with
    | 0, _ => (h_atom h.2.1 423 (by decide +kernel))
    | 1, _ => (h_atom h.2.1 424 (by decide +kernel))
    | 2, _ => (h_atom h.2.1 425 (by decide +kernel))
    | 3, _ => (h_atom h.2.1 426 (by decide +kernel))
    | 4, _ => (h_atom h.2.1 427 (by decide +kernel))
    | 5, _ => (h_atom h.2.1 428 (by decide +kernel))
    | j + 6, hj => absurd hj (by simp [tx_fewest]))
theorem hlr_X6_181 {a0 : Array Value} {s0 s : State} (h : hZ a0 s0 s s.heap) : vk_R RX6 181 "fewest" (litA a0 s0 RX6 181) s := hlr_of h q1082 (hlt_X6_181 h).2
theorem hlt_X6_183 {a0 : Array Value} {s0 U : State} {H : Heap} (h : hZ a0 s0 U H) : hLi s0 (litA a0 s0 RX6 183) tx_aim ∧ (Term.string RX6 183).eval a0 s0 none [] s0 = some (.ref (litA a0 s0 RX6 183)) :=
  hlit_of (by decide) (h_atom h.2.1 429 (by decide +kernel)) (h_atom h.2.1 430 (by decide +kernel)) (h_atom h.2.1 431 (by decide +kernel)) (h_atom h.2.1 432 (by decide +kernel)) (fun j hj => match j, hj with
    | 0, _ => (h_atom h.2.1 433 (by decide +kernel))
    | 1, _ => (h_atom h.2.1 434 (by decide +kernel))
    | 2, _ => (h_atom h.2.1 435 (by decide +kernel))
    | j + 3, hj => absurd hj (by simp [tx_aim]))
theorem hlr_X6_183 {a0 : Array Value} {s0 s : State} (h : hZ a0 s0 s s.heap) : vk_R RX6 183 "aim" (litA a0 s0 RX6 183) s := hlr_of h q1083 (hlt_X6_183 h).2
theorem hlt_X6_185 {a0 : Array Value} {s0 U : State} {H : Heap} (h : hZ a0 s0 U H) : hLi s0 (litA a0 s0 RX6 185) tx_wait ∧ (Term.string RX6 185).eval a0 s0 none [] s0 = some (.ref (litA a0 s0 RX6 185)) :=
  hlit_of (by decide) (h_atom h.2.1 436 (by decide +kernel)) (h_atom h.2.1 437 (by decide +kernel)) (h_atom h.2.1 438 (by decide +kernel)) (h_atom h.2.1 439 (by decide +kernel)) (fun j hj => match j, hj with
    | 0, _ => (h_atom h.2.1 440 (by decide +kernel))
    | 1, _ => (h_atom h.2.1 441 (by decide +kernel))
    | 2, _ => (h_atom h.2.1 442 (by decide +kernel))
    | 3, _ => (h_atom h.2.1 443 (by decide +kernel))
    | j + 4, hj => absurd hj (by simp [tx_wait]))
theorem hlr_X6_185 {a0 : Array Value} {s0 s : State} (h : hZ a0 s0 s s.heap) : vk_R RX6 185 "wait" (litA a0 s0 RX6 185) s := hlr_of h q1084 (hlt_X6_185 h).2
theorem hlt_X6_145 {a0 : Array Value} {s0 U : State} {H : Heap} (h : hZ a0 s0 U H) : hLi s0 (litA a0 s0 RX6 145) tx_thing ∧ (Term.string RX6 145).eval a0 s0 none [] s0 = some (.ref (litA a0 s0 RX6 145)) :=
  hlit_of (by decide) (h_atom h.2.1 444 (by decide +kernel)) (h_atom h.2.1 445 (by decide +kernel)) (h_atom h.2.1 446 (by decide +kernel)) (h_atom h.2.1 447 (by decide +kernel)) (fun j hj => match j, hj with
    | 0, _ => (h_atom h.2.1 448 (by decide +kernel))
    | 1, _ => (h_atom h.2.1 449 (by decide +kernel))
    | 2, _ => (h_atom h.2.1 450 (by decide +kernel))
    | 3, _ => (h_atom h.2.1 451 (by decide +kernel))
    | 4, _ => (h_atom h.2.1 452 (by decide +kernel))
    | j + 5, hj => absurd hj (by simp [tx_thing]))
theorem hlr_X6_145 {a0 : Array Value} {s0 s : State} (h : hZ a0 s0 s s.heap) : vk_R RX6 145 "thing" (litA a0 s0 RX6 145) s := hlr_of h q1127 (hlt_X6_145 h).2
theorem hlt_X6_211 {a0 : Array Value} {s0 U : State} {H : Heap} (h : hZ a0 s0 U H) : hLi s0 (litA a0 s0 RX6 211) tx_wet ∧ (Term.string RX6 211).eval a0 s0 none [] s0 = some (.ref (litA a0 s0 RX6 211)) :=
  hlit_of (by decide) (h_atom h.2.1 453 (by decide +kernel)) (h_atom h.2.1 454 (by decide +kernel)) (h_atom h.2.1 455 (by decide +kernel)) (h_atom h.2.1 456 (by decide +kernel)) (fun j hj => match j, hj with
    | 0, _ => (h_atom h.2.1 457 (by decide +kernel))
    | 1, _ => (h_atom h.2.1 458 (by decide +kernel))
    | 2, _ => (h_atom h.2.1 459 (by decide +kernel))
    | j + 3, hj => absurd hj (by simp [tx_wet]))
theorem hlr_X6_211 {a0 : Array Value} {s0 s : State} (h : hZ a0 s0 s s.heap) : vk_R RX6 211 "wet" (litA a0 s0 RX6 211) s := hlr_of h q1136 (hlt_X6_211 h).2
theorem hlt_X6_153 {a0 : Array Value} {s0 U : State} {H : Heap} (h : hZ a0 s0 U H) : hLi s0 (litA a0 s0 RX6 153) tx_owes ∧ (Term.string RX6 153).eval a0 s0 none [] s0 = some (.ref (litA a0 s0 RX6 153)) :=
  hlit_of (by decide) (h_atom h.2.1 460 (by decide +kernel)) (h_atom h.2.1 461 (by decide +kernel)) (h_atom h.2.1 462 (by decide +kernel)) (h_atom h.2.1 463 (by decide +kernel)) (fun j hj => match j, hj with
    | 0, _ => (h_atom h.2.1 464 (by decide +kernel))
    | 1, _ => (h_atom h.2.1 465 (by decide +kernel))
    | 2, _ => (h_atom h.2.1 466 (by decide +kernel))
    | 3, _ => (h_atom h.2.1 467 (by decide +kernel))
    | j + 4, hj => absurd hj (by simp [tx_owes]))
theorem hlr_X6_153 {a0 : Array Value} {s0 s : State} (h : hZ a0 s0 s s.heap) : vk_R RX6 153 "owes" (litA a0 s0 RX6 153) s := hlr_of h q1137 (hlt_X6_153 h).2
theorem hlt_X6_160 {a0 : Array Value} {s0 U : State} {H : Heap} (h : hZ a0 s0 U H) : hLi s0 (litA a0 s0 RX6 160) tx_to ∧ (Term.string RX6 160).eval a0 s0 none [] s0 = some (.ref (litA a0 s0 RX6 160)) :=
  hlit_of (by decide) (h_atom h.2.1 468 (by decide +kernel)) (h_atom h.2.1 469 (by decide +kernel)) (h_atom h.2.1 470 (by decide +kernel)) (h_atom h.2.1 471 (by decide +kernel)) (fun j hj => match j, hj with
    | 0, _ => (h_atom h.2.1 472 (by decide +kernel))
    | 1, _ => (h_atom h.2.1 473 (by decide +kernel))
    | j + 2, hj => absurd hj (by simp [tx_to]))
theorem hlr_X6_160 {a0 : Array Value} {s0 s : State} (h : hZ a0 s0 s s.heap) : vk_R RX6 160 "to" (litA a0 s0 RX6 160) s := hlr_of h q1138 (hlt_X6_160 h).2
theorem hlt_X6_161 {a0 : Array Value} {s0 U : State} {H : Heap} (h : hZ a0 s0 U H) : hLi s0 (litA a0 s0 RX6 161) tx_law ∧ (Term.string RX6 161).eval a0 s0 none [] s0 = some (.ref (litA a0 s0 RX6 161)) :=
  hlit_of (by decide) (h_atom h.2.1 474 (by decide +kernel)) (h_atom h.2.1 475 (by decide +kernel)) (h_atom h.2.1 476 (by decide +kernel)) (h_atom h.2.1 477 (by decide +kernel)) (fun j hj => match j, hj with
    | 0, _ => (h_atom h.2.1 478 (by decide +kernel))
    | 1, _ => (h_atom h.2.1 479 (by decide +kernel))
    | 2, _ => (h_atom h.2.1 480 (by decide +kernel))
    | j + 3, hj => absurd hj (by simp [tx_law]))
theorem hlr_X6_161 {a0 : Array Value} {s0 s : State} (h : hZ a0 s0 s s.heap) : vk_R RX6 161 "law" (litA a0 s0 RX6 161) s := hlr_of h q1139 (hlt_X6_161 h).2
theorem hlt_X6_163 {a0 : Array Value} {s0 U : State} {H : Heap} (h : hZ a0 s0 U H) : hLi s0 (litA a0 s0 RX6 163) tx_anyone ∧ (Term.string RX6 163).eval a0 s0 none [] s0 = some (.ref (litA a0 s0 RX6 163)) :=
  hlit_of (by decide) (h_atom h.2.1 481 (by decide +kernel)) (h_atom h.2.1 482 (by decide +kernel)) (h_atom h.2.1 483 (by decide +kernel)) (h_atom h.2.1 484 (by decide +kernel)) (fun j hj => match j, hj with
    | 0, _ => (h_atom h.2.1 485 (by decide +kernel))
    | 1, _ => (h_atom h.2.1 486 (by decide +kernel))
    | 2, _ => (h_atom h.2.1 487 (by decide +kernel))
    | 3, _ => (h_atom h.2.1 488 (by decide +kernel))
    | 4, _ => (h_atom h.2.1 489 (by decide +kernel))
    | 5, _ => (h_atom h.2.1 490 (by decide +kernel))
    | j + 6, hj => absurd hj (by simp [tx_anyone]))
theorem hlr_X6_163 {a0 : Array Value} {s0 s : State} (h : hZ a0 s0 s s.heap) : vk_R RX6 163 "anyone" (litA a0 s0 RX6 163) s := hlr_of h q1140 (hlt_X6_163 h).2
theorem hlt_X6_168 {a0 : Array Value} {s0 U : State} {H : Heap} (h : hZ a0 s0 U H) : hLi s0 (litA a0 s0 RX6 168) tx_giver ∧ (Term.string RX6 168).eval a0 s0 none [] s0 = some (.ref (litA a0 s0 RX6 168)) :=
  hlit_of (by decide) (h_atom h.2.1 491 (by decide +kernel)) (h_atom h.2.1 492 (by decide +kernel)) (h_atom h.2.1 493 (by decide +kernel)) (h_atom h.2.1 494 (by decide +kernel)) (fun j hj => match j, hj with
    | 0, _ => (h_atom h.2.1 495 (by decide +kernel))
    | 1, _ => (h_atom h.2.1 496 (by decide +kernel))
    | 2, _ => (h_atom h.2.1 497 (by decide +kernel))
    | 3, _ => (h_atom h.2.1 498 (by decide +kernel))
    | 4, _ => (h_atom h.2.1 499 (by decide +kernel))
    | j + 5, hj => absurd hj (by simp [tx_giver]))
theorem hlr_X6_168 {a0 : Array Value} {s0 s : State} (h : hZ a0 s0 s s.heap) : vk_R RX6 168 "giver" (litA a0 s0 RX6 168) s := hlr_of h q1141 (hlt_X6_168 h).2
theorem hlt_X6_169 {a0 : Array Value} {s0 U : State} {H : Heap} (h : hZ a0 s0 U H) : hLi s0 (litA a0 s0 RX6 169) tx_within ∧ (Term.string RX6 169).eval a0 s0 none [] s0 = some (.ref (litA a0 s0 RX6 169)) :=
  hlit_of (by decide) (h_atom h.2.1 500 (by decide +kernel)) (h_atom h.2.1 501 (by decide +kernel)) (h_atom h.2.1 502 (by decide +kernel)) (h_atom h.2.1 503 (by decide +kernel)) (fun j hj => match j, hj with
    | 0, _ => (h_atom h.2.1 504 (by decide +kernel))
    | 1, _ => (h_atom h.2.1 505 (by decide +kernel))
    | 2, _ => (h_atom h.2.1 506 (by decide +kernel))
    | 3, _ => (h_atom h.2.1 507 (by decide +kernel))
    | 4, _ => (h_atom h.2.1 508 (by decide +kernel))
    | 5, _ => (h_atom h.2.1 509 (by decide +kernel))
    | j + 6, hj => absurd hj (by simp [tx_within]))
theorem hlr_X6_169 {a0 : Array Value} {s0 s : State} (h : hZ a0 s0 s s.heap) : vk_R RX6 169 "within" (litA a0 s0 RX6 169) s := hlr_of h q1142 (hlt_X6_169 h).2
theorem hZ_CS {a0 : Array Value} {s0 U : State} {H : Heap} (h : hZ a0 s0 U H) : hCS s0 s0.heap := va_Zof (h.1 _ q194) (h.1 _ (lw_all_tbl q87)) (va_eqt (h_atom h.2.1 8 (by decide +kernel))) (fun _ _ z => z)
def hFM (U : State) (H : Heap) : Prop := va_Zq "jdk/internal/util/Preconditions" "SIOOBE_FORMATTER" "Ljava/util/function/BiFunction;" N0 U H
theorem hZ_FM {a0 : Array Value} {s0 U : State} {H : Heap} (h : hZ a0 s0 U H) : hFM s0 s0.heap := va_Zqof (h.1 _ q281) (h.1 _ (lw_all_tbl q93)) (h_atom h.2.1 9 (by decide +kernel)) (fun _ _ z => z)
/-- facts of the start still hold here -/
theorem hPk.now {P : State → Heap → Prop} (hk : hPk P) {a0 : Array Value} {s0 s U : State} {H : Heap} {locs : List Loc} (hp : P s0 s0.heap) (hZ0 : hZ a0 s0 s s.heap) (hS : va_S (hA s0) s.heap H locs) (hW' : s.WarmedH U.vm) : P U H :=
  hk s0 U H hp (State.WarmedH.trans hZ0.2.2.1 hW').alike (fun a ha => (hS.2.1 a (Nat.lt_of_lt_of_le ha hZ0.2.2.2.1) (Nat.not_le.mpr ha)).trans (hZ0.2.2.2.2 a ha))
theorem hl_preV {P : State → Heap → Prop} (hk : hPk P) {a0 : Array Value} {s0 s : State} {H : Heap} {locs : List Loc} {v : Nat} {As : List Value} (hp : P s0 s0.heap) (hZ0 : hZ a0 s0 s s.heap) (hS : va_S (hA s0) s.heap H locs) (hO : va_O "java/lang/String" v N0 s0 s0.heap) : PreV s H "java/lang/String" v (va_Pc (.ref v :: As) (fun U => P U U.heap)) As := ⟨hPk_blind hk, by
    have hO' : va_O "java/lang/String" v N0 s H := hPk.now (P := fun U H => va_O "java/lang/String" v N0 U H) (fun _ _ _ h hv hq => (va_O.moved hv h).kept (fun a ha _ => hq a ha)) hO hZ0 hS (State.WarmedH.refl s)
    obtain ⟨cell, h1, h2, h3, -⟩ := hO'
    exact ⟨cell, h1, h2, h3⟩, fun _ hU hW' => ⟨rfl, by show P _ _; rw [hU]; exact hk.now hp hZ0 hS hW'⟩⟩
theorem hpk_L {v b : Nat} {t : List Int32} : hPk (fun U H => hTx v b t U H ∧ hCS U H) := hPk_and hTx_pk hCS_pk
theorem hpk_LF {v b : Nat} {t : List Int32} : hPk (fun U H => (hTx v b t U H ∧ hCS U H) ∧ hFM U H) := hPk_and hpk_L hPk_Zq
section HSTR
variable {p : Program} {l : Launch} {e : Env} {R : Room} {s : State} {m : MethodId} {args : Array Value} {below : List Frame} {meth : Method} {c : Code} {H : Heap} {locs : List Loc} {cells slots : Nat} {Q : State → Prop}
variable {pc : Nat} {ls : Array Slot} {rest st0 : List Value} {D : va_G} {cl : List vw_C} {A : Nat → Prop} {H0 : Heap} {a : Array Value}
variable {ad : Rl → Nat} {sh : Rl → Option hS} {st : Rl → Nat → Int32} {lt : Rl → Nat → Int64}
theorem hr_strI {v w : Int32} (he : w = v) (hr : va_Run p l e R s m args below meth c H locs cells slots 0 0 (F0 m pc ls st0) rest (va_Qi (fun (r : Int32) (_ : Unit) => r = v) (fun _ _ => True) N0 a) N0) (hM : hW D cl ad sh st lt H) (hS : va_S A H0 H locs)
    (kk : ∀ (H1 : Heap) (locs1 : List Loc), hW D cl ad sh st lt H1 → va_S A H0 H1 locs1 → W p l e R s m args below meth c H1 locs1 cells slots Q (F0 m (pc + 3) ls (.int w :: rest))) : W p l e R s m args below meth c H locs cells slots Q (F0 m pc ls st0) := by
  subst he
  refine va_calli hr hS (fun _ _ h => h.elim) (fun _ h => h.elim) ?_
  intro r _ t H1 locs1 ht hvm hp hb hz hk hS1
  subst hp
  exact kk H1 locs1 (hM.kept (fun q hq => hk q hq (fun z => z))) hS1
end HSTR
theorem mS_1 {C : Nat → Nat} {so : Nat → Option hS} : (Sum.elim so (mSH C) : Rl → Option hS) (.inr 1) = some (.inr (.inl (C 6, 5, fun i => some (.inr (C (100 + i)))))) := rfl
def hsch (t : List Int32) (i : Int32) : Option Int32 := if i < 0 then none else if i < Int32.ofNat t.length then some (hch (t.getD i.toNatClampNeg 0)) else none
theorem hsch_ok {t : List Int32} {i x : Int32} (h : hsch t i = some x) : ¬ i < 0 ∧ i < Int32.ofNat t.length ∧ x = hch (t.getD i.toNatClampNeg 0) := by
  unfold hsch at h
  by_cases h0 : i < 0
  · rw [if_pos h0] at h; cases h
  · rw [if_neg h0] at h
    by_cases h1 : i < Int32.ofNat t.length
    · rw [if_pos h1] at h; cases h; exact ⟨h0, h1, rfl⟩
    · rw [if_neg h1] at h; cases h
def hkd (i : Int32) : Option Nat := if i < 0 then none else if i < 5 then some i.toNatClampNeg else none
theorem hkd_ok {i : Int32} {k : Nat} (h : hkd i = some k) : ¬ i < 0 ∧ i.toNatClampNeg = k ∧ k < 5 := by
  unfold hkd at h
  by_cases h0 : i < 0
  · rw [if_pos h0] at h; cases h
  · rw [if_neg h0] at h
    by_cases h1 : i < 5
    · rw [if_pos h1] at h; cases h
      exact ⟨h0, rfl, (h_inN h0 (n := 5) h1 (by decide)).2⟩
    · rw [if_neg h1] at h; cases h
