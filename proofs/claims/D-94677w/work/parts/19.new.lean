/-! CELLS THAT ARE MADE: shapes after a new cell, renaming, calls whose room is more than their cost; constructors; ArrayList's add and remove. -/
set_option maxRecDepth 100000
theorem shU_s {sh : Rl → Option hS} {r : Rl} {x : hS} : shU sh r x r = some x := if_pos rfl
theorem shU_n {sh : Rl → Option hS} {r q : Rl} {x : hS} {y : Option hS} (h : sh q = y) (hq : q ≠ r) : shU sh r x q = y := (if_neg hq).trans h
theorem inl_ne {a b : Nat} (h : a ≠ b) : (Sum.inl a : Rl) ≠ .inl b := fun z => h (Sum.inl.inj z)
theorem inl_ner {a b : Nat} : (Sum.inl a : Rl) ≠ .inr b := fun z => by cases z
/-- the world under other names -/
theorem hW.ren {D : va_G} {cl : List vw_C} {ad : Rl → Nat} {sh sh' : Rl → Option hS} {st st' : Rl → Nat → Int32} {lt lt' : Rl → Nat → Int64} {H : Heap} (f : Rl → Rl) (h : hW D cl ad sh st lt H) (hx : ∀ r x', sh' r = some x' → ∃ x, sh (f r) = some x ∧ ∀ g k, hE (fun q => ad (f q)) x' g k = hE ad x g k) (hs : ∀ r, sh' r ≠ none → st' r = st (f r)) (hl : ∀ r, sh' r ≠ none → lt' r = lt (f r)) : hW D cl (fun q => ad (f q)) sh' st' lt' H := by
  intro r x' hr
  obtain ⟨x, h1, h2⟩ := hx r x' hr
  have := h (f r) x h1
  rw [hs r (hsome hr), hl r (hsome hr), h2]
  exact this
theorem hI.ren {A : Nat → Prop} {ad : Rl → Nat} {sh sh' : Rl → Option hS} (f : Rl → Rl) (h : hI A ad sh) (hx : ∀ r, sh' r ≠ none → sh (f r) ≠ none) (hf : ∀ r r', sh' r ≠ none → sh' r' ≠ none → f r = f r' → r = r') : hI A (fun q => ad (f q)) sh' :=
  ⟨fun r r' h1 h2 e => hf r r' h1 h2 (h.1 _ _ (hx r h1) (hx r' h2) e), fun r h1 => h.2 _ (hx r h1)⟩
theorem hW.cong {D : va_G} {cl : List vw_C} {ad : Rl → Nat} {sh sh' : Rl → Option hS} {st st' : Rl → Nat → Int32} {lt : Rl → Nat → Int64} {H : Heap} (h : hW D cl ad sh st lt H) (e : sh = sh') (e2 : st = st') : hW D cl ad sh' st' lt H := by rw [← e, ← e2]; exact h
section HBK
variable {l : Launch} {R : Room} {p : Program} {e : Env} {below : List Frame} {s : State} {sargs : Array Value} {y : MethodName} {len W : Nat}
/-- a call whose room is more than it costs -/
theorem h_back_of {ws : List Cond} {rm : Room} {Pc : Array Value → State → Prop} {Qc : Array Value → State → Outcome → State → Prop} {mc ms : Nat} {free : Addr → Prop} {bytes : ByteArray} {maxL : Nat} {ret : Option FieldType}
    (hM : Met l y ws rm Pc Qc mc ms free) (hblind : FrameBlind Pc)
    (hframes : rm.frames + 1 ≤ R.frames) (hlocals : W + (maxL + 11) + rm.locals ≤ R.locals)
    (hws : ∀ w ∈ ws, ∀ a' U, s.WarmedH U.vm → w.before a' U = true) (hcode : Cond.code y bytes maxL ret ∈ ws) (hinit : ∀ a' U, s.WarmedH U.vm → (Cond.initialized y.cls).before a' U = true) :
    Back l R p e below s sargs y len W (PreOf R rm.cells rm.slots Pc) (PostOf Qc mc ms free) := by
  refine Back.of_free (S := headSpec ws rm) (P := Pc) (K := fun _ _ _ _ _ => True) (Q := fun a st o t => Qc a st o t ∧ ∃ L, FrameEnd st o t L mc ms ∧ ∀ q ∈ L, free q.base) (bytes := bytes) (maxL := maxL) (ret := ret)
    (E := fun a st o t L k n => k = mc ∧ n = ms ∧ ∀ q ∈ L, free q.base) hM hframes hlocals ?_ ?_ (fun _ _ _ _ _ _ _ _ _ => trivial) ?_ ?_
  · intro m meth c A a X hp
    exact ⟨atoms_intro fun w hw => hws w hw _ _ X.warmed, hws _ hcode _ _ X.warmed, hinit _ _ X.warmed, hp.1, hp.2.1⟩
  · intro m meth c A a g mk X hp
    exact hblind _ _ _ _ hp.2.2
  · intro a st o t ⟨hq, L, hF, hL⟩
    exact ⟨L, mc, ms, hF, rfl, rfl, hL⟩
  · intro m meth c A a g mk v t L k n X hp hq hF ⟨e1, e2, hL⟩
    subst e1; subst e2
    exact ⟨g, mk, t, L, rfl, rfl, hq.1, rfl, hL, rfl, rfl⟩
end HBK
section HRN
variable {p : Program} {l : Launch} {e : Env} {R : Room} {s : State} {m : MethodId} {args : Array Value} {below : List Frame} {meth : Method} {c : Code} {H : Heap} {locs : List Loc} {cells slots : Nat} {Q : State → Prop}
variable {y : MethodName} {bytes cc : ByteArray} {maxL nL mc ms n index : Nat} {ret : Option FieldType} {ws : List Cond} {rm : Room} {Pc : Array Value → State → Prop} {Qc : Array Value → State → Outcome → State → Prop} {free : Addr → Prop} {Ts : List Cond} {own C : String} {b : Addr} {As rest : List Value} {g : JFrame}
theorem W_stk {pc : Nat} {ls : Array Slot} {st1 st2 : List Value} (h : st2 = st1) (k : W p l e R s m args below meth c H locs cells slots Q (F0 m pc ls st2)) : W p l e R s m args below meth c H locs cells slots Q (F0 m pc ls st1) := h ▸ k
theorem h_callBack {mc ms : Nat} (cb : CallB R s args own index y bytes maxL ret ws rm rm.cells rm.slots n) (hM : Met l y ws rm Pc Qc mc ms free) (hbl : FrameBlind Pc) : Back l R p e below s args y 3 8 (PreOf R rm.cells rm.slots Pc) (PostOf Qc mc ms free) := by
  obtain ⟨-, -, hfr, hlo, hws, hcw, -, hini, -⟩ := cb
  exact h_back_of (bytes := bytes) (maxL := maxL) (ret := ret) hM hbl hfr hlo hws hcw (fun a' U hW => word_at hW (Or.inl (by first | rfl | simp [Cond.onTables, Cond.keeps, Cond.steady])) hini)
theorem h_runV (S : CallFix p m c cc nL s args Ts own) (hM : Met l y ws rm Pc Qc mc ms free) (cw : CallW R s args own C index y bytes maxL ret ws rm rm.cells rm.slots n) (hp : PreV s H C b Pc As)
    (hg : g.method = m) (hn : As.length = n) (hsize : g.locals.size = nL) (hstack : g.stack = As.reverse ++ .ref b :: rest) (hW : 2 * g.monitorRoom + (rest.map fun v => v.category).sum ≤ 8) (hdg : decode cc g.pc = .ok (.invokevirtual index, 3)) (hf : cells + rm.cells ≤ R.cells ∧ slots + rm.slots ≤ R.slots) :
    va_Run p l e R s m args below meth c H locs cells slots mc ms g rest (Qc (Value.ref b :: As).toArray) (free) := by
  have hK : Back l R p e below s args y 3 8 (PreOf R rm.cells rm.slots Pc) (PostOf Qc mc ms free) := h_callBack cw.1 hM hp.1
  obtain ⟨⟨-, -, -, -, -, -, hcode, -, hy, hlen, hl⟩, hin, hse⟩ := cw
  obtain ⟨hx, hb, hml, ho, -⟩ := S
  obtain ⟨-, ⟨cellB, hcB, hoB, hclB⟩, hPc⟩ := hp
  intro T hT X
  obtain ⟨v, vm₁, ⟨U', l2, c2, s2⟩, hW₁, X', ⟨g', mk, t, L, e1, e2, hq, h1, hL, h2, h3⟩, st⟩ := callV X hx (C := C) (bytes := bytes) (maxL := maxL) (ret := ret) ho hl hin hse hcode hy hK (by rw [hT]; exact hcB) hoB hclB hg (hsize.trans hml.symm) (argsL := As) (rest := rest) (fun sig h => hn.trans (hlen sig h)) hstack hW (by rw [hb]; exact hdg)
    (fun vm₁ hW₁ => ⟨hf.1, hf.2, hPc (T.setVm vm₁) hT hW₁⟩)
  dsimp only [Pt.U, Pt.locs, Pt.cells, Pt.slots] at X' e1 e2 h1 h2 h3 st
  subst h1; subst h2; subst h3
  exact ⟨v, (T.setVm vm₁).calling g' mk (Value.ref b :: As).toArray, t, U', L, hT, X', hL, e1, e2, hq, st⟩
end HRN
def stx0 : List hF := [some none, some none, some none, some none, some none, none]
/-- a State's cells at b, in any world -/
def shSt (C : Nat → Nat) (b : Nat) (sh : Rl → Option hS) : Rl → Option hS := fun r => match r with
  | .inl q => if b ≤ q ∧ q < b + 6 then xStS C b (q - b) else sh r
  | .inr _ => sh r
def stSt (b : Nat) (st : Rl → Nat → Int32) : Rl → Nat → Int32 := fun r => match r with
  | .inl q => if b < q ∧ q < b + 6 then (fun _ => 0) else st r
  | .inr _ => st r
/-- nested shapes of a new State, told at once -/
theorem shSt_eq (C : Nat → Nat) (b : Nat) (sh : Rl → Option hS) : (shU (shU (shU (shU (shU (shU (shU (shU (shU (shU sh (.inl (b + 1)) (.inl (C 0, 6, false))) (.inl b) (.inr (.inr (1, (stx0.set 0 (some (some (.inl (.inl (b + 1)))))))))) (.inl (b + 2)) (.inl (C 0, 6, false))) (.inl b) (.inr (.inr (1, ((stx0.set 0 (some (some (.inl (.inl (b + 1)))))).set 1 (some (some (.inl (.inl (b + 2)))))))))) (.inl (b + 3)) (.inl (C 0, 6, false))) (.inl b) (.inr (.inr (1, (((stx0.set 0 (some (some (.inl (.inl (b + 1)))))).set 1 (some (some (.inl (.inl (b + 2)))))).set 2 (some (some (.inl (.inl (b + 3)))))))))) (.inl (b + 4)) (.inl (C 0, 6, false))) (.inl b) (.inr (.inr (1, ((((stx0.set 0 (some (some (.inl (.inl (b + 1)))))).set 1 (some (some (.inl (.inl (b + 2)))))).set 2 (some (some (.inl (.inl (b + 3)))))).set 3 (some (some (.inl (.inl (b + 4)))))))))) (.inl (b + 5)) (.inl (C 0, 12, false))) (.inl b) (.inr (.inr (1, (((((stx0.set 0 (some (some (.inl (.inl (b + 1)))))).set 1 (some (some (.inl (.inl (b + 2)))))).set 2 (some (some (.inl (.inl (b + 3)))))).set 3 (some (some (.inl (.inl (b + 4)))))).set 4 (some (some (.inl (.inl (b + 5)))))))))) = shSt C b sh := by
  funext r
  cases r with
  | inr q => simp only [shU, shSt, if_neg (inl_ner.symm : (Sum.inr q : Rl) ≠ .inl _)]
  | inl q =>
    simp only [shU, shSt, Sum.inl.injEq]
    by_cases h0 : q = b
    · subst h0; simp [xStS, x_st, stx0]
    · by_cases hq : b ≤ q ∧ q < b + 6
      · obtain ⟨k, hk⟩ : ∃ k, q = b + k := ⟨q - b, by omega⟩
        subst hk
        have : k = 1 ∨ k = 2 ∨ k = 3 ∨ k = 4 ∨ k = 5 := by omega
        rcases this with rfl | rfl | rfl | rfl | rfl <;> simp [xStS]
      · rw [if_neg hq]
        simp only [if_neg h0]
        rw [if_neg (by omega), if_neg (by omega), if_neg (by omega), if_neg (by omega), if_neg (by omega)]
theorem stSt_eq (b : Nat) (st : Rl → Nat → Int32) : (stU (stU (stU (stU (stU st (.inl (b + 1)) (fun _ => 0)) (.inl (b + 2)) (fun _ => 0)) (.inl (b + 3)) (fun _ => 0)) (.inl (b + 4)) (fun _ => 0)) (.inl (b + 5)) (fun _ => 0)) = stSt b st := by
  funext r
  cases r with
  | inr q => simp only [stU, stSt, if_neg (inl_ner.symm : (Sum.inr q : Rl) ≠ .inl _)]
  | inl q =>
    simp only [stU, stSt, Sum.inl.injEq]
    by_cases hq : b < q ∧ q < b + 6
    · obtain ⟨k, hk⟩ : ∃ k, q = b + k := ⟨q - b, by omega⟩
      subst hk
      have : k = 1 ∨ k = 2 ∨ k = 3 ∨ k = 4 ∨ k = 5 := by omega
      rcases this with rfl | rfl | rfl | rfl | rfl <;> simp
    · rw [if_neg hq, if_neg (by omega), if_neg (by omega), if_neg (by omega), if_neg (by omega), if_neg (by omega)]
def rm_a_stinit : Room := { frames := 2, cells := 5, slots := 36, locals := 32 }
set_option maxHeartbeats 4000000 in
theorem met_a_stinit (l : Launch) (D : va_G) (C : Nat → Nat) (a0 : Array Value) (s0 : State) (ad : Rl → Nat) (sh : Rl → Option hS) (st : Rl → Nat → Int32) (lt : Rl → Nat → Int64) (b : Nat) (h0 : sh (.inl b) = some (.inr (.inr (1, stx0)))) (hn : ∀ q, b < q → q < b + 6 → sh (.inl q) = none) (hok : hOK sh) : Met l yX4_init (ws_ yX4_init cX4_init 1 none) rm_a_stinit (va_Pc [.ref (ad (.inl b))] (hB D vwCl (hT C) (hA s0) (hZ a0 s0) ad sh st lt)) (va_Qv (fun ad' : Rl → Nat => (∀ q, (∀ k, b < k → k < b + 6 → q ≠ .inl k) → ad' q = ad q) ∧ hOK (shSt C b sh)) (fun ad' U => hW D vwCl ad' (shSt C b sh) (stSt b st) lt U.heap ∧ hI (hA s0) ad' (shSt C b sh)) (hA s0)) 5 36 (hA s0) := by
  refine Met.ofW (cc := cX4_init) (maxL := 1) (ret := none) (by decide) rfl ?_
  intro p e s m args below meth c s₁ B hml hv
  obtain ⟨rfl, hM, hIx, hK, hZ0, hA0⟩ := hv
  have hl := lv_entry ([.ref (ad (.inl b))]) (n := 1) (Nat.le_of_ble_eq_true rfl)
  rw [lg_entry_eq]
  generalize (lg_sl ([.ref (ad (.inl b))]) ++ List.replicate (1 - (lg_sl ([.ref (ad (.inl b))])).length) Slot.unset).toArray = ls at hl ⊢
  have hl : lv_has ls 1 [(0, .ref (ad (.inl b)))] := hl
  have hx := B.exec
  have hb := B.bytes
  have hr := B.returns
  have hown := findClass_of_methodNamed B.named
  have hin2 : meth.name = "<init>" := (name_of_methodNamed B.named B.method).1
  have hts : ∀ w ∈ lw_all, w.before _ s = true := fun w h => atoms_spec (ws := ws_ yX4_init cX4_init 1 none) B.pre w (List.mem_cons_of_mem _ h)
  have hS : va_S (hA s0) s.heap s.heap [] := va_S.rf
  have h1 := hn (b + 1) (by omega) (by omega)
  have h2 := hn (b + 2) (by omega) (by omega)
  have h3 := hn (b + 3) (by omega) (by omega)
  have h4 := hn (b + 4) (by omega) (by omega)
  have h5 := hn (b + 5) (by omega) (by omega)
  clear hn
  refine lv_aload_n hx hb dX4_init_0 rfl (lv_at hl 0 rfl) ?_
  refine W.objInit hx hb hown (hts _ q508) (hts _ q119) (hts _ q120) rfl (by rw [hml]; exact hl.1) rfl dX4_init_1 (Nat.le_of_ble_eq_true rfl) (Nat.le_of_ble_eq_true rfl) ?_
  refine W.eq (g2 := F0 m 4 ls []) rfl ?_
  refine lv_aload_n hx hb dX4_init_4 rfl (lv_at hl 0 rfl) ?_
  refine lv_bipush (v := 6) hx hb dX4_init_5 (by decide) ?_
  refine hr_newa (.inl (b + 1)) hx hb (atype := .int) (hts _ q496) 0 (ty := .int) rfl rfl (cA := C 0) rfl (fun h => h) hK hM hIx hok hS hA0 h1 (n := 6) (N' := 6) (by decide) rfl (Nat.le_of_ble_eq_true rfl) (Nat.le_of_ble_eq_true rfl) (Nat.le_of_ble_eq_true rfl) dX4_init_7 (fun ad H hE1 hM hIx hok hS => ?_)
  rw [← hE1 (.inl b) (inl_ne (by omega))] at hl
  refine W_stk (st2 := [.ref (ad (.inl (b + 1))), .ref (ad (.inl b))]) (by rw [hE1 (.inl b) (inl_ne (by omega))]) ?_
  replace h0 := shU_n (r := .inl (b + 1)) (x := .inl (C 0, 6, false)) h0 (inl_ne (by omega))
  replace h2 := shU_n (r := .inl (b + 1)) (x := .inl (C 0, 6, false)) h2 (inl_ne (by omega))
  replace h3 := shU_n (r := .inl (b + 1)) (x := .inl (C 0, 6, false)) h3 (inl_ne (by omega))
  replace h4 := shU_n (r := .inl (b + 1)) (x := .inl (C 0, 6, false)) h4 (inl_ne (by omega))
  replace h5 := shU_n (r := .inl (b + 1)) (x := .inl (C 0, 6, false)) h5 (inl_ne (by omega))
  refine hr_putRF (ci := 1) (C := RX4) (T := TX4) (N := 6) (r := .inl b) (f := some (some (.inl (.inl (b + 1))))) hx hb hts in_X4 tyX4 tyX4_ok nmX4 hown hK hM hIx hS h0 rfl 0 (by decide) (hts _ q509) rfl hin2 rfl rfl rfl rfl rfl (Nat.le_of_ble_eq_true rfl) (fun q hq => by cases hq; exact hsome shU_s) dX4_init_9 (fun H locs hM hIx hok2 hS => ?_)
  replace hok := hok2 hok
  clear hok2
  replace h0 := shU_s (sh := (shU sh (.inl (b + 1)) (.inl (C 0, 6, false)))) (r := .inl b) (x := .inr (.inr (1, (stx0.set 0 (some (some (.inl (.inl (b + 1)))))))))
  replace h2 := shU_n (r := .inl b) (x := .inr (.inr (1, (stx0.set 0 (some (some (.inl (.inl (b + 1))))))))) h2 (inl_ne (by omega))
  replace h3 := shU_n (r := .inl b) (x := .inr (.inr (1, (stx0.set 0 (some (some (.inl (.inl (b + 1))))))))) h3 (inl_ne (by omega))
  replace h4 := shU_n (r := .inl b) (x := .inr (.inr (1, (stx0.set 0 (some (some (.inl (.inl (b + 1))))))))) h4 (inl_ne (by omega))
  replace h5 := shU_n (r := .inl b) (x := .inr (.inr (1, (stx0.set 0 (some (some (.inl (.inl (b + 1))))))))) h5 (inl_ne (by omega))
  refine lv_aload_n hx hb dX4_init_12 rfl (lv_at hl 0 rfl) ?_
  refine lv_bipush (v := 6) hx hb dX4_init_13 (by decide) ?_
  refine hr_newa (.inl (b + 2)) hx hb (atype := .int) (hts _ q496) 0 (ty := .int) rfl rfl (cA := C 0) rfl (fun h => h) hK hM hIx hok hS hA0 h2 (n := 6) (N' := 6) (by decide) rfl (Nat.le_of_ble_eq_true rfl) (Nat.le_of_ble_eq_true rfl) (Nat.le_of_ble_eq_true rfl) dX4_init_15 (fun ad H hE2 hM hIx hok hS => ?_)
  rw [← hE2 (.inl b) (inl_ne (by omega))] at hl
  refine W_stk (st2 := [.ref (ad (.inl (b + 2))), .ref (ad (.inl b))]) (by rw [hE2 (.inl b) (inl_ne (by omega))]) ?_
  replace h0 := shU_n (r := .inl (b + 2)) (x := .inl (C 0, 6, false)) h0 (inl_ne (by omega))
  replace h3 := shU_n (r := .inl (b + 2)) (x := .inl (C 0, 6, false)) h3 (inl_ne (by omega))
  replace h4 := shU_n (r := .inl (b + 2)) (x := .inl (C 0, 6, false)) h4 (inl_ne (by omega))
  replace h5 := shU_n (r := .inl (b + 2)) (x := .inl (C 0, 6, false)) h5 (inl_ne (by omega))
  refine hr_putRF (ci := 1) (C := RX4) (T := TX4) (N := 6) (r := .inl b) (f := some (some (.inl (.inl (b + 2))))) hx hb hts in_X4 tyX4 tyX4_ok nmX4 hown hK hM hIx hS h0 rfl 1 (by decide) (hts _ q512) rfl hin2 rfl rfl rfl rfl rfl (Nat.le_of_ble_eq_true rfl) (fun q hq => by cases hq; exact hsome shU_s) dX4_init_17 (fun H locs hM hIx hok2 hS => ?_)
  replace hok := hok2 hok
  clear hok2
  replace h0 := shU_s (sh := (shU (shU (shU sh (.inl (b + 1)) (.inl (C 0, 6, false))) (.inl b) (.inr (.inr (1, (stx0.set 0 (some (some (.inl (.inl (b + 1)))))))))) (.inl (b + 2)) (.inl (C 0, 6, false)))) (r := .inl b) (x := .inr (.inr (1, ((stx0.set 0 (some (some (.inl (.inl (b + 1)))))).set 1 (some (some (.inl (.inl (b + 2)))))))))
  replace h3 := shU_n (r := .inl b) (x := .inr (.inr (1, ((stx0.set 0 (some (some (.inl (.inl (b + 1)))))).set 1 (some (some (.inl (.inl (b + 2))))))))) h3 (inl_ne (by omega))
  replace h4 := shU_n (r := .inl b) (x := .inr (.inr (1, ((stx0.set 0 (some (some (.inl (.inl (b + 1)))))).set 1 (some (some (.inl (.inl (b + 2))))))))) h4 (inl_ne (by omega))
  replace h5 := shU_n (r := .inl b) (x := .inr (.inr (1, ((stx0.set 0 (some (some (.inl (.inl (b + 1)))))).set 1 (some (some (.inl (.inl (b + 2))))))))) h5 (inl_ne (by omega))
  refine lv_aload_n hx hb dX4_init_20 rfl (lv_at hl 0 rfl) ?_
  refine lv_bipush (v := 6) hx hb dX4_init_21 (by decide) ?_
  refine hr_newa (.inl (b + 3)) hx hb (atype := .int) (hts _ q496) 0 (ty := .int) rfl rfl (cA := C 0) rfl (fun h => h) hK hM hIx hok hS hA0 h3 (n := 6) (N' := 6) (by decide) rfl (Nat.le_of_ble_eq_true rfl) (Nat.le_of_ble_eq_true rfl) (Nat.le_of_ble_eq_true rfl) dX4_init_23 (fun ad H hE3 hM hIx hok hS => ?_)
  rw [← hE3 (.inl b) (inl_ne (by omega))] at hl
  refine W_stk (st2 := [.ref (ad (.inl (b + 3))), .ref (ad (.inl b))]) (by rw [hE3 (.inl b) (inl_ne (by omega))]) ?_
  replace h0 := shU_n (r := .inl (b + 3)) (x := .inl (C 0, 6, false)) h0 (inl_ne (by omega))
  replace h4 := shU_n (r := .inl (b + 3)) (x := .inl (C 0, 6, false)) h4 (inl_ne (by omega))
  replace h5 := shU_n (r := .inl (b + 3)) (x := .inl (C 0, 6, false)) h5 (inl_ne (by omega))
  refine hr_putRF (ci := 1) (C := RX4) (T := TX4) (N := 6) (r := .inl b) (f := some (some (.inl (.inl (b + 3))))) hx hb hts in_X4 tyX4 tyX4_ok nmX4 hown hK hM hIx hS h0 rfl 2 (by decide) (hts _ q515) rfl hin2 rfl rfl rfl rfl rfl (Nat.le_of_ble_eq_true rfl) (fun q hq => by cases hq; exact hsome shU_s) dX4_init_25 (fun H locs hM hIx hok2 hS => ?_)
  replace hok := hok2 hok
  clear hok2
  replace h0 := shU_s (sh := (shU (shU (shU (shU (shU sh (.inl (b + 1)) (.inl (C 0, 6, false))) (.inl b) (.inr (.inr (1, (stx0.set 0 (some (some (.inl (.inl (b + 1)))))))))) (.inl (b + 2)) (.inl (C 0, 6, false))) (.inl b) (.inr (.inr (1, ((stx0.set 0 (some (some (.inl (.inl (b + 1)))))).set 1 (some (some (.inl (.inl (b + 2)))))))))) (.inl (b + 3)) (.inl (C 0, 6, false)))) (r := .inl b) (x := .inr (.inr (1, (((stx0.set 0 (some (some (.inl (.inl (b + 1)))))).set 1 (some (some (.inl (.inl (b + 2)))))).set 2 (some (some (.inl (.inl (b + 3)))))))))
  replace h4 := shU_n (r := .inl b) (x := .inr (.inr (1, (((stx0.set 0 (some (some (.inl (.inl (b + 1)))))).set 1 (some (some (.inl (.inl (b + 2)))))).set 2 (some (some (.inl (.inl (b + 3))))))))) h4 (inl_ne (by omega))
  replace h5 := shU_n (r := .inl b) (x := .inr (.inr (1, (((stx0.set 0 (some (some (.inl (.inl (b + 1)))))).set 1 (some (some (.inl (.inl (b + 2)))))).set 2 (some (some (.inl (.inl (b + 3))))))))) h5 (inl_ne (by omega))
  refine lv_aload_n hx hb dX4_init_28 rfl (lv_at hl 0 rfl) ?_
  refine lv_bipush (v := 6) hx hb dX4_init_29 (by decide) ?_
  refine hr_newa (.inl (b + 4)) hx hb (atype := .int) (hts _ q496) 0 (ty := .int) rfl rfl (cA := C 0) rfl (fun h => h) hK hM hIx hok hS hA0 h4 (n := 6) (N' := 6) (by decide) rfl (Nat.le_of_ble_eq_true rfl) (Nat.le_of_ble_eq_true rfl) (Nat.le_of_ble_eq_true rfl) dX4_init_31 (fun ad H hE4 hM hIx hok hS => ?_)
  rw [← hE4 (.inl b) (inl_ne (by omega))] at hl
  refine W_stk (st2 := [.ref (ad (.inl (b + 4))), .ref (ad (.inl b))]) (by rw [hE4 (.inl b) (inl_ne (by omega))]) ?_
  replace h0 := shU_n (r := .inl (b + 4)) (x := .inl (C 0, 6, false)) h0 (inl_ne (by omega))
  replace h5 := shU_n (r := .inl (b + 4)) (x := .inl (C 0, 6, false)) h5 (inl_ne (by omega))
  refine hr_putRF (ci := 1) (C := RX4) (T := TX4) (N := 6) (r := .inl b) (f := some (some (.inl (.inl (b + 4))))) hx hb hts in_X4 tyX4 tyX4_ok nmX4 hown hK hM hIx hS h0 rfl 3 (by decide) (hts _ q519) rfl hin2 rfl rfl rfl rfl rfl (Nat.le_of_ble_eq_true rfl) (fun q hq => by cases hq; exact hsome shU_s) dX4_init_33 (fun H locs hM hIx hok2 hS => ?_)
  replace hok := hok2 hok
  clear hok2
  replace h0 := shU_s (sh := (shU (shU (shU (shU (shU (shU (shU sh (.inl (b + 1)) (.inl (C 0, 6, false))) (.inl b) (.inr (.inr (1, (stx0.set 0 (some (some (.inl (.inl (b + 1)))))))))) (.inl (b + 2)) (.inl (C 0, 6, false))) (.inl b) (.inr (.inr (1, ((stx0.set 0 (some (some (.inl (.inl (b + 1)))))).set 1 (some (some (.inl (.inl (b + 2)))))))))) (.inl (b + 3)) (.inl (C 0, 6, false))) (.inl b) (.inr (.inr (1, (((stx0.set 0 (some (some (.inl (.inl (b + 1)))))).set 1 (some (some (.inl (.inl (b + 2)))))).set 2 (some (some (.inl (.inl (b + 3)))))))))) (.inl (b + 4)) (.inl (C 0, 6, false)))) (r := .inl b) (x := .inr (.inr (1, ((((stx0.set 0 (some (some (.inl (.inl (b + 1)))))).set 1 (some (some (.inl (.inl (b + 2)))))).set 2 (some (some (.inl (.inl (b + 3)))))).set 3 (some (some (.inl (.inl (b + 4)))))))))
  replace h5 := shU_n (r := .inl b) (x := .inr (.inr (1, ((((stx0.set 0 (some (some (.inl (.inl (b + 1)))))).set 1 (some (some (.inl (.inl (b + 2)))))).set 2 (some (some (.inl (.inl (b + 3)))))).set 3 (some (some (.inl (.inl (b + 4))))))))) h5 (inl_ne (by omega))
  refine lv_aload_n hx hb dX4_init_36 rfl (lv_at hl 0 rfl) ?_
  refine lv_bipush (v := 12) hx hb dX4_init_37 (by decide) ?_
  refine hr_newa (.inl (b + 5)) hx hb (atype := .int) (hts _ q496) 0 (ty := .int) rfl rfl (cA := C 0) rfl (fun h => h) hK hM hIx hok hS hA0 h5 (n := 12) (N' := 12) (by decide) rfl (Nat.le_of_ble_eq_true rfl) (Nat.le_of_ble_eq_true rfl) (Nat.le_of_ble_eq_true rfl) dX4_init_39 (fun ad H hE5 hM hIx hok hS => ?_)
  rw [← hE5 (.inl b) (inl_ne (by omega))] at hl
  refine W_stk (st2 := [.ref (ad (.inl (b + 5))), .ref (ad (.inl b))]) (by rw [hE5 (.inl b) (inl_ne (by omega))]) ?_
  replace h0 := shU_n (r := .inl (b + 5)) (x := .inl (C 0, 12, false)) h0 (inl_ne (by omega))
  refine hr_putRF (ci := 1) (C := RX4) (T := TX4) (N := 6) (r := .inl b) (f := some (some (.inl (.inl (b + 5))))) hx hb hts in_X4 tyX4 tyX4_ok nmX4 hown hK hM hIx hS h0 rfl 4 (by decide) (hts _ q523) rfl hin2 rfl rfl rfl rfl rfl (Nat.le_of_ble_eq_true rfl) (fun q hq => by cases hq; exact hsome shU_s) dX4_init_41 (fun H locs hM hIx hok2 hS => ?_)
  replace hok := hok2 hok
  clear hok2
  replace h0 := shU_s (sh := (shU (shU (shU (shU (shU (shU (shU (shU (shU sh (.inl (b + 1)) (.inl (C 0, 6, false))) (.inl b) (.inr (.inr (1, (stx0.set 0 (some (some (.inl (.inl (b + 1)))))))))) (.inl (b + 2)) (.inl (C 0, 6, false))) (.inl b) (.inr (.inr (1, ((stx0.set 0 (some (some (.inl (.inl (b + 1)))))).set 1 (some (some (.inl (.inl (b + 2)))))))))) (.inl (b + 3)) (.inl (C 0, 6, false))) (.inl b) (.inr (.inr (1, (((stx0.set 0 (some (some (.inl (.inl (b + 1)))))).set 1 (some (some (.inl (.inl (b + 2)))))).set 2 (some (some (.inl (.inl (b + 3)))))))))) (.inl (b + 4)) (.inl (C 0, 6, false))) (.inl b) (.inr (.inr (1, ((((stx0.set 0 (some (some (.inl (.inl (b + 1)))))).set 1 (some (some (.inl (.inl (b + 2)))))).set 2 (some (some (.inl (.inl (b + 3)))))).set 3 (some (some (.inl (.inl (b + 4)))))))))) (.inl (b + 5)) (.inl (C 0, 12, false)))) (r := .inl b) (x := .inr (.inr (1, (((((stx0.set 0 (some (some (.inl (.inl (b + 1)))))).set 1 (some (some (.inl (.inl (b + 2)))))).set 2 (some (some (.inl (.inl (b + 3)))))).set 3 (some (some (.inl (.inl (b + 4)))))).set 4 (some (some (.inl (.inl (b + 5)))))))))
  rw [shSt_eq] at hM hIx hok
  rw [stSt_eq] at hM
  exact W.vret hx hb hr (fun T ht hW => ⟨⟨ad, rfl, ⟨fun q hq => (hE5 q (hq _ (by omega) (by omega))).trans ((hE4 q (hq _ (by omega) (by omega))).trans ((hE3 q (hq _ (by omega) (by omega))).trans ((hE2 q (hq _ (by omega) (by omega))).trans (hE1 q (hq _ (by omega) (by omega)))))), hok⟩, by rw [ht]; exact hM, hIx⟩, hS.F ht⟩) hS.2.2 dX4_init_44
def rm_a_coll : Room := { frames := 2, cells := 0, slots := 0, locals := 32 }
set_option maxHeartbeats 4000000 in
theorem met_a_coll (l : Launch) (D : va_G) (C : Nat → Nat) (a0 : Array Value) (s0 : State) (ad : Rl → Nat) (sh : Rl → Option hS) (st : Rl → Nat → Int32) (lt : Rl → Nat → Int64) (b : Nat) : Met l yJ0_init (ws_ yJ0_init cJ0_init 1 none) rm_a_coll (va_Pc [.ref (ad (.inl b))] (hB D vwCl (hT C) (hA s0) (hZ a0 s0) ad sh st lt)) (va_Qv (fun (_ : Unit) => True) (fun _ U => hW D vwCl ad sh st lt U.heap) (hA s0)) 0 0 (hA s0) := by
  refine Met.ofW (cc := cJ0_init) (maxL := 1) (ret := none) (by decide) rfl ?_
  intro p e s m args below meth c s₁ B hml hv
  obtain ⟨rfl, hM, hIx, hK, hZ0, hA0⟩ := hv
  have hl := lv_entry ([.ref (ad (.inl b))]) (n := 1) (Nat.le_of_ble_eq_true rfl)
  rw [lg_entry_eq]
  generalize (lg_sl ([.ref (ad (.inl b))]) ++ List.replicate (1 - (lg_sl ([.ref (ad (.inl b))])).length) Slot.unset).toArray = ls at hl ⊢
  have hl : lv_has ls 1 [(0, .ref (ad (.inl b)))] := hl
  have hx := B.exec
  have hb := B.bytes
  have hr := B.returns
  have hown := findClass_of_methodNamed B.named
  have hin2 : meth.name = "<init>" := (name_of_methodNamed B.named B.method).1
  have hts : ∀ w ∈ lw_all, w.before _ s = true := fun w h => atoms_spec (ws := ws_ yJ0_init cJ0_init 1 none) B.pre w (List.mem_cons_of_mem _ h)
  have hS : va_S (hA s0) s.heap s.heap [] := va_S.rf
  refine lv_aload_n hx hb dJ0_init_0 rfl (lv_at hl 0 rfl) ?_
  refine W.objInit hx hb hown (hts _ q138) (hts _ q119) (hts _ q120) rfl (by rw [hml]; exact hl.1) rfl dJ0_init_1 (Nat.le_of_ble_eq_true rfl) (Nat.le_of_ble_eq_true rfl) ?_
  refine W.eq (g2 := F0 m 4 ls []) rfl ?_
  exact W.vret hx hb hr (fun T ht hW => ⟨⟨(), rfl, trivial, by dsimp only; rw [ht]; exact hM⟩, hS.F ht⟩) hS.2.2 dJ0_init_4
def rm_a_abl : Room := { frames := 4, cells := 0, slots := 0, locals := 60 }
set_option maxHeartbeats 4000000 in
theorem met_a_abl (l : Launch) (D : va_G) (C : Nat → Nat) (a0 : Array Value) (s0 : State) (ad : Rl → Nat) (sh : Rl → Option hS) (st : Rl → Nat → Int32) (lt : Rl → Nat → Int64) (b : Nat) {fs : List hF} (h0 : sh (.inl b) = some (.inr (.inr (6, fs)))) (hf : fs[0]? = some none) : Met l yJ1_init (ws_ yJ1_init cJ1_init 1 none) rm_a_abl (va_Pc [.ref (ad (.inl b))] (hB D vwCl (hT C) (hA s0) (hZ a0 s0) ad sh st lt)) (va_Qv (fun (_ : Unit) => True) (fun _ U => hW D vwCl ad sh (up2 st (.inl b) 0 0) lt U.heap) (hA s0)) 0 0 (hA s0) := by
  refine Met.ofW (cc := cJ1_init) (maxL := 1) (ret := none) (by decide) rfl ?_
  intro p e s m args below meth c s₁ B hml hv
  obtain ⟨rfl, hM, hIx, hK, hZ0, hA0⟩ := hv
  have hl := lv_entry ([.ref (ad (.inl b))]) (n := 1) (Nat.le_of_ble_eq_true rfl)
  rw [lg_entry_eq]
  generalize (lg_sl ([.ref (ad (.inl b))]) ++ List.replicate (1 - (lg_sl ([.ref (ad (.inl b))])).length) Slot.unset).toArray = ls at hl ⊢
  have hl : lv_has ls 1 [(0, .ref (ad (.inl b)))] := hl
  have hx := B.exec
  have hb := B.bytes
  have hr := B.returns
  have hown := findClass_of_methodNamed B.named
  have hin2 : meth.name = "<init>" := (name_of_methodNamed B.named B.method).1
  have hts : ∀ w ∈ lw_all, w.before _ s = true := fun w h => atoms_spec (ws := ws_ yJ1_init cJ1_init 1 none) B.pre w (List.mem_cons_of_mem _ h)
  have hS : va_S (hA s0) s.heap s.heap [] := va_S.rf
  refine lv_aload_n hx hb dJ1_init_0 rfl (lv_at hl 0 rfl) ?_
  refine hr_callv0 (va_runI (As := []) (rest := []) ⟨hx, hb, hml, hown, hts⟩ (met_a_coll l D C a0 s0 ad sh st lt b) (cwI 0 hts (lw_meth q137) rfl rfl rfl (hts _ q78) (hts _ q135) (hts _ q136) rfl (by decide +kernel) ⟨Nat.le_of_ble_eq_true rfl, Nat.le_of_ble_eq_true rfl⟩) (hr_preS hZ_c hM hIx hK hZ0 hA0 hS) rfl rfl hl.1 rfl (lv_room (Nat.le_of_ble_eq_true rfl)) dJ1_init_1 ⟨Nat.le_of_ble_eq_true rfl, Nat.le_of_ble_eq_true rfl⟩) hS (fun H locs hM hS => ?_)
  refine lv_aload_n hx hb dJ1_init_4 rfl (lv_at hl 0 rfl) ?_
  refine lv_iconst (v := 0) hx hb dJ1_init_5 (by decide) ?_
  refine hr_put (r := .inl b) (ci := 6) (C := RJ2) (T := TJ2) (N := 3) hx hb hts in_J2 tyJ2 tyJ2_ok nmJ2 hown hK hM hIx hS h0 rfl 0 (by decide) (hts _ q457) rfl rfl rfl rfl hf dJ1_init_6 (fun H locs hM hS => ?_)
  exact W.vret hx hb hr (fun T ht hW => ⟨⟨(), rfl, trivial, by dsimp only; rw [ht]; exact hM⟩, hS.F ht⟩) hS.2.2 dJ1_init_9
/-- a new list's shape: one place, none taken -/
def shAl (C : Nat → Nat) (b : Nat) (sh : Rl → Option hS) : Rl → Option hS := shU (shU sh (.inl (b + 1)) (.inr (.inl (C 4, 1, fun _ => none)))) (.inl b) (.inr (.inr (6, x_al b)))
theorem up2_same {st : Rl → Nat → Int32} {r : Rl} {k : Nat} {x : Int32} (h : st r k = x) : up2 st r k x = st := by
  funext r' k'
  unfold up2
  by_cases e : r' = r
  · rw [if_pos e]
    by_cases e2 : k' = k
    · rw [if_pos e2, e, e2, h]
    · rw [if_neg e2, e]
  · rw [if_neg e]
theorem hZ_AO {a0 : Array Value} {s0 s : State} {E : String} (h : hZ a0 s0 s s.heap) (q : Cond.arrayOver (.object E) ∈ lw_tbl) : va_AO E s := va_AO.moved h.2.2.1.alike (va_AO.of (h.1 _ q))
def rm_a_alinit : Room := { frames := 6, cells := 1, slots := 1, locals := 90 }
set_option maxHeartbeats 4000000 in
theorem met_a_alinit (l : Launch) (D : va_G) (C : Nat → Nat) (a0 : Array Value) (s0 : State) (ad : Rl → Nat) (sh : Rl → Option hS) (st : Rl → Nat → Int32) (lt : Rl → Nat → Int64) (b : Nat) (h0 : sh (.inl b) = some (.inr (.inr (6, [none, some none, none])))) (h1 : sh (.inl (b + 1)) = none) (hst : st (.inl b) 0 = 0) (hok : hOK sh) : Met l yJ2_init (ws_ yJ2_init cJ2_init 2 none) rm_a_alinit (va_Pc [.ref (ad (.inl b)), .int 1] (hB D vwCl (hT C) (hA s0) (hZ a0 s0) ad sh st lt)) (va_Qv (fun ad' : Rl → Nat => (∀ q, q ≠ .inl (b + 1) → ad' q = ad q) ∧ hOK (shAl C b sh)) (fun ad' U => hW D vwCl ad' (shAl C b sh) st lt U.heap ∧ hI (hA s0) ad' (shAl C b sh)) (hA s0)) 1 1 (hA s0) := by
  refine Met.ofW (cc := cJ2_init) (maxL := 2) (ret := none) (by decide) rfl ?_
  intro p e s m args below meth c s₁ B hml hv
  obtain ⟨rfl, hM, hIx, hK, hZ0, hA0⟩ := hv
  have hl := lv_entry ([.ref (ad (.inl b)), .int 1]) (n := 2) (Nat.le_of_ble_eq_true rfl)
  rw [lg_entry_eq]
  generalize (lg_sl ([.ref (ad (.inl b)), .int 1]) ++ List.replicate (2 - (lg_sl ([.ref (ad (.inl b)), .int 1])).length) Slot.unset).toArray = ls at hl ⊢
  have hl : lv_has ls 2 [(0, .ref (ad (.inl b))), (1, .int 1)] := hl
  have hx := B.exec
  have hb := B.bytes
  have hr := B.returns
  have hown := findClass_of_methodNamed B.named
  have hin2 : meth.name = "<init>" := (name_of_methodNamed B.named B.method).1
  have hts : ∀ w ∈ lw_all, w.before _ s = true := fun w h => atoms_spec (ws := ws_ yJ2_init cJ2_init 2 none) B.pre w (List.mem_cons_of_mem _ h)
  have hS : va_S (hA s0) s.heap s.heap [] := va_S.rf
  refine lv_aload_n hx hb dJ2_init_0 rfl (lv_at hl 0 rfl) ?_
  refine hr_callv0 (va_runI (As := []) (rest := []) ⟨hx, hb, hml, hown, hts⟩ (met_a_abl l D C a0 s0 ad sh st lt b h0 rfl) (cwI 0 hts (lw_meth q134) rfl rfl rfl (hts _ q79) (hts _ q132) (hts _ q133) rfl (by decide +kernel) ⟨Nat.le_of_ble_eq_true rfl, Nat.le_of_ble_eq_true rfl⟩) (hr_preS hZ_c hM hIx hK hZ0 hA0 hS) rfl rfl hl.1 rfl (lv_room (Nat.le_of_ble_eq_true rfl)) dJ2_init_1 ⟨Nat.le_of_ble_eq_true rfl, Nat.le_of_ble_eq_true rfl⟩) hS (fun H locs hM hS => ?_)
  rw [up2_same hst] at hM
  refine lv_iload_n hx hb dJ2_init_4 rfl (lv_at hl 1 rfl) ?_
  refine lv_if_le (tgt := 19) hx hb dJ2_init_5 (by decide) (fun hp => absurd hp (by decide)) (fun _ => ?_)
  refine lv_aload_n hx hb dJ2_init_8 rfl (lv_at hl 0 rfl) ?_
  refine lv_iload_n hx hb dJ2_init_9 rfl (lv_at hl 1 rfl) ?_
  refine hr_newq (.inl (b + 1)) hx hb hown (hts _ q139) (hZ_AO hZ0 q140) 4 (cA := C 4) rfl hK hM hIx hok hS hA0 h1 (n := 1) (N' := 1) (by decide) rfl (Nat.le_of_ble_eq_true rfl) (Nat.le_of_ble_eq_true rfl) (Nat.le_of_ble_eq_true rfl) dJ2_init_10 (fun ad H hE hM hIx hok hS => ?_)
  rw [← hE (.inl b) (inl_ne (by omega))] at hl
  refine W_stk (st2 := [.ref (ad (.inl (b + 1))), .ref (ad (.inl b))]) (by rw [hE (.inl b) (inl_ne (by omega))]) ?_
  replace h0 := shU_n (r := .inl (b + 1)) (x := .inr (.inl (C 4, 1, fun _ => none))) h0 (inl_ne (by omega))
  refine hr_putR (ci := 6) (C := RJ2) (T := TJ2) (N := 3) (r := .inl b) (f := some (some (.inl (.inl (b + 1))))) hx hb hts in_J2 tyJ2 tyJ2_ok nmJ2 hown hK hM hIx hS h0 rfl 1 (by decide) (hts _ q455) rfl rfl rfl rfl rfl (Nat.le_of_ble_eq_true rfl) (fun q hq => by cases hq; exact hsome shU_s) dJ2_init_13 (fun H locs hM hIx hok2 hS => ?_)
  refine lv_goto (tgt := 60) hx hb dJ2_init_16 (by decide) ?_
  exact W.vret hx hb hr (fun T ht hW => ⟨⟨ad, rfl, ⟨hE, hok2 hok⟩, by rw [ht]; exact hM, hIx⟩, hS.F ht⟩) hS.2.2 dJ2_init_60
theorem stU_s {st : Rl → Nat → Int32} {r : Rl} {f : Nat → Int32} : stU st r f r = f := if_pos rfl
theorem stU_n {st : Rl → Nat → Int32} {r q : Rl} {f g : Nat → Int32} (h : st q = g) (hq : q ≠ r) : stU st r f q = g := (if_neg hq).trans h
/-- a new Town's cells at b -/
def shTn (C : Nat → Nat) (b : Nat) (sh : Rl → Option hS) : Rl → Option hS := fun r => match r with
  | .inl q => if b ≤ q ∧ q < b + 4 then (match q - b with
    | 0 => some (.inr (.inr (2, x_tn b)))
    | 1 => some (.inr (.inr (6, x_al (b + 1))))
    | 2 => some (.inr (.inl (C 4, 1, fun _ => none)))
    | _ => some (.inl (C 0, 12, false))) else sh r
  | .inr _ => sh r
def stTn (b : Nat) (st : Rl → Nat → Int32) : Rl → Nat → Int32 := fun r => if r = .inl (b + 1) ∨ r = .inl (b + 3) then (fun _ => 0) else st r
theorem shTn_eq (C : Nat → Nat) (b : Nat) (sh : Rl → Option hS) : (shU (shU (shU (shU (shU (shU sh (.inl (b + 1)) (.inr (.inr (6, [none, some none, none])))) (.inl (b + 1 + 1)) (.inr (.inl (C 4, 1, fun _ => none)))) (.inl (b + 1)) (.inr (.inr (6, x_al (b + 1))))) (.inl b) (.inr (.inr (2, [some none, some none, none, none, none, none].set 0 (some (some (.inl (.inl (b + 1))))))))) (.inl (b + 3)) (.inl (C 0, 12, false))) (.inl b) (.inr (.inr (2, ([some none, some none, none, none, none, none].set 0 (some (some (.inl (.inl (b + 1)))))).set 1 (some (some (.inl (.inl (b + 3))))))))) = shTn C b sh := by
  funext r
  cases r with
  | inr q => simp only [shU, shTn, if_neg (inl_ner.symm : (Sum.inr q : Rl) ≠ .inl _)]
  | inl q =>
    simp only [shU, shTn, Sum.inl.injEq]
    by_cases hq : b ≤ q ∧ q < b + 4
    · obtain ⟨k, hk⟩ : ∃ k, q = b + k := ⟨q - b, by omega⟩
      subst hk
      have : k = 0 ∨ k = 1 ∨ k = 2 ∨ k = 3 := by omega
      rcases this with rfl | rfl | rfl | rfl <;> simp [x_tn] <;> (intro h; omega)
    · rw [if_neg hq]
      rw [if_neg (by omega), if_neg (by omega), if_neg (by omega), if_neg (by omega), if_neg (by omega), if_neg (by omega)]
theorem stTn_eq (b : Nat) (st : Rl → Nat → Int32) : (stU (stU st (.inl (b + 1)) (fun _ => 0)) (.inl (b + 3)) (fun _ => 0)) = stTn b st := by
  funext r
  simp only [stU, stTn]
  by_cases h3 : r = .inl (b + 3)
  · simp [h3]
  · by_cases h1 : r = .inl (b + 1)
    · simp [h1]
    · simp [h1, h3]
def rm_a_tninit : Room := { frames := 8, cells := 3, slots := 16, locals := 130 }
set_option maxHeartbeats 4000000 in
theorem met_a_tninit (l : Launch) (D : va_G) (C : Nat → Nat) (a0 : Array Value) (s0 : State) (ad : Rl → Nat) (sh : Rl → Option hS) (st : Rl → Nat → Int32) (lt : Rl → Nat → Int64) (b : Nat) (h0 : sh (.inl b) = some (.inr (.inr (2, [some none, some none, none, none, none, none])))) (hn : ∀ q, b < q → q < b + 4 → sh (.inl q) = none) (hok : hOK sh) : Met l yX2_init (ws_ yX2_init cX2_init 1 none) rm_a_tninit (va_Pc [.ref (ad (.inl b))] (hB D vwCl (hT C) (hA s0) (hZ a0 s0) ad sh st lt)) (va_Qv (fun ad' : Rl → Nat => (∀ q, (∀ k, b < k → k < b + 4 → q ≠ .inl k) → ad' q = ad q) ∧ hOK (shTn C b sh)) (fun ad' U => hW D vwCl ad' (shTn C b sh) (stTn b st) lt U.heap ∧ hI (hA s0) ad' (shTn C b sh)) (hA s0)) 3 16 (hA s0) := by
  refine Met.ofW (cc := cX2_init) (maxL := 1) (ret := none) (by decide) rfl ?_
  intro p e s m args below meth c s₁ B hml hv
  obtain ⟨rfl, hM, hIx, hK, hZ0, hA0⟩ := hv
  have hl := lv_entry ([.ref (ad (.inl b))]) (n := 1) (Nat.le_of_ble_eq_true rfl)
  rw [lg_entry_eq]
  generalize (lg_sl ([.ref (ad (.inl b))]) ++ List.replicate (1 - (lg_sl ([.ref (ad (.inl b))])).length) Slot.unset).toArray = ls at hl ⊢
  have hl : lv_has ls 1 [(0, .ref (ad (.inl b)))] := hl
  have hx := B.exec
  have hb := B.bytes
  have hr := B.returns
  have hown := findClass_of_methodNamed B.named
  have hin2 : meth.name = "<init>" := (name_of_methodNamed B.named B.method).1
  have hts : ∀ w ∈ lw_all, w.before _ s = true := fun w h => atoms_spec (ws := ws_ yX2_init cX2_init 1 none) B.pre w (List.mem_cons_of_mem _ h)
  have hS : va_S (hA s0) s.heap s.heap [] := va_S.rf
  have h1 := hn (b + 1) (by omega) (by omega)
  have h2 := hn (b + 2) (by omega) (by omega)
  have h3 := hn (b + 3) (by omega) (by omega)
  refine lv_aload_n hx hb dX2_init_0 rfl (lv_at hl 0 rfl) ?_
  refine W.objInit hx hb hown (hts _ q126) (hts _ q119) (hts _ q120) rfl (by rw [hml]; exact hl.1) rfl dX2_init_1 (Nat.le_of_ble_eq_true rfl) (Nat.le_of_ble_eq_true rfl) ?_
  refine W.eq (g2 := F0 m 4 ls []) rfl ?_
  refine lv_aload_n hx hb dX2_init_4 rfl (lv_at hl 0 rfl) ?_
  refine hr_new (.inl (b + 1)) hx hb hts in_J2 tyJ2 tyJ2_ok hown (hts _ q127) (hts _ q128) (hts _ q80) hK hM hIx hok hS hA0 h1 (ci := 6) rfl (fs := [none, some none, none]) (fun j hj => match j, hj with | 0, _ => rfl | 1, _ => rfl | 2, _ => rfl | j + 3, hj => absurd hj (by omega)) (by simp [stx0]) (Nat.le_of_ble_eq_true rfl) (Nat.le_of_ble_eq_true rfl) dX2_init_5 (fun ad H hE hM hIx hok hS => ?_)
  rw [← hE (.inl b) (inl_ne (by omega))] at hl
  refine W_stk (st2 := [.ref (ad (.inl (b + 1))), .ref (ad (.inl b))]) (by rw [hE (.inl b) (inl_ne (by omega))]) ?_
  have hE1 := hE
  replace h0 := shU_n (r := .inl (b + 1)) (x := .inr (.inr (6, [none, some none, none]))) h0 (inl_ne (by omega))
  replace h2 := shU_n (r := .inl (b + 1)) (x := .inr (.inr (6, [none, some none, none]))) h2 (inl_ne (by omega))
  replace h3 := shU_n (r := .inl (b + 1)) (x := .inr (.inr (6, [none, some none, none]))) h3 (inl_ne (by omega))
  replace h1 := shU_s (sh := sh) (r := .inl (b + 1)) (x := .inr (.inr (6, [none, some none, none])))
  refine lv_dup hx hb dX2_init_8 rfl ?_
  refine lv_iconst (v := 1) hx hb dX2_init_9 (by decide) ?_
  refine va_callv (va_runI (As := [.int 1]) (rest := [.ref (ad (.inl (b + 1))), .ref (ad (.inl b))]) ⟨hx, hb, hml, hown, hts⟩ (met_a_alinit l D C a0 s0 ad _ _ lt (b + 1) h1 h2 (congrFun stU_s 0) hok) (cwI 1 hts (lw_meth q131) rfl rfl rfl (hts _ q80) (hts _ q129) (hts _ q130) rfl (by decide +kernel) ⟨Nat.le_of_ble_eq_true rfl, Nat.le_of_ble_eq_true rfl⟩) (hr_preS hZ_c hM hIx hK hZ0 hA0 hS) rfl rfl hl.1 rfl (lv_room (Nat.le_of_ble_eq_true rfl)) dX2_init_10 ⟨Nat.le_of_ble_eq_true rfl, Nat.le_of_ble_eq_true rfl⟩) hS (fun _ _ h => h) (fun _ h => h) ?_
  intro ad t H locs ht _ hp hB9 _ _ hS
  obtain ⟨hE, hok⟩ := hp
  obtain ⟨hM, hIx⟩ := hB9
  rw [ht] at hM
  have hE2 := hE
  rw [← hE (.inl b) (inl_ne (by omega))] at hl
  refine W_stk (st2 := [.ref (ad (.inl (b + 1))), .ref (ad (.inl b))]) (by rw [hE (.inl (b + 1)) (inl_ne (by omega)), hE (.inl b) (inl_ne (by omega))]) ?_
  replace h0 := shU_n (r := .inl (b + 1 + 1)) (x := .inr (.inl (C 4, 1, fun _ => none))) h0 (inl_ne (by omega))
  replace h1 := shU_n (r := .inl (b + 1 + 1)) (x := .inr (.inl (C 4, 1, fun _ => none))) h1 (inl_ne (by omega))
  replace h3 := shU_n (r := .inl (b + 1 + 1)) (x := .inr (.inl (C 4, 1, fun _ => none))) h3 (inl_ne (by omega))
  clear h2
  replace h0 := shU_n (r := .inl (b + 1)) (x := .inr (.inr (6, x_al (b + 1)))) h0 (inl_ne (by omega))
  replace h3 := shU_n (r := .inl (b + 1)) (x := .inr (.inr (6, x_al (b + 1)))) h3 (inl_ne (by omega))
  replace h1 := shU_s (sh := (shU (shU sh (.inl (b + 1)) (.inr (.inr (6, [none, some none, none])))) (.inl (b + 1 + 1)) (.inr (.inl (C 4, 1, fun _ => none))))) (r := .inl (b + 1)) (x := .inr (.inr (6, x_al (b + 1))))
  refine hr_putRF (ci := 2) (C := RX2) (T := TX2) (N := 6) (r := .inl b) (f := some (some (.inl (.inl (b + 1))))) hx hb hts in_X2 tyX2 tyX2_ok nmX2 hown hK hM hIx hS h0 rfl 0 (by decide) (hts _ q467) rfl hin2 rfl rfl rfl rfl rfl (Nat.le_of_ble_eq_true rfl) (fun q hq => by cases hq; exact hsome h1) dX2_init_13 (fun H locs hM hIx hok2 hS => ?_)
  replace hok := hok2 hok
  clear hok2
  replace h1 := shU_n (r := .inl b) (x := .inr (.inr (2, [some none, some none, none, none, none, none].set 0 (some (some (.inl (.inl (b + 1)))))))) h1 (inl_ne (by omega))
  replace h3 := shU_n (r := .inl b) (x := .inr (.inr (2, [some none, some none, none, none, none, none].set 0 (some (some (.inl (.inl (b + 1)))))))) h3 (inl_ne (by omega))
  replace h0 := shU_s (sh := (shU (shU (shU sh (.inl (b + 1)) (.inr (.inr (6, [none, some none, none])))) (.inl (b + 1 + 1)) (.inr (.inl (C 4, 1, fun _ => none)))) (.inl (b + 1)) (.inr (.inr (6, x_al (b + 1)))))) (r := .inl b) (x := .inr (.inr (2, [some none, some none, none, none, none, none].set 0 (some (some (.inl (.inl (b + 1))))))))
  refine lv_aload_n hx hb dX2_init_16 rfl (lv_at hl 0 rfl) ?_
  refine lv_bipush (v := 12) hx hb dX2_init_17 (by decide) ?_
  refine hr_newa (.inl (b + 3)) hx hb (atype := .int) (hts _ q496) 0 (ty := .int) rfl rfl (cA := C 0) rfl (fun h => h) hK hM hIx hok hS hA0 h3 (n := 12) (N' := 12) (by decide) rfl (Nat.le_of_ble_eq_true rfl) (Nat.le_of_ble_eq_true rfl) (Nat.le_of_ble_eq_true rfl) dX2_init_19 (fun ad H hE hM hIx hok hS => ?_)
  rw [← hE (.inl b) (inl_ne (by omega))] at hl
  refine W_stk (st2 := [.ref (ad (.inl (b + 3))), .ref (ad (.inl b))]) (by rw [hE (.inl b) (inl_ne (by omega))]) ?_
  have hE3 := hE
  replace h0 := shU_n (r := .inl (b + 3)) (x := .inl (C 0, 12, false)) h0 (inl_ne (by omega))
  replace h1 := shU_n (r := .inl (b + 3)) (x := .inl (C 0, 12, false)) h1 (inl_ne (by omega))
  replace h3 := shU_s (sh := (shU (shU (shU (shU sh (.inl (b + 1)) (.inr (.inr (6, [none, some none, none])))) (.inl (b + 1 + 1)) (.inr (.inl (C 4, 1, fun _ => none)))) (.inl (b + 1)) (.inr (.inr (6, x_al (b + 1))))) (.inl b) (.inr (.inr (2, [some none, some none, none, none, none, none].set 0 (some (some (.inl (.inl (b + 1)))))))))) (r := .inl (b + 3)) (x := .inl (C 0, 12, false))
  refine hr_putRF (ci := 2) (C := RX2) (T := TX2) (N := 6) (r := .inl b) (f := some (some (.inl (.inl (b + 3))))) hx hb hts in_X2 tyX2 tyX2_ok nmX2 hown hK hM hIx hS h0 rfl 1 (by decide) (hts _ q470) rfl hin2 rfl rfl rfl rfl rfl (Nat.le_of_ble_eq_true rfl) (fun q hq => by cases hq; exact hsome h3) dX2_init_21 (fun H locs hM hIx hok2 hS => ?_)
  replace hok := hok2 hok
  clear hok2
  replace h1 := shU_n (r := .inl b) (x := .inr (.inr (2, ([some none, some none, none, none, none, none].set 0 (some (some (.inl (.inl (b + 1)))))).set 1 (some (some (.inl (.inl (b + 3)))))))) h1 (inl_ne (by omega))
  replace h3 := shU_n (r := .inl b) (x := .inr (.inr (2, ([some none, some none, none, none, none, none].set 0 (some (some (.inl (.inl (b + 1)))))).set 1 (some (some (.inl (.inl (b + 3)))))))) h3 (inl_ne (by omega))
  replace h0 := shU_s (sh := (shU (shU (shU (shU (shU sh (.inl (b + 1)) (.inr (.inr (6, [none, some none, none])))) (.inl (b + 1 + 1)) (.inr (.inl (C 4, 1, fun _ => none)))) (.inl (b + 1)) (.inr (.inr (6, x_al (b + 1))))) (.inl b) (.inr (.inr (2, [some none, some none, none, none, none, none].set 0 (some (some (.inl (.inl (b + 1))))))))) (.inl (b + 3)) (.inl (C 0, 12, false)))) (r := .inl b) (x := .inr (.inr (2, ([some none, some none, none, none, none, none].set 0 (some (some (.inl (.inl (b + 1)))))).set 1 (some (some (.inl (.inl (b + 3))))))))
  have es : (shU (shU (shU (shU (shU (shU sh (.inl (b + 1)) (.inr (.inr (6, [none, some none, none])))) (.inl (b + 1 + 1)) (.inr (.inl (C 4, 1, fun _ => none)))) (.inl (b + 1)) (.inr (.inr (6, x_al (b + 1))))) (.inl b) (.inr (.inr (2, [some none, some none, none, none, none, none].set 0 (some (some (.inl (.inl (b + 1))))))))) (.inl (b + 3)) (.inl (C 0, 12, false))) (.inl b) (.inr (.inr (2, ([some none, some none, none, none, none, none].set 0 (some (some (.inl (.inl (b + 1)))))).set 1 (some (some (.inl (.inl (b + 3))))))))) = shTn C b sh := shTn_eq C b sh
  replace hM := hW.cong hM es (stTn_eq b st)
  replace hIx : hI (hA s0) ad (shTn C b sh) := es ▸ hIx
  replace hok : hOK (shTn C b sh) := es ▸ hok
  exact W.vret hx hb hr (fun T ht hW => ⟨⟨ad, rfl, ⟨fun q hq => (hE3 q (hq _ (by omega) (by omega))).trans ((hE2 q (hq _ (by omega) (by omega))).trans (hE1 q (hq _ (by omega) (by omega)))), hok⟩, by rw [ht]; exact hM, hIx⟩, hS.F ht⟩) hS.2.2 dX2_init_24
theorem shSt_n {C : Nat → Nat} {b : Nat} {sh : Rl → Option hS} {q : Nat} {y : Option hS} (h : sh (.inl q) = y) (hq : ¬ (b ≤ q ∧ q < b + 6)) : shSt C b sh (.inl q) = y := (if_neg hq).trans h
theorem shSt_o {C : Nat → Nat} {b : Nat} {sh : Rl → Option hS} : shSt C b sh (.inl b) = some (.inr (.inr (1, x_st b))) := by
  unfold shSt
  simp [xStS]
/-- a new Book's cells at b -/
def shBk (C : Nat → Nat) (b : Nat) (sh : Rl → Option hS) : Rl → Option hS := fun r => match r with
  | .inl q => if b ≤ q ∧ q < b + 10 then (match q - b with
    | 0 => some (.inr (.inr (3, x_bk b)))
    | 1 => some (.inr (.inr (6, x_al (b + 1))))
    | 2 => some (.inr (.inl (C 4, 1, fun _ => none)))
    | 3 => some (.inl (C 0, 2, false))
    | j + 4 => xStS C (b + 4) j) else sh r
  | .inr _ => sh r
def stBk (b : Nat) (st : Rl → Nat → Int32) : Rl → Nat → Int32 := fun r => match r with
  | .inl q => if q = b + 1 ∨ (b + 3 ≤ q ∧ q < b + 10) then (fun _ => 0) else st r
  | .inr _ => st r
theorem shBk_eq (C : Nat → Nat) (b : Nat) (sh : Rl → Option hS) : (shU (shU (shU (shU (shU (shU (shU (shSt C (b + 4) (shU sh (.inl (b + 4)) (.inr (.inr (1, stx0))))) (.inl b) (.inr (.inr (3, ([some none, some none, some none].set 0 (some (some (.inl (.inl (b + 4)))))))))) (.inl (b + 1)) (.inr (.inr (6, [none, some none, none])))) (.inl (b + 1 + 1)) (.inr (.inl (C 4, 1, fun _ => none)))) (.inl (b + 1)) (.inr (.inr (6, x_al (b + 1))))) (.inl b) (.inr (.inr (3, (([some none, some none, some none].set 0 (some (some (.inl (.inl (b + 4)))))).set 1 (some (some (.inl (.inl (b + 1)))))))))) (.inl (b + 3)) (.inl (C 0, 2, false))) (.inl b) (.inr (.inr (3, ((([some none, some none, some none].set 0 (some (some (.inl (.inl (b + 4)))))).set 1 (some (some (.inl (.inl (b + 1)))))).set 2 (some (some (.inl (.inl (b + 3)))))))))) = shBk C b sh := by
  funext r
  cases r with
  | inr q => simp only [shU, shBk, shSt, if_neg (inl_ner.symm : (Sum.inr q : Rl) ≠ .inl _)]
  | inl q =>
    simp only [shU, shBk, shSt, Sum.inl.injEq]
    by_cases hq : b ≤ q ∧ q < b + 10
    · obtain ⟨k, hk⟩ : ∃ k, q = b + k := ⟨q - b, by omega⟩
      subst hk
      have : k = 0 ∨ k = 1 ∨ k = 2 ∨ k = 3 ∨ k = 4 ∨ k = 5 ∨ k = 6 ∨ k = 7 ∨ k = 8 ∨ k = 9 := by omega
      rcases this with rfl | rfl | rfl | rfl | rfl | rfl | rfl | rfl | rfl | rfl <;> simp [x_bk, show b + 5 - (b + 4) = 1 by omega, show b + 6 - (b + 4) = 2 by omega, show b + 7 - (b + 4) = 3 by omega, show b + 8 - (b + 4) = 4 by omega, show b + 9 - (b + 4) = 5 by omega] <;> (intros; omega)
    · rw [if_neg hq]
      rw [if_neg (by omega), if_neg (by omega), if_neg (by omega), if_neg (by omega), if_neg (by omega), if_neg (by omega), if_neg (by omega), if_neg (by omega), if_neg (by omega)]
theorem stBk_eq (b : Nat) (st : Rl → Nat → Int32) : (stU (stU (stSt (b + 4) (stU st (.inl (b + 4)) (fun _ => 0))) (.inl (b + 1)) (fun _ => 0)) (.inl (b + 3)) (fun _ => 0)) = stBk b st := by
  funext r
  cases r with
  | inr q => simp only [stU, stBk, stSt, if_neg (inl_ner.symm : (Sum.inr q : Rl) ≠ .inl _)]
  | inl q =>
    simp only [stU, stBk, stSt, Sum.inl.injEq]
    by_cases hq : q = b + 1 ∨ (b + 3 ≤ q ∧ q < b + 10)
    · rw [if_pos hq]
      by_cases h3 : q = b + 3
      · rw [if_pos h3]
      · rw [if_neg h3]
        by_cases h1 : q = b + 1
        · rw [if_pos h1]
        · rw [if_neg h1]
          by_cases h4 : q = b + 4
          · subst h4; simp
          · rw [if_pos (by omega)]
    · rw [if_neg hq, if_neg (by omega), if_neg (by omega), if_neg (by omega), if_neg (by omega)]
def rm_a_bkinit : Room := { frames := 8, cells := 9, slots := 48, locals := 130 }
set_option maxHeartbeats 4000000 in
theorem met_a_bkinit (l : Launch) (D : va_G) (C : Nat → Nat) (a0 : Array Value) (s0 : State) (ad : Rl → Nat) (sh : Rl → Option hS) (st : Rl → Nat → Int32) (lt : Rl → Nat → Int64) (b : Nat) (h0 : sh (.inl b) = some (.inr (.inr (3, [some none, some none, some none])))) (hn : ∀ q, b < q → q < b + 10 → sh (.inl q) = none) (hok : hOK sh) : Met l yX3_init (ws_ yX3_init cX3_init 1 none) rm_a_bkinit (va_Pc [.ref (ad (.inl b))] (hB D vwCl (hT C) (hA s0) (hZ a0 s0) ad sh st lt)) (va_Qv (fun ad' : Rl → Nat => (∀ q, (∀ k, b < k → k < b + 10 → q ≠ .inl k) → ad' q = ad q) ∧ hOK (shBk C b sh)) (fun ad' U => hW D vwCl ad' (shBk C b sh) (stBk b st) lt U.heap ∧ hI (hA s0) ad' (shBk C b sh)) (hA s0)) 9 48 (hA s0) := by
  refine Met.ofW (cc := cX3_init) (maxL := 1) (ret := none) (by decide) rfl ?_
  intro p e s m args below meth c s₁ B hml hv
  obtain ⟨rfl, hM, hIx, hK, hZ0, hA0⟩ := hv
  have hl := lv_entry ([.ref (ad (.inl b))]) (n := 1) (Nat.le_of_ble_eq_true rfl)
  rw [lg_entry_eq]
  generalize (lg_sl ([.ref (ad (.inl b))]) ++ List.replicate (1 - (lg_sl ([.ref (ad (.inl b))])).length) Slot.unset).toArray = ls at hl ⊢
  have hl : lv_has ls 1 [(0, .ref (ad (.inl b)))] := hl
  have hx := B.exec
  have hb := B.bytes
  have hr := B.returns
  have hown := findClass_of_methodNamed B.named
  have hin2 : meth.name = "<init>" := (name_of_methodNamed B.named B.method).1
  have hts : ∀ w ∈ lw_all, w.before _ s = true := fun w h => atoms_spec (ws := ws_ yX3_init cX3_init 1 none) B.pre w (List.mem_cons_of_mem _ h)
  have hS : va_S (hA s0) s.heap s.heap [] := va_S.rf
  have h1 := hn (b + 1) (by omega) (by omega)
  have h2 := hn (b + 2) (by omega) (by omega)
  have h3 := hn (b + 3) (by omega) (by omega)
  have h4 := hn (b + 4) (by omega) (by omega)
  refine lv_aload_n hx hb dX3_init_0 rfl (lv_at hl 0 rfl) ?_
  refine W.objInit hx hb hown (hts _ q502) (hts _ q119) (hts _ q120) rfl (by rw [hml]; exact hl.1) rfl dX3_init_1 (Nat.le_of_ble_eq_true rfl) (Nat.le_of_ble_eq_true rfl) ?_
  refine W.eq (g2 := F0 m 4 ls []) rfl ?_
  refine lv_aload_n hx hb dX3_init_4 rfl (lv_at hl 0 rfl) ?_
  refine hr_new (.inl (b + 4)) hx hb hts in_X4 tyX4 tyX4_ok hown (hts _ q503) (hts _ q504) (hts _ q98) hK hM hIx hok hS hA0 h4 (ci := 1) rfl (fs := stx0) (fun j hj => match j, hj with | 0, _ => rfl | 1, _ => rfl | 2, _ => rfl | 3, _ => rfl | 4, _ => rfl | 5, _ => rfl | j + 6, hj => absurd hj (by omega)) (by simp [stx0]) (Nat.le_of_ble_eq_true rfl) (Nat.le_of_ble_eq_true rfl) dX3_init_5 (fun ad H hE hM hIx hok hS => ?_)
  rw [← hE (.inl b) (inl_ne (by omega))] at hl
  refine W_stk (st2 := [.ref (ad (.inl (b + 4))), .ref (ad (.inl b))]) (by rw [hE (.inl b) (inl_ne (by omega))]) ?_
  have hE1 := hE
  replace hn : ∀ q, b + 4 < q → q < b + 4 + 6 → shU sh (.inl (b + 4)) (.inr (.inr (1, stx0))) (.inl q) = none := fun q h1 h2 => shU_n (hn q (by omega) (by omega)) (inl_ne (by omega))
  replace h0 := shU_n (r := .inl (b + 4)) (x := .inr (.inr (1, stx0))) h0 (inl_ne (by omega))
  replace h1 := shU_n (r := .inl (b + 4)) (x := .inr (.inr (1, stx0))) h1 (inl_ne (by omega))
  replace h2 := shU_n (r := .inl (b + 4)) (x := .inr (.inr (1, stx0))) h2 (inl_ne (by omega))
  replace h3 := shU_n (r := .inl (b + 4)) (x := .inr (.inr (1, stx0))) h3 (inl_ne (by omega))
  replace h4 := shU_s (sh := sh) (r := .inl (b + 4)) (x := .inr (.inr (1, stx0)))
  refine lv_dup hx hb dX3_init_8 rfl ?_
  refine va_callv (va_runIN (As := []) (rest := [.ref (ad (.inl (b + 4))), .ref (ad (.inl b))]) ⟨hx, hb, hml, hown, hts⟩ (met_a_stinit l D C a0 s0 ad _ _ lt (b + 4) h4 hn hok) ⟨va_cnB 0 hts (lw_meth q507) rfl rfl rfl (hZ_nest hZ0 q505 rfl) (hts _ q98) (by decide +kernel) ⟨Nat.le_of_ble_eq_true rfl, Nat.le_of_ble_eq_true rfl⟩, rfl, hts _ q506⟩ (hr_preS hZ_c hM hIx hK hZ0 hA0 hS) rfl rfl hl.1 rfl (lv_room (Nat.le_of_ble_eq_true rfl)) dX3_init_9 ⟨Nat.le_of_ble_eq_true rfl, Nat.le_of_ble_eq_true rfl⟩) hS (fun _ _ h => h) (fun _ h => h) ?_
  intro ad t H locs ht _ hp hB9 _ _ hS
  obtain ⟨hE, hok⟩ := hp
  obtain ⟨hM, hIx⟩ := hB9
  rw [ht] at hM
  have hE2 := hE
  clear hn
  rw [← hE (.inl b) (fun k h1 h2 => inl_ne (by omega))] at hl
  refine W_stk (st2 := [.ref (ad (.inl (b + 4))), .ref (ad (.inl b))]) (by rw [hE (.inl (b + 4)) (fun k h1 h2 => inl_ne (by omega)), hE (.inl b) (fun k h1 h2 => inl_ne (by omega))]) ?_
  replace h0 := shSt_n (C := C) (b := b + 4) h0 (by omega)
  replace h1 := shSt_n (C := C) (b := b + 4) h1 (by omega)
  replace h2 := shSt_n (C := C) (b := b + 4) h2 (by omega)
  replace h3 := shSt_n (C := C) (b := b + 4) h3 (by omega)
  replace h4 := shSt_o (C := C) (b := b + 4) (sh := shU sh (.inl (b + 4)) (.inr (.inr (1, stx0))))
  refine hr_putRF (ci := 3) (C := RX3) (T := TX3) (N := 3) (r := .inl b) (f := some (some (.inl (.inl (b + 4))))) hx hb hts in_X3 tyX3 tyX3_ok nmX3 hown hK hM hIx hS h0 rfl 0 (by decide) (hts _ q543) rfl hin2 rfl rfl rfl rfl rfl (Nat.le_of_ble_eq_true rfl) (fun q hq => by cases hq; exact hsome h4) dX3_init_12 (fun H locs hM hIx hok2 hS => ?_)
  replace hok := hok2 hok
  clear hok2
  replace h1 := shU_n (r := .inl b) (x := .inr (.inr (3, ([some none, some none, some none].set 0 (some (some (.inl (.inl (b + 4))))))))) h1 (inl_ne (by omega))
  replace h2 := shU_n (r := .inl b) (x := .inr (.inr (3, ([some none, some none, some none].set 0 (some (some (.inl (.inl (b + 4))))))))) h2 (inl_ne (by omega))
  replace h3 := shU_n (r := .inl b) (x := .inr (.inr (3, ([some none, some none, some none].set 0 (some (some (.inl (.inl (b + 4))))))))) h3 (inl_ne (by omega))
  replace h4 := shU_n (r := .inl b) (x := .inr (.inr (3, ([some none, some none, some none].set 0 (some (some (.inl (.inl (b + 4))))))))) h4 (inl_ne (by omega))
  replace h0 := shU_s (sh := (shSt C (b + 4) (shU sh (.inl (b + 4)) (.inr (.inr (1, stx0)))))) (r := .inl b) (x := .inr (.inr (3, ([some none, some none, some none].set 0 (some (some (.inl (.inl (b + 4)))))))))
  refine lv_aload_n hx hb dX3_init_15 rfl (lv_at hl 0 rfl) ?_
  refine hr_new (.inl (b + 1)) hx hb hts in_J2 tyJ2 tyJ2_ok hown (hts _ q541) (hts _ q128) (hts _ q80) hK hM hIx hok hS hA0 h1 (ci := 6) rfl (fs := [none, some none, none]) (fun j hj => match j, hj with | 0, _ => rfl | 1, _ => rfl | 2, _ => rfl | j + 3, hj => absurd hj (by omega)) (by simp [stx0]) (Nat.le_of_ble_eq_true rfl) (Nat.le_of_ble_eq_true rfl) dX3_init_16 (fun ad H hE hM hIx hok hS => ?_)
  rw [← hE (.inl b) (inl_ne (by omega))] at hl
  refine W_stk (st2 := [.ref (ad (.inl (b + 1))), .ref (ad (.inl b))]) (by rw [hE (.inl b) (inl_ne (by omega))]) ?_
  have hE3 := hE
  replace h0 := shU_n (r := .inl (b + 1)) (x := .inr (.inr (6, [none, some none, none]))) h0 (inl_ne (by omega))
  replace h2 := shU_n (r := .inl (b + 1)) (x := .inr (.inr (6, [none, some none, none]))) h2 (inl_ne (by omega))
  replace h3 := shU_n (r := .inl (b + 1)) (x := .inr (.inr (6, [none, some none, none]))) h3 (inl_ne (by omega))
  replace h4 := shU_n (r := .inl (b + 1)) (x := .inr (.inr (6, [none, some none, none]))) h4 (inl_ne (by omega))
  replace h1 := shU_s (sh := (shU (shSt C (b + 4) (shU sh (.inl (b + 4)) (.inr (.inr (1, stx0))))) (.inl b) (.inr (.inr (3, ([some none, some none, some none].set 0 (some (some (.inl (.inl (b + 4))))))))))) (r := .inl (b + 1)) (x := .inr (.inr (6, [none, some none, none])))
  refine lv_dup hx hb dX3_init_19 rfl ?_
  refine lv_iconst (v := 1) hx hb dX3_init_20 (by decide) ?_
  refine va_callv (va_runI (As := [.int 1]) (rest := [.ref (ad (.inl (b + 1))), .ref (ad (.inl b))]) ⟨hx, hb, hml, hown, hts⟩ (met_a_alinit l D C a0 s0 ad _ _ lt (b + 1) h1 h2 (congrFun stU_s 0) hok) (cwI 1 hts (lw_meth q131) rfl rfl rfl (hts _ q80) (hts _ q542) (hts _ q130) rfl (by decide +kernel) ⟨Nat.le_of_ble_eq_true rfl, Nat.le_of_ble_eq_true rfl⟩) (hr_preS hZ_c hM hIx hK hZ0 hA0 hS) rfl rfl hl.1 rfl (lv_room (Nat.le_of_ble_eq_true rfl)) dX3_init_21 ⟨Nat.le_of_ble_eq_true rfl, Nat.le_of_ble_eq_true rfl⟩) hS (fun _ _ h => h) (fun _ h => h) ?_
  intro ad t H locs ht _ hp hB9 _ _ hS
  obtain ⟨hE, hok⟩ := hp
  obtain ⟨hM, hIx⟩ := hB9
  rw [ht] at hM
  have hE4 := hE
  rw [← hE (.inl b) (inl_ne (by omega))] at hl
  refine W_stk (st2 := [.ref (ad (.inl (b + 1))), .ref (ad (.inl b))]) (by rw [hE (.inl (b + 1)) (inl_ne (by omega)), hE (.inl b) (inl_ne (by omega))]) ?_
  replace h0 := shU_n (r := .inl (b + 1 + 1)) (x := .inr (.inl (C 4, 1, fun _ => none))) h0 (inl_ne (by omega))
  replace h1 := shU_n (r := .inl (b + 1 + 1)) (x := .inr (.inl (C 4, 1, fun _ => none))) h1 (inl_ne (by omega))
  replace h3 := shU_n (r := .inl (b + 1 + 1)) (x := .inr (.inl (C 4, 1, fun _ => none))) h3 (inl_ne (by omega))
  replace h4 := shU_n (r := .inl (b + 1 + 1)) (x := .inr (.inl (C 4, 1, fun _ => none))) h4 (inl_ne (by omega))
  clear h2
  replace h0 := shU_n (r := .inl (b + 1)) (x := .inr (.inr (6, x_al (b + 1)))) h0 (inl_ne (by omega))
  replace h3 := shU_n (r := .inl (b + 1)) (x := .inr (.inr (6, x_al (b + 1)))) h3 (inl_ne (by omega))
  replace h4 := shU_n (r := .inl (b + 1)) (x := .inr (.inr (6, x_al (b + 1)))) h4 (inl_ne (by omega))
  replace h1 := shU_s (sh := (shU (shU (shU (shSt C (b + 4) (shU sh (.inl (b + 4)) (.inr (.inr (1, stx0))))) (.inl b) (.inr (.inr (3, ([some none, some none, some none].set 0 (some (some (.inl (.inl (b + 4)))))))))) (.inl (b + 1)) (.inr (.inr (6, [none, some none, none])))) (.inl (b + 1 + 1)) (.inr (.inl (C 4, 1, fun _ => none))))) (r := .inl (b + 1)) (x := .inr (.inr (6, x_al (b + 1))))
  refine hr_putRF (ci := 3) (C := RX3) (T := TX3) (N := 3) (r := .inl b) (f := some (some (.inl (.inl (b + 1))))) hx hb hts in_X3 tyX3 tyX3_ok nmX3 hown hK hM hIx hS h0 rfl 1 (by decide) (hts _ q545) rfl hin2 rfl rfl rfl rfl rfl (Nat.le_of_ble_eq_true rfl) (fun q hq => by cases hq; exact hsome h1) dX3_init_24 (fun H locs hM hIx hok2 hS => ?_)
  replace hok := hok2 hok
  clear hok2
  replace h1 := shU_n (r := .inl b) (x := .inr (.inr (3, (([some none, some none, some none].set 0 (some (some (.inl (.inl (b + 4)))))).set 1 (some (some (.inl (.inl (b + 1))))))))) h1 (inl_ne (by omega))
  replace h3 := shU_n (r := .inl b) (x := .inr (.inr (3, (([some none, some none, some none].set 0 (some (some (.inl (.inl (b + 4)))))).set 1 (some (some (.inl (.inl (b + 1))))))))) h3 (inl_ne (by omega))
  replace h4 := shU_n (r := .inl b) (x := .inr (.inr (3, (([some none, some none, some none].set 0 (some (some (.inl (.inl (b + 4)))))).set 1 (some (some (.inl (.inl (b + 1))))))))) h4 (inl_ne (by omega))
  replace h0 := shU_s (sh := (shU (shU (shU (shU (shSt C (b + 4) (shU sh (.inl (b + 4)) (.inr (.inr (1, stx0))))) (.inl b) (.inr (.inr (3, ([some none, some none, some none].set 0 (some (some (.inl (.inl (b + 4)))))))))) (.inl (b + 1)) (.inr (.inr (6, [none, some none, none])))) (.inl (b + 1 + 1)) (.inr (.inl (C 4, 1, fun _ => none)))) (.inl (b + 1)) (.inr (.inr (6, x_al (b + 1)))))) (r := .inl b) (x := .inr (.inr (3, (([some none, some none, some none].set 0 (some (some (.inl (.inl (b + 4)))))).set 1 (some (some (.inl (.inl (b + 1)))))))))
  refine lv_aload_n hx hb dX3_init_27 rfl (lv_at hl 0 rfl) ?_
  refine lv_iconst (v := 2) hx hb dX3_init_28 (by decide) ?_
  refine hr_newa (.inl (b + 3)) hx hb (atype := .int) (hts _ q496) 0 (ty := .int) rfl rfl (cA := C 0) rfl (fun h => h) hK hM hIx hok hS hA0 h3 (n := 2) (N' := 2) (by decide) rfl (Nat.le_of_ble_eq_true rfl) (Nat.le_of_ble_eq_true rfl) (Nat.le_of_ble_eq_true rfl) dX3_init_29 (fun ad H hE hM hIx hok hS => ?_)
  rw [← hE (.inl b) (inl_ne (by omega))] at hl
  refine W_stk (st2 := [.ref (ad (.inl (b + 3))), .ref (ad (.inl b))]) (by rw [hE (.inl b) (inl_ne (by omega))]) ?_
  have hE5 := hE
  replace h0 := shU_n (r := .inl (b + 3)) (x := .inl (C 0, 2, false)) h0 (inl_ne (by omega))
  replace h1 := shU_n (r := .inl (b + 3)) (x := .inl (C 0, 2, false)) h1 (inl_ne (by omega))
  replace h4 := shU_n (r := .inl (b + 3)) (x := .inl (C 0, 2, false)) h4 (inl_ne (by omega))
  replace h3 := shU_s (sh := (shU (shU (shU (shU (shU (shSt C (b + 4) (shU sh (.inl (b + 4)) (.inr (.inr (1, stx0))))) (.inl b) (.inr (.inr (3, ([some none, some none, some none].set 0 (some (some (.inl (.inl (b + 4)))))))))) (.inl (b + 1)) (.inr (.inr (6, [none, some none, none])))) (.inl (b + 1 + 1)) (.inr (.inl (C 4, 1, fun _ => none)))) (.inl (b + 1)) (.inr (.inr (6, x_al (b + 1))))) (.inl b) (.inr (.inr (3, (([some none, some none, some none].set 0 (some (some (.inl (.inl (b + 4)))))).set 1 (some (some (.inl (.inl (b + 1))))))))))) (r := .inl (b + 3)) (x := .inl (C 0, 2, false))
  refine hr_putRF (ci := 3) (C := RX3) (T := TX3) (N := 3) (r := .inl b) (f := some (some (.inl (.inl (b + 3))))) hx hb hts in_X3 tyX3 tyX3_ok nmX3 hown hK hM hIx hS h0 rfl 2 (by decide) (hts _ q547) rfl hin2 rfl rfl rfl rfl rfl (Nat.le_of_ble_eq_true rfl) (fun q hq => by cases hq; exact hsome h3) dX3_init_31 (fun H locs hM hIx hok2 hS => ?_)
  replace hok := hok2 hok
  clear hok2
  replace h1 := shU_n (r := .inl b) (x := .inr (.inr (3, ((([some none, some none, some none].set 0 (some (some (.inl (.inl (b + 4)))))).set 1 (some (some (.inl (.inl (b + 1)))))).set 2 (some (some (.inl (.inl (b + 3))))))))) h1 (inl_ne (by omega))
  replace h3 := shU_n (r := .inl b) (x := .inr (.inr (3, ((([some none, some none, some none].set 0 (some (some (.inl (.inl (b + 4)))))).set 1 (some (some (.inl (.inl (b + 1)))))).set 2 (some (some (.inl (.inl (b + 3))))))))) h3 (inl_ne (by omega))
  replace h4 := shU_n (r := .inl b) (x := .inr (.inr (3, ((([some none, some none, some none].set 0 (some (some (.inl (.inl (b + 4)))))).set 1 (some (some (.inl (.inl (b + 1)))))).set 2 (some (some (.inl (.inl (b + 3))))))))) h4 (inl_ne (by omega))
  replace h0 := shU_s (sh := (shU (shU (shU (shU (shU (shU (shSt C (b + 4) (shU sh (.inl (b + 4)) (.inr (.inr (1, stx0))))) (.inl b) (.inr (.inr (3, ([some none, some none, some none].set 0 (some (some (.inl (.inl (b + 4)))))))))) (.inl (b + 1)) (.inr (.inr (6, [none, some none, none])))) (.inl (b + 1 + 1)) (.inr (.inl (C 4, 1, fun _ => none)))) (.inl (b + 1)) (.inr (.inr (6, x_al (b + 1))))) (.inl b) (.inr (.inr (3, (([some none, some none, some none].set 0 (some (some (.inl (.inl (b + 4)))))).set 1 (some (some (.inl (.inl (b + 1)))))))))) (.inl (b + 3)) (.inl (C 0, 2, false)))) (r := .inl b) (x := .inr (.inr (3, ((([some none, some none, some none].set 0 (some (some (.inl (.inl (b + 4)))))).set 1 (some (some (.inl (.inl (b + 1)))))).set 2 (some (some (.inl (.inl (b + 3)))))))))
  have es : (shU (shU (shU (shU (shU (shU (shU (shSt C (b + 4) (shU sh (.inl (b + 4)) (.inr (.inr (1, stx0))))) (.inl b) (.inr (.inr (3, ([some none, some none, some none].set 0 (some (some (.inl (.inl (b + 4)))))))))) (.inl (b + 1)) (.inr (.inr (6, [none, some none, none])))) (.inl (b + 1 + 1)) (.inr (.inl (C 4, 1, fun _ => none)))) (.inl (b + 1)) (.inr (.inr (6, x_al (b + 1))))) (.inl b) (.inr (.inr (3, (([some none, some none, some none].set 0 (some (some (.inl (.inl (b + 4)))))).set 1 (some (some (.inl (.inl (b + 1)))))))))) (.inl (b + 3)) (.inl (C 0, 2, false))) (.inl b) (.inr (.inr (3, ((([some none, some none, some none].set 0 (some (some (.inl (.inl (b + 4)))))).set 1 (some (some (.inl (.inl (b + 1)))))).set 2 (some (some (.inl (.inl (b + 3)))))))))) = shBk C b sh := shBk_eq C b sh
  replace hM := hW.cong hM es (stBk_eq b st)
  replace hIx : hI (hA s0) ad (shBk C b sh) := es ▸ hIx
  replace hok : hOK (shBk C b sh) := es ▸ hok
  exact W.vret hx hb hr (fun T ht hW => ⟨⟨ad, rfl, ⟨fun q hq => (hE5 q (hq _ (by omega) (by omega))).trans ((hE4 q (hq _ (by omega) (by omega))).trans ((hE3 q (hq _ (by omega) (by omega))).trans ((hE2 q (fun k h1 h2 => hq _ (by omega) (by omega))).trans (hE1 q (hq _ (by omega) (by omega)))))), hok⟩, by rw [ht]; exact hM, hIx⟩, hS.F ht⟩) hS.2.2 dX3_init_34
