/-! NEW CELLS in the world: a fresh role takes the new address; old roles keep theirs. -/
def shU (sh : Rl → Option hS) (r : Rl) (x : hS) : Rl → Option hS := fun q => if q = r then some x else sh q
def stU {α : Type} (st : Rl → Nat → α) (r : Rl) (f : Nat → α) : Rl → Nat → α := fun q => if q = r then f else st q
/-- a cell refers to a role -/
def hMem (q : Rl) (x : hS) : Prop := match x with
  | .inl _ => False
  | .inr (.inl y) => ∃ i : Nat, y.2.2 i = some (.inl q)
  | .inr (.inr y) => some (some (.inl q)) ∈ y.2
/-- no cell refers to a role that isn't there -/
def hOK (sh : Rl → Option hS) : Prop := ∀ (r : Rl) (x : hS) (q : Rl), sh r = some x → hMem q x → sh q ≠ none
theorem hR_same {ad ad' : Rl → Nat} {q : Rl ⊕ Nat} (h : ∀ r, q = .inl r → ad' r = ad r) : hR ad' q = hR ad q := by
  cases q with
  | inl r => exact h r rfl
  | inr a => rfl
theorem hE_same {ad ad' : Rl → Nat} {x : hS} {g : Nat → Int32} {h : Nat → Int64} (he : ∀ r, hMem r x → ad' r = ad r) : hE ad' x g h = hE ad x g h := by
  rcases x with ⟨c, n, b⟩ | ⟨c, n, q⟩ | ⟨ci, fs⟩
  · cases b <;> rfl
  · show (Sum.inl (c, n, .inr (.inr (.inr (.inr (fun i => (q i).map (hR ad')))))) : va_E) = .inl (c, n, .inr (.inr (.inr (.inr (fun i => (q i).map (hR ad))))))
    have e : (fun i => (q i).map (hR ad')) = (fun i => (q i).map (hR ad)) := by
      funext i
      cases hq : q i with
      | none => rfl
      | some z => exact congrArg some (hR_same (fun r hr => he r ⟨i, by show q i = _; rw [hq, hr]⟩))
    rw [e]
  · show (Sum.inr (ci, hFs ad' fs g) : va_E) = .inr (ci, hFs ad fs g)
    have e : hFs ad' fs g = hFs ad fs g := by
      unfold hFs
      apply List.ext_getElem?
      intro k
      rw [List.getElem?_mapIdx, List.getElem?_mapIdx]
      cases hk : fs[k]? with
      | none => rfl
      | some f =>
        show some (hV ad' f (g k)) = some (hV ad f (g k))
        rcases f with _ | _ | q
        · rfl
        · rfl
        · exact congrArg some (congrArg Value.ref (hR_same (fun r hr => he r (by rw [hr] at hk; exact List.mem_of_getElem? hk))))
    rw [e]
theorem hW.new {D : va_G} {cl : List vw_C} {ad ad' : Rl → Nat} {sh : Rl → Option hS} {st st' : Rl → Nat → Int32} {lt lt' : Rl → Nat → Int64} {H H1 : Heap} (h : hW D cl ad sh st lt H) (hok : hOK sh) {r0 : Rl} (h0 : sh r0 = none) (o1 : ∀ q : Nat, q < H.size → H1[q]? = H[q]?) {x : hS} (ha : ∀ q, q ≠ r0 → ad' q = ad q) (hs : ∀ q, q ≠ r0 → st' q = st q ∧ lt' q = lt q) (hn : va_at D cl (ad' r0, hE ad' x (st' r0) (lt' r0)) H1) : hW D cl ad' (shU sh r0 x) st' lt' H1 := by
  intro r y hy
  by_cases e : r = r0
  · subst e
    simp only [shU, if_pos rfl] at hy
    cases hy
    exact hn
  · simp only [shU, if_neg e] at hy
    rw [ha r e, (hs r e).1, (hs r e).2, hE_same (ad := ad) (ad' := ad') (fun q hq => ha q (fun z => hok r y q hy hq (by rw [z]; exact h0)))]
    exact (h r y hy).kept (o1 _ (h r y hy).lt)
theorem hI.new {D : va_G} {cl : List vw_C} {A : Nat → Prop} {ad ad' : Rl → Nat} {sh : Rl → Option hS} {st : Rl → Nat → Int32} {lt : Rl → Nat → Int64} {H : Heap} (hi : hI A ad sh) (h : hW D cl ad sh st lt H) {r0 : Rl} {x : hS} (ha : ∀ q, q ≠ r0 → ad' q = ad q) (h1 : ad' r0 = H.size) (hA : A H.size) : hI A ad' (shU sh r0 x) := by
  have key : ∀ r, r ≠ r0 → shU sh r0 x r = sh r := fun r e => by simp only [shU, if_neg e]
  refine ⟨fun r r' hr hr' e => ?_, fun r hr => ?_⟩
  · by_cases e1 : r = r0
    · by_cases e2 : r' = r0
      · rw [e1, e2]
      · rw [key r' e2] at hr'
        rw [e1, h1, ha r' e2] at e
        have := h.lt hr'
        omega
    · by_cases e2 : r' = r0
      · rw [key r e1] at hr
        rw [e2, h1, ha r e1] at e
        have := h.lt hr
        omega
      · rw [key r e1] at hr
        rw [key r' e2] at hr'
        rw [ha r e1, ha r' e2] at e
        exact hi.1 r r' hr hr' e
  · by_cases e1 : r = r0
    · rw [e1, h1]; exact hA
    · rw [key r e1] at hr
      rw [ha r e1]; exact hi.2 r hr
theorem hOK.new {sh : Rl → Option hS} (hok : hOK sh) {r0 : Rl} {x : hS} (hx : ∀ q, hMem q x → sh q ≠ none) : hOK (shU sh r0 x) := by
  intro r y q hy hq
  by_cases e : q = r0
  · simp only [shU, if_pos e]; exact fun z => by cases z
  · simp only [shU, if_neg e]
    by_cases e1 : r = r0
    · simp only [shU, if_pos e1] at hy
      cases hy
      exact hx q hq
    · simp only [shU, if_neg e1] at hy
      exact hok r y q hy hq
section HN
variable {p : Program} {l : Launch} {e : Env} {R : Room} {s : State} {m : MethodId} {args : Array Value} {below : List Frame} {meth : Method} {c : Code} {H : Heap} {locs : List Loc} {cells slots : Nat} {Q : State → Prop}
variable {cc : ByteArray} {pc : Nat} {ls : Array Slot} {rest st0 : List Value} {D : va_G} {cl : List vw_C} {A A1 : Nat → Prop} {tys : List (ClassId × FieldType)} {H0 : Heap} {a : Array Value} {mc ms : Nat}
variable {ad : Rl → Nat} {sh sh' : Rl → Option hS} {st st' : Rl → Nat → Int32} {lt lt' : Rl → Nat → Int64}
theorem hr_new {c0 : Code} (r0 : Rl) (hexec : p.tables.exec = Jvm.exec) (hb : c0.code = cc) {own C : String} {T : u_T} {N ci index : Nat} {Ts : List Cond} (hts : ∀ w ∈ Ts, w.before args s = true) (hin : ∀ w ∈ u_ws C T N, w ∈ Ts) (ty : Nat → FieldType) (hty : ∀ k, k < N → parseFieldDescriptor (T k).2.2.1 = some (ty k)) (hown : s.vm.findClass own = some m.cls) (hcl : (Cond.classLink own index C).before args s = true) (hinst : (Cond.instantiable C N).before args s = true) (hini : (Cond.initialized C).before args s = true)
    (hK : va_K D cl tys s) (hM : hW D cl ad sh st lt H) (hIx : hI A ad sh) (hok : hOK sh) (hS : va_S A H0 H locs) (hA : ∀ q, H0.size ≤ q → A q) (h0 : sh r0 = none) (hc : cl[ci]? = some (C, T, N)) {fs : List hF} (hfs : ∀ j, j < N → defaultValue (ty j) = vp_V (hFs (fun _ => 0) fs (fun _ => 0)) j) (hfn : ∀ f ∈ fs, f = none ∨ f = some none) (hcells : cells + 1 ≤ R.cells) (hslots : slots + N ≤ R.slots) (hdg : decode cc pc = .ok (.new index, 3))
    (kk : ∀ (ad' : Rl → Nat) (H1 : Heap), (∀ q, q ≠ r0 → ad' q = ad q) → hW D cl ad' (shU sh r0 (.inr (.inr (ci, fs)))) (stU st r0 (fun _ => 0)) lt H1 → hI A ad' (shU sh r0 (.inr (.inr (ci, fs)))) → hOK (shU sh r0 (.inr (.inr (ci, fs)))) → va_S A H0 H1 locs →
      W p l e R s m args below meth c0 H1 locs (cells + 1) (slots + N) Q (F0 m (pc + 3) ls (.ref (ad' r0) :: rest))) : W p l e R s m args below meth c0 H locs cells slots Q (F0 m pc ls rest) := by
  have hKn := hK.1 ci _ hc
  have hnm : ∀ q, ¬ hMem q (.inr (.inr (ci, fs))) := fun q hq => by rcases hfn _ hq with z | z <;> cases z
  refine W.newcK hexec hb hown hcl hinst hini rfl hdg hcells hslots hKn.2.1 rfl fun H1 kC hkC e1 z1 o1 => ?_
  obtain ⟨ad', had, h1⟩ : ∃ ad' : Rl → Nat, (∀ q, q ≠ r0 → ad' q = ad q) ∧ ad' r0 = H.size := ⟨fun q => if q = r0 then H.size else ad q, fun q hq => if_neg hq, if_pos rfl⟩
  have w := kk ad' H1 had (hM.new hok h0 o1 had (st' := stU st r0 (fun _ => 0)) (lt' := lt) (fun q hq => ⟨by unfold stU; exact if_neg hq, rfl⟩) (by
      rw [h1]
      refine ⟨_, hc, ((u_born ty hts hin hKn hkC e1 hty).to hfs).to (fun j _ => ?_)⟩
      have e2 : stU st r0 (fun _ => 0) r0 = fun _ => 0 := by unfold stU; exact if_pos rfl
      rw [e2]
      have e3 : hE ad' (.inr (.inr (ci, fs))) (fun _ => 0) (lt r0) = hE (fun _ => 0) (.inr (.inr (ci, fs))) (fun _ => 0) (lt r0) := hE_same (fun q hq => absurd hq (hnm q))
      have e4 : hFs ad' fs (fun _ => 0) = hFs (fun _ => 0) fs (fun _ => 0) := by
        have := e3
        simp only [hE] at this
        injection this with this
        injection this
      rw [e4])) (hIx.new hM had h1 (hA _ hS.1)) (hok.new (fun q hq => absurd hq (hnm q))) ⟨Nat.le_trans hS.1 (by omega), fun x h1 h2 => (o1 x (Nat.lt_of_lt_of_le h1 hS.1)).trans (hS.2.1 x h1 h2), hS.2.2⟩
  rw [h1] at w
  exact w
theorem hr_newa (r0 : Rl) (hexec : p.tables.exec = Jvm.exec) (hb : c.code = cc) {atype : ArrayType} (harr : (Cond.arrayClass (newarray.typeOf atype)).before args s = true) (t0 : Nat) {ty : FieldType} (hty : newarray.typeOf atype = ty) (hdef : defaultValue ty = .int 0) {cA : ClassId} (ht : tys[t0]? = some (cA, ty)) (hpr : va_RA s cA ty → s.vm.findClass ("[" ++ ty.toString) = some cA) (hK : va_K D cl tys s) (hM : hW D cl ad sh st lt H) (hIx : hI A ad sh) (hok : hOK sh) (hS : va_S A H0 H locs) (hA : ∀ q, H0.size ≤ q → A q) (h0 : sh r0 = none)
    {n : Int32} {N' : Nat} (hn : ¬ n < 0) (hN : n.toNatClampNeg = N') (hbytes : N' * componentBytes ty ≤ 536870912) (hcells : cells + 1 ≤ R.cells) (hslots : slots + N' ≤ R.slots) (hdg : decode cc pc = .ok (.newarray atype, 2))
    (kk : ∀ (ad' : Rl → Nat) (H1 : Heap), (∀ q, q ≠ r0 → ad' q = ad q) → hW D cl ad' (shU sh r0 (.inl (cA, N', false))) (stU st r0 (fun _ => 0)) lt H1 → hI A ad' (shU sh r0 (.inl (cA, N', false))) → hOK (shU sh r0 (.inl (cA, N', false))) → va_S A H0 H1 locs →
      W p l e R s m args below meth c H1 locs (cells + 1) (slots + N') Q (F0 m (pc + 2) ls (.ref (ad' r0) :: rest))) : W p l e R s m args below meth c H locs cells slots Q (F0 m pc ls (.int n :: rest)) := by
  subst hty
  refine va_newaK hexec hb harr rfl hdg rfl hn hN hbytes hcells hslots rfl fun H1 cB e1 z1 o1 hAr hNm => ?_
  have hcB : cB = cA := Option.some.inj (hNm.symm.trans (hpr (hK.2 t0 _ ht).2))
  subst hcB
  obtain ⟨ad', had, h1⟩ : ∃ ad' : Rl → Nat, (∀ q, q ≠ r0 → ad' q = ad q) ∧ ad' r0 = H.size := ⟨fun q => if q = r0 then H.size else ad q, fun q hq => if_neg hq, if_pos rfl⟩
  have w := kk ad' H1 had (hM.new hok h0 o1 had (st' := stU st r0 (fun _ => 0)) (lt' := lt) (fun q hq => ⟨by unfold stU; exact if_neg hq, rfl⟩) (by
      rw [h1]
      have e2 : stU st r0 (fun _ => 0) r0 = fun _ => 0 := by unfold stU; exact if_pos rfl
      rw [e2]
      show H1[H.size]? = some (vp_cell cB (N', .inl (fun _ => 0)))
      rw [vp_cell_i, e1, hdef])) (hIx.new hM had h1 (hA _ hS.1)) (hok.new (fun q hq => absurd hq (fun z => z))) ⟨Nat.le_trans hS.1 (by omega), fun x h1 h2 => (o1 x (Nat.lt_of_lt_of_le h1 hS.1)).trans (hS.2.1 x h1 h2), hS.2.2⟩
  rw [h1] at w
  exact w
theorem hr_newl (r0 : Rl) (hexec : p.tables.exec = Jvm.exec) (hb : c.code = cc) (harr : (Cond.arrayClass .long).before args s = true) (t0 : Nat) {cA : ClassId} (ht : tys[t0]? = some (cA, .long)) (hK : va_K D cl tys s) (hM : hW D cl ad sh st lt H) (hIx : hI A ad sh) (hok : hOK sh) (hS : va_S A H0 H locs) (hA : ∀ q, H0.size ≤ q → A q) (h0 : sh r0 = none)
    {n : Int32} {N' : Nat} (hn : ¬ n < 0) (hN : n.toNatClampNeg = N') (hbytes : N' * componentBytes .long ≤ 536870912) (hcells : cells + 1 ≤ R.cells) (hslots : slots + N' ≤ R.slots) (hdg : decode cc pc = .ok (.newarray .long, 2))
    (kk : ∀ (ad' : Rl → Nat) (H1 : Heap), (∀ q, q ≠ r0 → ad' q = ad q) → hW D cl ad' (shU sh r0 (.inl (cA, N', true))) st (stU lt r0 (fun _ => 0)) H1 → hI A ad' (shU sh r0 (.inl (cA, N', true))) → hOK (shU sh r0 (.inl (cA, N', true))) → va_S A H0 H1 locs →
      W p l e R s m args below meth c H1 locs (cells + 1) (slots + N') Q (F0 m (pc + 2) ls (.ref (ad' r0) :: rest))) : W p l e R s m args below meth c H locs cells slots Q (F0 m pc ls (.int n :: rest)) := by
  refine va_newaK hexec hb (atype := .long) harr rfl hdg rfl hn hN hbytes hcells hslots rfl fun H1 cB e1 z1 o1 hAr hNm => ?_
  have hcB : cB = cA := Option.some.inj (hNm.symm.trans (hK.2 t0 _ ht).2)
  subst hcB
  obtain ⟨ad', had, h1⟩ : ∃ ad' : Rl → Nat, (∀ q, q ≠ r0 → ad' q = ad q) ∧ ad' r0 = H.size := ⟨fun q => if q = r0 then H.size else ad q, fun q hq => if_neg hq, if_pos rfl⟩
  have w := kk ad' H1 had (hM.new hok h0 o1 had (st' := st) (lt' := stU lt r0 (fun _ => 0)) (fun q hq => ⟨rfl, by unfold stU; exact if_neg hq⟩) (by
      rw [h1]
      have e2 : stU lt r0 (fun _ => 0) r0 = fun _ => 0 := by unfold stU; exact if_pos rfl
      rw [e2]
      show H1[H.size]? = some (vp_cell cB (N', .inr (.inl (fun _ => 0))))
      rw [vp_cell_l, e1]
      rfl)) (hIx.new hM had h1 (hA _ hS.1)) (hok.new (fun q hq => absurd hq (fun z => z))) ⟨Nat.le_trans hS.1 (by omega), fun x h1 h2 => (o1 x (Nat.lt_of_lt_of_le h1 hS.1)).trans (hS.2.1 x h1 h2), hS.2.2⟩
  rw [h1] at w
  exact w
theorem hr_newq (r0 : Rl) (hexec : p.tables.exec = Jvm.exec) (hb : c.code = cc) {own C : String} {index : Nat} (hown : s.vm.findClass own = some m.cls) (hclink : (Cond.classLink own index C).before args s = true) (hover : va_AO C s) (t0 : Nat) {cA : ClassId} (ht : tys[t0]? = some (cA, .object C)) (hK : va_K D cl tys s) (hM : hW D cl ad sh st lt H) (hIx : hI A ad sh) (hok : hOK sh) (hS : va_S A H0 H locs) (hA : ∀ q, H0.size ≤ q → A q) (h0 : sh r0 = none)
    {n : Int32} {N' : Nat} (hn : ¬ n < 0) (hN : n.toNatClampNeg = N') (hbytes : N' * 4 ≤ 536870912) (hcells : cells + 1 ≤ R.cells) (hslots : slots + N' ≤ R.slots) (hdg : decode cc pc = .ok (.anewarray index, 3))
    (kk : ∀ (ad' : Rl → Nat) (H1 : Heap), (∀ q, q ≠ r0 → ad' q = ad q) → hW D cl ad' (shU sh r0 (.inr (.inl (cA, N', fun _ => none)))) st lt H1 → hI A ad' (shU sh r0 (.inr (.inl (cA, N', fun _ => none)))) → hOK (shU sh r0 (.inr (.inl (cA, N', fun _ => none)))) → va_S A H0 H1 locs →
      W p l e R s m args below meth c H1 locs (cells + 1) (slots + N') Q (F0 m (pc + 3) ls (.ref (ad' r0) :: rest))) : W p l e R s m args below meth c H locs cells slots Q (F0 m pc ls (.int n :: rest)) := by
  subst hN
  refine W.anew hexec hb hown hclink (va_AO.use hover) rfl hdg rfl hn hbytes hcells hslots fun cB kA comp f1 f2 f3 f4 => ?_
  have hcB : cB = cA := by
    obtain ⟨_, _, _, _, _, g4⟩ := (hK.2 t0 _ ht).2
    exact Option.some.inj (f1.symm.trans g4)
  subst hcB
  generalize hH1 : H.push ({ cls := cB, slots := Array.replicate n.toNatClampNeg .null, vm := .none } : Cell) = H1
  have z1 : H1.size = H.size + 1 := by rw [← hH1, Array.size_push]
  have e1 : H1[H.size]? = some (arrV cB n.toNatClampNeg (fun _ => .null)) := by rw [← hH1, Array.getElem?_push_size, ← arrV_new]
  have o1 : ∀ q : Nat, q < H.size → H1[q]? = H[q]? := fun q hq => by rw [← hH1, Array.getElem?_push, if_neg (Nat.ne_of_lt hq)]
  obtain ⟨ad', had, h1⟩ : ∃ ad' : Rl → Nat, (∀ q, q ≠ r0 → ad' q = ad q) ∧ ad' r0 = H.size := ⟨fun q => if q = r0 then H.size else ad q, fun q hq => if_neg hq, if_pos rfl⟩
  have w := kk ad' H1 had (hM.new hok h0 o1 had (st' := st) (lt' := lt) (fun q hq => ⟨rfl, rfl⟩) (by
      rw [h1]
      show H1[H.size]? = some (vp_cell cB (n.toNatClampNeg, .inr (.inr (.inr (.inr (fun _ => none))))))
      rw [vp_cell_q]
      exact e1)) (hIx.new hM had h1 (hA _ hS.1)) (hok.new (fun q hq => by obtain ⟨_, z⟩ := hq; cases z)) ⟨Nat.le_trans hS.1 (by omega), fun x h1 h2 => (o1 x (Nat.lt_of_lt_of_le h1 hS.1)).trans (hS.2.1 x h1 h2), hS.2.2⟩
  rw [h1] at w
  exact w
/-- the new world behind a store of a reference into an object -/
theorem hW.objR (hM : hW D cl ad sh st lt H) (hIx : hI A ad sh) {r : Rl} {ci k : Nat} {fs : List hF} (hr : sh r = some (.inr (.inr (ci, fs)))) {q : vw_C} (hc : cl[ci]? = some q) {H1 : Heap} (o3 : ∀ x : Nat, x ≠ ad r → H1[x]? = H[x]?) {f : hF} (hk : k < fs.length) (h1 : t_OB (ad r) (D.1 ci) q.2.2 (D.2 ci) H1 (updV (vp_V (hFs ad fs (st r))) k (hV ad f (st r k)))) : hW D cl ad (shU sh r (.inr (.inr (ci, fs.set k f)))) st lt H1 := by
  refine hM.put hIx (hsome hr) o3 (fun r' n => ⟨by simp only [shU, if_neg n], rfl, rfl⟩) (fun x' hx => ?_)
  simp only [shU, if_pos rfl] at hx
  cases hx
  exact ⟨q, hc, h1.to (fun j _ => (hFs_setR hk j).symm)⟩
theorem hI.upS {r : Rl} {x : hS} (hi : hI A ad sh) (hr : sh r ≠ none) : hI A ad (shU sh r x) := by
  have key : ∀ q, shU sh r x q ≠ none → sh q ≠ none := fun q h => by
    by_cases e : q = r
    · rw [e]; exact hr
    · simp only [shU, if_neg e] at h; exact h
  exact ⟨fun q q' h h' e => hi.1 q q' (key q h) (key q' h') e, fun q h => hi.2 q (key q h)⟩
theorem hr_putR (hexec : p.tables.exec = Jvm.exec) (hb : c.code = cc) {own C : String} {T : u_T} {N ci index : Nat} {Ts : List Cond} (hts : ∀ w ∈ Ts, w.before args s = true) (hin : ∀ w ∈ u_ws C T N, w ∈ Ts) (ty0 : Nat → FieldType) (hty : ∀ k, k < N → parseFieldDescriptor (T k).2.2.1 = some (ty0 k)) (hnm : ∀ a, a < N → ∀ b, b < N → a ≠ b → (T a).2.1 ≠ (T b).2.1) (hown : s.vm.findClass own = some m.cls) (hK : va_K D cl tys s) (hM : hW D cl ad sh st lt H) (hIx : hI A ad sh) (hS0 : va_S A H0 H locs) {r : Rl} {fs : List hF} (hr : sh r = some (.inr (.inr (ci, fs)))) (hc : cl[ci]? = some (C, T, N)) (k : Nat) (hk : k < N) (hlink : (Cond.fieldLink own index (T k).1 (T k).2.1 (T k).2.2.1).before args s = true) (hfin : (T k).2.2.2 = false) {ty : FieldType} {f : hF} {v : Value} (hv : hV ad f (st r k) = v) (hd : parseFieldDescriptor (T k).2.2.1 = some ty) (hn : narrow ty v = v) (hfit : fits ty v = true) (hl : k < fs.length) (hx : ∀ q, f = some (some (.inl q)) → sh q ≠ none)
    (hdg : decode cc pc = .ok (.putfield index, 3)) (kk : ∀ (H1 : Heap) (locs1 : List Loc), hW D cl ad (shU sh r (.inr (.inr (ci, fs.set k f)))) st lt H1 → hI A ad (shU sh r (.inr (.inr (ci, fs.set k f)))) → (hOK sh → hOK (shU sh r (.inr (.inr (ci, fs.set k f))))) → va_S A H0 H1 locs1 → W p l e R s m args below meth c H1 locs1 cells slots Q (F0 m (pc + 3) ls rest)) : W p l e R s m args below meth c H locs cells slots Q (F0 m pc ls (v :: .ref (ad r) :: rest)) := by
  have hap := va_apart (own := own) hts hin ty0 hty hnm hK hc
  obtain ⟨r0, h1, cell, q1, q2, q3, q4⟩ := (hM.one hr) 0 _ rfl
  have hr0 : r0 = (C, T, N) := Option.some.inj (h1.symm.trans hc)
  subst hr0
  obtain ⟨hS, hfc, kC, hkC, hkind⟩ := hK.1 ci _ hc
  obtain ⟨cf, kf, fi, f0, hi, hsl⟩ := hS k hk
  have hlay := hts _ (hin _ (u_in_lay hk))
  unfold u_lay at hlay
  rw [if_neg (by rw [hfin]; decide)] at hlay
  have hst := (u_facts hfc hkC (u_lays hts hin hk) hi).1
  have h6 := u_store hfc hkC hkind hlay hi hd hn hfit
  subst hv
  refine W.putK hexec hb (f := f0) ⟨hown, hlink, ⟨_, _, _, hi⟩, hst⟩ (by rw [q2]; exact h6) q1 q3 (by rw [hsl]; exact k2_hasslot (q4 k hk)) rfl rfl hdg fun H' e1 e2 e3 => ?_
  rw [hsl] at e1 ⊢
  refine kk H' _ (hM.objR hIx hr hc e3 hl ⟨_, e1, q2, q3, t_set q4 hap hk _⟩) (hIx.upS (hsome hr)) (fun hok => hok.new (fun q hq => ?_)) (hS0.put e2 e3 (hIx.2 r (hsome hr)))
  rcases List.mem_or_eq_of_mem_set hq with z | z
  · exact hok r _ q hr z
  · exact hx q z.symm
theorem hr_putRN (hexec : p.tables.exec = Jvm.exec) (hb : c.code = cc) {own C host : String} {T : u_T} {N ci index : Nat} {Ts : List Cond} (hts : ∀ w ∈ Ts, w.before args s = true) (hin : ∀ w ∈ u_ws C T N, w ∈ Ts) (ty0 : Nat → FieldType) (hty : ∀ k, k < N → parseFieldDescriptor (T k).2.2.1 = some (ty0 k)) (hnm : ∀ a, a < N → ∀ b, b < N → a ≠ b → (T a).2.1 ≠ (T b).2.1) (hown : s.vm.findClass own = some m.cls) (hK : va_K D cl tys s) (hM : hW D cl ad sh st lt H) (hIx : hI A ad sh) (hS0 : va_S A H0 H locs) {r : Rl} {fs : List hF} (hr : sh r = some (.inr (.inr (ci, fs)))) (hc : cl[ci]? = some (C, T, N)) (k : Nat) (hk : k < N) (hlink : va_Nw (.fieldLinkNest own index (T k).1 (T k).2.1 (T k).2.2.1 host) s) (hfin : (T k).2.2.2 = false) {ty : FieldType} {f : hF} {v : Value} (hv : hV ad f (st r k) = v) (hd : parseFieldDescriptor (T k).2.2.1 = some ty) (hn : narrow ty v = v) (hfit : fits ty v = true) (hl : k < fs.length) (hx : ∀ q, f = some (some (.inl q)) → sh q ≠ none)
    (hdg : decode cc pc = .ok (.putfield index, 3)) (kk : ∀ (H1 : Heap) (locs1 : List Loc), hW D cl ad (shU sh r (.inr (.inr (ci, fs.set k f)))) st lt H1 → hI A ad (shU sh r (.inr (.inr (ci, fs.set k f)))) → (hOK sh → hOK (shU sh r (.inr (.inr (ci, fs.set k f))))) → va_S A H0 H1 locs1 → W p l e R s m args below meth c H1 locs1 cells slots Q (F0 m (pc + 3) ls rest)) : W p l e R s m args below meth c H locs cells slots Q (F0 m pc ls (v :: .ref (ad r) :: rest)) := by
  have hap := va_apart (own := own) hts hin ty0 hty hnm hK hc
  obtain ⟨r0, h1, cell, q1, q2, q3, q4⟩ := (hM.one hr) 0 _ rfl
  have hr0 : r0 = (C, T, N) := Option.some.inj (h1.symm.trans hc)
  subst hr0
  obtain ⟨hS, hfc, kC, hkC, hkind⟩ := hK.1 ci _ hc
  obtain ⟨cf, kf, fi, f0, hi, hsl⟩ := hS k hk
  have hlay := hts _ (hin _ (u_in_lay hk))
  unfold u_lay at hlay
  rw [if_neg (by rw [hfin]; decide)] at hlay
  have hst := (u_facts hfc hkC (u_lays hts hin hk) hi).1
  have h6 := u_store hfc hkC hkind hlay hi hd hn hfit
  subst hv
  refine va_WputK hexec hb (f := f0) hown (va_Nw.use rfl hlink) hi hst (by rw [q2]; exact h6) q1 q3 (by rw [hsl]; exact k2_hasslot (q4 k hk)) rfl rfl hdg fun H' e1 e2 e3 => ?_
  rw [hsl] at e1 ⊢
  refine kk H' _ (hM.objR hIx hr hc e3 hl ⟨_, e1, q2, q3, t_set q4 hap hk _⟩) (hIx.upS (hsome hr)) (fun hok => hok.new (fun q hq => ?_)) (hS0.put e2 e3 (hIx.2 r (hsome hr)))
  rcases List.mem_or_eq_of_mem_set hq with z | z
  · exact hok r _ q hr z
  · exact hx q z.symm
theorem hr_putRF (hexec : p.tables.exec = Jvm.exec) (hb : c.code = cc) {own C : String} {T : u_T} {N ci index : Nat} {Ts : List Cond} (hts : ∀ w ∈ Ts, w.before args s = true) (hin : ∀ w ∈ u_ws C T N, w ∈ Ts) (ty0 : Nat → FieldType) (hty : ∀ k, k < N → parseFieldDescriptor (T k).2.2.1 = some (ty0 k)) (hnm : ∀ a, a < N → ∀ b, b < N → a ≠ b → (T a).2.1 ≠ (T b).2.1) (hown : s.vm.findClass own = some m.cls) (hK : va_K D cl tys s) (hM : hW D cl ad sh st lt H) (hIx : hI A ad sh) (hS0 : va_S A H0 H locs) {r : Rl} {fs : List hF} (hr : sh r = some (.inr (.inr (ci, fs)))) (hc : cl[ci]? = some (C, T, N)) (k : Nat) (hk : k < N) (hlink : (Cond.fieldLink own index (T k).1 (T k).2.1 (T k).2.2.1).before args s = true) (hfin : (T k).2.2.2 = true) (hin2 : meth.name = "<init>") (hdecl : (T k).1 = own) {ty : FieldType} {f : hF} {v : Value} (hv : hV ad f (st r k) = v) (hd : parseFieldDescriptor (T k).2.2.1 = some ty) (hn : narrow ty v = v) (hfit : fits ty v = true) (hl : k < fs.length) (hx : ∀ q, f = some (some (.inl q)) → sh q ≠ none)
    (hdg : decode cc pc = .ok (.putfield index, 3)) (kk : ∀ (H1 : Heap) (locs1 : List Loc), hW D cl ad (shU sh r (.inr (.inr (ci, fs.set k f)))) st lt H1 → hI A ad (shU sh r (.inr (.inr (ci, fs.set k f)))) → (hOK sh → hOK (shU sh r (.inr (.inr (ci, fs.set k f))))) → va_S A H0 H1 locs1 → W p l e R s m args below meth c H1 locs1 cells slots Q (F0 m (pc + 3) ls rest)) : W p l e R s m args below meth c H locs cells slots Q (F0 m pc ls (v :: .ref (ad r) :: rest)) := by
  have hap := va_apart (own := own) hts hin ty0 hty hnm hK hc
  obtain ⟨r0, h1, cell, q1, q2, q3, q4⟩ := (hM.one hr) 0 _ rfl
  have hr0 : r0 = (C, T, N) := Option.some.inj (h1.symm.trans hc)
  subst hr0
  obtain ⟨hS, hfc, kC, hkC, hkind⟩ := hK.1 ci _ hc
  obtain ⟨cf, kf, fi, f0, hi, hsl⟩ := hS k hk
  have hlay := hts _ (hin _ (u_in_lay hk))
  unfold u_lay at hlay
  rw [if_pos hfin] at hlay
  have hst := (u_facts hfc hkC (u_lays hts hin hk) hi).1
  have hcf : m.cls = cf := by
    obtain ⟨_, _, c', _, _, _, -, -, hf', -, -, -, hown2, -⟩ := Cond.laysFinal_spec hlay
    have e1 : c' = cf := by have := hi.symm.trans hf'; simp at this; exact this.1.symm
    rw [hdecl] at hown2
    rw [← e1]; exact Option.some.inj (hown.symm.trans hown2)
  have h6 := u_fits hfc hkC hkind (Or.inr hlay) hi hd hn hfit
  subst hv
  refine W.putFinK hexec hb hown hlink hi hst hcf hin2 (by rw [q2]; exact h6) q1 q3 (by rw [hsl]; exact k2_hasslot (q4 k hk)) rfl rfl hdg fun H' e1 e2 e3 => ?_
  rw [hsl] at e1 ⊢
  refine kk H' _ (hM.objR hIx hr hc e3 hl ⟨_, e1, q2, q3, t_set q4 hap hk _⟩) (hIx.upS (hsome hr)) (fun hok => hok.new (fun q hq => ?_)) (hS0.put e2 e3 (hIx.2 r (hsome hr)))
  rcases List.mem_or_eq_of_mem_set hq with z | z
  · exact hok r _ q hr z
  · exact hx q z.symm
theorem hr_putF (hexec : p.tables.exec = Jvm.exec) (hb : c.code = cc) {own C : String} {T : u_T} {N ci index : Nat} {Ts : List Cond} (hts : ∀ w ∈ Ts, w.before args s = true) (hin : ∀ w ∈ u_ws C T N, w ∈ Ts) (ty0 : Nat → FieldType) (hty : ∀ k, k < N → parseFieldDescriptor (T k).2.2.1 = some (ty0 k)) (hnm : ∀ a, a < N → ∀ b, b < N → a ≠ b → (T a).2.1 ≠ (T b).2.1) (hown : s.vm.findClass own = some m.cls) (hK : va_K D cl tys s) (hM : hW D cl ad sh st lt H) (hIx : hI A ad sh) (hS0 : va_S A H0 H locs) {r : Rl} {fs : List hF} (hr : sh r = some (.inr (.inr (ci, fs)))) (hc : cl[ci]? = some (C, T, N)) (k : Nat) (hk : k < N) (hlink : (Cond.fieldLink own index (T k).1 (T k).2.1 (T k).2.2.1).before args s = true) (hfin : (T k).2.2.2 = true) (hin2 : meth.name = "<init>") (hdecl : (T k).1 = own) {ty : FieldType} {x : Int32} (hd : parseFieldDescriptor (T k).2.2.1 = some ty) (hn : narrow ty (.int x) = (.int x)) (hfit : fits ty (.int x) = true) (hf : fs[k]? = some none)
    (hdg : decode cc pc = .ok (.putfield index, 3)) (kk : ∀ (H1 : Heap) (locs1 : List Loc), hW D cl ad sh (up2 st r k x) lt H1 → va_S A H0 H1 locs1 → W p l e R s m args below meth c H1 locs1 cells slots Q (F0 m (pc + 3) ls rest)) : W p l e R s m args below meth c H locs cells slots Q (F0 m pc ls ((.int x) :: .ref (ad r) :: rest)) := by
  have hap := va_apart (own := own) hts hin ty0 hty hnm hK hc
  obtain ⟨r0, h1, cell, q1, q2, q3, q4⟩ := (hM.one hr) 0 _ rfl
  have hr0 : r0 = (C, T, N) := Option.some.inj (h1.symm.trans hc)
  subst hr0
  obtain ⟨hS, hfc, kC, hkC, hkind⟩ := hK.1 ci _ hc
  obtain ⟨cf, kf, fi, f0, hi, hsl⟩ := hS k hk
  have hlay := hts _ (hin _ (u_in_lay hk))
  unfold u_lay at hlay
  rw [if_pos hfin] at hlay
  have hst := (u_facts hfc hkC (u_lays hts hin hk) hi).1
  have hcf : m.cls = cf := by
    obtain ⟨_, _, c', _, _, _, -, -, hf', -, -, -, hown2, -⟩ := Cond.laysFinal_spec hlay
    have e1 : c' = cf := by have := hi.symm.trans hf'; simp at this; exact this.1.symm
    rw [hdecl] at hown2
    rw [← e1]; exact Option.some.inj (hown.symm.trans hown2)
  have h6 := u_fits hfc hkC hkind (Or.inr hlay) hi hd hn hfit
  refine W.putFinK hexec hb hown hlink hi hst hcf hin2 (by rw [q2]; exact h6) q1 q3 (by rw [hsl]; exact k2_hasslot (q4 k hk)) rfl rfl hdg fun H' e1 e2 e3 => ?_
  rw [hsl] at e1 ⊢
  exact kk H' _ (hM.obj hIx hr hc e3 hf ⟨_, e1, q2, q3, t_set q4 hap hk (.int x)⟩) (hS0.put e2 e3 (hIx.2 r (hsome hr)))
/-- a reference into an array of references: any object whose class may stand there -/
theorem hr_aast (hexec : p.tables.exec = Jvm.exec) (hb : c.code = cc) (hK : va_K D cl tys s) (hM : hW D cl ad sh st lt H) (hIx : hI A ad sh) (hS : va_S A H0 H locs) (t0 : Nat) {r : Rl} {E : String} {cA : ClassId} {n v : Nat} {g : Nat → Option (Rl ⊕ Nat)} (hr : sh r = some (.inr (.inl (cA, n, g)))) (ht : tys[t0]? = some (cA, .object E)) (hv : va_Any E s H v) {q : Rl ⊕ Nat} (hq : hR ad q = v) (hx : ∀ z, q = .inl z → sh z ≠ none) {i : Int32} (hin : ¬ (i < 0 ∨ n ≤ i.toNatClampNeg)) (hdg : decode cc pc = .ok (.aastore, 1))
    (kk : ∀ (H1 : Heap) (locs1 : List Loc), hW D cl ad (shU sh r (.inr (.inl (cA, n, fun j => if j = i.toNatClampNeg then some q else g j)))) st lt H1 → hI A ad (shU sh r (.inr (.inl (cA, n, fun j => if j = i.toNatClampNeg then some q else g j)))) → (hOK sh → hOK (shU sh r (.inr (.inl (cA, n, fun j => if j = i.toNatClampNeg then some q else g j))))) → va_S A H0 H1 locs1 → W p l e R s m args below meth c H1 locs1 cells slots Q (F0 m (pc + 1) ls rest)) : W p l e R s m args below meth c H locs cells slots Q (F0 m pc ls (.ref v :: .int i :: .ref (ad r) :: rest)) := by
  have hlt : i.toNatClampNeg < n := Nat.not_le.mp fun q => hin (Or.inr q)
  have h0 : ¬ i < 0 := fun q => hin (Or.inl q)
  obtain ⟨cellV, g1, g3, ⟨kC, hkC⟩, hasg⟩ := hv
  obtain ⟨kA, comp, k1, k2, k3, -⟩ := (hK.2 t0 _ ht).2
  obtain ⟨kE, hkE, -⟩ := Vm.findClass_spec k3
  refine W.aast hexec hb ((hM.one hr) 0 _ rfl) (fun q h => by cases h) (fun h => by cases h) k1 k2 rfl hkE ⟨h0, by show _ < (arrV _ _ _).slots.size; rw [arrV_size]; exact hlt⟩ g1 (fun q h => by rw [h] at g3; cases g3) hkC (hasg comp k3) rfl rfl hdg fun H1 e z oq => ?_
  refine kk H1 _ (hM.put hIx (hsome hr) oq (fun r' n => ⟨by simp only [shU, if_neg n], rfl, rfl⟩) (fun x' hx' => ?_)) (hIx.upS (hsome hr)) (fun hok => hok.new (fun y hy => ?_)) (hS.put z oq (hIx.2 r (hsome hr)))
  · simp only [shU, if_pos rfl] at hx'
    cases hx'
    show H1[ad r]? = some (vp_cell cA (n, .inr (.inr (.inr (.inr (fun j => (if j = i.toNatClampNeg then some q else g j).map (hR ad)))))))
    rw [e]
    show some ((vp_cell cA (n, .inr (.inr (.inr (.inr (fun j => (g j).map (hR ad))))))).setSlot _ _) = _
    rw [vp_cell_q, vp_cell_q, arrV_store]
    congr 2
    funext j
    by_cases hj : j = i.toNatClampNeg
    · subst hj
      simp [updV, hq, va_rf]
    · simp [updV, hj]
  · obtain ⟨j, hj⟩ := hy
    by_cases e2 : j = i.toNatClampNeg
    · simp only [if_pos e2] at hj
      exact hx y (Option.some.inj hj)
    · simp only [if_neg e2] at hj
      exact hok r _ y hr ⟨j, hj⟩
/-- System.arraycopy over ints -/
theorem hr_copyi (hexec : p.tables.exec = Jvm.exec) (hb : c.code = cc) (hml : c.maxLocals = ls.size) {own : String} {index : Nat} (hown : s.vm.findClass own = some m.cls) (hlink : (Cond.methodLink own index arraycopyName).before args s = true) (hnat : (Cond.native arraycopyName).before args s = true) (hstat : (Cond.static arraycopyName).before args s = true) (hini : (Cond.initialized "java/lang/System").before args s = true)
    (hK : va_K D cl tys s) (hM : hW D cl ad sh st lt H) (hIx : hI A ad sh) (hS : va_S A H0 H locs) (t0 : Nat) {r0 r1 : Rl} {c1 : ClassId} {n0 n1 : Nat} {ty : FieldType} (hr0 : sh r0 = some (.inl (c1, n0, false))) (hr1 : sh r1 = some (.inl (c1, n1, false))) (ht0 : tys[t0]? = some (c1, ty)) (hprim : refKind ty = false)
    {sp dp n : Int32} (h1 : ¬ sp < 0) (h2 : ¬ dp < 0) (h3 : ¬ n < 0) (h4 : sp.toNatClampNeg + n.toNatClampNeg ≤ n0) (h5 : dp.toNatClampNeg + n.toNatClampNeg ≤ n1) (hfit : ∀ i, i < n.toNatClampNeg → fits ty (.int (st r0 (sp.toNatClampNeg + i))) = true)
    (hframes : 1 ≤ R.frames) (hlocals : (rest.map fun v => v.category).sum + (nativeFrameWords "java/lang/System" "arraycopy" 5 + 11) ≤ R.locals) (hdg : decode cc pc = .ok (.invokestatic index, 3))
    (kk : ∀ (H1 : Heap) (locs1 : List Loc), hW D cl ad sh (stU st r1 (va_cpy (st r0) (st r1) sp.toNatClampNeg dp.toNatClampNeg n.toNatClampNeg)) lt H1 → va_S A H0 H1 locs1 → W p l e R s m args below meth c H1 locs1 cells slots Q (F0 m (pc + 3) ls rest)) : W p l e R s m args below meth c H locs cells slots Q (F0 m pc ls (.int n :: .int dp :: .ref (ad r1) :: .int sp :: .ref (ad r0) :: rest)) := by
  have nn : ∀ z : Int32, ¬ z < 0 → z.toInt = (z.toNatClampNeg : Int) := by
    intro z hz
    have hz0 : (0 : Int) ≤ z.toInt := by
      have := Int32.not_lt.mp hz
      simpa using Int32.le_iff_toInt_le.mp this
    show z.toInt = ((z.toInt.toNat : Nat) : Int)
    omega
  intro T hT X
  have hc0 : H[ad r0]? = some (vp_cell c1 (n0, .inl (st r0))) := (hM.one hr0) 0 _ rfl
  have hc1 : H[ad r1]? = some (vp_cell c1 (n1, .inl (st r1))) := (hM.one hr1) 0 _ rfl
  obtain ⟨-, k0, hk0, cm0, hkk0⟩ := (hK.2 t0 _ ht0).1 n0 (fun j => .int (st r0 j))
  obtain ⟨-, k1, hk1, cm1, hkk1⟩ := (hK.2 t0 _ ht0).1 n1 (fun j => .int (st r1 j))
  obtain ⟨vm', X', step⟩ := X.arraycopy hexec hown hlink hnat hstat hini (src := ad r0) (dst := ad r1) (cs := vp_cell c1 (n0, .inl (st r0))) (cd := vp_cell c1 (n1, .inl (st r1))) (srcPos := sp) (destPos := dp) (n := n) (by rw [hT]; exact hc0) (by rw [hT]; exact hc1)
    (fun _ h => by cases h) (fun _ h => by cases h) (fun h => by cases h) (fun h => by cases h) hk0 hk1 hkk0 hkk1 (by simp [hprim]) h1 h2 h3
    (by rw [nn sp h1, nn n h3]; show ¬ _ > ((arrV c1 n0 (fun j => .int (st r0 j))).slots.size : Int); rw [arrV_size]; omega)
    (by rw [nn dp h2, nn n h3]; show ¬ _ > ((arrV c1 n1 (fun j => .int (st r1 j))).slots.size : Int); rw [arrV_size]; omega)
    (fun vm₁ _ i hi => by
      have e : (vp_cell c1 (n0, .inl (st r0))).slots.getD (sp.toNatClampNeg + i) .null = .int (st r0 (sp.toNatClampNeg + i)) := by
        show (arrV c1 n0 (fun j => .int (st r0 j))).slots.getD _ _ = _
        rw [Array.getD_eq_getD_getElem?, arrV_read _ _ (by omega)]
        rfl
      refine ⟨?_, ?_⟩
      · rw [e]
        exact hfit i hi
      · rw [e]
        exact trivial)
    (g := F0 m pc ls (.int n :: .int dp :: .ref (ad r1) :: .int sp :: .ref (ad r0) :: rest)) rfl (by rw [hml]) (rest := rest) rfl (by rw [hb]; exact hdg) hframes (by show 2 * 0 + _ + _ ≤ _; omega)
  have e1 : copied (vp_cell c1 (n0, .inl (st r0))) (vp_cell c1 (n1, .inl (st r1))) sp dp n = vp_cell c1 (n1, .inl (va_cpy (st r0) (st r1) sp.toNatClampNeg dp.toNatClampNeg n.toNatClampNeg)) := va_copied (fun z => .int z) c1 c1 (st r0) (st r1) h4
  rw [e1] at X' step
  have hl : ad r1 < H.size := (Array.getElem?_eq_some_iff.mp hc1).1
  have hheap : ((T.setVm vm').setCell (ad r1) (vp_cell c1 (n1, .inl (va_cpy (st r0) (st r1) sp.toNatClampNeg dp.toNatClampNeg n.toNatClampNeg)))).heap = H.setIfInBounds (ad r1) (vp_cell c1 (n1, .inl (va_cpy (st r0) (st r1) sp.toNatClampNeg dp.toNatClampNeg n.toNatClampNeg))) := by rw [← hT]; rfl
  have oq : ∀ q : Nat, q ≠ ad r1 → (H.setIfInBounds (ad r1) (vp_cell c1 (n1, .inl (va_cpy (st r0) (st r1) sp.toNatClampNeg dp.toNatClampNeg n.toNatClampNeg))))[q]? = H[q]? := fun q hq => by simp [Array.getElem?_setIfInBounds, Ne.symm hq]
  obtain ⟨t, a1, b1⟩ := kk _ _ (hM.put hIx (hsome hr1) oq (sh' := sh) (st' := stU st r1 (va_cpy (st r0) (st r1) sp.toNatClampNeg dp.toNatClampNeg n.toNatClampNeg)) (lt' := lt) (fun r' h => ⟨rfl, by unfold stU; exact if_neg h, rfl⟩) (fun x' hx => by
      rw [hr1] at hx
      cases hx
      show (H.setIfInBounds (ad r1) _)[ad r1]? = some (vp_cell c1 (n1, .inl (stU st r1 _ r1)))
      have e2 : ∀ f : Nat → Int32, stU st r1 f r1 = f := fun f => by unfold stU; exact if_pos rfl
      rw [e2]
      simp [Array.getElem?_setIfInBounds, hl])) ⟨by simp; exact hS.1, fun q g1 g2 => by
      rw [oq q (fun e => g2 (by rw [e]; exact hIx.2 r1 (hsome hr1)))]
      exact hS.2.1 q g1 g2, fun q hq => by
      rcases List.mem_append.mp hq with h | h
      · exact hS.2.2 q h
      · obtain ⟨z, -, hz⟩ := List.mem_map.mp h
        rw [← hz]
        exact hIx.2 r1 (hsome hr1)⟩ _ hheap X'
  exact ⟨t, step t a1, b1⟩
end HN
/-- arraycopy over one side's ints -/
def hcp {β : Type} (n0 n1 : Nat) (g : hSt) (r0 : Nat) (sp : Int32) (r1 : Nat) (dp n : Int32) (k : hSt → Option β) : Option β :=
  if sp < 0 ∨ dp < 0 ∨ n < 0 ∨ n0 < sp.toNatClampNeg + n.toNatClampNeg ∨ n1 < dp.toNatClampNeg + n.toNatClampNeg then none else k (fun r => if r = r1 then va_cpy (g r0) (g r1) sp.toNatClampNeg dp.toNatClampNeg n.toNatClampNeg else g r)
theorem stU_l {α : Type} (f g : Nat → Nat → α) (r : Nat) (x : Nat → α) : stU (Sum.elim f g) (.inl r) x = Sum.elim (fun q => if q = r then x else f q) g := by
  funext q
  cases q with
  | inl q => simp [stU]
  | inr q => simp [stU]
theorem hNF : nativeFrameWords "java/lang/System" "arraycopy" 5 = 7 := by decide
theorem hx_copy {p : Program} {l : Launch} {e : Env} {R : Room} {s : State} {m : MethodId} {args : Array Value} {below : List Frame} {meth : Method} {c : Code} {H : Heap} {locs : List Loc} {cells slots : Nat} {Q : State → Prop} {cc : ByteArray} {pc : Nat} {ls : Array Slot} {rest : List Value} {D : va_G} {cl : List vw_C} {A : Nat → Prop} {tys : List (ClassId × FieldType)} {H0 : Heap} {ad : Rl → Nat} {sh : Rl → Option hS} {g t : hSt} {lt : Rl → Nat → Int64} {O : Type} {o : O}
    (hexec : p.tables.exec = Jvm.exec) (hb : c.code = cc) (hml : c.maxLocals = ls.size) {own : String} {index : Nat} (hown : s.vm.findClass own = some m.cls) (hlink : (Cond.methodLink own index arraycopyName).before args s = true) (hnat : (Cond.native arraycopyName).before args s = true) (hstat : (Cond.static arraycopyName).before args s = true) (hini : (Cond.initialized "java/lang/System").before args s = true)
    (hK : va_K D cl tys s) (hM : hW D cl ad sh (Sum.elim g t) lt H) (hIx : hI A ad sh) (hS : va_S A H0 H locs) {r0 r1 n0 n1 : Nat} {c1 : ClassId} (hr0 : sh (.inl r0) = some (.inl (c1, n0, false))) (hr1 : sh (.inl r1) = some (.inl (c1, n1, false))) (ht0 : tys[0]? = some (c1, .int))
    {sp dp n : Int32} {K : hSt → Option O} (hf : hcp n0 n1 g r0 sp r1 dp n K = some o)
    (hframes : 1 ≤ R.frames) (hlocals : (rest.map fun v => v.category).sum + 18 ≤ R.locals) (hdg : decode cc pc = .ok (.invokestatic index, 3))
    (kk : ∀ (g1 : hSt) (H1 : Heap) (locs1 : List Loc), K g1 = some o → hW D cl ad sh (Sum.elim g1 t) lt H1 → va_S A H0 H1 locs1 → W p l e R s m args below meth c H1 locs1 cells slots Q (F0 m (pc + 3) ls rest)) : W p l e R s m args below meth c H locs cells slots Q (F0 m pc ls (.int n :: .int dp :: .ref (ad (.inl r1)) :: .int sp :: .ref (ad (.inl r0)) :: rest)) := by
  obtain ⟨hc, hf⟩ := hif_n hf
  refine hr_copyi hexec hb hml hown hlink hnat hstat hini hK hM hIx hS 0 hr0 hr1 ht0 rfl (fun z => hc (Or.inl z)) (fun z => hc (Or.inr (Or.inl z))) (fun z => hc (Or.inr (Or.inr (Or.inl z)))) (Nat.not_lt.mp fun z => hc (Or.inr (Or.inr (Or.inr (Or.inl z))))) (Nat.not_lt.mp fun z => hc (Or.inr (Or.inr (Or.inr (Or.inr z))))) (fun _ _ => rfl) hframes (by rw [hNF]; exact hlocals) hdg (fun H1 locs1 h1 h2 => kk _ H1 locs1 hf ?_ h2)
  rw [stU_l] at h1
  exact h1
