/-! THE WORLD AS A FUNCTION: cells by role (a role: .inl n of the class under test, .inr n of the reference), their shapes, the ints in them. One store for all of a run. -/
abbrev Rl : Type := Nat ⊕ Nat
/-- a field: an int (none), null, a reference to a role, to an address -/
abbrev hF : Type := Option (Option (Rl ⊕ Nat))
/-- a cell's shape: an array of ints or longs; an array of references; an object -/
abbrev hS : Type := (ClassId × Nat × Bool) ⊕ ((ClassId × Nat × (Nat → Option (Rl ⊕ Nat))) ⊕ (Nat × List hF))
abbrev hSt : Type := Nat → Nat → Int32
abbrev hLt : Type := Nat → Nat → Int64
def hR (ad : Rl → Nat) (q : Rl ⊕ Nat) : Nat := match q with
  | .inl r => ad r
  | .inr a => a
def hV (ad : Rl → Nat) (f : hF) (x : Int32) : Value := match f with
  | none => .int x
  | some none => .null
  | some (some q) => .ref (hR ad q)
def hFs (ad : Rl → Nat) (fs : List hF) (g : Nat → Int32) : List Value := fs.mapIdx (fun k f => hV ad f (g k))
def hE (ad : Rl → Nat) (x : hS) (g : Nat → Int32) (h : Nat → Int64) : va_E := match x with
  | .inl (c, n, false) => .inl (c, n, .inl g)
  | .inl (c, n, true) => .inl (c, n, .inr (.inl h))
  | .inr (.inl (c, n, q)) => .inl (c, n, .inr (.inr (.inr (.inr (fun i => (q i).map (hR ad))))))
  | .inr (.inr (ci, fs)) => .inr (ci, hFs ad fs g)
theorem hFs_get {ad : Rl → Nat} {fs : List hF} {g : Nat → Int32} {k : Nat} {f : hF} (h : fs[k]? = some f) : (hFs ad fs g)[k]? = some (hV ad f (g k)) := by
  unfold hFs
  rw [List.getElem?_mapIdx, h]
  rfl
theorem hFs_len {ad : Rl → Nat} {fs : List hF} {g : Nat → Int32} : (hFs ad fs g).length = fs.length := by unfold hFs; simp
def hW (D : va_G) (cl : List vw_C) (ad : Rl → Nat) (sh : Rl → Option hS) (st : Rl → Nat → Int32) (lt : Rl → Nat → Int64) (H : Heap) : Prop := ∀ (r : Rl) (x : hS), sh r = some x → va_at D cl (ad r, hE ad x (st r) (lt r)) H
def hI (A : Nat → Prop) (ad : Rl → Nat) (sh : Rl → Option hS) : Prop := (∀ r r', sh r ≠ none → sh r' ≠ none → ad r = ad r' → r = r') ∧ ∀ r, sh r ≠ none → A (ad r)
def u2 {α : Type} (f : Nat → Nat → α) (r k : Nat) (x : α) : Nat → Nat → α := fun r' k' => if r' = r then (if k' = k then x else f r k') else f r' k'
def up2 {α : Type} (f : Rl → Nat → α) (r : Rl) (k : Nat) (x : α) : Rl → Nat → α := fun r' k' => if r' = r then (if k' = k then x else f r k') else f r' k'
theorem up2_self {α : Type} (f : Rl → Nat → α) (r : Rl) (k : Nat) (x : α) : up2 f r k x r = fun k' => if k' = k then x else f r k' := by funext k'; simp [up2]
theorem up2_ne {α : Type} (f : Rl → Nat → α) {r r' : Rl} (k : Nat) (x : α) (h : r' ≠ r) : up2 f r k x r' = f r' := by funext k'; simp [up2, h]
theorem up2_l {α : Type} (f g : Nat → Nat → α) (r k : Nat) (x : α) : up2 (Sum.elim f g) (.inl r) k x = Sum.elim (u2 f r k x) g := by
  funext r'
  cases r' with
  | inl q => funext k'; simp [up2, u2]
  | inr q => funext k'; simp [up2]
theorem up2_r {α : Type} (f g : Nat → Nat → α) (r k : Nat) (x : α) : up2 (Sum.elim f g) (.inr r) k x = Sum.elim f (u2 g r k x) := by
  funext r'
  cases r' with
  | inl q => funext k'; simp [up2]
  | inr q => funext k'; simp [up2, u2]
theorem upd_up {f : Nat → Int32} {k : Nat} {x : Int32} : upd f k x = fun k' => if k' = k then x else f k' := by funext k'; simp [upd]
theorem updL_up {f : Nat → Int64} {k : Nat} {x : Int64} : vp_updL f k x = fun k' => if k' = k then x else f k' := by funext k'; simp [vp_updL]
theorem hW.one {D : va_G} {cl : List vw_C} {ad : Rl → Nat} {sh : Rl → Option hS} {st : Rl → Nat → Int32} {lt : Rl → Nat → Int64} {H : Heap} (h : hW D cl ad sh st lt H) {r : Rl} {x : hS} (hr : sh r = some x) : va_P D cl [(ad r, hE ad x (st r) (lt r))] H := by
  intro k q hk
  cases k with
  | zero => cases hk; exact h r x hr
  | succ k => simp at hk
theorem hW.put {D : va_G} {cl : List vw_C} {A : Nat → Prop} {ad : Rl → Nat} {sh sh' : Rl → Option hS} {st st' : Rl → Nat → Int32} {lt lt' : Rl → Nat → Int64} {H H1 : Heap} (h : hW D cl ad sh st lt H) (hi : hI A ad sh) {r : Rl} (hr : sh r ≠ none) (oq : ∀ q : Nat, q ≠ ad r → H1[q]? = H[q]?) (hs : ∀ r', r' ≠ r → sh' r' = sh r' ∧ st' r' = st r' ∧ lt' r' = lt r') (hn : ∀ x', sh' r = some x' → va_at D cl (ad r, hE ad x' (st' r) (lt' r)) H1) : hW D cl ad sh' st' lt' H1 := by
  intro r' x hx
  by_cases e : r' = r
  · subst e; exact hn x hx
  · obtain ⟨h1, h2, h3⟩ := hs r' e
    rw [h2, h3]
    rw [h1] at hx
    exact (h r' x hx).kept (oq _ (fun z => e (hi.1 r' r (by rw [hx]; exact fun q => by cases q) hr z)))
theorem hW.kept {D : va_G} {cl : List vw_C} {ad : Rl → Nat} {sh : Rl → Option hS} {st : Rl → Nat → Int32} {lt : Rl → Nat → Int64} {H H1 : Heap} (h : hW D cl ad sh st lt H) (oq : ∀ q : Nat, q < H.size → H1[q]? = H[q]?) : hW D cl ad sh st lt H1 := fun r x hx => (h r x hx).kept (oq _ (h r x hx).lt)
theorem hW.lt {D : va_G} {cl : List vw_C} {ad : Rl → Nat} {sh : Rl → Option hS} {st : Rl → Nat → Int32} {lt : Rl → Nat → Int64} {H : Heap} (h : hW D cl ad sh st lt H) {r : Rl} (hr : sh r ≠ none) : ad r < H.size := by
  cases hx : sh r with
  | none => exact absurd hx hr
  | some x => exact (h r x hx).lt
theorem hsome {α : Type} {o : Option α} {x : α} (h : o = some x) : o ≠ none := by rw [h]; exact fun z => by cases z
/-- statics and words: closed under what a method does -/
def hZc (A : Nat → Prop) (Z : State → Heap → Prop) : Prop := ∀ (s U : State) (H : Heap), Z s s.heap → (∀ a : Nat, a < s.heap.size → ¬ A a → H[a]? = s.heap[a]?) → s.heap.size ≤ H.size → s.WarmedH U.vm → Z U H
/-- what a method finds at its start -/
def hB (D : va_G) (cl : List vw_C) (tys : List (ClassId × FieldType)) (A : Nat → Prop) (Z : State → Heap → Prop) (ad : Rl → Nat) (sh : Rl → Option hS) (st : Rl → Nat → Int32) (lt : Rl → Nat → Int64) (U : State) : Prop := hW D cl ad sh st lt U.heap ∧ hI A ad sh ∧ va_K D cl tys U ∧ Z U U.heap ∧ ∀ q : Nat, U.heap.size ≤ q → A q
theorem hB_blind {D : va_G} {cl : List vw_C} {tys : List (ClassId × FieldType)} {A : Nat → Prop} {Z : State → Heap → Prop} (hc : hZc A Z) {ad : Rl → Nat} {sh : Rl → Option hS} {st : Rl → Nat → Int32} {lt : Rl → Nat → Int64} {av : List Value} : FrameBlind (va_Pc av (hB D cl tys A Z ad sh st lt)) := by
  intro a U g mk q
  obtain ⟨q0, q1, q2, q3, q4, q5⟩ := q
  exact ⟨q0, q1, q2, va_K.moved (u := U) (U := U.calling g mk a) (Vm.Alike.refl U.vm) q3, hc U (U.calling g mk a) U.heap q4 (fun _ _ _ => rfl) (Nat.le_refl _) (State.WarmedH.refl U), q5⟩
section HC
variable {s : State} {H : Heap} {locs : List Loc} {D : va_G} {cl : List vw_C} {tys : List (ClassId × FieldType)} {A : Nat → Prop} {Z : State → Heap → Prop} {ad : Rl → Nat} {sh : Rl → Option hS} {st : Rl → Nat → Int32} {lt : Rl → Nat → Int64}
theorem hB_call (hc : hZc A Z) (hM : hW D cl ad sh st lt H) (hIx : hI A ad sh) (hK : va_K D cl tys s) (hZ : Z s s.heap) (hA : ∀ q : Nat, s.heap.size ≤ q → A q) (hS : va_S A s.heap H locs) {U : State} (hU : U.heap = H) (hW' : s.WarmedH U.vm) : hB D cl tys A Z ad sh st lt U :=
  ⟨by rw [hU]; exact hM, hIx, va_K.moved hW'.alike hK, by rw [hU]; exact hc s U H hZ hS.2.1 hS.1 hW', fun q hq => hA q (Nat.le_trans (by rw [hU]; exact hS.1) hq)⟩
theorem hr_preS (hc : hZc A Z) (hM : hW D cl ad sh st lt H) (hIx : hI A ad sh) (hK : va_K D cl tys s) (hZ : Z s s.heap) (hA : ∀ q : Nat, s.heap.size ≤ q → A q) (hS : va_S A s.heap H locs) {As : List Value} : PreS s H (va_Pc As (hB D cl tys A Z ad sh st lt)) As := ⟨hB_blind hc, fun _ hU hW' => ⟨rfl, hB_call hc hM hIx hK hZ hA hS hU hW'⟩⟩
theorem hr_recv (hK : va_K D cl tys s) (hM : hW D cl ad sh st lt H) {r : Rl} {ci : Nat} {fs : List hF} (hr : sh r = some (.inr (.inr (ci, fs)))) {q : vw_C} (hc : cl[ci]? = some q) : ∃ cell : Cell, H[ad r]? = some cell ∧ cell.vm.isStatics = false ∧ s.vm.findClass q.1 = some cell.cls := va_recv (q0 := 0) hK (hM.one hr) hc rfl
theorem hr_preV (hc : hZc A Z) (hM : hW D cl ad sh st lt H) (hIx : hI A ad sh) (hK : va_K D cl tys s) (hZ : Z s s.heap) (hA : ∀ q : Nat, s.heap.size ≤ q → A q) (hS : va_S A s.heap H locs) {r : Rl} {ci : Nat} {fs : List hF} (hr : sh r = some (.inr (.inr (ci, fs)))) {q : vw_C} (hcq : cl[ci]? = some q) {As : List Value} : PreV s H q.1 (ad r) (va_Pc (.ref (ad r) :: As) (hB D cl tys A Z ad sh st lt)) As := ⟨hB_blind hc, hr_recv hK hM hr hcq, fun _ hU hW' => ⟨rfl, hB_call hc hM hIx hK hZ hA hS hU hW'⟩⟩
end HC
section HR
variable {p : Program} {l : Launch} {e : Env} {R : Room} {s : State} {m : MethodId} {args : Array Value} {below : List Frame} {meth : Method} {c : Code} {H : Heap} {locs : List Loc} {cells slots : Nat} {Q : State → Prop}
variable {cc : ByteArray} {pc : Nat} {ls : Array Slot} {rest st0 : List Value} {D : va_G} {cl : List vw_C} {A A1 : Nat → Prop} {tys : List (ClassId × FieldType)} {H0 : Heap} {a : Array Value} {mc ms : Nat}
variable {ad : Rl → Nat} {sh sh' : Rl → Option hS} {st st' : Rl → Nat → Int32} {lt lt' : Rl → Nat → Int64}
-- calls: what comes back
theorem hr_calli {v : Int32} (hr : va_Run p l e R s m args below meth c H locs cells slots mc ms (F0 m pc ls st0) rest (va_Qi (fun (r : Int32) (_ : Unit) => r = v) (fun _ t => hW D cl ad sh st lt t.heap) A a) A) (hS : va_S A H0 H locs)
    (kk : ∀ (H1 : Heap) (locs1 : List Loc), hW D cl ad sh st lt H1 → va_S A H0 H1 locs1 → W p l e R s m args below meth c H1 locs1 (cells + mc) (slots + ms) Q (F0 m (pc + 3) ls (.int v :: rest))) : W p l e R s m args below meth c H locs cells slots Q (F0 m pc ls st0) :=
  va_calli hr hS (fun _ _ h => h) (fun _ h => h) (fun r _ t H1 locs1 ht _ hp hb _ _ hS1 => by subst hp; exact kk H1 locs1 (by rw [← ht]; exact hb) hS1)
theorem hr_callv (hr : va_Run p l e R s m args below meth c H locs cells slots mc ms (F0 m pc ls st0) rest (va_Qv (fun (_ : Unit) => True) (fun _ t => hW D cl ad sh st lt t.heap) A a) A) (hS : va_S A H0 H locs)
    (kk : ∀ (H1 : Heap) (locs1 : List Loc), hW D cl ad sh st lt H1 → va_S A H0 H1 locs1 → W p l e R s m args below meth c H1 locs1 (cells + mc) (slots + ms) Q (F0 m (pc + 3) ls rest)) : W p l e R s m args below meth c H locs cells slots Q (F0 m pc ls st0) :=
  va_callv hr hS (fun _ _ h => h) (fun _ h => h) (fun _ t H1 locs1 ht _ _ hb _ _ hS1 => kk H1 locs1 (by rw [← ht]; exact hb) hS1)
-- calls that make cells: addresses come, old roles keep theirs
theorem hr_calliA {v : Int32} {P : (Rl → Nat) → Prop} (hr : va_Run p l e R s m args below meth c H locs cells slots mc ms (F0 m pc ls st0) rest (va_Qi (fun (r : Int32) (ad' : Rl → Nat) => r = v ∧ P ad') (fun ad' t => hW D cl ad' sh st lt t.heap) A a) A) (hS : va_S A H0 H locs)
    (kk : ∀ (ad' : Rl → Nat) (H1 : Heap) (locs1 : List Loc), P ad' → hW D cl ad' sh st lt H1 → va_S A H0 H1 locs1 → W p l e R s m args below meth c H1 locs1 (cells + mc) (slots + ms) Q (F0 m (pc + 3) ls (.int v :: rest))) : W p l e R s m args below meth c H locs cells slots Q (F0 m pc ls st0) :=
  va_calli hr hS (fun _ _ h => h) (fun _ h => h) (fun r u t H1 locs1 ht _ hp hb _ _ hS1 => by obtain ⟨rfl, hp⟩ := hp; exact kk u H1 locs1 hp (by rw [← ht]; exact hb) hS1)
theorem hr_callvA {P : (Rl → Nat) → Prop} (hr : va_Run p l e R s m args below meth c H locs cells slots mc ms (F0 m pc ls st0) rest (va_Qv (fun (ad' : Rl → Nat) => P ad') (fun ad' t => hW D cl ad' sh st lt t.heap) A a) A) (hS : va_S A H0 H locs)
    (kk : ∀ (ad' : Rl → Nat) (H1 : Heap) (locs1 : List Loc), P ad' → hW D cl ad' sh st lt H1 → va_S A H0 H1 locs1 → W p l e R s m args below meth c H1 locs1 (cells + mc) (slots + ms) Q (F0 m (pc + 3) ls rest)) : W p l e R s m args below meth c H locs cells slots Q (F0 m pc ls st0) :=
  va_callv hr hS (fun _ _ h => h) (fun _ h => h) (fun u t H1 locs1 ht _ hp hb _ _ hS1 => kk u H1 locs1 hp (by rw [← ht]; exact hb) hS1)
-- fields
theorem hr_get (hexec : p.tables.exec = Jvm.exec) (hb : c.code = cc) {own C : String} {T : u_T} {N ci index : Nat} {Ts : List Cond} (hts : ∀ w ∈ Ts, w.before args s = true) (hin : ∀ w ∈ u_ws C T N, w ∈ Ts) (hown : s.vm.findClass own = some m.cls) (hK : va_K D cl tys s) (hM : hW D cl ad sh st lt H) {r : Rl} {fs : List hF} (hr : sh r = some (.inr (.inr (ci, fs)))) (hc : cl[ci]? = some (C, T, N)) (k : Nat) (hk : k < N) (hlink : (Cond.fieldLink own index (T k).1 (T k).2.1 (T k).2.2.1).before args s = true) {f : hF} (hf : fs[k]? = some f) {v : Value} (hv : hV ad f (st r k) = v) (hdg : decode cc pc = .ok (.getfield index, 3))
    (kk : W p l e R s m args below meth c H locs cells slots Q (F0 m (pc + 3) ls (v :: rest))) : W p l e R s m args below meth c H locs cells slots Q (F0 m pc ls (.ref (ad r) :: rest)) :=
  va_get hexec hb hts hin hown hK (hM.one hr) 0 rfl hc k hk hlink (fun _ h => h) (v := v) (by rw [hFs_get hf, hv]) hdg kk
theorem hr_getN (hexec : p.tables.exec = Jvm.exec) (hb : c.code = cc) {own C host : String} {T : u_T} {N ci index : Nat} {Ts : List Cond} (hts : ∀ w ∈ Ts, w.before args s = true) (hin : ∀ w ∈ u_ws C T N, w ∈ Ts) (hown : s.vm.findClass own = some m.cls) (hK : va_K D cl tys s) (hM : hW D cl ad sh st lt H) {r : Rl} {fs : List hF} (hr : sh r = some (.inr (.inr (ci, fs)))) (hc : cl[ci]? = some (C, T, N)) (k : Nat) (hk : k < N) (hlink : va_Nw (.fieldLinkNest own index (T k).1 (T k).2.1 (T k).2.2.1 host) s) {f : hF} (hf : fs[k]? = some f) {v : Value} (hv : hV ad f (st r k) = v) (hdg : decode cc pc = .ok (.getfield index, 3))
    (kk : W p l e R s m args below meth c H locs cells slots Q (F0 m (pc + 3) ls (v :: rest))) : W p l e R s m args below meth c H locs cells slots Q (F0 m pc ls (.ref (ad r) :: rest)) :=
  va_getN hexec hb hts hin hown hK (hM.one hr) 0 rfl hc k hk (va_Nw.use rfl hlink) (fun _ h => h) (v := v) (by rw [hFs_get hf, hv]) hdg kk
theorem hFs_set {ad : Rl → Nat} {fs : List hF} {g : Nat → Int32} {k : Nat} {x : Int32} (h : fs[k]? = some none) : ∀ j, vp_V (hFs ad fs (fun k' => if k' = k then x else g k')) j = updV (vp_V (hFs ad fs g)) k (.int x) j := by
  intro j
  have hk : k < fs.length := (List.getElem?_eq_some_iff.mp h).1
  by_cases e : j = k
  · subst e
    have : (hFs ad fs (fun k' => if k' = j then x else g k'))[j]? = some (.int x) := by rw [hFs_get h]; simp [hV]
    simp [vp_V, updV, this]
  · by_cases hj : j < fs.length
    · have e1 : fs[j]? = some fs[j] := List.getElem?_eq_getElem hj
      simp [vp_V, updV, e, hFs_get e1]
    · have h1 : ∀ g', (hFs ad fs g')[j]? = none := fun g' => by rw [List.getElem?_eq_none_iff, hFs_len]; omega
      simp [vp_V, updV, e, h1]
theorem hFs_setR {ad : Rl → Nat} {fs : List hF} {g : Nat → Int32} {k : Nat} {f : hF} (hk : k < fs.length) : ∀ j, vp_V (hFs ad (fs.set k f) g) j = updV (vp_V (hFs ad fs g)) k (hV ad f (g k)) j := by
  intro j
  by_cases e : j = k
  · subst e
    have : (hFs ad (fs.set j f) g)[j]? = some (hV ad f (g j)) := hFs_get (by rw [List.getElem?_set_self hk])
    simp [vp_V, updV, this]
  · by_cases hj : j < fs.length
    · have e1 : fs[j]? = some fs[j] := List.getElem?_eq_getElem hj
      have e2 : (fs.set k f)[j]? = some fs[j] := by rw [List.getElem?_set_ne (Ne.symm e)]; exact e1
      simp [vp_V, updV, e, hFs_get e1, hFs_get e2]
    · have h1 : ∀ fs' : List hF, fs'.length = fs.length → (hFs ad fs' g)[j]? = none := fun fs' h' => by rw [List.getElem?_eq_none_iff, hFs_len]; omega
      simp [vp_V, updV, e, h1 fs rfl, h1 (fs.set k f) (by simp)]
/-- the new world behind a store into an object -/
theorem hW.obj (hM : hW D cl ad sh st lt H) (hIx : hI A ad sh) {r : Rl} {ci k : Nat} {fs : List hF} (hr : sh r = some (.inr (.inr (ci, fs)))) {q : vw_C} (hc : cl[ci]? = some q) {H1 : Heap} (o3 : ∀ x : Nat, x ≠ ad r → H1[x]? = H[x]?) {x : Int32} (hf : fs[k]? = some none) (h1 : t_OB (ad r) (D.1 ci) q.2.2 (D.2 ci) H1 (updV (vp_V (hFs ad fs (st r))) k (.int x))) : hW D cl ad sh (up2 st r k x) lt H1 := by
  refine hM.put hIx (hsome hr) o3 (fun r' n => ⟨rfl, up2_ne st k x n, rfl⟩) (fun x' hx => ?_)
  rw [hr] at hx
  cases hx
  refine ⟨q, hc, ?_⟩
  rw [up2_self]
  exact h1.to (fun j _ => (hFs_set hf j).symm)
theorem hr_put (hexec : p.tables.exec = Jvm.exec) (hb : c.code = cc) {own C : String} {T : u_T} {N ci index : Nat} {Ts : List Cond} (hts : ∀ w ∈ Ts, w.before args s = true) (hin : ∀ w ∈ u_ws C T N, w ∈ Ts) (ty0 : Nat → FieldType) (hty : ∀ k, k < N → parseFieldDescriptor (T k).2.2.1 = some (ty0 k)) (hnm : ∀ a, a < N → ∀ b, b < N → a ≠ b → (T a).2.1 ≠ (T b).2.1) (hown : s.vm.findClass own = some m.cls) (hK : va_K D cl tys s) (hM : hW D cl ad sh st lt H) (hIx : hI A ad sh) (hS0 : va_S A H0 H locs) {r : Rl} {fs : List hF} (hr : sh r = some (.inr (.inr (ci, fs)))) (hc : cl[ci]? = some (C, T, N)) (k : Nat) (hk : k < N) (hlink : (Cond.fieldLink own index (T k).1 (T k).2.1 (T k).2.2.1).before args s = true) (hfin : (T k).2.2.2 = false) {ty : FieldType} {x : Int32} (hd : parseFieldDescriptor (T k).2.2.1 = some ty) (hn : narrow ty (.int x) = .int x) (hfit : fits ty (.int x) = true) (hf : fs[k]? = some none)
    (hdg : decode cc pc = .ok (.putfield index, 3)) (kk : ∀ (H1 : Heap) (locs1 : List Loc), hW D cl ad sh (up2 st r k x) lt H1 → va_S A H0 H1 locs1 → W p l e R s m args below meth c H1 locs1 cells slots Q (F0 m (pc + 3) ls rest)) : W p l e R s m args below meth c H locs cells slots Q (F0 m pc ls (.int x :: .ref (ad r) :: rest)) := by
  have hap := va_apart (own := own) hts hin ty0 hty hnm hK hc
  obtain ⟨r0, h1, cell, q1, q2, q3, q4⟩ := (hM.one hr) 0 _ rfl
  have hr0 : r0 = (C, T, N) := Option.some.inj (h1.symm.trans hc)
  subst hr0
  obtain ⟨hS, hfc, kC, hkC, hkind⟩ := hK.1 ci _ hc
  obtain ⟨cf, kf, fi, f, hi, hsl⟩ := hS k hk
  have hlay := hts _ (hin _ (u_in_lay hk))
  unfold u_lay at hlay
  rw [if_neg (by rw [hfin]; decide)] at hlay
  have hst := (u_facts hfc hkC (u_lays hts hin hk) hi).1
  have h6 := u_store hfc hkC hkind hlay hi hd hn hfit
  refine W.putK hexec hb (f := f) ⟨hown, hlink, ⟨_, _, _, hi⟩, hst⟩ (by rw [q2]; exact h6) q1 q3 (by rw [hsl]; exact k2_hasslot (q4 k hk)) rfl rfl hdg fun H' e1 e2 e3 => ?_
  rw [hsl] at e1 ⊢
  exact kk H' _ (hM.obj hIx hr hc e3 hf ⟨_, e1, q2, q3, t_set q4 hap hk (.int x)⟩) (hS0.put e2 e3 (hIx.2 r (hsome hr)))
theorem hr_putN (hexec : p.tables.exec = Jvm.exec) (hb : c.code = cc) {own C host : String} {T : u_T} {N ci index : Nat} {Ts : List Cond} (hts : ∀ w ∈ Ts, w.before args s = true) (hin : ∀ w ∈ u_ws C T N, w ∈ Ts) (ty0 : Nat → FieldType) (hty : ∀ k, k < N → parseFieldDescriptor (T k).2.2.1 = some (ty0 k)) (hnm : ∀ a, a < N → ∀ b, b < N → a ≠ b → (T a).2.1 ≠ (T b).2.1) (hown : s.vm.findClass own = some m.cls) (hK : va_K D cl tys s) (hM : hW D cl ad sh st lt H) (hIx : hI A ad sh) (hS0 : va_S A H0 H locs) {r : Rl} {fs : List hF} (hr : sh r = some (.inr (.inr (ci, fs)))) (hc : cl[ci]? = some (C, T, N)) (k : Nat) (hk : k < N) (hlink : va_Nw (.fieldLinkNest own index (T k).1 (T k).2.1 (T k).2.2.1 host) s) (hfin : (T k).2.2.2 = false) {ty : FieldType} {x : Int32} (hd : parseFieldDescriptor (T k).2.2.1 = some ty) (hn : narrow ty (.int x) = .int x) (hfit : fits ty (.int x) = true) (hf : fs[k]? = some none)
    (hdg : decode cc pc = .ok (.putfield index, 3)) (kk : ∀ (H1 : Heap) (locs1 : List Loc), hW D cl ad sh (up2 st r k x) lt H1 → va_S A H0 H1 locs1 → W p l e R s m args below meth c H1 locs1 cells slots Q (F0 m (pc + 3) ls rest)) : W p l e R s m args below meth c H locs cells slots Q (F0 m pc ls (.int x :: .ref (ad r) :: rest)) := by
  have hap := va_apart (own := own) hts hin ty0 hty hnm hK hc
  obtain ⟨r0, h1, cell, q1, q2, q3, q4⟩ := (hM.one hr) 0 _ rfl
  have hr0 : r0 = (C, T, N) := Option.some.inj (h1.symm.trans hc)
  subst hr0
  obtain ⟨hS, hfc, kC, hkC, hkind⟩ := hK.1 ci _ hc
  obtain ⟨cf, kf, fi, f, hi, hsl⟩ := hS k hk
  have hlay := hts _ (hin _ (u_in_lay hk))
  unfold u_lay at hlay
  rw [if_neg (by rw [hfin]; decide)] at hlay
  have hst := (u_facts hfc hkC (u_lays hts hin hk) hi).1
  have h6 := u_store hfc hkC hkind hlay hi hd hn hfit
  refine va_WputK hexec hb (f := f) hown (va_Nw.use rfl hlink) hi hst (by rw [q2]; exact h6) q1 q3 (by rw [hsl]; exact k2_hasslot (q4 k hk)) rfl rfl hdg fun H' e1 e2 e3 => ?_
  rw [hsl] at e1 ⊢
  exact kk H' _ (hM.obj hIx hr hc e3 hf ⟨_, e1, q2, q3, t_set q4 hap hk (.int x)⟩) (hS0.put e2 e3 (hIx.2 r (hsome hr)))
-- arrays
theorem hr_iald (hexec : p.tables.exec = Jvm.exec) (hb : c.code = cc) (hK : va_K D cl tys s) (hM : hW D cl ad sh st lt H) (t0 : Nat) {r : Rl} {cA : ClassId} {n : Nat} (hr : sh r = some (.inl (cA, n, false))) (ht : tys[t0]? = some (cA, .int)) {i : Int32} (hin : ¬ (i < 0 ∨ n ≤ i.toNatClampNeg)) (hdg : decode cc pc = .ok (.iaload, 1))
    (kk : W p l e R s m args below meth c H locs cells slots Q (F0 m (pc + 1) ls (.int (st r i.toNatClampNeg) :: rest))) : W p l e R s m args below meth c H locs cells slots Q (F0 m pc ls (.int i :: .ref (ad r) :: rest)) := va_iald hexec hb hK (hM.one hr) 0 t0 rfl ht hin hdg kk
theorem hr_bald (hexec : p.tables.exec = Jvm.exec) (hb : c.code = cc) (hK : va_K D cl tys s) (hM : hW D cl ad sh st lt H) (t0 : Nat) {r : Rl} {cA : ClassId} {n : Nat} (hr : sh r = some (.inl (cA, n, false))) (ht : tys[t0]? = some (cA, .byte)) {i : Int32} (hin : ¬ (i < 0 ∨ n ≤ i.toNatClampNeg)) (hdg : decode cc pc = .ok (.baload, 1))
    (kk : W p l e R s m args below meth c H locs cells slots Q (F0 m (pc + 1) ls (.int (st r i.toNatClampNeg) :: rest))) : W p l e R s m args below meth c H locs cells slots Q (F0 m pc ls (.int i :: .ref (ad r) :: rest)) := va_bald hexec hb hK (hM.one hr) 0 t0 rfl ht hin hdg kk
theorem hr_zald (hexec : p.tables.exec = Jvm.exec) (hb : c.code = cc) (hK : va_K D cl tys s) (hM : hW D cl ad sh st lt H) (t0 : Nat) {r : Rl} {cA : ClassId} {n : Nat} (hr : sh r = some (.inl (cA, n, false))) (ht : tys[t0]? = some (cA, .boolean)) {i : Int32} (hin : ¬ (i < 0 ∨ n ≤ i.toNatClampNeg)) (hdg : decode cc pc = .ok (.baload, 1))
    (kk : W p l e R s m args below meth c H locs cells slots Q (F0 m (pc + 1) ls (.int (st r i.toNatClampNeg) :: rest))) : W p l e R s m args below meth c H locs cells slots Q (F0 m pc ls (.int i :: .ref (ad r) :: rest)) := va_zald hexec hb hK (hM.one hr) 0 t0 rfl ht hin hdg kk
theorem hr_lald (hexec : p.tables.exec = Jvm.exec) (hb : c.code = cc) (hK : va_K D cl tys s) (hM : hW D cl ad sh st lt H) (t0 : Nat) {r : Rl} {cA : ClassId} {n : Nat} (hr : sh r = some (.inl (cA, n, true))) (ht : tys[t0]? = some (cA, .long)) {i : Int32} (hin : ¬ (i < 0 ∨ n ≤ i.toNatClampNeg)) (hdg : decode cc pc = .ok (.laload, 1))
    (kk : W p l e R s m args below meth c H locs cells slots Q (F0 m (pc + 1) ls (.long (lt r i.toNatClampNeg) :: rest))) : W p l e R s m args below meth c H locs cells slots Q (F0 m pc ls (.int i :: .ref (ad r) :: rest)) := va_lald hexec hb hK (hM.one hr) 0 t0 rfl ht hin hdg kk
theorem hr_aald (hexec : p.tables.exec = Jvm.exec) (hb : c.code = cc) (hK : va_K D cl tys s) (hM : hW D cl ad sh st lt H) (t0 : Nat) {r : Rl} {cA : ClassId} {C : String} {n : Nat} {g : Nat → Option (Rl ⊕ Nat)} (hr : sh r = some (.inr (.inl (cA, n, g)))) (ht : tys[t0]? = some (cA, .object C)) {i : Int32} (hin : ¬ (i < 0 ∨ n ≤ i.toNatClampNeg)) {v : Value} (hv : va_rf ((g i.toNatClampNeg).map (hR ad)) = v) (hdg : decode cc pc = .ok (.aaload, 1))
    (kk : W p l e R s m args below meth c H locs cells slots Q (F0 m (pc + 1) ls (v :: rest))) : W p l e R s m args below meth c H locs cells slots Q (F0 m pc ls (.int i :: .ref (ad r) :: rest)) := va_aldq hexec hb hK (hM.one hr) 0 t0 rfl ht hin hdg (by rw [hv]; exact kk)
theorem hr_alen (hexec : p.tables.exec = Jvm.exec) (hb : c.code = cc) (hK : va_K D cl tys s) (hM : hW D cl ad sh st lt H) (t0 : Nat) {r : Rl} {cA : ClassId} {n : Nat} {b : Bool} (hr : sh r = some (.inl (cA, n, b))) {ty : FieldType} (ht : tys[t0]? = some (cA, ty)) {v : Int32} (hv : Int32.ofNat n = v) (hdg : decode cc pc = .ok (.arraylength, 1))
    (kk : W p l e R s m args below meth c H locs cells slots Q (F0 m (pc + 1) ls (.int v :: rest))) : W p l e R s m args below meth c H locs cells slots Q (F0 m pc ls (.ref (ad r) :: rest)) := by
  cases b with
  | false => exact va_alen hexec hb hK (hM.one hr) 0 t0 (x := (n, .inl (st r))) rfl ht hv hdg kk
  | true => exact va_alen hexec hb hK (hM.one hr) 0 t0 (x := (n, .inr (.inl (lt r)))) rfl ht hv hdg kk
theorem hr_alenq (hexec : p.tables.exec = Jvm.exec) (hb : c.code = cc) (hK : va_K D cl tys s) (hM : hW D cl ad sh st lt H) (t0 : Nat) {r : Rl} {cA : ClassId} {n : Nat} {g : Nat → Option (Rl ⊕ Nat)} (hr : sh r = some (.inr (.inl (cA, n, g)))) {ty : FieldType} (ht : tys[t0]? = some (cA, ty)) {v : Int32} (hv : Int32.ofNat n = v) (hdg : decode cc pc = .ok (.arraylength, 1))
    (kk : W p l e R s m args below meth c H locs cells slots Q (F0 m (pc + 1) ls (.int v :: rest))) : W p l e R s m args below meth c H locs cells slots Q (F0 m pc ls (.ref (ad r) :: rest)) :=
  va_alen hexec hb hK (hM.one hr) 0 t0 (x := (n, .inr (.inr (.inr (.inr (fun i => (g i).map (hR ad))))))) rfl ht hv hdg kk
/-- the new world behind a store into an array of ints -/
theorem hW.arr (hM : hW D cl ad sh st lt H) (hIx : hI A ad sh) {r : Rl} {cA : ClassId} {n k : Nat} (hr : sh r = some (.inl (cA, n, false))) {H1 : Heap} (o3 : ∀ x : Nat, x ≠ ad r → H1[x]? = H[x]?) {x : Int32} (h1 : H1[ad r]? = some (vp_cell cA (n, .inl (upd (st r) k x)))) : hW D cl ad sh (up2 st r k x) lt H1 := by
  refine hM.put hIx (hsome hr) o3 (fun r' q => ⟨rfl, up2_ne st k x q, rfl⟩) (fun x' hx => ?_)
  rw [hr] at hx
  cases hx
  show H1[ad r]? = some (vp_cell cA (n, .inl (up2 st r k x r)))
  rw [up2_self, ← upd_up]
  exact h1
theorem hW.arrL (hM : hW D cl ad sh st lt H) (hIx : hI A ad sh) {r : Rl} {cA : ClassId} {n k : Nat} (hr : sh r = some (.inl (cA, n, true))) {H1 : Heap} (o3 : ∀ x : Nat, x ≠ ad r → H1[x]? = H[x]?) {x : Int64} (h1 : H1[ad r]? = some (vp_cell cA (n, .inr (.inl (vp_updL (lt r) k x))))) : hW D cl ad sh st (up2 lt r k x) H1 := by
  refine hM.put hIx (hsome hr) o3 (fun r' q => ⟨rfl, rfl, up2_ne lt k x q⟩) (fun x' hx => ?_)
  rw [hr] at hx
  cases hx
  show H1[ad r]? = some (vp_cell cA (n, .inr (.inl (up2 lt r k x r))))
  rw [up2_self, ← updL_up]
  exact h1
theorem hr_iast (hexec : p.tables.exec = Jvm.exec) (hb : c.code = cc) (hK : va_K D cl tys s) (hM : hW D cl ad sh st lt H) (hIx : hI A ad sh) (hS : va_S A H0 H locs) (t0 : Nat) {r : Rl} {cA : ClassId} {n : Nat} (hr : sh r = some (.inl (cA, n, false))) (ht : tys[t0]? = some (cA, .int)) {i x : Int32} (hin : ¬ (i < 0 ∨ n ≤ i.toNatClampNeg)) (hdg : decode cc pc = .ok (.iastore, 1))
    (kk : ∀ (H1 : Heap) (locs1 : List Loc), hW D cl ad sh (up2 st r i.toNatClampNeg x) lt H1 → va_S A H0 H1 locs1 → W p l e R s m args below meth c H1 locs1 cells slots Q (F0 m (pc + 1) ls rest)) : W p l e R s m args below meth c H locs cells slots Q (F0 m pc ls (.int x :: .int i :: .ref (ad r) :: rest)) := by
  refine W.iast hexec hb ((hM.one hr) 0 _ rfl) ((hK.2 t0 _ ht).1 n (fun j => .int (st r j))) (fun q => by cases q) (by show ¬ (i < 0 ∨ (arrV _ _ _).slots.size ≤ _); rw [arrV_size]; exact hin) rfl rfl hdg fun H1 e z oq => ?_
  refine kk H1 _ (hM.arr hIx hr oq ?_) (hS.put z oq (hIx.2 r (hsome hr)))
  rw [e]
  show some ((vp_cell cA (n, .inl (st r))).setSlot _ _) = _
  rw [vp_cell_i, vp_cell_i, arrV_store]
  congr 2
  funext q
  by_cases hq : q = i.toNatClampNeg
  · subst hq
    simp [updV, upd]
  · simp [updV, upd, hq]
theorem hr_bast (hexec : p.tables.exec = Jvm.exec) (hb : c.code = cc) (hK : va_K D cl tys s) (hM : hW D cl ad sh st lt H) (hIx : hI A ad sh) (hS : va_S A H0 H locs) (t0 : Nat) {r : Rl} {cA : ClassId} {n : Nat} (hr : sh r = some (.inl (cA, n, false))) (ht : tys[t0]? = some (cA, .byte)) {i x : Int32} (hin : ¬ (i < 0 ∨ n ≤ i.toNatClampNeg)) (hdg : decode cc pc = .ok (.bastore, 1))
    (kk : ∀ (H1 : Heap) (locs1 : List Loc), hW D cl ad sh (up2 st r i.toNatClampNeg (vp_nar .byte x)) lt H1 → va_S A H0 H1 locs1 → W p l e R s m args below meth c H1 locs1 cells slots Q (F0 m (pc + 1) ls rest)) : W p l e R s m args below meth c H locs cells slots Q (F0 m pc ls (.int x :: .int i :: .ref (ad r) :: rest)) := by
  refine W.bast hexec hb ((hM.one hr) 0 _ rfl) ((hK.2 t0 _ ht).1 n (fun j => .int (st r j))) (fun q => by cases q) (by show ¬ (i < 0 ∨ (arrV _ _ _).slots.size ≤ _); rw [arrV_size]; exact hin) rfl rfl hdg fun H1 e z oq => ?_
  refine kk H1 _ (hM.arr hIx hr oq ?_) (hS.put z oq (hIx.2 r (hsome hr)))
  rw [e]
  show some ((vp_cell cA (n, .inl (st r))).setSlot _ _) = _
  rw [vp_cell_i, vp_cell_i, arrV_store]
  congr 2
  funext q
  by_cases hq : q = i.toNatClampNeg
  · subst hq
    simp [updV, upd, vp_nar]
    try rfl
  · simp [updV, upd, hq]
theorem hr_zast (hexec : p.tables.exec = Jvm.exec) (hb : c.code = cc) (hK : va_K D cl tys s) (hM : hW D cl ad sh st lt H) (hIx : hI A ad sh) (hS : va_S A H0 H locs) (t0 : Nat) {r : Rl} {cA : ClassId} {n : Nat} (hr : sh r = some (.inl (cA, n, false))) (ht : tys[t0]? = some (cA, .boolean)) {i x : Int32} (hin : ¬ (i < 0 ∨ n ≤ i.toNatClampNeg)) (hdg : decode cc pc = .ok (.bastore, 1))
    (kk : ∀ (H1 : Heap) (locs1 : List Loc), hW D cl ad sh (up2 st r i.toNatClampNeg (vp_nar .boolean x)) lt H1 → va_S A H0 H1 locs1 → W p l e R s m args below meth c H1 locs1 cells slots Q (F0 m (pc + 1) ls rest)) : W p l e R s m args below meth c H locs cells slots Q (F0 m pc ls (.int x :: .int i :: .ref (ad r) :: rest)) := by
  refine W.zast hexec hb ((hM.one hr) 0 _ rfl) ((hK.2 t0 _ ht).1 n (fun j => .int (st r j))) (fun q => by cases q) (by show ¬ (i < 0 ∨ (arrV _ _ _).slots.size ≤ _); rw [arrV_size]; exact hin) rfl rfl hdg fun H1 e z oq => ?_
  refine kk H1 _ (hM.arr hIx hr oq ?_) (hS.put z oq (hIx.2 r (hsome hr)))
  rw [e]
  show some ((vp_cell cA (n, .inl (st r))).setSlot _ _) = _
  rw [vp_cell_i, vp_cell_i, arrV_store]
  congr 2
  funext q
  by_cases hq : q = i.toNatClampNeg
  · subst hq
    simp [updV, upd, vp_nar]
    try rfl
  · simp [updV, upd, hq]
theorem hr_last (hexec : p.tables.exec = Jvm.exec) (hb : c.code = cc) (hK : va_K D cl tys s) (hM : hW D cl ad sh st lt H) (hIx : hI A ad sh) (hS : va_S A H0 H locs) (t0 : Nat) {r : Rl} {cA : ClassId} {n : Nat} (hr : sh r = some (.inl (cA, n, true))) (ht : tys[t0]? = some (cA, .long)) {i : Int32} {x : Int64} (hin : ¬ (i < 0 ∨ n ≤ i.toNatClampNeg)) (hdg : decode cc pc = .ok (.lastore, 1))
    (kk : ∀ (H1 : Heap) (locs1 : List Loc), hW D cl ad sh st (up2 lt r i.toNatClampNeg x) H1 → va_S A H0 H1 locs1 → W p l e R s m args below meth c H1 locs1 cells slots Q (F0 m (pc + 1) ls rest)) : W p l e R s m args below meth c H locs cells slots Q (F0 m pc ls (.long x :: .int i :: .ref (ad r) :: rest)) := by
  refine W.last hexec hb ((hM.one hr) 0 _ rfl) ((hK.2 t0 _ ht).1 n (fun j => .long (lt r j))) (fun q => by cases q) (by show ¬ (i < 0 ∨ (arrV _ _ _).slots.size ≤ _); rw [arrV_size]; exact hin) rfl rfl hdg fun H1 e z oq => ?_
  refine kk H1 _ (hM.arrL hIx hr oq ?_) (hS.put z oq (hIx.2 r (hsome hr)))
  rw [e]
  show some ((vp_cell cA (n, .inr (.inl (lt r)))).setSlot _ _) = _
  rw [vp_cell_l, vp_cell_l, arrV_store]
  congr 2
  funext q
  by_cases hq : q = i.toNatClampNeg
  · subst hq
    simp [updV, vp_updL]
  · simp [updV, vp_updL, hq]
end HR
