set_option maxRecDepth 100000
/-! ArrayList: add, remove (a list at b, its array at b + 1) -/
theorem hW.ren2 {D : va_G} {cl : List vw_C} {ad : Rl → Nat} {sh sh' : Rl → Option hS} {st st' : Rl → Nat → Int32} {lt lt' : Rl → Nat → Int64} {H : Heap} (f : Rl → Rl) (h : hW D cl ad sh st lt H) (hx : ∀ r x', sh' r = some x' → ∃ x, sh (f r) = some x ∧ hE (fun q => ad (f q)) x' (st' r) (lt' r) = hE ad x (st (f r)) (lt (f r))) : hW D cl (fun q => ad (f q)) sh' st' lt' H := by
  intro r x' hr
  obtain ⟨x, h1, h2⟩ := hx r x' hr
  rw [h2]
  exact h (f r) x h1
/-- an object that any list may hold -/
def hEl (sh : Rl → Option hS) (z : Rl) : Prop := ∃ (ci : Nat) (fs : List hF) (q : vw_C), sh z = some (.inr (.inr (ci, fs))) ∧ vwCl[ci]? = some q ∧ Cond.castable q.1 "java/lang/Object" ∈ lw_tbl
theorem hEl.any {sh : Rl → Option hS} {z : Rl} (h : hEl sh z) {a0 : Array Value} {s0 s : State} {C : Nat → Nat} {D : va_G} {ad : Rl → Nat} {st : Rl → Nat → Int32} {lt : Rl → Nat → Int64} {H : Heap} (hK : va_K D vwCl (hT C) s) (hZ0 : hZ a0 s0 s s.heap) (hM : hW D vwCl ad sh st lt H) : va_Any "java/lang/Object" s H (ad z) := by
  obtain ⟨ci, fs, q, h1, h2, h3⟩ := h
  exact va_rAny hK (hM.one h1) (q0 := 0) rfl h2 (vb_asgC (hZ_nest hZ0 h3 rfl))
theorem hEl.mono {sh sh' : Rl → Option hS} {z : Rl} (h : hEl sh z) (e : sh' z = sh z) : hEl sh' z := by
  obtain ⟨ci, fs, q, h1, h2, h3⟩ := h
  exact ⟨ci, fs, q, e.trans h1, h2, h3⟩
theorem hEl.al {sh : Rl → Option hS} {z : Rl} (h : hEl sh z) : sh z ≠ none := by
  obtain ⟨ci, fs, q, h1, h2, h3⟩ := h
  exact hsome h1
section HCQ
variable {p : Program} {l : Launch} {e : Env} {R : Room} {s : State} {m : MethodId} {args : Array Value} {below : List Frame} {meth : Method} {c : Code} {H : Heap} {locs : List Loc} {cells slots : Nat} {Q : State → Prop}
variable {cc : ByteArray} {pc : Nat} {ls : Array Slot} {rest st0 : List Value} {D : va_G} {cl : List vw_C} {A A1 : Nat → Prop} {tys : List (ClassId × FieldType)} {H0 : Heap} {a : Array Value} {mc ms : Nat}
variable {ad : Rl → Nat} {sh sh' : Rl → Option hS} {st st' : Rl → Nat → Int32} {lt lt' : Rl → Nat → Int64}
/-- System.arraycopy of references into a new array -/
theorem hr_copyq (hexec : p.tables.exec = Jvm.exec) (hb : c.code = cc) (hml : c.maxLocals = ls.size) {own : String} {index : Nat} (hown : s.vm.findClass own = some m.cls) (hlink : (Cond.methodLink own index arraycopyName).before args s = true) (hnat : (Cond.native arraycopyName).before args s = true) (hstat : (Cond.static arraycopyName).before args s = true) (hini : (Cond.initialized "java/lang/System").before args s = true)
    (hK : va_K D cl tys s) (hM : hW D cl ad sh st lt H) (hIx : hI A ad sh) (hok : hOK sh) (hS : va_S A H0 H locs) (t0 : Nat) {r0 r1 : Rl} {c1 : ClassId} {n0 n1 : Nat} {E : String} {f g : Nat → Option (Rl ⊕ Nat)} (hr0 : sh r0 = some (.inr (.inl (c1, n0, f)))) (hr1 : sh r1 = some (.inr (.inl (c1, n1, g)))) (ht0 : tys[t0]? = some (c1, .object E))
    {sp dp n : Int32} (h1 : ¬ sp < 0) (h2 : ¬ dp < 0) (h3 : ¬ n < 0) (h4 : sp.toNatClampNeg + n.toNatClampNeg ≤ n0) (h5 : dp.toNatClampNeg + n.toNatClampNeg ≤ n1) (hel : ∀ i, i < n.toNatClampNeg → ∀ y, f (sp.toNatClampNeg + i) = some y → va_Any E s H (hR ad y))
    (hframes : 1 ≤ R.frames) (hlocals : (rest.map fun v => v.category).sum + (nativeFrameWords "java/lang/System" "arraycopy" 5 + 11) ≤ R.locals) (hdg : decode cc pc = .ok (.invokestatic index, 3))
    (kk : ∀ (H1 : Heap) (locs1 : List Loc), hW D cl ad (shU sh r1 (.inr (.inl (c1, n1, va_cpy f g sp.toNatClampNeg dp.toNatClampNeg n.toNatClampNeg)))) st lt H1 → hI A ad (shU sh r1 (.inr (.inl (c1, n1, va_cpy f g sp.toNatClampNeg dp.toNatClampNeg n.toNatClampNeg)))) → hOK (shU sh r1 (.inr (.inl (c1, n1, va_cpy f g sp.toNatClampNeg dp.toNatClampNeg n.toNatClampNeg)))) → va_S A H0 H1 locs1 → W p l e R s m args below meth c H1 locs1 cells slots Q (F0 m (pc + 3) ls rest)) : W p l e R s m args below meth c H locs cells slots Q (F0 m pc ls (.int n :: .int dp :: .ref (ad r1) :: .int sp :: .ref (ad r0) :: rest)) := by
  have nn : ∀ z : Int32, ¬ z < 0 → z.toInt = (z.toNatClampNeg : Int) := by
    intro z hz
    have hz0 : (0 : Int) ≤ z.toInt := by
      have := Int32.not_lt.mp hz
      simpa using Int32.le_iff_toInt_le.mp this
    show z.toInt = ((z.toInt.toNat : Nat) : Int)
    omega
  intro T hT X
  obtain ⟨F, hF⟩ : ∃ F : Nat → Option Nat, F = fun i => (f i).map (hR ad) := ⟨_, rfl⟩
  obtain ⟨G, hG⟩ : ∃ G : Nat → Option Nat, G = fun i => (g i).map (hR ad) := ⟨_, rfl⟩
  have hc0 : H[ad r0]? = some (vp_cell c1 (n0, .inr (.inr (.inr (.inr F))))) := by rw [hF]; exact (hM.one hr0) 0 _ rfl
  have hc1 : H[ad r1]? = some (vp_cell c1 (n1, .inr (.inr (.inr (.inr G))))) := by rw [hG]; exact (hM.one hr1) 0 _ rfl
  obtain ⟨-, k0, hk0, cm0, hkk0⟩ := (hK.2 t0 _ ht0).1 n0 (fun j => va_rf (F j))
  obtain ⟨-, k1, hk1, cm1, hkk1⟩ := (hK.2 t0 _ ht0).1 n1 (fun j => va_rf (G j))
  obtain ⟨vm', X', step⟩ := X.arraycopy hexec hown hlink hnat hstat hini (src := ad r0) (dst := ad r1) (cs := vp_cell c1 (n0, .inr (.inr (.inr (.inr F))))) (cd := vp_cell c1 (n1, .inr (.inr (.inr (.inr G))))) (srcPos := sp) (destPos := dp) (n := n) (by rw [hT]; exact hc0) (by rw [hT]; exact hc1)
    (fun _ h => by cases h) (fun _ h => by cases h) (fun h => by cases h) (fun h => by cases h) hk0 hk1 hkk0 hkk1 rfl h1 h2 h3
    (by rw [nn sp h1, nn n h3]; show ¬ _ > ((arrV c1 n0 (fun j => va_rf (F j))).slots.size : Int); rw [arrV_size]; omega)
    (by rw [nn dp h2, nn n h3]; show ¬ _ > ((arrV c1 n1 (fun j => va_rf (G j))).slots.size : Int); rw [arrV_size]; omega)
    (fun vm₁ hal i hi => by
      have e : (vp_cell c1 (n0, .inr (.inr (.inr (.inr F))))).slots.getD (sp.toNatClampNeg + i) .null = va_rf (F (sp.toNatClampNeg + i)) := by
        show (arrV c1 n0 (fun j => va_rf (F j))).slots.getD _ _ = _
        rw [Array.getD_eq_getD_getElem?, arrV_read _ _ (by omega)]
        rfl
      rw [e]
      cases hy : F (sp.toNatClampNeg + i) with
      | none => exact ⟨rfl, trivial⟩
      | some y =>
        obtain ⟨z, hz, hzy⟩ : ∃ z, f (sp.toNatClampNeg + i) = some z ∧ hR ad z = y := by
          rw [hF] at hy
          cases hz : f (sp.toNatClampNeg + i) with
          | none => simp only [hz] at hy; cases hy
          | some z => simp only [hz] at hy; exact ⟨z, rfl, Option.some.inj hy⟩
        subst hzy
        obtain ⟨cellV, g1, g2, ⟨kC, hkC⟩, g3⟩ := hel i hi z hz
        obtain ⟨kA, comp, r1, r2, r3, -⟩ := (hK.2 t0 _ ht0).2
        cases hk1.symm.trans r1
        cases hkk1.symm.trans r2
        obtain ⟨kE, hkE, -⟩ := Vm.findClass_spec r3
        obtain ⟨kC', hkC', -⟩ := hal.2.2 _ _ hkC
        obtain ⟨kE', hkE', -⟩ := hal.2.2 _ _ hkE
        refine ⟨rfl, cellV, (show T.heap[hR ad z]? = some cellV by rw [hT]; exact g1), (fun q h => by rw [h] at g2; cases g2), ⟨kC', hkC'⟩, ?_, ?_⟩
        · exact ⟨kE', hkE'⟩
        · show vm₁.assignable _ _ = true
          rw [hal.assignable]
          exact g3 _ r3)
    (g := F0 m pc ls (.int n :: .int dp :: .ref (ad r1) :: .int sp :: .ref (ad r0) :: rest)) rfl (by rw [hml]) (rest := rest) rfl (by rw [hb]; exact hdg) hframes (by show 2 * 0 + _ + _ ≤ _; omega)
  have e1 : copied (vp_cell c1 (n0, .inr (.inr (.inr (.inr F))))) (vp_cell c1 (n1, .inr (.inr (.inr (.inr G))))) sp dp n = vp_cell c1 (n1, .inr (.inr (.inr (.inr (va_cpy F G sp.toNatClampNeg dp.toNatClampNeg n.toNatClampNeg))))) := by
    rw [vp_cell_q, vp_cell_q, vp_cell_q]
    exact va_copied (fun z => va_rf z) c1 c1 F G h4
  rw [e1] at X' step
  have hl : ad r1 < H.size := (Array.getElem?_eq_some_iff.mp hc1).1
  have hheap : ((T.setVm vm').setCell (ad r1) (vp_cell c1 (n1, .inr (.inr (.inr (.inr (va_cpy F G sp.toNatClampNeg dp.toNatClampNeg n.toNatClampNeg))))))).heap = H.setIfInBounds (ad r1) (vp_cell c1 (n1, .inr (.inr (.inr (.inr (va_cpy F G sp.toNatClampNeg dp.toNatClampNeg n.toNatClampNeg)))))) := by rw [← hT]; rfl
  have oq : ∀ q : Nat, q ≠ ad r1 → (H.setIfInBounds (ad r1) (vp_cell c1 (n1, .inr (.inr (.inr (.inr (va_cpy F G sp.toNatClampNeg dp.toNatClampNeg n.toNatClampNeg)))))))[q]? = H[q]? := fun q hq => by simp [Array.getElem?_setIfInBounds, Ne.symm hq]
  obtain ⟨t, a1, b1⟩ := kk _ _ (hM.put hIx (hsome hr1) oq (sh' := shU sh r1 (.inr (.inl (c1, n1, va_cpy f g sp.toNatClampNeg dp.toNatClampNeg n.toNatClampNeg)))) (st' := st) (lt' := lt) (fun r' h => ⟨by simp only [shU, if_neg h], rfl, rfl⟩) (fun x' hx => by
      simp only [shU, if_pos rfl] at hx
      cases hx
      show (H.setIfInBounds (ad r1) _)[ad r1]? = some (vp_cell c1 (n1, .inr (.inr (.inr (.inr (fun j => (va_cpy f g _ _ _ j).map (hR ad)))))))
      have e2 : (fun j => (va_cpy f g sp.toNatClampNeg dp.toNatClampNeg n.toNatClampNeg j).map (hR ad)) = va_cpy F G sp.toNatClampNeg dp.toNatClampNeg n.toNatClampNeg := by
        funext j
        rw [hF, hG]
        unfold va_cpy
        split <;> rfl
      rw [e2]
      simp [Array.getElem?_setIfInBounds, hl])) (hIx.upS (hsome hr1)) (hok.new (fun y hy => by
      obtain ⟨j, hj⟩ := hy
      unfold va_cpy at hj
      split at hj
      · exact hok r0 _ y hr0 ⟨_, hj⟩
      · exact hok r1 _ y hr1 ⟨_, hj⟩)) ⟨by simp; exact hS.1, fun q g1 g2 => by
      rw [oq q (fun e => g2 (by rw [e]; exact hIx.2 r1 (hsome hr1)))]
      exact hS.2.1 q g1 g2, fun q hq => by
      rcases List.mem_append.mp hq with h | h
      · exact hS.2.2 q h
      · obtain ⟨z, -, hz⟩ := List.mem_map.mp h
        rw [← hz]
        exact hIx.2 r1 (hsome hr1)⟩ _ hheap X'
  exact ⟨t, step t a1, b1⟩
theorem hr_aastN (hexec : p.tables.exec = Jvm.exec) (hb : c.code = cc) (hK : va_K D cl tys s) (hM : hW D cl ad sh st lt H) (hIx : hI A ad sh) (hok : hOK sh) (hS : va_S A H0 H locs) (t0 : Nat) {r : Rl} {E : String} {cA : ClassId} {n : Nat} {g : Nat → Option (Rl ⊕ Nat)} (hr : sh r = some (.inr (.inl (cA, n, g)))) (ht : tys[t0]? = some (cA, .object E)) {i : Int32} (hin : ¬ (i < 0 ∨ n ≤ i.toNatClampNeg)) (hdg : decode cc pc = .ok (.aastore, 1))
    (kk : ∀ (H1 : Heap) (locs1 : List Loc), hW D cl ad (shU sh r (.inr (.inl (cA, n, fun j => if j = i.toNatClampNeg then none else g j)))) st lt H1 → hI A ad (shU sh r (.inr (.inl (cA, n, fun j => if j = i.toNatClampNeg then none else g j)))) → hOK (shU sh r (.inr (.inl (cA, n, fun j => if j = i.toNatClampNeg then none else g j)))) → va_S A H0 H1 locs1 → W p l e R s m args below meth c H1 locs1 cells slots Q (F0 m (pc + 1) ls rest)) : W p l e R s m args below meth c H locs cells slots Q (F0 m pc ls (.null :: .int i :: .ref (ad r) :: rest)) := by
  refine va_WaastN (C := E) hexec hb ((hM.one hr) 0 _ rfl) ((hK.2 t0 _ ht).1 n (fun j => va_rf ((g j).map (hR ad)))) (fun h => by cases h) (by show ¬ (i < 0 ∨ (arrV _ _ _).slots.size ≤ _); rw [arrV_size]; exact hin) rfl rfl hdg fun H1 e z oq => ?_
  refine kk H1 _ (hM.put hIx (hsome hr) oq (fun r' n => ⟨by simp only [shU, if_neg n], rfl, rfl⟩) (fun x' hx' => ?_)) (hIx.upS (hsome hr)) (hok.new (fun y hy => ?_)) (hS.put z oq (hIx.2 r (hsome hr)))
  · simp only [shU, if_pos rfl] at hx'
    cases hx'
    show H1[ad r]? = some (vp_cell cA (n, .inr (.inr (.inr (.inr (fun j => (if j = i.toNatClampNeg then none else g j).map (hR ad)))))))
    rw [e]
    show some ((vp_cell cA (n, .inr (.inr (.inr (.inr (fun j => (g j).map (hR ad))))))).setSlot _ _) = _
    rw [vp_cell_q, vp_cell_q, arrV_store]
    congr 2
    funext j
    by_cases hj : j = i.toNatClampNeg
    · subst hj
      simp [updV, va_rf]
    · simp [updV, hj]
  · obtain ⟨j, hj⟩ := hy
    by_cases e2 : j = i.toNatClampNeg
    · simp only [if_pos e2] at hj; cases hj
    · simp only [if_neg e2] at hj
      exact hok r _ y hr ⟨j, hj⟩
end HCQ
