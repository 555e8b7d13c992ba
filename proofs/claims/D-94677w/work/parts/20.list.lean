set_option maxRecDepth 100000
/-! ArrayList: add, remove (a list at b, its array at b + 1) -/
theorem hW.ren2 {D : va_G} {cl : List vw_C} {ad : Rl → Nat} {sh sh' : Rl → Option hS} {st st' : Rl → Nat → Int32} {lt lt' : Rl → Nat → Int64} {H : Heap} (f : Rl → Rl) (h : hW D cl ad sh st lt H) (hx : ∀ r x', sh' r = some x' → ∃ x, sh (f r) = some x ∧ hE (fun q => ad (f q)) x' (st' r) (lt' r) = hE ad x (st (f r)) (lt (f r))) : hW D cl (fun q => ad (f q)) sh' st' lt' H := by
  intro r x' hr
  obtain ⟨x, h1, h2⟩ := hx r x' hr
  rw [h2]
  exact h (f r) x h1
/-- an object that any list may hold -/
def hEl (sh : Rl → Option hS) (z : Rl) : Prop := ∃ (ci : Nat) (fs : List hF) (q : vw_C), sh z = some (.inr (.inr (ci, fs))) ∧ vwCl[ci]? = some q ∧ Cond.castable q.1 "java/lang/Object" ∈ lw_tbl
theorem hEl.any {sh : Rl → Option hS} {z : Rl} (h : hEl sh z) {a0 : Array Value} {s0 s : State} {C : Nat → Nat} {D : va_G} {ad : Rl → Nat} {st : Rl → Nat → Int32} {lt : Rl → Nat → Int64} {H : Heap} (hK : va_K D vwCl (hT C) s) (hZ0 : hZ a0 s0 s s.heap) (hM : hW D vwCl ad sh st lt H) : va_Any "java/lang/Object" s H (ad z) := by
  obtain ⟨ci, fs, q, h1, h2, h3⟩ := h
  exact va_rAny hK (hM.one h1) (q0 := 0) rfl h2 (vb_asgC (hZ_nest hZ0 h3 rfl))
theorem hEl.mono {sh sh' : Rl → Option hS} {z : Rl} (h : hEl sh z) (e : sh' z = sh z) : hEl sh' z := by
  obtain ⟨ci, fs, q, h1, h2, h3⟩ := h
  exact ⟨ci, fs, q, e.trans h1, h2, h3⟩
theorem hEl.al {sh : Rl → Option hS} {z : Rl} (h : hEl sh z) : sh z ≠ none := by
  obtain ⟨ci, fs, q, h1, h2, h3⟩ := h
  exact hsome h1
section HCQ
variable {p : Program} {l : Launch} {e : Env} {R : Room} {s : State} {m : MethodId} {args : Array Value} {below : List Frame} {meth : Method} {c : Code} {H : Heap} {locs : List Loc} {cells slots : Nat} {Q : State → Prop}
variable {cc : ByteArray} {pc : Nat} {ls : Array Slot} {rest st0 : List Value} {D : va_G} {cl : List vw_C} {A A1 : Nat → Prop} {tys : List (ClassId × FieldType)} {H0 : Heap} {a : Array Value} {mc ms : Nat}
variable {ad : Rl → Nat} {sh sh' : Rl → Option hS} {st st' : Rl → Nat → Int32} {lt lt' : Rl → Nat → Int64}
/-- System.arraycopy of references into a new array -/
theorem hr_copyq (hexec : p.tables.exec = Jvm.exec) (hb : c.code = cc) (hml : c.maxLocals = ls.size) {own : String} {index : Nat} (hown : s.vm.findClass own = some m.cls) (hlink : (Cond.methodLink own index arraycopyName).before args s = true) (hnat : (Cond.native arraycopyName).before args s = true) (hstat : (Cond.static arraycopyName).before args s = true) (hini : (Cond.initialized "java/lang/System").before args s = true)
    (hK : va_K D cl tys s) (hM : hW D cl ad sh st lt H) (hIx : hI A ad sh) (hok : hOK sh) (hS : va_S A H0 H locs) (t0 : Nat) {r0 r1 : Rl} {c1 : ClassId} {n0 n1 : Nat} {E : String} {f g : Nat → Option (Rl ⊕ Nat)} (hr0 : sh r0 = some (.inr (.inl (c1, n0, f)))) (hr1 : sh r1 = some (.inr (.inl (c1, n1, g)))) (ht0 : tys[t0]? = some (c1, .object E))
    {sp dp n : Int32} (h1 : ¬ sp < 0) (h2 : ¬ dp < 0) (h3 : ¬ n < 0) (h4 : sp.toNatClampNeg + n.toNatClampNeg ≤ n0) (h5 : dp.toNatClampNeg + n.toNatClampNeg ≤ n1) (hel : ∀ i, i < n.toNatClampNeg → ∀ y, f (sp.toNatClampNeg + i) = some y → va_Any E s H (hR ad y))
    (hframes : 1 ≤ R.frames) (hlocals : (rest.map fun v => v.category).sum + (nativeFrameWords "java/lang/System" "arraycopy" 5 + 11) ≤ R.locals) (hdg : decode cc pc = .ok (.invokestatic index, 3))
    (kk : ∀ (H1 : Heap) (locs1 : List Loc), hW D cl ad (shU sh r1 (.inr (.inl (c1, n1, va_cpy f g sp.toNatClampNeg dp.toNatClampNeg n.toNatClampNeg)))) st lt H1 → hI A ad (shU sh r1 (.inr (.inl (c1, n1, va_cpy f g sp.toNatClampNeg dp.toNatClampNeg n.toNatClampNeg)))) → hOK (shU sh r1 (.inr (.inl (c1, n1, va_cpy f g sp.toNatClampNeg dp.toNatClampNeg n.toNatClampNeg)))) → va_S A H0 H1 locs1 → W p l e R s m args below meth c H1 locs1 cells slots Q (F0 m (pc + 3) ls rest)) : W p l e R s m args below meth c H locs cells slots Q (F0 m pc ls (.int n :: .int dp :: .ref (ad r1) :: .int sp :: .ref (ad r0) :: rest)) := by
  have nn : ∀ z : Int32, ¬ z < 0 → z.toInt = (z.toNatClampNeg : Int) := by
    intro z hz
    have hz0 : (0 : Int) ≤ z.toInt := by
      have := Int32.not_lt.mp hz
      simpa using Int32.le_iff_toInt_le.mp this
    show z.toInt = ((z.toInt.toNat : Nat) : Int)
    omega
  intro T hT X
  obtain ⟨F, hF⟩ : ∃ F : Nat → Option Nat, F = fun i => (f i).map (hR ad) := ⟨_, rfl⟩
  obtain ⟨G, hG⟩ : ∃ G : Nat → Option Nat, G = fun i => (g i).map (hR ad) := ⟨_, rfl⟩
  have hc0 : H[ad r0]? = some (vp_cell c1 (n0, .inr (.inr (.inr (.inr F))))) := by rw [hF]; exact (hM.one hr0) 0 _ rfl
  have hc1 : H[ad r1]? = some (vp_cell c1 (n1, .inr (.inr (.inr (.inr G))))) := by rw [hG]; exact (hM.one hr1) 0 _ rfl
  obtain ⟨-, k0, hk0, cm0, hkk0⟩ := (hK.2 t0 _ ht0).1 n0 (fun j => va_rf (F j))
  obtain ⟨-, k1, hk1, cm1, hkk1⟩ := (hK.2 t0 _ ht0).1 n1 (fun j => va_rf (G j))
  obtain ⟨vm', X', step⟩ := X.arraycopy hexec hown hlink hnat hstat hini (src := ad r0) (dst := ad r1) (cs := vp_cell c1 (n0, .inr (.inr (.inr (.inr F))))) (cd := vp_cell c1 (n1, .inr (.inr (.inr (.inr G))))) (srcPos := sp) (destPos := dp) (n := n) (by rw [hT]; exact hc0) (by rw [hT]; exact hc1)
    (fun _ h => by cases h) (fun _ h => by cases h) (fun h => by cases h) (fun h => by cases h) hk0 hk1 hkk0 hkk1 rfl h1 h2 h3
    (by rw [nn sp h1, nn n h3]; show ¬ _ > ((arrV c1 n0 (fun j => va_rf (F j))).slots.size : Int); rw [arrV_size]; omega)
    (by rw [nn dp h2, nn n h3]; show ¬ _ > ((arrV c1 n1 (fun j => va_rf (G j))).slots.size : Int); rw [arrV_size]; omega)
    (fun vm₁ hal i hi => by
      have e : (vp_cell c1 (n0, .inr (.inr (.inr (.inr F))))).slots.getD (sp.toNatClampNeg + i) .null = va_rf (F (sp.toNatClampNeg + i)) := by
        show (arrV c1 n0 (fun j => va_rf (F j))).slots.getD _ _ = _
        rw [Array.getD_eq_getD_getElem?, arrV_read _ _ (by omega)]
        rfl
      rw [e]
      cases hy : F (sp.toNatClampNeg + i) with
      | none => exact ⟨rfl, trivial⟩
      | some y =>
        obtain ⟨z, hz, hzy⟩ : ∃ z, f (sp.toNatClampNeg + i) = some z ∧ hR ad z = y := by
          rw [hF] at hy
          cases hz : f (sp.toNatClampNeg + i) with
          | none => simp only [hz] at hy; cases hy
          | some z => simp only [hz] at hy; exact ⟨z, rfl, Option.some.inj hy⟩
        subst hzy
        obtain ⟨cellV, g1, g2, ⟨kC, hkC⟩, g3⟩ := hel i hi z hz
        obtain ⟨kA, comp, r1, r2, r3, -⟩ := (hK.2 t0 _ ht0).2
        cases hk1.symm.trans r1
        cases hkk1.symm.trans r2
        obtain ⟨kE, hkE, -⟩ := Vm.findClass_spec r3
        obtain ⟨kC', hkC', -⟩ := hal.2.2 _ _ hkC
        obtain ⟨kE', hkE', -⟩ := hal.2.2 _ _ hkE
        refine ⟨rfl, cellV, (show T.heap[hR ad z]? = some cellV by rw [hT]; exact g1), (fun q h => by rw [h] at g2; cases g2), ⟨kC', hkC'⟩, ?_, ?_⟩
        · exact ⟨kE', hkE'⟩
        · show vm₁.assignable _ _ = true
          rw [hal.assignable]
          exact g3 _ r3)
    (g := F0 m pc ls (.int n :: .int dp :: .ref (ad r1) :: .int sp :: .ref (ad r0) :: rest)) rfl (by rw [hml]) (rest := rest) rfl (by rw [hb]; exact hdg) hframes (by show 2 * 0 + _ + _ ≤ _; omega)
  have e1 : copied (vp_cell c1 (n0, .inr (.inr (.inr (.inr F))))) (vp_cell c1 (n1, .inr (.inr (.inr (.inr G))))) sp dp n = vp_cell c1 (n1, .inr (.inr (.inr (.inr (va_cpy F G sp.toNatClampNeg dp.toNatClampNeg n.toNatClampNeg))))) := by
    rw [vp_cell_q, vp_cell_q, vp_cell_q]
    exact va_copied (fun z => va_rf z) c1 c1 F G h4
  rw [e1] at X' step
  have hl : ad r1 < H.size := (Array.getElem?_eq_some_iff.mp hc1).1
  have hheap : ((T.setVm vm').setCell (ad r1) (vp_cell c1 (n1, .inr (.inr (.inr (.inr (va_cpy F G sp.toNatClampNeg dp.toNatClampNeg n.toNatClampNeg))))))).heap = H.setIfInBounds (ad r1) (vp_cell c1 (n1, .inr (.inr (.inr (.inr (va_cpy F G sp.toNatClampNeg dp.toNatClampNeg n.toNatClampNeg)))))) := by rw [← hT]; rfl
  have oq : ∀ q : Nat, q ≠ ad r1 → (H.setIfInBounds (ad r1) (vp_cell c1 (n1, .inr (.inr (.inr (.inr (va_cpy F G sp.toNatClampNeg dp.toNatClampNeg n.toNatClampNeg)))))))[q]? = H[q]? := fun q hq => by simp [Array.getElem?_setIfInBounds, Ne.symm hq]
  obtain ⟨t, a1, b1⟩ := kk _ _ (hM.put hIx (hsome hr1) oq (sh' := shU sh r1 (.inr (.inl (c1, n1, va_cpy f g sp.toNatClampNeg dp.toNatClampNeg n.toNatClampNeg)))) (st' := st) (lt' := lt) (fun r' h => ⟨by simp only [shU, if_neg h], rfl, rfl⟩) (fun x' hx => by
      simp only [shU, if_pos rfl] at hx
      cases hx
      show (H.setIfInBounds (ad r1) _)[ad r1]? = some (vp_cell c1 (n1, .inr (.inr (.inr (.inr (fun j => (va_cpy f g _ _ _ j).map (hR ad)))))))
      have e2 : (fun j => (va_cpy f g sp.toNatClampNeg dp.toNatClampNeg n.toNatClampNeg j).map (hR ad)) = va_cpy F G sp.toNatClampNeg dp.toNatClampNeg n.toNatClampNeg := by
        funext j
        rw [hF, hG]
        unfold va_cpy
        split <;> rfl
      rw [e2]
      simp [Array.getElem?_setIfInBounds, hl])) (hIx.upS (hsome hr1)) (hok.new (fun y hy => by
      obtain ⟨j, hj⟩ := hy
      replace hj : (if dp.toNatClampNeg ≤ j ∧ j < dp.toNatClampNeg + n.toNatClampNeg then f (sp.toNatClampNeg + (j - dp.toNatClampNeg)) else g j) = some (.inl y) := hj
      split at hj
      · exact hok r0 _ y hr0 ⟨_, hj⟩
      · exact hok r1 _ y hr1 ⟨_, hj⟩)) ⟨by simp; exact hS.1, fun q g1 g2 => by
      rw [oq q (fun e => g2 (by rw [e]; exact hIx.2 r1 (hsome hr1)))]
      exact hS.2.1 q g1 g2, fun q hq => by
      rcases List.mem_append.mp hq with h | h
      · exact hS.2.2 q h
      · obtain ⟨z, -, hz⟩ := List.mem_map.mp h
        rw [← hz]
        exact hIx.2 r1 (hsome hr1)⟩ _ hheap X'
  exact ⟨t, step t a1, b1⟩
theorem hr_aastN (hexec : p.tables.exec = Jvm.exec) (hb : c.code = cc) (hK : va_K D cl tys s) (hM : hW D cl ad sh st lt H) (hIx : hI A ad sh) (hok : hOK sh) (hS : va_S A H0 H locs) (t0 : Nat) {r : Rl} {E : String} {cA : ClassId} {n : Nat} {g : Nat → Option (Rl ⊕ Nat)} (hr : sh r = some (.inr (.inl (cA, n, g)))) (ht : tys[t0]? = some (cA, .object E)) {i : Int32} (hin : ¬ (i < 0 ∨ n ≤ i.toNatClampNeg)) (hdg : decode cc pc = .ok (.aastore, 1))
    (kk : ∀ (H1 : Heap) (locs1 : List Loc), hW D cl ad (shU sh r (.inr (.inl (cA, n, fun j => if j = i.toNatClampNeg then none else g j)))) st lt H1 → hI A ad (shU sh r (.inr (.inl (cA, n, fun j => if j = i.toNatClampNeg then none else g j)))) → hOK (shU sh r (.inr (.inl (cA, n, fun j => if j = i.toNatClampNeg then none else g j)))) → va_S A H0 H1 locs1 → W p l e R s m args below meth c H1 locs1 cells slots Q (F0 m (pc + 1) ls rest)) : W p l e R s m args below meth c H locs cells slots Q (F0 m pc ls (.null :: .int i :: .ref (ad r) :: rest)) := by
  refine va_WaastN (C := E) hexec hb ((hM.one hr) 0 _ rfl) ((hK.2 t0 _ ht).1 n (fun j => va_rf ((g j).map (hR ad)))) (fun h => by cases h) (by show ¬ (i < 0 ∨ (arrV _ _ _).slots.size ≤ _); rw [arrV_size]; exact hin) rfl rfl hdg fun H1 e z oq => ?_
  refine kk H1 _ (hM.put hIx (hsome hr) oq (fun r' n => ⟨by simp only [shU, if_neg n], rfl, rfl⟩) (fun x' hx' => ?_)) (hIx.upS (hsome hr)) (hok.new (fun y hy => ?_)) (hS.put z oq (hIx.2 r (hsome hr)))
  · simp only [shU, if_pos rfl] at hx'
    cases hx'
    show H1[ad r]? = some (vp_cell cA (n, .inr (.inr (.inr (.inr (fun j => (if j = i.toNatClampNeg then none else g j).map (hR ad)))))))
    rw [e]
    show some ((vp_cell cA (n, .inr (.inr (.inr (.inr (fun j => (g j).map (hR ad))))))).setSlot _ _) = _
    rw [vp_cell_q, vp_cell_q, arrV_store]
    congr 2
    funext j
    by_cases hj : j = i.toNatClampNeg
    · subst hj
      simp [updV, va_rf]
    · simp [updV, hj]
  · obtain ⟨j, hj⟩ := hy
    by_cases e2 : j = i.toNatClampNeg
    · simp only [if_pos e2] at hj; cases hj
    · simp only [if_neg e2] at hj
      exact hok r _ y hr ⟨j, hj⟩
end HCQ
theorem hmin_nI {a b : Nat} (h : a ≤ b) (hb : b < 2 ^ 31) : hmin (Int32.ofNat a) (Int32.ofNat b) = Int32.ofNat a := if_neg (nI_nlt h hb)
theorem va_cpy0 {α : Type} {q : Nat → Option α} {n : Nat} (h : ∀ j, n ≤ j → q j = none) : va_cpy q (fun _ => none) 0 0 n = q := by
  funext j
  unfold va_cpy
  by_cases hj : j < n
  · rw [if_pos ⟨Nat.zero_le _, by omega⟩]; simp
  · rw [if_neg (by omega), h j (by omega)]
theorem ofNat_clamp {n : Nat} (h : n < 2 ^ 31) : (Int32.ofNat n).toNatClampNeg = n := nI_clamp h
def rm_a_copy3 (N : Nat) : Room := { frames := 3, cells := 1, slots := N, locals := 60 }
set_option maxHeartbeats 4000000 in
theorem met_a_copy3 (l : Launch) (D : va_G) (C : Nat → Nat) (a0 : Array Value) (s0 : State) (ad : Rl → Nat) (sh : Rl → Option hS) (st : Rl → Nat → Int32) (lt : Rl → Nat → Int64) (k T cap N : Nat) (q : Nat → Option (Rl ⊕ Nat)) (hk : sh (.inl k) = some (.inr (.inl (C 4, cap, q)))) (hT0 : sh (.inl T) = none) (hq : ∀ j, cap ≤ j → q j = none) (hel : ∀ i y, q i = some y → ∃ z, y = .inl z ∧ hEl sh z) (hcap : cap ≤ N) (hN : N < 100000000) (hok : hOK sh) (mi : Nat) (hmi0 : va_Mi "[Ljava/lang/Object;" mi s0) : Met l yJ13_copyOf_3 (ws_ yJ13_copyOf_3 cJ13_copyOf_3 4 (some (.array (.object "java/lang/Object")))) (rm_a_copy3 N) (va_Pc [.ref (ad (.inl k)), .int (Int32.ofNat N), .ref mi] (hB D vwCl (hT C) (hA s0) (hZ a0 s0) ad sh st lt)) (va_Qr (fun ad' : Rl → Nat => (∀ q, q ≠ .inl T → ad' q = ad q) ∧ hOK (shU sh (.inl T) (.inr (.inl (C 4, N, q))))) (fun ad' a U => a = ad' (.inl T) ∧ hW D vwCl ad' (shU sh (.inl T) (.inr (.inl (C 4, N, q)))) st lt U.heap ∧ hI (hA s0) ad' (shU sh (.inl T) (.inr (.inl (C 4, N, q))))) (hA s0)) 1 N (hA s0) := by
  refine Met.ofW (cc := cJ13_copyOf_3) (maxL := 4) (ret := some (.array (.object "java/lang/Object"))) (by decide) rfl ?_
  intro p e s m args below meth c s₁ B hml hv
  obtain ⟨rfl, hM, hIx, hK, hZ0, hA0⟩ := hv
  have hl := lv_entry ([.ref (ad (.inl k)), .int (Int32.ofNat N), .ref mi]) (n := 4) (Nat.le_of_ble_eq_true rfl)
  rw [lg_entry_eq]
  generalize (lg_sl ([.ref (ad (.inl k)), .int (Int32.ofNat N), .ref mi]) ++ List.replicate (4 - (lg_sl ([.ref (ad (.inl k)), .int (Int32.ofNat N), .ref mi])).length) Slot.unset).toArray = ls at hl ⊢
  have hl : lv_has ls 4 [(0, .ref (ad (.inl k))), (1, .int (Int32.ofNat N)), (2, .ref mi)] := hl
  have hx := B.exec
  have hb := B.bytes
  have hr := B.returns
  have hown := findClass_of_methodNamed B.named
  have hts : ∀ w ∈ lw_all, w.before _ s = true := fun w h => atoms_spec (ws := ws_ yJ13_copyOf_3 cJ13_copyOf_3 4 (some (.array (.object "java/lang/Object")))) B.pre w (List.mem_cons_of_mem _ h)
  have hS : va_S (hA s0) s.heap s.heap [] := va_S.rf
  have hmi : va_Mi "[Ljava/lang/Object;" mi s := va_Mi.moved hZ0.2.2.1.alike hmi0
  refine lv_aload_n hx hb dJ13_copyOf_3_0 rfl (lv_at hl 2 rfl) ?_
  refine va_ldcM hx hb hown (hts _ q755) hmi dJ13_copyOf_3_1 ?_
  refine lv_acmp_ne (rx := some mi) (ry := some mi) (tgt := 13) hx hb dJ13_copyOf_3_3 (by decide) (fun hp => absurd rfl hp) (fun _ => ?_)
  refine lv_iload_n hx hb dJ13_copyOf_3_6 rfl (lv_at hl 1 rfl) ?_
  refine hr_newq (.inl T) hx hb hown (hts _ q756) (hZ_AO hZ0 q140) 4 (cA := C 4) rfl hK hM hIx hok hS hA0 hT0 (n := Int32.ofNat N) (N' := N) (nI_pos (by omega)) (ofNat_clamp (by omega)) (by omega) (Nat.le_of_ble_eq_true rfl) (by show 0 + N ≤ N; omega) dJ13_copyOf_3_7 (fun ad H hE hM hIx hok hS => ?_)
  rw [← hE (.inl k) (fun z => by rw [← z, hk] at hT0; cases hT0)] at hl
  have hk1 := shU_n (r := .inl T) (x := .inr (.inl (C 4, N, fun _ => none))) hk (fun z => by rw [← z, hk] at hT0; cases hT0)
  refine lv_goto (tgt := 24) hx hb dJ13_copyOf_3_10 (by decide) ?_
  refine lv_astore_n (lv' := [(3, .ref (ad (.inl T))), (0, .ref (ad (.inl k))), (1, .int (Int32.ofNat N)), (2, .ref mi)]) hx hb dJ13_copyOf_3_24 rfl hl (by decide) rfl (fun ls hl => ?_)
  refine lv_aload_n hx hb dJ13_copyOf_3_25 rfl (lv_at hl 1 rfl) ?_
  refine lv_iconst (v := 0) hx hb dJ13_copyOf_3_26 (by decide) ?_
  refine lv_aload_n hx hb dJ13_copyOf_3_27 rfl (lv_at hl 0 rfl) ?_
  refine lv_iconst (v := 0) hx hb dJ13_copyOf_3_28 (by decide) ?_
  refine lv_aload_n hx hb dJ13_copyOf_3_29 rfl (lv_at hl 1 rfl) ?_
  refine hr_alenq hx hb hK hM 4 (r := .inl k) hk1 rfl (v := Int32.ofNat cap) rfl dJ13_copyOf_3_30 ?_
  refine lv_iload_n hx hb dJ13_copyOf_3_31 rfl (lv_at hl 2 rfl) ?_
  refine va_mmin hx hb (by rw [hml]; exact hl.1.symm) hown (hts _ q257) (hts _ q258) (hts _ q90) (hts _ q259) (by first | exact Nat.le_of_ble_eq_true rfl | (show 0 + N ≤ N; omega)) (by first | exact Nat.le_of_ble_eq_true rfl | (show 0 + N ≤ N; omega)) (by first | exact Nat.le_of_ble_eq_true rfl | (show 0 + N ≤ N; omega)) (by first | exact Nat.le_of_ble_eq_true rfl | (show 0 + N ≤ N; omega)) dJ13_copyOf_3_32 ?_
  refine W_stk (st2 := [.int (Int32.ofNat cap), .int 0, .ref (ad (.inl T)), .int 0, .ref (ad (.inl k))]) (by congr 2; exact (hmin_nI hcap (by omega)).symm) ?_
  refine hr_copyq (r0 := .inl k) (r1 := .inl T) (f := q) (g := fun _ => none) hx hb (by rw [hml]; exact hl.1.symm) hown (hts _ q260) (hts _ q262) (hts _ q261) (hts _ q92) hK hM hIx hok hS 4 hk1 shU_s rfl (by decide) (by decide) (nI_pos (by omega)) (by rw [ofNat_clamp (by omega)]; show 0 + cap ≤ cap; omega) (by rw [ofNat_clamp (by omega)]; show 0 + cap ≤ N; omega) (fun i hi y hy => by
      obtain ⟨z, rfl, hz⟩ := hel _ y hy
      exact (hz.mono (shU_n rfl (fun e => hz.al (by rw [e]; exact hT0)))).any hK hZ0 hM)
    (Nat.le_of_ble_eq_true rfl) (Nat.le_of_ble_eq_true rfl) dJ13_copyOf_3_35 (fun H locs hM hIx hok hS => ?_)
  refine lv_aload_n hx hb dJ13_copyOf_3_38 rfl (lv_at hl 0 rfl) ?_
  have ec : va_cpy q (fun _ => none) (Int32.toNatClampNeg 0) (Int32.toNatClampNeg 0) (Int32.ofNat cap).toNatClampNeg = q := by rw [ofNat_clamp (by omega)]; exact va_cpy0 hq
  have es : shU (shU sh (.inl T) (.inr (.inl (C 4, N, fun _ => none)))) (.inl T) (.inr (.inl (C 4, N, va_cpy q (fun _ => none) (Int32.toNatClampNeg 0) (Int32.toNatClampNeg 0) (Int32.ofNat cap).toNatClampNeg))) = shU sh (.inl T) (.inr (.inl (C 4, N, q))) := by
    rw [ec]
    funext r
    simp only [shU]
    split <;> rfl
  replace hM := hW.cong hM es rfl
  replace hIx : hI (hA s0) ad (shU sh (.inl T) (.inr (.inl (C 4, N, q)))) := es ▸ hIx
  replace hok : hOK (shU sh (.inl T) (.inr (.inl (C 4, N, q)))) := es ▸ hok
  refine W.widen (k := 1) (n := N) (Nat.le_refl _) (by omega) ?_
  exact W.aret hx hb hr (Or.inr ⟨_, rfl⟩) (Or.inr ⟨_, rfl⟩) (fun T ht hW => ⟨⟨ad, _, rfl, ⟨hE, hok⟩, rfl, by rw [ht]; exact hM, hIx⟩, hS.F ht⟩) hS.2.2 dJ13_copyOf_3_39
theorem hZ_Mi {a0 : Array Value} {s0 U : State} {H : Heap} (h : hZ a0 s0 U H) : ∃ mi, va_Mi "[Ljava/lang/Object;" mi s0 := va_Mi.of (h_atom h.2.1 344 (by decide +kernel))
theorem hmax_nI {a b : Nat} (ha : a < 2 ^ 31) (hb : b < 2 ^ 31) : hmax (Int32.ofNat a) (Int32.ofNat b) = Int32.ofNat (max a b) := by
  unfold hmax
  by_cases h : a < b
  · rw [if_pos (show Int32.ofNat a < Int32.ofNat b from nI_lt h hb), Nat.max_eq_right (by omega)]
  · rw [if_neg (show ¬ Int32.ofNat a < Int32.ofNat b from nI_nlt (by omega) ha), Nat.max_eq_left (by omega)]
def rm_a_copy2 (N : Nat) : Room := { frames := 5, cells := 1, slots := N, locals := 100 }
set_option maxHeartbeats 4000000 in
theorem met_a_copy2 (l : Launch) (D : va_G) (C : Nat → Nat) (a0 : Array Value) (s0 : State) (ad : Rl → Nat) (sh : Rl → Option hS) (st : Rl → Nat → Int32) (lt : Rl → Nat → Int64) (k T cap N : Nat) (q : Nat → Option (Rl ⊕ Nat)) (hk : sh (.inl k) = some (.inr (.inl (C 4, cap, q)))) (hT0 : sh (.inl T) = none) (hq : ∀ j, cap ≤ j → q j = none) (hel : ∀ i y, q i = some y → ∃ z, y = .inl z ∧ hEl sh z) (hcap : cap ≤ N) (hN : N < 100000000) (hok : hOK sh) : Met l yJ13_copyOf_2 (ws_ yJ13_copyOf_2 cJ13_copyOf_2 2 (some (.array (.object "java/lang/Object")))) (rm_a_copy2 N) (va_Pc [.ref (ad (.inl k)), .int (Int32.ofNat N)] (hB D vwCl (hT C) (hA s0) (hZ a0 s0) ad sh st lt)) (va_Qr (fun ad' : Rl → Nat => (∀ q, q ≠ .inl T → ad' q = ad q) ∧ hOK (shU sh (.inl T) (.inr (.inl (C 4, N, q))))) (fun ad' a U => a = ad' (.inl T) ∧ hW D vwCl ad' (shU sh (.inl T) (.inr (.inl (C 4, N, q)))) st lt U.heap ∧ hI (hA s0) ad' (shU sh (.inl T) (.inr (.inl (C 4, N, q))))) (hA s0)) 1 N (hA s0) := by
  refine Met.ofW (cc := cJ13_copyOf_2) (maxL := 2) (ret := some (.array (.object "java/lang/Object"))) (by decide) rfl ?_
  intro p e s m args below meth c s₁ B hml hv
  obtain ⟨rfl, hM, hIx, hK, hZ0, hA0⟩ := hv
  have hl := lv_entry ([.ref (ad (.inl k)), .int (Int32.ofNat N)]) (n := 2) (Nat.le_of_ble_eq_true rfl)
  rw [lg_entry_eq]
  generalize (lg_sl ([.ref (ad (.inl k)), .int (Int32.ofNat N)]) ++ List.replicate (2 - (lg_sl ([.ref (ad (.inl k)), .int (Int32.ofNat N)])).length) Slot.unset).toArray = ls at hl ⊢
  have hl : lv_has ls 2 [(0, .ref (ad (.inl k))), (1, .int (Int32.ofNat N))] := hl
  have hx := B.exec
  have hb := B.bytes
  have hr := B.returns
  have hown := findClass_of_methodNamed B.named
  have hts : ∀ w ∈ lw_all, w.before _ s = true := fun w h => atoms_spec (ws := ws_ yJ13_copyOf_2 cJ13_copyOf_2 2 (some (.array (.object "java/lang/Object")))) B.pre w (List.mem_cons_of_mem _ h)
  have hS : va_S (hA s0) s.heap s.heap [] := va_S.rf
  obtain ⟨mi, hmi0⟩ := hZ_Mi hZ0
  refine lv_aload_n hx hb dJ13_copyOf_2_0 rfl (lv_at hl 0 rfl) ?_
  refine lv_iload_n hx hb dJ13_copyOf_2_1 rfl (lv_at hl 1 rfl) ?_
  refine lv_aload_n hx hb dJ13_copyOf_2_2 rfl (lv_at hl 0 rfl) ?_
  refine va_getC (C := "[Ljava/lang/Object;") (mi := mi) hx hb (by rw [hml]; exact hl.1.symm) hown (hts _ q729) (va_Nw.use rfl (hZ_nest hZ0 q1894 rfl)) (hts _ q1893) (hts _ q730) (hts _ q751) (va_Mi.moved hZ0.2.2.1.alike hmi0) ⟨_, (hM.one hk) 0 _ rfl, rfl, va_nmO (hK.2 4 _ rfl).2 rfl⟩ (Nat.le_of_ble_eq_true rfl) (Nat.le_of_ble_eq_true rfl) dJ13_copyOf_2_3 ?_
  refine va_callr (va_runS (As := [.ref (ad (.inl k)), .int (Int32.ofNat N), .ref mi]) (rest := []) ⟨hx, hb, hml, hown, hts⟩ (met_a_copy3 l D C a0 s0 ad sh st lt k T cap N q hk hT0 hq hel hcap hN hok mi hmi0) (va_cwS 3 hts (lw_S q752 q753 q91 q754) rfl rfl rfl (by decide +kernel) ⟨Nat.le_of_ble_eq_true rfl, Nat.le_of_ble_eq_true rfl⟩) (hr_preS hZ_c hM hIx hK hZ0 hA0 hS) rfl rfl hl.1 rfl (lv_room (Nat.le_of_ble_eq_true rfl)) dJ13_copyOf_2_6 ⟨Nat.le_of_ble_eq_true rfl, by show 0 + N ≤ N; omega⟩) hS (fun _ _ h => h) (fun _ h => h) ?_
  intro ad ra t H locs ht _ hp hB9 _ _ hS
  obtain ⟨hE, hok⟩ := hp
  obtain ⟨hra, hM, hIx⟩ := hB9
  rw [ht] at hM
  refine W.widen (k := 1) (n := N) (Nat.le_refl _) (by omega) ?_
  exact W.aret hx hb hr (Or.inr ⟨_, rfl⟩) (Or.inr ⟨_, rfl⟩) (fun T ht hW => ⟨⟨ad, _, rfl, ⟨hE, hok⟩, hra, by rw [ht]; exact hM, hIx⟩, hS.F ht⟩) hS.2.2 dJ13_copyOf_2_9
def rm_a_newLength : Room := { frames := 3, cells := 0, slots := 0, locals := 60 }
set_option maxHeartbeats 4000000 in
theorem met_a_newLength (l : Launch) (D : va_G) (C : Nat → Nat) (a0 : Array Value) (s0 : State) (ad : Rl → Nat) (sh : Rl → Option hS) (st : Rl → Nat → Int32) (lt : Rl → Nat → Int64) (o x y : Nat) (hx0 : 0 < x) (ho : o < 100000000) (hx1 : x < 100000000) (hy1 : y < 100000000) : Met l yJ11_newLength (ws_ yJ11_newLength cJ11_newLength 4 (some .int)) (rm_a_newLength) (va_Pc [.int (Int32.ofNat o), .int (Int32.ofNat x), .int (Int32.ofNat y)] (hB D vwCl (hT C) (hA s0) (hZ a0 s0) ad sh st lt)) (va_Qi (fun (r : Int32) (_ : Unit) => r = Int32.ofNat (o + max x y)) (fun _ U => hW D vwCl ad sh st lt U.heap) (hA s0)) 0 0 (hA s0) := by
  refine Met.ofW (cc := cJ11_newLength) (maxL := 4) (ret := some .int) (by decide) rfl ?_
  intro p e s m args below meth c s₁ B hml hv
  obtain ⟨rfl, hM, hIx, hK, hZ0, hA0⟩ := hv
  have hl := lv_entry ([.int (Int32.ofNat o), .int (Int32.ofNat x), .int (Int32.ofNat y)]) (n := 4) (Nat.le_of_ble_eq_true rfl)
  rw [lg_entry_eq]
  generalize (lg_sl ([.int (Int32.ofNat o), .int (Int32.ofNat x), .int (Int32.ofNat y)]) ++ List.replicate (4 - (lg_sl ([.int (Int32.ofNat o), .int (Int32.ofNat x), .int (Int32.ofNat y)])).length) Slot.unset).toArray = ls at hl ⊢
  have hl : lv_has ls 4 [(0, .int (Int32.ofNat o)), (1, .int (Int32.ofNat x)), (2, .int (Int32.ofNat y))] := hl
  have hx := B.exec
  have hb := B.bytes
  have hr := B.returns
  have hown := findClass_of_methodNamed B.named
  have hts : ∀ w ∈ lw_all, w.before _ s = true := fun w h => atoms_spec (ws := ws_ yJ11_newLength cJ11_newLength 4 (some .int)) B.pre w (List.mem_cons_of_mem _ h)
  have hS : va_S (hA s0) s.heap s.heap [] := va_S.rf
  refine lv_iload_n hx hb dJ11_newLength_0 rfl (lv_at hl 0 rfl) ?_
  refine lv_iload_n hx hb dJ11_newLength_1 rfl (lv_at hl 1 rfl) ?_
  refine lv_iload_n hx hb dJ11_newLength_2 rfl (lv_at hl 2 rfl) ?_
  refine va_mmax hx hb (by rw [hml]; exact hl.1.symm) hown (hts _ q239) (hts _ q240) (hts _ q90) (hts _ q241) (by first | exact Nat.le_of_ble_eq_true rfl | (show 0 + N ≤ N; omega)) (by first | exact Nat.le_of_ble_eq_true rfl | (show 0 + N ≤ N; omega)) (by first | exact Nat.le_of_ble_eq_true rfl | (show 0 + N ≤ N; omega)) (by first | exact Nat.le_of_ble_eq_true rfl | (show 0 + N ≤ N; omega)) dJ11_newLength_3 ?_
  refine W_stk (st2 := [.int (Int32.ofNat (max x y)), .int (Int32.ofNat o)]) (by congr 2; exact (hmax_nI (by omega) (by omega)).symm) ?_
  refine lv_iadd hx hb dJ11_newLength_6 ?_
  refine W_stk (st2 := [.int (Int32.ofNat (o + max x y))]) (by congr 2; exact (nI_add o (max x y)).symm) ?_
  refine lv_istore_n (lv' := [(3, .int (Int32.ofNat (o + max x y))), (0, .int (Int32.ofNat o)), (1, .int (Int32.ofNat x)), (2, .int (Int32.ofNat y))]) hx hb dJ11_newLength_7 rfl hl (by decide) rfl (fun ls hl => ?_)
  refine lv_iconst (v := 0) hx hb dJ11_newLength_8 (by decide) ?_
  refine lv_iload_n hx hb dJ11_newLength_9 rfl (lv_at hl 0 rfl) ?_
  refine lv_icmp_ge (tgt := 21) hx hb dJ11_newLength_10 (by decide) (fun hp => absurd hp (nI_ge (a := 0) (by omega) (by omega))) (fun _ => ?_)
  refine lv_iload_n hx hb dJ11_newLength_13 rfl (lv_at hl 0 rfl) ?_
  refine lv_ldc (v := 2147483639) hx hb hown (hts _ q242) dJ11_newLength_14 ?_
  refine lv_icmp_gt (tgt := 21) hx hb dJ11_newLength_16 (by decide) (fun hp => absurd hp (nI_nlt (a := 2147483639) (by omega) (by omega))) (fun _ => ?_)
  refine lv_iload_n hx hb dJ11_newLength_19 rfl (lv_at hl 0 rfl) ?_
  exact W.iret hx hb hr (fun T ht hW => ⟨⟨_, (), rfl, rfl, by dsimp only; rw [ht]; exact hM⟩, hS.F ht⟩) hS.2.2 dJ11_newLength_20
theorem h_sub1 {n : Nat} (h : n + 1 < 2 ^ 30) : Int32.ofNat (n + 1) - Int32.ofNat n = Int32.ofNat 1 := by
  have e : (nI (n + 1) - nI n).toInt = ((n + 1 : Nat) : Int) - n := pk_sub_toInt (by omega) (by omega)
  apply Int32.toInt_inj.mp
  refine (show (Int32.ofNat (n + 1) - Int32.ofNat n).toInt = _ from e).trans ?_
  rw [show (Int32.ofNat 1).toInt = 1 by decide]
  omega
theorem h_half {n : Nat} (h : n < 2 ^ 31) : Int32.ofNat n >>> ((1 : Int32) &&& 31) = Int32.ofNat (n / 2) := by
  have h0 : ((1 : Int32) &&& 31) = 1 := by decide
  rw [h0]
  apply Int32.toBitVec_inj.mp
  have e1 : (Int32.ofNat n).toBitVec = BitVec.ofNat 32 n := rfl
  have e2 : (Int32.ofNat (n / 2)).toBitVec = BitVec.ofNat 32 (n / 2) := rfl
  rw [Int32.toBitVec_shiftRight, e1, e2]
  apply BitVec.eq_of_toInt_eq
  rw [show ((1 : Int32).toBitVec.smod 32) = 1#32 by decide]
  rw [BitVec.sshiftRight_eq', BitVec.toInt_sshiftRight, BitVec.toInt_ofNat', BitVec.toInt_ofNat']
  rw [Int.bmod_eq_of_le (by omega) (by omega), Int.bmod_eq_of_le (by omega) (by omega)]
  rw [show (1#32).toNat = 1 by decide, Int.shiftRight_eq_div_pow]
  omega
/-- the list has its new array under the old name -/
theorem h_grown {D : va_G} {C : Nat → Nat} {A : Nat → Prop} {ad : Rl → Nat} {sh : Rl → Option hS} {st : Rl → Nat → Int32} {lt : Rl → Nat → Int64} {H : Heap} {b T cap N : Nat} {q : Nat → Option (Rl ⊕ Nat)} (hM : hW D vwCl ad (shU (shU sh (.inl T) (.inr (.inl (C 4, N, q)))) (.inl b) (.inr (.inr (6, (x_al b).set 1 (some (some (.inl (.inl T)))))))) st lt H) (hIx : hI A ad (shU (shU sh (.inl T) (.inr (.inl (C 4, N, q)))) (.inl b) (.inr (.inr (6, (x_al b).set 1 (some (some (.inl (.inl T)))))))))
    (hok : hOK sh) (hel : ∀ i y, q i = some y → ∃ z, y = .inl z ∧ hEl sh z) (hsole : ∀ r x, sh r = some x → hMem (.inl (b + 1)) x → r = .inl b) (h0 : sh (.inl b) = some (.inr (.inr (6, x_al b)))) (h1 : sh (.inl (b + 1)) = some (.inr (.inl (C 4, cap, q)))) (hT0 : sh (.inl T) = none) :
    ∃ ad' : Rl → Nat, (∀ r, r ≠ .inl (b + 1) → ad' r = ad r) ∧ ad' (.inl (b + 1)) = ad (.inl T) ∧ hW D vwCl ad' (shU sh (.inl (b + 1)) (.inr (.inl (C 4, N, q)))) st lt H ∧ hI A ad' (shU sh (.inl (b + 1)) (.inr (.inl (C 4, N, q)))) ∧ hOK (shU sh (.inl (b + 1)) (.inr (.inl (C 4, N, q)))) := by
  have nbT : (Sum.inl T : Rl) ≠ .inl b := fun z => by rw [z, h0] at hT0; cases hT0
  have n1T : (Sum.inl T : Rl) ≠ .inl (b + 1) := fun z => by rw [z, h1] at hT0; cases hT0
  have nb1 : (Sum.inl b : Rl) ≠ .inl (b + 1) := inl_ne (by omega)
  have e2T : shU (shU sh (.inl T) (.inr (.inl (C 4, N, q)))) (.inl b) (.inr (.inr (6, (x_al b).set 1 (some (some (.inl (.inl T))))))) (.inl T) = some (.inr (.inl (C 4, N, q))) := shU_n shU_s nbT
  have hz : ∀ z, hMem z (.inr (.inl (C 4, N, q)) : hS) → z ≠ .inl (b + 1) ∧ sh z ≠ none := fun z hm => by
    obtain ⟨i, hi⟩ := hm
    obtain ⟨z', e, hE⟩ := hel i _ hi
    cases e
    refine ⟨fun e => ?_, hE.al⟩
    obtain ⟨ci, fs, q', g1, -, -⟩ := hE
    rw [e, h1] at g1
    cases g1
  refine ⟨fun r => if r = .inl (b + 1) then ad (.inl T) else ad r, fun r hr => if_neg hr, if_pos rfl, ?_, ?_, ?_⟩
  · intro r x' hx'
    by_cases e1 : r = .inl (b + 1)
    · subst e1
      rw [shU_s] at hx'
      cases hx'
      have w := hM (.inl T) _ e2T
      have e3 := hE_same (ad := ad) (ad' := fun r => if r = .inl (b + 1) then ad (.inl T) else ad r) (x := .inr (.inl (C 4, N, q))) (g := st (.inl T)) (h := lt (.inl T)) (fun r hr => if_neg (hz r hr).1)
      rw [← e3] at w
      show va_at D vwCl (if (Sum.inl (b + 1) : Rl) = .inl (b + 1) then ad (.inl T) else _, _) H
      rw [if_pos rfl]
      exact w
    · have hx2 : sh r = some x' := (if_neg e1).symm.trans hx'
      show va_at D vwCl (if r = .inl (b + 1) then ad (.inl T) else ad r, _) H
      rw [if_neg e1]
      by_cases e2 : r = .inl b
      · subst e2
        rw [h0] at hx2
        cases hx2
        have w := hM (.inl b) _ shU_s
        have e4 : hE (fun r => if r = .inl (b + 1) then ad (.inl T) else ad r) (.inr (.inr (6, x_al b))) (st (.inl b)) (lt (.inl b)) = hE ad (.inr (.inr (6, (x_al b).set 1 (some (some (.inl (.inl T))))))) (st (.inl b)) (lt (.inl b)) := by
          simp [hE, hFs, x_al, hV, hR]
        rw [e4]
        exact w
      · have e5 : sh r = some x' := hx2
        have nT : r ≠ .inl T := fun e => by rw [e, hT0] at e5; cases e5
        have w := hM r x' ((shU_n (shU_n e5 nT) e2))
        rw [hE_same (ad := ad) (ad' := fun r => if r = .inl (b + 1) then ad (.inl T) else ad r) (fun r' hr' => if_neg (fun e : r' = .inl (b + 1) => e2 (hsole r x' e5 (by rw [← e]; exact hr'))))]
        exact w
  · have key : ∀ r, shU sh (.inl (b + 1)) (.inr (.inl (C 4, N, q))) r ≠ none → r ≠ .inl (b + 1) → sh r ≠ none := fun r hr e => by
      have : shU sh (.inl (b + 1)) (.inr (.inl (C 4, N, q))) r = sh r := if_neg e
      rwa [this] at hr
    have key2 : ∀ r, sh r ≠ none → shU (shU sh (.inl T) (.inr (.inl (C 4, N, q)))) (.inl b) (.inr (.inr (6, (x_al b).set 1 (some (some (.inl (.inl T))))))) r ≠ none := fun r hr => by
      by_cases e : r = .inl b
      · rw [e, shU_s]; exact fun z => by cases z
      · have nT : r ≠ .inl T := fun e => by rw [e] at hr; exact hr hT0
        rw [shU_n (shU_n rfl nT) e]; exact hr
    have k3 : shU (shU sh (.inl T) (.inr (.inl (C 4, N, q)))) (.inl b) (.inr (.inr (6, (x_al b).set 1 (some (some (.inl (.inl T))))))) (.inl T) ≠ none := by rw [e2T]; exact fun z => by cases z
    refine ⟨fun r r' hr hr' e => ?_, fun r hr => ?_⟩
    · by_cases e1 : r = .inl (b + 1)
      · by_cases e2 : r' = .inl (b + 1)
        · rw [e1, e2]
        · simp only [if_pos e1, if_neg e2] at e
          have := hIx.1 _ _ k3 (key2 r' (key r' hr' e2)) e
          exact absurd (by rw [← this]; exact hT0) (key r' hr' e2)
      · by_cases e2 : r' = .inl (b + 1)
        · simp only [if_neg e1, if_pos e2] at e
          have := hIx.1 _ _ (key2 r (key r hr e1)) k3 e
          exact absurd (by rw [this]; exact hT0) (key r hr e1)
        · simp only [if_neg e1, if_neg e2] at e
          exact hIx.1 _ _ (key2 r (key r hr e1)) (key2 r' (key r' hr' e2)) e
    · by_cases e1 : r = .inl (b + 1)
      · simp only [if_pos e1]; exact hIx.2 _ k3
      · simp only [if_neg e1]; exact hIx.2 _ (key2 r (key r hr e1))
  · exact hok.new (fun z hm => (hz z hm).2)
def rm_a_grow2 (cap : Nat) : Room := { frames := 7, cells := 1, slots := cap + max 1 (cap / 2), locals := 140 }
set_option maxHeartbeats 4000000 in
theorem met_a_grow2 (l : Launch) (D : va_G) (C : Nat → Nat) (a0 : Array Value) (s0 : State) (ad : Rl → Nat) (sh : Rl → Option hS) (st : Rl → Nat → Int32) (lt : Rl → Nat → Int64) (b T cap : Nat) (q : Nat → Option (Rl ⊕ Nat)) (h0 : sh (.inl b) = some (.inr (.inr (6, x_al b)))) (h1 : sh (.inl (b + 1)) = some (.inr (.inl (C 4, cap, q)))) (hT0 : sh (.inl T) = none) (hq : ∀ j, cap ≤ j → q j = none) (hel : ∀ i y, q i = some y → ∃ z, y = .inl z ∧ hEl sh z) (hc0 : 0 < cap) (hcap : cap < 10000000) (hsole : ∀ r x, sh r = some x → hMem (.inl (b + 1)) x → r = .inl b) (hok : hOK sh) : Met l yJ2_grow_2 (ws_ yJ2_grow_2 cJ2_grow_2 4 (some (.array (.object "java/lang/Object")))) (rm_a_grow2 cap) (va_Pc [.ref (ad (.inl b)), .int (Int32.ofNat (cap + 1))] (hB D vwCl (hT C) (hA s0) (hZ a0 s0) ad sh st lt)) (va_Qr (fun ad' : Rl → Nat => (∀ r, r ≠ .inl (b + 1) → r ≠ .inl T → ad' r = ad r) ∧ hOK (shU sh (.inl (b + 1)) (.inr (.inl (C 4, cap + max 1 (cap / 2), q))))) (fun ad' a U => a = ad' (.inl (b + 1)) ∧ hW D vwCl ad' (shU sh (.inl (b + 1)) (.inr (.inl (C 4, cap + max 1 (cap / 2), q)))) st lt U.heap ∧ hI (hA s0) ad' (shU sh (.inl (b + 1)) (.inr (.inl (C 4, cap + max 1 (cap / 2), q))))) (hA s0)) 1 (cap + max 1 (cap / 2)) (hA s0) := by
  refine Met.ofW (cc := cJ2_grow_2) (maxL := 4) (ret := some (.array (.object "java/lang/Object"))) (by decide) rfl ?_
  intro p e s m args below meth c s₁ B hml hv
  obtain ⟨rfl, hM, hIx, hK, hZ0, hA0⟩ := hv
  have hl := lv_entry ([.ref (ad (.inl b)), .int (Int32.ofNat (cap + 1))]) (n := 4) (Nat.le_of_ble_eq_true rfl)
  rw [lg_entry_eq]
  generalize (lg_sl ([.ref (ad (.inl b)), .int (Int32.ofNat (cap + 1))]) ++ List.replicate (4 - (lg_sl ([.ref (ad (.inl b)), .int (Int32.ofNat (cap + 1))])).length) Slot.unset).toArray = ls at hl ⊢
  have hl : lv_has ls 4 [(0, .ref (ad (.inl b))), (1, .int (Int32.ofNat (cap + 1)))] := hl
  have hx := B.exec
  have hb := B.bytes
  have hr := B.returns
  have hown := findClass_of_methodNamed B.named
  have hts : ∀ w ∈ lw_all, w.before _ s = true := fun w h => atoms_spec (ws := ws_ yJ2_grow_2 cJ2_grow_2 4 (some (.array (.object "java/lang/Object")))) B.pre w (List.mem_cons_of_mem _ h)
  have hS : va_S (hA s0) s.heap s.heap [] := va_S.rf
  have hok0 := hok
  refine lv_aload_n hx hb dJ2_grow_2_0 rfl (lv_at hl 0 rfl) ?_
  refine hr_get (ci := 6) (C := RJ2) (T := TJ2) (N := 3) (r := .inl b) hx hb hts in_J2 hown hK hM h0 rfl 1 (by decide) (hts _ q455) rfl (v := .ref (ad (.inl (b + 1)))) rfl dJ2_grow_2_1 ?_
  refine hr_alenq hx hb hK hM 4 (r := .inl (b + 1)) h1 rfl (v := Int32.ofNat cap) rfl dJ2_grow_2_4 ?_
  refine lv_istore_n (lv' := [(2, .int (Int32.ofNat cap)), (0, .ref (ad (.inl b))), (1, .int (Int32.ofNat (cap + 1)))]) hx hb dJ2_grow_2_5 rfl hl (by decide) rfl (fun ls hl => ?_)
  refine lv_iload_n hx hb dJ2_grow_2_6 rfl (lv_at hl 0 rfl) ?_
  refine lv_if_gt (tgt := 20) hx hb dJ2_grow_2_7 (by decide) (fun _ => ?_) (fun hp => absurd (nI_lt (a := 0) hc0 (by omega)) hp)
  refine lv_iload_n hx hb dJ2_grow_2_20 rfl (lv_at hl 0 rfl) ?_
  refine lv_iload_n hx hb dJ2_grow_2_21 rfl (lv_at hl 2 rfl) ?_
  refine lv_iload_n hx hb dJ2_grow_2_22 rfl (lv_at hl 0 rfl) ?_
  refine lv_isub hx hb dJ2_grow_2_23 ?_
  refine lv_iload_n hx hb dJ2_grow_2_24 rfl (lv_at hl 0 rfl) ?_
  refine lv_iconst (v := 1) hx hb dJ2_grow_2_25 (by decide) ?_
  refine lv_ishr hx hb dJ2_grow_2_26 ?_
  refine W_stk (st2 := [.int (Int32.ofNat (cap / 2)), .int (Int32.ofNat 1), .int (Int32.ofNat cap)]) (by rw [h_sub1 (by omega), h_half (by omega)]) ?_
  refine hr_calli0 (va_runS (As := [.int (Int32.ofNat cap), .int (Int32.ofNat 1), .int (Int32.ofNat (cap / 2))]) (rest := []) ⟨hx, hb, hml, hown, hts⟩ (met_a_newLength l D C a0 s0 ad sh st lt cap 1 (cap / 2) (by omega) (by omega) (by omega) (by omega)) (va_cwS 3 hts (lw_S q725 q237 q89 q238) rfl rfl rfl (by decide +kernel) ⟨Nat.le_of_ble_eq_true rfl, Nat.le_of_ble_eq_true rfl⟩) (hr_preS hZ_c hM hIx hK hZ0 hA0 hS) rfl rfl hl.1 rfl (lv_room (Nat.le_of_ble_eq_true rfl)) dJ2_grow_2_27 ⟨Nat.le_of_ble_eq_true rfl, Nat.le_of_ble_eq_true rfl⟩) hS (fun H locs hM hS => ?_)
  refine lv_istore_n (lv' := [(3, .int (Int32.ofNat (cap + max 1 (cap / 2)))), (2, .int (Int32.ofNat cap)), (0, .ref (ad (.inl b))), (1, .int (Int32.ofNat (cap + 1)))]) hx hb dJ2_grow_2_30 rfl hl (by decide) rfl (fun ls hl => ?_)
  refine lv_aload_n hx hb dJ2_grow_2_31 rfl (lv_at hl 2 rfl) ?_
  refine lv_aload_n hx hb dJ2_grow_2_32 rfl (lv_at hl 2 rfl) ?_
  refine hr_get (ci := 6) (C := RJ2) (T := TJ2) (N := 3) (r := .inl b) hx hb hts in_J2 hown hK hM h0 rfl 1 (by decide) (hts _ q455) rfl (v := .ref (ad (.inl (b + 1)))) rfl dJ2_grow_2_33 ?_
  refine lv_iload_n hx hb dJ2_grow_2_36 rfl (lv_at hl 0 rfl) ?_
  refine va_callr (va_runS (As := [.ref (ad (.inl (b + 1))), .int (Int32.ofNat (cap + max 1 (cap / 2)))]) (rest := [.ref (ad (.inl b))]) ⟨hx, hb, hml, hown, hts⟩ (met_a_copy2 l D C a0 s0 ad sh st lt (b + 1) T cap (cap + max 1 (cap / 2)) q h1 hT0 hq hel (by omega) (by omega) hok) (va_cwS 2 hts (lw_S q726 q727 q91 q728) rfl rfl rfl (by decide +kernel) ⟨Nat.le_of_ble_eq_true rfl, Nat.le_of_ble_eq_true rfl⟩) (hr_preS hZ_c hM hIx hK hZ0 hA0 hS) rfl rfl hl.1 rfl (lv_room (Nat.le_of_ble_eq_true rfl)) dJ2_grow_2_37 ⟨Nat.le_of_ble_eq_true rfl, by show 0 + (cap + max 1 (cap / 2)) ≤ cap + max 1 (cap / 2); omega⟩) hS (fun _ _ h => h) (fun _ h => h) ?_
  intro ad ra t H locs ht _ hp hB9 _ _ hS
  obtain ⟨hE, hok⟩ := hp
  obtain ⟨rfl, hM, hIx⟩ := hB9
  rw [ht] at hM
  rw [← hE (.inl b) (fun z => by rw [← z, h0] at hT0; cases hT0)] at hl
  refine W_stk (st2 := [.ref (ad (.inl T)), .ref (ad (.inl b))]) (by rw [hE (.inl b) (fun z => by rw [← z, h0] at hT0; cases hT0)]) ?_
  have h0T := shU_n (r := .inl T) (x := .inr (.inl (C 4, cap + max 1 (cap / 2), q))) h0 (fun z => by rw [← z, h0] at hT0; cases hT0)
  refine lv_dup_x1 hx hb dJ2_grow_2_40 rfl rfl ?_
  refine hr_putR (ci := 6) (C := RJ2) (T := TJ2) (N := 3) (r := .inl b) (f := some (some (.inl (.inl T)))) hx hb hts in_J2 tyJ2 tyJ2_ok nmJ2 hown hK hM hIx hS h0T rfl 1 (by decide) (hts _ q455) rfl rfl rfl rfl rfl (Nat.le_of_ble_eq_true rfl) (fun q hq => by cases hq; exact hsome shU_s) dJ2_grow_2_41 (fun H locs hM hIx hok2 hS => ?_)
  replace hok := hok2 hok
  obtain ⟨ad', hE', hra, hM', hIx', hok'⟩ := h_grown hM hIx hok0 hel hsole h0 h1 hT0
  refine W_stk (st2 := [.ref (ad' (.inl (b + 1)))]) (by rw [hra]) ?_
  refine W.widen (k := 1) (n := cap + max 1 (cap / 2)) (Nat.le_refl _) (by omega) ?_
  exact W.aret hx hb hr (Or.inr ⟨_, rfl⟩) (Or.inr ⟨_, rfl⟩) (fun T ht hW => ⟨⟨ad', _, rfl, ⟨fun r hr1 hr2 => (hE' r hr1).trans (hE r hr2), hok'⟩, rfl, by rw [ht]; exact hM', hIx'⟩, hS.F ht⟩) hS.2.2 dJ2_grow_2_44
def rm_a_grow (cap : Nat) : Room := { frames := 9, cells := 1, slots := cap + max 1 (cap / 2), locals := 180 }
set_option maxHeartbeats 4000000 in
theorem met_a_grow (l : Launch) (D : va_G) (C : Nat → Nat) (a0 : Array Value) (s0 : State) (ad : Rl → Nat) (sh : Rl → Option hS) (st : Rl → Nat → Int32) (lt : Rl → Nat → Int64) (b T cap : Nat) (q : Nat → Option (Rl ⊕ Nat)) (h0 : sh (.inl b) = some (.inr (.inr (6, x_al b)))) (h1 : sh (.inl (b + 1)) = some (.inr (.inl (C 4, cap, q)))) (hT0 : sh (.inl T) = none) (hq : ∀ j, cap ≤ j → q j = none) (hel : ∀ i y, q i = some y → ∃ z, y = .inl z ∧ hEl sh z) (hc0 : 0 < cap) (hcap : cap < 10000000) (hsole : ∀ r x, sh r = some x → hMem (.inl (b + 1)) x → r = .inl b) (hok : hOK sh) (hn : st (.inl b) 2 = Int32.ofNat cap) : Met l yJ2_grow (ws_ yJ2_grow cJ2_grow 1 (some (.array (.object "java/lang/Object")))) (rm_a_grow cap) (va_Pc [.ref (ad (.inl b))] (hB D vwCl (hT C) (hA s0) (hZ a0 s0) ad sh st lt)) (va_Qr (fun ad' : Rl → Nat => (∀ r, r ≠ .inl (b + 1) → r ≠ .inl T → ad' r = ad r) ∧ hOK (shU sh (.inl (b + 1)) (.inr (.inl (C 4, cap + max 1 (cap / 2), q))))) (fun ad' a U => a = ad' (.inl (b + 1)) ∧ hW D vwCl ad' (shU sh (.inl (b + 1)) (.inr (.inl (C 4, cap + max 1 (cap / 2), q)))) st lt U.heap ∧ hI (hA s0) ad' (shU sh (.inl (b + 1)) (.inr (.inl (C 4, cap + max 1 (cap / 2), q))))) (hA s0)) 1 (cap + max 1 (cap / 2)) (hA s0) := by
  refine Met.ofW (cc := cJ2_grow) (maxL := 1) (ret := some (.array (.object "java/lang/Object"))) (by decide) rfl ?_
  intro p e s m args below meth c s₁ B hml hv
  obtain ⟨rfl, hM, hIx, hK, hZ0, hA0⟩ := hv
  have hl := lv_entry ([.ref (ad (.inl b))]) (n := 1) (Nat.le_of_ble_eq_true rfl)
  rw [lg_entry_eq]
  generalize (lg_sl ([.ref (ad (.inl b))]) ++ List.replicate (1 - (lg_sl ([.ref (ad (.inl b))])).length) Slot.unset).toArray = ls at hl ⊢
  have hl : lv_has ls 1 [(0, .ref (ad (.inl b)))] := hl
  have hx := B.exec
  have hb := B.bytes
  have hr := B.returns
  have hown := findClass_of_methodNamed B.named
  have hts : ∀ w ∈ lw_all, w.before _ s = true := fun w h => atoms_spec (ws := ws_ yJ2_grow cJ2_grow 1 (some (.array (.object "java/lang/Object")))) B.pre w (List.mem_cons_of_mem _ h)
  have hS : va_S (hA s0) s.heap s.heap [] := va_S.rf
  refine lv_aload_n hx hb dJ2_grow_0 rfl (lv_at hl 0 rfl) ?_
  refine lv_aload_n hx hb dJ2_grow_1 rfl (lv_at hl 0 rfl) ?_
  refine hr_get (ci := 6) (C := RJ2) (T := TJ2) (N := 3) (r := .inl b) hx hb hts in_J2 hown hK hM h0 rfl 2 (by decide) (hts _ q456) rfl (v := .int (Int32.ofNat cap)) (by show Value.int (st (.inl b) 2) = _; rw [hn]) dJ2_grow_2 ?_
  refine lv_iconst (v := 1) hx hb dJ2_grow_5 (by decide) ?_
  refine lv_iadd hx hb dJ2_grow_6 ?_
  refine W_stk (st2 := [.int (Int32.ofNat (cap + 1)), .ref (ad (.inl b))]) (by congr 2; exact nI_succ cap) ?_
  refine va_callr (va_runV (As := [.int (Int32.ofNat (cap + 1))]) (rest := []) ⟨hx, hb, hml, hown, hts⟩ (met_a_grow2 l D C a0 s0 ad sh st lt b T cap q h0 h1 hT0 hq hel hc0 hcap hsole hok) (cwV 1 hts (lw_V q719 q721 qs7 q80 q722) rfl rfl rfl (by decide +kernel) ⟨Nat.le_of_ble_eq_true rfl, Nat.le_of_ble_eq_true rfl⟩) (hr_preV hZ_c hM hIx hK hZ0 hA0 hS (r := .inl b) h0 (q := (RJ2, TJ2, 3)) rfl) rfl rfl hl.1 rfl (lv_room (Nat.le_of_ble_eq_true rfl)) dJ2_grow_7 ⟨Nat.le_of_ble_eq_true rfl, by show 0 + (cap + max 1 (cap / 2)) ≤ cap + max 1 (cap / 2); omega⟩) hS (fun _ _ h => h) (fun _ h => h) ?_
  intro ad ra t H locs ht _ hp hB9 _ _ hS
  obtain ⟨hE, hok⟩ := hp
  obtain ⟨rfl, hM, hIx⟩ := hB9
  rw [ht] at hM
  refine W.widen (k := 1) (n := cap + max 1 (cap / 2)) (Nat.le_refl _) (by omega) ?_
  exact W.aret hx hb hr (Or.inr ⟨_, rfl⟩) (Or.inr ⟨_, rfl⟩) (fun T ht hW => ⟨⟨ad, _, rfl, ⟨hE, hok⟩, rfl, by rw [ht]; exact hM, hIx⟩, hS.F ht⟩) hS.2.2 dJ2_grow_10
def rm_a_add2r : Room := { frames := 1, cells := 0, slots := 0, locals := 16 }
set_option maxHeartbeats 4000000 in
theorem met_a_add2r (l : Launch) (D : va_G) (C : Nat → Nat) (a0 : Array Value) (s0 : State) (ad : Rl → Nat) (sh : Rl → Option hS) (st : Rl → Nat → Int32) (lt : Rl → Nat → Int64) (b r n cap : Nat) (q : Nat → Option (Rl ⊕ Nat)) (h0 : sh (.inl b) = some (.inr (.inr (6, x_al b)))) (h1 : sh (.inl (b + 1)) = some (.inr (.inl (C 4, cap, q)))) (hr0 : hEl sh (.inl r)) (hcap : cap < 10000000) (hok : hOK sh) (hnc : n < cap) : Met l yJ2_add_2 (ws_ yJ2_add_2 cJ2_add_2 4 (none)) (rm_a_add2r) (va_Pc [.ref (ad (.inl b)), .ref (ad (.inl r)), .ref (ad (.inl (b + 1))), .int (Int32.ofNat n)] (hB D vwCl (hT C) (hA s0) (hZ a0 s0) ad sh st lt)) (va_Qv (fun (_ : Unit) => hOK (shU sh (.inl (b + 1)) (.inr (.inl (C 4, cap, fun j => if j = n then some (.inl (.inl r)) else q j))))) (fun _ U => hW D vwCl ad (shU sh (.inl (b + 1)) (.inr (.inl (C 4, cap, fun j => if j = n then some (.inl (.inl r)) else q j)))) (up2 st (.inl b) 2 (Int32.ofNat (n + 1))) lt U.heap ∧ hI (hA s0) ad (shU sh (.inl (b + 1)) (.inr (.inl (C 4, cap, fun j => if j = n then some (.inl (.inl r)) else q j))))) (hA s0)) 0 0 (hA s0) := by
  refine Met.ofW (cc := cJ2_add_2) (maxL := 4) (ret := none) (by decide) rfl ?_
  intro p e s m args below meth c s₁ B hml hv
  obtain ⟨rfl, hM, hIx, hK, hZ0, hA0⟩ := hv
  have hl := lv_entry ([.ref (ad (.inl b)), .ref (ad (.inl r)), .ref (ad (.inl (b + 1))), .int (Int32.ofNat n)]) (n := 4) (Nat.le_of_ble_eq_true rfl)
  rw [lg_entry_eq]
  generalize (lg_sl ([.ref (ad (.inl b)), .ref (ad (.inl r)), .ref (ad (.inl (b + 1))), .int (Int32.ofNat n)]) ++ List.replicate (4 - (lg_sl ([.ref (ad (.inl b)), .ref (ad (.inl r)), .ref (ad (.inl (b + 1))), .int (Int32.ofNat n)])).length) Slot.unset).toArray = ls at hl ⊢
  have hl : lv_has ls 4 [(0, .ref (ad (.inl b))), (1, .ref (ad (.inl r))), (2, .ref (ad (.inl (b + 1)))), (3, .int (Int32.ofNat n))] := hl
  have hx := B.exec
  have hb := B.bytes
  have hr := B.returns
  have hown := findClass_of_methodNamed B.named
  have hts : ∀ w ∈ lw_all, w.before _ s = true := fun w h => atoms_spec (ws := ws_ yJ2_add_2 cJ2_add_2 4 (none)) B.pre w (List.mem_cons_of_mem _ h)
  have hS : va_S (hA s0) s.heap s.heap [] := va_S.rf
  refine lv_iload_n hx hb dJ2_add_2_0 rfl (lv_at hl 3 rfl) ?_
  refine lv_aload_n hx hb dJ2_add_2_1 rfl (lv_at hl 2 rfl) ?_
  refine hr_alenq hx hb hK hM 4 (r := .inl (b + 1)) h1 rfl (v := Int32.ofNat cap) rfl dJ2_add_2_2 ?_
  refine lv_icmp_ne (tgt := 11) hx hb dJ2_add_2_3 (by decide) (fun _ => ?_) (fun hp => absurd ((nI_eq (by omega) (by omega)).mp hp) (by omega))
  refine lv_aload_n hx hb dJ2_add_2_11 rfl (lv_at hl 2 rfl) ?_
  refine lv_iload_n hx hb dJ2_add_2_12 rfl (lv_at hl 3 rfl) ?_
  refine lv_aload_n hx hb dJ2_add_2_13 rfl (lv_at hl 1 rfl) ?_
  refine hr_aast hx hb hK hM hIx hS 4 (r := .inl (b + 1)) h1 rfl (hr0.any hK hZ0 hM) (q := .inl (.inl r)) rfl (fun z e => by cases e; exact hr0.al) (h_inN' hnc (by omega)) dJ2_add_2_14 (fun H locs hM hIx hok2 hS => ?_)
  replace hok := hok2 hok
  clear hok2
  rw [ofNat_clamp (show n < 2 ^ 31 by omega)] at hM hIx hok
  have h0a := shU_n (r := .inl (b + 1)) (x := .inr (.inl (C 4, cap, fun j => if j = n then some (.inl (.inl r)) else q j))) h0 (inl_ne (by omega))
  refine lv_aload_n hx hb dJ2_add_2_15 rfl (lv_at hl 0 rfl) ?_
  refine lv_iload_n hx hb dJ2_add_2_16 rfl (lv_at hl 3 rfl) ?_
  refine lv_iconst (v := 1) hx hb dJ2_add_2_17 (by decide) ?_
  refine lv_iadd hx hb dJ2_add_2_18 ?_
  refine W_stk (st2 := [.int (Int32.ofNat (n + 1)), .ref (ad (.inl b))]) (by congr 2; exact nI_succ n) ?_
  refine hr_put (r := .inl b) (ci := 6) (C := RJ2) (T := TJ2) (N := 3) hx hb hts in_J2 tyJ2 tyJ2_ok nmJ2 hown hK hM hIx hS h0a rfl 2 (by decide) (hts _ q456) rfl rfl rfl rfl rfl dJ2_add_2_19 (fun H locs hM hS => ?_)
  exact W.vret hx hb hr (fun T ht hW => ⟨⟨(), rfl, hok, by rw [ht]; exact hM, hIx⟩, hS.F ht⟩) hS.2.2 dJ2_add_2_22
theorem shU_2 {sh : Rl → Option hS} {r : Rl} {x y : hS} : shU (shU sh r x) r y = shU sh r y := by
  funext q
  simp only [shU]
  split <;> rfl
def rm_a_add2g (cap : Nat) : Room := { frames := 11, cells := 1, slots := cap + max 1 (cap / 2), locals := 220 }
set_option maxHeartbeats 4000000 in
theorem met_a_add2g (l : Launch) (D : va_G) (C : Nat → Nat) (a0 : Array Value) (s0 : State) (ad : Rl → Nat) (sh : Rl → Option hS) (st : Rl → Nat → Int32) (lt : Rl → Nat → Int64) (b T r cap : Nat) (q : Nat → Option (Rl ⊕ Nat)) (h0 : sh (.inl b) = some (.inr (.inr (6, x_al b)))) (h1 : sh (.inl (b + 1)) = some (.inr (.inl (C 4, cap, q)))) (hT0 : sh (.inl T) = none) (hq : ∀ j, cap ≤ j → q j = none) (hel : ∀ i y, q i = some y → ∃ z, y = .inl z ∧ hEl sh z) (hc0 : 0 < cap) (hcap : cap < 10000000) (hsole : ∀ r x, sh r = some x → hMem (.inl (b + 1)) x → r = .inl b) (hok : hOK sh) (hn : st (.inl b) 2 = Int32.ofNat cap) (hr0 : hEl sh (.inl r)) : Met l yJ2_add_2 (ws_ yJ2_add_2 cJ2_add_2 4 (none)) (rm_a_add2g cap) (va_Pc [.ref (ad (.inl b)), .ref (ad (.inl r)), .ref (ad (.inl (b + 1))), .int (Int32.ofNat cap)] (hB D vwCl (hT C) (hA s0) (hZ a0 s0) ad sh st lt)) (va_Qv (fun ad' : Rl → Nat => (∀ r, r ≠ .inl (b + 1) → r ≠ .inl T → ad' r = ad r) ∧ hOK (shU sh (.inl (b + 1)) (.inr (.inl (C 4, cap + max 1 (cap / 2), fun j => if j = cap then some (.inl (.inl r)) else q j))))) (fun ad' U => hW D vwCl ad' (shU sh (.inl (b + 1)) (.inr (.inl (C 4, cap + max 1 (cap / 2), fun j => if j = cap then some (.inl (.inl r)) else q j)))) (up2 st (.inl b) 2 (Int32.ofNat (cap + 1))) lt U.heap ∧ hI (hA s0) ad' (shU sh (.inl (b + 1)) (.inr (.inl (C 4, cap + max 1 (cap / 2), fun j => if j = cap then some (.inl (.inl r)) else q j))))) (hA s0)) 1 (cap + max 1 (cap / 2)) (hA s0) := by
  refine Met.ofW (cc := cJ2_add_2) (maxL := 4) (ret := none) (by decide) rfl ?_
  intro p e s m args below meth c s₁ B hml hv
  obtain ⟨rfl, hM, hIx, hK, hZ0, hA0⟩ := hv
  have hl := lv_entry ([.ref (ad (.inl b)), .ref (ad (.inl r)), .ref (ad (.inl (b + 1))), .int (Int32.ofNat cap)]) (n := 4) (Nat.le_of_ble_eq_true rfl)
  rw [lg_entry_eq]
  generalize (lg_sl ([.ref (ad (.inl b)), .ref (ad (.inl r)), .ref (ad (.inl (b + 1))), .int (Int32.ofNat cap)]) ++ List.replicate (4 - (lg_sl ([.ref (ad (.inl b)), .ref (ad (.inl r)), .ref (ad (.inl (b + 1))), .int (Int32.ofNat cap)])).length) Slot.unset).toArray = ls at hl ⊢
  have hl : lv_has ls 4 [(0, .ref (ad (.inl b))), (1, .ref (ad (.inl r))), (2, .ref (ad (.inl (b + 1)))), (3, .int (Int32.ofNat cap))] := hl
  have hx := B.exec
  have hb := B.bytes
  have hr := B.returns
  have hown := findClass_of_methodNamed B.named
  have hts : ∀ w ∈ lw_all, w.before _ s = true := fun w h => atoms_spec (ws := ws_ yJ2_add_2 cJ2_add_2 4 (none)) B.pre w (List.mem_cons_of_mem _ h)
  have hS : va_S (hA s0) s.heap s.heap [] := va_S.rf
  refine lv_iload_n hx hb dJ2_add_2_0 rfl (lv_at hl 3 rfl) ?_
  refine lv_aload_n hx hb dJ2_add_2_1 rfl (lv_at hl 2 rfl) ?_
  refine hr_alenq hx hb hK hM 4 (r := .inl (b + 1)) h1 rfl (v := Int32.ofNat cap) rfl dJ2_add_2_2 ?_
  refine lv_icmp_ne (tgt := 11) hx hb dJ2_add_2_3 (by decide) (fun hp => absurd rfl hp) (fun _ => ?_)
  refine lv_aload_n hx hb dJ2_add_2_6 rfl (lv_at hl 0 rfl) ?_
  refine va_callr (va_runV (As := []) (rest := []) ⟨hx, hb, hml, hown, hts⟩ (met_a_grow l D C a0 s0 ad sh st lt b T cap q h0 h1 hT0 hq hel hc0 hcap hsole hok hn) (cwV 0 hts (lw_V q715 q717 qs6 q80 q718) rfl rfl rfl (by decide +kernel) ⟨Nat.le_of_ble_eq_true rfl, Nat.le_of_ble_eq_true rfl⟩) (hr_preV hZ_c hM hIx hK hZ0 hA0 hS (r := .inl b) h0 (q := (RJ2, TJ2, 3)) rfl) rfl rfl hl.1 rfl (lv_room (Nat.le_of_ble_eq_true rfl)) dJ2_add_2_7 ⟨Nat.le_of_ble_eq_true rfl, by show 0 + (cap + max 1 (cap / 2)) ≤ cap + max 1 (cap / 2); omega⟩) hS (fun _ _ h => h) (fun _ h => h) ?_
  have hl := lv_sub hl [0, 1, 3] rfl
  have hTr : (Sum.inl r : Rl) ≠ .inl T := fun z => hr0.al (by rw [z]; exact hT0)
  have h1r : (Sum.inl r : Rl) ≠ .inl (b + 1) := fun z => by
    obtain ⟨ci, fs, q', g1, -, -⟩ := hr0
    rw [z, h1] at g1
    cases g1
  have hTb : (Sum.inl b : Rl) ≠ .inl T := fun z => by rw [← z, h0] at hT0; cases hT0
  intro ad ra t H locs ht _ hp hB9 _ _ hS
  obtain ⟨hE, hok⟩ := hp
  obtain ⟨rfl, hM, hIx⟩ := hB9
  rw [ht] at hM
  rw [← hE (.inl b) (inl_ne (by omega)) hTb] at hl
  rw [← hE (.inl r) h1r hTr] at hl
  refine lv_astore_n (lv' := [(2, .ref (ad (.inl (b + 1)))), (0, .ref (ad (.inl b))), (1, .ref (ad (.inl r))), (3, .int (Int32.ofNat cap))]) hx hb dJ2_add_2_10 rfl hl (by decide) rfl (fun ls hl => ?_)
  have h0 := shU_n (r := .inl (b + 1)) (x := .inr (.inl (C 4, cap + max 1 (cap / 2), q))) h0 (inl_ne (by omega))
  have hr0 : hEl (shU sh (.inl (b + 1)) (.inr (.inl (C 4, cap + max 1 (cap / 2), q)))) (.inl r) := hr0.mono (shU_n rfl h1r)
  refine lv_aload_n hx hb dJ2_add_2_11 rfl (lv_at hl 0 rfl) ?_
  refine lv_iload_n hx hb dJ2_add_2_12 rfl (lv_at hl 3 rfl) ?_
  refine lv_aload_n hx hb dJ2_add_2_13 rfl (lv_at hl 2 rfl) ?_
  refine hr_aast hx hb hK hM hIx hS 4 (r := .inl (b + 1)) shU_s rfl (hr0.any hK hZ0 hM) (q := .inl (.inl r)) rfl (fun z e => by cases e; exact hr0.al) (h_inN' (by omega) (by omega)) dJ2_add_2_14 (fun H locs hM hIx hok2 hS => ?_)
  replace hok := hok2 hok
  clear hok2
  rw [ofNat_clamp (show cap < 2 ^ 31 by omega)] at hM hIx hok
  rw [shU_2] at hM hIx hok
  have h0a := (congrFun (shU_2 (sh := sh) (r := .inl (b + 1)) (x := .inr (.inl (C 4, cap + max 1 (cap / 2), q))) (y := .inr (.inl (C 4, cap + max 1 (cap / 2), fun j => if j = cap then some (.inl (.inl r)) else q j)))) (.inl b)).symm.trans (shU_n (r := .inl (b + 1)) h0 (inl_ne (by omega)))
  refine lv_aload_n hx hb dJ2_add_2_15 rfl (lv_at hl 1 rfl) ?_
  refine lv_iload_n hx hb dJ2_add_2_16 rfl (lv_at hl 3 rfl) ?_
  refine lv_iconst (v := 1) hx hb dJ2_add_2_17 (by decide) ?_
  refine lv_iadd hx hb dJ2_add_2_18 ?_
  refine W_stk (st2 := [.int (Int32.ofNat (cap + 1)), .ref (ad (.inl b))]) (by congr 2; exact nI_succ cap) ?_
  refine hr_put (r := .inl b) (ci := 6) (C := RJ2) (T := TJ2) (N := 3) hx hb hts in_J2 tyJ2 tyJ2_ok nmJ2 hown hK hM hIx hS h0a rfl 2 (by decide) (hts _ q456) rfl rfl rfl rfl rfl dJ2_add_2_19 (fun H locs hM hS => ?_)
  refine W.widen (k := 1) (n := cap + max 1 (cap / 2)) (Nat.le_refl _) (by omega) ?_
  exact W.vret hx hb hr (fun T ht hW => ⟨⟨ad, rfl, ⟨hE, hok⟩, by rw [ht]; exact hM, hIx⟩, hS.F ht⟩) hS.2.2 dJ2_add_2_22
section HPQ
variable {p : Program} {l : Launch} {e : Env} {R : Room} {s : State} {m : MethodId} {args : Array Value} {below : List Frame} {meth : Method} {c : Code} {H : Heap} {locs : List Loc} {cells slots : Nat} {Q : State → Prop}
variable {cc : ByteArray} {pc : Nat} {ls : Array Slot} {rest st0 : List Value} {D : va_G} {cl : List vw_C} {A A1 : Nat → Prop} {tys : List (ClassId × FieldType)} {H0 : Heap} {a : Array Value} {mc ms : Nat}
variable {ad : Rl → Nat} {sh sh' : Rl → Option hS} {st st' : Rl → Nat → Int32} {lt lt' : Rl → Nat → Int64}
theorem hr_getQ (hexec : p.tables.exec = Jvm.exec) (hb : c.code = cc) {own ref C : String} {T : u_T} {N ci index : Nat} {Ts : List Cond} (hts : ∀ w ∈ Ts, w.before args s = true) (hin : ∀ w ∈ u_ws C T N, w ∈ Ts) (hown : s.vm.findClass own = some m.cls) (hK : va_K D cl tys s) (hM : hW D cl ad sh st lt H) {r : Rl} {fs : List hF} (hr : sh r = some (.inr (.inr (ci, fs)))) (hc : cl[ci]? = some (C, T, N)) (k : Nat) (hk : k < N) (hlink : (Cond.fieldLink own index ref (T k).2.1 (T k).2.2.1).before args s = true) (hsame : ∀ x, s.fieldFound? (T k).1 (T k).2.1 (T k).2.2.1 = some x → s.fieldFound? ref (T k).2.1 (T k).2.2.1 = some x) {f : hF} (hf : fs[k]? = some f) {v : Value} (hv : hV ad f (st r k) = v) (hdg : decode cc pc = .ok (.getfield index, 3))
    (kk : W p l e R s m args below meth c H locs cells slots Q (F0 m (pc + 3) ls (v :: rest))) : W p l e R s m args below meth c H locs cells slots Q (F0 m pc ls (.ref (ad r) :: rest)) :=
  va_get hexec hb hts hin hown hK (hM.one hr) 0 rfl hc k hk hlink hsame (v := v) (by rw [hFs_get hf, hv]) hdg kk
theorem hr_putQ (hexec : p.tables.exec = Jvm.exec) (hb : c.code = cc) {own ref C : String} {T : u_T} {N ci index : Nat} {Ts : List Cond} (hts : ∀ w ∈ Ts, w.before args s = true) (hin : ∀ w ∈ u_ws C T N, w ∈ Ts) (ty0 : Nat → FieldType) (hty : ∀ k, k < N → parseFieldDescriptor (T k).2.2.1 = some (ty0 k)) (hnm : ∀ a, a < N → ∀ b, b < N → a ≠ b → (T a).2.1 ≠ (T b).2.1) (hown : s.vm.findClass own = some m.cls) (hK : va_K D cl tys s) (hM : hW D cl ad sh st lt H) (hIx : hI A ad sh) (hS0 : va_S A H0 H locs) {r : Rl} {fs : List hF} (hr : sh r = some (.inr (.inr (ci, fs)))) (hc : cl[ci]? = some (C, T, N)) (k : Nat) (hk : k < N) (hlink : (Cond.fieldLink own index ref (T k).2.1 (T k).2.2.1).before args s = true) (hsame : ∀ x, s.fieldFound? (T k).1 (T k).2.1 (T k).2.2.1 = some x → s.fieldFound? ref (T k).2.1 (T k).2.2.1 = some x) (hfin : (T k).2.2.2 = false) {ty : FieldType} {x : Int32} (hd : parseFieldDescriptor (T k).2.2.1 = some ty) (hn : narrow ty (.int x) = .int x) (hfit : fits ty (.int x) = true) (hf : fs[k]? = some none)
    (hdg : decode cc pc = .ok (.putfield index, 3)) (kk : ∀ (H1 : Heap) (locs1 : List Loc), hW D cl ad sh (up2 st r k x) lt H1 → va_S A H0 H1 locs1 → W p l e R s m args below meth c H1 locs1 cells slots Q (F0 m (pc + 3) ls rest)) : W p l e R s m args below meth c H locs cells slots Q (F0 m pc ls (.int x :: .ref (ad r) :: rest)) := by
  have hap := va_apart (own := own) hts hin ty0 hty hnm hK hc
  obtain ⟨r0, h1, cell, q1, q2, q3, q4⟩ := (hM.one hr) 0 _ rfl
  have hr0 : r0 = (C, T, N) := Option.some.inj (h1.symm.trans hc)
  subst hr0
  obtain ⟨hS, hfc, kC, hkC, hkind⟩ := hK.1 ci _ hc
  obtain ⟨cf, kf, fi, f, hi, hsl⟩ := hS k hk
  have hlay := hts _ (hin _ (u_in_lay hk))
  unfold u_lay at hlay
  rw [if_neg (by rw [hfin]; decide)] at hlay
  have hst := (u_facts hfc hkC (u_lays hts hin hk) hi).1
  have h6 := u_store hfc hkC hkind hlay hi hd hn hfit
  refine W.putK hexec hb (f := f) ⟨hown, hlink, ⟨_, _, _, hsame _ hi⟩, hst⟩ (by rw [q2]; exact h6) q1 q3 (by rw [hsl]; exact k2_hasslot (q4 k hk)) rfl rfl hdg fun H' e1 e2 e3 => ?_
  rw [hsl] at e1 ⊢
  exact kk H' _ (hM.obj hIx hr hc e3 hf ⟨_, e1, q2, q3, t_set q4 hap hk (.int x)⟩) (hS0.put e2 e3 (hIx.2 r (hsome hr)))
end HPQ
def rm_a_addr : Room := { frames := 3, cells := 0, slots := 0, locals := 60 }
set_option maxHeartbeats 4000000 in
theorem met_a_addr (l : Launch) (D : va_G) (C : Nat → Nat) (a0 : Array Value) (s0 : State) (ad : Rl → Nat) (sh : Rl → Option hS) (st : Rl → Nat → Int32) (lt : Rl → Nat → Int64) (b r n cap : Nat) (q : Nat → Option (Rl ⊕ Nat)) (h0 : sh (.inl b) = some (.inr (.inr (6, x_al b)))) (h1 : sh (.inl (b + 1)) = some (.inr (.inl (C 4, cap, q)))) (hr0 : hEl sh (.inl r)) (hcap : cap < 10000000) (hok : hOK sh) (hnc : n < cap) (hn : st (.inl b) 2 = Int32.ofNat n) : Met l yJ2_add (ws_ yJ2_add cJ2_add 2 (some .boolean)) (rm_a_addr) (va_Pc [.ref (ad (.inl b)), .ref (ad (.inl r))] (hB D vwCl (hT C) (hA s0) (hZ a0 s0) ad sh st lt)) (va_Qi (fun (v : Int32) (_ : Unit) => v = 1 ∧ hOK (shU sh (.inl (b + 1)) (.inr (.inl (C 4, cap, fun j => if j = n then some (.inl (.inl r)) else q j))))) (fun _ U => hW D vwCl ad (shU sh (.inl (b + 1)) (.inr (.inl (C 4, cap, fun j => if j = n then some (.inl (.inl r)) else q j)))) (up2 (up2 st (.inl b) 0 (st (.inl b) 0 + 1)) (.inl b) 2 (Int32.ofNat (n + 1))) lt U.heap ∧ hI (hA s0) ad (shU sh (.inl (b + 1)) (.inr (.inl (C 4, cap, fun j => if j = n then some (.inl (.inl r)) else q j))))) (hA s0)) 0 0 (hA s0) := by
  refine Met.ofW (cc := cJ2_add) (maxL := 2) (ret := some .boolean) (by decide) rfl ?_
  intro p e s m args below meth c s₁ B hml hv
  obtain ⟨rfl, hM, hIx, hK, hZ0, hA0⟩ := hv
  have hl := lv_entry ([.ref (ad (.inl b)), .ref (ad (.inl r))]) (n := 2) (Nat.le_of_ble_eq_true rfl)
  rw [lg_entry_eq]
  generalize (lg_sl ([.ref (ad (.inl b)), .ref (ad (.inl r))]) ++ List.replicate (2 - (lg_sl ([.ref (ad (.inl b)), .ref (ad (.inl r))])).length) Slot.unset).toArray = ls at hl ⊢
  have hl : lv_has ls 2 [(0, .ref (ad (.inl b))), (1, .ref (ad (.inl r)))] := hl
  have hx := B.exec
  have hb := B.bytes
  have hr := B.returns
  have hown := findClass_of_methodNamed B.named
  have hts : ∀ w ∈ lw_all, w.before _ s = true := fun w h => atoms_spec (ws := ws_ yJ2_add cJ2_add 2 (some .boolean)) B.pre w (List.mem_cons_of_mem _ h)
  have hS : va_S (hA s0) s.heap s.heap [] := va_S.rf
  refine lv_aload_n hx hb dJ2_add_0 rfl (lv_at hl 0 rfl) ?_
  refine lv_dup hx hb dJ2_add_1 rfl ?_
  refine hr_getQ (ci := 6) (C := RJ2) (T := TJ2) (N := 3) (r := .inl b) hx hb hts in_J2 hown hK hM h0 rfl 0 (by decide) (hts _ q458) (u_same (hts _ q459)) rfl (v := .int (st (.inl b) 0)) rfl dJ2_add_2 ?_
  refine lv_iconst (v := 1) hx hb dJ2_add_5 (by decide) ?_
  refine lv_iadd hx hb dJ2_add_6 ?_
  refine hr_putQ (r := .inl b) (ci := 6) (C := RJ2) (T := TJ2) (N := 3) hx hb hts in_J2 tyJ2 tyJ2_ok nmJ2 hown hK hM hIx hS h0 rfl 0 (by decide) (hts _ q458) (u_same (hts _ q459)) rfl rfl rfl rfl rfl dJ2_add_7 (fun H locs hM hS => ?_)
  refine lv_aload_n hx hb dJ2_add_10 rfl (lv_at hl 0 rfl) ?_
  refine lv_aload_n hx hb dJ2_add_11 rfl (lv_at hl 1 rfl) ?_
  refine lv_aload_n hx hb dJ2_add_12 rfl (lv_at hl 0 rfl) ?_
  refine hr_get (ci := 6) (C := RJ2) (T := TJ2) (N := 3) (r := .inl b) hx hb hts in_J2 hown hK hM h0 rfl 1 (by decide) (hts _ q455) rfl (v := .ref (ad (.inl (b + 1)))) rfl dJ2_add_13 ?_
  refine lv_aload_n hx hb dJ2_add_16 rfl (lv_at hl 0 rfl) ?_
  have hn1 : up2 st (.inl b) 0 (st (.inl b) 0 + 1) (.inl b) 2 = Int32.ofNat n := by simp [up2, hn]
  refine hr_get (ci := 6) (C := RJ2) (T := TJ2) (N := 3) (r := .inl b) hx hb hts in_J2 hown hK hM h0 rfl 2 (by decide) (hts _ q456) rfl (v := .int (Int32.ofNat n)) (by show Value.int (up2 st (.inl b) 0 (st (.inl b) 0 + 1) (.inl b) 2) = _; rw [hn1]) dJ2_add_17 ?_
  refine va_callv (va_runV (As := [.ref (ad (.inl r)), .ref (ad (.inl (b + 1))), .int (Int32.ofNat n)]) (rest := []) ⟨hx, hb, hml, hown, hts⟩ (met_a_add2r l D C a0 s0 ad sh _ lt b r n cap q h0 h1 hr0 hcap hok hnc) (cwV 3 hts (lw_V q711 q713 qs5 q80 q714) rfl rfl rfl (by decide +kernel) ⟨Nat.le_of_ble_eq_true rfl, Nat.le_of_ble_eq_true rfl⟩) (hr_preV hZ_c hM hIx hK hZ0 hA0 hS (r := .inl b) h0 (q := (RJ2, TJ2, 3)) rfl) rfl rfl hl.1 rfl (lv_room (Nat.le_of_ble_eq_true rfl)) dJ2_add_20 ⟨Nat.le_of_ble_eq_true rfl, Nat.le_of_ble_eq_true rfl⟩) hS (fun _ _ h => h) (fun _ h => h) ?_
  intro _ t H locs ht _ hok hB9 _ _ hS
  obtain ⟨hM, hIx⟩ := hB9
  rw [ht] at hM
  refine lv_iconst (v := 1) hx hb dJ2_add_23 (by decide) ?_
  exact W.zret (v := 1) hx hb hr rfl (fun T ht hW => ⟨⟨_, (), rfl, ⟨rfl, hok⟩, by rw [ht]; exact hM, hIx⟩, hS.F ht⟩) hS.2.2 dJ2_add_24
def rm_a_addg (cap : Nat) : Room := { frames := 13, cells := 1, slots := cap + max 1 (cap / 2), locals := 260 }
set_option maxHeartbeats 4000000 in
theorem met_a_addg (l : Launch) (D : va_G) (C : Nat → Nat) (a0 : Array Value) (s0 : State) (ad : Rl → Nat) (sh : Rl → Option hS) (st : Rl → Nat → Int32) (lt : Rl → Nat → Int64) (b T r cap : Nat) (q : Nat → Option (Rl ⊕ Nat)) (h0 : sh (.inl b) = some (.inr (.inr (6, x_al b)))) (h1 : sh (.inl (b + 1)) = some (.inr (.inl (C 4, cap, q)))) (hT0 : sh (.inl T) = none) (hq : ∀ j, cap ≤ j → q j = none) (hel : ∀ i y, q i = some y → ∃ z, y = .inl z ∧ hEl sh z) (hc0 : 0 < cap) (hcap : cap < 10000000) (hsole : ∀ r x, sh r = some x → hMem (.inl (b + 1)) x → r = .inl b) (hok : hOK sh) (hn : st (.inl b) 2 = Int32.ofNat cap) (hr0 : hEl sh (.inl r)) : Met l yJ2_add (ws_ yJ2_add cJ2_add 2 (some .boolean)) (rm_a_addg cap) (va_Pc [.ref (ad (.inl b)), .ref (ad (.inl r))] (hB D vwCl (hT C) (hA s0) (hZ a0 s0) ad sh st lt)) (va_Qi (fun (v : Int32) (ad' : Rl → Nat) => v = 1 ∧ (∀ r, r ≠ .inl (b + 1) → r ≠ .inl T → ad' r = ad r) ∧ hOK (shU sh (.inl (b + 1)) (.inr (.inl (C 4, cap + max 1 (cap / 2), fun j => if j = cap then some (.inl (.inl r)) else q j))))) (fun ad' U => hW D vwCl ad' (shU sh (.inl (b + 1)) (.inr (.inl (C 4, cap + max 1 (cap / 2), fun j => if j = cap then some (.inl (.inl r)) else q j)))) (up2 (up2 st (.inl b) 0 (st (.inl b) 0 + 1)) (.inl b) 2 (Int32.ofNat (cap + 1))) lt U.heap ∧ hI (hA s0) ad' (shU sh (.inl (b + 1)) (.inr (.inl (C 4, cap + max 1 (cap / 2), fun j => if j = cap then some (.inl (.inl r)) else q j))))) (hA s0)) 1 (cap + max 1 (cap / 2)) (hA s0) := by
  refine Met.ofW (cc := cJ2_add) (maxL := 2) (ret := some .boolean) (by decide) rfl ?_
  intro p e s m args below meth c s₁ B hml hv
  obtain ⟨rfl, hM, hIx, hK, hZ0, hA0⟩ := hv
  have hl := lv_entry ([.ref (ad (.inl b)), .ref (ad (.inl r))]) (n := 2) (Nat.le_of_ble_eq_true rfl)
  rw [lg_entry_eq]
  generalize (lg_sl ([.ref (ad (.inl b)), .ref (ad (.inl r))]) ++ List.replicate (2 - (lg_sl ([.ref (ad (.inl b)), .ref (ad (.inl r))])).length) Slot.unset).toArray = ls at hl ⊢
  have hl : lv_has ls 2 [(0, .ref (ad (.inl b))), (1, .ref (ad (.inl r)))] := hl
  have hx := B.exec
  have hb := B.bytes
  have hr := B.returns
  have hown := findClass_of_methodNamed B.named
  have hts : ∀ w ∈ lw_all, w.before _ s = true := fun w h => atoms_spec (ws := ws_ yJ2_add cJ2_add 2 (some .boolean)) B.pre w (List.mem_cons_of_mem _ h)
  have hS : va_S (hA s0) s.heap s.heap [] := va_S.rf
  refine lv_aload_n hx hb dJ2_add_0 rfl (lv_at hl 0 rfl) ?_
  refine lv_dup hx hb dJ2_add_1 rfl ?_
  refine hr_getQ (ci := 6) (C := RJ2) (T := TJ2) (N := 3) (r := .inl b) hx hb hts in_J2 hown hK hM h0 rfl 0 (by decide) (hts _ q458) (u_same (hts _ q459)) rfl (v := .int (st (.inl b) 0)) rfl dJ2_add_2 ?_
  refine lv_iconst (v := 1) hx hb dJ2_add_5 (by decide) ?_
  refine lv_iadd hx hb dJ2_add_6 ?_
  refine hr_putQ (r := .inl b) (ci := 6) (C := RJ2) (T := TJ2) (N := 3) hx hb hts in_J2 tyJ2 tyJ2_ok nmJ2 hown hK hM hIx hS h0 rfl 0 (by decide) (hts _ q458) (u_same (hts _ q459)) rfl rfl rfl rfl rfl dJ2_add_7 (fun H locs hM hS => ?_)
  refine lv_aload_n hx hb dJ2_add_10 rfl (lv_at hl 0 rfl) ?_
  refine lv_aload_n hx hb dJ2_add_11 rfl (lv_at hl 1 rfl) ?_
  refine lv_aload_n hx hb dJ2_add_12 rfl (lv_at hl 0 rfl) ?_
  refine hr_get (ci := 6) (C := RJ2) (T := TJ2) (N := 3) (r := .inl b) hx hb hts in_J2 hown hK hM h0 rfl 1 (by decide) (hts _ q455) rfl (v := .ref (ad (.inl (b + 1)))) rfl dJ2_add_13 ?_
  refine lv_aload_n hx hb dJ2_add_16 rfl (lv_at hl 0 rfl) ?_
  have hn1 : up2 st (.inl b) 0 (st (.inl b) 0 + 1) (.inl b) 2 = Int32.ofNat cap := by simp [up2, hn]
  refine hr_get (ci := 6) (C := RJ2) (T := TJ2) (N := 3) (r := .inl b) hx hb hts in_J2 hown hK hM h0 rfl 2 (by decide) (hts _ q456) rfl (v := .int (Int32.ofNat cap)) (by show Value.int (up2 st (.inl b) 0 (st (.inl b) 0 + 1) (.inl b) 2) = _; rw [hn1]) dJ2_add_17 ?_
  refine va_callv (va_runV (As := [.ref (ad (.inl r)), .ref (ad (.inl (b + 1))), .int (Int32.ofNat cap)]) (rest := []) ⟨hx, hb, hml, hown, hts⟩ (met_a_add2g l D C a0 s0 ad sh _ lt b T r cap q h0 h1 hT0 hq hel hc0 hcap hsole hok hn1 hr0) (cwV 3 hts (lw_V q711 q713 qs5 q80 q714) rfl rfl rfl (by decide +kernel) ⟨Nat.le_of_ble_eq_true rfl, Nat.le_of_ble_eq_true rfl⟩) (hr_preV hZ_c hM hIx hK hZ0 hA0 hS (r := .inl b) h0 (q := (RJ2, TJ2, 3)) rfl) rfl rfl hl.1 rfl (lv_room (Nat.le_of_ble_eq_true rfl)) dJ2_add_20 ⟨Nat.le_of_ble_eq_true rfl, by show 0 + (cap + max 1 (cap / 2)) ≤ cap + max 1 (cap / 2); omega⟩) hS (fun _ _ h => h) (fun _ h => h) ?_
  intro ad t H locs ht _ hp hB9 _ _ hS
  obtain ⟨hE, hok⟩ := hp
  obtain ⟨hM, hIx⟩ := hB9
  rw [ht] at hM
  refine lv_iconst (v := 1) hx hb dJ2_add_23 (by decide) ?_
  refine W.widen (k := 1) (n := cap + max 1 (cap / 2)) (Nat.le_refl _) (by omega) ?_
  exact W.zret (v := 1) hx hb hr rfl (fun T ht hW => ⟨⟨_, ad, rfl, ⟨rfl, hE, hok⟩, by rw [ht]; exact hM, hIx⟩, hS.F ht⟩) hS.2.2 dJ2_add_24
def rm_s_ock : Room := { frames := 3, cells := 0, slots := 0, locals := 40 }
theorem met_s_ock (l : Launch) (i k : Int32) (h0 : ¬ i < 0) (h1 : i < k) : Met l yJ18_checkIndex (ws_ yJ18_checkIndex cJ18_checkIndex 2 (some .int)) rm_s_ock (va_Pc [.int i, .int k] (fun _ => True)) (va_Qi (fun (r : Int32) (_ : Unit) => r = i) (fun _ _ => True) N0) 0 0 N0 := by
  refine Met.ofW (cc := cJ18_checkIndex) (maxL := 2) (ret := some .int) (by decide) rfl ?_
  intro p e s m args below meth c s₁ B hml hv
  obtain ⟨rfl, -⟩ := hv
  have hl := lv_entry ([.int i, .int k]) (n := 2) (Nat.le_of_ble_eq_true rfl)
  rw [lg_entry_eq]
  generalize (lg_sl ([.int i, .int k]) ++ List.replicate (2 - (lg_sl ([.int i, .int k])).length) Slot.unset).toArray = ls at hl ⊢
  have hl : lv_has ls 2 [(0, .int i), (1, .int k)] := hl
  have hx := B.exec
  have hb := B.bytes
  have hr := B.returns
  have hown := findClass_of_methodNamed B.named
  have hts : ∀ w ∈ lw_all, w.before _ s = true := fun w h => atoms_spec (ws := ws_ yJ18_checkIndex cJ18_checkIndex 2 (some .int)) B.pre w (List.mem_cons_of_mem _ h)
  have hS : va_S N0 s.heap s.heap [] := va_S.rf
  refine lv_iload_n hx hb dJ18_checkIndex_0 rfl (lv_at hl 0 rfl) ?_
  refine lv_iload_n hx hb dJ18_checkIndex_1 rfl (lv_at hl 1 rfl) ?_
  refine lv_null hx hb dJ18_checkIndex_2 ?_
  refine va_calli (va_runS (As := [.int i, .int k, .null]) (rest := []) ⟨hx, hb, hml, hown, hts⟩ (met_s_ckN l i k h0 h1) (va_cwS 3 hts (lw_S q781 q782 q93 q783) rfl rfl rfl (by decide +kernel) ⟨Nat.le_of_ble_eq_true rfl, Nat.le_of_ble_eq_true rfl⟩) (hPk_preS hPk_True trivial hS) rfl rfl hl.1 rfl (lv_room (Nat.le_of_ble_eq_true rfl)) dJ18_checkIndex_3 ⟨Nat.le_of_ble_eq_true rfl, Nat.le_of_ble_eq_true rfl⟩) hS (fun _ _ h => h) (fun _ h => h) ?_
  intro r _ u H1 locs1 ht hvm hr1 _ _ hk1 hS
  subst hr1
  exact W.iret hx hb hr (fun T ht hW => ⟨⟨_, (), rfl, rfl, trivial⟩, hS.F ht⟩) hS.2.2 dJ18_checkIndex_6
theorem hPk_preSn {P : State → Heap → Prop} (h : hPk P) {s : State} {H : Heap} {As : List Value} (hp : ∀ U : State, s.WarmedH U.vm → P U H) : PreS s H (va_Pc As (fun U => P U U.heap)) As := ⟨hPk_blind h, fun _ hU hW' => ⟨rfl, by show P _ _; rw [hU]; exact hp _ hW'⟩⟩
theorem h_add_sub1 (x : Int32) : x + 1 - 1 = x := by
  apply Int32.toBitVec_inj.mp
  simp
def rm_a_fastRemove : Room := { frames := 1, cells := 0, slots := 0, locals := 16 }
set_option maxHeartbeats 4000000 in
theorem met_a_fastRemove (l : Launch) (D : va_G) (C : Nat → Nat) (a0 : Array Value) (s0 : State) (ad : Rl → Nat) (sh : Rl → Option hS) (st : Rl → Nat → Int32) (lt : Rl → Nat → Int64) (b n cap : Nat) (q : Nat → Option (Rl ⊕ Nat)) (h0 : sh (.inl b) = some (.inr (.inr (6, x_al b)))) (h1 : sh (.inl (b + 1)) = some (.inr (.inl (C 4, cap, q)))) (hn : st (.inl b) 2 = Int32.ofNat (n + 1)) (hnc : n < cap) (hcap : cap < 10000000) (hok : hOK sh) : Met l yJ2_fastRemove (ws_ yJ2_fastRemove cJ2_fastRemove 4 (none)) (rm_a_fastRemove) (va_Pc [.ref (ad (.inl b)), .ref (ad (.inl (b + 1))), .int (Int32.ofNat n)] (hB D vwCl (hT C) (hA s0) (hZ a0 s0) ad sh st lt)) (va_Qv (fun (_ : Unit) => hOK (shU sh (.inl (b + 1)) (.inr (.inl (C 4, cap, fun j => if j = n then none else q j))))) (fun _ U => hW D vwCl ad (shU sh (.inl (b + 1)) (.inr (.inl (C 4, cap, fun j => if j = n then none else q j)))) (up2 (up2 st (.inl b) 0 (st (.inl b) 0 + 1)) (.inl b) 2 (Int32.ofNat n)) lt U.heap ∧ hI (hA s0) ad (shU sh (.inl (b + 1)) (.inr (.inl (C 4, cap, fun j => if j = n then none else q j))))) (hA s0)) 0 0 (hA s0) := by
  refine Met.ofW (cc := cJ2_fastRemove) (maxL := 4) (ret := none) (by decide) rfl ?_
  intro p e s m args below meth c s₁ B hml hv
  obtain ⟨rfl, hM, hIx, hK, hZ0, hA0⟩ := hv
  have hl := lv_entry ([.ref (ad (.inl b)), .ref (ad (.inl (b + 1))), .int (Int32.ofNat n)]) (n := 4) (Nat.le_of_ble_eq_true rfl)
  rw [lg_entry_eq]
  generalize (lg_sl ([.ref (ad (.inl b)), .ref (ad (.inl (b + 1))), .int (Int32.ofNat n)]) ++ List.replicate (4 - (lg_sl ([.ref (ad (.inl b)), .ref (ad (.inl (b + 1))), .int (Int32.ofNat n)])).length) Slot.unset).toArray = ls at hl ⊢
  have hl : lv_has ls 4 [(0, .ref (ad (.inl b))), (1, .ref (ad (.inl (b + 1)))), (2, .int (Int32.ofNat n))] := hl
  have hx := B.exec
  have hb := B.bytes
  have hr := B.returns
  have hown := findClass_of_methodNamed B.named
  have hts : ∀ w ∈ lw_all, w.before _ s = true := fun w h => atoms_spec (ws := ws_ yJ2_fastRemove cJ2_fastRemove 4 (none)) B.pre w (List.mem_cons_of_mem _ h)
  have hS : va_S (hA s0) s.heap s.heap [] := va_S.rf
  refine lv_aload_n hx hb dJ2_fastRemove_0 rfl (lv_at hl 0 rfl) ?_
  refine lv_dup hx hb dJ2_fastRemove_1 rfl ?_
  refine hr_getQ (ci := 6) (C := RJ2) (T := TJ2) (N := 3) (r := .inl b) hx hb hts in_J2 hown hK hM h0 rfl 0 (by decide) (hts _ q458) (u_same (hts _ q459)) rfl (v := .int (st (.inl b) 0)) rfl dJ2_fastRemove_2 ?_
  refine lv_iconst (v := 1) hx hb dJ2_fastRemove_5 (by decide) ?_
  refine lv_iadd hx hb dJ2_fastRemove_6 ?_
  refine hr_putQ (r := .inl b) (ci := 6) (C := RJ2) (T := TJ2) (N := 3) hx hb hts in_J2 tyJ2 tyJ2_ok nmJ2 hown hK hM hIx hS h0 rfl 0 (by decide) (hts _ q458) (u_same (hts _ q459)) rfl rfl rfl rfl rfl dJ2_fastRemove_7 (fun H locs hM hS => ?_)
  refine lv_aload_n hx hb dJ2_fastRemove_10 rfl (lv_at hl 0 rfl) ?_
  have hn1 : up2 st (.inl b) 0 (st (.inl b) 0 + 1) (.inl b) 2 = Int32.ofNat (n + 1) := by simp [up2, hn]
  refine hr_get (ci := 6) (C := RJ2) (T := TJ2) (N := 3) (r := .inl b) hx hb hts in_J2 hown hK hM h0 rfl 2 (by decide) (hts _ q456) rfl (v := .int (Int32.ofNat (n + 1))) (by show Value.int _ = _; rw [hn1]) dJ2_fastRemove_11 ?_
  refine lv_iconst (v := 1) hx hb dJ2_fastRemove_14 (by decide) ?_
  refine lv_isub hx hb dJ2_fastRemove_15 ?_
  refine W_stk (st2 := [.int (Int32.ofNat n)]) (by congr 2; rw [show Int32.ofNat (n + 1) = Int32.ofNat n + 1 from nI_succ n]; exact (h_add_sub1 _).symm) ?_
  refine lv_dup hx hb dJ2_fastRemove_16 rfl ?_
  refine lv_istore_n (lv' := [(3, .int (Int32.ofNat n)), (0, .ref (ad (.inl b))), (1, .ref (ad (.inl (b + 1)))), (2, .int (Int32.ofNat n))]) hx hb dJ2_fastRemove_17 rfl hl (by decide) rfl (fun ls hl => ?_)
  refine lv_iload_n hx hb dJ2_fastRemove_18 rfl (lv_at hl 3 rfl) ?_
  refine lv_icmp_le (tgt := 34) hx hb dJ2_fastRemove_19 (by decide) (fun _ => ?_) (fun hp => absurd (Int32.le_refl _) hp)
  refine lv_aload_n hx hb dJ2_fastRemove_34 rfl (lv_at hl 2 rfl) ?_
  refine lv_aload_n hx hb dJ2_fastRemove_35 rfl (lv_at hl 1 rfl) ?_
  refine lv_iload_n hx hb dJ2_fastRemove_36 rfl (lv_at hl 0 rfl) ?_
  refine lv_dup_x1 hx hb dJ2_fastRemove_37 rfl rfl ?_
  refine hr_put (r := .inl b) (ci := 6) (C := RJ2) (T := TJ2) (N := 3) hx hb hts in_J2 tyJ2 tyJ2_ok nmJ2 hown hK hM hIx hS h0 rfl 2 (by decide) (hts _ q456) rfl rfl rfl rfl rfl dJ2_fastRemove_38 (fun H locs hM hS => ?_)
  refine lv_null hx hb dJ2_fastRemove_41 ?_
  refine hr_aastN hx hb hK hM hIx hok hS 4 (r := .inl (b + 1)) h1 rfl (h_inN' hnc (by omega)) dJ2_fastRemove_42 (fun H locs hM hIx hok hS => ?_)
  rw [ofNat_clamp (show n < 2 ^ 31 by omega)] at hM hIx hok
  exact W.vret hx hb hr (fun T ht hW => ⟨⟨(), rfl, hok, by rw [ht]; exact hM, hIx⟩, hS.F ht⟩) hS.2.2 dJ2_fastRemove_43
def rm_a_remove : Room := { frames := 5, cells := 0, slots := 0, locals := 90 }
set_option maxHeartbeats 4000000 in
theorem met_a_remove (l : Launch) (D : va_G) (C : Nat → Nat) (a0 : Array Value) (s0 : State) (ad : Rl → Nat) (sh : Rl → Option hS) (st : Rl → Nat → Int32) (lt : Rl → Nat → Int64) (b r n cap : Nat) (q : Nat → Option (Rl ⊕ Nat)) (h0 : sh (.inl b) = some (.inr (.inr (6, x_al b)))) (h1 : sh (.inl (b + 1)) = some (.inr (.inl (C 4, cap, q)))) (hn : st (.inl b) 2 = Int32.ofNat (n + 1)) (hnc : n < cap) (hcap : cap < 10000000) (hok : hOK sh) (hr0 : q n = some (.inl (.inl r))) : Met l yJ2_remove (ws_ yJ2_remove cJ2_remove 4 (some (.object "java/lang/Object"))) (rm_a_remove) (va_Pc [.ref (ad (.inl b)), .int (Int32.ofNat n)] (hB D vwCl (hT C) (hA s0) (hZ a0 s0) ad sh st lt)) (va_Qr (fun (_ : Unit) => hOK (shU sh (.inl (b + 1)) (.inr (.inl (C 4, cap, fun j => if j = n then none else q j))))) (fun _ a U => a = ad (.inl r) ∧ hW D vwCl ad (shU sh (.inl (b + 1)) (.inr (.inl (C 4, cap, fun j => if j = n then none else q j)))) (up2 (up2 st (.inl b) 0 (st (.inl b) 0 + 1)) (.inl b) 2 (Int32.ofNat n)) lt U.heap ∧ hI (hA s0) ad (shU sh (.inl (b + 1)) (.inr (.inl (C 4, cap, fun j => if j = n then none else q j))))) (hA s0)) 0 0 (hA s0) := by
  refine Met.ofW (cc := cJ2_remove) (maxL := 4) (ret := some (.object "java/lang/Object")) (by decide) rfl ?_
  intro p e s m args below meth c s₁ B hml hv
  obtain ⟨rfl, hM, hIx, hK, hZ0, hA0⟩ := hv
  have hl := lv_entry ([.ref (ad (.inl b)), .int (Int32.ofNat n)]) (n := 4) (Nat.le_of_ble_eq_true rfl)
  rw [lg_entry_eq]
  generalize (lg_sl ([.ref (ad (.inl b)), .int (Int32.ofNat n)]) ++ List.replicate (4 - (lg_sl ([.ref (ad (.inl b)), .int (Int32.ofNat n)])).length) Slot.unset).toArray = ls at hl ⊢
  have hl : lv_has ls 4 [(0, .ref (ad (.inl b))), (1, .int (Int32.ofNat n))] := hl
  have hx := B.exec
  have hb := B.bytes
  have hr := B.returns
  have hown := findClass_of_methodNamed B.named
  have hts : ∀ w ∈ lw_all, w.before _ s = true := fun w h => atoms_spec (ws := ws_ yJ2_remove cJ2_remove 4 (some (.object "java/lang/Object"))) B.pre w (List.mem_cons_of_mem _ h)
  have hS : va_S (hA s0) s.heap s.heap [] := va_S.rf
  refine lv_iload_n hx hb dJ2_remove_0 rfl (lv_at hl 1 rfl) ?_
  refine lv_aload_n hx hb dJ2_remove_1 rfl (lv_at hl 0 rfl) ?_
  have hn1 := hn
  refine hr_get (ci := 6) (C := RJ2) (T := TJ2) (N := 3) (r := .inl b) hx hb hts in_J2 hown hK hM h0 rfl 2 (by decide) (hts _ q456) rfl (v := .int (Int32.ofNat (n + 1))) (by show Value.int _ = _; rw [hn1]) dJ2_remove_2 ?_
  refine hr_strI rfl (va_runS (As := [.int (Int32.ofNat n), .int (Int32.ofNat (n + 1))]) (rest := []) ⟨hx, hb, hml, hown, hts⟩ (met_s_ock l _ _ (nI_pos (by omega)) (nI_lt (Nat.lt_succ_self n) (by omega))) (va_cwS 2 hts (lw_S q778 q779 q111 q780) rfl rfl rfl (by decide +kernel) ⟨Nat.le_of_ble_eq_true rfl, Nat.le_of_ble_eq_true rfl⟩) (hPk_preSn hPk_True (fun _ _ => trivial)) rfl rfl hl.1 rfl (lv_room (Nat.le_of_ble_eq_true rfl)) dJ2_remove_5 ⟨Nat.le_of_ble_eq_true rfl, Nat.le_of_ble_eq_true rfl⟩) hM hS (fun H locs hM hS => ?_)
  refine lv_pop hx hb dJ2_remove_8 rfl ?_
  refine lv_aload_n hx hb dJ2_remove_9 rfl (lv_at hl 0 rfl) ?_
  refine hr_get (ci := 6) (C := RJ2) (T := TJ2) (N := 3) (r := .inl b) hx hb hts in_J2 hown hK hM h0 rfl 1 (by decide) (hts _ q455) rfl (v := .ref (ad (.inl (b + 1)))) rfl dJ2_remove_10 ?_
  refine lv_astore_n (lv' := [(2, .ref (ad (.inl (b + 1)))), (0, .ref (ad (.inl b))), (1, .int (Int32.ofNat n))]) hx hb dJ2_remove_13 rfl hl (by decide) rfl (fun ls hl => ?_)
  refine lv_aload_n hx hb dJ2_remove_14 rfl (lv_at hl 0 rfl) ?_
  refine lv_iload_n hx hb dJ2_remove_15 rfl (lv_at hl 2 rfl) ?_
  refine hr_aald hx hb hK hM 4 (r := .inl (b + 1)) h1 rfl (h_inN' hnc (by omega)) (v := .ref (ad (.inl r))) (by rw [ofNat_clamp (by omega), hr0]; rfl) dJ2_remove_16 ?_
  refine lv_astore_n (lv' := [(3, .ref (ad (.inl r))), (2, .ref (ad (.inl (b + 1)))), (0, .ref (ad (.inl b))), (1, .int (Int32.ofNat n))]) hx hb dJ2_remove_17 rfl hl (by decide) rfl (fun ls hl => ?_)
  refine lv_aload_n hx hb dJ2_remove_18 rfl (lv_at hl 2 rfl) ?_
  refine lv_aload_n hx hb dJ2_remove_19 rfl (lv_at hl 1 rfl) ?_
  refine lv_iload_n hx hb dJ2_remove_20 rfl (lv_at hl 3 rfl) ?_
  refine va_callv (va_runV (As := [.ref (ad (.inl (b + 1))), .int (Int32.ofNat n)]) (rest := []) ⟨hx, hb, hml, hown, hts⟩ (met_a_fastRemove l D C a0 s0 ad sh st lt b n cap q h0 h1 hn hnc hcap hok) (cwV 2 hts (lw_V q784 q786 qs9 q80 q787) rfl rfl rfl (by decide +kernel) ⟨Nat.le_of_ble_eq_true rfl, Nat.le_of_ble_eq_true rfl⟩) (hr_preV hZ_c hM hIx hK hZ0 hA0 hS (r := .inl b) h0 (q := (RJ2, TJ2, 3)) rfl) rfl rfl hl.1 rfl (lv_room (Nat.le_of_ble_eq_true rfl)) dJ2_remove_21 ⟨Nat.le_of_ble_eq_true rfl, Nat.le_of_ble_eq_true rfl⟩) hS (fun _ _ h => h) (fun _ h => h) ?_
  intro _ t H locs ht _ hok hB9 _ _ hS
  obtain ⟨hM, hIx⟩ := hB9
  rw [ht] at hM
  refine lv_aload_n hx hb dJ2_remove_24 rfl (lv_at hl 0 rfl) ?_
  exact W.aret hx hb hr (Or.inl ⟨_, rfl⟩) (Or.inr ⟨_, rfl⟩) (fun T ht hW => ⟨⟨(), _, rfl, hok, rfl, by rw [ht]; exact hM, hIx⟩, hS.F ht⟩) hS.2.2 dJ2_remove_25
