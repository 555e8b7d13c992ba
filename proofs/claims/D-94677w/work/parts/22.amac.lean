/-! MACROS of walks that make cells (printed by tools/gen_am.py) -/
set_option maxRecDepth 100000
/-- the ints of a new State -/
def hnz (g : hSt) (b : Nat) : hSt := fun q => if b ≤ q ∧ q < b + 6 then (fun _ => 0) else g q
theorem hnz_eq (g t : hSt) (b : Nat) : stSt b (stU (Sum.elim g t) (.inl b) (fun _ => 0)) = Sum.elim (hnz g b) t := by
  funext r
  cases r with
  | inr q => simp only [stSt, stU, if_neg (inl_ner.symm : (Sum.inr q : Rl) ≠ .inl _)]; rfl
  | inl q =>
    simp only [stSt, stU, hnz, Sum.inl.injEq, Sum.elim_inl]
    by_cases h1 : b < q ∧ q < b + 6
    · rw [if_pos h1, if_pos ⟨by omega, h1.2⟩]
    · rw [if_neg h1]
      by_cases h2 : q = b
      · rw [if_pos h2, if_pos ⟨by omega, by omega⟩]
      · rw [if_neg h2, if_neg (by omega)]
theorem hx_newst {p : Program} {l : Launch} {e : Env} {R : Room} {s : State} {m : MethodId} {args : Array Value} {below : List Frame} {meth : Method} {c : Code} {H : Heap} {locs : List Loc} {cells slots : Nat} {Q : State → Prop} {D : va_G} {C : Nat → Nat} {a0 : Array Value} {s0 : State} {ad : Rl → Nat} {so : Nat → Option hS} {pr : hPr} {g t : hSt} {lt : Rl → Nat → Int64} {ls : Array Slot} {nL : Nat} {lv : List (Nat × Value)} {i0 : Nat} (hx : p.tables.exec = Jvm.exec) (hb : c.code = cX1_comes) (hml : c.maxLocals = nL) (hown : s.vm.findClass RX1 = some m.cls) (hts : ∀ w ∈ lw_all, w.before args s = true) (hK : va_K D vwCl (hT C) s) (hZ0 : hZ a0 s0 s s.heap) (hA0 : ∀ q : Nat, s.heap.size ≤ q → hA s0 q) (hM : hW D vwCl ad (Sum.elim (xSH C pr) so) (Sum.elim g t) lt H) (hIx : hI (hA s0) ad (Sum.elim (xSH C pr) so)) (hok : hOK (Sum.elim (xSH C pr) so)) (hS : va_S (hA s0) s.heap H locs) (hl : lv_has ls nL lv) (h0l : lv[i0]? = some (0, .ref (ad (.inl 0)))) (hmany : g 0 15 = Int32.ofNat (pr 9 2)) (hlim : pr 9 2 < 1000) (hR1 : rm_a_stinit.frames + 1 ≤ R.frames) (hR2 : 8 + (1 + 11) + rm_a_stinit.locals ≤ R.locals) (hR3 : cells + 6 ≤ R.cells) (hR4 : slots + 42 ≤ R.slots)
    (kk : ∀ (ad' : Rl → Nat) (H1 : Heap) (locs1 : List Loc), hExt C so pr ad (prN pr) ad' → hOK (Sum.elim (xSH C (prN pr)) so) → hW D vwCl ad' (Sum.elim (xSH C (prN pr)) so) (Sum.elim (hnz g (1000 + 6 * pr 9 2)) t) lt H1 → hI (hA s0) ad' (Sum.elim (xSH C (prN pr)) so) → va_S (hA s0) s.heap H1 locs1 → W p l e R s m args below meth c H1 locs1 (cells + 6) (slots + 42) Q (F0 m 99 ls [])) : W p l e R s m args below meth c H locs cells slots Q (F0 m 83 ls []) := by
  refine lv_aload_n hx hb dX1_comes_83 rfl (lv_at hl i0 h0l) ?_
  refine hr_get (ci := 0) (C := RX1) (T := TX1) (N := 19) (r := .inl 0) hx hb hts in_X1 hown hK hM xS_0 rfl 12 (by decide) (hts _ q571) rfl (v := .ref (ad (.inl 5))) rfl dX1_comes_84 ?_
  refine lv_aload_n hx hb dX1_comes_87 rfl (lv_at hl i0 h0l) ?_
  refine hr_get (ci := 0) (C := RX1) (T := TX1) (N := 19) (r := .inl 0) hx hb hts in_X1 hown hK hM xS_0 rfl 15 (by decide) (hts _ q574) rfl (v := .int (Int32.ofNat (pr 9 2))) (by show Value.int (g 0 15) = _; rw [hmany]) dX1_comes_88 ?_
  refine hr_new (.inl (1000 + 6 * pr 9 2)) hx hb hts in_X4 tyX4 tyX4_ok hown (hts _ q556) (hts _ q504) (hts _ q98) hK hM hIx hok hS hA0 (xSH_none (Nat.le_refl _) (by omega)) (ci := 1) rfl (fs := stx0) (fun j hj => match j, hj with | 0, _ => rfl | 1, _ => rfl | 2, _ => rfl | 3, _ => rfl | 4, _ => rfl | 5, _ => rfl | j + 6, hj => absurd hj (by omega)) (by simp [stx0]) (by omega) (by omega) dX1_comes_91 (fun ad1 H hE1 hM hIx hok hS => ?_)
  refine W_stk (st2 := [.ref (ad1 (.inl (1000 + 6 * pr 9 2))), .int (Int32.ofNat (pr 9 2)), .ref (ad1 (.inl 5))]) (by rw [hE1 (.inl 5) (inl_ne (by omega))]) ?_
  refine lv_dup hx hb dX1_comes_94 rfl ?_
  have hn0 : ∀ q, (1000 + 6 * pr 9 2) < q → q < (1000 + 6 * pr 9 2) + 6 → shU (Sum.elim (xSH C pr) so) (.inl (1000 + 6 * pr 9 2)) (.inr (.inr (1, stx0))) (.inl q) = none := fun q h1 h2 => shU_n (xSH_none (by omega) (by omega)) (inl_ne (by omega))
  refine va_callv (va_runIN (As := []) (rest := [.ref (ad1 (.inl (1000 + 6 * pr 9 2))), .int (Int32.ofNat (pr 9 2)), .ref (ad1 (.inl 5))]) ⟨hx, hb, hml, hown, hts⟩ (met_a_stinit l D C a0 s0 ad1 _ _ lt (1000 + 6 * pr 9 2) shU_s hn0 hok) ⟨va_cnB 0 hts (lw_meth q507) rfl rfl rfl (hZ_nest hZ0 q557 rfl) (hts _ q98) (by decide +kernel) ⟨hR1, hR2⟩, rfl, hts _ q506⟩ (hr_preS hZ_c hM hIx hK hZ0 hA0 hS) rfl rfl hl.1 rfl (lv_room (Nat.le_of_ble_eq_true rfl)) dX1_comes_95 ⟨by show cells + 1 + 5 ≤ _; omega, by show slots + 6 + 36 ≤ _; omega⟩) hS (fun _ _ h => h) (fun _ h => h) ?_
  intro ad2 t2 H locs ht _ hp hB9 _ _ hS
  obtain ⟨hE2, hok⟩ := hp
  obtain ⟨hM, hIx⟩ := hB9
  rw [ht, hnz_eq] at hM
  refine W_stk (st2 := [.ref (ad2 (.inl (1000 + 6 * pr 9 2))), .int (Int32.ofNat (pr 9 2)), .ref (ad2 (.inl 5))]) (by rw [hE2 (.inl (1000 + 6 * pr 9 2)) (fun k h1 h2 => inl_ne (by omega)), hE2 (.inl 5) (fun k h1 h2 => inl_ne (by omega))]) ?_
  have h5 : shSt C (1000 + 6 * pr 9 2) (shU (Sum.elim (xSH C pr) so) (.inl (1000 + 6 * pr 9 2)) (.inr (.inr (1, stx0)))) (.inl 5) = _ := shSt_n (shU_n xS_5 (inl_ne (by omega))) (by omega)
  refine hr_aast hx hb hK hM hIx hS 5 (r := .inl 5) h5 rfl (va_rAny hK (hM.one (r := .inl (1000 + 6 * pr 9 2)) shSt_o) (q0 := 0) rfl rfl (fun comp c0 h1 h2 => by cases h1.symm.trans h2; exact va_asg _ _)) (q := .inl (.inl (1000 + 6 * pr 9 2))) rfl (fun z e => by cases e; rw [shSt_o]; exact fun z => by cases z) (h_inN' hlim (by omega)) dX1_comes_98 (fun H locs hM hIx hok2 hS => ?_)
  replace hok := hok2 hok
  rw [ofNat_clamp (show pr 9 2 < 2 ^ 31 by omega), sh_prN hlim] at hM hIx hok
  refine kk ad2 H locs ⟨fun q hq _ => (hE2 q (fun k h1 h2 e => hq (by rw [e]; exact xSH_none (by omega) (by omega)))).trans (hE1 q (fun e => hq (by rw [e]; exact xSH_none (Nat.le_refl _) (by omega)))), hMon_prN⟩ hok hM hIx hS
section HPF
variable {p : Program} {l : Launch} {e : Env} {R : Room} {s : State} {m : MethodId} {args : Array Value} {below : List Frame} {meth : Method} {c : Code} {H : Heap} {locs : List Loc} {cells slots : Nat} {Q : State → Prop}
variable {cc : ByteArray} {pc : Nat} {ls : Array Slot} {rest st0 : List Value} {D : va_G} {cl : List vw_C} {A A1 : Nat → Prop} {tys : List (ClassId × FieldType)} {H0 : Heap} {a : Array Value} {mc ms : Nat}
variable {ad : Rl → Nat} {sh sh' : Rl → Option hS} {st st' : Rl → Nat → Int32} {lt lt' : Rl → Nat → Int64} {g t : hSt} {gl tl : hLt} {O : Type} {o : O}
theorem hx_putF (hexec : p.tables.exec = Jvm.exec) (hb : c.code = cc) {own C : String} {T : u_T} {N ci index : Nat} {Ts : List Cond} (hts : ∀ w ∈ Ts, w.before args s = true) (hin : ∀ w ∈ u_ws C T N, w ∈ Ts) (ty0 : Nat → FieldType) (hty : ∀ k, k < N → parseFieldDescriptor (T k).2.2.1 = some (ty0 k)) (hnm : ∀ a, a < N → ∀ b, b < N → a ≠ b → (T a).2.1 ≠ (T b).2.1) (hown : s.vm.findClass own = some m.cls) (hK : va_K D cl tys s) (hM : hW D cl ad sh (Sum.elim g t) lt H) (hIx : hI A ad sh) (hS0 : va_S A H0 H locs) {r : Nat} {fs : List hF} (hr : sh (.inl r) = some (.inr (.inr (ci, fs)))) (hc : cl[ci]? = some (C, T, N)) (k : Nat) (hk : k < N) (hlink : (Cond.fieldLink own index (T k).1 (T k).2.1 (T k).2.2.1).before args s = true) (hfin : (T k).2.2.2 = true) (hin2 : meth.name = "<init>") (hdecl : (T k).1 = own) {x : Int32} (hd : ty0 k = .int) (hf0 : fs[k]? = some none) {K : hSt → Option O} (hf : hpt g r k x K = some o)
    (hdg : decode cc pc = .ok (.putfield index, 3)) (kk : ∀ (g1 : hSt) (H1 : Heap) (locs1 : List Loc), K g1 = some o → hW D cl ad sh (Sum.elim g1 t) lt H1 → va_S A H0 H1 locs1 → W p l e R s m args below meth c H1 locs1 cells slots Q (F0 m (pc + 3) ls rest)) : W p l e R s m args below meth c H locs cells slots Q (F0 m pc ls (.int x :: .ref (ad (.inl r)) :: rest)) :=
  hr_putF hexec hb hts hin ty0 hty hnm hown hK hM hIx hS0 hr hc k hk hlink hfin hin2 hdecl (ty := .int) (by rw [hty k hk, hd]) rfl rfl hf0 hdg (fun H1 locs1 h1 h2 => kk _ H1 locs1 hf (by rw [← up2_l]; exact h1) h2)
theorem hm_putF (hexec : p.tables.exec = Jvm.exec) (hb : c.code = cc) {own C : String} {T : u_T} {N ci index : Nat} {Ts : List Cond} (hts : ∀ w ∈ Ts, w.before args s = true) (hin : ∀ w ∈ u_ws C T N, w ∈ Ts) (ty0 : Nat → FieldType) (hty : ∀ k, k < N → parseFieldDescriptor (T k).2.2.1 = some (ty0 k)) (hnm : ∀ a, a < N → ∀ b, b < N → a ≠ b → (T a).2.1 ≠ (T b).2.1) (hown : s.vm.findClass own = some m.cls) (hK : va_K D cl tys s) (hM : hW D cl ad sh (Sum.elim t g) lt H) (hIx : hI A ad sh) (hS0 : va_S A H0 H locs) {r : Nat} {fs : List hF} (hr : sh (.inr r) = some (.inr (.inr (ci, fs)))) (hc : cl[ci]? = some (C, T, N)) (k : Nat) (hk : k < N) (hlink : (Cond.fieldLink own index (T k).1 (T k).2.1 (T k).2.2.1).before args s = true) (hfin : (T k).2.2.2 = true) (hin2 : meth.name = "<init>") (hdecl : (T k).1 = own) {x : Int32} (hd : ty0 k = .int) (hf0 : fs[k]? = some none) {K : hSt → Option O} (hf : hpt g r k x K = some o)
    (hdg : decode cc pc = .ok (.putfield index, 3)) (kk : ∀ (g1 : hSt) (H1 : Heap) (locs1 : List Loc), K g1 = some o → hW D cl ad sh (Sum.elim t g1) lt H1 → va_S A H0 H1 locs1 → W p l e R s m args below meth c H1 locs1 cells slots Q (F0 m (pc + 3) ls rest)) : W p l e R s m args below meth c H locs cells slots Q (F0 m pc ls (.int x :: .ref (ad (.inr r)) :: rest)) :=
  hr_putF hexec hb hts hin ty0 hty hnm hown hK hM hIx hS0 hr hc k hk hlink hfin hin2 hdecl (ty := .int) (by rw [hty k hk, hd]) rfl rfl hf0 hdg (fun H1 locs1 h1 h2 => kk _ H1 locs1 hf (by rw [← up2_r]; exact h1) h2)
end HPF
