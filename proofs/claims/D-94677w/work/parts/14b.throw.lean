/-! THROWS: there, right; calls of methods that throw or return. -/
set_option maxRecDepth 100000
theorem hZ_word {a0 : Array Value} {s0 s : State} {args : Array Value} {w : Cond} (h : hZ a0 s0 s s.heap) (hts : ∀ w ∈ lw_all, w.before args s = true) (q : w ∈ lw_tbl) (hk : (goodWord w || hNk w) = true) : w.before args s = true := by
  by_cases g : goodWord w = true
  · exact hts w (lw_g q g)
  · have hn : hNk w = true := by
      cases hg : goodWord w with
      | true => exact absurd hg g
      | false => rw [hg] at hk; exact hk
    have hb := hZ_nest h q hn
    cases w with
    | fieldLinkNest a i b n d g => exact va_Nw.use rfl hb
    | methodLinkNest a i x g => exact va_Nw.use rfl hb
    | declares x => exact va_Nw.use rfl hb
    | castable a b => exact va_Nw.use rfl hb
    | _ => exact absurd hn (by simp [hNk])
theorem lw_tbl_by (ws : List Cond) (ps : List Nat) (hp : ws = ps.filterMap (fun i => lw_tbl[i]?)) : ∀ w ∈ ws, w ∈ lw_tbl := by
  intro w h
  rw [hp] at h
  obtain ⟨i, -, hi⟩ := List.mem_filterMap.mp h
  exact List.mem_of_getElem? hi
theorem hZ_unas {a0 : Array Value} {s0 s : State} (h : hZ a0 s0 s s.heap) : vx_Zq Bundle.tN "UNASSIGNED_STACK" Bundle.steD (hA s0) s s.heap := by
  have z0 : vx_Zq Bundle.tN "UNASSIGNED_STACK" Bundle.steD (hA s0) s0 s0.heap := vx_Zqof (h.1 _ q170) (h.1 _ (lw_all_tbl q81)) (flat_of_before _ h.2.1 _ (by decide +kernel)) (fun a ha hh => absurd ha (Nat.not_lt.mpr hh))
  have z1 := z0.moved (U := s) h.2.2.1.alike
  exact z1.kept (fun a ha _ => h.2.2.2.2 a ha)
theorem hZ_supp {a0 : Array Value} {s0 s : State} (h : hZ a0 s0 s s.heap) : vx_Zq Bundle.tN "SUPPRESSED_SENTINEL" Bundle.listD (hA s0) s s.heap := by
  have z0 : vx_Zq Bundle.tN "SUPPRESSED_SENTINEL" Bundle.listD (hA s0) s0 s0.heap := vx_Zqof (h.1 _ q172) (h.1 _ (lw_all_tbl q81)) (flat_of_before _ h.2.1 _ (by decide +kernel)) (fun a ha hh => absurd ha (Nat.not_lt.mpr hh))
  have z1 := z0.moved (U := s) h.2.2.1.alike
  exact z1.kept (fun a ha _ => h.2.2.2.2 a ha)
section HXC
variable {p : Program} {l : Launch} {e : Env} {R : Room} {s : State} {m : MethodId} {args : Array Value} {below : List Frame} {meth : Method} {c : Code} {H : Heap} {locs : List Loc} {cells slots : Nat}
variable {pc : Nat} {ls : Array Slot} {rest st0 : List Value} {D : va_G} {cl : List vw_C} {A : Nat → Prop} {a : Array Value} {mc ms MC MS : Nat}
variable {ad : Rl → Nat} {sh : Rl → Option hS} {st : Rl → Nat → Int32} {lt : Rl → Nat → Int64} {RT : Type} {o : RT ⊕ Nat} {Qc : Array Value → State → Outcome → State → Prop}
/-- a call that throws or returns nothing, the store as it was: the exception goes on to the caller's caller -/
theorem hr_xcallv {z : Unit ⊕ Nat} {K : Unit → Option (RT ⊕ Nat)} (hf : hcase z K (fun k => some (.inr k)) = some o)
    (hr : vx_Run p l e R s m args below meth c H locs cells slots mc ms (F0 m pc ls st0) rest (va_Qv (fun v : Unit => z = .inl v) (fun (v : Unit) (U : State) => hW D cl ad sh st lt U.heap) A a) (vx_X (fun k : Nat => z = .inr k) (fun (E : String) (k : Nat) (U : State) => E = hEx k ∧ hW D cl ad sh st lt U.heap) A) A)
    (hS : va_S A s.heap H locs) (hex : ∀ x ∈ c.exceptionTable.toList, False) (hlocks : meth.locks = false) (hIx : hI A ad sh) (hc : cells + mc ≤ MC) (hs : slots + ms ≤ MS)
    (kk : ∀ (H1 : Heap) (locs1 : List Loc), K () = some o → hW D cl ad sh st lt H1 → va_S A s.heap H1 locs1 → W p l e R s m args below meth c H1 locs1 (cells + mc) (slots + ms) (vx_MQ below Qc (vx_X (fun k : Nat => o = .inr k) (fun (E : String) (k : Nat) (U : State) => E = hEx k ∧ hW D cl ad sh st lt U.heap) A) args s MC MS A) (F0 m (pc + 3) ls rest)) : W p l e R s m args below meth c H locs cells slots (vx_MQ below Qc (vx_X (fun k : Nat => o = .inr k) (fun (E : String) (k : Nat) (U : State) => E = hEx k ∧ hW D cl ad sh st lt U.heap) A) args s MC MS A) (F0 m pc ls st0) := by
  refine vx_callv hr hS (fun _ _ h => h) (fun _ h => h) (fun _ _ h => h) ?_ ?_
  · intro E ce q9 u t H1 locs1 ht hvm hp hb hz1 hk1 hS1 h1 h2 h3
    obtain ⟨hE, hM⟩ := hb
    subst hp
    have hq9 : (some (Sum.inr u) : Option (RT ⊕ Nat)) = some o := hf
    have ho : o = .inr u := (Option.some.inj hq9).symm
    refine vx_out (fun x hx => (hex x hx).elim) hlocks h1 h2 h3 (fun t' ht' _ => ⟨u, ho, ⟨hE, by rw [ht', ← ht]; exact hM⟩, hS1.F ht'⟩) hS1.2.2 hc hs
  · intro u t H1 locs1 ht hvm hp hb hz1 hk1 hS1
    subst hp
    exact kk H1 locs1 hf (by rw [← ht]; exact hb) hS1
theorem hr_xcalli {z : Int32 ⊕ Nat} {K : Int32 → Option (RT ⊕ Nat)} (hf : hcase z K (fun k => some (.inr k)) = some o)
    (hr : vx_Run p l e R s m args below meth c H locs cells slots mc ms (F0 m pc ls st0) rest (va_Qi (fun (r : Int32) (v : Int32) => z = .inl v ∧ r = v) (fun (v : Int32) (U : State) => hW D cl ad sh st lt U.heap) A a) (vx_X (fun k : Nat => z = .inr k) (fun (E : String) (k : Nat) (U : State) => E = hEx k ∧ hW D cl ad sh st lt U.heap) A) A)
    (hS : va_S A s.heap H locs) (hex : ∀ x ∈ c.exceptionTable.toList, False) (hlocks : meth.locks = false) (hIx : hI A ad sh) (hc : cells + mc ≤ MC) (hs : slots + ms ≤ MS)
    (kk : ∀ (y : Int32) (H1 : Heap) (locs1 : List Loc), K y = some o → hW D cl ad sh st lt H1 → va_S A s.heap H1 locs1 → W p l e R s m args below meth c H1 locs1 (cells + mc) (slots + ms) (vx_MQ below Qc (vx_X (fun k : Nat => o = .inr k) (fun (E : String) (k : Nat) (U : State) => E = hEx k ∧ hW D cl ad sh st lt U.heap) A) args s MC MS A) (F0 m (pc + 3) ls (.int y :: rest))) : W p l e R s m args below meth c H locs cells slots (vx_MQ below Qc (vx_X (fun k : Nat => o = .inr k) (fun (E : String) (k : Nat) (U : State) => E = hEx k ∧ hW D cl ad sh st lt U.heap) A) args s MC MS A) (F0 m pc ls st0) := by
  refine vx_calli hr hS (fun _ _ h => h) (fun _ h => h) (fun _ _ h => h) ?_ ?_
  · intro E ce q9 u t H1 locs1 ht hvm hp hb hz1 hk1 hS1 h1 h2 h3
    obtain ⟨hE, hM⟩ := hb
    subst hp
    have hq9 : (some (Sum.inr u) : Option (RT ⊕ Nat)) = some o := hf
    have ho : o = .inr u := (Option.some.inj hq9).symm
    refine vx_out (fun x hx => (hex x hx).elim) hlocks h1 h2 h3 (fun t' ht' _ => ⟨u, ho, ⟨hE, by rw [ht', ← ht]; exact hM⟩, hS1.F ht'⟩) hS1.2.2 hc hs
  · intro r u t H1 locs1 ht hvm hp hb hz1 hk1 hS1
    obtain ⟨hz, hr1⟩ := hp
    subst hz
    subst hr1
    exact kk r H1 locs1 hf (by rw [← ht]; exact hb) hS1
end HXC
theorem hat_there : ∀ w ∈ vx_at0 RX1 67 "java/util/NoSuchElementException" ["java/lang/RuntimeException", "java/lang/Exception"], w ∈ lw_tbl := lw_tbl_by _ [81, 165, 174, 178, 181, 183, 166, 167, 119, 120, 168, 173, 179, 419, 155, 420, 157, 421, 159, 169, 171, 161, 1172, 1173, 1174, 935, 146, 935, 936, 937, 938, 148, 938, 939, 940, 166, 150, 1171, 1163, 1164, 1165, 177, 1166, 1167, 1168, 1169, 164, 163, 1170] (by decide +kernel)
theorem hatg_there : (vx_at0 RX1 67 "java/util/NoSuchElementException" ["java/lang/RuntimeException", "java/lang/Exception"]).all (fun w => goodWord w || hNk w) = true := by decide +kernel
theorem hato_there : ((Cond.classLink RX1 65 "java/util/NoSuchElementException" :: Cond.initialized "java/util/NoSuchElementException" :: vx_at0 RX1 67 "java/util/NoSuchElementException" ["java/lang/RuntimeException", "java/lang/Exception"]).all vx_ot) = true := by decide +kernel
def rm_x_there : Room := { frames := 8, cells := 1, slots := 6, locals := 120 }
set_option maxHeartbeats 1000000 in
theorem met_x_there (l : Launch) (D : va_G) (C : Nat → Nat) (a0 : Array Value) (s0 : State) (ad : Rl → Nat) (so : Nat → Option hS) (pr : hPr) (st : Rl → Nat → Int32) (lt : Rl → Nat → Int64) (p0 : Int32) (hlst : l.stackTraces = false) {o : Unit ⊕ Nat} (hf : x_there p0 = some o) : vx_Met l yX1_there (ws_ yX1_there cX1_there 1 none) rm_x_there (va_Pc [.int p0] (hB D vwCl (hT C) (hA s0) (hZ a0 s0) ad (Sum.elim (xSH C pr) so) st lt)) (va_Qv (fun v : Unit => o = .inl v) (fun (v : Unit) (U : State) => hW D vwCl ad (Sum.elim (xSH C pr) so) st lt U.heap) (hA s0)) (vx_X (fun k : Nat => o = .inr k) (fun (E : String) (k : Nat) (U : State) => E = hEx k ∧ hW D vwCl ad (Sum.elim (xSH C pr) so) st lt U.heap) (hA s0)) 1 6 (hA s0) := by
  refine vx_ofW (cc := cX1_there) (maxL := 1) (ret := none) (by decide) rfl ?_
  intro p e s m args below meth c s₁ B hml hex hv
  obtain ⟨rfl, hM, hIx, hK, hZ0, hA0⟩ := hv
  have hl := lv_entry ([.int p0]) (n := 1) (Nat.le_of_ble_eq_true rfl)
  rw [lg_entry_eq]
  generalize (lg_sl ([.int p0]) ++ List.replicate (1 - (lg_sl ([.int p0])).length) Slot.unset).toArray = ls at hl ⊢
  have hl : lv_has ls 1 [(0, .int p0)] := hl
  have hx := B.exec
  have hb := B.bytes
  have hr := B.returns
  have hlocks := B.notSynchronized
  have hown : s.vm.findClass RX1 = some m.cls := findClass_of_methodNamed B.named
  have hts : ∀ w ∈ lw_all, w.before _ s = true := fun w h => atoms_spec (ws := ws_ yX1_there cX1_there 1 none) B.pre w (List.mem_cons_of_mem _ h)
  have hS : va_S (hA s0) s.heap s.heap [] := va_S.rf
  unfold x_there at hf
  have eo := Option.some.inj hf
  refine lv_iload_n hx hb dX1_there_0 rfl (lv_at hl 0 rfl) ?_
  refine lv_if_ne (tgt := 12) hx hb dX1_there_1 (by decide) (fun hp => ?_) (fun hp => ?_)
  · rw [if_neg hp] at eo
    subst eo
    refine W.widen (k := 1) (n := 6) (Nat.le_of_ble_eq_true rfl) (Nat.le_of_ble_eq_true rfl) ?_
    exact vx_ret (W.vret hx hb hr (fun T ht hW => ⟨⟨(), rfl, rfl, by dsimp only; rw [ht]; exact hM⟩, hS.F ht⟩) hS.2.2 dX1_there_12)
  · have hp0 : p0 = 0 := by first | exact hp | exact Classical.not_not.mp hp
    rw [if_pos hp0] at eo
    subst eo
    refine vx_throw0 (XC := vx_X (fun k : Nat => (.inr 1 : Unit ⊕ Nat) = .inr k) (fun (E : String) (k : Nat) (U : State) => E = hEx k ∧ hW D vwCl ad (Sum.elim (xSH C pr) so) st lt U.heap) (hA s0)) (own := RX1) (cls := "java/util/NoSuchElementException") (names := ["java/lang/RuntimeException", "java/lang/Exception"]) (ik := 65) (ic := 67) hx hb hlst hown (by decide +kernel) (by decide +kernel) (hts _ q1162) (hts _ q110)
      (fun w h => hZ_word hZ0 hts (hat_there w h) (List.all_eq_true.mp hatg_there w h)) (fun w h => List.all_eq_true.mp hato_there w h) (hZ_unas hZ0) (hZ_supp hZ0) hS (by rw [hml]; exact hl.1)
      dX1_there_4 dX1_there_7 dX1_there_8 dX1_there_11 (fun x hx => (hex x hx).elim) (by decide) (by decide) (by decide) (by decide) hlocks
      ?_ hS.2.2 (by decide) (by decide)
    exact fun t hvm hz hq => ⟨1, rfl, ⟨rfl, hM.kept hq⟩, hz, fun q h1 h2 => hq q h1⟩
theorem hat_right : ∀ w ∈ vx_at0 RX1 64 "java/lang/IllegalArgumentException" ["java/lang/RuntimeException", "java/lang/Exception"], w ∈ lw_tbl := lw_tbl_by _ [81, 165, 174, 178, 181, 183, 166, 167, 119, 120, 168, 173, 179, 419, 155, 420, 157, 421, 159, 169, 171, 161, 932, 933, 934, 935, 146, 935, 936, 937, 938, 148, 938, 939, 940, 166, 150, 931, 144, 145, 152, 153, 154, 156, 158, 160, 164, 163, 162] (by decide +kernel)
theorem hatg_right : (vx_at0 RX1 64 "java/lang/IllegalArgumentException" ["java/lang/RuntimeException", "java/lang/Exception"]).all (fun w => goodWord w || hNk w) = true := by decide +kernel
theorem hato_right : ((Cond.classLink RX1 62 "java/lang/IllegalArgumentException" :: Cond.initialized "java/lang/IllegalArgumentException" :: vx_at0 RX1 64 "java/lang/IllegalArgumentException" ["java/lang/RuntimeException", "java/lang/Exception"]).all vx_ot) = true := by decide +kernel
def rm_x_right : Room := { frames := 8, cells := 1, slots := 6, locals := 120 }
set_option maxHeartbeats 1000000 in
theorem met_x_right (l : Launch) (D : va_G) (C : Nat → Nat) (a0 : Array Value) (s0 : State) (ad : Rl → Nat) (so : Nat → Option hS) (pr : hPr) (st : Rl → Nat → Int32) (lt : Rl → Nat → Int64) (p0 : Int32) (hlst : l.stackTraces = false) {o : Unit ⊕ Nat} (hf : x_right p0 = some o) : vx_Met l yX1_right (ws_ yX1_right cX1_right 1 none) rm_x_right (va_Pc [.int p0] (hB D vwCl (hT C) (hA s0) (hZ a0 s0) ad (Sum.elim (xSH C pr) so) st lt)) (va_Qv (fun v : Unit => o = .inl v) (fun (v : Unit) (U : State) => hW D vwCl ad (Sum.elim (xSH C pr) so) st lt U.heap) (hA s0)) (vx_X (fun k : Nat => o = .inr k) (fun (E : String) (k : Nat) (U : State) => E = hEx k ∧ hW D vwCl ad (Sum.elim (xSH C pr) so) st lt U.heap) (hA s0)) 1 6 (hA s0) := by
  refine vx_ofW (cc := cX1_right) (maxL := 1) (ret := none) (by decide) rfl ?_
  intro p e s m args below meth c s₁ B hml hex hv
  obtain ⟨rfl, hM, hIx, hK, hZ0, hA0⟩ := hv
  have hl := lv_entry ([.int p0]) (n := 1) (Nat.le_of_ble_eq_true rfl)
  rw [lg_entry_eq]
  generalize (lg_sl ([.int p0]) ++ List.replicate (1 - (lg_sl ([.int p0])).length) Slot.unset).toArray = ls at hl ⊢
  have hl : lv_has ls 1 [(0, .int p0)] := hl
  have hx := B.exec
  have hb := B.bytes
  have hr := B.returns
  have hlocks := B.notSynchronized
  have hown : s.vm.findClass RX1 = some m.cls := findClass_of_methodNamed B.named
  have hts : ∀ w ∈ lw_all, w.before _ s = true := fun w h => atoms_spec (ws := ws_ yX1_right cX1_right 1 none) B.pre w (List.mem_cons_of_mem _ h)
  have hS : va_S (hA s0) s.heap s.heap [] := va_S.rf
  unfold x_right at hf
  have eo := Option.some.inj hf
  refine lv_iload_n hx hb dX1_right_0 rfl (lv_at hl 0 rfl) ?_
  refine lv_if_ne (tgt := 12) hx hb dX1_right_1 (by decide) (fun hp => ?_) (fun hp => ?_)
  · rw [if_neg hp] at eo
    subst eo
    refine W.widen (k := 1) (n := 6) (Nat.le_of_ble_eq_true rfl) (Nat.le_of_ble_eq_true rfl) ?_
    exact vx_ret (W.vret hx hb hr (fun T ht hW => ⟨⟨(), rfl, rfl, by dsimp only; rw [ht]; exact hM⟩, hS.F ht⟩) hS.2.2 dX1_right_12)
  · have hp0 : p0 = 0 := by first | exact hp | exact Classical.not_not.mp hp
    rw [if_pos hp0] at eo
    subst eo
    refine vx_throw0 (XC := vx_X (fun k : Nat => (.inr 2 : Unit ⊕ Nat) = .inr k) (fun (E : String) (k : Nat) (U : State) => E = hEx k ∧ hW D vwCl ad (Sum.elim (xSH C pr) so) st lt U.heap) (hA s0)) (own := RX1) (cls := "java/lang/IllegalArgumentException") (names := ["java/lang/RuntimeException", "java/lang/Exception"]) (ik := 62) (ic := 64) hx hb hlst hown (by decide +kernel) (by decide +kernel) (hts _ q930) (hts _ q84)
      (fun w h => hZ_word hZ0 hts (hat_right w h) (List.all_eq_true.mp hatg_right w h)) (fun w h => List.all_eq_true.mp hato_right w h) (hZ_unas hZ0) (hZ_supp hZ0) hS (by rw [hml]; exact hl.1)
      dX1_right_4 dX1_right_7 dX1_right_8 dX1_right_11 (fun x hx => (hex x hx).elim) (by decide) (by decide) (by decide) (by decide) hlocks
      ?_ hS.2.2 (by decide) (by decide)
    exact fun t hvm hz hq => ⟨2, rfl, ⟨rfl, hM.kept hq⟩, hz, fun q h1 h2 => hq q h1⟩
