/-! STRINGS: length, charAt, equals of String objects of one byte a letter (literals or made): nothing is written, nothing made. -/
set_option maxRecDepth 100000
def N0 : Nat → Prop := fun _ => False
/-- a String object v, its bytes b, its text t -/
def hTx (v b : Nat) (t : List Int32) (U : State) (H : Heap) : Prop := va_O "java/lang/String" v N0 U H ∧ va_OF "java/lang/String" "coder" "B" (.int 0) v N0 U H ∧ va_OF "java/lang/String" "value" "[B" (.ref b) v N0 U H ∧ va_T .byte b t.length (fun j => .int (t.getD j 0)) N0 U H ∧ t.length < 2 ^ 31
def hCS (U : State) (H : Heap) : Prop := va_Z "java/lang/String" "COMPACT_STRINGS" "Z" (.int 1) N0 U H
/-- facts that stay while no cell is changed -/
def hPk (P : State → Heap → Prop) : Prop := ∀ (s U : State) (H : Heap), P s s.heap → s.vm.Alike U.vm → (∀ a : Nat, a < s.heap.size → H[a]? = s.heap[a]?) → P U H
theorem hTx_pk {v b : Nat} {t : List Int32} : hPk (hTx v b t) := fun _ _ _ h hv hq => ⟨(va_O.moved hv h.1).kept (fun a ha _ => hq a ha), (va_OF.moved hv h.2.1).kept (fun a ha _ => hq a ha), (va_OF.moved hv h.2.2.1).kept (fun a ha _ => hq a ha), (va_T.moved hv h.2.2.2.1).kept (fun a ha _ => hq a ha), h.2.2.2.2⟩
theorem hCS_pk : hPk hCS := fun _ _ _ h hv hq => (va_Z.moved hv h).kept (fun a ha _ => hq a ha)
theorem hPk_and {P Q : State → Heap → Prop} (h1 : hPk P) (h2 : hPk Q) : hPk (fun U H => P U H ∧ Q U H) := fun s U H h hv hq => ⟨h1 s U H h.1 hv hq, h2 s U H h.2 hv hq⟩
theorem hPk_T {t N : Nat} {f : Nat → Value} {ty : FieldType} : hPk (va_T ty t N f N0) := fun _ _ _ h hv hq => (va_T.moved hv h).kept (fun a ha _ => hq a ha)
theorem hPk_blind {P : State → Heap → Prop} (h : hPk P) {av : List Value} : FrameBlind (va_Pc av (fun U => P U U.heap)) := by
  intro a U g mk q
  obtain ⟨q0, q1⟩ := q
  exact ⟨q0, h U (U.calling g mk a) U.heap q1 (Vm.Alike.refl U.vm) (fun _ _ => rfl)⟩
theorem hPk_preS {P : State → Heap → Prop} (h : hPk P) {s : State} {H : Heap} {locs : List Loc} (hp : P s s.heap) (hS : va_S N0 s.heap H locs) {As : List Value} : PreS s H (va_Pc As (fun U => P U U.heap)) As := ⟨hPk_blind h, fun _ hU hW' => ⟨rfl, by show P _ _; rw [hU]; exact h s _ H hp hW'.alike (fun a ha => hS.2.1 a ha (fun z => z))⟩⟩
theorem hPk_preV {P : State → Heap → Prop} (h : hPk P) {s : State} {H : Heap} {locs : List Loc} (hp : P s s.heap) (hS : va_S N0 s.heap H locs) {v : Nat} (hO : va_O "java/lang/String" v N0 s s.heap) {As : List Value} : PreV s H "java/lang/String" v (va_Pc (.ref v :: As) (fun U => P U U.heap)) As := ⟨hPk_blind h, by
    obtain ⟨cell, h1, h2, h3, -⟩ := hO.kept hS.2.1
    exact ⟨cell, h1, h2, h3⟩, fun _ hU hW' => ⟨rfl, by show P _ _; rw [hU]; exact h s _ H hp hW'.alike (fun a ha => hS.2.1 a ha (fun z => z))⟩⟩
theorem h_shr0 (x : Int32) : x >>> ((0 : Int32) &&& 31) = x := by
  have h0 : ((0 : Int32) &&& 31) = 0 := by decide
  rw [h0]
  apply Int32.toBitVec_inj.mp
  simp [Int32.toBitVec_shiftRight]
theorem h_inN {i : Int32} {n : Nat} (h0 : ¬ i < 0) (h1 : i < Int32.ofNat n) (hn : n < 2 ^ 31) : vp_in i n ∧ i.toNatClampNeg < n := by
  have a0 : (0 : Int) ≤ i.toInt := by
    have := Int32.not_lt.mp h0
    simpa using Int32.le_iff_toInt_le.mp this
  have a1 : i.toInt < n := by
    have := Int32.lt_iff_toInt_lt.mp h1
    rwa [Int32.toInt_ofNat_of_lt hn] at this
  have a2 : i.toNatClampNeg = i.toInt.toNat := rfl
  have a3 : i.toNatClampNeg < n := by omega
  exact ⟨fun z => z.elim h0 (fun q => absurd a3 (Nat.not_lt.mpr q)), a3⟩
def rm_s_coder : Room := { frames := 1, cells := 0, slots := 0, locals := 16 }
set_option maxHeartbeats 1000000 in
theorem met_s_coder (l : Launch) (v b : Nat) (t : List Int32) : Met l yJ9_coder (ws_ yJ9_coder cJ9_coder 1 (some .byte)) rm_s_coder (va_Pc [.ref v] (fun U => hTx v b t U U.heap ∧ hCS U U.heap)) (va_Qi (fun (r : Int32) (_ : Unit) => r = 0) (fun _ _ => True) N0) 0 0 N0 := by
  refine Met.ofW (cc := cJ9_coder) (maxL := 1) (ret := (some .byte)) (by decide) rfl ?_
  intro p e s m args below meth c s₁ B hml hv
  obtain ⟨rfl, hP⟩ := hv
  have hl := lv_entry ([.ref v]) (n := 1) (Nat.le_of_ble_eq_true rfl)
  rw [lg_entry_eq]
  generalize (lg_sl ([.ref v]) ++ List.replicate (1 - (lg_sl ([.ref v])).length) Slot.unset).toArray = ls at hl ⊢
  have hl : lv_has ls 1 [(0, .ref v)] := hl
  have hx := B.exec
  have hb := B.bytes
  have hr := B.returns
  have hown := findClass_of_methodNamed B.named
  have hts : ∀ w ∈ lw_all, w.before _ s = true := fun w h => atoms_spec (ws := ws_ yJ9_coder cJ9_coder 1 (some .byte)) B.pre w (List.mem_cons_of_mem _ h)
  have hS : va_S N0 s.heap s.heap [] := va_S.rf
  obtain ⟨hT, hCS⟩ := hP
  refine va_gets hx hb hCS hS hown (hts _ q302) (fun _ h => h) dJ9_coder_0 ?_
  refine lv_if_eq (tgt := 13) hx hb dJ9_coder_3 (by decide) (fun hp => absurd hp (by decide)) (fun _ => ?_)
  refine lv_aload_n hx hb dJ9_coder_6 rfl (lv_at hl 0 rfl) ?_
  refine vk_getf hx hb hT.2.1 hS hown (hts _ q444) (fun _ h => h) dJ9_coder_7 ?_
  refine lv_goto (tgt := 14) hx hb dJ9_coder_10 (by decide) ?_
  exact W.zret (v := 0) hx hb hr rfl (fun T ht hW => ⟨⟨_, (), rfl, rfl, trivial⟩, hS.F ht⟩) hS.2.2 dJ9_coder_14
def rm_s_isLatin1 : Room := { frames := 1, cells := 0, slots := 0, locals := 16 }
set_option maxHeartbeats 1000000 in
theorem met_s_isLatin1 (l : Launch) (v b : Nat) (t : List Int32) : Met l yJ9_isLatin1 (ws_ yJ9_isLatin1 cJ9_isLatin1 1 (some .boolean)) rm_s_isLatin1 (va_Pc [.ref v] (fun U => hTx v b t U U.heap ∧ hCS U U.heap)) (va_Qi (fun (r : Int32) (_ : Unit) => r = 1) (fun _ _ => True) N0) 0 0 N0 := by
  refine Met.ofW (cc := cJ9_isLatin1) (maxL := 1) (ret := (some .boolean)) (by decide) rfl ?_
  intro p e s m args below meth c s₁ B hml hv
  obtain ⟨rfl, hP⟩ := hv
  have hl := lv_entry ([.ref v]) (n := 1) (Nat.le_of_ble_eq_true rfl)
  rw [lg_entry_eq]
  generalize (lg_sl ([.ref v]) ++ List.replicate (1 - (lg_sl ([.ref v])).length) Slot.unset).toArray = ls at hl ⊢
  have hl : lv_has ls 1 [(0, .ref v)] := hl
  have hx := B.exec
  have hb := B.bytes
  have hr := B.returns
  have hown := findClass_of_methodNamed B.named
  have hts : ∀ w ∈ lw_all, w.before _ s = true := fun w h => atoms_spec (ws := ws_ yJ9_isLatin1 cJ9_isLatin1 1 (some .boolean)) B.pre w (List.mem_cons_of_mem _ h)
  have hS : va_S N0 s.heap s.heap [] := va_S.rf
  obtain ⟨hT, hCS⟩ := hP
  refine va_gets hx hb hCS hS hown (hts _ q302) (fun _ h => h) dJ9_isLatin1_0 ?_
  refine lv_if_eq (tgt := 17) hx hb dJ9_isLatin1_3 (by decide) (fun hp => absurd hp (by decide)) (fun _ => ?_)
  refine lv_aload_n hx hb dJ9_isLatin1_6 rfl (lv_at hl 0 rfl) ?_
  refine vk_getf hx hb hT.2.1 hS hown (hts _ q444) (fun _ h => h) dJ9_isLatin1_7 ?_
  refine lv_if_ne (tgt := 17) hx hb dJ9_isLatin1_10 (by decide) (fun hp => absurd rfl hp) (fun _ => ?_)
  refine lv_iconst (v := 1) hx hb dJ9_isLatin1_13 (by decide) ?_
  refine lv_goto (tgt := 18) hx hb dJ9_isLatin1_14 (by decide) ?_
  exact W.zret (v := 1) hx hb hr rfl (fun T ht hW => ⟨⟨_, (), rfl, rfl, trivial⟩, hS.F ht⟩) hS.2.2 dJ9_isLatin1_18
def rm_s_length : Room := { frames := 3, cells := 0, slots := 0, locals := 40 }
set_option maxHeartbeats 1000000 in
theorem met_s_length (l : Launch) (v b : Nat) (t : List Int32) : Met l yJ9_length (ws_ yJ9_length cJ9_length 1 (some .int)) rm_s_length (va_Pc [.ref v] (fun U => hTx v b t U U.heap ∧ hCS U U.heap)) (va_Qi (fun (r : Int32) (_ : Unit) => r = Int32.ofNat t.length) (fun _ _ => True) N0) 0 0 N0 := by
  refine Met.ofW (cc := cJ9_length) (maxL := 1) (ret := (some .int)) (by decide) rfl ?_
  intro p e s m args below meth c s₁ B hml hv
  obtain ⟨rfl, hP⟩ := hv
  have hl := lv_entry ([.ref v]) (n := 1) (Nat.le_of_ble_eq_true rfl)
  rw [lg_entry_eq]
  generalize (lg_sl ([.ref v]) ++ List.replicate (1 - (lg_sl ([.ref v])).length) Slot.unset).toArray = ls at hl ⊢
  have hl : lv_has ls 1 [(0, .ref v)] := hl
  have hx := B.exec
  have hb := B.bytes
  have hr := B.returns
  have hown := findClass_of_methodNamed B.named
  have hts : ∀ w ∈ lw_all, w.before _ s = true := fun w h => atoms_spec (ws := ws_ yJ9_length cJ9_length 1 (some .int)) B.pre w (List.mem_cons_of_mem _ h)
  have hS : va_S N0 s.heap s.heap [] := va_S.rf
  have hT := hP.1
  refine lv_aload_n hx hb dJ9_length_0 rfl (lv_at hl 0 rfl) ?_
  refine vk_getf hx hb hT.2.2.1 hS hown (hts _ q443) (fun _ h => h) dJ9_length_1 ?_
  refine va_tlen hx hb hT.2.2.2.1 hS rfl dJ9_length_4 ?_
  refine lv_aload_n hx hb dJ9_length_5 rfl (lv_at hl 0 rfl) ?_
  refine va_calli (va_runV (As := []) (rest := [.int (Int32.ofNat t.length)]) ⟨hx, hb, hml, hown, hts⟩ (met_s_coder l v b t) (cwV 0 hts (lw_V q298 q299 q300 q87 q301) rfl rfl rfl (by decide +kernel) ⟨Nat.le_of_ble_eq_true rfl, Nat.le_of_ble_eq_true rfl⟩) (hPk_preV (hPk_and hTx_pk hCS_pk) hP hS hT.1) rfl rfl hl.1 rfl (lv_room (Nat.le_of_ble_eq_true rfl)) dJ9_length_6 ⟨Nat.le_of_ble_eq_true rfl, Nat.le_of_ble_eq_true rfl⟩) hS (fun _ _ h => h) (fun _ h => h) ?_
  intro r _ u H1 locs1 ht hvm hr1 _ _ hk1 hS
  subst hr1
  refine lv_ishr hx hb dJ9_length_9 ?_
  exact W.iret hx hb hr (fun T ht hW => ⟨⟨_, (), rfl, h_shr0 _, trivial⟩, hS.F ht⟩) hS.2.2 dJ9_length_10
def rm_s_ck : Room := { frames := 1, cells := 0, slots := 0, locals := 16 }
set_option maxHeartbeats 1000000 in
theorem met_s_ck (l : Launch) (i k : Int32) (f : Nat) (h0 : ¬ i < 0) (h1 : i < k) : Met l yJ14_checkIndex (ws_ yJ14_checkIndex cJ14_checkIndex 3 (some .int)) rm_s_ck (va_Pc [.int i, .int k, .ref f] (fun U => True)) (va_Qi (fun (r : Int32) (_ : Unit) => r = i) (fun _ _ => True) N0) 0 0 N0 := by
  refine Met.ofW (cc := cJ14_checkIndex) (maxL := 3) (ret := (some .int)) (by decide) rfl ?_
  intro p e s m args below meth c s₁ B hml hv
  obtain ⟨rfl, hP⟩ := hv
  have hl := lv_entry ([.int i, .int k, .ref f]) (n := 3) (Nat.le_of_ble_eq_true rfl)
  rw [lg_entry_eq]
  generalize (lg_sl ([.int i, .int k, .ref f]) ++ List.replicate (3 - (lg_sl ([.int i, .int k, .ref f])).length) Slot.unset).toArray = ls at hl ⊢
  have hl : lv_has ls 3 [(0, .int i), (1, .int k), (2, .ref f)] := hl
  have hx := B.exec
  have hb := B.bytes
  have hr := B.returns
  have hown := findClass_of_methodNamed B.named
  have hts : ∀ w ∈ lw_all, w.before _ s = true := fun w h => atoms_spec (ws := ws_ yJ14_checkIndex cJ14_checkIndex 3 (some .int)) B.pre w (List.mem_cons_of_mem _ h)
  have hS : va_S N0 s.heap s.heap [] := va_S.rf
  refine lv_iload_n hx hb dJ14_checkIndex_0 rfl (lv_at hl 0 rfl) ?_
  refine lv_if_lt (tgt := 9) hx hb dJ14_checkIndex_1 (by decide) (fun hp => absurd hp h0) (fun _ => ?_)
  refine lv_iload_n hx hb dJ14_checkIndex_4 rfl (lv_at hl 0 rfl) ?_
  refine lv_iload_n hx hb dJ14_checkIndex_5 rfl (lv_at hl 1 rfl) ?_
  refine lv_icmp_lt (tgt := 16) hx hb dJ14_checkIndex_6 (by decide) (fun _ => ?_) (fun hp => absurd h1 hp)
  refine lv_iload_n hx hb dJ14_checkIndex_16 rfl (lv_at hl 0 rfl) ?_
  exact W.iret (v := i) hx hb hr (fun T ht hW => ⟨⟨_, (), rfl, rfl, trivial⟩, hS.F ht⟩) hS.2.2 dJ14_checkIndex_17
def rm_s_ckN : Room := { frames := 1, cells := 0, slots := 0, locals := 16 }
set_option maxHeartbeats 1000000 in
theorem met_s_ckN (l : Launch) (i k : Int32) (h0 : ¬ i < 0) (h1 : i < k) : Met l yJ14_checkIndex (ws_ yJ14_checkIndex cJ14_checkIndex 3 (some .int)) rm_s_ckN (va_Pc [.int i, .int k, .null] (fun U => True)) (va_Qi (fun (r : Int32) (_ : Unit) => r = i) (fun _ _ => True) N0) 0 0 N0 := by
  refine Met.ofW (cc := cJ14_checkIndex) (maxL := 3) (ret := (some .int)) (by decide) rfl ?_
  intro p e s m args below meth c s₁ B hml hv
  obtain ⟨rfl, hP⟩ := hv
  have hl := lv_entry ([.int i, .int k, .null]) (n := 3) (Nat.le_of_ble_eq_true rfl)
  rw [lg_entry_eq]
  generalize (lg_sl ([.int i, .int k, .null]) ++ List.replicate (3 - (lg_sl ([.int i, .int k, .null])).length) Slot.unset).toArray = ls at hl ⊢
  have hl : lv_has ls 3 [(0, .int i), (1, .int k), (2, .null)] := hl
  have hx := B.exec
  have hb := B.bytes
  have hr := B.returns
  have hown := findClass_of_methodNamed B.named
  have hts : ∀ w ∈ lw_all, w.before _ s = true := fun w h => atoms_spec (ws := ws_ yJ14_checkIndex cJ14_checkIndex 3 (some .int)) B.pre w (List.mem_cons_of_mem _ h)
  have hS : va_S N0 s.heap s.heap [] := va_S.rf
  refine lv_iload_n hx hb dJ14_checkIndex_0 rfl (lv_at hl 0 rfl) ?_
  refine lv_if_lt (tgt := 9) hx hb dJ14_checkIndex_1 (by decide) (fun hp => absurd hp h0) (fun _ => ?_)
  refine lv_iload_n hx hb dJ14_checkIndex_4 rfl (lv_at hl 0 rfl) ?_
  refine lv_iload_n hx hb dJ14_checkIndex_5 rfl (lv_at hl 1 rfl) ?_
  refine lv_icmp_lt (tgt := 16) hx hb dJ14_checkIndex_6 (by decide) (fun _ => ?_) (fun hp => absurd h1 hp)
  refine lv_iload_n hx hb dJ14_checkIndex_16 rfl (lv_at hl 0 rfl) ?_
  exact W.iret (v := i) hx hb hr (fun T ht hW => ⟨⟨_, (), rfl, rfl, trivial⟩, hS.F ht⟩) hS.2.2 dJ14_checkIndex_17
theorem hPk_Zq {C n d : String} : hPk (va_Zq C n d N0) := fun _ _ _ h hv hq => (va_Zq.moved hv h).kept (fun a ha _ => hq a ha)
theorem hPk_True : hPk (fun _ _ => True) := fun _ _ _ h _ _ => h
def rm_s_sck : Room := { frames := 3, cells := 0, slots := 0, locals := 40 }
set_option maxHeartbeats 1000000 in
theorem met_s_sck (l : Launch) (i k : Int32) (h0 : ¬ i < 0) (h1 : i < k) : Met l yJ9_checkIndex (ws_ yJ9_checkIndex cJ9_checkIndex 2 none) rm_s_sck (va_Pc [.int i, .int k] (fun U => va_Zq "jdk/internal/util/Preconditions" "SIOOBE_FORMATTER" "Ljava/util/function/BiFunction;" N0 U U.heap)) (va_Qv (fun (_ : Unit) => True) (fun _ _ => True) N0) 0 0 N0 := by
  refine Met.ofW (cc := cJ9_checkIndex) (maxL := 2) (ret := none) (by decide) rfl ?_
  intro p e s m args below meth c s₁ B hml hv
  obtain ⟨rfl, hP⟩ := hv
  have hl := lv_entry ([.int i, .int k]) (n := 2) (Nat.le_of_ble_eq_true rfl)
  rw [lg_entry_eq]
  generalize (lg_sl ([.int i, .int k]) ++ List.replicate (2 - (lg_sl ([.int i, .int k])).length) Slot.unset).toArray = ls at hl ⊢
  have hl : lv_has ls 2 [(0, .int i), (1, .int k)] := hl
  have hx := B.exec
  have hb := B.bytes
  have hr := B.returns
  have hown := findClass_of_methodNamed B.named
  have hts : ∀ w ∈ lw_all, w.before _ s = true := fun w h => atoms_spec (ws := ws_ yJ9_checkIndex cJ9_checkIndex 2 none) B.pre w (List.mem_cons_of_mem _ h)
  have hS : va_S N0 s.heap s.heap [] := va_S.rf
  refine lv_iload_n hx hb dJ9_checkIndex_0 rfl (lv_at hl 0 rfl) ?_
  refine lv_iload_n hx hb dJ9_checkIndex_1 rfl (lv_at hl 1 rfl) ?_
  rcases hP with hZ | ⟨f, hZ⟩
  · refine va_gets hx hb hZ hS hown (hts _ q280) (fun _ h => h) dJ9_checkIndex_2 ?_
    refine va_calli (va_runS (As := [.int i, .int k, .null]) (rest := []) ⟨hx, hb, hml, hown, hts⟩ (met_s_ckN l i k h0 h1) (va_cwS 3 hts (lw_S q985 q782 q93 q783) rfl rfl rfl (by decide +kernel) ⟨Nat.le_of_ble_eq_true rfl, Nat.le_of_ble_eq_true rfl⟩) (hPk_preS hPk_True trivial hS) rfl rfl hl.1 rfl (lv_room (Nat.le_of_ble_eq_true rfl)) dJ9_checkIndex_5 ⟨Nat.le_of_ble_eq_true rfl, Nat.le_of_ble_eq_true rfl⟩) hS (fun _ _ h => h) (fun _ h => h) ?_
    intro r _ u H1 locs1 ht hvm hr1 _ _ hk1 hS
    subst hr1
    refine lv_pop hx hb dJ9_checkIndex_8 rfl ?_
    exact W.vret hx hb hr (fun T ht hW => ⟨⟨(), rfl, trivial, trivial⟩, hS.F ht⟩) hS.2.2 dJ9_checkIndex_9
  · refine va_gets hx hb hZ hS hown (hts _ q280) (fun _ h => h) dJ9_checkIndex_2 ?_
    refine va_calli (va_runS (As := [.int i, .int k, .ref f]) (rest := []) ⟨hx, hb, hml, hown, hts⟩ (met_s_ck l i k f h0 h1) (va_cwS 3 hts (lw_S q985 q782 q93 q783) rfl rfl rfl (by decide +kernel) ⟨Nat.le_of_ble_eq_true rfl, Nat.le_of_ble_eq_true rfl⟩) (hPk_preS hPk_True trivial hS) rfl rfl hl.1 rfl (lv_room (Nat.le_of_ble_eq_true rfl)) dJ9_checkIndex_5 ⟨Nat.le_of_ble_eq_true rfl, Nat.le_of_ble_eq_true rfl⟩) hS (fun _ _ h => h) (fun _ h => h) ?_
    intro r _ u H1 locs1 ht hvm hr1 _ _ hk1 hS
    subst hr1
    refine lv_pop hx hb dJ9_checkIndex_8 rfl ?_
    exact W.vret hx hb hr (fun T ht hW => ⟨⟨(), rfl, trivial, trivial⟩, hS.F ht⟩) hS.2.2 dJ9_checkIndex_9
def hch (x : Int32) : Int32 := ((x &&& 255).toUInt32 % 65536).toInt32
theorem hch_n (x : Int32) : narrow .char (.int (hch x)) = .int (hch x) := by
  unfold hch
  simp only [narrow]
  congr 1
  apply Int32.toBitVec_inj.mp
  simp
  apply BitVec.eq_of_toNat_eq
  simp
def rm_s_lcharAt : Room := { frames := 5, cells := 0, slots := 0, locals := 70 }
set_option maxHeartbeats 1000000 in
theorem met_s_lcharAt (l : Launch) (b : Nat) (t : List Int32) (i : Int32) (h0 : ¬ i < 0) (h1 : i < Int32.ofNat t.length) (hn : t.length < 2 ^ 31) : Met l yJ15_charAt (ws_ yJ15_charAt cJ15_charAt 2 (some .char)) rm_s_lcharAt (va_Pc [.ref b, .int i] (fun U => (va_T .byte b t.length (fun j => .int (t.getD j 0)) N0 U U.heap ∧ va_Zq "jdk/internal/util/Preconditions" "SIOOBE_FORMATTER" "Ljava/util/function/BiFunction;" N0 U U.heap))) (va_Qi (fun (r : Int32) (_ : Unit) => r = hch (t.getD i.toNatClampNeg 0)) (fun _ _ => True) N0) 0 0 N0 := by
  refine Met.ofW (cc := cJ15_charAt) (maxL := 2) (ret := (some .char)) (by decide) rfl ?_
  intro p e s m args below meth c s₁ B hml hv
  obtain ⟨rfl, hP⟩ := hv
  have hl := lv_entry ([.ref b, .int i]) (n := 2) (Nat.le_of_ble_eq_true rfl)
  rw [lg_entry_eq]
  generalize (lg_sl ([.ref b, .int i]) ++ List.replicate (2 - (lg_sl ([.ref b, .int i])).length) Slot.unset).toArray = ls at hl ⊢
  have hl : lv_has ls 2 [(0, .ref b), (1, .int i)] := hl
  have hx := B.exec
  have hb := B.bytes
  have hr := B.returns
  have hown := findClass_of_methodNamed B.named
  have hts : ∀ w ∈ lw_all, w.before _ s = true := fun w h => atoms_spec (ws := ws_ yJ15_charAt cJ15_charAt 2 (some .char)) B.pre w (List.mem_cons_of_mem _ h)
  have hS : va_S N0 s.heap s.heap [] := va_S.rf
  obtain ⟨hT, hF⟩ := hP
  obtain ⟨hv, hlt⟩ := h_inN h0 h1 hn
  refine lv_iload_n hx hb dJ15_charAt_0 rfl (lv_at hl 1 rfl) ?_
  refine lv_aload_n hx hb dJ15_charAt_1 rfl (lv_at hl 0 rfl) ?_
  refine va_tlen hx hb hT hS rfl dJ15_charAt_2 ?_
  refine va_callv (va_runS (As := [.int i, .int (Int32.ofNat t.length)]) (rest := []) ⟨hx, hb, hml, hown, hts⟩ (met_s_sck l i (Int32.ofNat t.length) h0 h1) (va_cwS 2 hts (lw_S q1588 q983 q87 q984) rfl rfl rfl (by decide +kernel) ⟨Nat.le_of_ble_eq_true rfl, Nat.le_of_ble_eq_true rfl⟩) (hPk_preS hPk_Zq hF hS) rfl rfl hl.1 rfl (lv_room (Nat.le_of_ble_eq_true rfl)) dJ15_charAt_3 ⟨Nat.le_of_ble_eq_true rfl, Nat.le_of_ble_eq_true rfl⟩) hS (fun _ _ h => h) (fun _ h => h) ?_
  intro _ u H1 locs1 ht hvm hr1 _ _ hk1 hS
  refine lv_aload_n hx hb dJ15_charAt_6 rfl (lv_at hl 0 rfl) ?_
  refine lv_iload_n hx hb dJ15_charAt_7 rfl (lv_at hl 1 rfl) ?_
  refine va_tb hx hb hT hS hv rfl dJ15_charAt_8 ?_
  refine lv_sipush (v := 255) hx hb dJ15_charAt_9 (by decide) ?_
  refine lv_iand hx hb dJ15_charAt_12 ?_
  refine lv_i2c hx hb dJ15_charAt_13 rfl ?_
  exact W.zret hx hb hr (hch_n _) (fun T ht hW => ⟨⟨_, (), rfl, rfl, trivial⟩, hS.F ht⟩) hS.2.2 dJ15_charAt_14
def rm_s_charAt : Room := { frames := 7, cells := 0, slots := 0, locals := 100 }
set_option maxHeartbeats 1000000 in
theorem met_s_charAt (l : Launch) (v b : Nat) (t : List Int32) (i : Int32) (h0 : ¬ i < 0) (h1 : i < Int32.ofNat t.length) (hn : t.length < 2 ^ 31) : Met l yJ9_charAt (ws_ yJ9_charAt cJ9_charAt 2 (some .char)) rm_s_charAt (va_Pc [.ref v, .int i] (fun U => (hTx v b t U U.heap ∧ hCS U U.heap) ∧ va_Zq "jdk/internal/util/Preconditions" "SIOOBE_FORMATTER" "Ljava/util/function/BiFunction;" N0 U U.heap)) (va_Qi (fun (r : Int32) (_ : Unit) => r = hch (t.getD i.toNatClampNeg 0)) (fun _ _ => True) N0) 0 0 N0 := by
  refine Met.ofW (cc := cJ9_charAt) (maxL := 2) (ret := (some .char)) (by decide) rfl ?_
  intro p e s m args below meth c s₁ B hml hv
  obtain ⟨rfl, hP⟩ := hv
  have hl := lv_entry ([.ref v, .int i]) (n := 2) (Nat.le_of_ble_eq_true rfl)
  rw [lg_entry_eq]
  generalize (lg_sl ([.ref v, .int i]) ++ List.replicate (2 - (lg_sl ([.ref v, .int i])).length) Slot.unset).toArray = ls at hl ⊢
  have hl : lv_has ls 2 [(0, .ref v), (1, .int i)] := hl
  have hx := B.exec
  have hb := B.bytes
  have hr := B.returns
  have hown := findClass_of_methodNamed B.named
  have hts : ∀ w ∈ lw_all, w.before _ s = true := fun w h => atoms_spec (ws := ws_ yJ9_charAt cJ9_charAt 2 (some .char)) B.pre w (List.mem_cons_of_mem _ h)
  have hS : va_S N0 s.heap s.heap [] := va_S.rf
  obtain ⟨hTC, hF⟩ := hP
  have hT := hTC.1
  refine lv_aload_n hx hb dJ9_charAt_0 rfl (lv_at hl 0 rfl) ?_
  refine va_calli (va_runV (As := []) (rest := []) ⟨hx, hb, hml, hown, hts⟩ (met_s_isLatin1 l v b t) (cwV 0 hts (lw_V q1581 q1582 q1583 q87 q1584) rfl rfl rfl (by decide +kernel) ⟨Nat.le_of_ble_eq_true rfl, Nat.le_of_ble_eq_true rfl⟩) (hPk_preV (hPk_and hTx_pk hCS_pk) hTC hS hT.1) rfl rfl hl.1 rfl (lv_room (Nat.le_of_ble_eq_true rfl)) dJ9_charAt_1 ⟨Nat.le_of_ble_eq_true rfl, Nat.le_of_ble_eq_true rfl⟩) hS (fun _ _ h => h) (fun _ h => h) ?_
  intro r _ u H1 locs1 ht hvm hr1 _ _ hk1 hS
  subst hr1
  refine lv_if_eq (tgt := 16) hx hb dJ9_charAt_4 (by decide) (fun hp => absurd hp (by decide)) (fun _ => ?_)
  refine lv_aload_n hx hb dJ9_charAt_7 rfl (lv_at hl 0 rfl) ?_
  refine vk_getf hx hb hT.2.2.1 hS hown (hts _ q443) (fun _ h => h) dJ9_charAt_8 ?_
  refine lv_iload_n hx hb dJ9_charAt_11 rfl (lv_at hl 1 rfl) ?_
  refine va_calli (va_runS (As := [.ref b, .int i]) (rest := []) ⟨hx, hb, hml, hown, hts⟩ (met_s_lcharAt l b t i h0 h1 hn) (va_cwS 2 hts (lw_S q1585 q1586 q94 q1587) rfl rfl rfl (by decide +kernel) ⟨Nat.le_of_ble_eq_true rfl, Nat.le_of_ble_eq_true rfl⟩) (hPk_preS (hPk_and hPk_T hPk_Zq) ⟨hT.2.2.2.1, hF⟩ hS) rfl rfl hl.1 rfl (lv_room (Nat.le_of_ble_eq_true rfl)) dJ9_charAt_12 ⟨Nat.le_of_ble_eq_true rfl, Nat.le_of_ble_eq_true rfl⟩) hS (fun _ _ h => h) (fun _ h => h) ?_
  intro r _ u H1 locs1 ht hvm hr1 _ _ hk1 hS
  subst hr1
  exact W.zret hx hb hr (hch_n _) (fun T ht hW => ⟨⟨_, (), rfl, rfl, trivial⟩, hS.F ht⟩) hS.2.2 dJ9_charAt_15
theorem h_ext {t t' : List Int32} (hl : t.length = t'.length) (h : ∀ j, j < t.length → t.getD j 0 = t'.getD j 0) : t = t' := by
  apply List.ext_getElem hl
  intro i h1 h2
  have := h i h1
  simpa [List.getD, List.getElem?_eq_getElem h1, List.getElem?_eq_getElem h2] using this
theorem h_cN {n : Nat} (h : n < 2 ^ 31) : (Int32.ofNat n).toNatClampNeg = n := nI_clamp h
theorem h_inN' {k n : Nat} (h : k < n) (hn : n < 2 ^ 31) : vp_in (Int32.ofNat k) n := fun z => z.elim (nI_pos (by omega)) (fun q => by rw [h_cN (by omega)] at q; omega)
def rm_s_leq : Room := { frames := 1, cells := 0, slots := 0, locals := 24 }
set_option maxHeartbeats 1000000 in
theorem met_s_leq (l : Launch) (b b' : Nat) (t t' : List Int32) (hn : t.length < 2 ^ 31) (hn' : t'.length < 2 ^ 31) : Met l yJ15_equals (ws_ yJ15_equals cJ15_equals 3 (some .boolean)) rm_s_leq (va_Pc [.ref b, .ref b'] (fun U => (va_T .byte b t.length (fun j => .int (t.getD j 0)) N0 U U.heap ∧ va_T .byte b' t'.length (fun j => .int (t'.getD j 0)) N0 U U.heap))) (va_Qi (fun (r : Int32) (_ : Unit) => r = if t = t' then 1 else 0) (fun _ _ => True) N0) 0 0 N0 := by
  refine Met.ofW (cc := cJ15_equals) (maxL := 3) (ret := (some .boolean)) (by decide) rfl ?_
  intro p e s m args below meth c s₁ B hml hv
  obtain ⟨rfl, hP⟩ := hv
  have hl := lv_entry ([.ref b, .ref b']) (n := 3) (Nat.le_of_ble_eq_true rfl)
  rw [lg_entry_eq]
  generalize (lg_sl ([.ref b, .ref b']) ++ List.replicate (3 - (lg_sl ([.ref b, .ref b'])).length) Slot.unset).toArray = ls at hl ⊢
  have hl : lv_has ls 3 [(0, .ref b), (1, .ref b')] := hl
  have hx := B.exec
  have hb := B.bytes
  have hr := B.returns
  have hown := findClass_of_methodNamed B.named
  have hts : ∀ w ∈ lw_all, w.before _ s = true := fun w h => atoms_spec (ws := ws_ yJ15_equals cJ15_equals 3 (some .boolean)) B.pre w (List.mem_cons_of_mem _ h)
  have hS : va_S N0 s.heap s.heap [] := va_S.rf
  obtain ⟨hT, hT'⟩ := hP
  refine lv_aload_n hx hb dJ15_equals_0 rfl (lv_at hl 0 rfl) ?_
  refine va_tlen hx hb hT hS rfl dJ15_equals_1 ?_
  refine lv_aload_n hx hb dJ15_equals_2 rfl (lv_at hl 1 rfl) ?_
  refine va_tlen hx hb hT' hS rfl dJ15_equals_3 ?_
  refine lv_icmp_ne (tgt := 34) hx hb dJ15_equals_4 (by decide) (fun hp => ?_) (fun hp => ?_)
  · have hne : ¬ t = t' := fun z => hp (by rw [z])
    refine lv_iconst (v := 0) hx hb dJ15_equals_34 (by decide) ?_
    exact W.zret (v := 0) hx hb hr rfl (fun T ht hW => ⟨⟨_, (), rfl, (by rw [if_neg hne]), trivial⟩, hS.F ht⟩) hS.2.2 dJ15_equals_35
  · have hlen : t.length = t'.length := by
      have := congrArg Int32.toNatClampNeg hp
      rwa [h_cN hn, h_cN hn'] at this
    refine lv_iconst (v := 0) hx hb dJ15_equals_7 (by decide) ?_
    refine lv_istore_n (lv' := [(2, .int 0), (0, .ref b), (1, .ref b')]) hx hb dJ15_equals_8 rfl hl (by decide) rfl (fun ls hl => ?_)
    obtain ⟨k, hk0⟩ : ∃ z : Nat, z = 0 := ⟨0, rfl⟩
    replace hl : lv_has ls 3 [(2, .int (Int32.ofNat k)), (0, .ref b), (1, .ref b')] := by rw [hk0]; exact hl
    have hi : ∀ j, j < k → t.getD j 0 = t'.getD j 0 := fun j h => absurd h (by omega)
    obtain ⟨n, hk⟩ : ∃ n, k + n = t.length := ⟨t.length, by omega⟩
    clear hk0
    induction n generalizing k ls with
    | zero =>
      refine lv_iload_n hx hb dJ15_equals_9 rfl (lv_at hl 0 rfl) ?_
      refine lv_aload_n hx hb dJ15_equals_10 rfl (lv_at hl 1 rfl) ?_
      refine va_tlen hx hb hT hS rfl dJ15_equals_11 ?_
      refine lv_icmp_ge (tgt := 32) hx hb dJ15_equals_12 (by decide) (fun _ => ?_) (fun hp => absurd (nI_le (show t.length ≤ k by omega) (by omega)) hp)
      have he : t = t' := h_ext hlen (fun j hj => hi j (by omega))
      refine lv_iconst (v := 1) hx hb dJ15_equals_32 (by decide) ?_
      exact W.zret (v := 1) hx hb hr rfl (fun T ht hW => ⟨⟨_, (), rfl, (by rw [if_pos he]), trivial⟩, hS.F ht⟩) hS.2.2 dJ15_equals_33
    | succ n ih =>
      have hk1 : k < t.length := by omega
      refine lv_iload_n hx hb dJ15_equals_9 rfl (lv_at hl 0 rfl) ?_
      refine lv_aload_n hx hb dJ15_equals_10 rfl (lv_at hl 1 rfl) ?_
      refine va_tlen hx hb hT hS rfl dJ15_equals_11 ?_
      refine lv_icmp_ge (tgt := 32) hx hb dJ15_equals_12 (by decide) (fun hp => absurd hp (nI_ge hk1 hn)) (fun _ => ?_)
      refine lv_aload_n hx hb dJ15_equals_15 rfl (lv_at hl 1 rfl) ?_
      refine lv_iload_n hx hb dJ15_equals_16 rfl (lv_at hl 0 rfl) ?_
      refine va_tb hx hb hT hS (h_inN' hk1 hn) (by rw [h_cN (by omega)]) dJ15_equals_17 ?_
      refine lv_aload_n hx hb dJ15_equals_18 rfl (lv_at hl 2 rfl) ?_
      refine lv_iload_n hx hb dJ15_equals_19 rfl (lv_at hl 0 rfl) ?_
      refine va_tb hx hb hT' hS (h_inN' (hlen ▸ hk1) hn') (by rw [h_cN (by omega)]) dJ15_equals_20 ?_
      refine lv_icmp_eq (tgt := 26) hx hb dJ15_equals_21 (by decide) (fun hp => ?_) (fun hp => ?_)
      · refine lv_iinc (k := 0) (v := Int32.ofNat (k + 1)) (lv' := [(2, .int (Int32.ofNat (k + 1))), (0, .ref b), (1, .ref b')]) hx hb dJ15_equals_26 hl rfl (nI_succ k).symm (by decide) rfl (fun ls hl => ?_)
        refine lv_goto (tgt := 9) hx hb dJ15_equals_29 (by decide) ?_
        exact ih ls (k + 1) hl (fun j hj => by rcases Nat.lt_succ_iff_lt_or_eq.mp hj with h | h; exact hi j h; rw [h]; exact hp) (by omega)
      · have hne : ¬ t = t' := fun z => hp (by rw [z])
        refine lv_iconst (v := 0) hx hb dJ15_equals_24 (by decide) ?_
        exact W.zret (v := 0) hx hb hr rfl (fun T ht hW => ⟨⟨_, (), rfl, (by rw [if_neg hne]), trivial⟩, hS.F ht⟩) hS.2.2 dJ15_equals_25
theorem hTx_same {v b b' : Nat} {t t' : List Int32} {U : State} {H : Heap} (h : hTx v b t U H) (h' : hTx v b' t' U H) : t = t' := by
  obtain ⟨-, -, ⟨cf, k, i, f, cell, h1, h2, h3, h4, h5, -⟩, ⟨ce, q1, q2, q3, q4, q5, q6, -⟩, hn⟩ := h
  obtain ⟨-, -, ⟨cf', k', i', f', cell', h1', h2', h3', h4', h5', -⟩, ⟨ce', q1', q2', q3', q4', q5', q6', -⟩, hn'⟩ := h'
  rw [h1] at h1'
  obtain ⟨rfl, rfl, rfl, rfl⟩ : cf = cf' ∧ k = k' ∧ i = i' ∧ f = f' := by
    have := Option.some.inj h1'
    simp only [Prod.mk.injEq] at this
    exact this
  rw [h3] at h3'
  obtain rfl := Option.some.inj h3'
  rw [h5] at h5'
  have hbb : b = b' := by
    have := Option.some.inj h5'
    injection this
  subst hbb
  rw [q1] at q1'
  obtain rfl := Option.some.inj q1'
  have hlen : t.length = t'.length := by
    have := congrArg Int32.toNatClampNeg (q5.symm.trans q5')
    rwa [h_cN hn, h_cN hn'] at this
  refine h_ext hlen (fun j hj => ?_)
  have := (q6 j hj).symm.trans (q6' j (hlen ▸ hj))
  have := Option.some.inj this
  injection this
def rm_s_equals : Room := { frames := 4, cells := 0, slots := 0, locals := 60 }
set_option maxHeartbeats 1000000 in
theorem met_s_equals (l : Launch) (v b v' b' : Nat) (t t' : List Int32) : Met l yJ9_equals (ws_ yJ9_equals cJ9_equals 3 (some .boolean)) rm_s_equals (va_Pc [.ref v, .ref v'] (fun U => (hTx v b t U U.heap ∧ hTx v' b' t' U U.heap) ∧ hCS U U.heap)) (va_Qi (fun (r : Int32) (_ : Unit) => r = if t = t' then 1 else 0) (fun _ _ => True) N0) 0 0 N0 := by
  refine Met.ofW (cc := cJ9_equals) (maxL := 3) (ret := (some .boolean)) (by decide) rfl ?_
  intro p e s m args below meth c s₁ B hml hv
  obtain ⟨rfl, hP⟩ := hv
  have hl := lv_entry ([.ref v, .ref v']) (n := 3) (Nat.le_of_ble_eq_true rfl)
  rw [lg_entry_eq]
  generalize (lg_sl ([.ref v, .ref v']) ++ List.replicate (3 - (lg_sl ([.ref v, .ref v'])).length) Slot.unset).toArray = ls at hl ⊢
  have hl : lv_has ls 3 [(0, .ref v), (1, .ref v')] := hl
  have hx := B.exec
  have hb := B.bytes
  have hr := B.returns
  have hown := findClass_of_methodNamed B.named
  have hts : ∀ w ∈ lw_all, w.before _ s = true := fun w h => atoms_spec (ws := ws_ yJ9_equals cJ9_equals 3 (some .boolean)) B.pre w (List.mem_cons_of_mem _ h)
  have hS : va_S N0 s.heap s.heap [] := va_S.rf
  obtain ⟨⟨hT, hT'⟩, hCS⟩ := hP
  refine lv_aload_n hx hb dJ9_equals_0 rfl (lv_at hl 0 rfl) ?_
  refine lv_aload_n hx hb dJ9_equals_1 rfl (lv_at hl 1 rfl) ?_
  refine lv_acmp_ne (rx := some v) (ry := some v') (tgt := 7) hx hb dJ9_equals_2 (by decide) (fun hp => ?_) (fun hp => ?_)
  · refine lv_aload_n hx hb dJ9_equals_7 rfl (lv_at hl 1 rfl) ?_
    refine va_instE hx hb hown (hts _ q1039) (by obtain ⟨cell, h1, h2, h3, -⟩ := hT'.1.kept hS.2.1; exact ⟨cell, h1, h2, h3⟩) dJ9_equals_8 ?_
    refine lv_if_eq (tgt := 54) hx hb dJ9_equals_11 (by decide) (fun hp => absurd hp (by decide)) (fun _ => ?_)
    refine lv_aload_n hx hb dJ9_equals_14 rfl (lv_at hl 1 rfl) ?_
    refine va_castE hx hb hown (hts _ q1039) (by obtain ⟨cell, h1, h2, h3, -⟩ := hT'.1.kept hS.2.1; exact ⟨cell, h1, h2, h3⟩) dJ9_equals_15 ?_
    refine lv_astore_n (lv' := [(2, .ref v'), (0, .ref v), (1, .ref v')]) hx hb dJ9_equals_18 rfl hl (by decide) rfl (fun ls hl => ?_)
    refine va_gets hx hb hCS hS hown (hts _ q302) (fun _ h => h) dJ9_equals_19 ?_
    refine lv_if_eq (tgt := 36) hx hb dJ9_equals_22 (by decide) (fun hp => absurd hp (by decide)) (fun _ => ?_)
    refine lv_aload_n hx hb dJ9_equals_25 rfl (lv_at hl 1 rfl) ?_
    refine vk_getf hx hb hT.2.1 hS hown (hts _ q444) (fun _ h => h) dJ9_equals_26 ?_
    refine lv_aload_n hx hb dJ9_equals_29 rfl (lv_at hl 0 rfl) ?_
    refine vk_getf hx hb hT'.2.1 hS hown (hts _ q444) (fun _ h => h) dJ9_equals_30 ?_
    refine lv_icmp_ne (tgt := 54) hx hb dJ9_equals_33 (by decide) (fun hp => absurd rfl hp) (fun _ => ?_)
    refine lv_aload_n hx hb dJ9_equals_36 rfl (lv_at hl 1 rfl) ?_
    refine vk_getf hx hb hT.2.2.1 hS hown (hts _ q443) (fun _ h => h) dJ9_equals_37 ?_
    refine lv_aload_n hx hb dJ9_equals_40 rfl (lv_at hl 0 rfl) ?_
    refine vk_getf hx hb hT'.2.2.1 hS hown (hts _ q443) (fun _ h => h) dJ9_equals_41 ?_
    refine va_calli (va_runS (As := [.ref b, .ref b']) (rest := []) ⟨hx, hb, hml, hown, hts⟩ (met_s_leq l b b' t t' hT.2.2.2.2 hT'.2.2.2.2) (va_cwS 2 hts (lw_S q1040 q1041 q94 q1042) rfl rfl rfl (by decide +kernel) ⟨Nat.le_of_ble_eq_true rfl, Nat.le_of_ble_eq_true rfl⟩) (hPk_preS (hPk_and hPk_T hPk_T) ⟨hT.2.2.2.1, hT'.2.2.2.1⟩ hS) rfl rfl hl.1 rfl (lv_room (Nat.le_of_ble_eq_true rfl)) dJ9_equals_44 ⟨Nat.le_of_ble_eq_true rfl, Nat.le_of_ble_eq_true rfl⟩) hS (fun _ _ h => h) (fun _ h => h) ?_
    intro r _ u H1 locs1 ht hvm hr1 _ _ hk1 hS
    subst hr1
    by_cases he : t = t'
    · rw [if_pos he]
      refine lv_if_eq (tgt := 54) hx hb dJ9_equals_47 (by decide) (fun hp => absurd hp (by decide)) (fun _ => ?_)
      refine lv_iconst (v := 1) hx hb dJ9_equals_50 (by decide) ?_
      refine lv_goto (tgt := 55) hx hb dJ9_equals_51 (by decide) ?_
      exact W.zret (v := 1) hx hb hr rfl (fun T ht hW => ⟨⟨_, (), rfl, rfl, trivial⟩, hS.F ht⟩) hS.2.2 dJ9_equals_55
    · rw [if_neg he]
      refine lv_if_eq (tgt := 54) hx hb dJ9_equals_47 (by decide) (fun _ => ?_) (fun hp => absurd rfl hp)
      refine lv_iconst (v := 0) hx hb dJ9_equals_54 (by decide) ?_
      exact W.zret (v := 0) hx hb hr rfl (fun T ht hW => ⟨⟨_, (), rfl, rfl, trivial⟩, hS.F ht⟩) hS.2.2 dJ9_equals_55
  · have hv : v = v' := Option.some.inj hp
    subst hv
    have he := hTx_same hT hT'
    refine lv_iconst (v := 1) hx hb dJ9_equals_5 (by decide) ?_
    exact W.zret (v := 1) hx hb hr rfl (fun T ht hW => ⟨⟨_, (), rfl, (by rw [if_pos he]), trivial⟩, hS.F ht⟩) hS.2.2 dJ9_equals_6
