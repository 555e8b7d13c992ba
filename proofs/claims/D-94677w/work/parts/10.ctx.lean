/-! THE CONTEXT: the classes by number, the shapes of both sides (mSH: the reference, xSH: the class under test), what holds all through a run (hZ, from the law's start s0), a walk's fixed facts (hCx). -/
set_option maxRecDepth 100000
def T_no : u_T := fun _ => ("", "", "", false)
abbrev vwCl : List vw_C := [(RX1, TX1, 19), (RX4, TX4, 6), (RX2, TX2, 6), (RX3, TX3, 3), (RX14, TX14, 9), (RX5, TX5, 55), (RJ2, TJ2, 3), (RX9, T_no, 0), (RX12, T_no, 0), (RX13, T_no, 0), (RX10, TX10, 1), (RX11, TX11, 1), (RX6, TX6, 8), (RJ8, TJ8, 4), (RJ9, TJ9, 4)]
def hT (C : Nat → Nat) : List (ClassId × FieldType) := [(C 0, .int), (C 1, .byte), (C 2, .boolean), (C 3, .long), (C 4, .object "java/lang/Object"), (C 5, .object "HeavyGifts$State"), (C 6, .object "java/lang/String")]
abbrev hPr : Type := Nat → Nat → Nat
def hA (s0 : State) : Nat → Prop := fun q => s0.heap.size ≤ q
/-- a later state of the run that began at s0: old cells are as they were -/
def hZ (a0 : Array Value) (s0 : State) (U : State) (H : Heap) : Prop := (∀ w ∈ lw_tbl, w.before a0 s0 = true) ∧ (Jvm.Cond.and given_1 narrow_1).before a0 s0 = true ∧ s0.WarmedH U.vm ∧ s0.heap.size ≤ H.size ∧ ∀ a : Nat, a < s0.heap.size → H[a]? = s0.heap[a]?
theorem hZ_c {a0 : Array Value} {s0 : State} : hZc (hA s0) (hZ a0 s0) := by
  intro s U H h hq hs hw
  obtain ⟨h1, h2, h3, h4, h5⟩ := h
  exact ⟨h1, h2, State.WarmedH.trans h3 hw, Nat.le_trans h4 hs, fun a ha => (hq a (Nat.lt_of_lt_of_le ha h4) (Nat.not_le.mpr ha)).trans (h5 a ha)⟩
def hNk (w : Cond) : Bool := match w with
  | .fieldLinkNest .. => true
  | .methodLinkNest .. => true
  | .declares .. => true
  | .castable .. => true
  | _ => false
theorem hZ_nest {a0 : Array Value} {s0 s : State} {w : Cond} (h : hZ a0 s0 s s.heap) (q : w ∈ lw_tbl) (hk : hNk w = true) : va_Nw w s := by
  have hb := h.1 w q
  cases w with
  | fieldLinkNest a i b n d g => exact va_Nw.warmF h.2.2.1 (va_Nw.of rfl hb)
  | methodLinkNest a i x g => exact va_Nw.warmM h.2.2.1 (va_Nw.of rfl hb)
  | declares x => exact va_Nw.warmD h.2.2.1 (va_Nw.of rfl hb)
  | castable a b => exact va_Nw.warmC h.2.2.1 (va_Nw.of rfl hb)
  | _ => exact absurd hk (by simp [hNk])
def hCx (D : va_G) (C : Nat → Nat) (a0 : Array Value) (s0 : State) (p : Program) (s : State) (m : MethodId) (args : Array Value) (meth : Method) (c : Code) (cc : ByteArray) (nL : Nat) (own : String) (ret : Option FieldType) : Prop :=
  p.tables.exec = Jvm.exec ∧ c.code = cc ∧ meth.sig.returnType = ret ∧ c.maxLocals = nL ∧ s.vm.findClass own = some m.cls ∧ (∀ w ∈ lw_all, w.before args s = true) ∧ meth.locks = false ∧ va_K D vwCl (hT C) s ∧ hZ a0 s0 s s.heap ∧ ∀ q : Nat, s.heap.size ≤ q → hA s0 q
theorem hcase_l {α β γ : Type} {a : α} {f : α → Option γ} {g : β → Option γ} {o : γ} (h : hcase (Sum.inl a) f g = some o) : f a = some o := h
theorem hcase_r {α β γ : Type} {b : β} {f : α → Option γ} {g : β → Option γ} {o : γ} (h : hcase (Sum.inr b) f g = some o) : g b = some o := h
def hmax (x y : Int32) : Int32 := if x < y then y else x
def hmin (x y : Int32) : Int32 := if y < x then y else x
def habs (x : Int32) : Int32 := if 0 ≤ x then x else 0 - x
theorem h_sw0_6 {x : Int32} (h0 : ¬ x = 0) (h1 : ¬ x = 1) (h2 : ¬ x = 2) (h3 : ¬ x = 3) (h4 : ¬ x = 4) (h5 : ¬ x = 5) (h6 : ¬ x = 6) : x.toInt < 0 ∨ 6 < x.toInt := by
  have k : ∀ y : Int32, ¬ x = y → ¬ x.toInt = y.toInt := fun y h e => h (Int32.toInt_inj.mp e)
  have a0 := k 0 h0
  have a1 := k 1 h1
  have a2 := k 2 h2
  have a3 := k 3 h3
  have a4 := k 4 h4
  have a5 := k 5 h5
  have a6 := k 6 h6
  rw [show (0 : Int32).toInt = 0 by decide] at a0
  rw [show (1 : Int32).toInt = 1 by decide] at a1
  rw [show (2 : Int32).toInt = 2 by decide] at a2
  rw [show (3 : Int32).toInt = 3 by decide] at a3
  rw [show (4 : Int32).toInt = 4 by decide] at a4
  rw [show (5 : Int32).toInt = 5 by decide] at a5
  rw [show (6 : Int32).toInt = 6 by decide] at a6
  omega
theorem h_sw0_2 {x : Int32} (h0 : ¬ x = 0) (h1 : ¬ x = 1) (h2 : ¬ x = 2) : x.toInt < 0 ∨ 2 < x.toInt := by
  have k : ∀ y : Int32, ¬ x = y → ¬ x.toInt = y.toInt := fun y h e => h (Int32.toInt_inj.mp e)
  have a0 := k 0 h0
  have a1 := k 1 h1
  have a2 := k 2 h2
  rw [show (0 : Int32).toInt = 0 by decide] at a0
  rw [show (1 : Int32).toInt = 1 by decide] at a1
  rw [show (2 : Int32).toInt = 2 by decide] at a2
  omega
theorem h_sw0_3 {x : Int32} (h0 : ¬ x = 0) (h1 : ¬ x = 1) (h2 : ¬ x = 2) (h3 : ¬ x = 3) : x.toInt < 0 ∨ 3 < x.toInt := by
  have k : ∀ y : Int32, ¬ x = y → ¬ x.toInt = y.toInt := fun y h e => h (Int32.toInt_inj.mp e)
  have a0 := k 0 h0
  have a1 := k 1 h1
  have a2 := k 2 h2
  have a3 := k 3 h3
  rw [show (0 : Int32).toInt = 0 by decide] at a0
  rw [show (1 : Int32).toInt = 1 by decide] at a1
  rw [show (2 : Int32).toInt = 2 by decide] at a2
  rw [show (3 : Int32).toInt = 3 by decide] at a3
  omega
theorem h_sw0_5 {x : Int32} (h0 : ¬ x = 0) (h1 : ¬ x = 1) (h2 : ¬ x = 2) (h3 : ¬ x = 3) (h4 : ¬ x = 4) (h5 : ¬ x = 5) : x.toInt < 0 ∨ 5 < x.toInt := by
  have k : ∀ y : Int32, ¬ x = y → ¬ x.toInt = y.toInt := fun y h e => h (Int32.toInt_inj.mp e)
  have a0 := k 0 h0
  have a1 := k 1 h1
  have a2 := k 2 h2
  have a3 := k 3 h3
  have a4 := k 4 h4
  have a5 := k 5 h5
  rw [show (0 : Int32).toInt = 0 by decide] at a0
  rw [show (1 : Int32).toInt = 1 by decide] at a1
  rw [show (2 : Int32).toInt = 2 by decide] at a2
  rw [show (3 : Int32).toInt = 3 by decide] at a3
  rw [show (4 : Int32).toInt = 4 by decide] at a4
  rw [show (5 : Int32).toInt = 5 by decide] at a5
  omega
theorem h_sw4_8 {x : Int32} (h4 : ¬ x = 4) (h5 : ¬ x = 5) (h6 : ¬ x = 6) (h7 : ¬ x = 7) (h8 : ¬ x = 8) : x.toInt < 4 ∨ 8 < x.toInt := by
  have k : ∀ y : Int32, ¬ x = y → ¬ x.toInt = y.toInt := fun y h e => h (Int32.toInt_inj.mp e)
  have a4 := k 4 h4
  have a5 := k 5 h5
  have a6 := k 6 h6
  have a7 := k 7 h7
  have a8 := k 8 h8
  rw [show (4 : Int32).toInt = 4 by decide] at a4
  rw [show (5 : Int32).toInt = 5 by decide] at a5
  rw [show (6 : Int32).toInt = 6 by decide] at a6
  rw [show (7 : Int32).toInt = 7 by decide] at a7
  rw [show (8 : Int32).toInt = 8 by decide] at a8
  omega
section HQ
variable {p : Program} {l : Launch} {e : Env} {R : Room} {s : State} {m : MethodId} {args : Array Value} {below : List Frame} {meth : Method} {c : Code} {H : Heap} {locs : List Loc} {cells slots : Nat} {Q : State → Prop}
variable {cc : ByteArray} {pc : Nat} {ls : Array Slot} {rest st0 : List Value} {D : va_G} {cl : List vw_C} {A A1 : Nat → Prop} {tys : List (ClassId × FieldType)} {H0 : Heap} {a : Array Value}
variable {ad : Rl → Nat} {sh : Rl → Option hS} {st : Rl → Nat → Int32} {lt : Rl → Nat → Int64}
theorem hr_calli0 {v : Int32} (hr : va_Run p l e R s m args below meth c H locs cells slots 0 0 (F0 m pc ls st0) rest (va_Qi (fun (r : Int32) (_ : Unit) => r = v) (fun _ t => hW D cl ad sh st lt t.heap) A a) A) (hS : va_S A H0 H locs)
    (kk : ∀ (H1 : Heap) (locs1 : List Loc), hW D cl ad sh st lt H1 → va_S A H0 H1 locs1 → W p l e R s m args below meth c H1 locs1 cells slots Q (F0 m (pc + 3) ls (.int v :: rest))) : W p l e R s m args below meth c H locs cells slots Q (F0 m pc ls st0) := hr_calli hr hS kk
theorem hr_callv0 (hr : va_Run p l e R s m args below meth c H locs cells slots 0 0 (F0 m pc ls st0) rest (va_Qv (fun (_ : Unit) => True) (fun _ t => hW D cl ad sh st lt t.heap) A a) A) (hS : va_S A H0 H locs)
    (kk : ∀ (H1 : Heap) (locs1 : List Loc), hW D cl ad sh st lt H1 → va_S A H0 H1 locs1 → W p l e R s m args below meth c H1 locs1 cells slots Q (F0 m (pc + 3) ls rest)) : W p l e R s m args below meth c H locs cells slots Q (F0 m pc ls st0) := hr_callv hr hS kk
end HQ
def m_f : List hF := [some (some (.inl (.inr 1))), none, some (some (.inl (.inr 3))), some (some (.inl (.inr 4))), some (some (.inl (.inr 5))), some (some (.inl (.inr 6))), some (some (.inl (.inr 7))), some (some (.inl (.inr 8))), some (some (.inl (.inr 9))), some (some (.inl (.inr 10))), some (some (.inl (.inr 11))), some (some (.inl (.inr 12))), none, some (some (.inl (.inr 14))), none, none, none, none, none, none, none, none, none, none, none, some (some (.inl (.inr 26))), some (some (.inl (.inr 27))), some (some (.inl (.inr 28))), some (some (.inl (.inr 29))), some (some (.inl (.inr 30))), some (some (.inl (.inr 31))), some (some (.inl (.inr 32))), none, none, none, none, none, none, some (some (.inl (.inr 39))), some (some (.inl (.inr 40))), some (some (.inl (.inr 41))), some (some (.inl (.inr 42))), some (some (.inl (.inr 43))), some (some (.inl (.inr 44))), none, none, some (some (.inl (.inr 47))), some (some (.inl (.inr 48))), none, none, none, some (some (.inl (.inr 52))), some (some (.inl (.inr 53))), some (some (.inl (.inr 54))), some (some (.inl (.inr 55)))]
def mSH (C : Nat → Nat) (r : Nat) : Option hS := match r with
  | 0 => some (.inr (.inr (5, m_f)))
  | 1 => some (.inr (.inl (C 6, 5, fun i => some (.inr (C (100 + i))))))
  | 3 => some (.inl (C 0, 8, false))
  | 4 => some (.inl (C 0, 12, false))
  | 5 => some (.inl (C 0, 12, false))
  | 6 => some (.inl (C 0, 24, false))
  | 7 => some (.inl (C 0, 2, false))
  | 8 => some (.inl (C 0, 30, false))
  | 9 => some (.inl (C 0, 30, false))
  | 10 => some (.inl (C 0, 12, false))
  | 11 => some (.inl (C 0, 12, false))
  | 12 => some (.inl (C 2, 24, false))
  | 14 => some (.inl (C 0, 700, false))
  | 26 => some (.inl (C 0, 1800, false))
  | 27 => some (.inl (C 0, 210, false))
  | 28 => some (.inl (C 0, 30, false))
  | 29 => some (.inl (C 0, 6, false))
  | 30 => some (.inl (C 0, 6, false))
  | 31 => some (.inl (C 0, 6, false))
  | 32 => some (.inl (C 0, 6, false))
  | 39 => some (.inl (C 0, 30000, false))
  | 40 => some (.inl (C 0, 1000, false))
  | 41 => some (.inl (C 0, 1000, false))
  | 42 => some (.inl (C 0, 4096, false))
  | 43 => some (.inl (C 0, 30, false))
  | 44 => some (.inl (C 0, 30, false))
  | 47 => some (.inl (C 2, 4000, false))
  | 48 => some (.inl (C 0, 12, false))
  | 52 => some (.inl (C 0, 30, false))
  | 53 => some (.inl (C 0, 12, false))
  | 54 => some (.inl (C 0, 1800, false))
  | 55 => some (.inl (C 0, 2, false))
  | 60 => some (.inl (C 3, 1, true))
  | _ => none
theorem ms_0 {C : Nat → Nat} : mSH C 0 = some (.inr (.inr (5, m_f))) := rfl
theorem ms_3 {C : Nat → Nat} : mSH C 3 = some (.inl (C 0, 8, false)) := rfl
theorem ms_4 {C : Nat → Nat} : mSH C 4 = some (.inl (C 0, 12, false)) := rfl
theorem ms_5 {C : Nat → Nat} : mSH C 5 = some (.inl (C 0, 12, false)) := rfl
theorem ms_6 {C : Nat → Nat} : mSH C 6 = some (.inl (C 0, 24, false)) := rfl
theorem ms_7 {C : Nat → Nat} : mSH C 7 = some (.inl (C 0, 2, false)) := rfl
theorem ms_8 {C : Nat → Nat} : mSH C 8 = some (.inl (C 0, 30, false)) := rfl
theorem ms_9 {C : Nat → Nat} : mSH C 9 = some (.inl (C 0, 30, false)) := rfl
theorem ms_10 {C : Nat → Nat} : mSH C 10 = some (.inl (C 0, 12, false)) := rfl
theorem ms_11 {C : Nat → Nat} : mSH C 11 = some (.inl (C 0, 12, false)) := rfl
theorem ms_12 {C : Nat → Nat} : mSH C 12 = some (.inl (C 2, 24, false)) := rfl
theorem ms_14 {C : Nat → Nat} : mSH C 14 = some (.inl (C 0, 700, false)) := rfl
theorem ms_26 {C : Nat → Nat} : mSH C 26 = some (.inl (C 0, 1800, false)) := rfl
theorem ms_27 {C : Nat → Nat} : mSH C 27 = some (.inl (C 0, 210, false)) := rfl
theorem ms_28 {C : Nat → Nat} : mSH C 28 = some (.inl (C 0, 30, false)) := rfl
theorem ms_29 {C : Nat → Nat} : mSH C 29 = some (.inl (C 0, 6, false)) := rfl
theorem ms_30 {C : Nat → Nat} : mSH C 30 = some (.inl (C 0, 6, false)) := rfl
theorem ms_31 {C : Nat → Nat} : mSH C 31 = some (.inl (C 0, 6, false)) := rfl
theorem ms_32 {C : Nat → Nat} : mSH C 32 = some (.inl (C 0, 6, false)) := rfl
theorem ms_39 {C : Nat → Nat} : mSH C 39 = some (.inl (C 0, 30000, false)) := rfl
theorem ms_40 {C : Nat → Nat} : mSH C 40 = some (.inl (C 0, 1000, false)) := rfl
theorem ms_41 {C : Nat → Nat} : mSH C 41 = some (.inl (C 0, 1000, false)) := rfl
theorem ms_42 {C : Nat → Nat} : mSH C 42 = some (.inl (C 0, 4096, false)) := rfl
theorem ms_43 {C : Nat → Nat} : mSH C 43 = some (.inl (C 0, 30, false)) := rfl
theorem ms_44 {C : Nat → Nat} : mSH C 44 = some (.inl (C 0, 30, false)) := rfl
theorem ms_47 {C : Nat → Nat} : mSH C 47 = some (.inl (C 2, 4000, false)) := rfl
theorem ms_48 {C : Nat → Nat} : mSH C 48 = some (.inl (C 0, 12, false)) := rfl
theorem ms_52 {C : Nat → Nat} : mSH C 52 = some (.inl (C 0, 30, false)) := rfl
theorem ms_53 {C : Nat → Nat} : mSH C 53 = some (.inl (C 0, 12, false)) := rfl
theorem ms_54 {C : Nat → Nat} : mSH C 54 = some (.inl (C 0, 1800, false)) := rfl
theorem ms_55 {C : Nat → Nat} : mSH C 55 = some (.inl (C 0, 2, false)) := rfl
section MS
variable {so : Nat → Option hS} {C : Nat → Nat}
theorem mS_0 : Sum.elim so (mSH C) (.inr 0) = some (.inr (.inr (5, m_f))) := rfl
theorem mS_3 : Sum.elim so (mSH C) (.inr 3) = some (.inl (C 0, 8, false)) := rfl
theorem mS_4 : Sum.elim so (mSH C) (.inr 4) = some (.inl (C 0, 12, false)) := rfl
theorem mS_5 : Sum.elim so (mSH C) (.inr 5) = some (.inl (C 0, 12, false)) := rfl
theorem mS_6 : Sum.elim so (mSH C) (.inr 6) = some (.inl (C 0, 24, false)) := rfl
theorem mS_7 : Sum.elim so (mSH C) (.inr 7) = some (.inl (C 0, 2, false)) := rfl
theorem mS_8 : Sum.elim so (mSH C) (.inr 8) = some (.inl (C 0, 30, false)) := rfl
theorem mS_9 : Sum.elim so (mSH C) (.inr 9) = some (.inl (C 0, 30, false)) := rfl
theorem mS_10 : Sum.elim so (mSH C) (.inr 10) = some (.inl (C 0, 12, false)) := rfl
theorem mS_11 : Sum.elim so (mSH C) (.inr 11) = some (.inl (C 0, 12, false)) := rfl
theorem mS_12 : Sum.elim so (mSH C) (.inr 12) = some (.inl (C 2, 24, false)) := rfl
theorem mS_14 : Sum.elim so (mSH C) (.inr 14) = some (.inl (C 0, 700, false)) := rfl
theorem mS_26 : Sum.elim so (mSH C) (.inr 26) = some (.inl (C 0, 1800, false)) := rfl
theorem mS_27 : Sum.elim so (mSH C) (.inr 27) = some (.inl (C 0, 210, false)) := rfl
theorem mS_28 : Sum.elim so (mSH C) (.inr 28) = some (.inl (C 0, 30, false)) := rfl
theorem mS_29 : Sum.elim so (mSH C) (.inr 29) = some (.inl (C 0, 6, false)) := rfl
theorem mS_30 : Sum.elim so (mSH C) (.inr 30) = some (.inl (C 0, 6, false)) := rfl
theorem mS_31 : Sum.elim so (mSH C) (.inr 31) = some (.inl (C 0, 6, false)) := rfl
theorem mS_32 : Sum.elim so (mSH C) (.inr 32) = some (.inl (C 0, 6, false)) := rfl
theorem mS_39 : Sum.elim so (mSH C) (.inr 39) = some (.inl (C 0, 30000, false)) := rfl
theorem mS_40 : Sum.elim so (mSH C) (.inr 40) = some (.inl (C 0, 1000, false)) := rfl
theorem mS_41 : Sum.elim so (mSH C) (.inr 41) = some (.inl (C 0, 1000, false)) := rfl
theorem mS_42 : Sum.elim so (mSH C) (.inr 42) = some (.inl (C 0, 4096, false)) := rfl
theorem mS_43 : Sum.elim so (mSH C) (.inr 43) = some (.inl (C 0, 30, false)) := rfl
theorem mS_44 : Sum.elim so (mSH C) (.inr 44) = some (.inl (C 0, 30, false)) := rfl
theorem mS_47 : Sum.elim so (mSH C) (.inr 47) = some (.inl (C 2, 4000, false)) := rfl
theorem mS_48 : Sum.elim so (mSH C) (.inr 48) = some (.inl (C 0, 12, false)) := rfl
theorem mS_52 : Sum.elim so (mSH C) (.inr 52) = some (.inl (C 0, 30, false)) := rfl
theorem mS_53 : Sum.elim so (mSH C) (.inr 53) = some (.inl (C 0, 12, false)) := rfl
theorem mS_54 : Sum.elim so (mSH C) (.inr 54) = some (.inl (C 0, 1800, false)) := rfl
theorem mS_55 : Sum.elim so (mSH C) (.inr 55) = some (.inl (C 0, 2, false)) := rfl
theorem mS_60 : Sum.elim so (mSH C) (.inr 60) = some (.inl (C 3, 1, true)) := rfl
end MS
theorem ms_60 {C : Nat → Nat} : mSH C 60 = some (.inl (C 3, 1, true)) := rfl
def x_st (b : Nat) : List hF := [some (some (.inl (.inl (b + 1)))), some (some (.inl (.inl (b + 2)))), some (some (.inl (.inl (b + 3)))), some (some (.inl (.inl (b + 4)))), some (some (.inl (.inl (b + 5)))), none]
def x_al (b : Nat) : List hF := [none, some (some (.inl (.inl (b + 1)))), none]
def x_gf : List hF := [none, none, none, none, none, none, none, none, none]
def x_hg (pr : hPr) : List hF := [some (some (.inl (.inl 10))), some (some (.inl (.inl 20))), some (some (.inl (.inl 30))), some (some (.inl (.inl 1))), none, none, some (some (.inl (.inl 2))), some (some (.inl (.inl 3))), some (some (.inl (.inl 4))), none, none, none, some (some (.inl (.inl 5))), some (some (.inl (.inl 6))), some (some (.inl (.inl 7))), none, none, some (some (.inl (.inl 8))), some (if pr 9 1 = 0 then none else some (.inl (.inl 40)))]
def x_tn (b : Nat) : List hF := [some (some (.inl (.inl (b + 1)))), some (some (.inl (.inl (b + 3)))), none, none, none, none]
def x_bk (b : Nat) : List hF := [some (some (.inl (.inl (b + 4)))), some (some (.inl (.inl (b + 1)))), some (some (.inl (.inl (b + 3))))]
/-- a State's cells: at b the object, behind it its arrays -/
def xStS (C : Nat → Nat) (b j : Nat) : Option hS := match j with
  | 0 => some (.inr (.inr (1, x_st b)))
  | 1 => some (.inl (C 0, 6, false))
  | 2 => some (.inl (C 0, 6, false))
  | 3 => some (.inl (C 0, 6, false))
  | 4 => some (.inl (C 0, 6, false))
  | 5 => some (.inl (C 0, 12, false))
  | _ => none
/-- the array of a list at b: pr b 0 places, pr b 1 taken, by the roles pr b 2 .. -/
def xLst (C : Nat → Nat) (pr : hPr) (b : Nat) : hS := .inr (.inl (C 4, pr b 0, fun i => if i < pr b 1 then some (.inl (.inl (pr b (2 + i)))) else none))
/-- a Book's cells: the object, its list, the list's array, refused, the State -/
def xBk (C : Nat → Nat) (pr : hPr) (b j : Nat) : Option hS := match j with
  | 0 => some (.inr (.inr (3, x_bk b)))
  | 1 => some (.inr (.inr (6, x_al (b + 1))))
  | 2 => some (xLst C pr (b + 1))
  | 3 => some (.inl (C 0, 2, false))
  | j + 4 => xStS C (b + 4) j
def xTn (C : Nat → Nat) (pr : hPr) (b j : Nat) : Option hS := match j with
  | 0 => some (.inr (.inr (2, x_tn b)))
  | 1 => some (.inr (.inr (6, x_al (b + 1))))
  | 2 => some (xLst C pr (b + 1))
  | 3 => some (.inl (C 0, 12, false))
  | _ => none
/-- a giver by its kind: Plain, Least, Fewest, Aim, Wait -/
def xGv (k : Nat) : hS := match k with
  | 0 => .inr (.inr (7, []))
  | 1 => .inr (.inr (8, []))
  | 2 => .inr (.inr (9, []))
  | 3 => .inr (.inr (10, [none]))
  | _ => .inr (.inr (11, [none]))
/-- the class under test. pr: 9 0 gifts made, 9 1 is there an image, 9 2 states made; 11, 21, 41 the lists; (70 + p) 0 a giver's kind -/
def xSH (C : Nat → Nat) (pr : hPr) (r : Nat) : Option hS := match r with
  | 0 => some (.inr (.inr (0, x_hg pr)))
  | 1 => some (.inl (C 1, 700, false))
  | 2 => some (.inr (.inl (C 5, 7, fun i => if i < 7 then some (.inl (.inl (100 + 6 * i))) else none)))
  | 3 => some (.inl (C 0, 6, false))
  | 4 => some (.inl (C 0, 6, false))
  | 5 => some (.inr (.inl (C 5, 1000, fun i => if i < pr 9 2 then some (.inl (.inl (1000 + 6 * i))) else none)))
  | 6 => some (.inl (C 0, 1000, false))
  | 7 => some (.inl (C 0, 4096, false))
  | 8 => some (.inl (C 3, 20, true))
  | 10 => xTn C pr 10 0
  | 11 => xTn C pr 10 1
  | 12 => xTn C pr 10 2
  | 13 => xTn C pr 10 3
  | 20 => xBk C pr 20 0
  | 21 => xBk C pr 20 1
  | 22 => xBk C pr 20 2
  | 23 => xBk C pr 20 3
  | 24 => xBk C pr 20 4
  | 25 => xBk C pr 20 5
  | 26 => xBk C pr 20 6
  | 27 => xBk C pr 20 7
  | 28 => xBk C pr 20 8
  | 29 => xBk C pr 20 9
  | 30 => xStS C 30 0
  | 31 => xStS C 30 1
  | 32 => xStS C 30 2
  | 33 => xStS C 30 3
  | 34 => xStS C 30 4
  | 35 => xStS C 30 5
  | 40 => if pr 9 1 = 0 then none else xBk C pr 40 0
  | 41 => if pr 9 1 = 0 then none else xBk C pr 40 1
  | 42 => if pr 9 1 = 0 then none else xBk C pr 40 2
  | 43 => if pr 9 1 = 0 then none else xBk C pr 40 3
  | 44 => if pr 9 1 = 0 then none else xBk C pr 40 4
  | 45 => if pr 9 1 = 0 then none else xBk C pr 40 5
  | 46 => if pr 9 1 = 0 then none else xBk C pr 40 6
  | 47 => if pr 9 1 = 0 then none else xBk C pr 40 7
  | 48 => if pr 9 1 = 0 then none else xBk C pr 40 8
  | 49 => if pr 9 1 = 0 then none else xBk C pr 40 9
  | r => if 70 ≤ r ∧ r < 76 then (if r - 70 < pr 11 1 then some (xGv (pr r 0)) else none)
    else if 100 ≤ r ∧ r < 142 then xStS C (100 + (r - 100) / 6 * 6) ((r - 100) % 6)
    else if 1000 ≤ r ∧ r < 1000 + 6 * pr 9 2 ∧ r < 7000 then xStS C (1000 + (r - 1000) / 6 * 6) ((r - 1000) % 6)
    else if 10000 ≤ r ∧ r < 10000 + pr 9 0 then some (.inr (.inr (4, x_gf)))
    else none
def xSt (C : Nat → Nat) (sh : Nat → Option hS) (b : Nat) : Prop := sh b = some (.inr (.inr (1, x_st b))) ∧ sh (b + 1) = some (.inl (C 0, 6, false)) ∧ sh (b + 2) = some (.inl (C 0, 6, false)) ∧ sh (b + 3) = some (.inl (C 0, 6, false)) ∧ sh (b + 4) = some (.inl (C 0, 6, false)) ∧ sh (b + 5) = some (.inl (C 0, 12, false))
theorem xSt.o {C : Nat → Nat} {sh : Nat → Option hS} {b : Nat} (h : xSt C sh b) : sh b = some (.inr (.inr (1, x_st b))) := h.1
theorem xSt.a1 {C : Nat → Nat} {sh : Nat → Option hS} {b : Nat} (h : xSt C sh b) : sh (b + 1) = some (.inl (C 0, 6, false)) := h.2.1
theorem xSt.a2 {C : Nat → Nat} {sh : Nat → Option hS} {b : Nat} (h : xSt C sh b) : sh (b + 2) = some (.inl (C 0, 6, false)) := h.2.2.1
theorem xSt.a3 {C : Nat → Nat} {sh : Nat → Option hS} {b : Nat} (h : xSt C sh b) : sh (b + 3) = some (.inl (C 0, 6, false)) := h.2.2.2.1
theorem xSt.a4 {C : Nat → Nat} {sh : Nat → Option hS} {b : Nat} (h : xSt C sh b) : sh (b + 4) = some (.inl (C 0, 6, false)) := h.2.2.2.2.1
theorem xSt.a5 {C : Nat → Nat} {sh : Nat → Option hS} {b : Nat} (h : xSt C sh b) : sh (b + 5) = some (.inl (C 0, 12, false)) := h.2.2.2.2.2
section XS
variable {C : Nat → Nat} {pr : hPr}
theorem xs_0 : xSH C pr 0 = some (.inr (.inr (0, x_hg pr))) := rfl
theorem xs_1 : xSH C pr 1 = some (.inl (C 1, 700, false)) := rfl
theorem xs_2 : xSH C pr 2 = some (.inr (.inl (C 5, 7, fun i => if i < 7 then some (.inl (.inl (100 + 6 * i))) else none))) := rfl
theorem xs_3 : xSH C pr 3 = some (.inl (C 0, 6, false)) := rfl
theorem xs_4 : xSH C pr 4 = some (.inl (C 0, 6, false)) := rfl
theorem xs_5 : xSH C pr 5 = some (.inr (.inl (C 5, 1000, fun i => if i < pr 9 2 then some (.inl (.inl (1000 + 6 * i))) else none))) := rfl
theorem xs_6 : xSH C pr 6 = some (.inl (C 0, 1000, false)) := rfl
theorem xs_7 : xSH C pr 7 = some (.inl (C 0, 4096, false)) := rfl
theorem xs_8 : xSH C pr 8 = some (.inl (C 3, 20, true)) := rfl
theorem xs_10 : xSH C pr 10 = some (.inr (.inr (2, x_tn 10))) := rfl
theorem xs_11 : xSH C pr 11 = some (.inr (.inr (6, x_al 11))) := rfl
theorem xs_12 : xSH C pr 12 = some (xLst C pr 11) := rfl
theorem xs_13 : xSH C pr 13 = some (.inl (C 0, 12, false)) := rfl
theorem xs_20 : xSH C pr 20 = some (.inr (.inr (3, x_bk 20))) := rfl
theorem xs_21 : xSH C pr 21 = some (.inr (.inr (6, x_al 21))) := rfl
theorem xs_22 : xSH C pr 22 = some (xLst C pr 21) := rfl
theorem xs_23 : xSH C pr 23 = some (.inl (C 0, 2, false)) := rfl
theorem xS_0 {so : Nat → Option hS} : Sum.elim (xSH C pr) so (.inl 0) = some (.inr (.inr (0, x_hg pr))) := rfl
theorem xS_1 {so : Nat → Option hS} : Sum.elim (xSH C pr) so (.inl 1) = some (.inl (C 1, 700, false)) := rfl
theorem xS_2 {so : Nat → Option hS} : Sum.elim (xSH C pr) so (.inl 2) = some (.inr (.inl (C 5, 7, fun i => if i < 7 then some (.inl (.inl (100 + 6 * i))) else none))) := rfl
theorem xS_3 {so : Nat → Option hS} : Sum.elim (xSH C pr) so (.inl 3) = some (.inl (C 0, 6, false)) := rfl
theorem xS_4 {so : Nat → Option hS} : Sum.elim (xSH C pr) so (.inl 4) = some (.inl (C 0, 6, false)) := rfl
theorem xS_5 {so : Nat → Option hS} : Sum.elim (xSH C pr) so (.inl 5) = some (.inr (.inl (C 5, 1000, fun i => if i < pr 9 2 then some (.inl (.inl (1000 + 6 * i))) else none))) := rfl
theorem xS_6 {so : Nat → Option hS} : Sum.elim (xSH C pr) so (.inl 6) = some (.inl (C 0, 1000, false)) := rfl
theorem xS_7 {so : Nat → Option hS} : Sum.elim (xSH C pr) so (.inl 7) = some (.inl (C 0, 4096, false)) := rfl
theorem xS_8 {so : Nat → Option hS} : Sum.elim (xSH C pr) so (.inl 8) = some (.inl (C 3, 20, true)) := rfl
theorem xS_10 {so : Nat → Option hS} : Sum.elim (xSH C pr) so (.inl 10) = some (.inr (.inr (2, x_tn 10))) := rfl
theorem xS_11 {so : Nat → Option hS} : Sum.elim (xSH C pr) so (.inl 11) = some (.inr (.inr (6, x_al 11))) := rfl
theorem xS_12 {so : Nat → Option hS} : Sum.elim (xSH C pr) so (.inl 12) = some (xLst C pr 11) := rfl
theorem xS_13 {so : Nat → Option hS} : Sum.elim (xSH C pr) so (.inl 13) = some (.inl (C 0, 12, false)) := rfl
theorem xS_20 {so : Nat → Option hS} : Sum.elim (xSH C pr) so (.inl 20) = some (.inr (.inr (3, x_bk 20))) := rfl
theorem xS_21 {so : Nat → Option hS} : Sum.elim (xSH C pr) so (.inl 21) = some (.inr (.inr (6, x_al 21))) := rfl
theorem xS_22 {so : Nat → Option hS} : Sum.elim (xSH C pr) so (.inl 22) = some (xLst C pr 21) := rfl
theorem xS_23 {so : Nat → Option hS} : Sum.elim (xSH C pr) so (.inl 23) = some (.inl (C 0, 2, false)) := rfl
theorem xs_st24 : xSt C (xSH C pr) 24 := ⟨rfl, rfl, rfl, rfl, rfl, rfl⟩
theorem xs_st30 : xSt C (xSH C pr) 30 := ⟨rfl, rfl, rfl, rfl, rfl, rfl⟩
theorem xs_below {i : Nat} (h : i < 7) : xSt C (xSH C pr) (100 + 6 * i) := by
  rcases (show i = 0 ∨ i = 1 ∨ i = 2 ∨ i = 3 ∨ i = 4 ∨ i = 5 ∨ i = 6 by omega) with rfl | rfl | rfl | rfl | rfl | rfl | rfl <;> exact ⟨rfl, rfl, rfl, rfl, rfl, rfl⟩
theorem xSH_dyn {r : Nat} (h : 50 ≤ r) : xSH C pr r = if 70 ≤ r ∧ r < 76 then (if r - 70 < pr 11 1 then some (xGv (pr r 0)) else none)
    else if 100 ≤ r ∧ r < 142 then xStS C (100 + (r - 100) / 6 * 6) ((r - 100) % 6)
    else if 1000 ≤ r ∧ r < 1000 + 6 * pr 9 2 ∧ r < 7000 then xStS C (1000 + (r - 1000) / 6 * 6) ((r - 1000) % 6)
    else if 10000 ≤ r ∧ r < 10000 + pr 9 0 then some (.inr (.inr (4, x_gf)))
    else none := by
  unfold xSH
  split <;> first | omega | rfl
theorem xs_states {k : Nat} (h : k < pr 9 2) (h2 : k < 1000) : xSt C (xSH C pr) (1000 + 6 * k) := by
  have key : ∀ j : Nat, j < 6 → xSH C pr (1000 + 6 * k + j) = xStS C (1000 + 6 * k) j := by
    intro j hj
    rw [xSH_dyn (by omega), if_neg (by omega), if_neg (by omega), if_pos (by omega)]
    rw [show (1000 + 6 * k + j - 1000) / 6 * 6 = 6 * k by omega, show (1000 + 6 * k + j - 1000) % 6 = j by omega]
  exact ⟨key 0 (by omega), key 1 (by omega), key 2 (by omega), key 3 (by omega), key 4 (by omega), key 5 (by omega)⟩
theorem xs_giver {r : Nat} (h : 70 ≤ r) (h1 : r < 76) (h2 : r - 70 < pr 11 1) : xSH C pr r = some (xGv (pr r 0)) := by
  rw [xSH_dyn (by omega), if_pos ⟨h, h1⟩, if_pos h2]
theorem xs_gift {r : Nat} (h : 10000 ≤ r) (h1 : r < 10000 + pr 9 0) : xSH C pr r = some (.inr (.inr (4, x_gf))) := by
  rw [xSH_dyn (by omega), if_neg (by omega), if_neg (by omega), if_neg (by omega), if_pos ⟨h, h1⟩]
end XS
def hbel (i : Int32) : Option Nat := if i < 0 ∨ 7 ≤ i.toNatClampNeg then none else some (100 + 6 * i.toNatClampNeg)
def hsts (pr : hPr) (i : Int32) : Option Nat := if i < 0 ∨ 1000 ≤ i.toNatClampNeg ∨ pr 9 2 ≤ i.toNatClampNeg then none else some (1000 + 6 * i.toNatClampNeg)
/-- people.get(i): the giver's role -/
def hgv (pr : hPr) (g : hSt) (i : Int32) : Option Nat := if i < 0 ∨ g 11 2 ≤ i ∨ pr 11 0 ≤ i.toNatClampNeg ∨ pr 11 1 ≤ i.toNatClampNeg ∨ 6 ≤ i.toNatClampNeg ∨ ¬ pr 11 (2 + i.toNatClampNeg) = 70 + i.toNatClampNeg ∨ 5 ≤ pr (70 + i.toNatClampNeg) 0 then none else some (70 + i.toNatClampNeg)
/-- gifts.get(i): the gift's role -/
def hgf (pr : hPr) (g : hSt) (i : Int32) : Option Nat := if i < 0 ∨ g 21 2 ≤ i ∨ pr 21 0 ≤ i.toNatClampNeg ∨ pr 21 1 ≤ i.toNatClampNeg ∨ pr 21 (2 + i.toNatClampNeg) < 10000 ∨ 10000 + pr 9 0 ≤ pr 21 (2 + i.toNatClampNeg) then none else some (pr 21 (2 + i.toNatClampNeg))
def hGv (C : Nat → Nat) (pr : hPr) (r : Nat) : Prop := xSH C pr r = some (xGv (pr r 0)) ∧ pr r 0 < 5
def hEx (k : Nat) : String := if k = 1 then "java/util/NoSuchElementException" else "java/lang/IllegalArgumentException"
