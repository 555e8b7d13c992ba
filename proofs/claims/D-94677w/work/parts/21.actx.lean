/-! WALKS THAT MAKE CELLS: the ghost table's changes, what stays under them. -/
set_option maxRecDepth 100000
/-- a State more in states -/
def prN (pr : hPr) : hPr := fun a b => if a = 9 ∧ b = 2 then pr 9 2 + 1 else pr a b
/-- a gift more in the book's list -/
def prG (pr : hPr) : hPr := fun a b => if a = 9 ∧ b = 0 then pr 9 0 + 1 else if a = 21 ∧ b = 0 then (if pr 21 1 < pr 21 0 then pr 21 0 else pr 21 0 + max 1 (pr 21 0 / 2)) else if a = 21 ∧ b = 1 then pr 21 1 + 1 else if a = 21 ∧ b = 2 + pr 21 1 then 10000 + pr 9 0 else pr a b
/-- the last gift taken off -/
def prD (pr : hPr) : hPr := fun a b => if a = 21 ∧ b = 1 then pr 21 1 - 1 else pr a b
section XL
variable {C : Nat → Nat} {pr pr' : hPr}
theorem xSH_low (h91 : pr' 9 1 = pr 9 1) (h11 : ∀ k, pr' 11 k = pr 11 k) (h41 : ∀ k, pr' 41 k = pr 41 k) {q : Nat} (hq : q < 50) (h5 : q ≠ 5) (h22 : q ≠ 22) : xSH C pr' q = xSH C pr q := by
  have e11 : xLst C pr' 11 = xLst C pr 11 := by unfold xLst; simp only [h11]
  have e41 : xLst C pr' 41 = xLst C pr 41 := by unfold xLst; simp only [h41]
  have key : q = 0 ∨ q = 1 ∨ q = 2 ∨ q = 3 ∨ q = 4 ∨ q = 6 ∨ q = 7 ∨ q = 8 ∨ q = 9 ∨ q = 10 ∨ q = 11 ∨ q = 12 ∨ q = 13 ∨ (14 ≤ q ∧ q < 20) ∨ q = 20 ∨ q = 21 ∨ q = 23 ∨ q = 24 ∨ q = 25 ∨ q = 26 ∨ q = 27 ∨ q = 28 ∨ q = 29 ∨ q = 30 ∨ q = 31 ∨ q = 32 ∨ q = 33 ∨ q = 34 ∨ q = 35 ∨ (36 ≤ q ∧ q < 40) ∨ q = 40 ∨ q = 41 ∨ q = 42 ∨ q = 43 ∨ q = 44 ∨ q = 45 ∨ q = 46 ∨ q = 47 ∨ q = 48 ∨ q = 49 := by omega
  rcases key with rfl | rfl | rfl | rfl | rfl | rfl | rfl | rfl | rfl | rfl | rfl | rfl | rfl | h | rfl | rfl | rfl | rfl | rfl | rfl | rfl | rfl | rfl | rfl | rfl | rfl | rfl | rfl | rfl | h | rfl | rfl | rfl | rfl | rfl | rfl | rfl | rfl | rfl | rfl
  case inr.inr.inr.inr.inr.inr.inr.inr.inr.inr.inr.inr.inr.inl =>
    have : q = 14 ∨ q = 15 ∨ q = 16 ∨ q = 17 ∨ q = 18 ∨ q = 19 := by omega
    rcases this with rfl | rfl | rfl | rfl | rfl | rfl <;> rfl
  case inr.inr.inr.inr.inr.inr.inr.inr.inr.inr.inr.inr.inr.inr.inr.inr.inr.inr.inr.inr.inr.inr.inr.inr.inr.inr.inr.inr.inr.inl =>
    have : q = 36 ∨ q = 37 ∨ q = 38 ∨ q = 39 := by omega
    rcases this with rfl | rfl | rfl | rfl <;> rfl
  all_goals first
    | rfl
    | (simp only [xSH, x_hg, xTn, xBk, h91, e11, e41])
end XL
/-- what a change of the table leaves as it was -/
def hMon (C : Nat → Nat) (pr0 pr : hPr) : Prop := (∀ r, xSH C pr0 r ≠ none → xSH C pr r ≠ none) ∧ (∀ r, 24 ≤ r → xSH C pr0 r ≠ none → xSH C pr r = xSH C pr0 r) ∧ ∀ r, 70 ≤ r → r < 76 → pr r 0 = pr0 r 0
theorem hMon.refl {C : Nat → Nat} {pr : hPr} : hMon C pr pr := ⟨fun _ h => h, fun _ _ _ => rfl, fun _ _ _ => rfl⟩
theorem hMon.trans {C : Nat → Nat} {p1 p2 p3 : hPr} (h : hMon C p1 p2) (h' : hMon C p2 p3) : hMon C p1 p3 :=
  ⟨fun r hr => h'.1 r (h.1 r hr), fun r h24 hr => (h'.2.1 r h24 (h.1 r hr)).trans (h.2.1 r h24 hr), fun r a b => (h'.2.2 r a b).trans (h.2.2 r a b)⟩
theorem xSH_high {C : Nat → Nat} {pr pr' : hPr} (h11 : pr' 11 1 = pr 11 1) (hk : ∀ r, 70 ≤ r → r < 76 → pr' r 0 = pr r 0) (h92 : pr 9 2 ≤ pr' 9 2) (h90 : pr 9 0 ≤ pr' 9 0) {r : Nat} (hr : 50 ≤ r) (h : xSH C pr r ≠ none) : xSH C pr' r = xSH C pr r := by
  rw [xSH_dyn hr] at h ⊢
  rw [xSH_dyn hr]
  by_cases c1 : 70 ≤ r ∧ r < 76
  · rw [if_pos c1, if_pos c1, h11, hk r c1.1 c1.2]
  · rw [if_neg c1, if_neg c1]
    rw [if_neg c1] at h
    by_cases c2 : 100 ≤ r ∧ r < 142
    · rw [if_pos c2, if_pos c2]
    · rw [if_neg c2, if_neg c2]
      rw [if_neg c2] at h
      by_cases c3 : 1000 ≤ r ∧ r < 1000 + 6 * pr 9 2 ∧ r < 7000
      · rw [if_pos c3, if_pos ⟨c3.1, by omega, c3.2.2⟩]
      · rw [if_neg c3] at h
        by_cases c4 : 10000 ≤ r ∧ r < 10000 + pr 9 0
        · rw [if_neg c3, if_pos c4, if_neg (by omega), if_pos ⟨c4.1, by omega⟩]
        · rw [if_neg c4] at h; exact absurd rfl h
theorem hMon_of {C : Nat → Nat} {pr pr' : hPr} (h91 : pr' 9 1 = pr 9 1) (h11 : ∀ k, pr' 11 k = pr 11 k) (h41 : ∀ k, pr' 41 k = pr 41 k) (hk : ∀ r, 70 ≤ r → r < 76 → pr' r 0 = pr r 0) (h92 : pr 9 2 ≤ pr' 9 2) (h90 : pr 9 0 ≤ pr' 9 0) : hMon C pr pr' := by
  have key : ∀ r, r ≠ 5 → r ≠ 22 → xSH C pr r ≠ none → xSH C pr' r = xSH C pr r := fun r h5 h22 hr => by
    by_cases h : r < 50
    · exact xSH_low h91 h11 h41 h h5 h22
    · exact xSH_high (h11 1) hk h92 h90 (by omega) hr
  refine ⟨fun r hr => ?_, fun r h24 hr => key r (by omega) (by omega) hr, hk⟩
  by_cases h5 : r = 5
  · rw [h5]; exact fun z => by cases z
  · by_cases h22 : r = 22
    · rw [h22]; exact fun z => by cases z
    · rw [key r h5 h22 hr]; exact hr
theorem hMon_prN {C : Nat → Nat} {pr : hPr} : hMon C pr (prN pr) := hMon_of (by simp [prN]) (by simp [prN]) (by simp [prN]) (fun r _ _ => by simp [prN]) (by simp [prN]) (by simp [prN])
theorem hMon_prG {C : Nat → Nat} {pr : hPr} : hMon C pr (prG pr) := hMon_of (by simp [prG]) (by simp [prG]) (by simp [prG]) (fun r h1 h2 => by unfold prG; rw [if_neg (by omega), if_neg (by omega), if_neg (by omega), if_neg (by omega)]) (by simp [prG]) (by simp [prG])
theorem hMon_prD {C : Nat → Nat} {pr : hPr} : hMon C pr (prD pr) := hMon_of (by simp [prD]) (by simp [prD]) (by simp [prD]) (fun r h1 h2 => by unfold prD; rw [if_neg (by omega)]) (by simp [prD]) (by simp [prD])
def hExt (C : Nat → Nat) (so : Nat → Option hS) (pr0 : hPr) (ad0 : Rl → Nat) (pr : hPr) (ad : Rl → Nat) : Prop := (∀ q, Sum.elim (xSH C pr0) so q ≠ none → q ≠ .inl 22 → ad q = ad0 q) ∧ hMon C pr0 pr
theorem hExt.refl {C : Nat → Nat} {so : Nat → Option hS} {pr : hPr} {ad : Rl → Nat} : hExt C so pr ad pr ad := ⟨fun _ _ _ => rfl, hMon.refl⟩
theorem hExt.trans {C : Nat → Nat} {so : Nat → Option hS} {p1 p2 p3 : hPr} {a1 a2 a3 : Rl → Nat} (h : hExt C so p1 a1 p2 a2) (h' : hExt C so p2 a2 p3 a3) : hExt C so p1 a1 p3 a3 :=
  ⟨fun q hq h22 => (h'.1 q (by
      cases q with
      | inl r => exact h.2.1 r hq
      | inr r => exact hq) h22).trans (h.1 q hq h22), h.2.trans h'.2⟩
theorem xSt.ge {C : Nat → Nat} {pr : hPr} {b : Nat} (h : xSt C (xSH C pr) b) : 24 ≤ b := by
  by_cases hb : 24 ≤ b
  · exact hb
  · have h1 := h.o
    have key : b = 0 ∨ b = 1 ∨ b = 2 ∨ b = 3 ∨ b = 4 ∨ b = 5 ∨ b = 6 ∨ b = 7 ∨ b = 8 ∨ b = 9 ∨ b = 10 ∨ b = 11 ∨ b = 12 ∨ b = 13 ∨ b = 14 ∨ b = 15 ∨ b = 16 ∨ b = 17 ∨ b = 18 ∨ b = 19 ∨ b = 20 ∨ b = 21 ∨ b = 22 ∨ b = 23 := by omega
    rcases key with rfl | rfl | rfl | rfl | rfl | rfl | rfl | rfl | rfl | rfl | rfl | rfl | rfl | rfl | rfl | rfl | rfl | rfl | rfl | rfl | rfl | rfl | rfl | rfl <;> simp [xSH, xTn, xBk, xLst] at h1
theorem xSt.mono {C : Nat → Nat} {pr pr' : hPr} {b : Nat} (h : xSt C (xSH C pr) b) (hm : hMon C pr pr') : xSt C (xSH C pr') b := by
  have g := h.ge
  have k : ∀ (j : Nat) (y : hS), xSH C pr (b + j) = some y → xSH C pr' (b + j) = some y := fun j y e => (hm.2.1 _ (by omega) (by rw [e]; exact fun z => by cases z)).trans e
  exact ⟨k 0 _ h.o, k 1 _ h.a1, k 2 _ h.a2, k 3 _ h.a3, k 4 _ h.a4, k 5 _ h.a5⟩
theorem hGv.mono {C : Nat → Nat} {pr pr' : hPr} {r : Nat} (h : hGv C pr r) (hm : hMon C pr pr') (h70 : 70 ≤ r) (h76 : r < 76) : hGv C pr' r :=
  ⟨by rw [hm.2.1 r (by omega) (by rw [h.1]; exact fun z => by cases z), h.1, hm.2.2 r h70 h76], by rw [hm.2.2 r h70 h76]; exact h.2⟩
theorem xSH_none {C : Nat → Nat} {pr : hPr} {r : Nat} (h : 1000 + 6 * pr 9 2 ≤ r) (h2 : r < 10000) : xSH C pr r = none := by
  rw [xSH_dyn (by omega), if_neg (by omega), if_neg (by omega), if_neg (by omega), if_neg (by omega)]
theorem xSH_noneG {C : Nat → Nat} {pr : hPr} {r : Nat} (h : 10000 + pr 9 0 ≤ r) : xSH C pr r = none := by
  rw [xSH_dyn (by omega), if_neg (by omega), if_neg (by omega), if_neg (by omega), if_neg (by omega)]
/-- the new State stored in states -/
theorem sh_prN {C : Nat → Nat} {so : Nat → Option hS} {pr : hPr} (h : pr 9 2 < 1000) :
    shU (shSt C (1000 + 6 * pr 9 2) (shU (Sum.elim (xSH C pr) so) (.inl (1000 + 6 * pr 9 2)) (.inr (.inr (1, stx0))))) (.inl 5) (.inr (.inl (C 5, 1000, fun j => if j = pr 9 2 then some (.inl (.inl (1000 + 6 * pr 9 2))) else if j < pr 9 2 then some (.inl (.inl (1000 + 6 * j))) else none))) = Sum.elim (xSH C (prN pr)) so := by
  funext r
  cases r with
  | inr q => simp only [shU, shSt, if_neg (inl_ner.symm : (Sum.inr q : Rl) ≠ .inl _)]; rfl
  | inl q =>
    by_cases h5 : q = 5
    · subst h5
      rw [shU_s]
      show _ = xSH C (prN pr) 5
      rw [xs_5]
      have e : (fun j => if j = pr 9 2 then some (Sum.inl (Sum.inl (1000 + 6 * pr 9 2)) : Rl ⊕ Nat) else if j < pr 9 2 then some (.inl (.inl (1000 + 6 * j))) else none) = fun i => if i < (prN pr) 9 2 then some (.inl (.inl (1000 + 6 * i))) else none := by
        funext j
        have : (prN pr) 9 2 = pr 9 2 + 1 := by simp [prN]
        rw [this]
        by_cases e1 : j = pr 9 2
        · rw [if_pos e1, if_pos (by omega), e1]
        · rw [if_neg e1]
          by_cases e2 : j < pr 9 2
          · rw [if_pos e2, if_pos (by omega)]
          · rw [if_neg e2, if_neg (by omega)]
      rw [e]
    · rw [shU_n rfl (inl_ne h5)]
      show shSt C (1000 + 6 * pr 9 2) _ (.inl q) = xSH C (prN pr) q
      have e92 : (prN pr) 9 2 = pr 9 2 + 1 := by simp [prN]
      by_cases hb : 1000 + 6 * pr 9 2 ≤ q ∧ q < 1000 + 6 * pr 9 2 + 6
      · have : shSt C (1000 + 6 * pr 9 2) (shU (Sum.elim (xSH C pr) so) (.inl (1000 + 6 * pr 9 2)) (.inr (.inr (1, stx0)))) (.inl q) = xStS C (1000 + 6 * pr 9 2) (q - (1000 + 6 * pr 9 2)) := if_pos hb
        rw [this, xSH_dyn (by omega), if_neg (by omega), if_neg (by omega), if_pos (by rw [e92]; omega)]
        rw [show 1000 + (q - 1000) / 6 * 6 = 1000 + 6 * pr 9 2 by omega, show (q - 1000) % 6 = q - (1000 + 6 * pr 9 2) by omega]
      · rw [shSt_n (shU_n rfl (inl_ne (by omega))) hb]
        show xSH C pr q = _
        by_cases hq : q < 50
        · by_cases h22 : q = 22
          · subst h22; rfl
          · exact (xSH_low (by simp [prN]) (by simp [prN]) (by simp [prN]) hq h5 h22).symm
        · rw [xSH_dyn (by omega), xSH_dyn (by omega), e92, show (prN pr) 11 1 = pr 11 1 by simp [prN], show (prN pr) 9 0 = pr 9 0 by simp [prN], show (prN pr) q 0 = pr q 0 by simp [prN]]
          by_cases c3 : 1000 ≤ q ∧ q < 1000 + 6 * pr 9 2 ∧ q < 7000
          · rw [if_pos c3, if_pos (show 1000 ≤ q ∧ q < 1000 + 6 * (pr 9 2 + 1) ∧ q < 7000 by omega)]
          · rw [if_neg c3, if_neg (show ¬ (1000 ≤ q ∧ q < 1000 + 6 * (pr 9 2 + 1) ∧ q < 7000) by omega)]
/-- the other side's cells refer to none of this side's -/
def hSo (so : Nat → Option hS) : Prop := ∀ r x, so r = some x → ∀ q, ¬ hMem (.inl q) x
/-- the lists hold what lists hold -/
abbrev hWl (pr : hPr) : Prop := (∀ i, i < pr 11 1 → 70 ≤ pr 11 (2 + i)) ∧ (∀ i, i < pr 21 1 → 10000 ≤ pr 21 (2 + i) ∧ pr 21 (2 + i) < 10000 + pr 9 0) ∧ ∀ i, i < pr 41 1 → 10000 ≤ pr 41 (2 + i)
theorem xStS_mem {C : Nat → Nat} {b j : Nat} {x : hS} (h : xStS C b j = some x) {q : Rl} (hm : hMem q x) : ∃ k, q = .inl k ∧ b < k ∧ k < b + 6 := by
  unfold xStS at h
  split at h <;> cases h <;> first
    | exact hm.elim
    | skip
  simp only [hMem, x_st, List.mem_cons, Option.some.injEq, Sum.inl.injEq, List.not_mem_nil, or_false] at hm
  rcases hm with h | h | h | h | h | h
  · exact ⟨_, h, by omega, by omega⟩
  · exact ⟨_, h, by omega, by omega⟩
  · exact ⟨_, h, by omega, by omega⟩
  · exact ⟨_, h, by omega, by omega⟩
  · exact ⟨_, h, by omega, by omega⟩
  · cases h
theorem xLst_mem {C : Nat → Nat} {pr : hPr} {b : Nat} {q : Rl} (hm : hMem q (xLst C pr b)) : ∃ i, i < pr b 1 ∧ q = .inl (pr b (2 + i)) := by
  obtain ⟨i, hi⟩ := hm
  replace hi : (if i < pr b 1 then some (.inl (.inl (pr b (2 + i)))) else none : Option (Rl ⊕ Nat)) = some (.inl q) := hi
  by_cases h : i < pr b 1
  · rw [if_pos h] at hi
    exact ⟨i, h, (Sum.inl.inj (Option.some.inj hi)).symm⟩
  · rw [if_neg h] at hi; cases hi
theorem xSH_sole {C : Nat → Nat} {pr : hPr} (hw : hWl pr) {r : Nat} {x : hS} (h : xSH C pr r = some x) (hm : hMem (.inl 22) x) : r = 21 := by
  by_cases hr : r < 50
  · have key : r = 0 ∨ r = 1 ∨ r = 2 ∨ r = 3 ∨ r = 4 ∨ r = 5 ∨ r = 6 ∨ r = 7 ∨ r = 8 ∨ r = 9 ∨ r = 10 ∨ r = 11 ∨ r = 12 ∨ r = 13 ∨ (14 ≤ r ∧ r < 20) ∨ r = 20 ∨ r = 21 ∨ r = 22 ∨ r = 23 ∨ (24 ≤ r ∧ r < 30) ∨ (30 ≤ r ∧ r < 36) ∨ (36 ≤ r ∧ r < 40) ∨ r = 40 ∨ r = 41 ∨ r = 42 ∨ r = 43 ∨ (44 ≤ r ∧ r < 50) := by omega
    rcases key with rfl | rfl | rfl | rfl | rfl | rfl | rfl | rfl | rfl | rfl | rfl | rfl | rfl | rfl | h1 | rfl | rfl | rfl | rfl | h1 | h1 | h1 | rfl | rfl | rfl | rfl | h1
    · cases h; by_cases h9 : pr 9 1 = 0 <;> simp [hMem, x_hg, h9] at hm
    · cases h; exact hm.elim
    · cases h
      obtain ⟨i, hi⟩ := hm
      simp only at hi
      split at hi
      · have := Sum.inl.inj (Sum.inl.inj (Option.some.inj hi)); omega
      · cases hi
    · cases h; exact hm.elim
    · cases h; exact hm.elim
    · cases h
      obtain ⟨i, hi⟩ := hm
      simp only at hi
      split at hi
      · have := Sum.inl.inj (Sum.inl.inj (Option.some.inj hi)); omega
      · cases hi
    · cases h; exact hm.elim
    · cases h; exact hm.elim
    · cases h; exact hm.elim
    · cases h
    · cases h; simp [hMem, x_tn] at hm
    · cases h; simp [hMem, x_al] at hm
    · cases h
      obtain ⟨i, h1, h2⟩ := xLst_mem hm
      have := hw.1 i h1
      have h9 : (22 : Nat) = pr 11 (2 + i) := Sum.inl.inj h2
      omega
    · cases h; exact hm.elim
    · have : r = 14 ∨ r = 15 ∨ r = 16 ∨ r = 17 ∨ r = 18 ∨ r = 19 := by omega
      rcases this with rfl | rfl | rfl | rfl | rfl | rfl <;> cases h
    · cases h; simp [hMem, x_bk] at hm
    · rfl
    · cases h
      obtain ⟨i, h1, h2⟩ := xLst_mem hm
      have := (hw.2.1 i h1).1
      have h9 : (22 : Nat) = pr 21 (2 + i) := Sum.inl.inj h2
      omega
    · cases h; exact hm.elim
    · have h2 : xStS C 24 (r - 24) = some x := by
        have : r = 24 ∨ r = 25 ∨ r = 26 ∨ r = 27 ∨ r = 28 ∨ r = 29 := by omega
        rcases this with rfl | rfl | rfl | rfl | rfl | rfl <;> exact h
      obtain ⟨k, e, h3, h4⟩ := xStS_mem h2 hm
      have := Sum.inl.inj e; omega
    · have h2 : xStS C 30 (r - 30) = some x := by
        have : r = 30 ∨ r = 31 ∨ r = 32 ∨ r = 33 ∨ r = 34 ∨ r = 35 := by omega
        rcases this with rfl | rfl | rfl | rfl | rfl | rfl <;> exact h
      obtain ⟨k, e, h3, h4⟩ := xStS_mem h2 hm
      have := Sum.inl.inj e; omega
    · have : r = 36 ∨ r = 37 ∨ r = 38 ∨ r = 39 := by omega
      rcases this with rfl | rfl | rfl | rfl <;> cases h
    · replace h : (if pr 9 1 = 0 then none else xBk C pr 40 0) = some x := h
      split at h <;> cases h; simp [hMem, x_bk] at hm
    · replace h : (if pr 9 1 = 0 then none else xBk C pr 40 1) = some x := h
      split at h <;> cases h; simp [hMem, x_al] at hm
    · replace h : (if pr 9 1 = 0 then none else xBk C pr 40 2) = some x := h
      split at h <;> cases h
      obtain ⟨i, h1, h2⟩ := xLst_mem hm
      have := hw.2.2 i h1
      have h9 : (22 : Nat) = pr 41 (2 + i) := Sum.inl.inj h2
      omega
    · replace h : (if pr 9 1 = 0 then none else xBk C pr 40 3) = some x := h
      split at h <;> cases h; exact hm.elim
    · have h2 : xStS C 44 (r - 44) = some x := by
        have : r = 44 ∨ r = 45 ∨ r = 46 ∨ r = 47 ∨ r = 48 ∨ r = 49 := by omega
        by_cases h9 : pr 9 1 = 0
        · rcases this with rfl | rfl | rfl | rfl | rfl | rfl <;> simp [xSH, h9] at h
        · rcases this with rfl | rfl | rfl | rfl | rfl | rfl <;> simpa [xSH, h9, xBk] using h
      obtain ⟨k, e, h3, h4⟩ := xStS_mem h2 hm
      have := Sum.inl.inj e; omega
  · rw [xSH_dyn (by omega)] at h
    split at h
    · split at h
      · cases h
        unfold xGv at hm
        split at hm <;> simp [hMem] at hm
      · cases h
    · split at h
      · obtain ⟨k, e, h3, h4⟩ := xStS_mem h hm
        have := Sum.inl.inj e; omega
      · split at h
        · obtain ⟨k, e, h3, h4⟩ := xStS_mem h hm
          have := Sum.inl.inj e; omega
        · split at h
          · cases h; simp [hMem, x_gf] at hm
          · cases h
