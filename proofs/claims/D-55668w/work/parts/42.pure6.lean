/-! PURE 6: the reader -/
set_option maxRecDepth 100000
def hr (T : Nat → Int32) (e p : Nat) : Int32 := if p < e then T p else -1
def say (T : Nat → Int32) (e : Nat) : List Nat → Nat → Nat × Bool
  | [], p => (p, false)
  | c :: cs, p => if hr T e p = nI c then say T e cs (p + 1) else (p, true)
/-- a blank and one or two digits: where it stops, is it wrong, the number -/
def numb (T : Nat → Int32) (e p : Nat) : Nat × Bool × Int32 :=
  if hr T e p = 32 then
    if inR (hr T e (p + 1)) 48 57 = true then
      if inR (hr T e (p + 2)) 48 57 = true then (p + 3, false, 10 * (hr T e (p + 1) - 48) + hr T e (p + 2) - 48) else (p + 2, false, hr T e (p + 1) - 48)
    else (p + 1, true, 0)
  else (p, true, 0)
def nums (T : Nat → Int32) (e : Nat) : Nat → Nat → Nat × Bool × List Int32
  | 0, p => (p, false, [])
  | n + 1, p => let r := numb T e p
    if r.2.1 = true then (r.1, true, []) else let q := nums T e n r.1; (q.1, q.2.1, r.2.2 :: q.2.2)
def sayN (T : Nat → Int32) (e : Nat) (w : List Nat) (n p : Nat) : Nat × Bool × List Int32 :=
  let r := say T e w p
  if r.2 = true then (r.1, true, []) else nums T e n r.1
/-- an order: where it stops, is it wrong, its letter, its numbers -/
abbrev Ord : Type := Int32 × List Int32
def ord1 (T : Nat → Int32) (e : Nat) (c : Int32) (t n p : Nat) : Nat × Bool × Ord := let r := sayN T e (ltr t) n p; (r.1, r.2.1, (c, r.2.2))
def ordr (T : Nat → Int32) (e p : Nat) : Nat × Bool × Ord :=
  if hr T e p = 115 then
    if hr T e (p + 1) = 116 then ord1 T e 107 5 1 p else if hr T e (p + 1) = 101 then ord1 T e 116 9 1 p else ord1 T e 115 2 3 p
  else if hr T e p = 104 then ord1 T e 104 3 2 p else if hr T e p = 108 then ord1 T e 108 4 1 p else if hr T e p = 109 then ord1 T e 109 6 3 p
  else if hr T e p = 114 then ord1 T e 114 8 0 p else if hr T e p = 100 then ord1 T e 100 10 2 p else if hr T e p = 102 then ord1 T e 102 11 1 p else (p, true, (0, []))
/-- all orders -/
def prs (T : Nat → Int32) (e : Nat) : Nat → Nat → Nat × Bool × List Ord
  | 0, p => (p, true, [])
  | m + 1, p => let r := ordr T e p
    if r.2.1 = true then (r.1, true, []) else if hr T e r.1 = 59 then let q := prs T e m (r.1 + 1); (q.1, q.2.1, r.2.2 :: q.2.2) else (r.1, false, [r.2.2])
def doA (s : SF) (c a b d : Int32) : Act :=
  if c = 115 then comesA s a b d else if c = 104 then setsA s a b else if c = 108 then goesA s a else if c = 107 then strikesA s a else if c = 109 then movesA s a b d
  else if c = 114 then roundsA s else if c = 116 then settlesA s a else if c = 100 then sendsA s a b else fetchesA s a
def doO (s : SF) (o : Ord) : Act := doA s o.1 (o.2.getD 0 0) (o.2.getD 1 0) (o.2.getD 2 0)
/-- the orders one by one: the row then, or what stopped it: which order, its act -/
def run (s : SF) : List Ord → Nat → SF × Option (Nat × Act)
  | [], _ => (s, none)
  | o :: os, i => if (doO s o).1 = 0 then run (doO s o).2.2 os (i + 1) else (s, some (i, doO s o))
theorem hr_lt {T : Nat → Int32} {e p c : Nat} (h : hr T e p = nI c) (hc : c < 128) : p < e := by
  unfold hr at h
  by_cases hp : p < e
  · exact hp
  · rw [if_neg hp] at h
    exact absurd h.symm (ne_m1 (by omega))
theorem say_le {T : Nat → Int32} {e : Nat} : ∀ (w : List Nat) (p : Nat), (∀ c, c ∈ w → c < 128) → p ≤ (say T e w p).1 ∧ (p ≤ e → (say T e w p).1 ≤ e) := by
  intro w
  induction w with
  | nil => intro p _; exact ⟨Nat.le_refl _, fun h => h⟩
  | cons c cs ih =>
    intro p hw
    rw [say]
    split
    · rename_i hc
      obtain ⟨h1, h2⟩ := ih (p + 1) (fun c h => hw c (List.mem_cons_of_mem _ h))
      have := hr_lt hc (hw c List.mem_cons_self)
      exact ⟨by omega, fun h => h2 (by omega)⟩
    · exact ⟨Nat.le_refl _, fun h => h⟩
theorem say_first {T : Nat → Int32} {e : Nat} {c : Nat} {cs : List Nat} {p : Nat} (hw : ∀ d, d ∈ c :: cs → d < 128) (h : (say T e (c :: cs) p).2 = false) : p + 1 ≤ (say T e (c :: cs) p).1 := by
  rw [say] at h ⊢
  split at h
  · rename_i hc
    rw [if_pos hc]
    exact (say_le cs (p + 1) (fun d hd => hw d (List.mem_cons_of_mem _ hd))).1
  · cases h
theorem dig_lt {T : Nat → Int32} {e p : Nat} (h : inR (hr T e p) 48 57 = true) : p < e := by
  unfold hr at h
  by_cases hp : p < e
  · exact hp
  · rw [if_neg hp] at h
    cases h
theorem numb_le {T : Nat → Int32} {e p : Nat} : p ≤ (numb T e p).1 ∧ (p ≤ e → (numb T e p).1 ≤ e) := by
  unfold numb
  split
  · rename_i h1
    have := hr_lt (c := 32) h1 (by decide)
    split
    · rename_i h2
      have := dig_lt h2
      split
      · rename_i h3
        have := dig_lt h3
        exact ⟨by show p ≤ p + 3; omega, fun _ => by show p + 3 ≤ e; omega⟩
      · exact ⟨by show p ≤ p + 2; omega, fun _ => by show p + 2 ≤ e; omega⟩
    · exact ⟨by show p ≤ p + 1; omega, fun _ => by show p + 1 ≤ e; omega⟩
  · exact ⟨Nat.le_refl _, fun h => h⟩
theorem nums_le {T : Nat → Int32} {e : Nat} : ∀ (n p : Nat), p ≤ (nums T e n p).1 ∧ (p ≤ e → (nums T e n p).1 ≤ e) := by
  intro n
  induction n with
  | zero => intro p; exact ⟨Nat.le_refl _, fun h => h⟩
  | succ n ih =>
    intro p
    obtain ⟨h1, h2⟩ := numb_le (T := T) (e := e) (p := p)
    rw [nums]
    dsimp only
    split
    · exact ⟨h1, h2⟩
    · obtain ⟨h3, h4⟩ := ih (numb T e p).1
      exact ⟨by show p ≤ (nums T e n (numb T e p).1).1; omega, fun h => h4 (h2 h)⟩
theorem nums_len {T : Nat → Int32} {e : Nat} : ∀ (n p : Nat), (nums T e n p).2.1 = false → (nums T e n p).2.2.length = n := by
  intro n
  induction n with
  | zero => intro p _; rfl
  | succ n ih =>
    intro p h
    rw [nums] at h ⊢
    dsimp only at h ⊢
    split at h
    · cases h
    · rename_i hq
      rw [if_neg hq]
      show ((numb T e p).2.2 :: (nums T e n (numb T e p).1).2.2).length = n + 1
      rw [List.length_cons, ih _ h]
theorem sayN_le {T : Nat → Int32} {e : Nat} {w : List Nat} {n p : Nat} (hw : ∀ c, c ∈ w → c < 128) : p ≤ (sayN T e w n p).1 ∧ (p ≤ e → (sayN T e w n p).1 ≤ e) := by
  obtain ⟨h1, h2⟩ := say_le (T := T) (e := e) w p hw
  unfold sayN
  dsimp only
  split
  · exact ⟨h1, h2⟩
  · obtain ⟨h3, h4⟩ := nums_le (T := T) (e := e) n (say T e w p).1
    exact ⟨by omega, fun h => h4 (h2 h)⟩
theorem sayN_lt {T : Nat → Int32} {e : Nat} {c : Nat} {cs : List Nat} {n p : Nat} (hw : ∀ d, d ∈ c :: cs → d < 128) (h : (sayN T e (c :: cs) n p).2.1 = false) : p + 1 ≤ (sayN T e (c :: cs) n p).1 ∧ (sayN T e (c :: cs) n p).2.2.length = n := by
  unfold sayN at h ⊢
  dsimp only at h ⊢
  split at h
  · cases h
  · rename_i hq
    rw [if_neg hq]
    have h1 := say_first hw (T := T) (e := e) (p := p) (by simpa using hq)
    obtain ⟨h3, h4⟩ := nums_le (T := T) (e := e) n (say T e (c :: cs) p).1
    exact ⟨by omega, nums_len _ _ h⟩
def nArg (c : Int32) : Nat := if c = 115 then 3 else if c = 109 then 3 else if c = 104 then 2 else if c = 100 then 2 else if c = 114 then 0 else 1
def okO (o : Ord) : Prop := o.2.length = nArg o.1
theorem ltr_cons : ∀ t, t < 12 → 2 ≤ t → ∃ c cs, ltr t = c :: cs := by
  have h : ∀ t, t < 12 → 2 ≤ t → (ltr t).isEmpty = false := by decide +kernel
  intro t h1 h2
  have := h t h1 h2
  cases hl : ltr t with
  | nil => rw [hl] at this; cases this
  | cons c cs => exact ⟨c, cs, rfl⟩
theorem ltr_asc : ∀ t, t < 14 → ∀ c, c ∈ ltr t → c < 128 := by
  have : ∀ t, t < 14 → (ltr t).all (fun c => decide (c < 128)) = true := by decide +kernel
  intro t ht c hc
  exact of_decide_eq_true (List.all_eq_true.mp (this t ht) c hc)
theorem ord1_ok {T : Nat → Int32} {e : Nat} {c : Int32} {t n p : Nat} (ht : t < 12) (h2 : 2 ≤ t) (hn : n = nArg c) : p ≤ (ord1 T e c t n p).1 ∧ (p ≤ e → (ord1 T e c t n p).1 ≤ e) ∧ ((ord1 T e c t n p).2.1 = false → p + 1 ≤ (ord1 T e c t n p).1 ∧ okO (ord1 T e c t n p).2.2) := by
  have ha := ltr_asc t (by omega)
  obtain ⟨a, as, hl⟩ := ltr_cons t ht h2
  obtain ⟨h3, h4⟩ := sayN_le (T := T) (e := e) (n := n) (p := p) ha
  refine ⟨h3, h4, fun h => ?_⟩
  unfold ord1 at h ⊢
  dsimp only at h ⊢
  rw [hl] at ha h ⊢
  obtain ⟨h5, h6⟩ := sayN_lt ha h
  exact ⟨h5, h6.trans hn⟩
theorem ordr_ok {T : Nat → Int32} {e p : Nat} : p ≤ (ordr T e p).1 ∧ (p ≤ e → (ordr T e p).1 ≤ e) ∧ ((ordr T e p).2.1 = false → p + 1 ≤ (ordr T e p).1 ∧ okO (ordr T e p).2.2) := by
  unfold ordr
  split
  · split
    · exact ord1_ok (by decide) (by decide) (by decide)
    · split
      · exact ord1_ok (by decide) (by decide) (by decide)
      · exact ord1_ok (by decide) (by decide) (by decide)
  · split
    · exact ord1_ok (by decide) (by decide) (by decide)
    · split
      · exact ord1_ok (by decide) (by decide) (by decide)
      · split
        · exact ord1_ok (by decide) (by decide) (by decide)
        · split
          · exact ord1_ok (by decide) (by decide) (by decide)
          · split
            · exact ord1_ok (by decide) (by decide) (by decide)
            · split
              · exact ord1_ok (by decide) (by decide) (by decide)
              · exact ⟨Nat.le_refl _, fun h => h, fun h => by cases h⟩
