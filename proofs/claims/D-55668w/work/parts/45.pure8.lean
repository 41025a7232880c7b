/-! PURE 8: acts keep the row; what a reader sees -/
set_option maxRecDepth 100000
theorem comesA_WF {s : SF} (h : WF s) {x y w : Int32} : WF (comesA s x y w).2.2 := by
  unfold comesA
  split
  · rename_i hc
    split
    · exact h
    · rename_i hn; exact comesS_WF h hc.1 hc.2.1 hc.2.2 hn
  · exact h
theorem setsA_WF {s : SF} (h : WF s) {x y : Int32} : WF (setsA s x y).2.2 := by
  unfold setsA
  split
  · rename_i hc
    split
    · exact h
    · split
      · exact h
      · rename_i hn; exact setsS_WF h hc.1 hc.2 hn
  · exact h
theorem goesA_WF {s : SF} (h : WF s) {u : Int32} : WF (goesA s u).2.2 := by
  unfold goesA
  split
  · rename_i hc
    have h18 := h.1.2.1
    obtain ⟨i, hi, rfl⟩ := (isIx_iff (by omega)).mp hc
    rw [oN_nI (by omega)]
    exact goesS_WF h hi
  · exact h
theorem strikesA_WF {s : SF} (h : WF s) {u : Int32} : WF (strikesA s u).2.2 := by
  unfold strikesA
  split
  · rename_i hc
    have h6 := h.1.2.2.2
    obtain ⟨i, hi, rfl⟩ := (isIx_iff (by omega)).mp hc
    rw [oN_nI (by omega)]
    exact strikesS_WF h hi
  · exact h
theorem movesA_WF {s : SF} (h : WF s) {u x y : Int32} : WF (movesA s u x y).2.2 := by
  unfold movesA
  split
  · rename_i hc
    have h6 := h.1.2.2.2
    obtain ⟨i, hi, rfl⟩ := (isIx_iff (by omega)).mp hc
    split
    · rename_i hp
      split
      · exact h
      · show WF (upd (upd s (81 + oN (nI i)) x) (87 + oN (nI i)) y)
        rw [oN_nI (by omega)]
        exact movesS_WF h hp.1 hp.2 hi
    · exact h
  · exact h
theorem weighsA_WF {s : SF} (h : WF s) {u w : Int32} : WF (weighsA s u w).2.2 := by
  unfold weighsA
  split
  · rename_i hc
    have h18 := h.1.2.1
    obtain ⟨i, hi, rfl⟩ := (isIx_iff (by omega)).mp hc
    split
    · rename_i hp
      split
      · exact h
      · show WF (upd s (45 + oN (nI i)) w)
        rw [oN_nI (by omega)]
        exact weighsS_WF h hp hi
    · exact h
  · exact h
theorem roundsA_WF {s : SF} (h : WF s) : WF (roundsA s).2.2 := by
  unfold roundsA
  split
  · exact h
  · exact ground_WF h
theorem settlesA_WF {s : SF} (h : WF s) {u : Int32} : WF (settlesA s u).2.2 := by
  unfold settlesA
  split
  · split
    · exact h
    · split
      · exact h
      · exact rnds_WF h _
  · exact h
theorem dog3 {u : Int32} (h : inR u 0 2 = true) : ∃ d : Nat, d < 3 ∧ u = nI d := by
  obtain ⟨h1, h2⟩ := (inR_iff u 0 2).mp h
  obtain ⟨a, ha, rfl⟩ := nI_of2 (M := 2) (n := 2) (by decide) (Int32.not_lt.mpr h1) h2
  exact ⟨a, by omega, rfl⟩
theorem sendsA_WF {s : SF} (h : WF s) {u j : Int32} : WF (sendsA s u j).2.2 := by
  unfold sendsA
  split
  · rename_i hc
    obtain ⟨d, hd, rfl⟩ := dog3 hc.1
    split
    · exact h
    · show WF (upd s (6 + oN (nI d)) j)
      rw [oN_nI (by omega)]
      refine sendsS_WF h hd ?_
      rcases hc.2 with q | q
      · have h6 := h.1.2.2.2
        exact Or.inr ((isIx_iff (by omega)).mp q)
      · exact Or.inl q
  · exact h
theorem fetchesA_WF {s : SF} (h : WF s) {u : Int32} : WF (fetchesA s u).2.2 := by
  unfold fetchesA
  split
  · split
    · exact h
    · split
      · exact h
      · rename_i k hk
        exact fetchS_WF h (fch_lt hk)
  · exact h
theorem doA_WF {s : SF} (h : WF s) {c a b d : Int32} : WF (doA s c a b d).2.2 := by
  unfold doA
  split
  · exact comesA_WF h
  split
  · exact setsA_WF h
  split
  · exact goesA_WF h
  split
  · exact strikesA_WF h
  split
  · exact movesA_WF h
  split
  · exact roundsA_WF h
  split
  · exact settlesA_WF h
  split
  · exact sendsA_WF h
  · exact fetchesA_WF h
/-! the reader looks at the first e letters alone -/
section CONG
variable {T T' : Nat → Int32} {e : Nat}
theorem hr_c (h : ∀ i, i < e → T i = T' i) (p : Nat) : hr T e p = hr T' e p := by
  unfold hr
  split
  · rename_i hp; exact h p hp
  · rfl
theorem say_c (h : ∀ p, hr T e p = hr T' e p) : ∀ (w : List Nat) (p : Nat), say T e w p = say T' e w p := by
  intro w
  induction w with
  | nil => intro p; rfl
  | cons c cs ih => intro p; rw [say, say, h, ih]
theorem numb_c (h : ∀ p, hr T e p = hr T' e p) (p : Nat) : numb T e p = numb T' e p := by unfold numb; rw [h, h, h]
theorem nums_c (h : ∀ p, hr T e p = hr T' e p) : ∀ (n p : Nat), nums T e n p = nums T' e n p := by
  intro n
  induction n with
  | zero => intro p; rfl
  | succ n ih => intro p; rw [nums, nums, numb_c h, ih]
theorem sayN_c (h : ∀ p, hr T e p = hr T' e p) (w : List Nat) (n p : Nat) : sayN T e w n p = sayN T' e w n p := by unfold sayN; rw [say_c h]; simp only [nums_c h]
theorem ordr_c (h : ∀ p, hr T e p = hr T' e p) (p : Nat) : ordr T e p = ordr T' e p := by
  unfold ordr ord1
  simp only [h, sayN_c h]
theorem prs_c (h : ∀ p, hr T e p = hr T' e p) : ∀ (m p : Nat), prs T e m p = prs T' e m p := by
  intro m
  induction m with
  | zero => intro p; rfl
  | succ m ih => intro p; rw [prs, prs, ordr_c h, h]; simp only [ih]
end CONG
/-- the numbers that an order has, and what else stands there -/
theorem doA_c {s : SF} {o : Ord} {a b d : Int32} (h0 : 0 < nArg o.1 → a = o.2.getD 0 0) (h1 : 1 < nArg o.1 → b = o.2.getD 1 0) (h2 : 2 < nArg o.1 → d = o.2.getD 2 0) : doA s o.1 a b d = doO s o := by
  unfold doO doA
  split
  · rename_i e; rw [e] at h0 h1 h2; rw [h0 (by decide), h1 (by decide), h2 (by decide)]
  split
  · rename_i e; rw [e] at h0 h1 h2; rw [h0 (by decide), h1 (by decide)]
  split
  · rename_i e; rw [e] at h0 h1 h2; rw [h0 (by decide)]
  split
  · rename_i e; rw [e] at h0 h1 h2; rw [h0 (by decide)]
  split
  · rename_i e; rw [e] at h0 h1 h2; rw [h0 (by decide), h1 (by decide), h2 (by decide)]
  split
  · rfl
  split
  · rename_i e; rw [e] at h0 h1 h2; rw [h0 (by decide)]
  split
  · rename_i e; rw [e] at h0 h1 h2; rw [h0 (by decide), h1 (by decide)]
  · rename_i e115 e104 e108 e107 e109 e114 e116 e100
    have e : nArg o.1 = 1 := by unfold nArg; rw [if_neg e115, if_neg e109, if_neg e104, if_neg e100, if_neg e114]
    rw [h0 (by omega)]
theorem run_WF {s : SF} (h : WF s) : ∀ (os : List Ord) (i : Nat), WF (run s os i).1 := by
  intro os
  induction os generalizing s with
  | nil => intro i; exact h
  | cons o os ih =>
    intro i
    rw [run]
    split
    · exact ih (doA_WF h) (i + 1)
    · exact h
/-! the whole answer -/
def rdP (S : ST) : Nat × Bool × List Ord := prs (fun i => S.text.getD i 0) S.text.length (S.text.length + 1) 0
def badT (S : ST) : Prop := (rdP S).2.1 = true ∨ (rdP S).1 < S.text.length
def qRead (S : ST) : Ans := if (rdP S).2.1 = true ∨ (rdP S).1 < S.text.length then (1, 0) else match (run S.row (rdP S).2.2 0).2 with
  | none => (0, nI (rdP S).2.2.length)
  | some _ => (2, 0)
def sRead (S : ST) : ST := if (rdP S).2.1 = true ∨ (rdP S).1 < S.text.length then (S.wText []).wFault (some (rdP S).1) else match (run S.row (rdP S).2.2 0).2 with
  | none => ((S.wText []).wRow (run S.row (rdP S).2.2 0).1).wHist (hp S.hist S.row)
  | some (i, A) => if A.1 < 0 then (S.wText []).wItem (some i) else (((S.wText []).wItem (some i)).wWhy A.1).wDetail A.2.1
