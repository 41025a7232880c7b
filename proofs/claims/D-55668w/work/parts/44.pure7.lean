/-! PURE 7: the acts keep the row well formed -/
set_option maxRecDepth 100000
theorem inP_PL {x : Int32} (h : inP x = true) : PL x := by
  obtain ⟨h1, h2⟩ := (inP_iff x).mp h
  obtain ⟨a, ha, rfl⟩ := nI_of2 (M := 99) (n := 99) (by decide) (Int32.not_lt.mpr h1) h2
  exact ⟨a, ha, rfl⟩
theorem inR_w {w : Int32} (h : inR w 1 9 = true) : ∃ a : Nat, 1 ≤ a ∧ a ≤ 9 ∧ w = nI a := by
  obtain ⟨h1, h2⟩ := (inR_iff w 1 9).mp h
  obtain ⟨a, ha, rfl⟩ := nI_of2 (M := 9) (n := 9) (by decide) (Int32.not_lt.mpr (Int32.le_trans (by decide) h1)) h2
  refine ⟨a, ?_, ha, rfl⟩
  have := (nI_leI (a := 1) (by omega) (by omega)).mp h1
  exact this
/-- from the parts -/
theorem WF_mk {t : SF} {n m : Nat} (h0 : t 0 = nI n) (hn : n ≤ 18) (h1 : t 1 = nI m) (hm : m ≤ 6) (ho : ∀ k, k < n → isO (t (63 + k)) m) (hd : ∀ d, d < 3 → isO (t (6 + d)) m) (hx : ∀ k, k < n → PL (t (9 + k)) ∧ PL (t (27 + k)) ∧ ∃ w : Nat, 1 ≤ w ∧ w ≤ 9 ∧ t (45 + k) = nI w) (hh : ∀ j, j < m → PL (t (81 + j)) ∧ PL (t (87 + j))) : WF t := by
  have eS : nS t = n := by unfold nS; rw [h0]; exact nI_clamp (by omega)
  have eH : nH t = m := by unfold nH; rw [h1]; exact nI_clamp (by omega)
  refine ⟨⟨by rw [eS]; exact h0, by omega, by rw [eH]; exact h1, by omega⟩, ⟨fun k hk => by rw [eH]; exact ho k (by omega), fun d h3 => by rw [eH]; exact hd d h3⟩, fun k hk => ?_, fun j hj => hh j (by omega)⟩
  obtain ⟨a1, a2, a3⟩ := hx k (by omega)
  exact ⟨a1, a2, a3⟩
theorem isO.up {x : Int32} {m n : Nat} (h : isO x m) (hmn : m ≤ n) : isO x n := h.elim Or.inl fun ⟨j, hj, e⟩ => Or.inr ⟨j, by omega, e⟩
theorem comesS_WF {s : SF} (h : WF s) {x y w : Int32} (hx : inP x = true) (hy : inP y = true) (hw : inR w 1 9 = true) (hn : nS s ≠ 18) : WF (comesS s x y w) := by
  obtain ⟨⟨w1, w2, w3, w4⟩, ⟨o1, o2⟩, p1, p2⟩ := h
  unfold comesS
  refine WF_mk (n := nS s + 1) (m := nH s) (upd_s _ _ _) (by omega) ?_ w4 (fun k hk => ?_) (fun d hd => ?_) (fun k hk => ?_) (fun j hj => ?_)
  · rw [upd_n (by omega), upd_n (by omega), upd_n (by omega), upd_n (by omega), upd_n (by omega)]; exact w3
  · rw [upd_n (by omega)]
    by_cases e : k = nS s
    · subst e; rw [upd_s]; exact isO_oI fun b hb => nr_lt hb
    · rw [upd_n (by omega), upd_n (by omega), upd_n (by omega), upd_n (by omega)]; exact o1 k (by omega)
  · rw [upd_n (by omega), upd_n (by omega), upd_n (by omega), upd_n (by omega), upd_n (by omega)]; exact o2 d hd
  · by_cases e : k = nS s
    · subst e
      simp (disch := omega) only [upd_n, upd_s]
      exact ⟨inP_PL hx, inP_PL hy, inR_w hw⟩
    · simp (disch := omega) only [upd_n, upd_s]
      exact p1 k (by omega)
  · rw [upd_n (by omega), upd_n (by omega), upd_n (by omega), upd_n (by omega), upd_n (by omega), upd_n (by omega), upd_n (by omega), upd_n (by omega), upd_n (by omega), upd_n (by omega)]
    exact p2 j hj
theorem setsS_WF {s : SF} (h : WF s) {x y : Int32} (hx : inP x = true) (hy : inP y = true) (hn : nH s ≠ 6) : WF (upd (upd (upd s (81 + nH s) x) (87 + nH s) y) 1 (nI (nH s + 1))) := by
  obtain ⟨⟨w1, w2, w3, w4⟩, ⟨o1, o2⟩, p1, p2⟩ := h
  refine WF_mk (n := nS s) (m := nH s + 1) ?_ w2 (upd_s _ _ _) (by omega) (fun k hk => ?_) (fun d hd => ?_) (fun k hk => ?_) (fun j hj => ?_)
  · rw [upd_n (by omega), upd_n (by omega), upd_n (by omega)]; exact w1
  · rw [upd_n (by omega), upd_n (by omega), upd_n (by omega)]; exact (o1 k hk).up (by omega)
  · rw [upd_n (by omega), upd_n (by omega), upd_n (by omega)]; exact (o2 d hd).up (by omega)
  · rw [upd_n (by omega), upd_n (by omega), upd_n (by omega), upd_n (by omega), upd_n (by omega), upd_n (by omega), upd_n (by omega), upd_n (by omega), upd_n (by omega)]
    exact p1 k hk
  · by_cases e : j = nH s
    · subst e
      simp (disch := omega) only [upd_n, upd_s]
      exact ⟨inP_PL hx, inP_PL hy⟩
    · simp (disch := omega) only [upd_n, upd_s]
      exact p2 j (by omega)
theorem movesS_WF {s : SF} (h : WF s) {x y : Int32} {i : Nat} (hx : inP x = true) (hy : inP y = true) (hi : i < nH s) : WF (upd (upd s (81 + i) x) (87 + i) y) := by
  obtain ⟨⟨w1, w2, w3, w4⟩, ⟨o1, o2⟩, p1, p2⟩ := h
  refine WF_mk (n := nS s) (m := nH s) ?_ w2 ?_ w4 (fun k hk => ?_) (fun d hd => ?_) (fun k hk => ?_) (fun j hj => ?_)
  · rw [upd_n (by omega), upd_n (by omega)]; exact w1
  · rw [upd_n (by omega), upd_n (by omega)]; exact w3
  · rw [upd_n (by omega), upd_n (by omega)]; exact o1 k hk
  · rw [upd_n (by omega), upd_n (by omega)]; exact o2 d hd
  · rw [upd_n (by omega), upd_n (by omega), upd_n (by omega), upd_n (by omega), upd_n (by omega), upd_n (by omega)]; exact p1 k hk
  · by_cases e : j = i
    · subst e; rw [upd_n (by omega), upd_s, upd_s]; exact ⟨inP_PL hx, inP_PL hy⟩
    · rw [upd_n (by omega), upd_n (by omega), upd_n (by omega), upd_n (by omega)]; exact p2 j hj
theorem weighsS_WF {s : SF} (h : WF s) {w : Int32} {i : Nat} (hw : inR w 1 9 = true) (hi : i < nS s) : WF (upd s (45 + i) w) := by
  obtain ⟨⟨w1, w2, w3, w4⟩, ⟨o1, o2⟩, p1, p2⟩ := h
  refine WF_mk (n := nS s) (m := nH s) ?_ w2 ?_ w4 (fun k hk => ?_) (fun d hd => ?_) (fun k hk => ?_) (fun j hj => ?_)
  · rw [upd_n (by omega)]; exact w1
  · rw [upd_n (by omega)]; exact w3
  · rw [upd_n (by omega)]; exact o1 k hk
  · rw [upd_n (by omega)]; exact o2 d hd
  · obtain ⟨a1, a2, a3⟩ := p1 k hk
    by_cases e : k = i
    · subst e; rw [upd_s, upd_n (by omega), upd_n (by omega)]; exact ⟨a1, a2, inR_w hw⟩
    · rw [upd_n (by omega), upd_n (by omega), upd_n (by omega)]; exact ⟨a1, a2, a3⟩
  · rw [upd_n (by omega), upd_n (by omega)]; exact p2 j hj
theorem sendsS_WF {s : SF} (h : WF s) {j : Int32} {d : Nat} (hd3 : d < 3) (hj : isO j (nH s)) : WF (upd s (6 + d) j) := by
  obtain ⟨⟨w1, w2, w3, w4⟩, ⟨o1, o2⟩, p1, p2⟩ := h
  refine WF_mk (n := nS s) (m := nH s) ?_ w2 ?_ w4 (fun k hk => ?_) (fun d' hd => ?_) (fun k hk => ?_) (fun j hj => ?_)
  · rw [upd_n (by omega)]; exact w1
  · rw [upd_n (by omega)]; exact w3
  · rw [upd_n (by omega)]; exact o1 k hk
  · by_cases e : d' = d
    · subst e; rw [upd_s]; exact hj
    · rw [upd_n (by omega)]; exact o2 d' hd
  · rw [upd_n (by omega), upd_n (by omega), upd_n (by omega)]; exact p1 k hk
  · rw [upd_n (by omega), upd_n (by omega)]; exact p2 j hj
theorem fetchS_WF {s : SF} (h : WF s) {k : Nat} {v : Int32} (hk : k < nS s) : WF (upd (upd s (63 + k) (oI (nearO s k))) 4 v) := by
  obtain ⟨⟨w1, w2, w3, w4⟩, ⟨o1, o2⟩, p1, p2⟩ := h
  refine WF_mk (n := nS s) (m := nH s) ?_ w2 ?_ w4 (fun i hi => ?_) (fun d hd => ?_) (fun i hi => ?_) (fun j hj => ?_)
  · rw [upd_n (by omega), upd_n (by omega)]; exact w1
  · rw [upd_n (by omega), upd_n (by omega)]; exact w3
  · rw [upd_n (by omega)]
    by_cases e : i = k
    · subst e; rw [upd_s]; exact isO_oI fun b hb => nearO_lt hb
    · rw [upd_n (by omega)]; exact o1 i hi
  · rw [upd_n (by omega), upd_n (by omega)]; exact o2 d hd
  · rw [upd_n (by omega), upd_n (by omega), upd_n (by omega), upd_n (by omega), upd_n (by omega), upd_n (by omega)]; exact p1 i hi
  · rw [upd_n (by omega), upd_n (by omega), upd_n (by omega), upd_n (by omega)]; exact p2 j hj
theorem goesL_at {s : SF} {i b : Nat} (hb : b = 9 ∨ b = 27 ∨ b = 45 ∨ b = 63) : ∀ (c k : Nat), i + c ≤ 17 → k < 18 → goesL s i c (b + k) = if i ≤ k ∧ k < i + c then s (b + k + 1) else s (b + k) := by
  intro c
  induction c with
  | zero => intro k _ _; rw [if_neg (by omega)]; rfl
  | succ c ih =>
    intro k hc hk
    have e := ih k (by omega) hk
    rw [goesL]
    by_cases hkc : k = i + c
    · have e2 := ih (k + 1) (by omega) (by omega)
      rw [if_neg (by omega)] at e2
      rw [if_pos (by omega)]
      subst hkc
      rcases hb with rfl | rfl | rfl | rfl
      · rw [upd_n (by omega), upd_n (by omega), upd_n (by omega), upd_s]; exact e2
      · rw [upd_n (by omega), upd_n (by omega), upd_s, upd_n (by omega)]; exact e2
      · rw [upd_n (by omega), upd_s, upd_n (by omega), upd_n (by omega)]; exact e2
      · rw [upd_s, upd_n (by omega), upd_n (by omega), upd_n (by omega)]; exact e2
    · rw [upd_n (by omega), upd_n (by omega), upd_n (by omega), upd_n (by omega), e]
      by_cases h1 : i ≤ k ∧ k < i + c
      · rw [if_pos h1, if_pos (by omega)]
      · rw [if_neg h1, if_neg (by omega)]
theorem goesL_n {s : SF} {i q : Nat} (hq : q < 9 ∨ 81 ≤ q) : ∀ c, i + c ≤ 17 → goesL s i c q = s q := by
  intro c
  induction c with
  | zero => intro _; rfl
  | succ c ih =>
    intro hc
    rw [goesL]
    rw [upd_n (by omega), upd_n (by omega), upd_n (by omega), upd_n (by omega), ih (by omega)]
theorem goesS_WF {s : SF} (h : WF s) {i : Nat} (hi : i < nS s) : WF (goesS s i) := by
  obtain ⟨⟨w1, w2, w3, w4⟩, ⟨o1, o2⟩, p1, p2⟩ := h
  unfold goesS
  refine WF_mk (n := nS s - 1) (m := nH s) (upd_s _ _ _) (by omega) ?_ w4 (fun k hk => ?_) (fun d hd => ?_) (fun k hk => ?_) (fun j hj => ?_)
  · rw [upd_n (by omega), upd_n (by omega), upd_n (by omega), upd_n (by omega), upd_n (by omega), goesL_n (by omega) _ (by omega)]; exact w3
  · rw [upd_n (by omega), upd_n (by omega), upd_n (by omega), upd_n (by omega), upd_n (by omega), goesL_at (by omega) _ _ (by omega) (by omega)]
    split
    · exact o1 (k + 1) (by omega)
    · exact o1 k (by omega)
  · rw [upd_n (by omega), upd_n (by omega), upd_n (by omega), upd_n (by omega), upd_n (by omega), goesL_n (by omega) _ (by omega)]; exact o2 d hd
  · rw [upd_n (by omega), upd_n (by omega), upd_n (by omega), upd_n (by omega), upd_n (by omega), upd_n (by omega), upd_n (by omega), upd_n (by omega), upd_n (by omega), upd_n (by omega), upd_n (by omega), upd_n (by omega), upd_n (by omega), upd_n (by omega), upd_n (by omega),
      goesL_at (by omega) _ _ (by omega) (by omega), goesL_at (by omega) _ _ (by omega) (by omega), goesL_at (by omega) _ _ (by omega) (by omega)]
    by_cases hq : i ≤ k ∧ k < i + (nS s - 1 - i)
    · rw [if_pos hq, if_pos hq, if_pos hq]; exact p1 (k + 1) (by omega)
    · rw [if_neg hq, if_neg hq, if_neg hq]; exact p1 k (by omega)
  · rw [upd_n (by omega), upd_n (by omega), upd_n (by omega), upd_n (by omega), upd_n (by omega), upd_n (by omega), upd_n (by omega), upd_n (by omega), upd_n (by omega), upd_n (by omega), goesL_n (by omega) _ (by omega), goesL_n (by omega) _ (by omega)]
    exact p2 j hj
theorem strL1_at {s : SF} {j : Int32} : ∀ (n k : Nat), k < n → strL1 s j n (63 + k) = wo (s (63 + k)) j := by
  intro n
  induction n with
  | zero => intro k hk; omega
  | succ n ih =>
    intro k hk
    rw [strL1]
    by_cases e : k = n
    · subst e; rw [upd_s, strL1_n _ (Or.inr (by omega))]
    · rw [upd_n (by omega), ih k (by omega)]
theorem strL2_at {s : SF} {j : Int32} : ∀ (n k : Nat), k < n → strL2 s j n (6 + k) = wo (s (6 + k)) j := by
  intro n
  induction n with
  | zero => intro k hk; omega
  | succ n ih =>
    intro k hk
    rw [strL2]
    by_cases e : k = n
    · subst e; rw [upd_s, strL2_n _ (Or.inr (by omega))]
    · rw [upd_n (by omega), ih k (by omega)]
theorem strL3_at {s : SF} {i b : Nat} (hb : b = 81 ∨ b = 87) : ∀ (c k : Nat), i + c ≤ 5 → k < 6 → strL3 s i c (b + k) = if i ≤ k ∧ k < i + c then s (b + k + 1) else s (b + k) := by
  intro c
  induction c with
  | zero => intro k _ _; rw [if_neg (by omega)]; rfl
  | succ c ih =>
    intro k hc hk
    have e := ih k (by omega) hk
    rw [strL3]
    by_cases hkc : k = i + c
    · have e2 := ih (k + 1) (by omega) (by omega)
      rw [if_neg (by omega)] at e2
      rw [if_pos (by omega)]
      subst hkc
      rcases hb with rfl | rfl
      · rw [upd_n (by omega), upd_s]; exact e2
      · rw [upd_s, upd_n (by omega)]; exact e2
    · rw [upd_n (by omega), upd_n (by omega), e]
      by_cases h1 : i ≤ k ∧ k < i + c
      · rw [if_pos h1, if_pos (by omega)]
      · rw [if_neg h1, if_neg (by omega)]
theorem strL3_n {s : SF} {i q : Nat} (hq : q < 81) : ∀ c, strL3 s i c q = s q := by
  intro c
  induction c with
  | zero => rfl
  | succ c ih => rw [strL3]; rw [upd_n (by omega), upd_n (by omega), ih]
theorem wo_isO {x : Int32} {n i : Nat} (hn : n ≤ 6) (hi : i < n) (hx : isO x n) : isO (wo x (nI i)) (n - 1) := by
  unfold wo
  rcases hx with rfl | ⟨j, hj, rfl⟩
  · rw [if_neg (fun e => ne_m1 (by omega) e.symm), if_neg (fun e => by
      have h1 : (nI i) < 0 := Int32.lt_trans e (by decide)
      exact nI_pos (by omega) h1)]
    exact Or.inl rfl
  · by_cases e : j = i
    · subst e; rw [if_pos rfl]; exact Or.inl rfl
    · rw [if_neg (fun q => e (nI_inj (by omega) (by omega) q))]
      by_cases hlt : i < j
      · rw [if_pos (nI_lt hlt (by omega)), nI_p (by omega) (by omega)]
        exact Or.inr ⟨j - 1, by omega, rfl⟩
      · rw [if_neg (nI_nlt (by omega) (by omega))]
        exact Or.inr ⟨j, by omega, rfl⟩
theorem strikesS_WF {s : SF} (h : WF s) {i : Nat} (hi : i < nH s) : WF (strikesS s i) := by
  obtain ⟨⟨w1, w2, w3, w4⟩, ⟨o1, o2⟩, p1, p2⟩ := h
  unfold strikesS
  refine WF_mk (n := nS s) (m := nH s - 1) ?_ w2 (upd_s _ _ _) (by omega) (fun k hk => ?_) (fun d hd => ?_) (fun k hk => ?_) (fun j hj => ?_)
  · rw [upd_n (by omega), upd_n (by omega), upd_n (by omega), strL3_n (by omega), strL2_n _ (by omega), strL1_n _ (by omega)]; exact w1
  · rw [upd_n (by omega), upd_n (by omega), upd_n (by omega), strL3_n (by omega), strL2_n _ (by omega), strL1_at _ _ hk]; exact wo_isO w4 hi (o1 k hk)
  · rw [upd_n (by omega), upd_n (by omega), upd_n (by omega), strL3_n (by omega), strL2_at _ _ hd, strL1_n _ (by omega)]; exact wo_isO w4 hi (o2 d hd)
  · rw [upd_n (by omega), upd_n (by omega), upd_n (by omega), strL3_n (by omega), strL2_n _ (by omega), strL1_n _ (by omega), upd_n (by omega), upd_n (by omega), upd_n (by omega), strL3_n (by omega), strL2_n _ (by omega), strL1_n _ (by omega), upd_n (by omega), upd_n (by omega), upd_n (by omega), strL3_n (by omega), strL2_n _ (by omega), strL1_n _ (by omega)]
    exact p1 k hk
  · rw [upd_n (by omega), upd_n (by omega), upd_n (by omega), upd_n (by omega), upd_n (by omega), upd_n (by omega), strL3_at (by omega) _ _ (by omega) (by omega), strL3_at (by omega) _ _ (by omega) (by omega)]
    by_cases hq : i ≤ j ∧ j < i + (nH s - 1 - i)
    · rw [if_pos hq, if_pos hq, strL2_n _ (by omega), strL1_n _ (by omega), strL2_n _ (by omega), strL1_n _ (by omega)]; exact p2 (j + 1) (by omega)
    · rw [if_neg hq, if_neg hq, strL2_n _ (by omega), strL1_n _ (by omega), strL2_n _ (by omega), strL1_n _ (by omega)]; exact p2 j (by omega)
