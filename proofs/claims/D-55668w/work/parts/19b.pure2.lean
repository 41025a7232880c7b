/-! PURE 2: what a round leaves as it is, and that it keeps the row well formed -/
set_option maxRecDepth 100000
/-- what no step of a round writes -/
def fx (q : Nat) : Prop := q < 63 ∧ q ≠ 3 ∧ q ≠ 5
theorem bel_n {s : SF} {k : Nat} {v : Int32} {q : Nat} (h5 : q ≠ 5) (hk : q ≠ 63 + k) : bel s k v q = s q := by
  unfold bel
  rw [upd_n hk, upd_n h5]
theorem bel_at (s : SF) (k : Nat) (v : Int32) : bel s k v (63 + k) = v := upd_s _ _ _
theorem bel_fx {s : SF} {k : Nat} {v : Int32} {q : Nat} (h : fx q) : bel s k v q = s q := bel_n h.2.2 (by have := h.1; omega)
theorem g2_fx {s : SF} {q : Nat} (h : fx q) : ∀ k, g2 s k q = s q := by
  intro k
  induction k with
  | zero => rfl
  | succ k ih => rw [g2, bel_fx h, ih]
theorem g2_hi {s : SF} {q : Nat} (h : 81 ≤ q) : ∀ k, k ≤ 18 → g2 s k q = s q := by
  intro k
  induction k with
  | zero => intro _; rfl
  | succ k ih => intro hk; rw [g2, bel_n (by omega) (by omega), ih (by omega)]
theorem g3s_n {t : SF} {j q : Nat} (h1 : q ≠ 81 + j) (h2 : q ≠ 87 + j) : g3s t j q = t q := by
  unfold g3s
  split
  · rfl
  · rw [upd_n h1, upd_n h2]
theorem g3_lo {s : SF} {q : Nat} (h : q < 81) : ∀ j, g3 s j q = s q := by
  intro j
  induction j with
  | zero => rfl
  | succ j ih => rw [g3, g3s_n (by omega) (by omega), ih]
theorem g4k_n {t : SF} {j k q : Nat} (h5 : q ≠ 5) (h3 : q ≠ 3) (hk : q ≠ 63 + k) (h1 : q ≠ 81 + j) (h2 : q ≠ 87 + j) : g4k t j k q = t q := by
  unfold g4k
  rw [upd_n h3, upd_n h2, upd_n h1, bel_n h5 hk]
theorem g4s_fx {t : SF} {j q : Nat} (h : fx q) : g4s t j q = t q := by
  unfold g4s
  split
  · rfl
  · cases outl t with
    | none => rfl
    | some k => exact g4k_n h.2.2 h.2.1 (by have := h.1; omega) (by have := h.1; omega) (by have := h.1; omega)
theorem g4_fx {s : SF} {q : Nat} (h : fx q) : ∀ j, g4 s j q = s q := by
  intro j
  induction j with
  | zero => rfl
  | succ j ih => rw [g4, g4s_fx h, ih]
theorem nS_of {s t : SF} (h : t 0 = s 0) : nS t = nS s := by unfold nS; rw [h]
theorem nH_of {s t : SF} (h : t 1 = s 1) : nH t = nH s := by unfold nH; rw [h]
theorem WS_of {s t : SF} (hw : WS s) (h0 : t 0 = s 0) (h1 : t 1 = s 1) : WS t := by
  obtain ⟨a, b, c, d⟩ := hw
  refine ⟨?_, ?_, ?_, ?_⟩
  · rw [nS_of h0, h0]; exact a
  · rw [nS_of h0]; exact b
  · rw [nH_of h1, h1]; exact c
  · rw [nH_of h1]; exact d
theorem fx0 : fx 0 := ⟨by decide, by decide, by decide⟩
theorem fx1 : fx 1 := ⟨by decide, by decide, by decide⟩
theorem fxX {k : Nat} (h : k < 54) : fx (9 + k) := ⟨by omega, by omega, by omega⟩
theorem nearO_lt {s : SF} {k b : Nat} (h : nearO s k = some b) : b < nH s := nr_lt h
theorem isO_oI {o : Option Nat} {n : Nat} (h : ∀ b, o = some b → b < n) : isO (oI o) n := by
  cases o with
  | none => exact Or.inl rfl
  | some b => exact Or.inr ⟨b, h b rfl, rfl⟩
/-- the first part of a round: all sheep belong to a hut or none -/
theorem g2_of {s : SF} : ∀ k, k ≤ 18 → ∀ i, i < k → isO (g2 s k (63 + i)) (nH s) := by
  intro k
  induction k with
  | zero => intro _ i hi; omega
  | succ k ih =>
    intro hk i hi
    rw [g2]
    by_cases hik : i = k
    · subst hik
      rw [bel_at]
      exact isO_oI fun b hb => by have := nearO_lt hb; rwa [nH_of (g2_fx fx1 i)] at this
    · rw [bel_n (by omega) (by omega)]
      exact ih (by omega) i (by omega)
/-- weights as naturals -/
def WW (s : SF) : Prop := ∀ k, k < nS s → ∃ w : Nat, 1 ≤ w ∧ w ≤ 9 ∧ s (45 + k) = nI w
theorem WP.w {s : SF} (h : WP s) : WW s := fun k hk => (h.1 k hk).2.2
theorem WW_of {s t : SF} (h : WW s) (h0 : t 0 = s 0) (hf : ∀ k, k < 18 → t (45 + k) = s (45 + k)) (hn : nS s ≤ 18) : WW t := by
  intro k hk
  rw [nS_of h0] at hk
  rw [hf k (by omega)]
  exact h k hk
theorem wt_nat {s : SF} {u : Int32} (hW : WW s) : ∀ k, k ≤ nS s → ∃ w : Nat, wt s u k = nI w ∧ cnt s u k ≤ w ∧ w ≤ 9 * cnt s u k := by
  intro k
  induction k with
  | zero => intro _; exact ⟨0, rfl, Nat.le_refl _, Nat.le_refl _⟩
  | succ k ih =>
    intro hk
    obtain ⟨w, h1, h2, h3⟩ := ih (by omega)
    obtain ⟨v, v1, v2, v3⟩ := hW k (by omega)
    rw [wt, cnt, h1]
    by_cases hc : s (63 + k) = u
    · rw [if_pos hc, if_pos hc, v3, nI_add]
      exact ⟨w + v, rfl, by omega, by omega⟩
    · rw [if_neg hc, if_neg hc]
      exact ⟨w, nI_add w 0, by omega, by omega⟩
theorem wt_ne0 {s : SF} {u : Int32} (hW : WW s) (hn : nS s ≤ 18) (hc : cnt s u (nS s) ≠ 0) : wt s u (nS s) ≠ 0 := by
  obtain ⟨w, h1, h2, h3⟩ := wt_nat (u := u) hW (nS s) (Nat.le_refl _)
  have := cnt_le s u (nS s)
  rw [h1]
  exact nI_ne0 (by omega) (by omega)
/-- what g4 keeps of the owners -/
theorem ol_lt {s : SF} : ∀ {n k : Nat}, (ol s n).1 = some k → k < n := by
  intro n
  induction n with
  | zero => intro k h; cases h
  | succ n ih =>
    intro k h
    rw [ol] at h
    split at h
    · cases h; omega
    · have := ih h; omega
theorem outl_lt {s : SF} {k : Nat} (h : outl s = some k) : k < nS s := ol_lt h
theorem g4s_of {t : SF} {j n : Nat} (hj : j < n) (hS : nS t ≤ 18) (h : ∀ k, k < nS t → isO (t (63 + k)) n) : ∀ k, k < nS t → isO (g4s t j (63 + k)) n := by
  intro k hk
  unfold g4s
  split
  · exact h k hk
  · cases ho : outl t with
    | none => exact h k hk
    | some i =>
      dsimp only
      have hi := outl_lt ho
      by_cases hik : k = i
      · subst hik
        unfold g4k
        rw [upd_n (by omega), upd_n (by omega), upd_n (by omega), bel_at]
        exact Or.inr ⟨j, hj, rfl⟩
      · rw [g4k_n (by omega) (by omega) (by omega) (by omega) (by omega)]
        exact h k hk
theorem g4_of {s : SF} {n : Nat} (hS : nS s ≤ 18) (h : ∀ k, k < nS s → isO (s (63 + k)) n) : ∀ j, j ≤ n → ∀ k, k < nS s → isO (g4 s j (63 + k)) n := by
  intro j
  induction j with
  | zero => intro _ k hk; exact h k hk
  | succ j ih =>
    intro hj k hk
    have e : nS (g4 s j) = nS s := nS_of (g4_fx fx0 j)
    rw [g4]
    exact g4s_of (by omega) (by omega) (fun i hi => ih (by omega) i (by omega)) k (by omega)
/-- what a place is -/
def PL (x : Int32) : Prop := ∃ a : Nat, a ≤ 99 ∧ x = nI a
theorem mid_pl {s : SF} {u : Int32} {row : Nat} (hW : WW s) (hn : nS s ≤ 18) (hr : ∀ k, k < nS s → PL (s (row + k))) (hc : cnt s u (nS s) ≠ 0) : PL (mid s u row) := by
  have key : ∀ k, k ≤ nS s → ∃ a w : Nat, msum s u row k = nI a ∧ wt s u k = nI w ∧ a ≤ 99 * w ∧ w ≤ 9 * k ∧ cnt s u k ≤ w := by
    intro k
    induction k with
    | zero => intro _; exact ⟨0, 0, rfl, rfl, by omega, by omega, Nat.le_refl _⟩
    | succ k ih =>
      intro hk
      obtain ⟨a, w, h1, h2, h3, h4, h5⟩ := ih (by omega)
      obtain ⟨v, v1, v2, v3⟩ := hW k (by omega)
      obtain ⟨x, x1, x2⟩ := hr k (by omega)
      rw [msum, wt, cnt, h1, h2]
      by_cases hc : s (63 + k) = u
      · rw [if_pos hc, if_pos hc, if_pos hc, v3, x2, pk_mul, nI_add, nI_add]
        refine ⟨a + v * x, w + v, rfl, rfl, ?_, by omega, by omega⟩
        have : v * x ≤ v * 99 := Nat.mul_le_mul_left v x1
        omega
      · rw [if_neg hc, if_neg hc, if_neg hc]
        exact ⟨a, w, nI_add a 0, nI_add w 0, h3, by omega, by omega⟩
  obtain ⟨a, w, h1, h2, h3, h4, h5⟩ := key (nS s) (Nat.le_refl _)
  have hw : 0 < w := by omega
  refine ⟨a / w, ?_, ?_⟩
  · exact Nat.le_trans (Nat.div_le_div_right h3) (by rw [Nat.mul_comm, Nat.mul_div_cancel_left _ hw]; exact Nat.le_refl _)
  · unfold mid
    rw [h1, h2, pk_div (by omega) hw (by omega)]
def PH (s : SF) (n : Nat) : Prop := ∀ j, j < n → PL (s (81 + j)) ∧ PL (s (87 + j))
def PX (s : SF) : Prop := ∀ k, k < nS s → PL (s (9 + k)) ∧ PL (s (27 + k))
theorem WP.x {s : SF} (h : WP s) : PX s := fun k hk => ⟨(h.1 k hk).1, (h.1 k hk).2.1⟩
theorem WP.h {s : SF} (h : WP s) : PH s (nH s) := h.2
theorem WP.mk {s : SF} (hx : PX s) (hw : WW s) (hh : PH s (nH s)) : WP s := ⟨fun k hk => ⟨(hx k hk).1, (hx k hk).2, hw k hk⟩, hh⟩
theorem PX_of {s t : SF} (h : PX s) (h0 : t 0 = s 0) (hf : ∀ q, 9 ≤ q → q < 45 → t q = s q) (hn : nS s ≤ 18) : PX t := by
  intro k hk
  rw [nS_of h0] at hk
  rw [hf _ (by omega) (by omega), hf _ (by omega) (by omega)]
  exact h k hk
theorem g3s_ph {t : SF} {j n : Nat} (hn : n ≤ 6) (hS : nS t ≤ 18) (hW : WW t) (hX : PX t) (h : PH t n) : PH (g3s t j) n := by
  intro i hi
  unfold g3s
  split
  · exact h i hi
  · rename_i hc
    have m1 := mid_pl (u := nI j) (row := 9) hW hS (fun k hk => (hX k hk).1) hc
    have m2 := mid_pl (u := nI j) (row := 27) hW hS (fun k hk => (hX k hk).2) hc
    by_cases e : i = j
    · subst e
      rw [upd_s, upd_n (by omega), upd_s]
      exact ⟨m1, m2⟩
    · by_cases e1 : 81 + j = 87 + i
      · have : 81 + j ≠ 81 + i := by omega
        rw [upd_n (Ne.symm this)]
        have h8 : 87 + j ≠ 81 + i := by omega
        rw [upd_n (Ne.symm h8), ← e1, upd_s]
        exact ⟨(h i hi).1, m1⟩
      · by_cases e2 : 87 + j = 81 + i
        · have : 81 + j ≠ 81 + i := by omega
          rw [upd_n (Ne.symm this), ← e2, upd_s, upd_n (by omega), upd_n (by omega)]
          exact ⟨m2, (h i hi).2⟩
        · rw [upd_n (by omega), upd_n (by omega), upd_n (by omega), upd_n (by omega)]
          exact h i hi
theorem g3_all {s : SF} (hw : WS s) (hW : WW s) (hX : PX s) (h : PH s (nH s)) : ∀ j, WS (g3 s j) ∧ WW (g3 s j) ∧ PX (g3 s j) ∧ PH (g3 s j) (nH s) := by
  intro j
  have e0 := g3_lo (s := s) (q := 0) (by decide) j
  have e1 := g3_lo (s := s) (q := 1) (by decide) j
  refine ⟨WS_of hw e0 e1, WW_of hW e0 (fun k hk => g3_lo (by omega) j) hw.2.1, PX_of hX e0 (fun q _ hq => g3_lo (by omega) j) hw.2.1, ?_⟩
  induction j with
  | zero => exact h
  | succ j ih =>
    have f0 := g3_lo (s := s) (q := 0) (by decide) j
    have f1 := g3_lo (s := s) (q := 1) (by decide) j
    rw [g3]
    exact g3s_ph hw.2.2.2 (by rw [nS_of f0]; exact hw.2.1) (WW_of hW f0 (fun k hk => g3_lo (by omega) j) hw.2.1) (PX_of hX f0 (fun q _ hq => g3_lo (by omega) j) hw.2.1) (ih f0 f1)
theorem g4s_ph {t : SF} {j n : Nat} (hn : n ≤ 6) (hj : j < n) (hS : nS t ≤ 18) (hX : PX t) (h : PH t n) : PH (g4s t j) n := by
  intro i hi
  unfold g4s
  split
  · exact h i hi
  · cases ho : outl t with
    | none => exact h i hi
    | some k =>
      have hk := outl_lt ho
      have hx := hX k hk
      dsimp only
      unfold g4k
      have b1 : bel t k (nI j) (9 + k) = t (9 + k) := bel_n (by omega) (by omega)
      have b2 : upd (bel t k (nI j)) (81 + j) (bel t k (nI j) (9 + k)) (27 + k) = t (27 + k) := by rw [upd_n (by omega), bel_n (by omega) (by omega)]
      by_cases e : i = j
      · subst e
        rw [upd_n (by omega), upd_n (by omega), upd_s, upd_n (by omega), upd_s, b2, b1]
        exact hx
      · rw [upd_n (by omega), upd_n (by omega), upd_n (by omega), upd_n (by omega), upd_n (by omega), upd_n (by omega), bel_n (by omega) (by omega), bel_n (by omega) (by omega)]
        exact h i hi
theorem g4_ph {s : SF} (hw : WS s) (hX : PX s) (h : PH s (nH s)) : ∀ j, j ≤ nH s → PH (g4 s j) (nH s) := by
  intro j
  induction j with
  | zero => intro _; exact h
  | succ j ih =>
    intro hj
    have f0 := g4_fx (s := s) fx0 j
    rw [g4]
    exact g4s_ph hw.2.2.2 (by omega) (by rw [nS_of f0]; exact hw.2.1) (PX_of hX f0 (fun q h1 h2 => g4_fx ⟨by omega, by omega, by omega⟩ j) hw.2.1) (ih (by omega))
/-- the parts of a round, by name -/
def rA (s : SF) : SF := g2 s (nS s)
def rB (s : SF) : SF := g3 (rA s) (nH s)
def rC (s : SF) : SF := g4 (rB s) (nH s)
theorem ground_eq (s : SF) : ground s = upd (rC s) 2 (rC s 2 + 1) := rfl
theorem rA_fx {s : SF} {q : Nat} (h : fx q) : rA s q = s q := g2_fx h _
theorem rB_fx {s : SF} {q : Nat} (h : fx q) : rB s q = s q := (g3_lo (by have := h.1; omega) _).trans (rA_fx h)
theorem rC_fx {s : SF} {q : Nat} (h : fx q) : rC s q = s q := (g4_fx h _).trans (rB_fx h)
theorem ground_fx {s : SF} {q : Nat} (h : fx q) (h2 : q ≠ 2) : ground s q = s q := by rw [ground_eq, upd_n h2, rC_fx h]
theorem ground_WS {s : SF} (hw : WS s) : WS (ground s) := WS_of hw (ground_fx fx0 (by decide)) (ground_fx fx1 (by decide))
theorem rA_WS {s : SF} (hw : WS s) : WS (rA s) := WS_of hw (rA_fx fx0) (rA_fx fx1)
theorem rB_WS {s : SF} (hw : WS s) : WS (rB s) := WS_of hw (rB_fx fx0) (rB_fx fx1)
theorem rC_WS {s : SF} (hw : WS s) : WS (rC s) := WS_of hw (rC_fx fx0) (rC_fx fx1)
theorem rB_of {s : SF} (hw : WS s) : ∀ k, k < nS s → isO (rB s (63 + k)) (nH s) := by
  intro k hk
  have h1 := hw.2.1
  rw [rB, g3_lo (by omega)]
  exact g2_of (nS s) h1 k hk
theorem rC_of {s : SF} (hw : WS s) : ∀ k, k < nS s → isO (rC s (63 + k)) (nH s) := by
  have e0 : nS (rB s) = nS s := nS_of (rB_fx fx0)
  intro k hk
  exact g4_of (s := rB s) (by rw [e0]; exact hw.2.1) (by rw [e0]; exact rB_of hw) (nH s) (Nat.le_refl _) k (by omega)
theorem ground_WF {s : SF} (h : WF s) : WF (ground s) := by
  obtain ⟨hw, ho, hp⟩ := h
  have eS : nS (ground s) = nS s := nS_of (ground_fx fx0 (by decide))
  have eH : nH (ground s) = nH s := nH_of (ground_fx fx1 (by decide))
  have h18 := hw.2.1
  have h6 := hw.2.2.2
  refine ⟨ground_WS hw, ⟨fun k hk => ?_, fun d hd => ?_⟩, WP.mk ?_ ?_ ?_⟩
  · rw [eH, ground_eq, upd_n (by omega)]
    exact rC_of hw k (by omega)
  · rw [eH, ground_fx ⟨by omega, by omega, by omega⟩ (by omega)]
    exact ho.2 d hd
  · exact PX_of hp.x (ground_fx fx0 (by decide)) (fun q h1 h2 => ground_fx ⟨by omega, by omega, by omega⟩ (by omega)) h18
  · exact WW_of hp.w (ground_fx fx0 (by decide)) (fun k hk => ground_fx ⟨by omega, by omega, by omega⟩ (by omega)) h18
  · rw [eH]
    have hA : PH (rA s) (nH (rA s)) := by
      rw [nH_of (rA_fx fx1)]
      intro j hj
      rw [rA, g2_hi (by omega) _ h18, g2_hi (by omega) _ h18]
      exact hp.h j hj
    have hXA : PX (rA s) := PX_of hp.x (rA_fx fx0) (fun q h1 h2 => rA_fx ⟨by omega, by omega, by omega⟩) h18
    have hWA : WW (rA s) := WW_of hp.w (rA_fx fx0) (fun k hk => rA_fx ⟨by omega, by omega, by omega⟩) h18
    obtain ⟨b1, b2, b3, b4⟩ := g3_all (rA_WS hw) hWA hXA hA (nH s)
    have eB : nH (rB s) = nH s := nH_of (rB_fx fx1)
    have hB : PH (rB s) (nH (rB s)) := by rw [eB, ← nH_of (rA_fx (s := s) fx1)]; exact b4
    have hC := g4_ph (s := rB s) (rB_WS hw) b3 hB (nH s) (by rw [eB]; exact Nat.le_refl _)
    intro j hj
    rw [ground_eq, upd_n (by omega), upd_n (by omega)]
    rw [eB] at hC
    exact hC j hj
theorem rnds_WF {s : SF} (h : WF s) : ∀ k, WF (rnds s k) := by
  intro k
  induction k with
  | zero => exact h
  | succ k ih => exact ground_WF ih
theorem rnds_H {s : SF} : ∀ k, nH (rnds s k) = nH s := by
  intro k
  induction k with
  | zero => rfl
  | succ k ih => rw [rnds, nH_of (ground_fx fx1 (by decide)), ih]
theorem rnds_S {s : SF} : ∀ k, nS (rnds s k) = nS s := by
  intro k
  induction k with
  | zero => rfl
  | succ k ih => rw [rnds, nS_of (ground_fx fx0 (by decide)), ih]
theorem hAt_up {s : SF} {x y : Int32} {k : Nat} (h : hAt s x y (k + 1) = some k) : ∀ n, k < n → hAt s x y n = some k := by
  intro n
  induction n with
  | zero => intro hk; omega
  | succ n ih =>
    intro hk
    by_cases e : k = n
    · subst e; exact h
    · rw [hAt, ih (by omega)]
theorem hAt_lt {s : SF} {x y : Int32} : ∀ {n k : Nat}, hAt s x y n = some k → k < n := by
  intro n
  induction n with
  | zero => intro k h; cases h
  | succ n ih =>
    intro k h
    rw [hAt] at h
    cases hn : hAt s x y n with
    | some b => rw [hn] at h; cases h; have := ih hn; omega
    | none =>
      rw [hn] at h
      dsimp only at h
      split at h
      · cases h; omega
      · cases h
