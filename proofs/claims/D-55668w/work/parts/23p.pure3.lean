/-! PURE 3: facts of the acts -/
set_option maxRecDepth 100000
theorem nr_eq {s t : SF} (h : ∀ q, 81 ≤ q → t q = s q) (x y : Int32) : ∀ k, nr t x y k = nr s x y k := by
  intro k
  induction k with
  | zero => rfl
  | succ k ih =>
    have e : ∀ b, fTo t x y b = fTo s x y b := fun b => by rw [fTo, fTo, h (81 + b) (by omega), h (87 + b) (by omega)]
    rw [nr, nr, ih]
    simp only [e]
theorem near_eq {s t : SF} (h1 : t 1 = s 1) (h : ∀ q, 81 ≤ q → t q = s q) (x y : Int32) : near t x y = near s x y := by
  rw [near, near, nH_of h1]; exact nr_eq h x y _
theorem nI_p {n : Nat} (h : 0 < n) (hn : n < 2 ^ 30) : nI n - 1 = nI (n - 1) := by
  obtain ⟨m, rfl⟩ : ∃ m, n = m + 1 := ⟨n - 1, by omega⟩
  apply Int32.toInt_inj.mp
  rw [show m + 1 - 1 = m from rfl, nI_toInt (by omega)]
  have := pk_sub_toInt (a := m + 1) (b := 1) hn (by decide)
  have h2 : (nI (m + 1) - 1).toInt = ((m + 1 : Nat) : Int) - (1 : Nat) := this
  rw [h2]
  omega
theorem strL1_n {s : SF} {j : Int32} {q : Nat} : ∀ k, (q < 63 ∨ 63 + k ≤ q) → strL1 s j k q = s q := by
  intro k
  induction k with
  | zero => intro _; rfl
  | succ k ih => intro h; rw [strL1, upd_n (by omega), ih (by omega)]
theorem strL2_n {s : SF} {j : Int32} {q : Nat} : ∀ k, (q < 6 ∨ 6 + k ≤ q) → strL2 s j k q = s q := by
  intro k
  induction k with
  | zero => intro _; rfl
  | succ k ih => intro h; rw [strL2, upd_n (by omega), ih (by omega)]
theorem fch_lt {s : SF} {j : Nat} : ∀ {n k : Nat}, fch s j n = some k → k < n := by
  intro n
  induction n with
  | zero => intro k h; cases h
  | succ n ih =>
    intro k h
    rw [fch] at h
    cases hn : fch s j n with
    | some b =>
      rw [hn] at h
      have := ih hn
      dsimp only at h
      split at h <;> cases h <;> omega
    | none =>
      rw [hn] at h
      dsimp only at h
      split at h <;> cases h
      omega
