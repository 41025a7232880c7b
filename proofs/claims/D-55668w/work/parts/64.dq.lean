/-! ARRAYDEQUES -/
set_option maxRecDepth 100000
def dp (hd i : Nat) : Nat := if hd + i < 17 then hd + i else hd + i - 17
/-- the deque at a holds l, its array el, from place hd on -/
def DQ (g : GP) (h : AH) (a el hd : Nat) (l : List Nat) : Prop :=
  h a = some (eO 13 [.ref el, .int (nI hd), .int (nI (dp hd l.length))]) ∧ (∃ f, h el = some (eQ (g.2.1 4) 17 f) ∧ ∀ i, i < l.length → f (dp hd i) = some (l.getD i 0)) ∧ hd < 17 ∧ l.length ≤ 9
theorem dq_sub : ∀ x, x < 17 → ∀ y, y < 17 → (0 ≤ nI x - nI y ↔ y ≤ x) ∧ (y ≤ x → nI x - nI y = nI (x - y)) ∧ (x < y → nI x - nI y + nI 17 = nI (x + 17 - y)) := by decide +kernel
theorem dq_dec : ∀ x, x < 17 → (0 ≤ nI x + Int32.ofInt (-1) ↔ 0 < x) ∧ (0 < x → nI x + Int32.ofInt (-1) = nI (x - 1)) := by decide +kernel
theorem dp_lt {hd i : Nat} (h : hd < 17) (hi : i ≤ 17) : dp hd i < 17 ∨ (hd = 0 ∧ i = 17) := by unfold dp; split <;> omega
theorem dp_lt' {hd i : Nat} (h : hd < 17) (hi : i < 17) : dp hd i < 17 := by unfold dp; split <;> omega
theorem dp_size {hd n : Nat} (h : hd < 17) (hn : n ≤ 9) : (if hd ≤ dp hd n then dp hd n - hd else dp hd n + 17 - hd) = n := by unfold dp; split <;> split <;> omega
theorem dp_s {hd n : Nat} (h : hd < 17) (hn : n ≤ 9) : (if dp hd n + 1 < 17 then dp hd n + 1 else 0) = dp hd (n + 1) := by unfold dp; split <;> split <;> split <;> omega
theorem dp_ne {hd i n : Nat} (h : hd < 17) (hn : n ≤ 9) (hi : i < n) : dp hd i ≠ dp hd n := by unfold dp; split <;> split <;> omega
theorem dp_sh {hd i : Nat} (h : hd < 17) (hi : i ≤ 9) : dp (dp hd 1) i = dp hd (i + 1) := by unfold dp; split <;> split <;> split <;> omega
theorem dp_1 {hd : Nat} (h : hd < 17) : (if hd + 1 < 17 then hd + 1 else 0) = dp hd 1 := by unfold dp; split <;> omega
theorem dp_0 {hd : Nat} (h : hd < 17) : dp hd 0 = hd := by unfold dp; split <;> omega
theorem dp_p {hd n : Nat} (h : hd < 17) (hn : n ≤ 9) : (if 0 < dp hd (n + 1) then dp hd (n + 1) - 1 else 16) = dp hd n := by unfold dp; split <;> split <;> split <;> omega
theorem DQ.hB {g : GP} {h : AH} {a el hd : Nat} {l : List Nat} (hD : DQ g h a el hd l) {U : State} (hK : va_K g.1 allC (gT g) U) (hk : HK g h) : gB g ≤ el := by
  obtain ⟨ha, ⟨f, he, hf⟩, hhd, hl9⟩ := hD
  refine hk.1 el _ he ?_
  have hne9 : (g.2.1 4 == g.2.1 1) = false := by simpa using gT_ne41 hK
  simp only [gold, eQ, hne9]
  decide
theorem DQ.ne {g : GP} {h : AH} {a el hd : Nat} {l : List Nat} (hD : DQ g h a el hd l) : el ≠ a := by
  obtain ⟨ha, ⟨f, he, hf⟩, hhd, hl9⟩ := hD
  exact fun q => by rw [q, ha] at he; cases he
