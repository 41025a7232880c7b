/-! THE CLASS -/
set_option maxRecDepth 100000
abbrev clE (f dq : Nat) (sv : Option Nat) (sb ln : Nat) (er : Option Nat) (it : Int32) (re : Option Nat) : va_E := eO 0 [.ref f, .ref dq, va_rf sv, .ref sb, .ref ln, va_rf er, .int it, va_rf re]
/-- a question answered: A = (code, value) -/
def QA (h : AH) (A : Ans) : Option Value → AH → Prop := fun v h' => v = some (.int A.2) ∧ sub h h' ∧ A.1 = 0
def XQ (h : AH) (A : Ans) (ex : Int32 → String) : String → Nat → AH → Prop := fun E _ h' => E = ex A.1 ∧ sub h h' ∧ ¬ A.1 = 0
abbrev ex2 (a b : String) : Int32 → String := fun c => if c = 1 then a else b
abbrev ex1 (a : String) : Int32 → String := fun _ => a
theorem XQ.of {h h1 h' : AH} {A : Ans} {ex : Int32 → String} {cls : String} {P : Prop} {E : String} {q : Nat} (hs : sub h h1) (hx : xN cls P h1 E q h') (hA : P → ¬ A.1 = 0 ∧ ex A.1 = cls) : XQ h A ex E q h' := by
  obtain ⟨e1, e2, e3⟩ := hx
  obtain ⟨a1, a2⟩ := hA e3
  exact ⟨by rw [a2]; exact e1, by rw [e2]; exact hs, a1⟩
theorem n1_0 : ¬ (1 : Int32) = 0 := by decide
theorem n2_0 : ¬ (2 : Int32) = 0 := by decide
theorem inR_n {x : Int32} {n : Nat} (hn : n < 2 ^ 20) (h : inR x 0 (nI n) = true) : ∃ j : Nat, j ≤ n ∧ x = nI j := by
  have := (isIx_iff (x := x) (n := n + 1) (by omega)).mp (by
    unfold isIx
    rw [show nI (n + 1) - 1 = nI n from (show nI (n + 1) - nI 1 = _ from pk_sub (by omega))]
    exact h)
  obtain ⟨j, h1, h2⟩ := this
  exact ⟨j, by omega, h2⟩
/-- the strays by number -/
theorem nst_no {s : SF} {u : Int32} : ∀ n, (∀ j, j < strm s n → nI j ≠ u) → nst s u n = none := by
  intro n
  induction n with
  | zero => intro _; rfl
  | succ n ih =>
    intro h
    rw [strm] at h
    rw [nst, ih (fun j hj => h j (by omega))]
    dsimp only
    exact if_neg (fun z => h (strm s n) (by rw [if_pos z.1]; omega) z.2)
theorem nst_at {s : SF} {ls : List Nat} {k : Nat} : ∀ n, n ≤ 18 → k < strm s n → ∃ m, m < n ∧ nst s (nI k) n = some m ∧ (srl s ls n).getD k 0 = ls.getD m 0 := by
  intro n
  induction n with
  | zero => intro _ h; exact absurd h (Nat.not_lt_zero _)
  | succ n ih =>
    intro hn h
    have hl := strm_le s n
    by_cases h1 : k < strm s n
    · obtain ⟨m, m1, m2, m3⟩ := ih (by omega) h1
      refine ⟨m, by omega, by rw [nst, m2], ?_⟩
      rw [srl, List.getD_eq_getElem?_getD, List.getElem?_append_left (by rw [srl_len]; exact h1), ← List.getD_eq_getElem?_getD]
      exact m3
    · rw [strm] at h
      by_cases h2 : stray s n = true
      · rw [if_pos h2] at h
        have ek : k = strm s n := by omega
        refine ⟨n, by omega, ?_, ?_⟩
        · rw [nst, nst_no n (fun j hj z => by have := nI_inj (by omega) (by omega) z; omega)]
          exact if_pos ⟨h2, by rw [ek]⟩
        · rw [srl, if_pos h2]
          exact gD_b (by rw [srl_len]; exact ek)
      · rw [if_neg h2] at h; omega
