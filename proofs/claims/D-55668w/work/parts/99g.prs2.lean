/-! THE PARSER, facts: words letter by letter -/
set_option maxRecDepth 100000
/-- where a blank stands among the words -/
def blk : List Nat := [0, 6, 10, 16, 23, 28, 34, 41, 45, 51]
def hasB (l : List Nat) : Bool := blk.any (fun i => occ (ltr 12) (32 :: l) i)
theorem blk_all : ∀ i, i < 52 → (ltr 12).getD i 0 = 32 → i ∈ blk := by decide +kernel
theorem has_B (l : List Nat) : has (ltr 12) (32 :: l) = hasB l := by
  cases hB : hasB l with
  | true =>
    obtain ⟨i, hi, ho⟩ := List.any_eq_true.mp hB
    exact has_t ho
  | false =>
    refine has_f (fun i hi => ?_)
    cases ho : occ (ltr 12) (32 :: l) i with
    | false => rfl
    | true =>
      have h0 := (occ_iff.mp ho).2 0 (Nat.succ_pos _)
      have hm := blk_all i (by rw [ltr12_len] at hi; have : (32 :: l).length = l.length + 1 := rfl; omega) h0
      have := List.any_eq_false.mp hB i hm
      rw [ho] at this
      exact absurd rfl this
/-- the beginning of a word -/
def TRI (l : List Nat) : Prop := ∃ t, t < 12 ∧ 2 ≤ t ∧ t ≠ 7 ∧ l = (ltr t).take l.length
def stepB (t i c : Nat) : Bool := !(nmO ((ltr t).take i) == -1 && hasB ((ltr t).take i ++ [c])) || (List.range 12).any (fun u => decide (2 ≤ u ∧ u ≠ 7) && (ltr u).take (i + 1) == (ltr t).take i ++ [c])
theorem step_ok : ∀ t, t < 12 → 2 ≤ t → t ≠ 7 → ∀ i, i < 7 → ∀ c, c < 128 → stepB t i c = true := by decide +kernel
theorem len_6 : ∀ t, t < 12 → (ltr t).length ≤ 6 := by decide +kernel
theorem TRI.len {l : List Nat} (h : TRI l) : l.length ≤ 6 := by
  obtain ⟨t, h1, h2, h3, e⟩ := h
  have := congrArg List.length e
  rw [List.length_take] at this
  have := len_6 t h1
  omega
theorem TRI.nil : TRI [] := ⟨2, by omega, by omega, by omega, rfl⟩
theorem TRI.up {l : List Nat} {c : Nat} (h : TRI l) (hn : nmO l = -1) (hc : c < 128) (hh : hasB (l ++ [c]) = true) : TRI (l ++ [c]) := by
  have hl := h.len
  obtain ⟨t, h1, h2, h3, e⟩ := h
  have hs := step_ok t h1 h2 h3 l.length (by omega) c hc
  unfold stepB at hs
  rw [← e, hn, hh] at hs
  have hs2 : (List.range 12).any (fun u => decide (2 ≤ u ∧ u ≠ 7) && (ltr u).take (l.length + 1) == l ++ [c]) = true := by simpa using hs
  obtain ⟨u, hu, hu2⟩ := List.any_eq_true.mp hs2
  rw [Bool.and_eq_true] at hu2
  refine ⟨u, List.mem_range.mp hu, (of_decide_eq_true hu2.1).1, (of_decide_eq_true hu2.1).2, ?_⟩
  have e2 := beq_iff_eq.mp hu2.2
  rw [List.length_append]
  exact e2.symm
theorem TRI.asc {l : List Nat} (h : TRI l) : asc l := by
  have hl := h.len
  obtain ⟨t, h1, h2, h3, e⟩ := h
  refine ⟨by omega, fun c hc => ?_⟩
  rw [e] at hc
  exact (asc_ltr t (by omega)).2 c (List.mem_of_mem_take hc)
/-- a word, letter by letter -/
def wrd (s : List Nat) : Nat → List Nat → Nat → Nat × Bool × List Nat
  | 0, l, p => (p, true, l)
  | m + 1, l, p => if nmO l = -1 then (if p < s.length ∧ hasB (l ++ [s.getD p 0]) = true then wrd s m (l ++ [s.getD p 0]) (p + 1) else (p, true, l)) else (p, false, l)
