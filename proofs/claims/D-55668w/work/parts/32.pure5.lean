/-! PURE 5: texts -/
set_option maxRecDepth 100000
def sh : Nat → Int32
  | 0 => 24
  | i + 1 => sh i + Int32.ofInt (-8)
def byt (u : Int32) (k : Nat) : Int32 := (u.toUInt32 >>> ((sh k).toUInt32 &&& Int32.toUInt32 31)).toInt32 &&& 255
def chs (u : Int32) : Nat → List Int32
  | 0 => []
  | k + 1 => chs u k ++ (if byt u k = 0 then [] else [byt u k])
def okb (u : Int32) : Nat → Bool
  | 0 => true
  | k + 1 => okb u k && (byt u k == 0 || inR (byt u k) 32 126)
theorem sh_neg : ∀ k, k < 5 → (sh k < 0 ↔ k = 4) := by decide
theorem okb_up {u : Int32} {k : Nat} (h : okb u k = false) : ∀ n, k ≤ n → okb u n = false := by
  intro n
  induction n with
  | zero => intro hk; rw [show k = 0 by omega] at h; exact h
  | succ n ih =>
    intro hk
    by_cases e : k = n + 1
    · subst e; exact h
    · rw [okb, ih (by omega)]; rfl
theorem chs_mono {u : Int32} {k : Nat} : ∀ n, k ≤ n → (chs u k).length ≤ (chs u n).length := by
  intro n
  induction n with
  | zero => intro hk; rw [show k = 0 by omega]; exact Nat.le_refl _
  | succ n ih =>
    intro hk
    by_cases e : k = n + 1
    · subst e; exact Nat.le_refl _
    · have := ih (by omega)
      rw [chs, List.length_append]
      omega
theorem chs_le (u : Int32) : ∀ k, (chs u k).length ≤ k := by
  intro k
  induction k with
  | zero => exact Nat.le_refl _
  | succ k ih => rw [chs, List.length_append]; split <;> simp <;> omega
def qApp (S : ST) (u : Int32) : Ans := if okb u 4 = true then if S.text.length + (chs u 4).length ≤ 60 then (0, nI (S.text.length + (chs u 4).length)) else (2, 0) else (1, 0)
def sApp (S : ST) (u : Int32) : ST := if (qApp S u).1 = 0 then S.wText (S.text ++ chs u 4) else S
/-- a number up to 99 in digits -/
def dgt (n : Nat) : List Int32 := (if 9 < n then [nI (48 + n / 10)] else []) ++ [nI (48 + n % 10)]
def mem (s : SF) (j : Nat) : Nat → List Int32
  | 0 => []
  | k + 1 => mem s j k ++ (if s (63 + k) = nI j then (if cnt s (nI j) k = 0 then (58 : Int32) else 44) :: dgt k else [])
def hutL (s : SF) (j : Nat) : List Int32 := (40 : Int32) :: dgt (oN (s (81 + j))) ++ (44 : Int32) :: dgt (oN (s (87 + j))) ++ [41]
def qLine (s : SF) (u : Int32) : Ans := if isIx u (nH s) = true then (0, nI (hutL s (oN u) ++ mem s (oN u) (nS s)).length) else (1, 0)
def sLine (S : ST) (u : Int32) : ST := if isIx u (nH S.row) = true then S.wOut (hutL S.row (oN u) ++ mem S.row (oN u) (nS S.row)) else S
def lin (s : SF) : Nat → List Int32
  | 0 => []
  | k + 1 => lin s k ++ [if s (63 + k) = -1 then 45 else 48 + s (63 + k)]
def qChar (S : ST) (u : Int32) : Ans := if inR u 0 (nI S.out.length - 1) = true then (0, S.out.getD (oN u) 0) else (1, 0)
theorem dgt_len (n : Nat) : (dgt n).length ≤ 2 := by unfold dgt; split <;> simp
theorem mem_len (s : SF) (j : Nat) : ∀ k, (mem s j k).length ≤ 3 * k := by
  intro k
  induction k with
  | zero => exact Nat.le_refl _
  | succ k ih =>
    rw [mem, List.length_append]
    split
    · have := dgt_len k
      simp only [List.length_cons]
      omega
    · simp only [List.length_nil]; omega
theorem hutL_len (s : SF) (j : Nat) : (hutL s j).length ≤ 7 := by
  have h1 := dgt_len (oN (s (81 + j)))
  have h2 := dgt_len (oN (s (87 + j)))
  unfold hutL
  simp only [List.length_append, List.length_cons, List.length_nil, List.cons_append]
  omega
theorem lin_len (s : SF) : ∀ k, (lin s k).length = k := by
  intro k
  induction k with
  | zero => rfl
  | succ k ih => rw [lin, List.length_append, ih]; rfl
theorem i2c_ok : ∀ n, n < 128 → ((nI n).toUInt32 % 65536).toInt32 = nI n ∧ narrow .char (.int (nI n)) = .int (nI n) := by decide +kernel
theorem RM.ch {S : ST} {τ : MS} {l : List Int32} {c : Int32} (h : RM (S.wText l) τ) : RM (S.wText (l ++ [c])) (mv (ma τ 7 (upd (τ.2 7) l.length c)) 3 (nI (l.length + 1))) := by
  refine ⟨h.row, h.kept, h.hist, h.has, h.saved, ?_, ?_, h.outl, h.out, h.fault, h.item, h.why, h.det⟩
  · show nI (l.length + 1) = nI (l ++ [c]).length
    rw [List.length_append]; rfl
  · intro i c' hc
    have hc' : (l ++ [c])[i]? = some c' := hc
    show upd (τ.2 7) l.length c i = c'
    by_cases hi : i < l.length
    · rw [List.getElem?_append_left hi] at hc'
      rw [upd_n (by omega)]
      exact h.text i c' hc'
    · by_cases h0 : i = l.length
      · subst h0
        rw [List.getElem?_append_right (Nat.le_refl _), Nat.sub_self] at hc'
        cases hc'
        exact upd_s _ _ _
      · rw [List.getElem?_eq_none (by simp; omega)] at hc'
        cases hc'
theorem RM.och {S : ST} {τ : MS} {l : List Int32} {c : Int32} (h : RM (S.wOut l) τ) : RM (S.wOut (l ++ [c])) (mv (ma τ 9 (upd (τ.2 9) l.length c)) 4 (nI (l.length + 1))) := by
  refine ⟨h.row, h.kept, h.hist, h.has, h.saved, h.len, h.text, ?_, ?_, h.fault, h.item, h.why, h.det⟩
  · show nI (l.length + 1) = nI (l ++ [c]).length
    rw [List.length_append]; rfl
  · intro i c' hc
    have hc' : (l ++ [c])[i]? = some c' := hc
    show upd (τ.2 9) l.length c i = c'
    by_cases hi : i < l.length
    · rw [List.getElem?_append_left hi] at hc'
      rw [upd_n (by omega)]
      exact h.out i c' hc'
    · by_cases h0 : i = l.length
      · subst h0
        rw [List.getElem?_append_right (Nat.le_refl _), Nat.sub_self] at hc'
        cases hc'
        exact upd_s _ _ _
      · rw [List.getElem?_eq_none (by simp; omega)] at hc'
        cases hc'
theorem RM.o0 {S : ST} {σ : MS} (h : RM S σ) : RM (S.wOut []) (mv σ 4 0) :=
  ⟨h.row, h.kept, h.hist, h.has, h.saved, h.len, h.text, rfl, fun i c hc => (by have hc' : ([] : List Int32)[i]? = some c := hc; cases hc'), h.fault, h.item, h.why, h.det⟩
