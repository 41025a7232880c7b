/-! PURE: what both sides compute, on a row of numbers s as the model has it (0 sheep, 1 huts, 2 rounds, 3 anew, 4 fetched, 5 changed, 6.. dogs, 9.. x, 27.. y, 45.. weights, 63.. to which hut, 81.. huts' x, 87.. huts' y) -/
set_option maxRecDepth 100000
abbrev SF : Type := Nat → Int32
def nS (s : SF) : Nat := (s 0).toNatClampNeg
def nH (s : SF) : Nat := (s 1).toNatClampNeg
def oI : Option Nat → Int32
  | none => -1
  | some j => nI j
def bI (b : Bool) : Int32 := if b = true then 1 else 0
/-- a hut's number, or none -/
def isO (x : Int32) (n : Nat) : Prop := x = -1 ∨ ∃ j : Nat, j < n ∧ x = nI j
def WS (s : SF) : Prop := s 0 = nI (nS s) ∧ nS s ≤ 18 ∧ s 1 = nI (nH s) ∧ nH s ≤ 6
def WO (s : SF) : Prop := (∀ k, k < nS s → isO (s (63 + k)) (nH s)) ∧ ∀ d, d < 3 → isO (s (6 + d)) (nH s)
def WP (s : SF) : Prop := (∀ k, k < nS s → (∃ a : Nat, a ≤ 99 ∧ s (9 + k) = nI a) ∧ (∃ a : Nat, a ≤ 99 ∧ s (27 + k) = nI a) ∧ ∃ w : Nat, 1 ≤ w ∧ w ≤ 9 ∧ s (45 + k) = nI w) ∧ ∀ j, j < nH s → (∃ a : Nat, a ≤ 99 ∧ s (81 + j) = nI a) ∧ ∃ a : Nat, a ≤ 99 ∧ s (87 + j) = nI a
def WF (s : SF) : Prop := WS s ∧ WO s ∧ WP s
/-! distances -/
def fTo (s : SF) (x y : Int32) (j : Nat) : Int32 := (x - s (81 + j)) * (x - s (81 + j)) + (y - s (87 + j)) * (y - s (87 + j))
def far (s : SF) (k j : Nat) : Int32 := fTo s (s (9 + k)) (s (27 + k)) j
def nr (s : SF) (x y : Int32) : Nat → Option Nat
  | 0 => none
  | k + 1 => match nr s x y k with
    | none => some k
    | some b => if fTo s x y k < fTo s x y b then some k else some b
def near (s : SF) (x y : Int32) : Option Nat := nr s x y (nH s)
def nearO (s : SF) (k : Nat) : Option Nat := near s (s (9 + k)) (s (27 + k))
def cnt (s : SF) (u : Int32) : Nat → Nat
  | 0 => 0
  | k + 1 => cnt s u k + if s (63 + k) = u then 1 else 0
def wt (s : SF) (u : Int32) : Nat → Int32
  | 0 => 0
  | k + 1 => wt s u k + if s (63 + k) = u then s (45 + k) else 0
def spr (s : SF) (j : Nat) : Nat → Int32
  | 0 => 0
  | k + 1 => spr s j k + if s (63 + k) = nI j then s (45 + k) * far s k j else 0
def sprs (s : SF) : Nat → Int32
  | 0 => 0
  | j + 1 => sprs s j + spr s j (nS s)
/-- the number of a hut, as an index -/
def oN (x : Int32) : Nat := x.toNatClampNeg
def stray (s : SF) (k : Nat) : Bool := match nearO s k with
  | none => false
  | some b => s (63 + k) == -1 || decide (far s k b < far s k (oN (s (63 + k))))
def strm (s : SF) : Nat → Nat
  | 0 => 0
  | k + 1 => strm s k + if stray s k = true then 1 else 0
/-! rounds -/
def msum (s : SF) (u : Int32) (row : Nat) : Nat → Int32
  | 0 => 0
  | k + 1 => msum s u row k + if s (63 + k) = u then s (45 + k) * s (row + k) else 0
def mid (s : SF) (u : Int32) (row : Nat) : Int32 := msum s u row (nS s) / wt s u (nS s)
def bel (s : SF) (k : Nat) (v : Int32) : SF := upd (upd s 5 (s 5 + if s (63 + k) = v then 0 else 1)) (63 + k) v
def g2 (s : SF) : Nat → SF
  | 0 => s
  | k + 1 => bel (g2 s k) k (oI (nearO (g2 s k) k))
def g3s (t : SF) (j : Nat) : SF := if cnt t (nI j) (nS t) = 0 then t else upd (upd t (87 + j) (mid t (nI j) 27)) (81 + j) (mid t (nI j) 9)
def g3 (s : SF) : Nat → SF
  | 0 => s
  | j + 1 => g3s (g3 s j) j
/-- weight times distance, 0 for a sheep without a hut -/
def wfar (s : SF) (k : Nat) : Int32 := if s (63 + k) = -1 then 0 else s (45 + k) * far s k (oN (s (63 + k)))
def ol (s : SF) : Nat → Option Nat × Int32
  | 0 => (none, 0)
  | k + 1 => if (ol s k).2 < wfar s k then (some k, wfar s k) else ol s k
def outl (s : SF) : Option Nat := (ol s (nS s)).1
def g4k (t : SF) (j k : Nat) : SF :=
  let t1 := bel t k (nI j)
  let t2 := upd t1 (81 + j) (t1 (9 + k))
  let t3 := upd t2 (87 + j) (t2 (27 + k))
  upd t3 3 (t3 3 + 1)
def g4s (t : SF) (j : Nat) : SF := if 0 < cnt t (nI j) (nS t) then t else match outl t with
  | none => t
  | some k => g4k t j k
def g4 (s : SF) : Nat → SF
  | 0 => s
  | j + 1 => g4s (g4 s j) j
def ground (s : SF) : SF :=
  let t := g4 (g3 (g2 s (nS s)) (nH s)) (nH s)
  upd t 2 (t 2 + 1)
def mvd (s t : SF) : Nat → Nat
  | 0 => 0
  | j + 1 => mvd s t j + if t (81 + j) = s (81 + j) ∧ t (87 + j) = s (87 + j) then 0 else 1
def sameOf (s t : SF) : Nat → Bool
  | 0 => true
  | k + 1 => sameOf s t k && t (63 + k) == s (63 + k)
def still (s : SF) : Bool := nH s == 0 || (mvd s (ground s) (nH s) == 0 && sameOf s (ground s) 18)
def rnds (s : SF) : Nat → SF
  | 0 => s
  | k + 1 => ground (rnds s k)
/-- rounds until all is still, at most m -/
def toStill (s : SF) : Nat → Nat
  | 0 => 0
  | m + 1 => if still s = true then 0 else toStill (ground s) m + 1
/-! acts: (0: done, > 0: refused, < 0: thrown; the answer or the detail; the row then) -/
abbrev Act : Type := Int32 × Int32 × SF
def inP (x : Int32) : Bool := decide (0 ≤ x) && decide (x ≤ 99)
def inR (x a b : Int32) : Bool := decide (a ≤ x) && decide (x ≤ b)
def comesS (s : SF) (x y w : Int32) : SF :=
  upd (upd (upd (upd (upd s (9 + nS s) x) (27 + nS s) y) (45 + nS s) w) (63 + nS s) (oI (near s x y))) 0 (nI (nS s + 1))
def comesA (s : SF) (x y w : Int32) : Act :=
  if inP x = true ∧ inP y = true ∧ inR w 1 9 = true then if nS s = 18 then (1, 18, s) else (0, nI (nS s), comesS s x y w) else (-1, 0, s)
def hAt (s : SF) (x y : Int32) : Nat → Option Nat
  | 0 => none
  | j + 1 => match hAt s x y j with
    | some b => some b
    | none => if s (81 + j) = x ∧ s (87 + j) = y then some j else none
def hutAt (s : SF) (x y : Int32) : Option Nat := hAt s x y (nH s)
def setsA (s : SF) (x y : Int32) : Act :=
  if inP x = true ∧ inP y = true then match hutAt s x y with
    | some j => (2, nI j, s)
    | none => if nH s = 6 then (1, 6, s) else (0, nI (nH s), upd (upd (upd s (81 + nH s) x) (87 + nH s) y) 1 (nI (nH s + 1)))
  else (-1, 0, s)
def isIx (x : Int32) (n : Nat) : Bool := inR x 0 (nI n - 1)
def goesL (s : SF) (i : Nat) : Nat → SF
  | 0 => s
  | c + 1 =>
    let t := goesL s i c
    let t1 := upd t (9 + (i + c)) (t (9 + (i + c) + 1))
    let t2 := upd t1 (27 + (i + c)) (t1 (27 + (i + c) + 1))
    let t3 := upd t2 (45 + (i + c)) (t2 (45 + (i + c) + 1))
    upd t3 (63 + (i + c)) (t3 (63 + (i + c) + 1))
def goesS (s : SF) (i : Nat) : SF :=
  let t := goesL s i (nS s - 1 - i)
  upd (upd (upd (upd (upd t (9 + (nS s - 1)) 0) (27 + (nS s - 1)) 0) (45 + (nS s - 1)) 0) (63 + (nS s - 1)) 0) 0 (nI (nS s - 1))
def goesA (s : SF) (i : Int32) : Act := if isIx i (nS s) = true then (0, s (63 + oN i), goesS s (oN i)) else (-1, 0, s)
/-- a hut's number when hut j goes -/
def wo (x : Int32) (j : Int32) : Int32 := if x = j then -1 else if j < x then x - 1 else x
def strL1 (s : SF) (j : Int32) : Nat → SF
  | 0 => s
  | k + 1 => upd (strL1 s j k) (63 + k) (wo (strL1 s j k (63 + k)) j)
def strL2 (s : SF) (j : Int32) : Nat → SF
  | 0 => s
  | d + 1 => upd (strL2 s j d) (6 + d) (wo (strL2 s j d (6 + d)) j)
def strL3 (s : SF) (i : Nat) : Nat → SF
  | 0 => s
  | c + 1 =>
    let t := strL3 s i c
    let t1 := upd t (81 + (i + c)) (t (81 + (i + c) + 1))
    upd t1 (87 + (i + c)) (t1 (87 + (i + c) + 1))
def strikesS (s : SF) (i : Nat) : SF :=
  let t := strL3 (strL2 (strL1 s (nI i) (nS s)) (nI i) 3) i (nH s - 1 - i)
  upd (upd (upd t (81 + (nH s - 1)) 0) (87 + (nH s - 1)) 0) 1 (nI (nH s - 1))
def strikesA (s : SF) (i : Int32) : Act := if isIx i (nH s) = true then (0, nI (cnt s i (nS s)), strikesS s (oN i)) else (-1, 0, s)
def movesA (s : SF) (i x y : Int32) : Act :=
  if isIx i (nH s) = true then if inP x = true ∧ inP y = true then match hutAt s x y with
    | some j => (2, nI j, s)
    | none => (0, fTo s x y (oN i), upd (upd s (81 + oN i) x) (87 + oN i) y)
  else (-2, 0, s) else (-1, 0, s)
def weighsA (s : SF) (i w : Int32) : Act :=
  if isIx i (nS s) = true then if inR w 1 9 = true then if s (45 + oN i) = w then (7, w, s) else (0, s (45 + oN i), upd s (45 + oN i) w) else (-2, 0, s) else (-1, 0, s)
def roundsA (s : SF) : Act := if nH s = 0 then (3, nI (nS s), s) else (0, nI (mvd s (ground s) (nH s)), ground s)
def settlesA (s : SF) (m : Int32) : Act :=
  if inR m 1 30 = true then if nH s = 0 then (3, nI (nS s), s) else if still s = true then (4, s 2, s) else (0, nI (toStill s (oN m)), rnds s (toStill s (oN m))) else (-1, 0, s)
def sendsA (s : SF) (d j : Int32) : Act :=
  if inR d 0 2 = true ∧ (isIx j (nH s) = true ∨ j = -1) then if s (6 + oN d) = j then (7, j, s) else (0, s (6 + oN d), upd s (6 + oN d) j) else (-1, 0, s)
/-- the stray that is nearest to hut j -/
def fch (s : SF) (j : Nat) : Nat → Option Nat
  | 0 => none
  | k + 1 => match fch s j k with
    | none => if stray s k = true then some k else none
    | some b => if stray s k = true ∧ far s k j < far s b j then some k else some b
def fetchesA (s : SF) (d : Int32) : Act :=
  if inR d 0 2 = true then if s (6 + oN d) = -1 then (5, d, s) else match fch s (oN (s (6 + oN d))) (nS s) with
    | none => (6, nI (nS s), s)
    | some k => (0, nI k, upd (upd s (63 + k) (oI (nearO s k))) 4 (s 4 + 1))
  else (-1, 0, s)
/-! small facts -/
theorem upd_s (f : SF) (k : Nat) (x : Int32) : upd f k x k = x := by simp [upd]
theorem upd_n {f : SF} {k j : Nat} {x : Int32} (h : j ≠ k) : upd f k x j = f j := by simp [upd, h]
theorem bI_t {b : Bool} (h : b = true) : bI b = 1 := by simp [bI, h]
theorem bI_f {b : Bool} (h : b = false) : bI b = 0 := by simp [bI, h]
theorem narrow_bI (b : Bool) : narrow .boolean (.int (bI b)) = .int (bI b) := by cases b <;> rfl
theorem bI_0 (b : Bool) : bI b = 0 ↔ b = false := by cases b <;> decide
theorem bI_n0 {b : Bool} (h : ¬ bI b = 0) : b = true := by
  cases b
  · exact absurd rfl h
  · rfl
theorem inR_iff (x a b : Int32) : inR x a b = true ↔ a ≤ x ∧ x ≤ b := by simp [inR]
theorem inP_iff (x : Int32) : inP x = true ↔ 0 ≤ x ∧ x ≤ 99 := by simp [inP]
theorem oN_nI {j : Nat} (h : j < 2 ^ 31) : oN (nI j) = j := nI_clamp h
theorem ne_m1 {j : Nat} (h : j < 2 ^ 31) : nI j ≠ -1 := by
  intro e
  have h1 := congrArg Int32.toInt e
  rw [nI_toInt h] at h1
  have h2 : (-1 : Int32).toInt = -1 := by decide
  omega
theorem nI_inj {a b : Nat} (ha : a < 2 ^ 31) (hb : b < 2 ^ 31) (e : nI a = nI b) : a = b := (nI_eq ha hb).mp e
theorem oI_m1 {o : Option Nat} (h : ∀ j, o = some j → j < 2 ^ 31) : oI o = -1 ↔ o = none := by
  cases o with
  | none => simp [oI]
  | some j => simp [oI, ne_m1 (h j rfl)]
theorem isIx_iff {x : Int32} {n : Nat} (hn : n < 2 ^ 30) : isIx x n = true ↔ ∃ j : Nat, j < n ∧ x = nI j := by
  unfold isIx
  rw [inR_iff]
  have h1 : (nI n - 1).toInt = (n : Int) - 1 := by
    have := pk_sub_toInt (a := n) (b := 1) hn (by decide)
    exact this
  constructor
  · rintro ⟨a, b⟩
    obtain ⟨j, hj, rfl⟩ := nI_of (x := x) (by intro h; exact absurd a (by rw [Int32.not_le]; exact h))
    refine ⟨j, ?_, rfl⟩
    rw [Int32.le_iff_toInt_le, h1, nI_toInt hj] at b
    omega
  · rintro ⟨j, hj, rfl⟩
    have hj' : j < 2 ^ 31 := by omega
    refine ⟨nI_pos' hj', ?_⟩
    rw [Int32.le_iff_toInt_le, h1, nI_toInt hj']
    omega
theorem isO.ix {x : Int32} {n : Nat} (h : isO x n) (hx : x ≠ -1) : ∃ j : Nat, j < n ∧ x = nI j := h.resolve_left hx
theorem nr_lt {s : SF} {x y : Int32} : ∀ {k b : Nat}, nr s x y k = some b → b < k := by
  intro k
  induction k with
  | zero => intro b h; cases h
  | succ k ih =>
    intro b h
    rw [nr] at h
    cases hn : nr s x y k with
    | none => rw [hn] at h; cases h; omega
    | some c =>
      rw [hn] at h
      have := ih hn
      dsimp only at h
      split at h <;> cases h <;> omega
theorem nr_none {s : SF} {x y : Int32} {k : Nat} : nr s x y k = none ↔ k = 0 := by
  cases k with
  | zero => simp [nr]
  | succ k =>
    simp only [nr]
    cases nr s x y k with
    | none => simp
    | some c =>
      dsimp only
      split <;> simp
theorem cnt_le (s : SF) (u : Int32) : ∀ n, cnt s u n ≤ n := by
  intro n
  induction n with
  | zero => exact Nat.le_refl _
  | succ n ih => rw [cnt]; split <;> omega
