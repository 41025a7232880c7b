/-! ARRAYLISTS, removing: facts -/
set_option maxRecDepth 100000
theorem erase_at {l : List Nat} {i k : Nat} : (l.eraseIdx i).getD k 0 = if k < i then l.getD k 0 else l.getD (k + 1) 0 := by
  rw [List.getD_eq_getElem?_getD, List.getElem?_eraseIdx]
  split
  · rw [List.getD_eq_getElem?_getD]
  · rw [List.getD_eq_getElem?_getD]
theorem erase_len {l : List Nat} {i : Nat} (h : i < l.length) : (l.eraseIdx i).length = l.length - 1 := by
  rw [List.length_eraseIdx]; rw [if_pos h]
/-- the element at i is gone -/
def REM (g : GP) (h : AH) (a ed : Nat) (mc : Int32) (cap : Nat) (l : List Nat) (i : Nat) (h' : AH) : Prop :=
  AL g h' a ed (mc + 1) cap (l.eraseIdx i) ∧ ∀ q, q ≠ a → q ≠ ed → h' q = h q
theorem REM.of {g : GP} {h h1 : AH} {a ed i cap : Nat} {mc : Int32} {l : List Nat} {f : Nat → Option Nat} (hi : i < l.length) (hne : ed ≠ a) (g1 : h1 ed = some (eQ (g.2.1 4) cap f)) (hf : ∀ k, k < l.length - 1 → f k = some ((l.eraseIdx i).getD k 0)) (hq : ∀ q, q ≠ a → q ≠ ed → h1 q = h q) (hc : cap < 100) (hlc : l.length ≤ cap) (h0 : cap = 0 → ed = gs g 0) :
    REM g h a ed mc cap l i (hset (hset h1 a (eO 12 [.int (mc + 1), .ref ed, .int (nI (l.length - 1))])) ed (eQ (g.2.1 4) cap (va_up f (l.length - 1) none))) := by
  refine ⟨⟨by rw [hset_n (Ne.symm hne), hset_s, erase_len hi], ⟨_, hset_s _ _ _, fun k hk => ?_⟩, by rw [erase_len hi]; omega, hc, h0⟩, fun q h1 h2 => by rw [hset_n h2, hset_n h1]; exact hq q h1 h2⟩
  rw [erase_len hi] at hk
  rw [← hf k hk]
  simp [va_up, show k ≠ l.length - 1 by omega]
