/-! PURE 4: what the questions answer: (thrown, value) -/
set_option maxRecDepth 100000
abbrev Ans : Type := Int32 × Int32
def fth (s : SF) (j : Nat) : Nat → Option Nat
  | 0 => none
  | k + 1 => if s (63 + k) = nI j then match fth s j k with
      | none => some k
      | some b => if far s b j < far s k j then some k else some b
    else fth s j k
def dgs (s : SF) (u : Int32) : Nat → Nat
  | 0 => 0
  | d + 1 => dgs s u d + if s (6 + d) = u then 1 else 0
def farO (s : SF) (k : Nat) : Int32 := if s (63 + k) = -1 then -1 else far s k (oN (s (63 + k)))
def qSheep (s : SF) (u f : Int32) : Ans :=
  if isIx u (nS s) = true then
    if f = 0 then (0, s (9 + oN u)) else if f = 1 then (0, s (27 + oN u)) else if f = 2 then (0, s (45 + oN u)) else if f = 3 then (0, s (63 + oN u))
    else if f = 4 then (0, farO s (oN u)) else if f = 5 then (0, oI (nearO s (oN u))) else if f = 6 then (0, bI (stray s (oN u))) else (2, 0)
  else (1, 0)
def qHut (s : SF) (u f : Int32) : Ans :=
  if isIx u (nH s) = true then
    if f = 0 then (0, s (81 + oN u)) else if f = 1 then (0, s (87 + oN u)) else if f = 2 then (0, nI (cnt s u (nS s))) else if f = 3 then (0, wt s u (nS s))
    else if f = 4 then (0, spr s (oN u) (nS s)) else if f = 5 then (0, oI (fth s (oN u) (nS s))) else if f = 6 then (0, nI (dgs s u 3)) else (2, 0)
  else (1, 0)
def qToStill (s : SF) : Int32 := if toStill s 41 ≤ 40 then nI (toStill s 41) else -1
def qAfter (s : SF) (u : Int32) : Ans := if inR u 0 20 = true then if nH s = 0 then (2, 0) else (0, sprs (rnds s (oN u)) (nH s)) else (1, 0)
def fWith (s : SF) (x y : Int32) (k : Nat) : Int32 :=
  let d := (s (9 + k) - x) * (s (9 + k) - x) + (s (27 + k) - y) * (s (27 + k) - y)
  match nearO s k with
  | none => d
  | some b => if far s k b < d then far s k b else d
def swt (s : SF) (x y : Int32) : Nat → Int32
  | 0 => 0
  | k + 1 => swt s x y k + s (45 + k) * fWith s x y k
def qWith (s : SF) (x y : Int32) : Ans := if inP x = true ∧ inP y = true then (0, swt s x y (nS s)) else (1, 0)
def qNear (s : SF) (x y : Int32) : Ans := if inP x = true ∧ inP y = true then if nH s = 0 then (2, 0) else (0, oI (near s x y)) else (1, 0)
def nst (s : SF) (u : Int32) : Nat → Option Nat
  | 0 => none
  | k + 1 => match nst s u k with
    | some b => some b
    | none => if stray s k = true ∧ nI (strm s k) = u then some k else none
def qStray (s : SF) (u : Int32) : Ans := match nst s u (nS s) with
  | none => (1, 0)
  | some k => (0, nI k)
def qDog (s : SF) (u : Int32) : Ans := if inR u 0 2 = true then (0, s (6 + oN u)) else (1, 0)
def qApart (s : SF) (u w : Int32) : Ans := if isIx u (nH s) = true ∧ isIx w (nH s) = true then (0, fTo s (s (81 + oN u)) (s (87 + oN u)) (oN w)) else (1, 0)
def ahead (s : SF) (i j : Nat) : Bool :=
  if wt s (nI i) (nS s) = wt s (nI j) (nS s) then decide (cnt s (nI i) (nS s) < cnt s (nI j) (nS s) ∨ (cnt s (nI i) (nS s) = cnt s (nI j) (nS s) ∧ i < j)) else decide (wt s (nI j) (nS s) < wt s (nI i) (nS s))
def rnk (s : SF) (j : Nat) : Nat → Nat
  | 0 => 0
  | i + 1 => rnk s j i + if i ≠ j ∧ ahead s i j = true then 1 else 0
def rkd (s : SF) (u : Int32) : Nat → Option Nat
  | 0 => none
  | j + 1 => match rkd s u j with
    | some b => some b
    | none => if nI (rnk s j (nH s)) = u then some j else none
def qRanked (s : SF) (u : Int32) : Ans := match rkd s u (nH s) with
  | none => (1, 0)
  | some j => (0, nI j)
def qRight (s : SF) : Bool := !still s || strm s (nS s) == 0
def allW (s : SF) : Nat → Int32
  | 0 => 0
  | k + 1 => allW s k + s (45 + k)
def emp (s : SF) : Nat → Nat
  | 0 => 0
  | j + 1 => emp s j + if cnt s (nI j) (nS s) = 0 then 1 else 0
def fsum (s : SF) : Nat → Int32
  | 0 => 0
  | k + 1 => fsum s k + if s (63 + k) = -1 then 0 else far s k (oN (s (63 + k)))
def fcn (s : SF) : Nat → Nat
  | 0 => 0
  | k + 1 => fcn s k + if s (63 + k) = -1 then 0 else 1
theorem fth_lt {s : SF} {j : Nat} : ∀ {n k : Nat}, fth s j n = some k → k < n := by
  intro n
  induction n with
  | zero => intro k h; cases h
  | succ n ih =>
    intro k h
    rw [fth] at h
    split at h
    · cases hn : fth s j n with
      | some b =>
        rw [hn] at h
        have := ih hn
        dsimp only at h
        split at h <;> cases h <;> omega
      | none => rw [hn] at h; cases h; omega
    · have := ih h; omega
theorem nst_lt {s : SF} {u : Int32} : ∀ {n k : Nat}, nst s u n = some k → k < n := by
  intro n
  induction n with
  | zero => intro k h; cases h
  | succ n ih =>
    intro k h
    rw [nst] at h
    cases hn : nst s u n with
    | some b => rw [hn] at h; cases h; have := ih hn; omega
    | none =>
      rw [hn] at h
      dsimp only at h
      split at h
      · cases h; omega
      · cases h
theorem nst_up {s : SF} {u : Int32} {k : Nat} (h : nst s u (k + 1) = some k) : ∀ n, k < n → nst s u n = some k := by
  intro n
  induction n with
  | zero => intro hk; omega
  | succ n ih =>
    intro hk
    by_cases e : k = n
    · subst e; exact h
    · rw [nst, ih (by omega)]
theorem rkd_up {s : SF} {u : Int32} {k : Nat} (h : rkd s u (k + 1) = some k) : ∀ n, k < n → rkd s u n = some k := by
  intro n
  induction n with
  | zero => intro hk; omega
  | succ n ih =>
    intro hk
    by_cases e : k = n
    · subst e; exact h
    · rw [rkd, ih (by omega)]
theorem rkd_lt {s : SF} {u : Int32} : ∀ {n k : Nat}, rkd s u n = some k → k < n := by
  intro n
  induction n with
  | zero => intro k h; cases h
  | succ n ih =>
    intro k h
    rw [rkd] at h
    cases hn : rkd s u n with
    | some b => rw [hn] at h; cases h; have := ih hn; omega
    | none =>
      rw [hn] at h
      dsimp only at h
      split at h
      · cases h; omega
      · cases h
theorem strm_le (s : SF) : ∀ n, strm s n ≤ n := by
  intro n
  induction n with
  | zero => exact Nat.le_refl _
  | succ n ih => rw [strm]; split <;> omega
theorem rnk_le (s : SF) (j : Nat) : ∀ n, rnk s j n ≤ n := by
  intro n
  induction n with
  | zero => exact Nat.le_refl _
  | succ n ih => rw [rnk]; split <;> omega
theorem emp_le (s : SF) : ∀ n, emp s n ≤ n := by
  intro n
  induction n with
  | zero => exact Nat.le_refl _
  | succ n ih => rw [emp]; split <;> omega
theorem fcn_le (s : SF) : ∀ n, fcn s n ≤ n := by
  intro n
  induction n with
  | zero => exact Nat.le_refl _
  | succ n ih => rw [fcn]; split <;> omega
theorem dgs_le (s : SF) (u : Int32) : ∀ n, dgs s u n ≤ n := by
  intro n
  induction n with
  | zero => exact Nat.le_refl _
  | succ n ih => rw [dgs]; split <;> omega
/-! no NaN -/
def lo64 (n : Nat) : Prop := n % 9223372036854775808 ≤ 9218868437227405312
theorem lo_asm {s : Bool} {e t : Nat} (h : e * 4503599627370496 + t ≤ 9218868437227405312) (ht : t < 4503599627370496) (he : e ≤ 2047) : lo64 (FP.Core.assemble FP.Core.b64 s e t) := by
  have e1 : FP.Core.assemble FP.Core.b64 s e t = (s.toNat * 2048 + e) * 4503599627370496 + t := rfl
  unfold lo64
  rw [e1]
  cases s
  · rw [show Bool.toNat false = 0 from rfl]; omega
  · rw [show Bool.toNat true = 1 from rfl]; omega
theorem lo_bound {s : Bool} {c : Nat} {q : Int} (hc : c < 9007199254740992) : lo64 (FP.Core.encode FP.Core.b64 (FP.Core.bound FP.Core.b64 s c q)) := by
  unfold FP.Core.bound
  split
  · rename_i hq
    have hq' : q ≤ 971 := hq
    unfold FP.Core.encode
    have e1 : FP.Core.b64.tails = 4503599627370496 := by decide +kernel
    have e2 : FP.Core.b64.qmin = -1074 := by decide +kernel
    dsimp only
    rw [e1, e2]
    split
    · exact lo_asm (by omega) (by omega) (by omega)
    · exact lo_asm (by omega) (by omega) (by omega)
  · exact lo_asm (e := 2047) (t := 0) (by omega) (by omega) (by omega)
theorem lo_settle {s : Bool} {c : Nat} {q : Int} : lo64 (FP.Core.encode FP.Core.b64 (FP.Core.settle FP.Core.b64 s c q)) := by
  unfold FP.Core.settle
  split
  · rename_i h
    exact lo_bound h
  · exact lo_bound (by decide +kernel)
theorem lo_ratio {s : Bool} {a b : Nat} {e : Int} : lo64 (FP.Core.encode FP.Core.b64 (FP.Core.roundRatio FP.Core.b64 s a b e)) := by
  unfold FP.Core.roundRatio
  split
  · exact lo_asm (e := 0) (t := 0) (by omega) (by omega) (by omega)
  · exact lo_settle
theorem lo_int (a : Int32) : lo64 (FP.Core.fromInt FP.Core.b64 a.toInt) := lo_ratio
theorem nan_lo {n : Nat} (h : lo64 n) : FP.Core.decode FP.Core.b64 n ≠ .nan := by
  unfold lo64 at h
  unfold FP.Core.decode
  have e1 : FP.Core.fieldE FP.Core.b64 n = n / 4503599627370496 % 2048 := rfl
  have e2 : FP.Core.fieldT FP.Core.b64 n = n % 4503599627370496 := rfl
  have e3 : FP.Core.b64.exps - 1 = 2047 := by decide +kernel
  rw [e1, e2, e3]
  split
  · rename_i hE
    rw [if_pos (by omega)]
    simp
  · split <;> simp
theorem lo_toNat {n : Nat} (h : lo64 n) : lo64 (UInt64.ofNat n).toNat := by
  unfold lo64 at *
  rw [show (UInt64.ofNat n).toNat = n % 18446744073709551616 from UInt64.toNat_ofNat']
  omega
theorem vf_lo {x : UInt64} (h : lo64 x.toNat) : vf_n64 x := by
  unfold vf_n64
  unfold lo64 at h
  rw [UInt64.le_iff_toNat_le, UInt64.toNat_and]
  have h1 : (0x7fffffffffffffff : UInt64).toNat = 2 ^ 63 - 1 := by decide
  have h2 : (0x7ff0000000000000 : UInt64).toNat = 9218868437227405312 := by decide
  rw [h1, h2, Nat.and_two_pow_sub_one_eq_mod]
  exact h
def finNz : FP.Core.Datum → Bool
  | .fin _ c _ => c != 0
  | _ => false
theorem nn64 {a : Int32} {n : Nat} (h0 : 0 < n) (hn : n ≤ 18) : vf_n64 (FP.ddiv (FP.i2d a) (FP.i2d (nI n))) := by
  apply vf_lo
  apply lo_toNat
  unfold FP.Core.div
  have hA : FP.Core.decode FP.Core.b64 (FP.i2d a).toNat ≠ .nan := nan_lo (lo_toNat (lo_int a))
  have hB : ∀ n, n < 19 → 0 < n → finNz (FP.Core.decode FP.Core.b64 (FP.i2d (nI n)).toNat) = true := by decide +kernel
  have hb := hB n (by omega) h0
  cases hx : FP.Core.decode FP.Core.b64 (FP.i2d a).toNat with
  | nan => exact absurd hx hA
  | inf s =>
    cases hy : FP.Core.decode FP.Core.b64 (FP.i2d (nI n)).toNat with
    | nan => rw [hy] at hb; cases hb
    | inf s => rw [hy] at hb; cases hb
    | fin t d r => exact lo_asm (e := 2047) (t := 0) (by omega) (by omega) (by omega)
  | fin s c q =>
    cases hy : FP.Core.decode FP.Core.b64 (FP.i2d (nI n)).toNat with
    | nan => rw [hy] at hb; cases hb
    | inf s => rw [hy] at hb; cases hb
    | fin t d r =>
      rw [hy] at hb
      have hd : d ≠ 0 := by simpa [finNz] using hb
      unfold FP.Core.quotient
      dsimp only
      rw [if_neg hd]
      exact lo_ratio
theorem nn32 {a b : Nat} (ha : a ≤ 18) (h0 : 0 < b) (hb : b ≤ 18) : vf_n32 (FP.fdiv (FP.i2f (nI a)) (FP.i2f (nI b))) ∧ vf_n64 (FP.f2d (FP.fdiv (FP.i2f (nI a)) (FP.i2f (nI b)))) := by
  have h : ∀ a, a < 19 → ∀ b, b < 19 → 0 < b → (FP.fdiv (FP.i2f (nI a)) (FP.i2f (nI b)) &&& 0x7fffffff ≤ 0x7f800000) ∧ FP.f2d (FP.fdiv (FP.i2f (nI a)) (FP.i2f (nI b))) &&& 0x7fffffffffffffff ≤ 0x7ff0000000000000 := by decide +kernel
  exact h a (by omega) b (by omega) h0
