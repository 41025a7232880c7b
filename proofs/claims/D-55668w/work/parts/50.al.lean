/-! ARRAYLISTS -/
set_option maxRecDepth 100000
theorem hset_hset (h : AH) (a : Nat) (e e' : va_E) : hset (hset h a e) a e' = hset h a e' := by
  funext q
  by_cases hq : q = a
  · subst hq; rw [hset_s, hset_s]
  · rw [hset_n hq, hset_n hq, hset_n hq]
/-- the list l of objects at a, in the array ed with cap places -/
def AL (g : GP) (h : AH) (a ed : Nat) (mc : Int32) (cap : Nat) (l : List Nat) : Prop :=
  h a = some (eO 12 [.int mc, .ref ed, .int (nI l.length)]) ∧ (∃ f, h ed = some (eQ (g.2.1 4) cap f) ∧ ∀ i, i < l.length → f i = some (l.getD i 0)) ∧ l.length ≤ cap ∧ cap < 100 ∧ (cap = 0 → ed = gs g 0)
/-- an iterator over the list at a, c places on -/
abbrev itE (c last mc : Int32) (a : Nat) : va_E := eO 16 [.int c, .int last, .int mc, .ref a]
theorem AL.keep {g : GP} {h h' : AH} {a ed : Nat} {mc : Int32} {cap : Nat} {l : List Nat} (b : AL g h a ed mc cap l) (h1 : h' a = h a) (h2 : h' ed = h ed) : AL g h' a ed mc cap l := by
  obtain ⟨b1, ⟨f, b2, b3⟩, b4⟩ := b
  exact ⟨h1.trans b1, ⟨f, h2.trans b2, b3⟩, b4⟩
theorem AL.sub {g : GP} {h h' : AH} {a ed : Nat} {mc : Int32} {cap : Nat} {l : List Nat} (b : AL g h a ed mc cap l) (hs : ∀ x e, h x = some e → h' x = some e) : AL g h' a ed mc cap l := by
  obtain ⟨b1, ⟨f, b2, b3⟩, b4⟩ := b
  exact ⟨hs _ _ b1, ⟨f, hs _ _ b2, b3⟩, b4⟩
/-- objects that an Object array may hold -/
def isOb (h : AH) (x : Nat) : Prop := ∃ (ci : Nat) (fs : List Value) (r : vw_C), h x = some (eO ci fs) ∧ allC[ci]? = some r ∧ Cond.castable r.1 "java/lang/Object" ∈ lw_tbl
theorem gT_ne41 {g : GP} {U : State} (h : va_K g.1 allC (gT g) U) : g.2.1 4 ≠ g.2.1 1 := by
  intro e
  have h0 := (h.2 4 _ rfl).1 0 (fun _ => .null)
  have h1 := (h.2 1 _ rfl).1 0 (fun _ => .null)
  obtain ⟨-, k0, e0, c0, f0⟩ := h0
  obtain ⟨-, k1, e1, c1, f1⟩ := h1
  have e0' : U.vm.classes[g.2.1 4]? = some k0 := e0
  have e1' : U.vm.classes[g.2.1 1]? = some k1 := e1
  rw [e] at e0'
  cases e0'.symm.trans e1'
  have f0' : k0.kind = .array c0 (.object "java/lang/Object") := f0
  have f1' : k0.kind = .array c1 .byte := f1
  rw [f0'] at f1'
  cases f1'
theorem shr1 : ∀ c, c < 100 → nI c >>> ((1 : Int32) &&& 31) = nI (c / 2) := by decide +kernel
/-- x is added: ed' is the list's array then -/
def ADD (g : GP) (h : AH) (a ed : Nat) (mc : Int32) (l : List Nat) (x : Nat) (h' : AH) : Prop :=
  ∃ ed' cap', AL g h' a ed' mc cap' (l ++ [x]) ∧ (ed' = ed ∨ h ed' = none) ∧ ∀ q e, h q = some e → q ≠ a → (q = ed → ed' ≠ ed) → h' q = some e
theorem AL.ne {g : GP} {h : AH} {a ed : Nat} {mc : Int32} {cap : Nat} {l : List Nat} (b : AL g h a ed mc cap l) : ed ≠ a := by
  obtain ⟨b1, ⟨f, b2, b3⟩, b4⟩ := b
  exact fun q => by rw [q, b1] at b2; cases b2
theorem getD_app2 {l : List Nat} {x i : Nat} : (l ++ [x]).getD i 0 = if i < l.length then l.getD i 0 else if i = l.length then x else 0 := by
  rw [List.getD_eq_getElem?_getD, List.getD_eq_getElem?_getD]
  by_cases h : i < l.length
  · rw [if_pos h, List.getElem?_append_left h]
  · rw [if_neg h, List.getElem?_append_right (by omega)]
    by_cases h2 : i = l.length
    · rw [if_pos h2, h2, Nat.sub_self]; rfl
    · rw [if_neg h2, List.getElem?_eq_none (by simp; omega)]; rfl
theorem AL.push {g : GP} {h0 h : AH} {a ed0 ed : Nat} {mc : Int32} {cap : Nat} {l : List Nat} {f : Nat → Option Nat} {x : Nat} (b1 : h a = some (eO 12 [.int mc, .ref ed, .int (nI l.length)])) (b2 : h ed = some (eQ (g.2.1 4) cap f)) (b3 : ∀ i, i < l.length → f i = some (l.getD i 0)) (hlt : l.length < cap) (hc : cap < 100)
    (r1 : ed = ed0 ∨ h0 ed = none) (r2 : ∀ q e, h0 q = some e → q ≠ a → (q = ed0 → ed ≠ ed0) → h q = some e) : ADD g h0 a ed0 mc l x (hset (hset h ed (eQ (g.2.1 4) cap (va_up f l.length (some x)))) a (eO 12 [.int mc, .ref ed, .int (nI (l.length + 1))])) := by
  have hne : ed ≠ a := fun q => by rw [q, b1] at b2; cases b2
  have hlen : (l ++ [x]).length = l.length + 1 := by rw [List.length_append]; rfl
  refine ⟨ed, cap, ⟨by rw [hset_s, hlen], ⟨_, (hset_n hne).trans (hset_s _ _ _), fun i hi => ?_⟩, by omega, hc, fun q => by omega⟩, r1, fun q e hq hqa hqe => ?_⟩
  · rw [hlen] at hi
    rw [getD_app2]
    by_cases h1 : i < l.length
    · rw [if_pos h1, ← b3 i h1]
      simp [va_up, show i ≠ l.length by omega]
    · rw [if_neg h1, if_pos (by omega), show i = l.length by omega]
      simp [va_up]
  · rw [hset_n hqa, hset_n (fun q9 => ?_)]
    · exact r2 q e hq hqa hqe
    · rcases r1 with r1 | r1
      · exact hqe (q9.trans r1) r1
      · rw [q9, r1] at hq; cases hq
