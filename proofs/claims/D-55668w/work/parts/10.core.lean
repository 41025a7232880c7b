/-! CORE: abstract heaps, and ONE judgement AW over them.
  AH: what is known of the heap, address by address; HP: the heap has it; GG: what of tables, statics, constants holds at a method's start;
  AW g M k n pc L st h: the machine in method M at pc with locals L, operand stack st, a heap that has h, k cells and n slots made, comes to M's end.
  KT: a method's contract (it returns with Post, or throws with XPost). -/
set_option maxRecDepth 100000
abbrev AH : Type := Nat → Option va_E
abbrev GP : Type := va_G × (Nat → ClassId) × Nat × (Nat → Nat)
abbrev MC : Type := Program × Launch × Env × Room × State × MethodId × Array Value × List Frame × Method × Code × (State → Prop)
abbrev Mp (M : MC) : Program := M.1
abbrev Ml (M : MC) : Launch := M.2.1
abbrev Me (M : MC) : Env := M.2.2.1
abbrev MR (M : MC) : Room := M.2.2.2.1
abbrev Ms (M : MC) : State := M.2.2.2.2.1
abbrev Mm (M : MC) : MethodId := M.2.2.2.2.2.1
abbrev Ma (M : MC) : Array Value := M.2.2.2.2.2.2.1
abbrev Mb (M : MC) : List Frame := M.2.2.2.2.2.2.2.1
abbrev Mt (M : MC) : Method := M.2.2.2.2.2.2.2.2.1
abbrev Mc (M : MC) : Code := M.2.2.2.2.2.2.2.2.2.1
abbrev Mq (M : MC) : State → Prop := M.2.2.2.2.2.2.2.2.2.2
abbrev eI (c : ClassId) (n : Nat) (f : Nat → Int32) : va_E := .inl (c, n, .inl f)
abbrev eL (c : ClassId) (n : Nat) (f : Nat → Int64) : va_E := .inl (c, n, .inr (.inl f))
abbrev eD (c : ClassId) (n : Nat) (f : Nat → UInt64) : va_E := .inl (c, n, .inr (.inr (.inr (.inl f))))
abbrev eQ (c : ClassId) (n : Nat) (f : Nat → Option Nat) : va_E := .inl (c, n, .inr (.inr (.inr (.inr f))))
abbrev eO (ci : Nat) (fs : List Value) : va_E := .inr (ci, fs)
def hset (h : AH) (a : Nat) (e : va_E) : AH := fun q => if q = a then some e else h q
theorem hset_s (h : AH) (a : Nat) (e : va_E) : hset h a e a = some e := by simp [hset]
theorem hset_n {h : AH} {a q : Nat} {e : va_E} (n : q ≠ a) : hset h a e q = h q := by simp [hset, n]
def HP (D : va_G) (cl : List vw_C) (h : AH) (H : Heap) : Prop := ∀ (a : Nat) (e : va_E), h a = some e → va_at D cl (a, e) H
theorem HP.lt {D : va_G} {cl : List vw_C} {h : AH} {H : Heap} (hH : HP D cl h H) {a : Nat} {e : va_E} (ha : h a = some e) : a < H.size := (hH a e ha).lt
theorem HP.set {D : va_G} {cl : List vw_C} {h : AH} {H H1 : Heap} {a : Nat} {e : va_E} (hH : HP D cl h H) (he : va_at D cl (a, e) H1) (oq : ∀ q : Nat, q ≠ a → H1[q]? = H[q]?) : HP D cl (hset h a e) H1 := by
  intro b f hb
  by_cases hba : b = a
  · subst hba
    rw [hset_s] at hb
    cases hb
    exact he
  · rw [hset_n hba] at hb
    exact (hH b f hb).kept (oq b hba)
theorem HP.kept {D : va_G} {cl : List vw_C} {h : AH} {H H1 : Heap} (hH : HP D cl h H) (oq : ∀ q : Nat, q < H.size → H1[q]? = H[q]?) : HP D cl h H1 := fun b f hb => (hH b f hb).kept (oq b (hH.lt hb))
theorem HP.fresh {D : va_G} {cl : List vw_C} {h : AH} {H : Heap} (hH : HP D cl h H) : h H.size = none := by
  cases hq : h H.size with
  | none => rfl
  | some e => exact absurd (hH.lt hq) (Nat.lt_irrefl _)
theorem HP.push {D : va_G} {cl : List vw_C} {h : AH} {H H1 : Heap} {e : va_E} (hH : HP D cl h H) (he : va_at D cl (H.size, e) H1) (oq : ∀ q : Nat, q < H.size → H1[q]? = H[q]?) : HP D cl (hset h H.size e) H1 := by
  intro b f hb
  by_cases hba : b = H.size
  · subst hba
    rw [hset_s] at hb
    cases hb
    exact he
  · rw [hset_n hba] at hb
    exact (hH b f hb).kept (oq b (hH.lt hb))
theorem HP.mono {D : va_G} {cl : List vw_C} {h h1 : AH} {H : Heap} (hH : HP D cl h H) (hm : ∀ a e, h1 a = some e → h a = some e) : HP D cl h1 H := fun a e ha => hH a e (hm a e ha)
/-! the locals: place by place, 'none' where nothing is known -/
def lvo (ls : Array Slot) (L : List (Option Value)) : Prop := ls.size = L.length ∧ lv_wf ls ∧ ∀ (i : Nat) (v : Value), L[i]? = some (some v) → ls[i]? = some (.val v)
def lok (L : List (Option Value)) : Nat → Bool
  | 0 => true
  | j + 1 => match L[j]? with
    | some (some w) => w.category == 1
    | _ => true
theorem lvo.at {ls : Array Slot} {L : List (Option Value)} (h : lvo ls L) {i : Nat} {v : Value} (hi : L[i]? = some (some v)) : ls[i]? = some (.val v) := h.2.2 i v hi
def lv_l : Nat → List (Option Value) → List (Nat × Value)
  | _, [] => []
  | i, none :: r => lv_l (i + 1) r
  | i, some v :: r => (i, v) :: lv_l (i + 1) r
theorem lv_l_mem {L : List (Option Value)} : ∀ {b : Nat} {q : Nat × Value}, q ∈ lv_l b L ↔ ∃ i, q.1 = b + i ∧ L[i]? = some (some q.2) := by
  induction L with
  | nil => intro b q; simp [lv_l]
  | cons x r ih =>
    intro b q
    cases x with
    | none =>
      rw [lv_l, ih]
      constructor
      · rintro ⟨i, h1, h2⟩
        exact ⟨i + 1, by omega, by simpa using h2⟩
      · rintro ⟨i, h1, h2⟩
        cases i with
        | zero => simp at h2
        | succ i => exact ⟨i, by omega, by simpa using h2⟩
    | some v =>
      rw [lv_l, List.mem_cons, ih]
      constructor
      · rintro (rfl | ⟨i, h1, h2⟩)
        · exact ⟨0, by simp, by simp⟩
        · exact ⟨i + 1, by omega, by simpa using h2⟩
      · rintro ⟨i, h1, h2⟩
        cases i with
        | zero =>
          left
          obtain ⟨q1, q2⟩ := q
          simp at h1 h2
          rw [h1, h2]
        | succ i => exact Or.inr ⟨i, by omega, by simpa using h2⟩
theorem lvo.has {ls : Array Slot} {L : List (Option Value)} (h : lvo ls L) : lv_has ls L.length (lv_l 0 L) := by
  refine ⟨h.1, h.2.1, fun q hq => ?_⟩
  obtain ⟨i, h1, h2⟩ := lv_l_mem.mp hq
  have : q.1 = i := by omega
  rw [this]
  exact h.2.2 i _ h2
theorem lvo.st1 {ls' : Array Slot} {L : List (Option Value)} {i : Nat} {v : Value} (hk : lok L i = true) (hi : i < L.length) (h : lv_has ls' L.length ((i, v) :: (lv_l 0 L).filter (fun q => !(q.1 == i) && !(q.1 + 1 == i && q.2.category == 2)))) : lvo ls' (L.set i (some v)) := by
  refine ⟨by rw [h.1, List.length_set], h.2.1, fun j w hj => ?_⟩
  by_cases hji : j = i
  · subst hji
    rw [List.getElem?_set_self hi] at hj
    have hj := Option.some.inj (Option.some.inj hj)
    subst hj
    exact h.2.2 (j, v) List.mem_cons_self
  · rw [List.getElem?_set_ne (Ne.symm hji)] at hj
    refine h.2.2 (j, w) (List.mem_cons_of_mem _ (List.mem_filter.mpr ⟨lv_l_mem.mpr ⟨j, by simp, hj⟩, ?_⟩))
    have h1 : (j == i) = false := by simpa using hji
    simp only [h1, Bool.not_false, Bool.true_and, Bool.not_eq_true', Bool.and_eq_false_iff]
    by_cases h2 : j + 1 = i
    · right
      subst h2
      simp only [lok, hj] at hk
      have : w.category = 1 := by simpa using hk
      simp [this]
    · left
      simpa using h2
theorem lvo.st2 {ls' : Array Slot} {L : List (Option Value)} {i : Nat} {v : Value} (hk : lok L i = true) (hi : i + 1 < L.length) (h : lv_has ls' L.length ((i, v) :: (lv_l 0 L).filter (fun q => !(q.1 == i) && (!(q.1 == i + 1) && !(q.1 + 1 == i && q.2.category == 2))))) : lvo ls' ((L.set i (some v)).set (i + 1) none) := by
  refine ⟨by rw [h.1, List.length_set, List.length_set], h.2.1, fun j w hj => ?_⟩
  by_cases hj1 : j = i + 1
  · subst hj1
    rw [List.getElem?_set_self (by rw [List.length_set]; exact hi)] at hj
    cases hj
  rw [List.getElem?_set_ne (Ne.symm hj1)] at hj
  by_cases hji : j = i
  · subst hji
    rw [List.getElem?_set_self (by omega)] at hj
    have hj := Option.some.inj (Option.some.inj hj)
    subst hj
    exact h.2.2 (j, v) List.mem_cons_self
  · rw [List.getElem?_set_ne (Ne.symm hji)] at hj
    refine h.2.2 (j, w) (List.mem_cons_of_mem _ (List.mem_filter.mpr ⟨lv_l_mem.mpr ⟨j, by simp, hj⟩, ?_⟩))
    have h1 : (j == i) = false := by simpa using hji
    have h3 : (j == i + 1) = false := by simpa using hj1
    simp only [h1, h3, Bool.not_false, Bool.true_and, Bool.not_eq_true', Bool.and_eq_false_iff]
    by_cases h2 : j + 1 = i
    · right
      subst h2
      simp only [lok, hj] at hk
      have : w.category = 1 := by simpa using hk
      simp [this]
    · left
      simpa using h2
/-- fewer known locals -/
def lle : List (Option Value) → List (Option Value) → Prop
  | [], [] => True
  | none :: a, _ :: b => lle a b
  | some v :: a, x :: b => x = some v ∧ lle a b
  | _, _ => False
theorem lle.at : ∀ {A B : List (Option Value)}, lle A B → A.length = B.length ∧ ∀ (i : Nat) (v : Value), A[i]? = some (some v) → B[i]? = some (some v)
  | [], [], _ => ⟨rfl, fun i v h => by simp at h⟩
  | none :: a, x :: b, h => by
    obtain ⟨h1, h2⟩ := lle.at (A := a) (B := b) h
    refine ⟨by simp [h1], fun i v hi => ?_⟩
    cases i with
    | zero => simp at hi
    | succ i => simpa using h2 i v (by simpa using hi)
  | some w :: a, x :: b, h => by
    obtain ⟨h1, h2⟩ := lle.at (A := a) (B := b) h.2
    refine ⟨by simp [h1], fun i v hi => ?_⟩
    cases i with
    | zero =>
      have hx : x = some w := h.1
      simp at hi
      subst hi
      simp [hx]
    | succ i => simpa using h2 i v (by simpa using hi)
  | none :: _, [], h => by cases h
  | some _ :: _, [], h => by cases h
  | [], _ :: _, h => by cases h
theorem lvo.sub {ls : Array Slot} {A B : List (Option Value)} (h : lvo ls B) (hl : lle A B) : lvo ls A := ⟨by rw [h.1, hl.at.1], h.2.1, fun i v hi => h.2.2 i v (hl.at.2 i v hi)⟩
/-- the locals at a method's entry -/
def lvE (av : List Value) (n : Nat) : List (Option Value) := (av.flatMap fun v => if v.category = 2 then [some v, none] else [some v]) ++ List.replicate (n - (lg_sl av).length) none
theorem lvE_len (av : List Value) : (av.flatMap fun v => if v.category = 2 then [some v, none] else [some v]).length = (lg_sl av).length := by
  unfold lg_sl
  induction av with
  | nil => rfl
  | cons v r ih =>
    simp only [List.flatMap_cons, List.length_append, ih]
    split <;> rfl
theorem lvE_args (av : List Value) : ∀ (b i : Nat) (v : Value), (av.flatMap fun v => if v.category = 2 then [some v, none] else [some v])[i]? = some (some v) → (b + i, v) ∈ lv_args b av := by
  induction av with
  | nil => intro b i v h; simp at h
  | cons w r ih =>
    intro b i v h
    rw [List.flatMap_cons] at h
    unfold lv_args
    by_cases hc : w.category = 2
    · rw [if_pos hc] at h ⊢
      cases i with
      | zero =>
        simp at h
        subst h
        exact List.mem_cons_self
      | succ i =>
        cases i with
        | zero => simp at h
        | succ i =>
          refine List.mem_cons_of_mem _ ?_
          have := ih (b + 2) i v (by simpa using h)
          rw [show b + (i + 1 + 1) = b + 2 + i by omega]
          exact this
    · rw [if_neg hc] at h ⊢
      cases i with
      | zero =>
        simp at h
        subst h
        exact List.mem_cons_self
      | succ i =>
        refine List.mem_cons_of_mem _ ?_
        have := ih (b + 1) i v (by simpa using h)
        rw [show b + (i + 1) = b + 1 + i by omega]
        exact this
theorem lvo.entry (av : List Value) {n : Nat} (h : (lg_sl av).length ≤ n) : lvo ((lg_sl av ++ List.replicate (n - (lg_sl av).length) Slot.unset).toArray) (lvE av n) := by
  obtain ⟨h1, h2, h3⟩ := lv_entry av h
  refine ⟨?_, h2, fun i v hi => ?_⟩
  · rw [h1, lvE, List.length_append, lvE_len, List.length_replicate]
    omega
  · have hlt : i < (av.flatMap fun v => if v.category = 2 then [some v, none] else [some v]).length := by
      refine Classical.byContradiction fun q => ?_
      rw [lvE, List.getElem?_append_right (Nat.le_of_not_lt q)] at hi
      have := List.eq_of_mem_replicate (List.mem_of_getElem? hi)
      cases this
    rw [lvE, List.getElem?_append_left hlt] at hi
    have := h3 _ (lvE_args av 0 i v hi)
    simpa using this
/-- a promise that says less -/
theorem kt_imp {l : Launch} {x : MethodName} {S : Spec} {P : Array Value → State → Prop} {K : Program → Env → List Frame → State → Array Value → Prop} {Q Q' : Array Value → State → Outcome → State → Prop} (h : MetFree l x S P K Q) (hQ : ∀ a s o t, Q a s o t → Q' a s o t) : MetFree l x S P K Q' := by
  intro p e ha hc hk s m args below hf happ hP hK
  obtain ⟨n, o, h1, h2, h3, h4⟩ := h p e ha hc hk s m args below hf happ hP hK
  exact ⟨n, o, h1, h2, h3, hQ _ _ _ _ h4⟩
theorem dft_vm {C : String} {x y : MethodName} {A A' : Array Value} {u U : State} (hv : u.vm = U.vm) (h : (Cond.landsInDefault C x y).before A u = true) : (Cond.landsInDefault C x y).before A' U = true := by
  simp only [Cond.before, Cond.holds, Cond.value, State.methodFound?, State.methodNamed?, hv] at h ⊢
  exact h
/-! what holds of tables, statics and constants at a method's start -/
def allC : List vw_C := [(RX1, TX1, 8), (RX2, TX2, 7), (RX3, TX3, 26), (RX4, TX4, 4), (RX5, TX5, 2), (RX6, TX6, 2), (RX7, TX7, 8), (RX9, TX9, 2), (RX10, TX10, 2), (RX11, TX11, 2), (RX12, TX12, 2), (RX13, TX13, 7), (RJ2, TJ2, 3), (RJ3, TJ3, 3), (RJ5, TJ5, 4), (RJ6, TJ6, 4), (RJ8, TJ8, 4)]
def gB (g : GP) : Nat := g.2.2.1
def gA (g : GP) : Nat → Prop := fun q => gB g ≤ q
def gT (g : GP) : List (ClassId × FieldType) := [(g.2.1 0, .int), (g.2.1 1, .byte), (g.2.1 2, .long), (g.2.1 3, .double), (g.2.1 4, .object "java/lang/Object")]
def gs (g : GP) (i : Nat) : Nat := g.2.2.2 i
def nestW : Cond → Bool
  | .fieldLinkNest _ _ _ _ _ _ => true
  | .methodLinkNest _ _ _ _ => true
  | .castable _ _ => true
  | .declares _ => true
  | .privateMethod _ => true
  | _ => false
def nP (n d : String) : MethodName := ⟨"FlockHuts$Placed", n, d⟩
def nIt (n d : String) : MethodName := ⟨"java/util/Iterator", n, d⟩
def nSq (n d : String) : MethodName := ⟨"java/lang/CharSequence", n, d⟩
/-- the calls through an interface that are made: receiver's class, what is named, what runs -/
def faces : List (String × MethodName × MethodName) := [(RJ8, nIt "hasNext" "()Z", ⟨RJ8, "hasNext", "()Z"⟩), (RJ8, nIt "next" "()Ljava/lang/Object;", ⟨RJ8, "next", "()Ljava/lang/Object;"⟩),
  (RX11, nIt "hasNext" "()Z", ⟨RX11, "hasNext", "()Z"⟩), (RX11, nIt "next" "()Ljava/lang/Object;", ⟨RX11, "next", "()Ljava/lang/Object;"⟩),
  (RX4, nP "x" "()I", ⟨RX4, "x", "()I"⟩), (RX4, nP "y" "()I", ⟨RX4, "y", "()I"⟩), (RX5, nP "x" "()I", ⟨RX5, "x", "()I"⟩), (RX5, nP "y" "()I", ⟨RX5, "y", "()I"⟩), (RX9, nP "x" "()I", ⟨RX9, "x", "()I"⟩), (RX9, nP "y" "()I", ⟨RX9, "y", "()I"⟩),
  (RJ5, nSq "length" "()I", ⟨RJ5, "length", "()I"⟩), (RJ5, nSq "charAt" "(I)C", ⟨RJ5, "charAt", "(I)C"⟩), (RJ6, nSq "toString" "()Ljava/lang/String;", ⟨RJ6, "toString", "()Ljava/lang/String;"⟩)]
/-- the calls that land in a default method of an interface -/
def dfts : List (String × MethodName × MethodName) := [(RX4, nP "distance" "(LFlockHuts$Placed;)I", nP "distance" "(LFlockHuts$Placed;)I"), (RX5, nP "distance" "(LFlockHuts$Placed;)I", nP "distance" "(LFlockHuts$Placed;)I"), (RX9, nP "distance" "(LFlockHuts$Placed;)I", nP "distance" "(LFlockHuts$Placed;)I"),
  (RX4, ⟨RX4, "distance", "(LFlockHuts$Placed;)I"⟩, nP "distance" "(LFlockHuts$Placed;)I"), (RX5, ⟨RX5, "distance", "(LFlockHuts$Placed;)I"⟩, nP "distance" "(LFlockHuts$Placed;)I"), (RX5, ⟨RX5, "isAt", "(LFlockHuts$Placed;)Z"⟩, nP "isAt" "(LFlockHuts$Placed;)Z")]
def nDist : MethodName := nP "distance" "(LFlockHuts$Placed;)I"
def nIsAt : MethodName := nP "isAt" "(LFlockHuts$Placed;)Z"
/-- pairs of classes that aren't castable: what an exception passes by -/
def ncs : List (String × String) := [("java/lang/IndexOutOfBoundsException", "FlockHuts$Refused"), ("java/lang/IllegalArgumentException", "FlockHuts$Refused"), ("java/lang/IndexOutOfBoundsException", "java/lang/IllegalArgumentException"), ("java/lang/UnsupportedOperationException", "java/lang/IllegalArgumentException"), ("java/lang/UnsupportedOperationException", "java/lang/IndexOutOfBoundsException"), ("java/lang/IllegalArgumentException", "java/lang/IndexOutOfBoundsException"), ("java/util/NoSuchElementException", "java/lang/IllegalArgumentException"), ("java/lang/IllegalStateException", "java/lang/IllegalArgumentException")]
/-- the texts of the String constants -/
def txt : Nat → String
  | 0 => ""
  | 1 => "-"
  | 2 => "sheep"
  | 3 => "hut"
  | 4 => "leave"
  | 5 => "strike"
  | 6 => "move"
  | 7 => "weigh"
  | 8 => "round"
  | 9 => "settle"
  | 10 => "dog"
  | 11 => "fetch"
  | 12 => " sheep hut leave strike move round settle dog fetch "
  | _ => " "
/-- their letters -/
def ltr (t : Nat) : List Nat := (txt t).toList.map Char.toNat
/-- where they are loaded: class, pool entry, which text -/
def strT : List (String × Nat × Nat) := [("FlockHuts", 55, 0), ("FlockHuts$Field", 260, 1), ("FlockHuts$Field", 262, 0), ("FlockHuts", 113, 2), ("FlockHuts$Order", 25, 2), ("FlockHuts$Order", 31, 3), ("FlockHuts$Order", 33, 4), ("FlockHuts$Order", 35, 5), ("FlockHuts$Order", 37, 6), ("FlockHuts$Order", 39, 7), ("FlockHuts$Order", 41, 8), ("FlockHuts$Order", 43, 9), ("FlockHuts$Order", 45, 10),
  ("FlockHuts", 118, 3), ("FlockHuts", 120, 4), ("FlockHuts", 122, 5), ("FlockHuts", 124, 6), ("FlockHuts", 126, 7), ("FlockHuts", 201, 8), ("FlockHuts", 203, 9), ("FlockHuts", 241, 10), ("FlockHuts", 243, 11), ("FlockHuts$Parser", 46, 0), ("FlockHuts$Order", 75, 11), ("FlockHuts$Parser", 68, 1), ("FlockHuts$Order", 76, 12), ("FlockHuts$Order", 81, 13),
  ("FlockHutsModel", 252, 5), ("FlockHutsModel", 258, 9), ("FlockHutsModel", 260, 2), ("FlockHutsModel", 265, 3), ("FlockHutsModel", 267, 4), ("FlockHutsModel", 269, 6), ("FlockHutsModel", 271, 8), ("FlockHutsModel", 273, 10), ("FlockHutsModel", 275, 11)]
/-- a String's hash, as an int -/
def shash : List Nat → Int32
  | l => l.foldl (fun a c => 31 * a + Int32.ofNat c) 0
def sCh (l : List Nat) : Nat → Int32 := fun j => sb_b (l.getD j 0)
def dTens : Nat → Int32 := fun j => sb_b (48 + j / 10)
def dOnes : Nat → Int32 := fun j => sb_b (48 + j % 10)
/-- entries that may stand among the old cells -/
def gold (g : GP) : va_E → Bool
  | .inl (c, n, _) => c == g.2.1 1 || n == 0
  | .inr (ci, _) => ci == 15
def KC (g : GP) (h : AH) : Prop :=
  (∀ t : Nat, t < 14 → h (gs g (10 + t)) = some (eO 15 [.ref (gs g (40 + t)), .int 0, .int (shash (ltr t)), .int (if t = 0 then 1 else 0)]) ∧ h (gs g (40 + t)) = some (eI (g.2.1 1) (ltr t).length (sCh (ltr t)))) ∧
  h (gs g 0) = some (eQ (g.2.1 4) 0 (fun _ => none)) ∧ h (gs g 1) = some (eI (g.2.1 1) 100 dTens) ∧ h (gs g 2) = some (eI (g.2.1 1) 100 dOnes)
def HK (g : GP) (h : AH) : Prop := (∀ (a : Nat) (e : va_E), h a = some e → gold g e = false → gB g ≤ a) ∧ KC g h
def HW (g : GP) (h : AH) (H : Heap) : Prop := HP g.1 allC h H ∧ HK g h
theorem KC.at {g : GP} {h h1 : AH} (hk : KC g h) (hs : ∀ i : Nat, i < 60 → gs g i < gB g) (hq : ∀ q : Nat, q < gB g → h1 q = h q) : KC g h1 := by
  obtain ⟨k1, k2, k3, k4⟩ := hk
  refine ⟨fun t ht => ?_, ?_, ?_, ?_⟩
  · rw [hq _ (hs _ (by omega)), hq _ (hs _ (by omega))]
    exact k1 t ht
  · rw [hq _ (hs _ (by omega))]; exact k2
  · rw [hq _ (hs _ (by omega))]; exact k3
  · rw [hq _ (hs _ (by omega))]; exact k4
theorem HK.set {g : GP} {h : AH} {a : Nat} {e : va_E} (hk : HK g h) (hs : ∀ i : Nat, i < 60 → gs g i < gB g) (ha : gB g ≤ a) : HK g (hset h a e) := by
  refine ⟨fun b f hb hg => ?_, hk.2.at hs fun q hq => hset_n (by omega)⟩
  by_cases hba : b = a
  · rw [hba]; exact ha
  · rw [hset_n hba] at hb
    exact hk.1 b f hb hg
/-- the world of tables and statics -/
def GG (g : GP) (U : State) (H : Heap) : Prop :=
  va_K g.1 allC (gT g) U ∧ (∀ w ∈ lw_tbl, nestW w = true → va_Nw w U) ∧ (∀ t ∈ faces, va_Fw t.1 t.2.1 t.2.2 U) ∧
  (∀ w ∈ defaultWords_1, goodWord w = true → va_Nw w U) ∧ (∀ t ∈ dfts, (Cond.landsInDefault t.1 t.2.1 t.2.2).before #[] U = true) ∧
  ((Cond.interfaceMethod "FlockHuts$Placed" "FlockHuts$Placed" "distance" "(LFlockHuts$Placed;)I").before #[] U = true ∧ (Cond.publicMethod nDist).before #[] U = true) ∧
  (∀ t ∈ ncs, va_Nc t.1 t.2 U) ∧ va_AO "java/lang/Object" U ∧ (∀ t ∈ strT, vk_R t.1 t.2.1 (txt t.2.2) (gs g (10 + t.2.2)) U) ∧ va_Mi "[Ljava/lang/Object;" (gs g 3) U ∧ va_Dc U ∧
  (va_Z "java/util/ArrayList" "DEFAULTCAPACITY_EMPTY_ELEMENTDATA" "[Ljava/lang/Object;" (.ref (gs g 0)) (gA g) U H ∧ va_Z "java/lang/Integer" "DigitTens" "[B" (.ref (gs g 1)) (gA g) U H ∧ va_Z "java/lang/Integer" "DigitOnes" "[B" (.ref (gs g 2)) (gA g) U H ∧ va_Z "java/lang/String" "COMPACT_STRINGS" "Z" (.int 1) (gA g) U H ∧ va_Zq "jdk/internal/util/Preconditions" "SIOOBE_FORMATTER" "Ljava/util/function/BiFunction;" (gA g) U H ∧ vx_Zq Bundle.tN "UNASSIGNED_STACK" Bundle.steD (gA g) U H ∧ vx_Zq Bundle.tN "SUPPRESSED_SENTINEL" Bundle.listD (gA g) U H) ∧
  gB g ≤ H.size ∧ (∀ i : Nat, i < 60 → gs g i < gB g)
theorem nestW_warm {w : Cond} (hw : nestW w = true) {s U : State} (hW : s.WarmedH U.vm) (h : va_Nw w s) : va_Nw w U := by
  cases w with
  | fieldLinkNest a i b n d ho => exact va_Nw.warmF hW h
  | methodLinkNest a i x ho => exact va_Nw.warmM hW h
  | castable C T => exact va_Nw.warmC hW h
  | declares x => exact va_Nw.warmD hW h
  | privateMethod x => exact va_tabs rfl (rfl : (s.setVm U.vm).vm = U.vm) (by rw [Cond.privateMethod_setVm hW.alike]; exact h)
  | _ => cases hw
theorem nestW_on {w : Cond} (hw : nestW w = true) : w.onTables = true := by
  cases w with
  | fieldLinkNest a i b n d ho => rfl
  | methodLinkNest a i x ho => rfl
  | castable C T => rfl
  | declares x => rfl
  | privateMethod x => rfl
  | _ => cases hw
theorem faces_ok : ∀ t ∈ faces, t.2.1.cls ≠ "java/lang/invoke/MethodHandle" ∧ t.2.1.cls ≠ "java/lang/invoke/VarHandle" := by decide +kernel
theorem dft_warm {C : String} {x y : MethodName} {s U : State} (hW : s.WarmedH U.vm) (h : (Cond.landsInDefault C x y).before #[] s = true) : (Cond.landsInDefault C x y).before #[] U = true :=
  dft_vm (u := s.setVm U.vm) (A := #[]) rfl (by rw [Cond.landsInDefault_setVm (args := #[]) hW.alike (State.methodFound?_setVm hW.alike _ _ _)]; exact h)
theorem GG.warm {g : GP} {s U : State} {H : Heap} (hW : s.WarmedH U.vm) (h : GG g s H) : GG g U H := by
  obtain ⟨h1, h2, h3, h4, h5, ⟨h6, h6'⟩, h7, h8, h9, h10, h11, ⟨z1, z2, z3, z4, z5, z6, z7⟩, h13⟩ := h
  have hal := hW.alike
  have tr : ∀ {c : Cond}, c.onTables = true → c.before #[] (s.setVm U.vm) = true → c.before #[] U = true := fun hc h => va_tabs hc (rfl : (s.setVm U.vm).vm = U.vm) h
  refine ⟨va_K.moved hal h1, fun w hw hn => nestW_warm hn hW (h2 w hw hn), fun t ht => (h3 t ht).moved (faces_ok t ht) hal, fun w hw hg => word_at hW (good_of_word hg) (h4 w hw hg), fun t ht => dft_warm hW (h5 t ht), ⟨?_, tr rfl (by rw [Cond.publicMethod_setVm hal]; exact h6')⟩, fun t ht => (h7 t ht).moved hal, h8.moved hal, fun t ht => (h9 t ht).warm hW, h10.moved hal, h11.moved hal, ⟨z1.moved hal, z2.moved hal, z3.moved hal, z4.moved hal, z5.moved hal, z6.moved hal, z7.moved hal⟩, h13⟩
  obtain ⟨cL, kL, r1, -, -, -, -, hn1⟩ := Cond.interfaceMethod_spec h6
  exact tr rfl (by rw [Cond.interfaceMethod_setVm hal (r := r1) hn1 (by decide)]; exact h6)
theorem GG.same {g : GP} {u U : State} {H : Heap} (hv : u.vm = U.vm) (h : GG g u H) : GG g U H := by
  refine GG.warm (s := u) (U := U) ?_ h
  rw [← hv]
  exact State.WarmedH.refl u
theorem GG.kept {g : GP} {U : State} {H H1 : Heap} (h : GG g U H) (hz : H.size ≤ H1.size) (hq : ∀ q : Nat, q < H.size → ¬ gA g q → H1[q]? = H[q]?) : GG g U H1 := by
  obtain ⟨h1, h2, h3, h4, h5, h6, h7, h8, h9, h10, h11, ⟨z1, z2, z3, z4, z5, z6, z7⟩, hB, hs⟩ := h
  exact ⟨h1, h2, h3, h4, h5, h6, h7, h8, h9, h10, h11, ⟨z1.kept hq, z2.kept hq, z3.kept hq, z4.kept hq, z5.kept hq, z6.kept hq, z7.kept hq⟩, Nat.le_trans hB hz, hs⟩
theorem GG.at {g : GP} {s U : State} {H : Heap} {locs : List Loc} (h : GG g s s.heap) (hS : va_S (gA g) s.heap H locs) (hU : U.heap = H) (hW : s.WarmedH U.vm) : GG g U U.heap := by
  rw [hU]
  exact GG.warm hW (h.kept hS.1 hS.2.1)
theorem GG.K {g : GP} {U : State} {H : Heap} (h : GG g U H) : va_K g.1 allC (gT g) U := h.1
theorem GG.nest {g : GP} {U : State} {H : Heap} (h : GG g U H) {w : Cond} (hw : w ∈ lw_tbl) (hn : nestW w = true) {A : Array Value} : w.before A U = true := va_Nw.use (nestW_on hn) (h.2.1 w hw hn)
theorem GG.nw {g : GP} {U : State} {H : Heap} (h : GG g U H) {w : Cond} (hw : w ∈ lw_tbl) (hn : nestW w = true) : va_Nw w U := h.2.1 w hw hn
theorem GG.ss {g : GP} {U : State} {H : Heap} (h : GG g U H) : ∀ i : Nat, i < 60 → gs g i < gB g := by
  obtain ⟨h1, h2, h3, h4, h5, h6, h7, h8, h9, h10, h11, h12, hB, hs⟩ := h
  exact hs
theorem GG.bz {g : GP} {U : State} {H : Heap} (h : GG g U H) : gB g ≤ H.size := by
  obtain ⟨h1, h2, h3, h4, h5, h6, h7, h8, h9, h10, h11, h12, hB, hs⟩ := h
  exact hB
theorem gT_ne {g : GP} {U : State} (h : va_K g.1 allC (gT g) U) : g.2.1 0 ≠ g.2.1 1 := by
  intro e
  have h0 := (h.2 0 _ rfl).1 0 (fun _ => .null)
  have h1 := (h.2 1 _ rfl).1 0 (fun _ => .null)
  obtain ⟨-, k0, e0, c0, f0⟩ := h0
  obtain ⟨-, k1, e1, c1, f1⟩ := h1
  have e0' : U.vm.classes[g.2.1 0]? = some k0 := e0
  have e1' : U.vm.classes[g.2.1 1]? = some k1 := e1
  rw [e] at e0'
  cases e0'.symm.trans e1'
  have f0' : k0.kind = .array c0 .int := f0
  have f1' : k0.kind = .array c1 .byte := f1
  rw [f0'] at f1'
  cases f1'
