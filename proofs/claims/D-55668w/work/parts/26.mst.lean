/-! THE STATE that both sides stand for, and the model's row for it -/
set_option maxRecDepth 100000
def ST : Type := SF × List SF × Option SF × List Int32 × List Int32 × Option Nat × Option Nat × Int32 × Int32
def ST.row (S : ST) : SF := S.1
def ST.hist (S : ST) : List SF := S.2.1
def ST.saved (S : ST) : Option SF := S.2.2.1
def ST.text (S : ST) : List Int32 := S.2.2.2.1
def ST.out (S : ST) : List Int32 := S.2.2.2.2.1
def ST.fault (S : ST) : Option Nat := S.2.2.2.2.2.1
def ST.item (S : ST) : Option Nat := S.2.2.2.2.2.2.1
def ST.why (S : ST) : Int32 := S.2.2.2.2.2.2.2.1
def ST.detail (S : ST) : Int32 := S.2.2.2.2.2.2.2.2
def ST.wRow (S : ST) (x : SF) : ST := (x, S.hist, S.saved, S.text, S.out, S.fault, S.item, S.why, S.detail)
def ST.wHist (S : ST) (x : List SF) : ST := (S.row, x, S.saved, S.text, S.out, S.fault, S.item, S.why, S.detail)
def ST.wSaved (S : ST) (x : Option SF) : ST := (S.row, S.hist, x, S.text, S.out, S.fault, S.item, S.why, S.detail)
def ST.wText (S : ST) (x : List Int32) : ST := (S.row, S.hist, S.saved, x, S.out, S.fault, S.item, S.why, S.detail)
def ST.wOut (S : ST) (x : List Int32) : ST := (S.row, S.hist, S.saved, S.text, x, S.fault, S.item, S.why, S.detail)
def ST.wFault (S : ST) (x : Option Nat) : ST := (S.row, S.hist, S.saved, S.text, S.out, x, S.item, S.why, S.detail)
def ST.wItem (S : ST) (x : Option Nat) : ST := (S.row, S.hist, S.saved, S.text, S.out, S.fault, x, S.why, S.detail)
def ST.wWhy (S : ST) (x : Int32) : ST := (S.row, S.hist, S.saved, S.text, S.out, S.fault, S.item, x, S.detail)
def ST.wDetail (S : ST) (x : Int32) : ST := (S.row, S.hist, S.saved, S.text, S.out, S.fault, S.item, S.why, x)
/-- the rows to go back to, at most 8, when f is added -/
def hp (l : List SF) (f : SF) : List SF := (if l.length = 8 then l.drop 1 else l) ++ [f]
def mutS (S : ST) (A : Act) : ST := if A.1 = 0 then (S.wRow A.2.2).wHist (hp S.hist S.row) else if A.1 < 0 then S.wRow A.2.2 else ((S.wRow A.2.2).wWhy A.1).wDetail A.2.1
theorem hp_le {l : List SF} {f : SF} (h : l.length ≤ 8) : (hp l f).length ≤ 8 := by
  unfold hp
  split <;> simp <;> omega
/-- the model's ints and arrays stand for S -/
def RM (S : ST) (σ : MS) : Prop := (σ.2 1 = S.row) ∧ (σ.1 1 = nI S.hist.length) ∧ (∀ k f, S.hist[k]? = some f → ∀ j, j < 93 → σ.2 4 (93 * k + j) = f j) ∧ (σ.1 2 = bI S.saved.isSome) ∧ (∀ f, S.saved = some f → ∀ j, j < 93 → σ.2 3 j = f j) ∧ (σ.1 3 = nI S.text.length) ∧ (∀ i c, S.text[i]? = some c → σ.2 7 i = c) ∧ (σ.1 4 = nI S.out.length) ∧ (∀ i c, S.out[i]? = some c → σ.2 9 i = c) ∧ (σ.1 5 = oI S.fault) ∧ (σ.1 6 = oI S.item) ∧ (σ.1 7 = S.why) ∧ (σ.1 8 = S.detail)
theorem RM.row {S : ST} {σ : MS} (h : RM S σ) : σ.2 1 = S.row := h.1
theorem RM.kept {S : ST} {σ : MS} (h : RM S σ) : σ.1 1 = nI S.hist.length := h.2.1
theorem RM.hist {S : ST} {σ : MS} (h : RM S σ) : ∀ k f, S.hist[k]? = some f → ∀ j, j < 93 → σ.2 4 (93 * k + j) = f j := h.2.2.1
theorem RM.has {S : ST} {σ : MS} (h : RM S σ) : σ.1 2 = bI S.saved.isSome := h.2.2.2.1
theorem RM.saved {S : ST} {σ : MS} (h : RM S σ) : ∀ f, S.saved = some f → ∀ j, j < 93 → σ.2 3 j = f j := h.2.2.2.2.1
theorem RM.len {S : ST} {σ : MS} (h : RM S σ) : σ.1 3 = nI S.text.length := h.2.2.2.2.2.1
theorem RM.text {S : ST} {σ : MS} (h : RM S σ) : ∀ i c, S.text[i]? = some c → σ.2 7 i = c := h.2.2.2.2.2.2.1
theorem RM.outl {S : ST} {σ : MS} (h : RM S σ) : σ.1 4 = nI S.out.length := h.2.2.2.2.2.2.2.1
theorem RM.out {S : ST} {σ : MS} (h : RM S σ) : ∀ i c, S.out[i]? = some c → σ.2 9 i = c := h.2.2.2.2.2.2.2.2.1
theorem RM.fault {S : ST} {σ : MS} (h : RM S σ) : σ.1 5 = oI S.fault := h.2.2.2.2.2.2.2.2.2.1
theorem RM.item {S : ST} {σ : MS} (h : RM S σ) : σ.1 6 = oI S.item := h.2.2.2.2.2.2.2.2.2.2.1
theorem RM.why {S : ST} {σ : MS} (h : RM S σ) : σ.1 7 = S.why := h.2.2.2.2.2.2.2.2.2.2.2.1
theorem RM.det {S : ST} {σ : MS} (h : RM S σ) : σ.1 8 = S.detail := h.2.2.2.2.2.2.2.2.2.2.2.2
/-- the ints and arrays that nobody reads across calls may change -/
theorem RM.mo {S : ST} {σ σ' : MS} (h : RM S σ) (h1 : ∀ k, 1 ≤ k → k ≤ 8 → σ'.1 k = σ.1 k) (h3 : σ'.2 3 = σ.2 3) (h4 : σ'.2 4 = σ.2 4) (h7 : σ'.2 7 = σ.2 7) (h9 : σ'.2 9 = σ.2 9) : RM (S.wRow (σ'.2 1)) σ' :=
  ⟨rfl, (h1 1 (by decide) (by decide)).trans h.kept, fun k f hk j hj => by rw [h4]; exact h.hist k f hk j hj, (h1 2 (by decide) (by decide)).trans h.has, fun f hf j hj => by rw [h3]; exact h.saved f hf j hj, (h1 3 (by decide) (by decide)).trans h.len,
   fun i c hc => by rw [h7]; exact h.text i c hc, (h1 4 (by decide) (by decide)).trans h.outl, fun i c hc => by rw [h9]; exact h.out i c hc, (h1 5 (by decide) (by decide)).trans h.fault, (h1 6 (by decide) (by decide)).trans h.item, (h1 7 (by decide) (by decide)).trans h.why, (h1 8 (by decide) (by decide)).trans h.det⟩
theorem RM.rw {S : ST} {σ : MS} (h : RM S σ) {s : SF} (e : σ.2 1 = s) : RM (S.wRow (s)) σ := by
  subst e
  exact h.mo (fun _ _ _ => rfl) rfl rfl rfl rfl
/-- an int that isn't kept -/
theorem RM.v {S : ST} {σ : MS} (h : RM S σ) {k : Nat} {x : Int32} (hk : k = 0 ∨ 8 < k) : RM S (mv σ k x) :=
  have q := h.mo (σ' := mv σ k x) (fun j h1 h2 => mv_ne (by omega)) rfl rfl rfl rfl
  (congrArg (fun s => RM (S.wRow (s)) (mv σ k x)) h.row).mp q
theorem RM.a {S : ST} {σ : MS} (h : RM S σ) {i : Nat} {f : Nat → Int32} (hk : i ≠ 1 ∧ i ≠ 3 ∧ i ≠ 4 ∧ i ≠ 7 ∧ i ≠ 9) : RM S (ma σ i f) :=
  have q := h.mo (σ' := ma σ i f) (fun j h1 h2 => rfl) (ma_ne (Ne.symm hk.2.1)) (ma_ne (Ne.symm hk.2.2.1)) (ma_ne (Ne.symm hk.2.2.2.1)) (ma_ne (Ne.symm hk.2.2.2.2))
  (congrArg (fun s => RM (S.wRow (s)) (ma σ i f)) ((ma_ne (Ne.symm hk.1)).trans h.row)).mp q
theorem RM.s {S : ST} {σ : MS} (h : RM S σ) {f : Nat → Int32} : RM (S.wRow (f)) (ma σ 1 f) :=
  have q := h.mo (σ' := ma σ 1 f) (fun j h1 h2 => rfl) (ma_ne (by decide)) (ma_ne (by decide)) (ma_ne (by decide)) (ma_ne (by decide))
  (congrArg (fun s => RM (S.wRow (s)) (ma σ 1 f)) (ma_at σ 1 f)).mp q
theorem RM.sx {S : ST} {σ τ : MS} {s : SF} {l : List Nat} (h : RM S σ) (hx : SX σ τ s l) (hl : ∀ i, i ∈ l → i ≠ 3 ∧ i ≠ 4 ∧ i ≠ 7 ∧ i ≠ 9) : RM (S.wRow (s)) τ :=
  have n : ∀ i, (i = 3 ∨ i = 4 ∨ i = 7 ∨ i = 9) → i ∉ l := fun i hi hm => by have := hl i hm; omega
  have q := h.mo (σ' := τ) (fun k _ _ => by rw [hx.1]) (hx.2.2 3 (by decide) (n 3 (by decide))) (hx.2.2 4 (by decide) (n 4 (by decide))) (hx.2.2 7 (by decide) (n 7 (by decide))) (hx.2.2 9 (by decide) (n 9 (by decide)))
  (congrArg (fun s => RM (S.wRow (s)) τ) hx.2.1).mp q
theorem RM.scr {S : ST} {σ τ : MS} (h : RM S σ) (hx : SX σ τ (σ.2 1) scr) : RM S τ := by
  have q := h.sx hx (by decide)
  rw [h.row] at q
  exact q
theorem RM.ar {S : ST} {σ τ : MS} {A : Act} (h : RM S σ) (hx : AR σ τ A) : RM (S.wRow A.2.2) τ :=
  have q := h.mo (σ' := τ) (fun k h1 h2 => hx.2.2.1 k (by omega) (by omega)) (hx.2.1 3 (by decide) (by decide)) (hx.2.1 4 (by decide) (by decide)) (hx.2.1 7 (by decide) (by decide)) (hx.2.1 9 (by decide) (by decide))
  (congrArg (fun s => RM (S.wRow s) τ) hx.1).mp q
theorem RM.ref {S : ST} {σ : MS} (h : RM S σ) (r u : Int32) : RM ((S.wWhy r).wDetail u) (mv (mv σ 7 r) 8 u) :=
  ⟨h.row, h.kept, h.hist, h.has, h.saved, h.len, h.text, h.outl, h.out, h.fault, h.item, rfl, rfl⟩
/-! copying within the history -/
def shf (H : Nat → Int32) (k : Nat) : Nat → Int32 := fun q => if q < k then H (q + 93) else H q
theorem shf_0 (H : Nat → Int32) : shf H 0 = H := rfl
theorem shf_s (H : Nat → Int32) (k : Nat) : upd (shf H k) k (shf H k (k + 93)) = shf H (k + 1) := by
  funext j
  unfold upd shf
  by_cases h : j = k
  · subst h
    rw [if_pos rfl, if_neg (by omega), if_pos (by omega)]
  · by_cases h2 : j < k
    · simp [h, h2, Nat.lt_succ_of_lt h2]
    · have : ¬ j < k + 1 := by omega
      simp [h, h2, this]
def cpo (H : Nat → Int32) (o : Nat) (f : Nat → Int32) (k : Nat) : Nat → Int32 := fun q => if o ≤ q ∧ q < o + k then f (q - o) else H q
theorem cpo_0 (H : Nat → Int32) (o : Nat) (f : Nat → Int32) : cpo H o f 0 = H := by
  funext q
  unfold cpo
  rw [if_neg (by omega)]
theorem cpo_s (H : Nat → Int32) (o : Nat) (f : Nat → Int32) (k : Nat) : upd (cpo H o f k) (o + k) (f k) = cpo H o f (k + 1) := by
  funext j
  unfold upd cpo
  by_cases h : j = o + k
  · subst h
    rw [if_pos rfl, if_pos (by omega), Nat.add_sub_cancel_left]
  · by_cases h2 : o ≤ j ∧ j < o + k
    · rw [if_neg h, if_pos h2, if_pos (by omega)]
    · rw [if_neg h, if_neg h2, if_neg (by omega)]
/-- one more row to go back to -/
theorem RM.push {S : ST} {σ τ : MS} {l : List SF} {f : SF} (h : RM (S.wHist (l)) τ) (e1 : σ.1 1 = nI (l.length + 1)) (e2 : ∀ k, k ≠ 1 → σ.1 k = τ.1 k) (e3 : ∀ i, i ≠ 4 → σ.2 i = τ.2 i) (e4 : σ.2 4 = cpo (τ.2 4) (93 * l.length) f 93) : RM (S.wHist (l ++ [f])) σ := by
  refine ⟨(e3 1 (by decide)).trans h.row, ?_, ?_, (e2 2 (by decide)).trans h.has, fun f hf j hj => by rw [e3 3 (by decide)]; exact h.saved f hf j hj, (e2 3 (by decide)).trans h.len, fun i c hc => by rw [e3 7 (by decide)]; exact h.text i c hc, (e2 4 (by decide)).trans h.outl, fun i c hc => by rw [e3 9 (by decide)]; exact h.out i c hc, (e2 5 (by decide)).trans h.fault, (e2 6 (by decide)).trans h.item, (e2 7 (by decide)).trans h.why, (e2 8 (by decide)).trans h.det⟩
  · show σ.1 1 = nI (l ++ [f]).length
    rw [e1, List.length_append, List.length_singleton]
  · intro k f' hk j hj
    have hk' : (l ++ [f])[k]? = some f' := hk
    rw [e4]
    unfold cpo
    by_cases hl : k < l.length
    · rw [if_neg (by omega)]
      rw [List.getElem?_append_left hl] at hk'
      exact h.hist k f' hk' j hj
    · rw [List.getElem?_append_right (by omega)] at hk'
      have hkl : k - l.length = 0 := by
        by_cases h0 : k - l.length = 0
        · exact h0
        · rw [List.getElem?_eq_none (by simp; omega)] at hk'
          cases hk'
      rw [hkl] at hk'
      cases hk'
      have ekl : k = l.length := by omega
      subst ekl
      rw [if_pos (by omega), Nat.add_sub_cancel_left]
/-- the oldest row is forgotten -/
theorem RM.shift {S : ST} {σ τ : MS} (h : RM S τ) (hl : S.hist.length = 8) (e2 : ∀ k, k ≠ 1 → σ.1 k = τ.1 k) (e3 : ∀ i, i ≠ 4 → σ.2 i = τ.2 i) (e4 : σ.2 4 = shf (τ.2 4) 651) : RM (S.wHist (S.hist.drop 1)) (mv σ 1 (nI 7)) := by
  refine ⟨(e3 1 (by decide)).trans h.row, ?_, ?_, (e2 2 (by decide)).trans h.has, fun f hf j hj => by show σ.2 3 j = f j; rw [e3 3 (by decide)]; exact h.saved f hf j hj, (e2 3 (by decide)).trans h.len, fun i c hc => by show σ.2 7 i = c; rw [e3 7 (by decide)]; exact h.text i c hc, (e2 4 (by decide)).trans h.outl, fun i c hc => by show σ.2 9 i = c; rw [e3 9 (by decide)]; exact h.out i c hc, (e2 5 (by decide)).trans h.fault, (e2 6 (by decide)).trans h.item, (e2 7 (by decide)).trans h.why, (e2 8 (by decide)).trans h.det⟩
  · rw [mv_at]
    show nI 7 = nI (S.hist.drop 1).length
    rw [List.length_drop, hl]
  · intro k f hk j hj
    have hk' : (S.hist.drop 1)[k]? = some f := hk
    rw [List.getElem?_drop] at hk'
    have hk8 : 1 + k < 8 := by
      by_cases h0 : 1 + k < 8
      · exact h0
      · rw [List.getElem?_eq_none (by omega)] at hk'; cases hk'
    show σ.2 4 (93 * k + j) = f j
    rw [e4]
    unfold shf
    rw [if_pos (by omega), show 93 * k + j + 93 = 93 * (1 + k) + j by omega]
    exact h.hist (1 + k) f hk' j hj
/-- what 'ends' answers -/
abbrev EN (S : ST) (σ : MS) (f : SF) (r c : Int32) (v : Option Value) (σ' : MS) : Prop :=
  v = some (.int (if r = 0 then σ.1 10 else 0)) ∧ σ'.1 0 = (if r = 0 then σ.1 0 else if r < 0 then -r else c) ∧ RM (if r = 0 then (S.wHist (hp S.hist f)) else if r < 0 then S else ((S.wWhy r).wDetail (σ.1 9))) σ'
/-- what a changing call answers -/
abbrev MU (S : ST) (A : Act) (c : Int32) (v : Option Value) (σ' : MS) : Prop :=
  v = some (.int (if A.1 = 0 then A.2.1 else 0)) ∧ σ'.1 0 = (if A.1 = 0 then 0 else if A.1 < 0 then -A.1 else c) ∧ RM (mutS S A) σ'
theorem MU.of {S : ST} {σ τ σ' : MS} {A : Act} {c : Int32} {v : Option Value} (hx : AR σ τ A) (h0 : σ.1 0 = 0) (he : EN (S.wRow (A.2.2)) τ S.row A.1 c v σ') : MU S A c v σ' := by
  obtain ⟨e1, e2, e3⟩ := he
  obtain ⟨a1, a2, a3, a4, a5⟩ := hx
  refine ⟨?_, ?_, ?_⟩
  · rw [e1]
    by_cases h : A.1 = 0
    · rw [if_pos h, if_pos h, a4 h]
    · rw [if_neg h, if_neg h]
  · rw [e2, a3 0 (by decide) (by decide), h0]
  · unfold mutS
    by_cases h : A.1 = 0
    · rw [if_pos h] at e3 ⊢
      exact e3
    · rw [if_neg h] at e3 ⊢
      by_cases hn : A.1 < 0
      · rw [if_pos hn] at e3 ⊢
        exact e3
      · rw [if_neg hn] at e3 ⊢
        rw [a5 (by
          apply Int32.lt_of_le_of_ne (Int32.not_lt.mp hn)
          exact fun q => h q.symm)] at e3
        exact e3
theorem RM.clear {S : ST} {σ : MS} (h : RM S σ) {f : SF} : RM ((S.wRow f).wHist []) (mv (ma (mv σ 0 0) 1 f) 1 0) := by
  have q : RM (S.wRow f) (ma (mv σ 0 0) 1 f) := (h.v (k := 0) (x := 0) (Or.inl rfl)).s
  exact ⟨q.row, rfl, fun k f hk j hj => (by have hk' : ([] : List SF)[k]? = some f := hk; cases hk'), q.has, q.saved, q.len, q.text, q.outl, q.out, q.fault, q.item, q.why, q.det⟩
theorem RM.snap {S : ST} {σ : MS} (h : RM S σ) : RM (S.wSaved (some (σ.2 1))) (mv (ma (mv σ 0 0) 3 (cpf (σ.2 3) (σ.2 1) 93)) 2 1) :=
  ⟨h.row, h.kept, h.hist, rfl, fun f hf j hj => (by cases hf; exact cpf_lt hj), h.len, h.text, h.outl, h.out, h.fault, h.item, h.why, h.det⟩
theorem RM.undo {S : ST} {σ : MS} (h : RM S σ) {l : List SF} {f : SF} (hf : S.hist = l ++ [f]) : RM ((S.wRow f).wHist l) (ma (mv (mv σ 0 0) 1 (nI l.length)) 1 f) := by
  refine ⟨rfl, mv_at (mv σ 0 0) 1 _, fun k f' hk j hj => ?_, h.has, h.saved, h.len, h.text, h.outl, h.out, h.fault, h.item, h.why, h.det⟩
  have hk' : l[k]? = some f' := hk
  have hkl : k < l.length := by
    by_cases h0 : k < l.length
    · exact h0
    · rw [List.getElem?_eq_none (by omega)] at hk'; cases hk'
  exact h.hist k f' (by rw [hf, List.getElem?_append_left hkl]; exact hk') j hj
