/-! THE MODEL's STATE: its int fields (MS.1, by number) and its arrays (MS.2, by number) as functions.
  ints: 0 thrown 1 kept 2 hasSaved 3 length 4 outLength 5 faultAt 6 itemAt 7 why 8 detail 9 about 10 answer 11 spot 12 end 13 orders 14 isWrong
  arrays: 1 s 2 frame 3 saved 4 history 5 thought 6 before 7 text 8 told 9 out 10 oldX 11 oldY -/
set_option maxRecDepth 100000
abbrev MS : Type := (Nat → Int32) × (Nat → Nat → Int32)
def mLen : Nat → Nat
  | 1 => 93 | 2 => 93 | 3 => 93 | 4 => 744 | 5 => 93 | 6 => 93 | 7 => 60 | 8 => 240 | 9 => 80 | 10 => 6 | _ => 6
def mFs (ad : Nat → Nat) (σ : MS) : List Value := [.int (σ.1 0), .ref (ad 1), .ref (ad 2), .ref (ad 3), .ref (ad 4), .ref (ad 5), .ref (ad 6), .int (σ.1 1), .int (σ.1 2), .ref (ad 7), .ref (ad 8), .ref (ad 9), .ref (ad 10), .ref (ad 11), .int (σ.1 3), .int (σ.1 4), .int (σ.1 5), .int (σ.1 6), .int (σ.1 7), .int (σ.1 8), .int (σ.1 9), .int (σ.1 10), .int (σ.1 11), .int (σ.1 12), .int (σ.1 13), .int (σ.1 14)]
def mv (σ : MS) (k : Nat) (x : Int32) : MS := (upd σ.1 k x, σ.2)
def ma (σ : MS) (i : Nat) (f : Nat → Int32) : MS := (σ.1, fun j => if j = i then f else σ.2 j)
/-- the model's object and arrays in h; all else is as in h0 -/
def MSt (g : GP) (ad : Nat → Nat) (h0 : AH) (σ : MS) (h : AH) : Prop :=
  h (ad 0) = some (eO 2 (mFs ad σ)) ∧ (∀ i, i < 11 → h (ad (i + 1)) = some (eI (g.2.1 0) (mLen (i + 1)) (σ.2 (i + 1)))) ∧ (∀ q, (∀ i, i < 12 → q ≠ ad i) → h q = h0 q) ∧ ∀ i j, i < 12 → j < 12 → ad i = ad j → i = j
section MST
variable {g : GP} {ad : Nat → Nat} {h0 h : AH} {σ : MS}
theorem MSt.o (m : MSt g ad h0 σ h) : h (ad 0) = some (eO 2 (mFs ad σ)) := m.1
theorem MSt.a1 (m : MSt g ad h0 σ h) : h (ad 1) = some (eI (g.2.1 0) 93 (σ.2 1)) := m.2.1 0 (by decide)
theorem MSt.a2 (m : MSt g ad h0 σ h) : h (ad 2) = some (eI (g.2.1 0) 93 (σ.2 2)) := m.2.1 1 (by decide)
theorem MSt.a3 (m : MSt g ad h0 σ h) : h (ad 3) = some (eI (g.2.1 0) 93 (σ.2 3)) := m.2.1 2 (by decide)
theorem MSt.a4 (m : MSt g ad h0 σ h) : h (ad 4) = some (eI (g.2.1 0) 744 (σ.2 4)) := m.2.1 3 (by decide)
theorem MSt.a5 (m : MSt g ad h0 σ h) : h (ad 5) = some (eI (g.2.1 0) 93 (σ.2 5)) := m.2.1 4 (by decide)
theorem MSt.a6 (m : MSt g ad h0 σ h) : h (ad 6) = some (eI (g.2.1 0) 93 (σ.2 6)) := m.2.1 5 (by decide)
theorem MSt.a7 (m : MSt g ad h0 σ h) : h (ad 7) = some (eI (g.2.1 0) 60 (σ.2 7)) := m.2.1 6 (by decide)
theorem MSt.a8 (m : MSt g ad h0 σ h) : h (ad 8) = some (eI (g.2.1 0) 240 (σ.2 8)) := m.2.1 7 (by decide)
theorem MSt.a9 (m : MSt g ad h0 σ h) : h (ad 9) = some (eI (g.2.1 0) 80 (σ.2 9)) := m.2.1 8 (by decide)
theorem MSt.a10 (m : MSt g ad h0 σ h) : h (ad 10) = some (eI (g.2.1 0) 6 (σ.2 10)) := m.2.1 9 (by decide)
theorem MSt.a11 (m : MSt g ad h0 σ h) : h (ad 11) = some (eI (g.2.1 0) 6 (σ.2 11)) := m.2.1 10 (by decide)
theorem MSt.put (m : MSt g ad h0 σ h) {k j : Nat} {x : Int32} (hs : (mFs ad σ).set j (.int x) = mFs ad (mv σ k x)) : MSt g ad h0 (mv σ k x) (hset h (ad 0) (eO 2 ((mFs ad σ).set j (.int x)))) := by
  obtain ⟨m1, m2, m3, m4⟩ := m
  refine ⟨by rw [hset_s, hs], fun i hi => ?_, fun q hq => ?_, m4⟩
  · rw [hset_n (fun e => by have := m4 _ _ (by omega) (by omega) e; omega)]
    exact m2 i hi
  · rw [hset_n (hq 0 (by omega))]
    exact m3 q hq
theorem MSt.st (m : MSt g ad h0 σ h) {i : Nat} (hi : i < 11) {f : Nat → Int32} : MSt g ad h0 (ma σ (i + 1) f) (hset h (ad (i + 1)) (eI (g.2.1 0) (mLen (i + 1)) f)) := by
  obtain ⟨m1, m2, m3, m4⟩ := m
  refine ⟨?_, fun j hj => ?_, fun q hq => ?_, m4⟩
  · rw [hset_n (fun e => by have := m4 _ _ (by omega) (by omega) e; omega)]
    exact m1
  · by_cases hji : j = i
    · subst hji
      rw [hset_s]
      simp [ma]
    · rw [hset_n (fun e => by have := m4 _ _ (by omega) (by omega) e; omega), m2 j hj]
      rw [show (ma σ (i + 1) f).2 (j + 1) = σ.2 (j + 1) from if_neg (by omega)]
  · rw [hset_n (hq (i + 1) (by omega))]
    exact m3 q hq
end MST
section MROWS
variable {g : GP} {M : MC} {own : String} {cc : ByteArray} {nL : Nat} {rt : Option FieldType} {R : Room} {k n pc index : Nat} {L : List (Option Value)} {st : List Value} {h h0 : AH} {ad : Nat → Nat} {σ : MS}
theorem m_put (cx : CX g M own cc nL rt R) {j i : Nat} {ty : FieldType} {x : Int32} {nest : Bool} (f : FL own index 2 j ty false nest) (d : decode cc pc = .ok (.putfield index, 3)) (hm : MSt g ad h0 σ h) (hn : narrow ty (.int x) = .int x) (hfit : fits ty (.int x) = true) (hs : (mFs ad σ).set j (.int x) = mFs ad (mv σ i x)) (K : ∀ h : AH, MSt g ad h0 (mv σ i x) h → AW g M k n (pc + 3) L st h) (hlt : j < (mFs ad σ).length := by exact Nat.le_of_ble_eq_true rfl) : AW g M k n pc L (.int x :: .ref (ad 0) :: st) h :=
  a_put cx f d hm.o hn hfit hlt (K _ (hm.put hs))
theorem m_iast (cx : CX g M own cc nL rt R) {i j : Nat} {y x : Int32} (hi : i < 11) (d : decode cc pc = .ok (.iastore, 1)) (hm : MSt g ad h0 σ h) (hy : y = nI j) (hj : j < mLen (i + 1)) (K : ∀ h : AH, MSt g ad h0 (ma σ (i + 1) (upd (σ.2 (i + 1)) j x)) h → AW g M k n (pc + 1) L st h) : AW g M k n pc L (.int x :: .int y :: .ref (ad (i + 1)) :: st) h := by
  have hl : mLen (i + 1) < 2 ^ 31 := by
    have : ∀ i, i < 11 → mLen (i + 1) < 2 ^ 31 := by decide
    exact this i hi
  exact a_iast cx d (hm.2.1 i hi) hy hj hl (K _ (hm.st hi))
/-- a method of the model: from state σ it returns with post; only the model's cells change -/
def MK (l : Launch) (g : GP) (ad : Nat → Nat) (y : MethodName) (bytes : ByteArray) (maxL : Nat) (ret : Option FieldType) (rm : Room) (σ : MS) (As : List Value) (post : Option Value → MS → Prop) : Prop :=
  ∀ h0 h : AH, MSt g ad h0 σ h → KT l g y (ws_ y bytes maxL ret) rm 0 0 (.ref (ad 0) :: As) h (fun v h' => ∃ σ', post v σ' ∧ MSt g ad h0 σ' h') noX
/-- .. that answers an int -/
abbrev MKi (l : Launch) (g : GP) (ad : Nat → Nat) (y : MethodName) (bytes : ByteArray) (maxL : Nat) (ret : Option FieldType) (rm : Room) (σ : MS) (As : List Value) (r : Int32) (σ' : MS) : Prop := MK l g ad y bytes maxL ret rm σ As (fun v σ9 => v = some (.int r) ∧ σ9 = σ')
abbrev MKv (l : Launch) (g : GP) (ad : Nat → Nat) (y : MethodName) (bytes : ByteArray) (maxL : Nat) (rm : Room) (σ : MS) (As : List Value) (σ' : MS) : Prop := MK l g ad y bytes maxL none rm σ As (fun v σ9 => v = none ∧ σ9 = σ')
variable {y : MethodName} {bytes : ByteArray} {maxL na : Nat} {ret : Option FieldType} {rm : Room} {As rest : List Value}
theorem m_call {post : Option Value → MS → Prop} (cx : CX g M own cc nL rt R) (hM : MK (Ml M) g ad y bytes maxL ret rm σ As post) (hW : GoodIn lw_all (wsV own index y.cls y (ws_ y bytes maxL ret))) (hd : DN y na) (hR : RN R rm maxL 0 0) (hn : As.length = na) (hm : MSt g ad h0 σ h) (hcls : RX3 = y.cls) (hs : st = As.reverse ++ .ref (ad 0) :: rest) (hcat : (rest.map fun v => v.category).sum ≤ 8) (d : decode cc pc = .ok (.invokevirtual index, 3)) (h1 : k ≤ R.cells) (h2 : n ≤ R.slots)
    (K : ∀ (v : Option Value) (σ' : MS) (h' : AH), post v σ' → MSt g ad h0 σ' h' → AW g M k n (pc + 3) L (v.toList ++ rest) h') (hLn : L.length = nL := by rfl) : AW g M k n pc L st h := by
  subst hs
  exact a_callV cx (hM h0 h hm) hW hd hR hn (ci := 2) (r := (RX3, TX3, 26)) hm.o rfl hcls hcat d h1 h2 ⟨fun v h' ⟨σ', hp, hm'⟩ => K v σ' h' hp hm', fun E q h' hx => hx.elim⟩ hLn
theorem m_calli {r : Int32} {σ' : MS} (cx : CX g M own cc nL rt R) (hM : MKi (Ml M) g ad y bytes maxL ret rm σ As r σ') (hW : GoodIn lw_all (wsV own index y.cls y (ws_ y bytes maxL ret))) (hd : DN y na) (hR : RN R rm maxL 0 0) (hn : As.length = na) (hm : MSt g ad h0 σ h) (hcls : RX3 = y.cls) (hs : st = As.reverse ++ .ref (ad 0) :: rest) (hcat : (rest.map fun v => v.category).sum ≤ 8) (d : decode cc pc = .ok (.invokevirtual index, 3)) (h1 : k ≤ R.cells) (h2 : n ≤ R.slots)
    (K : ∀ h : AH, MSt g ad h0 σ' h → AW g M k n (pc + 3) L (.int r :: rest) h) (hLn : L.length = nL := by rfl) : AW g M k n pc L st h :=
  m_call cx hM hW hd hR hn hm hcls hs hcat d h1 h2 (fun v σ9 h' hp hm' => by obtain ⟨rfl, rfl⟩ := hp; exact K h' hm') hLn
theorem m_callv {σ' : MS} (cx : CX g M own cc nL rt R) (hM : MKv (Ml M) g ad y bytes maxL rm σ As σ') (hW : GoodIn lw_all (wsV own index y.cls y (ws_ y bytes maxL none))) (hd : DN y na) (hR : RN R rm maxL 0 0) (hn : As.length = na) (hm : MSt g ad h0 σ h) (hcls : RX3 = y.cls) (hs : st = As.reverse ++ .ref (ad 0) :: rest) (hcat : (rest.map fun v => v.category).sum ≤ 8) (d : decode cc pc = .ok (.invokevirtual index, 3)) (h1 : k ≤ R.cells) (h2 : n ≤ R.slots)
    (K : ∀ h : AH, MSt g ad h0 σ' h → AW g M k n (pc + 3) L rest h) (hLn : L.length = nL := by rfl) : AW g M k n pc L st h :=
  m_call cx hM hW hd hR hn hm hcls hs hcat d h1 h2 (fun v σ9 h' hp hm' => by obtain ⟨rfl, rfl⟩ := hp; exact K h' hm') hLn
/-- a static method that answers an int and touches nothing -/
def SKi (l : Launch) (g : GP) (y : MethodName) (bytes : ByteArray) (maxL : Nat) (ret : Option FieldType) (rm : Room) (As : List Value) (r : Int32) : Prop := ∀ h : AH, KT l g y (ws_ y bytes maxL ret) rm 0 0 As h (fun v h' => v = some (.int r) ∧ h' = h) noX
theorem s_calli {r : Int32} (cx : CX g M own cc nL rt R) (hM : SKi (Ml M) g y bytes maxL ret rm As r) (hW : GoodIn lw_all (va_wsS own index y (ws_ y bytes maxL ret))) (hd : DN y na) (hR : RN R rm maxL 0 0) (hn : As.length = na) (hs : st = As.reverse ++ rest) (hcat : (rest.map fun v => v.category).sum ≤ 8) (d : decode cc pc = .ok (.invokestatic index, 3)) (h1 : k ≤ R.cells) (h2 : n ≤ R.slots) (K : AW g M k n (pc + 3) L (.int r :: rest) h) (hLn : L.length = nL := by rfl) : AW g M k n pc L st h := by
  subst hs
  exact a_callS cx (hM h) hW hd hR hn hcat d h1 h2 ⟨fun v h' ⟨e1, e2⟩ => by subst e1; subst e2; exact K, fun E q h' hx => hx.elim⟩ hLn
end MROWS
/-- a model's method out of its body -/
theorem MK.of {l : Launch} {g : GP} {ad : Nat → Nat} {y : MethodName} {cc : ByteArray} {maxL : Nat} {rt : Option FieldType} {rm : Room} {σ : MS} {As : List Value} {post : Option Value → MS → Prop} (hy : plainName y.cls = true) (htr : l.stackTraces = false) {L0 : List (Option Value)} (hl : (lg_sl (.ref (ad 0) :: As)).length ≤ maxL) (hL : lvE (.ref (ad 0) :: As) maxL = L0)
    (body : ∀ (M : MC) (h0 h : AH), CX g M y.cls cc maxL rt rm → Ml M = l → KQ g M (fun v h' => ∃ σ', post v σ' ∧ MSt g ad h0 σ' h') noX 0 0 → MSt g ad h0 σ h → AW g M 0 0 0 L0 [] h) : MK l g ad y cc maxL rt rm σ As post := by
  intro h0 h hm
  exact KT.of hy htr hl hL (fun M cx hM hq hin hnx => body M h0 h cx hM hq hm)
theorem SKi.of {l : Launch} {g : GP} {y : MethodName} {cc : ByteArray} {maxL : Nat} {rt : Option FieldType} {rm : Room} {As : List Value} {r : Int32} (hy : plainName y.cls = true) (htr : l.stackTraces = false) {L0 : List (Option Value)} (hl : (lg_sl As).length ≤ maxL) (hL : lvE As maxL = L0)
    (body : ∀ (M : MC) (h : AH), CX g M y.cls cc maxL rt rm → Ml M = l → KQ g M (fun v h' => v = some (.int r) ∧ h' = h) noX 0 0 → AW g M 0 0 0 L0 [] h) : SKi l g y cc maxL rt rm As r := by
  intro h
  exact KT.of hy htr hl hL (fun M cx hM hq hin hnx => body M h cx hM hq)
/-! index sums -/
theorem ix0 (k : Nat) : (9 : Int32) + nI k = nI (9 + k) := nI_add 9 k
theorem ix1 (k : Nat) : (27 : Int32) + nI k = nI (27 + k) := nI_add 27 k
theorem ix2 (k : Nat) : (45 : Int32) + nI k = nI (45 + k) := nI_add 45 k
theorem ix3 (k : Nat) : (63 : Int32) + nI k = nI (63 + k) := nI_add 63 k
theorem ix4 (k : Nat) : (81 : Int32) + nI k = nI (81 + k) := nI_add 81 k
theorem ix5 (k : Nat) : (87 : Int32) + nI k = nI (87 + k) := nI_add 87 k
theorem ix6 (k : Nat) : (6 : Int32) + nI k = nI (6 + k) := nI_add 6 k
theorem ix7 (k : Nat) : nI k + 93 = nI (k + 93) := nI_add k 93
theorem le_nI {a b : Nat} (h : nI a ≤ nI b) (ha : a < 2 ^ 31) (hb : b < 2 ^ 31) : a ≤ b := (nI_leI ha hb).mp h
theorem nle_nI {a b : Nat} (h : ¬ nI a ≤ nI b) (ha : a < 2 ^ 31) (hb : b < 2 ^ 31) : b < a := Nat.lt_of_not_le (fun q => h ((nI_leI ha hb).mpr q))
theorem lt_nI {a b : Nat} (h : nI a < nI b) (ha : a < 2 ^ 31) (hb : b < 2 ^ 31) : a < b := (nI_ltI ha hb).mp h
theorem nlt_nI {a b : Nat} (h : ¬ nI a < nI b) (ha : a < 2 ^ 31) (hb : b < 2 ^ 31) : b ≤ a := Nat.le_of_not_lt (fun q => h ((nI_ltI ha hb).mpr q))
theorem ma_ma (σ : MS) (i : Nat) (f f' : Nat → Int32) : ma (ma σ i f) i f' = ma σ i f' := by
  unfold ma
  refine Prod.ext rfl (funext fun j => ?_)
  by_cases h : j = i <;> simp [h]
theorem ma_self (σ : MS) (i : Nat) : ma σ i (σ.2 i) = σ := by
  unfold ma
  refine Prod.ext rfl (funext fun j => ?_)
  by_cases h : j = i <;> simp [h]
theorem ma_at (σ : MS) (i : Nat) (f : Nat → Int32) : (ma σ i f).2 i = f := by simp [ma]
theorem ma_ne {σ : MS} {i j : Nat} {f : Nat → Int32} (h : j ≠ i) : (ma σ i f).2 j = σ.2 j := by simp [ma, h]
theorem mv_at (σ : MS) (k : Nat) (x : Int32) : (mv σ k x).1 k = x := by simp [mv, upd]
theorem mv_ne {σ : MS} {k j : Nat} {x : Int32} (h : j ≠ k) : (mv σ k x).1 j = σ.1 j := by simp [mv, upd, h]
theorem MSt.eq {g : GP} {ad : Nat → Nat} {h0 h : AH} {σ σ' : MS} (m : MSt g ad h0 σ h) (e : σ = σ') : MSt g ad h0 σ' h := e ▸ m
/-- the first k places of s, then f -/
def cpf (f s : Nat → Int32) (k : Nat) : Nat → Int32 := fun j => if j < k then s j else f j
theorem cpf_0 (f s : Nat → Int32) : cpf f s 0 = f := by funext j; simp [cpf]
theorem cpf_s (f s : Nat → Int32) (k : Nat) : upd (cpf f s k) k (s k) = cpf f s (k + 1) := by
  funext j
  unfold upd cpf
  by_cases h : j = k
  · subst h; simp
  · by_cases h2 : j < k
    · simp [h, h2, Nat.lt_succ_of_lt h2]
    · have : ¬ j < k + 1 := by omega
      simp [h, h2, this]
theorem cpf_ge {f s : Nat → Int32} {k j : Nat} (h : k ≤ j) : cpf f s k j = f j := by simp [cpf, Nat.not_lt.mpr h]
theorem cpf_lt {f s : Nat → Int32} {k j : Nat} (h : j < k) : cpf f s k j = s j := by simp [cpf, h]
/-- what an array holds beyond its length doesn't matter -/
theorem arrV_congr {c : ClassId} {n : Nat} {f f' : Nat → Value} (h : ∀ j, j < n → f j = f' j) : arrV c n f = arrV c n f' := by
  unfold arrV
  congr 1
  apply Array.ext
  · simp
  · intro i h1 h2
    simp only [Array.getElem_ofFn]
    exact h i (by simpa using h1)
theorem AW.arr {g : GP} {M : MC} {own : String} {cc : ByteArray} {nL : Nat} {rt : Option FieldType} {R : Room} {k n pc : Nat} {L : List (Option Value)} {st : List Value} {h : AH} (cx : CX g M own cc nL rt R) {a m : Nat} {f f' : Nat → Int32} (ha : h a = some (eI (g.2.1 0) m f)) (hm : 0 < m) (hf : ∀ j, j < m → f j = f' j) (K : AW g M k n pc L st (hset h a (eI (g.2.1 0) m f'))) : AW g M k n pc L st h := by
  intro H locs ls hH hk hS hl
  have hB : gB g ≤ a := hk.1 a _ ha (by
    have hne := gT_ne cx.hG.K
    have h1 : (g.2.1 0 == g.2.1 1) = false := by simpa using hne
    have h2 : (m == 0) = false := by simp; omega
    simp only [gold, eI, h1, h2, Bool.or_self])
  refine K H locs ls (hH.set ?_ (fun _ _ => rfl)) (hk.set cx.hG.ss hB) hS hl
  have h1 : H[a]? = some (vp_cell (g.2.1 0) (m, .inl f)) := hH a _ ha
  show H[a]? = some (vp_cell (g.2.1 0) (m, .inl f'))
  rw [h1, vp_cell_i, vp_cell_i]
  exact congrArg some (arrV_congr fun j hj => by rw [hf j hj])
theorem m_norm {g : GP} {M : MC} {own : String} {cc : ByteArray} {nL : Nat} {rt : Option FieldType} {R : Room} {k n pc : Nat} {L : List (Option Value)} {st : List Value} {h h0 : AH} {ad : Nat → Nat} {σ : MS} (cx : CX g M own cc nL rt R) (i : Nat) (hi : i < 11) {f : Nat → Int32} (hm : MSt g ad h0 σ h) (hf : ∀ j, j < mLen (i + 1) → σ.2 (i + 1) j = f j) (K : ∀ h : AH, MSt g ad h0 (ma σ (i + 1) f) h → AW g M k n pc L st h) : AW g M k n pc L st h := by
  have hp : ∀ i, i < 11 → 0 < mLen (i + 1) := by decide
  exact AW.arr cx (hm.2.1 i hi) (hp i hi) hf (K _ (hm.st hi))
