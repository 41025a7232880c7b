/-! a method of a class that has natives, itself being none -/
set_option maxRecDepth 100000
theorem vx_ofWF {l : Launch} {y : MethodName} {ws ws' : List Cond} {rm : Room} {Pc : Array Value → State → Prop} {Qc : Array Value → State → Outcome → State → Prop} {XC : String → Nat → State → State → Prop} {mc ms : Nat} {free : Addr → Prop} {cc : ByteArray} {maxL : Nat} {ret : Option FieldType}
    (hy : plainFor y = true) (hw : ws = Cond.code y cc maxL ret :: ws')
    (body : ∀ p e s m args below meth c s₁, BodyLoose p l y (headSpec ws rm) cc maxL ret e s m args below meth c s₁ → c.maxLocals = maxL → (∀ x ∈ c.exceptionTable.toList, False) → Pc args s →
      W p l e (headSpec ws rm).room s m args below meth c s.heap [] 0 0 (vx_MQ below Qc XC args s mc ms free) (entryFrame m args maxL)) : vx_Met l y ws rm Pc Qc XC mc ms free := by
  refine MetFree.of_bodySF (code := cc) (maxLocals := maxL) (ret := ret) hy ?_ ?_
  · intro args s m h hn
    obtain ⟨meth, c, h1, h2, h3, h4, h5, h6, -, -⟩ := Cond.code_spec hn (atoms_spec (ws := ws) h _ (by rw [hw]; exact List.mem_cons_self))
    exact ⟨meth, c, h1, h2, h3, h4, h5, h6⟩
  · intro p e s m args below meth c s₁ B hml hP _
    have hh0 : s₁.heap = s.heap := by rw [B.state]; rfl
    have ht : ∀ x ∈ c.exceptionTable.toList, False := by
      obtain ⟨meth9, c9, h1, h2, -, -, -, -, h7, -⟩ := Cond.code_spec B.named (atoms_spec (ws := ws) B.pre _ (by rw [hw]; exact List.mem_cons_self))
      cases Option.some.inj (h1.symm.trans B.method)
      cases Option.some.inj (h2.symm.trans (Stand.of_body B).code)
      intro x hx
      rw [Array.isEmpty_iff.mp h7] at hx
      cases hx
    obtain ⟨t, a1, o, b1, b2, b3⟩ := body p e s m args below meth c s₁ B hml ht hP s₁ hh0 (Stand.of_body B)
    exact ⟨t, o, a1, b1, b2, b3⟩
theorem KT.ofF {l : Launch} {g : GP} {y : MethodName} {cc : ByteArray} {maxL : Nat} {rt : Option FieldType} {rm : Room} {mc ms : Nat} {av : List Value} {h : AH} {Post : Option Value → AH → Prop} {XPost : String → Nat → AH → Prop}
    (hy : plainFor y = true) (htr : l.stackTraces = false) {L0 : List (Option Value)} (hl : (lg_sl av).length ≤ maxL) (hL : lvE av maxL = L0)
    (body : ∀ M : MC, CX g M y.cls cc maxL rt rm → Ml M = l → KQ g M Post XPost mc ms → (Mt M).name = y.name → (∀ x ∈ (Mc M).exceptionTable.toList, False) → AW g M 0 0 0 L0 [] h) : KT l g y (ws_ y cc maxL rt) rm mc ms av h Post XPost := by
  refine vx_ofWF (cc := cc) (maxL := maxL) (ret := rt) hy rfl ?_
  intro p e s m args below meth c s₁ B hml hnx hv
  obtain ⟨rfl, hG, hH, hk⟩ := hv
  have hts := atoms_spec (ws := ws_ y cc maxL rt) B.pre
  have hts : ∀ w ∈ lw_all, w.before _ s = true := fun w h => hts w (List.mem_cons_of_mem _ h)
  have hown : s.vm.findClass y.cls = some m.cls := findClass_of_methodNamed B.named
  have hin : meth.name = y.name := (name_of_methodNamed B.named B.method).1
  rw [lg_entry_eq]
  exact body (p, l, e, rm, s, m, av.toArray, below, meth, c, vx_MQ below (kQ g Post) (kX g XPost) av.toArray s mc ms (gA g)) ⟨B.exec, B.bytes, hml, hown, hts, B.notSynchronized, B.returns, hG, htr, rfl⟩ rfl rfl hin hnx s.heap [] _ hH hk va_S.rf (hL ▸ lvo.entry av hl)
theorem isOb.set {h : AH} {x a : Nat} {e : va_E} (o : isOb h x) (hx : x ≠ a) : isOb (hset h a e) x := by
  obtain ⟨ci, fs, r, g1, g2, g3⟩ := o
  exact ⟨ci, fs, r, (hset_n hx).trans g1, g2, g3⟩
theorem ADD.pre {g : GP} {h h' : AH} {a ed x : Nat} {mc : Int32} {l : List Nat} {e : va_E} (b : ADD g (hset h a e) a ed mc l x h') : ADD g h a ed mc l x h' := by
  obtain ⟨ed', cap', b1, b2, b3⟩ := b
  refine ⟨ed', cap', b1, b2.imp id (fun q => ?_), fun q e9 hq hqa hqe => b3 q e9 ((hset_n hqa).trans hq) hqa hqe⟩
  by_cases h1 : ed' = a
  · rw [h1, hset_s] at q; cases q
  · rwa [hset_n h1] at q
theorem lw_U {own : String} {idx : Nat} {C owner : String} {x y : MethodName} {b : ByteArray} {L : Nat} {r : Option FieldType} (h1 : Cond.methodLink own idx x ∈ lw_all) (h2 : Cond.sameMethod x.cls owner x.name x.desc ∈ lw_all) (h3 : Cond.selects C x y ∈ lw_all) (h4 : Cond.instanceMethod y ∈ lw_all) (h5 : Cond.initialized y.cls ∈ lw_all) (h6 : Cond.code y b L r ∈ lw_all) : GoodIn lw_all (va_wsU own idx C owner x y (ws_ y b L r)) := by
  refine lw_app ?_ (lw_meth h6)
  intro w hw
  simp only [List.mem_cons, List.not_mem_nil, or_false] at hw
  rcases hw with e | e | e | e | e
  · rw [e]; exact h1
  · rw [e]; exact h2
  · rw [e]; exact h3
  · rw [e]; exact h4
  · rw [e]; exact h5
theorem lw_F {own : String} {idx : Nat} {C : String} {x y : MethodName} {b : ByteArray} {L : Nat} {r : Option FieldType} (h1 : Cond.methodLink own idx x ∈ lw_all) (h3 : Cond.selects C x y ∈ lw_all) (h4 : Cond.instanceMethod y ∈ lw_all) (h5 : Cond.initialized y.cls ∈ lw_all) (h6 : Cond.code y b L r ∈ lw_all) : GoodIn lw_all (va_wsF own idx C x y (ws_ y b L r)) := by
  refine lw_app ?_ (lw_meth h6)
  intro w hw
  simp only [List.mem_cons, List.not_mem_nil, or_false] at hw
  rcases hw with e | e | e | e
  · rw [e]; exact h1
  · rw [e]; exact h3
  · rw [e]; exact h4
  · rw [e]; exact h5
theorem lw_SU {own : String} {idx : Nat} {y : MethodName} {b : ByteArray} {L : Nat} {r : Option FieldType} (h1 : Cond.methodLink own idx y ∈ lw_all) (h2 : Cond.sameMethod y.cls y.cls y.name y.desc ∈ lw_all) (h3 : Cond.superclass own y.cls ∈ lw_all) (h4 : Cond.instanceMethod y ∈ lw_all) (h5 : Cond.initialized y.cls ∈ lw_all) (h6 : Cond.code y b L r ∈ lw_all) : GoodIn lw_all (va_wsSU own idx y (ws_ y b L r)) := by
  refine lw_app ?_ (lw_meth h6)
  intro w hw
  simp only [List.mem_cons, List.not_mem_nil, or_false] at hw
  rcases hw with e | e | e | e | e
  · rw [e]; exact h1
  · rw [e]; exact h2
  · rw [e]; exact h3
  · rw [e]; exact h4
  · rw [e]; exact h5
section CU
variable {g : GP} {M : MC} {own C : String} {cc : ByteArray} {nL : Nat} {rt : Option FieldType} {R : Room} {k n pc index : Nat} {L : List (Option Value)} {st : List Value} {h : AH}
variable {y : MethodName} {bytes : ByteArray} {maxL mc ms na : Nat} {ret : Option FieldType} {rm : Room} {b : Addr} {As rest : List Value} {Post : Option Value → AH → Prop} {XPost : String → Nat → AH → Prop}
theorem c_U (cx : CX g M own cc nL rt R) (hM : KT (Ml M) g y (ws_ y bytes maxL ret) rm mc ms (.ref b :: As) h Post XPost) (hW : GoodIn lw_all (va_wsU own index C y.cls y y (ws_ y bytes maxL ret))) (hd : DN y na) (hR : RN R rm maxL mc ms) (hn : As.length = na) {ci : Nat} {fs : List Value} {r : vw_C} (hb : h b = some (eO ci fs)) (hc : allC[ci]? = some r) (hcls : r.1 = C) (hs : st = As.reverse ++ .ref b :: rest) (hcat : (rest.map fun v => v.category).sum ≤ 8) (d : decode cc pc = .ok (.invokevirtual index, 3)) (h1 : k + mc ≤ R.cells) (h2 : n + ms ≤ R.slots)
    (K1 : ∀ (v : Option Value) (h' : AH), Post v h' → AW g M (k + mc) (n + ms) (pc + 3) L (v.toList ++ rest) h') (K2 : ∀ (E : String) (q : Nat) (h' : AH), XPost E q h' → AX g M (k + mc) (n + ms) pc L E q h') (hLn : L.length = nL := by rfl) : AW g M k n pc L st h := by
  subst hs
  exact a_callU cx hM hW hd hR hn hb hc hcls hcat d h1 h2 ⟨K1, K2⟩ hLn
theorem c_SU (cx : CX g M own cc nL rt R) (hM : KT (Ml M) g y (ws_ y bytes maxL ret) rm mc ms (.ref b :: As) h Post XPost) (hW : GoodIn lw_all (va_wsSU own index y (ws_ y bytes maxL ret))) (hd : y.name ≠ "<init>" ∧ (parseMethodDescriptor y.desc).map (fun d => d.parameters.length) = some na) (hR : RN R rm maxL mc ms) (hn : As.length = na) {ci : Nat} {fs : List Value} {r : vw_C} (hb : h b = some (eO ci fs)) (hc : allC[ci]? = some r) (hcls : r.1 = C) (hs : st = As.reverse ++ .ref b :: rest) (hcat : (rest.map fun v => v.category).sum ≤ 8) (d : decode cc pc = .ok (.invokespecial index, 3)) (h1 : k + mc ≤ R.cells) (h2 : n + ms ≤ R.slots)
    (K1 : ∀ (v : Option Value) (h' : AH), Post v h' → AW g M (k + mc) (n + ms) (pc + 3) L (v.toList ++ rest) h') (K2 : ∀ (E : String) (q : Nat) (h' : AH), XPost E q h' → AX g M (k + mc) (n + ms) pc L E q h') (hLn : L.length = nL := by rfl) : AW g M k n pc L st h := by
  subst hs
  exact a_callSU cx hM hW hd hR hn hb hc hcls hcat d h1 h2 ⟨K1, K2⟩ hLn
theorem c_F {x : MethodName} {count : Nat} (cx : CX g M own cc nL rt R) (hM : KT (Ml M) g y (ws_ y bytes maxL ret) rm mc ms (.ref b :: As) h Post XPost) (hW : GoodIn lw_all (va_wsF own index C x y (ws_ y bytes maxL ret))) (hF : (C, x, y) ∈ faces) (hd : DN x na) (hR : RN R rm maxL mc ms) (hn : As.length = na) {ci : Nat} {fs : List Value} {r : vw_C} (hb : h b = some (eO ci fs)) (hc : allC[ci]? = some r) (hcls : r.1 = C) (hs : st = As.reverse ++ .ref b :: rest) (hcat : (rest.map fun v => v.category).sum ≤ 8) (d : decode cc pc = .ok (.invokeinterface index count, 5)) (h1 : k + mc ≤ R.cells) (h2 : n + ms ≤ R.slots)
    (K1 : ∀ (v : Option Value) (h' : AH), Post v h' → AW g M (k + mc) (n + ms) (pc + 5) L (v.toList ++ rest) h') (K2 : ∀ (E : String) (q : Nat) (h' : AH), XPost E q h' → AX g M (k + mc) (n + ms) pc L E q h') (hLn : L.length = nL := by rfl) : AW g M k n pc L st h := by
  subst hs
  exact a_callF cx hM hW hF hd hR hn hb hc hcls hcat d h1 h2 ⟨K1, K2⟩ hLn
end CU
/-- the first place of x in l -/
def fi (l : List Nat) (x : Nat) : Nat → Option Nat
  | 0 => none
  | k + 1 => match fi l x k with
    | some b => some b
    | none => if l.getD k 0 = x then some k else none
theorem fi_lt {l : List Nat} {x : Nat} : ∀ {n k : Nat}, fi l x n = some k → k < n ∧ l.getD k 0 = x := by
  intro n
  induction n with
  | zero => intro k h; cases h
  | succ n ih =>
    intro k h
    rw [fi] at h
    cases hn : fi l x n with
    | some b => rw [hn] at h; cases h; have := ih hn; exact ⟨by omega, this.2⟩
    | none =>
      rw [hn] at h
      dsimp only at h
      split at h
      · rename_i e; cases h; exact ⟨by omega, e⟩
      · cases h
theorem fi_up {l : List Nat} {x k : Nat} (h : fi l x (k + 1) = some k) : ∀ n, k < n → fi l x n = some k := by
  intro n
  induction n with
  | zero => intro hk; omega
  | succ n ih =>
    intro hk
    by_cases e : k = n
    · subst e; exact h
    · rw [fi, ih (by omega)]
