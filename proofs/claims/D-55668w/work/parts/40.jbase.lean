/-! CALLS, as the printed walks use them; Strings -/
set_option maxRecDepth 100000
section CC
variable {g : GP} {M : MC} {own C : String} {cc : ByteArray} {nL : Nat} {rt : Option FieldType} {R : Room} {k n pc index : Nat} {L : List (Option Value)} {st : List Value} {h : AH}
variable {y : MethodName} {bytes : ByteArray} {maxL mc ms na : Nat} {ret : Option FieldType} {hh : List (Nat × Nat × Nat × Nat)} {rm : Room} {b : Addr} {As rest : List Value} {Post : Option Value → AH → Prop} {XPost : String → Nat → AH → Prop}
theorem c_V (cx : CX g M own cc nL rt R) (hM : KT (Ml M) g y (ws_ y bytes maxL ret) rm mc ms (.ref b :: As) h Post XPost) (hW : GoodIn lw_all (wsV own index y.cls y (ws_ y bytes maxL ret))) (hd : DN y na) (hR : RN R rm maxL mc ms) (hn : As.length = na) {ci : Nat} {fs : List Value} {r : vw_C} (hb : h b = some (eO ci fs)) (hc : allC[ci]? = some r) (hcls : r.1 = y.cls) (hs : st = As.reverse ++ .ref b :: rest) (hcat : (rest.map fun v => v.category).sum ≤ 8) (d : decode cc pc = .ok (.invokevirtual index, 3)) (h1 : k + mc ≤ R.cells) (h2 : n + ms ≤ R.slots)
    (K1 : ∀ (v : Option Value) (h' : AH), Post v h' → AW g M (k + mc) (n + ms) (pc + 3) L (v.toList ++ rest) h') (K2 : ∀ (E : String) (q : Nat) (h' : AH), XPost E q h' → AX g M (k + mc) (n + ms) pc L E q h') (hLn : L.length = nL := by rfl) : AW g M k n pc L st h := by
  subst hs
  exact a_callV cx hM hW hd hR hn hb hc hcls hcat d h1 h2 ⟨K1, K2⟩ hLn
theorem c_VH (cx : CX g M own cc nL rt R) (hM : KT (Ml M) g y (wsW_ y bytes maxL ret hh) rm mc ms (.ref b :: As) h Post XPost) (hW : GoodIn lw_all (wsV own index y.cls y (wsW_ y bytes maxL ret hh))) (hd : DN y na) (hR : RN R rm maxL mc ms) (hn : As.length = na) {ci : Nat} {fs : List Value} {r : vw_C} (hb : h b = some (eO ci fs)) (hc : allC[ci]? = some r) (hcls : r.1 = y.cls) (hs : st = As.reverse ++ .ref b :: rest) (hcat : (rest.map fun v => v.category).sum ≤ 8) (d : decode cc pc = .ok (.invokevirtual index, 3)) (h1 : k + mc ≤ R.cells) (h2 : n + ms ≤ R.slots)
    (K1 : ∀ (v : Option Value) (h' : AH), Post v h' → AW g M (k + mc) (n + ms) (pc + 3) L (v.toList ++ rest) h') (K2 : ∀ (E : String) (q : Nat) (h' : AH), XPost E q h' → AX g M (k + mc) (n + ms) pc L E q h') (hLn : L.length = nL := by rfl) : AW g M k n pc L st h := by
  subst hs
  exact a_callVH cx hM hW hd hR hn hb hc hcls hcat d h1 h2 ⟨K1, K2⟩ hLn
theorem c_S (cx : CX g M own cc nL rt R) (hM : KT (Ml M) g y (ws_ y bytes maxL ret) rm mc ms As h Post XPost) (hW : GoodIn lw_all (va_wsS own index y (ws_ y bytes maxL ret))) (hd : DN y na) (hR : RN R rm maxL mc ms) (hn : As.length = na) (hs : st = As.reverse ++ rest) (hcat : (rest.map fun v => v.category).sum ≤ 8) (d : decode cc pc = .ok (.invokestatic index, 3)) (h1 : k + mc ≤ R.cells) (h2 : n + ms ≤ R.slots)
    (K1 : ∀ (v : Option Value) (h' : AH), Post v h' → AW g M (k + mc) (n + ms) (pc + 3) L (v.toList ++ rest) h') (K2 : ∀ (E : String) (q : Nat) (h' : AH), XPost E q h' → AX g M (k + mc) (n + ms) pc L E q h') (hLn : L.length = nL := by rfl) : AW g M k n pc L st h := by
  subst hs
  exact a_callS cx hM hW hd hR hn hcat d h1 h2 ⟨K1, K2⟩ hLn
theorem c_SH (cx : CX g M own cc nL rt R) (hM : KT (Ml M) g y (wsW_ y bytes maxL ret hh) rm mc ms As h Post XPost) (hW : GoodIn lw_all (va_wsS own index y (wsW_ y bytes maxL ret hh))) (hd : DN y na) (hR : RN R rm maxL mc ms) (hn : As.length = na) (hs : st = As.reverse ++ rest) (hcat : (rest.map fun v => v.category).sum ≤ 8) (d : decode cc pc = .ok (.invokestatic index, 3)) (h1 : k + mc ≤ R.cells) (h2 : n + ms ≤ R.slots)
    (K1 : ∀ (v : Option Value) (h' : AH), Post v h' → AW g M (k + mc) (n + ms) (pc + 3) L (v.toList ++ rest) h') (K2 : ∀ (E : String) (q : Nat) (h' : AH), XPost E q h' → AX g M (k + mc) (n + ms) pc L E q h') (hLn : L.length = nL := by rfl) : AW g M k n pc L st h := by
  subst hs
  exact a_callSH cx hM hW hd hR hn hcat d h1 h2 ⟨K1, K2⟩ hLn
theorem c_I (cx : CX g M own cc nL rt R) (hM : KT (Ml M) g y (ws_ y bytes maxL none) rm mc ms (.ref b :: As) h Post XPost) (hW : GoodIn lw_all (ws_ y bytes maxL none)) (q1 : Cond.initialized y.cls ∈ lw_all) (q2 : Cond.methodLink own index y ∈ lw_all) (q3 : Cond.instanceMethod y ∈ lw_all) (hy : y.name = "<init>") (hd : DN y na) (hR : RN R rm maxL mc ms) (hn : As.length = na) (hs : st = As.reverse ++ .ref b :: rest) (hcat : (rest.map fun v => v.category).sum ≤ 8) (d : decode cc pc = .ok (.invokespecial index, 3)) (h1 : k + mc ≤ R.cells) (h2 : n + ms ≤ R.slots)
    (K1 : ∀ (v : Option Value) (h' : AH), Post v h' → AW g M (k + mc) (n + ms) (pc + 3) L (v.toList ++ rest) h') (K2 : ∀ (E : String) (q : Nat) (h' : AH), XPost E q h' → AX g M (k + mc) (n + ms) pc L E q h') (hLn : L.length = nL := by rfl) : AW g M k n pc L st h := by
  subst hs
  exact a_callI cx hM hW q1 q2 q3 hy hd hR hn hcat d h1 h2 ⟨K1, K2⟩ hLn
theorem c_IN {host : String} (cx : CX g M own cc nL rt R) (hM : KT (Ml M) g y (ws_ y bytes maxL none) rm mc ms (.ref b :: As) h Post XPost) (hW : GoodIn lw_all (ws_ y bytes maxL none)) (q1 : Cond.initialized y.cls ∈ lw_all) (q2 : Cond.methodLinkNest own index y host ∈ lw_tbl) (q3 : Cond.instanceMethod y ∈ lw_all) (hy : y.name = "<init>") (hd : DN y na) (hR : RN R rm maxL mc ms) (hn : As.length = na) (hs : st = As.reverse ++ .ref b :: rest) (hcat : (rest.map fun v => v.category).sum ≤ 8) (d : decode cc pc = .ok (.invokespecial index, 3)) (h1 : k + mc ≤ R.cells) (h2 : n + ms ≤ R.slots)
    (K1 : ∀ (v : Option Value) (h' : AH), Post v h' → AW g M (k + mc) (n + ms) (pc + 3) L (v.toList ++ rest) h') (K2 : ∀ (E : String) (q : Nat) (h' : AH), XPost E q h' → AX g M (k + mc) (n + ms) pc L E q h') (hLn : L.length = nL := by rfl) : AW g M k n pc L st h := by
  subst hs
  exact a_callIN cx hM hW q1 q2 q3 hy hd hR hn hcat d h1 h2 ⟨K1, K2⟩ hLn
theorem c_SN {host : String} (cx : CX g M own cc nL rt R) (hM : KT (Ml M) g y (ws_ y bytes maxL ret) rm mc ms As h Post XPost) (hW : GoodIn lw_all (ws_ y bytes maxL ret)) (q1 : Cond.initialized y.cls ∈ lw_all) (q2 : Cond.methodLinkNest own index y host ∈ lw_tbl) (q3 : Cond.static y ∈ lw_all) (hd : DN y na) (hR : RN R rm maxL mc ms) (hn : As.length = na) (hs : st = As.reverse ++ rest) (hcat : (rest.map fun v => v.category).sum ≤ 8) (d : decode cc pc = .ok (.invokestatic index, 3)) (h1 : k + mc ≤ R.cells) (h2 : n + ms ≤ R.slots)
    (K1 : ∀ (v : Option Value) (h' : AH), Post v h' → AW g M (k + mc) (n + ms) (pc + 3) L (v.toList ++ rest) h') (K2 : ∀ (E : String) (q : Nat) (h' : AH), XPost E q h' → AX g M (k + mc) (n + ms) pc L E q h') (hLn : L.length = nL := by rfl) : AW g M k n pc L st h := by
  subst hs
  exact a_callSN cx hM hW q1 q2 q3 hd hR hn hcat d h1 h2 ⟨K1, K2⟩ hLn
/-- what touches nothing and always answers r -/
abbrev isP (r : Value) (h : AH) : Option Value → AH → Prop := fun v h' => v = some r ∧ h' = h
theorem c_Vp {r : Value} (cx : CX g M own cc nL rt R) (hM : KT (Ml M) g y (ws_ y bytes maxL ret) rm 0 0 (.ref b :: As) h (isP r h) noX) (hW : GoodIn lw_all (wsV own index y.cls y (ws_ y bytes maxL ret))) (hd : DN y na) (hR : RN R rm maxL 0 0) (hn : As.length = na) {ci : Nat} {fs : List Value} {rc : vw_C} (hb : h b = some (eO ci fs)) (hc : allC[ci]? = some rc) (hcls : rc.1 = y.cls) (hs : st = As.reverse ++ .ref b :: rest) (hcat : (rest.map fun v => v.category).sum ≤ 8) (d : decode cc pc = .ok (.invokevirtual index, 3)) (h1 : k ≤ R.cells) (h2 : n ≤ R.slots)
    (K : AW g M k n (pc + 3) L (r :: rest) h) (hLn : L.length = nL := by rfl) : AW g M k n pc L st h :=
  c_V cx hM hW hd hR hn hb hc hcls hs hcat d h1 h2 (fun v h' ⟨e1, e2⟩ => by subst e1; subst e2; exact K) (fun E q h' hx => hx.elim) hLn
theorem c_Sp {r : Value} (cx : CX g M own cc nL rt R) (hM : KT (Ml M) g y (ws_ y bytes maxL ret) rm 0 0 As h (isP r h) noX) (hW : GoodIn lw_all (va_wsS own index y (ws_ y bytes maxL ret))) (hd : DN y na) (hR : RN R rm maxL 0 0) (hn : As.length = na) (hs : st = As.reverse ++ rest) (hcat : (rest.map fun v => v.category).sum ≤ 8) (d : decode cc pc = .ok (.invokestatic index, 3)) (h1 : k ≤ R.cells) (h2 : n ≤ R.slots)
    (K : AW g M k n (pc + 3) L (r :: rest) h) (hLn : L.length = nL := by rfl) : AW g M k n pc L st h :=
  c_S cx hM hW hd hR hn hs hcat d h1 h2 (fun v h' ⟨e1, e2⟩ => by subst e1; subst e2; exact K) (fun E q h' hx => hx.elim) hLn
end CC
/-- the String s stands at a -/
def StrAt (g : GP) (h : AH) (a : Nat) (s : List Nat) : Prop :=
  ∃ (b : Nat) (hs hz : Int32), h a = some (eO 15 [.ref b, .int 0, .int hs, .int hz]) ∧ h b = some (eI (g.2.1 1) s.length (sCh s)) ∧ ((hs = 0 ∧ hz = 0) ∨ (hs = shash s ∧ hz = (if shash s = 0 then 1 else 0)))
theorem KC.str {g : GP} {h : AH} (hk : KC g h) {t : Nat} (ht : t < 14) : StrAt g h (gs g (10 + t)) (ltr t) := by
  obtain ⟨k1, k2⟩ := hk.1 t ht
  refine ⟨gs g (40 + t), shash (ltr t), _, k1, k2, Or.inr ⟨rfl, ?_⟩⟩
  have : ∀ t, t < 14 → (if t = 0 then (1 : Int32) else 0) = (if shash (ltr t) = 0 then 1 else 0) := by decide +kernel
  exact this t ht
theorem sb_255 : ∀ n, n < 128 → sb_b n &&& 255 = nI n := by decide +kernel
theorem c_nat : ∀ n, n < 128 → ((nI n).toUInt32 % 65536).toInt32 = nI n ∧ narrow .char (.int (nI n)) = .int (nI n) := by decide +kernel
theorem shr0 (x : Int32) : x >>> ((0 : Int32) &&& 31) = x := by
  have : (0 : Int32) &&& 31 = 0 := by decide
  rw [this]
  apply Int32.toBitVec_inj.mp
  simp
/-- ASCII -/
def asc (s : List Nat) : Prop := s.length < 2 ^ 16 ∧ ∀ c, c ∈ s → c < 128
theorem asc.at {s : List Nat} (h : asc s) {i : Nat} : s.getD i 0 < 128 := by
  rw [List.getD_eq_getElem?_getD]
  by_cases hi : i < s.length
  · rw [List.getElem?_eq_getElem hi]
    exact h.2 _ (List.getElem_mem hi)
  · rw [List.getElem?_eq_none (by omega)]
    decide
theorem asc_ltr : ∀ t, t < 14 → asc (ltr t) := by
  have : ∀ t, t < 14 → (ltr t).length < 2 ^ 16 ∧ (ltr t).all (fun c => decide (c < 128)) = true := by decide +kernel
  intro t ht
  exact ⟨(this t ht).1, fun c hc => of_decide_eq_true (List.all_eq_true.mp (this t ht).2 c hc)⟩
section GGS
variable {g : GP} {U : State} {H : Heap}
theorem GG.dce (h : GG g U H) : va_Z "java/util/ArrayList" "DEFAULTCAPACITY_EMPTY_ELEMENTDATA" "[Ljava/lang/Object;" (.ref (gs g 0)) (gA g) U H := by
  obtain ⟨h1, h2, h3, h4, h5, h6, h7, h8, h9, h10, h11, h12, hB, hs⟩ := h
  exact h12.1
theorem GG.dte (h : GG g U H) : va_Z "java/lang/Integer" "DigitTens" "[B" (.ref (gs g 1)) (gA g) U H := by
  obtain ⟨h1, h2, h3, h4, h5, h6, h7, h8, h9, h10, h11, h12, hB, hs⟩ := h
  exact h12.2.1
theorem GG.don (h : GG g U H) : va_Z "java/lang/Integer" "DigitOnes" "[B" (.ref (gs g 2)) (gA g) U H := by
  obtain ⟨h1, h2, h3, h4, h5, h6, h7, h8, h9, h10, h11, h12, hB, hs⟩ := h
  exact h12.2.2.1
theorem GG.cst (h : GG g U H) : va_Z "java/lang/String" "COMPACT_STRINGS" "Z" (.int 1) (gA g) U H := by
  obtain ⟨h1, h2, h3, h4, h5, h6, h7, h8, h9, h10, h11, h12, hB, hs⟩ := h
  exact h12.2.2.2.1
theorem GG.sio (h : GG g U H) : va_Zq "jdk/internal/util/Preconditions" "SIOOBE_FORMATTER" "Ljava/util/function/BiFunction;" (gA g) U H := by
  obtain ⟨h1, h2, h3, h4, h5, h6, h7, h8, h9, h10, h11, h12, hB, hs⟩ := h
  exact h12.2.2.2.2.1
theorem GG.str (h : GG g U H) {C : String} {i t : Nat} (ht : (C, i, t) ∈ strT) : vk_R C i (txt t) (gs g (10 + t)) U := by
  obtain ⟨h1, h2, h3, h4, h5, h6, h7, h8, h9, h10, h11, h12, hB, hs⟩ := h
  exact h9 _ ht
end GGS
theorem a_ldcSw {g : GP} {M : MC} {own : String} {cc : ByteArray} {nL : Nat} {rt : Option FieldType} {R : Room} {k n pc : Nat} {L : List (Option Value)} {st : List Value} {h : AH} {tx : String} {index q : Nat} (cx : CX g M own cc nL rt R) (hZ : vk_R own index tx q (Ms M)) (d : decode cc pc = .ok (.ldc_w index, 3)) (K : AW g M k n (pc + 3) L (.ref q :: st) h) : AW g M k n pc L st h := fun H locs ls hH hk hS hl => by
  intro T hT X
  obtain ⟨t, a1, b1⟩ := K H locs ls hH hk hS hl T hT X
  exact ⟨t, X.ldcStringW cx.hx cx.hown (text := tx) (a := q) hZ.1 hZ.2 (g := F0 (Mm M) pc ls st) rfl (by rw [cx.hb]; exact d) t a1, b1⟩
