set_option maxRecDepth 100000
/-! the judgement -/
def AW (g : GP) (M : MC) (k n pc : Nat) (L : List (Option Value)) (st : List Value) (h : AH) : Prop :=
  ∀ (H : Heap) (locs : List Loc) (ls : Array Slot), HP g.1 allC h H → HK g h → va_S (gA g) (Ms M).heap H locs → lvo ls L → W (Mp M) (Ml M) (Me M) (MR M) (Ms M) (Mm M) (Ma M) (Mb M) (Mt M) (Mc M) H locs k n (Mq M) (F0 (Mm M) pc ls st)
/-- q, of class E, is thrown at pc -/
def AX (g : GP) (M : MC) (k n pc : Nat) (L : List (Option Value)) (E : String) (q : Nat) (h : AH) : Prop :=
  ∀ (H : Heap) (locs : List Loc) (ls : Array Slot) (ce : Cell) (rest : List Value), HP g.1 allC h H → HK g h → va_S (gA g) (Ms M).heap H locs → lvo ls L → H[q]? = some ce → ce.vm = .none → (Ms M).vm.findClass E = some ce.cls → vx_W (Mp M) (Ml M) (Me M) (MR M) (Ms M) (Mm M) (Ma M) (Mb M) (Mt M) (Mc M) H locs k n (Mq M) (F0 (Mm M) pc ls rest) q
def CX (g : GP) (M : MC) (own : String) (cc : ByteArray) (nL : Nat) (rt : Option FieldType) (R : Room) : Prop :=
  (Mp M).tables.exec = Jvm.exec ∧ (Mc M).code = cc ∧ (Mc M).maxLocals = nL ∧ (Ms M).vm.findClass own = some (Mm M).cls ∧ (∀ w ∈ lw_all, w.before (Ma M) (Ms M) = true) ∧ (Mt M).locks = false ∧ (Mt M).sig.returnType = rt ∧ GG g (Ms M) (Ms M).heap ∧ (Ml M).stackTraces = false ∧ MR M = R
section CXS
variable {g : GP} {M : MC} {own : String} {cc : ByteArray} {nL : Nat} {rt : Option FieldType} {R : Room}
theorem CX.hx (c : CX g M own cc nL rt R) : (Mp M).tables.exec = Jvm.exec := c.1
theorem CX.hb (c : CX g M own cc nL rt R) : (Mc M).code = cc := c.2.1
theorem CX.hml (c : CX g M own cc nL rt R) : (Mc M).maxLocals = nL := c.2.2.1
theorem CX.hown (c : CX g M own cc nL rt R) : (Ms M).vm.findClass own = some (Mm M).cls := c.2.2.2.1
theorem CX.hts (c : CX g M own cc nL rt R) : ∀ w ∈ lw_all, w.before (Ma M) (Ms M) = true := c.2.2.2.2.1
theorem CX.hlk (c : CX g M own cc nL rt R) : (Mt M).locks = false := c.2.2.2.2.2.1
theorem CX.hr (c : CX g M own cc nL rt R) : (Mt M).sig.returnType = rt := c.2.2.2.2.2.2.1
theorem CX.hG (c : CX g M own cc nL rt R) : GG g (Ms M) (Ms M).heap := c.2.2.2.2.2.2.2.1
theorem CX.htr (c : CX g M own cc nL rt R) : (Ml M).stackTraces = false := c.2.2.2.2.2.2.2.2.1
theorem CX.hR (c : CX g M own cc nL rt R) : MR M = R := c.2.2.2.2.2.2.2.2.2
theorem CX.fix (c : CX g M own cc nL rt R) : CallFix (Mp M) (Mm M) (Mc M) cc nL (Ms M) (Ma M) lw_all own := ⟨c.hx, c.hb, c.hml, c.hown, c.hts⟩
end CXS
def isR : Value → Bool
  | .ref _ => true
  | .null => true
  | _ => false
theorem AW.widen {g : GP} {M : MC} {k n k' n' pc : Nat} {L : List (Option Value)} {st : List Value} {h : AH} (h1 : k ≤ k') (h2 : n ≤ n') (K : AW g M k' n' pc L st h) : AW g M k n pc L st h := fun H locs ls hH hk hS hl => W.widen h1 h2 (K H locs ls hH hk hS hl)
theorem AX.widen {g : GP} {M : MC} {k n k' n' pc : Nat} {L : List (Option Value)} {E : String} {q : Nat} {h : AH} (h1 : k ≤ k') (h2 : n ≤ n') (K : AX g M k' n' pc L E q h) : AX g M k n pc L E q h := fun H locs ls ce rest hH hk hS hl e1 e2 e3 => vx_widen h1 h2 (K H locs ls ce rest hH hk hS hl e1 e2 e3)
theorem AW.loc {g : GP} {M : MC} {k n pc : Nat} {L L' : List (Option Value)} {st : List Value} {h : AH} (hl : lle L' L) (K : AW g M k n pc L' st h) : AW g M k n pc L st h := fun H locs ls hH hk hS ho => K H locs ls hH hk hS (ho.sub hl)
theorem AW.cast {g : GP} {M : MC} {k n pc : Nat} {L L' : List (Option Value)} {st st' : List Value} {h : AH} (hL : L = L') (hs : st = st') (K : AW g M k n pc L' st' h) : AW g M k n pc L st h := by rw [hL, hs]; exact K
theorem AW.stk {g : GP} {M : MC} {k n pc : Nat} {L : List (Option Value)} {st st' : List Value} {h : AH} (hs : st = st') (K : AW g M k n pc L st' h) : AW g M k n pc L st h := by rw [hs]; exact K
theorem AW.top {g : GP} {M : MC} {k n pc : Nat} {L : List (Option Value)} {v v' : Value} {st : List Value} {h : AH} (hs : v = v') (K : AW g M k n pc L (v' :: st) h) : AW g M k n pc L (v :: st) h := by rw [hs]; exact K
theorem AW.topi {g : GP} {M : MC} {k n pc : Nat} {L : List (Option Value)} {v v' : Int32} {st : List Value} {h : AH} (hs : v = v') (K : AW g M k n pc L (.int v' :: st) h) : AW g M k n pc L (.int v :: st) h := by rw [hs]; exact K
/-- less is known of the heap -/
theorem AW.hm {g : GP} {M : MC} {k n pc : Nat} {L : List (Option Value)} {st : List Value} {h h' : AH} (hm : ∀ a e, h' a = some e → h a = some e) (hc : HK g h → HK g h') (K : AW g M k n pc L st h') : AW g M k n pc L st h := fun H locs ls hH hk hS hl => K H locs ls (hH.mono hm) (hc hk) hS hl
/-- the constants are always there -/
theorem AW.hk {g : GP} {M : MC} {k n pc : Nat} {L : List (Option Value)} {st : List Value} {h : AH} (K : HK g h → AW g M k n pc L st h) : AW g M k n pc L st h := fun H locs ls hH hk hS hl => K hk H locs ls hH hk hS hl
theorem isR.or {v : Value} (h : isR v = true) : v = .null ∨ ∃ a, v = .ref a := by
  cases v with
  | ref x => exact Or.inr ⟨x, rfl⟩
  | null => exact Or.inl rfl
  | _ => cases h
/-! contracts -/
def kQ (g : GP) (Post : Option Value → AH → Prop) : Array Value → State → Outcome → State → Prop := fun _ st o t => ∃ (v : Option Value) (h' : AH), o = .returned v ∧ Post v h' ∧ HP g.1 allC h' t.heap ∧ HK g h' ∧ va_F (gA g) st t
def kX (g : GP) (XPost : String → Nat → AH → Prop) : String → Nat → State → State → Prop := fun E q st t => ∃ h' : AH, XPost E q h' ∧ HP g.1 allC h' t.heap ∧ HK g h' ∧ va_F (gA g) st t
def kPc (g : GP) (av : List Value) (h : AH) : Array Value → State → Prop := va_Pc av (fun U => GG g U U.heap ∧ HP g.1 allC h U.heap ∧ HK g h)
def noX : String → Nat → AH → Prop := fun _ _ _ => False
/-- the contract: called with av where h is known, y returns v with Post v h', or throws q of class E with XPost E q h' -/
def KT (l : Launch) (g : GP) (y : MethodName) (ws : List Cond) (rm : Room) (mc ms : Nat) (av : List Value) (h : AH) (Post : Option Value → AH → Prop) (XPost : String → Nat → AH → Prop) : Prop :=
  vx_Met l y ws rm (kPc g av h) (kQ g Post) (kX g XPost) mc ms (gA g)
theorem kPc.blind {g : GP} {av : List Value} {h : AH} : FrameBlind (kPc g av h) := fun a U _ mk hp => ⟨hp.1, GG.same (u := U) rfl hp.2.1, hp.2.2⟩
theorem kPc.at {g : GP} {av : List Value} {h : AH} {s U : State} {H : Heap} {locs : List Loc} (hG : GG g s s.heap) (hS : va_S (gA g) s.heap H locs) (hH : HP g.1 allC h H) (hk : HK g h) (hU : U.heap = H) (hW : s.WarmedH U.vm) : kPc g av h av.toArray U := ⟨rfl, hG.at hS hU hW, by rw [hU]; exact hH, hk⟩
/-- what a method's body owes -/
def KQ (g : GP) (M : MC) (Post : Option Value → AH → Prop) (XPost : String → Nat → AH → Prop) (mc ms : Nat) : Prop := Mq M = vx_MQ (Mb M) (kQ g Post) (kX g XPost) (Ma M) (Ms M) mc ms (gA g)
theorem gA_new {g : GP} {s : State} (hG : GG g s s.heap) : ∀ q : Nat, s.heap.size ≤ q → gA g q := fun q h => Nat.le_trans hG.bz h
/-- a contract out of its body, a method without handlers -/
theorem KT.of {l : Launch} {g : GP} {y : MethodName} {cc : ByteArray} {maxL : Nat} {rt : Option FieldType} {rm : Room} {mc ms : Nat} {av : List Value} {h : AH} {Post : Option Value → AH → Prop} {XPost : String → Nat → AH → Prop}
    (hy : plainName y.cls = true) (htr : l.stackTraces = false) {L0 : List (Option Value)} (hl : (lg_sl av).length ≤ maxL) (hL : lvE av maxL = L0)
    (body : ∀ M : MC, CX g M y.cls cc maxL rt rm → Ml M = l → KQ g M Post XPost mc ms → (Mt M).name = y.name → (∀ x ∈ (Mc M).exceptionTable.toList, False) → AW g M 0 0 0 L0 [] h) : KT l g y (ws_ y cc maxL rt) rm mc ms av h Post XPost := by
  refine vx_ofW (cc := cc) (maxL := maxL) (ret := rt) hy rfl ?_
  intro p e s m args below meth c s₁ B hml hnx hv
  obtain ⟨rfl, hG, hH, hk⟩ := hv
  have hts := atoms_spec (ws := ws_ y cc maxL rt) B.pre
  have hts : ∀ w ∈ lw_all, w.before _ s = true := fun w h => hts w (List.mem_cons_of_mem _ h)
  have hown : s.vm.findClass y.cls = some m.cls := findClass_of_methodNamed B.named
  have hin : meth.name = y.name := (name_of_methodNamed B.named B.method).1
  rw [lg_entry_eq]
  exact body (p, l, e, rm, s, m, av.toArray, below, meth, c, vx_MQ below (kQ g Post) (kX g XPost) av.toArray s mc ms (gA g)) ⟨B.exec, B.bytes, hml, hown, hts, B.notSynchronized, B.returns, hG, htr, rfl⟩ rfl rfl hin hnx s.heap [] _ hH hk va_S.rf (hL ▸ lvo.entry av hl)
/-- .. and one with handlers -/
theorem KT.ofH {l : Launch} {g : GP} {y : MethodName} {cc : ByteArray} {maxL : Nat} {rt : Option FieldType} {hh : List (Nat × Nat × Nat × Nat)} {rm : Room} {mc ms : Nat} {av : List Value} {h : AH} {Post : Option Value → AH → Prop} {XPost : String → Nat → AH → Prop}
    (hy : plainName y.cls = true) (htr : l.stackTraces = false) {L0 : List (Option Value)} (hl : (lg_sl av).length ≤ maxL) (hL : lvE av maxL = L0)
    (body : ∀ M : MC, CX g M y.cls cc maxL rt rm → Ml M = l → KQ g M Post XPost mc ms → (Mt M).name = y.name → (Mc M).exceptionTable.toList = tableOf hh → AW g M 0 0 0 L0 [] h) : KT l g y (wsW_ y cc maxL rt hh) rm mc ms av h Post XPost := by
  refine vx_ofWH (cc := cc) (maxL := maxL) (ret := rt) (hh := hh) hy rfl ?_
  intro p e s m args below meth c s₁ B hml hv
  obtain ⟨rfl, hG, hH, hk⟩ := hv
  have hts0 := atoms_spec (ws := wsW_ y cc maxL rt hh) B.pre
  have hts : ∀ w ∈ lw_all, w.before _ s = true := fun w h => hts0 w (List.mem_cons_of_mem _ h)
  have hown : s.vm.findClass y.cls = some m.cls := findClass_of_methodNamed B.named
  have hin : meth.name = y.name := (name_of_methodNamed B.named B.method).1
  have htab : c.exceptionTable.toList = tableOf hh := vx_table (x := y) B (hts0 _ List.mem_cons_self)
  rw [lg_entry_eq]
  exact body (p, l, e, rm, s, m, av.toArray, below, meth, c, vx_MQ below (kQ g Post) (kX g XPost) av.toArray s mc ms (gA g)) ⟨B.exec, B.bytes, hml, hown, hts, B.notSynchronized, B.returns, hG, htr, rfl⟩ rfl rfl hin htab s.heap [] _ hH hk va_S.rf (hL ▸ lvo.entry av hl)
/-- a contract that says less -/
theorem KT.weak {l : Launch} {g : GP} {y : MethodName} {ws : List Cond} {rm : Room} {mc ms : Nat} {av : List Value} {h : AH} {Post Post' : Option Value → AH → Prop} {XPost XPost' : String → Nat → AH → Prop} (hM : KT l g y ws rm mc ms av h Post XPost)
    (hp : ∀ v h', Post v h' → Post' v h') (hx : ∀ E q h', XPost E q h' → XPost' E q h') : KT l g y ws rm mc ms av h Post' XPost' := by
  refine kt_imp (S := headSpec ws rm) hM (fun a st o t hq => ?_)
  rcases hq with ⟨⟨v, h', e1, e2, e3⟩, e4⟩ | ⟨q, e1, E, ce, L, ⟨h', e2, e3⟩, e4⟩
  · exact Or.inl ⟨⟨v, h', e1, hp v h' e2, e3⟩, e4⟩
  · exact Or.inr ⟨q, e1, E, ce, L, ⟨h', hx E q h' e2, e3⟩, e4⟩
/-- a contract that never throws, in the kit's own form -/
theorem KT.met {l : Launch} {g : GP} {y : MethodName} {ws : List Cond} {rm : Room} {mc ms : Nat} {av : List Value} {h : AH} {Post : Option Value → AH → Prop} (hM : KT l g y ws rm mc ms av h Post noX) : Met l y ws rm (kPc g av h) (kQ g Post) mc ms (gA g) := by
  refine kt_imp (S := headSpec ws rm) hM (fun a st o t hq => ?_)
  rcases hq with hq | ⟨q, e1, E, ce, L, ⟨h', e2, e3⟩, e4⟩
  · exact hq
  · exact e2.elim
/-! returns -/
section RET
variable {g : GP} {M : MC} {own : String} {cc : ByteArray} {nL : Nat} {rt : Option FieldType} {R : Room} {k n pc mc ms : Nat} {L : List (Option Value)} {st : List Value} {h : AH} {Post : Option Value → AH → Prop} {XPost : String → Nat → AH → Prop}
theorem kQ.mk {H : Heap} {locs : List Loc} {v : Option Value} (hp : Post v h) (hH : HP g.1 allC h H) (hk : HK g h) (hS : va_S (gA g) (Ms M).heap H locs) : ∀ t : State, t.heap = H → (Ms M).WarmedH t.vm → kQ g Post (Ma M) (Ms M) (.returned v) t := fun t ht _ => ⟨v, h, rfl, hp, by rw [ht]; exact hH, hk, hS.F ht⟩
theorem a_iret (cx : CX g M own cc nL (some .int) R) (hQ : KQ g M Post XPost mc ms) {x : Int32} (d : decode cc pc = .ok (.ireturn, 1)) (hp : Post (some (.int x)) h) (h1 : k ≤ mc) (h2 : n ≤ ms) : AW g M k n pc L [.int x] h := by
  intro H locs ls hH hk hS hl
  rw [hQ]
  exact vx_ret (W.widen h1 h2 (W.iret cx.hx cx.hb cx.hr (kQ.mk hp hH hk hS) hS.2.2 d cx.hlk))
theorem a_zret {rt0 : FieldType} (cx : CX g M own cc nL (some rt0) R) (hQ : KQ g M Post XPost mc ms) {x : Int32} (d : decode cc pc = .ok (.ireturn, 1)) (hn : narrow rt0 (.int x) = .int x) (hp : Post (some (.int x)) h) (h1 : k ≤ mc) (h2 : n ≤ ms) : AW g M k n pc L [.int x] h := by
  intro H locs ls hH hk hS hl
  rw [hQ]
  exact vx_ret (W.widen h1 h2 (W.zret cx.hx cx.hb cx.hr hn (kQ.mk hp hH hk hS) hS.2.2 d cx.hlk))
theorem a_vret (cx : CX g M own cc nL none R) (hQ : KQ g M Post XPost mc ms) (d : decode cc pc = .ok (.return_, 1)) (hp : Post none h) (h1 : k ≤ mc) (h2 : n ≤ ms) : AW g M k n pc L [] h := by
  intro H locs ls hH hk hS hl
  rw [hQ]
  exact vx_ret (W.widen h1 h2 (W.vret cx.hx cx.hb cx.hr (kQ.mk hp hH hk hS) hS.2.2 d cx.hlk))
theorem a_aret {rt0 : FieldType} (cx : CX g M own cc nL (some rt0) R) (hQ : KQ g M Post XPost mc ms) {v : Value} (d : decode cc pc = .ok (.areturn, 1)) (hrt : (∃ n, rt0 = .object n) ∨ ∃ t, rt0 = .array t) (hp : Post (some v) h) (h1 : k ≤ mc) (h2 : n ≤ ms) (hv : isR v = true := by rfl) : AW g M k n pc L [v] h := by
  intro H locs ls hH hk hS hl
  rw [hQ]
  exact vx_ret (W.widen h1 h2 (W.aret cx.hx cx.hb cx.hr hrt (isR.or hv) (kQ.mk hp hH hk hS) hS.2.2 d cx.hlk))
theorem a_fret (cx : CX g M own cc nL (some .float) R) (hQ : KQ g M Post XPost mc ms) {x : UInt32} (d : decode cc pc = .ok (.freturn, 1)) (hp : Post (some (.float x)) h) (h1 : k ≤ mc) (h2 : n ≤ ms) : AW g M k n pc L [.float x] h := by
  intro H locs ls hH hk hS hl
  rw [hQ]
  exact vx_ret (W.widen h1 h2 (W.fret cx.hx cx.hb cx.hr (kQ.mk hp hH hk hS) hS.2.2 d cx.hlk))
theorem a_dret (cx : CX g M own cc nL (some .double) R) (hQ : KQ g M Post XPost mc ms) {x : UInt64} (d : decode cc pc = .ok (.dreturn, 1)) (hp : Post (some (.double x)) h) (h1 : k ≤ mc) (h2 : n ≤ ms) : AW g M k n pc L [.double x] h := by
  intro H locs ls hH hk hS hl
  rw [hQ]
  exact vx_ret (W.widen h1 h2 (W.dret cx.hx cx.hb cx.hr (kQ.mk hp hH hk hS) hS.2.2 d cx.hlk))
/-- an exception that isn't caught here: a method without handlers -/
theorem AX.out (cx : CX g M own cc nL rt R) (hQ : KQ g M Post XPost mc ms) (hnx : ∀ x ∈ (Mc M).exceptionTable.toList, False) {E : String} {q : Nat} (hp : XPost E q h) (h1 : k ≤ mc) (h2 : n ≤ ms) : AX g M k n pc L E q h := by
  intro H locs ls ce rest hH hk hS hl e1 e2 e3
  rw [hQ]
  exact vx_out (fun x hx => (hnx x hx).elim) cx.hlk e1 e2 e3 (fun t ht _ => ⟨h, hp, by rw [ht]; exact hH, hk, hS.F ht⟩) hS.2.2 h1 h2
/-- .. one that passes by all handlers -/
theorem AX.pass (cx : CX g M own cc nL rt R) (hQ : KQ g M Post XPost mc ms) {E : String} {q : Nat} (hpass : ∀ z ∈ (Mc M).exceptionTable.toList, covers z pc = false ∨ (z.catchType ≠ 0 ∧ ∃ nm : String, (Cond.classLink own z.catchType nm).before (Ma M) (Ms M) = true ∧ va_Nc E nm (Ms M))) (hp : XPost E q h) (h1 : k ≤ mc) (h2 : n ≤ ms) : AX g M k n pc L E q h := by
  intro H locs ls ce rest hH hk hS hl e1 e2 e3
  rw [hQ]
  exact vx_outP cx.hown cx.hlk hpass e1 e2 e3 (fun t ht _ => ⟨h, hp, by rw [ht]; exact hH, hk, hS.F ht⟩) hS.2.2 h1 h2
/-- .. one that is caught -/
theorem AX.catch (cx : CX g M own cc nL rt R) {E name : String} {q : Nat} (pre : List ExceptionTableEntry) (x : ExceptionTableEntry) (suf : List ExceptionTableEntry) (hsplit : (Mc M).exceptionTable.toList = pre ++ x :: suf)
    (hpass : ∀ z ∈ pre, covers z pc = false ∨ (z.catchType ≠ 0 ∧ ∃ nm : String, (Cond.classLink own z.catchType nm).before (Ma M) (Ms M) = true ∧ va_Nc E nm (Ms M))) (hx : covers x pc = true) (h0 : x.catchType ≠ 0)
    (hlink : Cond.classLink own x.catchType name ∈ lw_all) (hcast : Cond.castable E name ∈ lw_tbl) (K : AW g M k n x.handlerPc L [.ref q] h) : AX g M k n pc L E q h := by
  intro H locs ls ce rest hH hk hS hl e1 e2 e3
  exact vx_catch cx.hown pre x suf hsplit hpass hx h0 (cx.hts _ hlink) (cx.hG.nest hcast rfl) e1 e2 e3 (K H locs ls hH hk hS hl)
end RET
/-- what an object in h is: for 'athrow' -/
theorem HP.obj {g : GP} {U : State} {h : AH} {H : Heap} (hK : va_K g.1 allC (gT g) U) (hH : HP g.1 allC h H) {q ci : Nat} {fs : List Value} (hq : h q = some (eO ci fs)) {r : vw_C} (hc : allC[ci]? = some r) : ∃ ce : Cell, H[q]? = some ce ∧ ce.vm = .none ∧ U.vm.findClass r.1 = some ce.cls := by
  obtain ⟨r', h1, cell, q1, q2, q3, q4⟩ := hH q _ hq
  cases h1.symm.trans hc
  exact ⟨cell, q1, q3, by rw [q2]; exact (hK.1 ci _ hc).2.1⟩
theorem a_athrow {g : GP} {M : MC} {own : String} {cc : ByteArray} {nL : Nat} {rt : Option FieldType} {R : Room} {k n pc : Nat} {L : List (Option Value)} {st : List Value} {h : AH} (cx : CX g M own cc nL rt R) {q ci : Nat} {fs : List Value} {r : vw_C} (d : decode cc pc = .ok (.athrow, 1)) (hq : h q = some (eO ci fs)) (hc : allC[ci]? = some r) (K : AX g M k n pc L r.1 q h) : AW g M k n pc L (.ref q :: st) h := by
  intro H locs ls hH hk hS hl
  obtain ⟨ce, e1, e2, e3⟩ := HP.obj cx.hG.K hH hq hc
  exact vx_athrow cx.hx cx.hb d (K H locs ls ce st hH hk hS hl e1 e2 e3)
theorem a_iconst {g : GP} {M : MC} {own : String} {cc : ByteArray} {nL : Nat} {rt : Option FieldType} {R : Room} {k n pc : Nat} {L : List (Option Value)} {st : List Value} {h : AH} (cx : CX g M own cc nL rt R) {i : Int} {v : Int32} (d : decode cc pc = .ok (.iconst i, 1)) (hv : Int32.ofInt i = v) (K : AW g M k n (pc + 1) L (.int v :: st) h) : AW g M k n pc L st h := by
  intro H locs ls hH hk hS hl
  exact lv_iconst cx.hx cx.hb d hv (K H locs ls hH hk hS hl)
theorem a_bipush {g : GP} {M : MC} {own : String} {cc : ByteArray} {nL : Nat} {rt : Option FieldType} {R : Room} {k n pc : Nat} {L : List (Option Value)} {st : List Value} {h : AH} (cx : CX g M own cc nL rt R) {i : Int} {v : Int32} (d : decode cc pc = .ok (.bipush i, 2)) (hv : (Int8.ofInt i).toInt32 = v) (K : AW g M k n (pc + 2) L (.int v :: st) h) : AW g M k n pc L st h := by
  intro H locs ls hH hk hS hl
  exact lv_bipush cx.hx cx.hb d hv (K H locs ls hH hk hS hl)
theorem a_sipush {g : GP} {M : MC} {own : String} {cc : ByteArray} {nL : Nat} {rt : Option FieldType} {R : Room} {k n pc : Nat} {L : List (Option Value)} {st : List Value} {h : AH} (cx : CX g M own cc nL rt R) {i : Int} {v : Int32} (d : decode cc pc = .ok (.sipush i, 3)) (hv : (Int16.ofInt i).toInt32 = v) (K : AW g M k n (pc + 3) L (.int v :: st) h) : AW g M k n pc L st h := by
  intro H locs ls hH hk hS hl
  exact lv_sipush cx.hx cx.hb d hv (K H locs ls hH hk hS hl)
theorem a_lconst {g : GP} {M : MC} {own : String} {cc : ByteArray} {nL : Nat} {rt : Option FieldType} {R : Room} {k n pc : Nat} {L : List (Option Value)} {st : List Value} {h : AH} (cx : CX g M own cc nL rt R) {i : Fin 2} {v : Int64} (d : decode cc pc = .ok (.lconst i, 1)) (hv : Int64.ofNat (i : Nat) = v) (K : AW g M k n (pc + 1) L (.long v :: st) h) : AW g M k n pc L st h := by
  intro H locs ls hH hk hS hl
  exact lv_lconst cx.hx cx.hb d hv (K H locs ls hH hk hS hl)
theorem a_null {g : GP} {M : MC} {own : String} {cc : ByteArray} {nL : Nat} {rt : Option FieldType} {R : Room} {k n pc : Nat} {L : List (Option Value)} {st : List Value} {h : AH} (cx : CX g M own cc nL rt R) (d : decode cc pc = .ok (.aconst_null, 1)) (K : AW g M k n (pc + 1) L (.null :: st) h) : AW g M k n pc L st h := by
  intro H locs ls hH hk hS hl
  exact lv_null cx.hx cx.hb d (K H locs ls hH hk hS hl)
theorem a_dconst0 {g : GP} {M : MC} {own : String} {cc : ByteArray} {nL : Nat} {rt : Option FieldType} {R : Room} {k n pc : Nat} {L : List (Option Value)} {st : List Value} {h : AH} (cx : CX g M own cc nL rt R) (d : decode cc pc = .ok (.dconst 0, 1)) (K : AW g M k n (pc + 1) L (.double FP.dconst0 :: st) h) : AW g M k n pc L st h := by
  intro H locs ls hH hk hS hl
  exact lv_dconst0 cx.hx cx.hb d (K H locs ls hH hk hS hl)
theorem a_fconst0 {g : GP} {M : MC} {own : String} {cc : ByteArray} {nL : Nat} {rt : Option FieldType} {R : Room} {k n pc : Nat} {L : List (Option Value)} {st : List Value} {h : AH} (cx : CX g M own cc nL rt R) (d : decode cc pc = .ok (.fconst 0, 1)) (K : AW g M k n (pc + 1) L (.float FP.fconst0 :: st) h) : AW g M k n pc L st h := by
  intro H locs ls hH hk hS hl
  exact lv_fconst0 cx.hx cx.hb d (K H locs ls hH hk hS hl)
theorem a_iload_n {g : GP} {M : MC} {own : String} {cc : ByteArray} {nL : Nat} {rt : Option FieldType} {R : Room} {k n pc : Nat} {L : List (Option Value)} {st : List Value} {h : AH} (cx : CX g M own cc nL rt R) {j : Fin 4} {x : Int32} (d : decode cc pc = .ok (.iload_n j, 1)) (hi : L[(j : Nat)]? = some (some (.int x))) (K : AW g M k n (pc + 1) L (.int x :: st) h) : AW g M k n pc L st h := by
  intro H locs ls hH hk hS hl
  exact lv_iload_n cx.hx cx.hb d rfl (hl.at hi) (K H locs ls hH hk hS hl)
theorem a_iload {g : GP} {M : MC} {own : String} {cc : ByteArray} {nL : Nat} {rt : Option FieldType} {R : Room} {k n pc : Nat} {L : List (Option Value)} {st : List Value} {h : AH} (cx : CX g M own cc nL rt R) {j : Nat} {x : Int32} (d : decode cc pc = .ok (.iload j, 2)) (hi : L[j]? = some (some (.int x))) (K : AW g M k n (pc + 2) L (.int x :: st) h) : AW g M k n pc L st h := by
  intro H locs ls hH hk hS hl
  exact lv_iload cx.hx cx.hb d (hl.at hi) (K H locs ls hH hk hS hl)
theorem a_lload_n {g : GP} {M : MC} {own : String} {cc : ByteArray} {nL : Nat} {rt : Option FieldType} {R : Room} {k n pc : Nat} {L : List (Option Value)} {st : List Value} {h : AH} (cx : CX g M own cc nL rt R) {j : Fin 4} {x : Int64} (d : decode cc pc = .ok (.lload_n j, 1)) (hi : L[(j : Nat)]? = some (some (.long x))) (K : AW g M k n (pc + 1) L (.long x :: st) h) : AW g M k n pc L st h := by
  intro H locs ls hH hk hS hl
  exact lv_lload_n cx.hx cx.hb d rfl (hl.at hi) (K H locs ls hH hk hS hl)
theorem a_lload {g : GP} {M : MC} {own : String} {cc : ByteArray} {nL : Nat} {rt : Option FieldType} {R : Room} {k n pc : Nat} {L : List (Option Value)} {st : List Value} {h : AH} (cx : CX g M own cc nL rt R) {j : Nat} {x : Int64} (d : decode cc pc = .ok (.lload j, 2)) (hi : L[j]? = some (some (.long x))) (K : AW g M k n (pc + 2) L (.long x :: st) h) : AW g M k n pc L st h := by
  intro H locs ls hH hk hS hl
  exact lv_lload cx.hx cx.hb d (hl.at hi) (K H locs ls hH hk hS hl)
theorem a_fload_n {g : GP} {M : MC} {own : String} {cc : ByteArray} {nL : Nat} {rt : Option FieldType} {R : Room} {k n pc : Nat} {L : List (Option Value)} {st : List Value} {h : AH} (cx : CX g M own cc nL rt R) {j : Fin 4} {x : UInt32} (d : decode cc pc = .ok (.fload_n j, 1)) (hi : L[(j : Nat)]? = some (some (.float x))) (K : AW g M k n (pc + 1) L (.float x :: st) h) : AW g M k n pc L st h := by
  intro H locs ls hH hk hS hl
  exact lv_fload_n cx.hx cx.hb d rfl (hl.at hi) (K H locs ls hH hk hS hl)
theorem a_fload {g : GP} {M : MC} {own : String} {cc : ByteArray} {nL : Nat} {rt : Option FieldType} {R : Room} {k n pc : Nat} {L : List (Option Value)} {st : List Value} {h : AH} (cx : CX g M own cc nL rt R) {j : Nat} {x : UInt32} (d : decode cc pc = .ok (.fload j, 2)) (hi : L[j]? = some (some (.float x))) (K : AW g M k n (pc + 2) L (.float x :: st) h) : AW g M k n pc L st h := by
  intro H locs ls hH hk hS hl
  exact lv_fload cx.hx cx.hb d (hl.at hi) (K H locs ls hH hk hS hl)
theorem a_dload_n {g : GP} {M : MC} {own : String} {cc : ByteArray} {nL : Nat} {rt : Option FieldType} {R : Room} {k n pc : Nat} {L : List (Option Value)} {st : List Value} {h : AH} (cx : CX g M own cc nL rt R) {j : Fin 4} {x : UInt64} (d : decode cc pc = .ok (.dload_n j, 1)) (hi : L[(j : Nat)]? = some (some (.double x))) (K : AW g M k n (pc + 1) L (.double x :: st) h) : AW g M k n pc L st h := by
  intro H locs ls hH hk hS hl
  exact lv_dload_n cx.hx cx.hb d rfl (hl.at hi) (K H locs ls hH hk hS hl)
theorem a_dload {g : GP} {M : MC} {own : String} {cc : ByteArray} {nL : Nat} {rt : Option FieldType} {R : Room} {k n pc : Nat} {L : List (Option Value)} {st : List Value} {h : AH} (cx : CX g M own cc nL rt R) {j : Nat} {x : UInt64} (d : decode cc pc = .ok (.dload j, 2)) (hi : L[j]? = some (some (.double x))) (K : AW g M k n (pc + 2) L (.double x :: st) h) : AW g M k n pc L st h := by
  intro H locs ls hH hk hS hl
  exact lv_dload cx.hx cx.hb d (hl.at hi) (K H locs ls hH hk hS hl)
theorem a_aload_n {g : GP} {M : MC} {own : String} {cc : ByteArray} {nL : Nat} {rt : Option FieldType} {R : Room} {k n pc : Nat} {L : List (Option Value)} {st : List Value} {h : AH} (cx : CX g M own cc nL rt R) {j : Fin 4} {v : Value} (d : decode cc pc = .ok (.aload_n j, 1)) (hi : L[(j : Nat)]? = some (some v)) (K : AW g M k n (pc + 1) L (v :: st) h) (hr : isR v = true := by rfl) : AW g M k n pc L st h := by
  intro H locs ls hH hk hS hl
  cases v with
  | ref x => exact lv_aload_n cx.hx cx.hb d rfl (hl.at hi) (K H locs ls hH hk hS hl)
  | null => exact lv_aload_nN cx.hx cx.hb d rfl (hl.at hi) (K H locs ls hH hk hS hl)
  | _ => cases hr
theorem a_aload {g : GP} {M : MC} {own : String} {cc : ByteArray} {nL : Nat} {rt : Option FieldType} {R : Room} {k n pc : Nat} {L : List (Option Value)} {st : List Value} {h : AH} (cx : CX g M own cc nL rt R) {j : Nat} {v : Value} (d : decode cc pc = .ok (.aload j, 2)) (hi : L[j]? = some (some v)) (K : AW g M k n (pc + 2) L (v :: st) h) (hr : isR v = true := by rfl) : AW g M k n pc L st h := by
  intro H locs ls hH hk hS hl
  cases v with
  | ref x => exact lv_aload cx.hx cx.hb d (hl.at hi) (K H locs ls hH hk hS hl)
  | null => exact lv_aloadN cx.hx cx.hb d (hl.at hi) (K H locs ls hH hk hS hl)
  | _ => cases hr
theorem a_istore_n {g : GP} {M : MC} {own : String} {cc : ByteArray} {nL : Nat} {rt : Option FieldType} {R : Room} {k n pc : Nat} {L : List (Option Value)} {st : List Value} {h : AH} (cx : CX g M own cc nL rt R) {j : Fin 4} {x : Int32} (d : decode cc pc = .ok (.istore_n j, 1)) (hj : (j : Nat) < L.length) (ho : lok L (j : Nat) = true) (K : AW g M k n (pc + 1) (L.set (j : Nat) (some (.int x))) st h) : AW g M k n pc L (.int x :: st) h := by
  intro H locs ls hH hk hS hl
  exact lv_istore_n cx.hx cx.hb d rfl hl.has hj rfl (fun ls hl9 => K H locs ls hH hk hS (lvo.st1 ho hj hl9))
theorem a_istore {g : GP} {M : MC} {own : String} {cc : ByteArray} {nL : Nat} {rt : Option FieldType} {R : Room} {k n pc : Nat} {L : List (Option Value)} {st : List Value} {h : AH} (cx : CX g M own cc nL rt R) {j : Nat} {x : Int32} (d : decode cc pc = .ok (.istore j, 2)) (hj : j < L.length) (ho : lok L j = true) (K : AW g M k n (pc + 2) (L.set j (some (.int x))) st h) : AW g M k n pc L (.int x :: st) h := by
  intro H locs ls hH hk hS hl
  exact lv_istore cx.hx cx.hb d hl.has hj rfl (fun ls hl9 => K H locs ls hH hk hS (lvo.st1 ho hj hl9))
theorem a_fstore_n {g : GP} {M : MC} {own : String} {cc : ByteArray} {nL : Nat} {rt : Option FieldType} {R : Room} {k n pc : Nat} {L : List (Option Value)} {st : List Value} {h : AH} (cx : CX g M own cc nL rt R) {j : Fin 4} {x : UInt32} (d : decode cc pc = .ok (.fstore_n j, 1)) (hj : (j : Nat) < L.length) (ho : lok L (j : Nat) = true) (K : AW g M k n (pc + 1) (L.set (j : Nat) (some (.float x))) st h) : AW g M k n pc L (.float x :: st) h := by
  intro H locs ls hH hk hS hl
  exact lv_fstore_n cx.hx cx.hb d rfl hl.has hj rfl (fun ls hl9 => K H locs ls hH hk hS (lvo.st1 ho hj hl9))
theorem a_fstore {g : GP} {M : MC} {own : String} {cc : ByteArray} {nL : Nat} {rt : Option FieldType} {R : Room} {k n pc : Nat} {L : List (Option Value)} {st : List Value} {h : AH} (cx : CX g M own cc nL rt R) {j : Nat} {x : UInt32} (d : decode cc pc = .ok (.fstore j, 2)) (hj : j < L.length) (ho : lok L j = true) (K : AW g M k n (pc + 2) (L.set j (some (.float x))) st h) : AW g M k n pc L (.float x :: st) h := by
  intro H locs ls hH hk hS hl
  exact lv_fstore cx.hx cx.hb d hl.has hj rfl (fun ls hl9 => K H locs ls hH hk hS (lvo.st1 ho hj hl9))
theorem a_lstore_n {g : GP} {M : MC} {own : String} {cc : ByteArray} {nL : Nat} {rt : Option FieldType} {R : Room} {k n pc : Nat} {L : List (Option Value)} {st : List Value} {h : AH} (cx : CX g M own cc nL rt R) {j : Fin 4} {x : Int64} (d : decode cc pc = .ok (.lstore_n j, 1)) (hj : (j : Nat) + 1 < L.length) (ho : lok L (j : Nat) = true) (K : AW g M k n (pc + 1) ((L.set (j : Nat) (some (.long x))).set ((j : Nat) + 1) none) st h) : AW g M k n pc L (.long x :: st) h := by
  intro H locs ls hH hk hS hl
  exact lv_lstore_n cx.hx cx.hb d rfl hl.has hj rfl (fun ls hl9 => K H locs ls hH hk hS (lvo.st2 ho hj hl9))
theorem a_lstore {g : GP} {M : MC} {own : String} {cc : ByteArray} {nL : Nat} {rt : Option FieldType} {R : Room} {k n pc : Nat} {L : List (Option Value)} {st : List Value} {h : AH} (cx : CX g M own cc nL rt R) {j : Nat} {x : Int64} (d : decode cc pc = .ok (.lstore j, 2)) (hj : j + 1 < L.length) (ho : lok L j = true) (K : AW g M k n (pc + 2) ((L.set j (some (.long x))).set (j + 1) none) st h) : AW g M k n pc L (.long x :: st) h := by
  intro H locs ls hH hk hS hl
  exact lv_lstore cx.hx cx.hb d hl.has hj rfl (fun ls hl9 => K H locs ls hH hk hS (lvo.st2 ho hj hl9))
theorem a_dstore_n {g : GP} {M : MC} {own : String} {cc : ByteArray} {nL : Nat} {rt : Option FieldType} {R : Room} {k n pc : Nat} {L : List (Option Value)} {st : List Value} {h : AH} (cx : CX g M own cc nL rt R) {j : Fin 4} {x : UInt64} (d : decode cc pc = .ok (.dstore_n j, 1)) (hj : (j : Nat) + 1 < L.length) (ho : lok L (j : Nat) = true) (K : AW g M k n (pc + 1) ((L.set (j : Nat) (some (.double x))).set ((j : Nat) + 1) none) st h) : AW g M k n pc L (.double x :: st) h := by
  intro H locs ls hH hk hS hl
  exact lv_dstore_n cx.hx cx.hb d rfl hl.has hj rfl (fun ls hl9 => K H locs ls hH hk hS (lvo.st2 ho hj hl9))
theorem a_dstore {g : GP} {M : MC} {own : String} {cc : ByteArray} {nL : Nat} {rt : Option FieldType} {R : Room} {k n pc : Nat} {L : List (Option Value)} {st : List Value} {h : AH} (cx : CX g M own cc nL rt R) {j : Nat} {x : UInt64} (d : decode cc pc = .ok (.dstore j, 2)) (hj : j + 1 < L.length) (ho : lok L j = true) (K : AW g M k n (pc + 2) ((L.set j (some (.double x))).set (j + 1) none) st h) : AW g M k n pc L (.double x :: st) h := by
  intro H locs ls hH hk hS hl
  exact lv_dstore cx.hx cx.hb d hl.has hj rfl (fun ls hl9 => K H locs ls hH hk hS (lvo.st2 ho hj hl9))
theorem a_astore_n {g : GP} {M : MC} {own : String} {cc : ByteArray} {nL : Nat} {rt : Option FieldType} {R : Room} {k n pc : Nat} {L : List (Option Value)} {st : List Value} {h : AH} (cx : CX g M own cc nL rt R) {j : Fin 4} {v : Value} (d : decode cc pc = .ok (.astore_n j, 1)) (hj : (j : Nat) < L.length) (ho : lok L (j : Nat) = true) (K : AW g M k n (pc + 1) (L.set (j : Nat) (some v)) st h) (hr : isR v = true := by rfl) : AW g M k n pc L (v :: st) h := by
  intro H locs ls hH hk hS hl
  cases v with
  | ref x => exact lv_astore_n cx.hx cx.hb d rfl hl.has hj rfl (fun ls hl9 => K H locs ls hH hk hS (lvo.st1 ho hj hl9))
  | null => exact lv_astore_nN cx.hx cx.hb d rfl hl.has hj rfl (fun ls hl9 => K H locs ls hH hk hS (lvo.st1 ho hj hl9))
  | _ => cases hr
theorem a_astore {g : GP} {M : MC} {own : String} {cc : ByteArray} {nL : Nat} {rt : Option FieldType} {R : Room} {k n pc : Nat} {L : List (Option Value)} {st : List Value} {h : AH} (cx : CX g M own cc nL rt R) {j : Nat} {v : Value} (d : decode cc pc = .ok (.astore j, 2)) (hj : j < L.length) (ho : lok L j = true) (K : AW g M k n (pc + 2) (L.set j (some v)) st h) (hr : isR v = true := by rfl) : AW g M k n pc L (v :: st) h := by
  intro H locs ls hH hk hS hl
  cases v with
  | ref x => exact lv_astore cx.hx cx.hb d hl.has hj rfl (fun ls hl9 => K H locs ls hH hk hS (lvo.st1 ho hj hl9))
  | null => exact lv_astoreN cx.hx cx.hb d hl.has hj rfl (fun ls hl9 => K H locs ls hH hk hS (lvo.st1 ho hj hl9))
  | _ => cases hr
theorem a_iinc {g : GP} {M : MC} {own : String} {cc : ByteArray} {nL : Nat} {rt : Option FieldType} {R : Room} {k n pc : Nat} {L : List (Option Value)} {st : List Value} {h : AH} (cx : CX g M own cc nL rt R) {j : Nat} {i : Int} {x v : Int32} (d : decode cc pc = .ok (.iinc j i, 3)) (hi : L[j]? = some (some (.int x))) (hv : x + Int32.ofInt i = v) (hj : j < L.length) (ho : lok L j = true) (K : AW g M k n (pc + 3) (L.set j (some (.int v))) st h) : AW g M k n pc L st h := by
  intro H locs ls hH hk hS hl
  have hm : (j, Value.int x) ∈ lv_l 0 L := lv_l_mem.mpr ⟨j, by simp, hi⟩
  obtain ⟨q, hq⟩ := List.getElem?_of_mem hm
  exact lv_iinc cx.hx cx.hb d hl.has (k := q) hq hv hj rfl (fun ls hl9 => K H locs ls hH hk hS (lvo.st1 ho hj hl9))
/-- a counter that is a natural -/
theorem a_iincN {g : GP} {M : MC} {own : String} {cc : ByteArray} {nL : Nat} {rt : Option FieldType} {R : Room} {k n pc : Nat} {L : List (Option Value)} {st : List Value} {h : AH} (cx : CX g M own cc nL rt R) {j : Nat} {x : Nat} (d : decode cc pc = .ok (.iinc j 1, 3)) (hi : L[j]? = some (some (.int (nI x)))) (hj : j < L.length) (ho : lok L j = true) (K : AW g M k n (pc + 3) (L.set j (some (.int (nI (x + 1))))) st h) : AW g M k n pc L st h := a_iinc cx d hi (nI_1 x) hj ho K
theorem a_iadd {g : GP} {M : MC} {own : String} {cc : ByteArray} {nL : Nat} {rt : Option FieldType} {R : Room} {k n pc : Nat} {L : List (Option Value)} {st : List Value} {h : AH} (cx : CX g M own cc nL rt R) {x y : Int32} (d : decode cc pc = .ok (.iadd, 1)) (K : AW g M k n (pc + 1) L (.int (x + y) :: st) h) : AW g M k n pc L (.int y :: .int x :: st) h := by
  intro H locs ls hH hk hS hl
  exact lv_iadd cx.hx cx.hb d (K H locs ls hH hk hS hl)
theorem a_isub {g : GP} {M : MC} {own : String} {cc : ByteArray} {nL : Nat} {rt : Option FieldType} {R : Room} {k n pc : Nat} {L : List (Option Value)} {st : List Value} {h : AH} (cx : CX g M own cc nL rt R) {x y : Int32} (d : decode cc pc = .ok (.isub, 1)) (K : AW g M k n (pc + 1) L (.int (x - y) :: st) h) : AW g M k n pc L (.int y :: .int x :: st) h := by
  intro H locs ls hH hk hS hl
  exact lv_isub cx.hx cx.hb d (K H locs ls hH hk hS hl)
theorem a_imul {g : GP} {M : MC} {own : String} {cc : ByteArray} {nL : Nat} {rt : Option FieldType} {R : Room} {k n pc : Nat} {L : List (Option Value)} {st : List Value} {h : AH} (cx : CX g M own cc nL rt R) {x y : Int32} (d : decode cc pc = .ok (.imul, 1)) (K : AW g M k n (pc + 1) L (.int (x * y) :: st) h) : AW g M k n pc L (.int y :: .int x :: st) h := by
  intro H locs ls hH hk hS hl
  exact lv_imul cx.hx cx.hb d (K H locs ls hH hk hS hl)
theorem a_iand {g : GP} {M : MC} {own : String} {cc : ByteArray} {nL : Nat} {rt : Option FieldType} {R : Room} {k n pc : Nat} {L : List (Option Value)} {st : List Value} {h : AH} (cx : CX g M own cc nL rt R) {x y : Int32} (d : decode cc pc = .ok (.iand, 1)) (K : AW g M k n (pc + 1) L (.int (x &&& y) :: st) h) : AW g M k n pc L (.int y :: .int x :: st) h := by
  intro H locs ls hH hk hS hl
  exact lv_iand cx.hx cx.hb d (K H locs ls hH hk hS hl)
theorem a_ior {g : GP} {M : MC} {own : String} {cc : ByteArray} {nL : Nat} {rt : Option FieldType} {R : Room} {k n pc : Nat} {L : List (Option Value)} {st : List Value} {h : AH} (cx : CX g M own cc nL rt R) {x y : Int32} (d : decode cc pc = .ok (.ior, 1)) (K : AW g M k n (pc + 1) L (.int (x ||| y) :: st) h) : AW g M k n pc L (.int y :: .int x :: st) h := by
  intro H locs ls hH hk hS hl
  exact lv_ior cx.hx cx.hb d (K H locs ls hH hk hS hl)
theorem a_ixor {g : GP} {M : MC} {own : String} {cc : ByteArray} {nL : Nat} {rt : Option FieldType} {R : Room} {k n pc : Nat} {L : List (Option Value)} {st : List Value} {h : AH} (cx : CX g M own cc nL rt R) {x y : Int32} (d : decode cc pc = .ok (.ixor, 1)) (K : AW g M k n (pc + 1) L (.int (x ^^^ y) :: st) h) : AW g M k n pc L (.int y :: .int x :: st) h := by
  intro H locs ls hH hk hS hl
  exact lv_ixor cx.hx cx.hb d (K H locs ls hH hk hS hl)
theorem a_idiv {g : GP} {M : MC} {own : String} {cc : ByteArray} {nL : Nat} {rt : Option FieldType} {R : Room} {k n pc : Nat} {L : List (Option Value)} {st : List Value} {h : AH} (cx : CX g M own cc nL rt R) {x y : Int32} (d : decode cc pc = .ok (.idiv, 1)) (hne : ¬ y = 0) (K : AW g M k n (pc + 1) L (.int (x / y) :: st) h) : AW g M k n pc L (.int y :: .int x :: st) h := by
  intro H locs ls hH hk hS hl
  exact lv_idiv cx.hx cx.hb d hne (K H locs ls hH hk hS hl)
theorem a_irem {g : GP} {M : MC} {own : String} {cc : ByteArray} {nL : Nat} {rt : Option FieldType} {R : Room} {k n pc : Nat} {L : List (Option Value)} {st : List Value} {h : AH} (cx : CX g M own cc nL rt R) {x y : Int32} (d : decode cc pc = .ok (.irem, 1)) (hne : ¬ y = 0) (K : AW g M k n (pc + 1) L (.int (x - x / y * y) :: st) h) : AW g M k n pc L (.int y :: .int x :: st) h := by
  intro H locs ls hH hk hS hl
  exact lv_irem cx.hx cx.hb d hne (K H locs ls hH hk hS hl)
theorem a_ineg {g : GP} {M : MC} {own : String} {cc : ByteArray} {nL : Nat} {rt : Option FieldType} {R : Room} {k n pc : Nat} {L : List (Option Value)} {st : List Value} {h : AH} (cx : CX g M own cc nL rt R) {x : Int32} (d : decode cc pc = .ok (.ineg, 1)) (K : AW g M k n (pc + 1) L (.int (-x) :: st) h) : AW g M k n pc L (.int x :: st) h := by
  intro H locs ls hH hk hS hl
  exact lv_ineg cx.hx cx.hb d (K H locs ls hH hk hS hl)
theorem a_ishl {g : GP} {M : MC} {own : String} {cc : ByteArray} {nL : Nat} {rt : Option FieldType} {R : Room} {k n pc : Nat} {L : List (Option Value)} {st : List Value} {h : AH} (cx : CX g M own cc nL rt R) {x y : Int32} (d : decode cc pc = .ok (.ishl, 1)) (K : AW g M k n (pc + 1) L (.int (x <<< (y &&& 31)) :: st) h) : AW g M k n pc L (.int y :: .int x :: st) h := by
  intro H locs ls hH hk hS hl
  exact lv_ishl cx.hx cx.hb d (K H locs ls hH hk hS hl)
theorem a_ishr {g : GP} {M : MC} {own : String} {cc : ByteArray} {nL : Nat} {rt : Option FieldType} {R : Room} {k n pc : Nat} {L : List (Option Value)} {st : List Value} {h : AH} (cx : CX g M own cc nL rt R) {x y : Int32} (d : decode cc pc = .ok (.ishr, 1)) (K : AW g M k n (pc + 1) L (.int (x >>> (y &&& 31)) :: st) h) : AW g M k n pc L (.int y :: .int x :: st) h := by
  intro H locs ls hH hk hS hl
  exact lv_ishr cx.hx cx.hb d (K H locs ls hH hk hS hl)
theorem a_iushr {g : GP} {M : MC} {own : String} {cc : ByteArray} {nL : Nat} {rt : Option FieldType} {R : Room} {k n pc : Nat} {L : List (Option Value)} {st : List Value} {h : AH} (cx : CX g M own cc nL rt R) {x y v : Int32} (d : decode cc pc = .ok (.iushr, 1)) (hv : (x.toUInt32 >>> (y.toUInt32 &&& Int32.toUInt32 31)).toInt32 = v) (K : AW g M k n (pc + 1) L (.int v :: st) h) : AW g M k n pc L (.int y :: .int x :: st) h := by
  intro H locs ls hH hk hS hl
  exact lv_iushr cx.hx cx.hb d hv (K H locs ls hH hk hS hl)
theorem a_i2l {g : GP} {M : MC} {own : String} {cc : ByteArray} {nL : Nat} {rt : Option FieldType} {R : Room} {k n pc : Nat} {L : List (Option Value)} {st : List Value} {h : AH} (cx : CX g M own cc nL rt R) {x : Int32} {v : Int64} (d : decode cc pc = .ok (.i2l, 1)) (hv : x.toInt64 = v) (K : AW g M k n (pc + 1) L (.long v :: st) h) : AW g M k n pc L (.int x :: st) h := by
  intro H locs ls hH hk hS hl
  exact lv_i2l cx.hx cx.hb d hv (K H locs ls hH hk hS hl)
theorem a_i2b {g : GP} {M : MC} {own : String} {cc : ByteArray} {nL : Nat} {rt : Option FieldType} {R : Room} {k n pc : Nat} {L : List (Option Value)} {st : List Value} {h : AH} (cx : CX g M own cc nL rt R) {x v : Int32} (d : decode cc pc = .ok (.i2b, 1)) (hv : x.toInt8.toInt32 = v) (K : AW g M k n (pc + 1) L (.int v :: st) h) : AW g M k n pc L (.int x :: st) h := by
  intro H locs ls hH hk hS hl
  exact lv_i2b cx.hx cx.hb d hv (K H locs ls hH hk hS hl)
theorem a_i2c {g : GP} {M : MC} {own : String} {cc : ByteArray} {nL : Nat} {rt : Option FieldType} {R : Room} {k n pc : Nat} {L : List (Option Value)} {st : List Value} {h : AH} (cx : CX g M own cc nL rt R) {x v : Int32} (d : decode cc pc = .ok (.i2c, 1)) (hv : (x.toUInt32 % 65536).toInt32 = v) (K : AW g M k n (pc + 1) L (.int v :: st) h) : AW g M k n pc L (.int x :: st) h := by
  intro H locs ls hH hk hS hl
  exact lv_i2c cx.hx cx.hb d hv (K H locs ls hH hk hS hl)
theorem a_i2f {g : GP} {M : MC} {own : String} {cc : ByteArray} {nL : Nat} {rt : Option FieldType} {R : Room} {k n pc : Nat} {L : List (Option Value)} {st : List Value} {h : AH} (cx : CX g M own cc nL rt R) {x : Int32} (d : decode cc pc = .ok (.i2f, 1)) (K : AW g M k n (pc + 1) L (.float (FP.i2f x) :: st) h) : AW g M k n pc L (.int x :: st) h := by
  intro H locs ls hH hk hS hl
  exact lv_i2f cx.hx cx.hb d (K H locs ls hH hk hS hl)
theorem a_i2d {g : GP} {M : MC} {own : String} {cc : ByteArray} {nL : Nat} {rt : Option FieldType} {R : Room} {k n pc : Nat} {L : List (Option Value)} {st : List Value} {h : AH} (cx : CX g M own cc nL rt R) {x : Int32} (d : decode cc pc = .ok (.i2d, 1)) (K : AW g M k n (pc + 1) L (.double (FP.i2d x) :: st) h) : AW g M k n pc L (.int x :: st) h := by
  intro H locs ls hH hk hS hl
  exact lv_i2d cx.hx cx.hb d (K H locs ls hH hk hS hl)
theorem a_f2d {g : GP} {M : MC} {own : String} {cc : ByteArray} {nL : Nat} {rt : Option FieldType} {R : Room} {k n pc : Nat} {L : List (Option Value)} {st : List Value} {h : AH} (cx : CX g M own cc nL rt R) {x : UInt32} (d : decode cc pc = .ok (.f2d, 1)) (hne : vf_n64 (FP.f2d x)) (K : AW g M k n (pc + 1) L (.double (FP.f2d x) :: st) h) : AW g M k n pc L (.float x :: st) h := by
  intro H locs ls hH hk hS hl
  exact lv_f2d cx.hx cx.hb d hne (K H locs ls hH hk hS hl)
theorem a_fdiv {g : GP} {M : MC} {own : String} {cc : ByteArray} {nL : Nat} {rt : Option FieldType} {R : Room} {k n pc : Nat} {L : List (Option Value)} {st : List Value} {h : AH} (cx : CX g M own cc nL rt R) {x y : UInt32} (d : decode cc pc = .ok (.fdiv, 1)) (hne : vf_n32 (FP.fdiv x y)) (K : AW g M k n (pc + 1) L (.float (FP.fdiv x y) :: st) h) : AW g M k n pc L (.float y :: .float x :: st) h := by
  intro H locs ls hH hk hS hl
  exact lv_fdiv cx.hx cx.hb d hne (K H locs ls hH hk hS hl)
theorem a_ddiv {g : GP} {M : MC} {own : String} {cc : ByteArray} {nL : Nat} {rt : Option FieldType} {R : Room} {k n pc : Nat} {L : List (Option Value)} {st : List Value} {h : AH} (cx : CX g M own cc nL rt R) {x y : UInt64} (d : decode cc pc = .ok (.ddiv, 1)) (hne : vf_n64 (FP.ddiv x y)) (K : AW g M k n (pc + 1) L (.double (FP.ddiv x y) :: st) h) : AW g M k n pc L (.double y :: .double x :: st) h := by
  intro H locs ls hH hk hS hl
  exact lv_ddiv cx.hx cx.hb d hne (K H locs ls hH hk hS hl)
theorem a_fcmp {g : GP} {M : MC} {own : String} {cc : ByteArray} {nL : Nat} {rt : Option FieldType} {R : Room} {k n pc : Nat} {L : List (Option Value)} {st : List Value} {h : AH} (cx : CX g M own cc nL rt R) {x y : UInt32} {op : CmpOp} (d : decode cc pc = .ok (.fcmp op, 1)) (K : AW g M k n (pc + 1) L (.int (Op.cmpValue (FP.fcmp x y) op) :: st) h) : AW g M k n pc L (.float y :: .float x :: st) h := by
  intro H locs ls hH hk hS hl
  exact lv_fcmp cx.hx cx.hb d (K H locs ls hH hk hS hl)
theorem a_dcmp {g : GP} {M : MC} {own : String} {cc : ByteArray} {nL : Nat} {rt : Option FieldType} {R : Room} {k n pc : Nat} {L : List (Option Value)} {st : List Value} {h : AH} (cx : CX g M own cc nL rt R) {x y : UInt64} {op : CmpOp} (d : decode cc pc = .ok (.dcmp op, 1)) (K : AW g M k n (pc + 1) L (.int (Op.cmpValue (FP.dcmp x y) op) :: st) h) : AW g M k n pc L (.double y :: .double x :: st) h := by
  intro H locs ls hH hk hS hl
  exact lv_dcmp cx.hx cx.hb d (K H locs ls hH hk hS hl)
theorem a_lcmp {g : GP} {M : MC} {own : String} {cc : ByteArray} {nL : Nat} {rt : Option FieldType} {R : Room} {k n pc : Nat} {L : List (Option Value)} {st : List Value} {h : AH} (cx : CX g M own cc nL rt R) {x y : Int64} (d : decode cc pc = .ok (.lcmp, 1)) (K : AW g M k n (pc + 1) L (.int (lg_cmp x y) :: st) h) : AW g M k n pc L (.long y :: .long x :: st) h := by
  intro H locs ls hH hk hS hl
  exact W.lcmp cx.hx cx.hb d (K H locs ls hH hk hS hl)
theorem a_dup {g : GP} {M : MC} {own : String} {cc : ByteArray} {nL : Nat} {rt : Option FieldType} {R : Room} {k n pc : Nat} {L : List (Option Value)} {st : List Value} {h : AH} (cx : CX g M own cc nL rt R) {v : Value} (d : decode cc pc = .ok (.dup, 1)) (hv : v.category = 1) (K : AW g M k n (pc + 1) L (v :: v :: st) h) : AW g M k n pc L (v :: st) h := by
  intro H locs ls hH hk hS hl
  exact lv_dup cx.hx cx.hb d hv (K H locs ls hH hk hS hl)
theorem a_pop {g : GP} {M : MC} {own : String} {cc : ByteArray} {nL : Nat} {rt : Option FieldType} {R : Room} {k n pc : Nat} {L : List (Option Value)} {st : List Value} {h : AH} (cx : CX g M own cc nL rt R) {v : Value} (d : decode cc pc = .ok (.pop, 1)) (hv : v.category = 1) (K : AW g M k n (pc + 1) L st h) : AW g M k n pc L (v :: st) h := by
  intro H locs ls hH hk hS hl
  exact lv_pop cx.hx cx.hb d hv (K H locs ls hH hk hS hl)
theorem a_dup_x1 {g : GP} {M : MC} {own : String} {cc : ByteArray} {nL : Nat} {rt : Option FieldType} {R : Room} {k n pc : Nat} {L : List (Option Value)} {st : List Value} {h : AH} (cx : CX g M own cc nL rt R) {v w : Value} (d : decode cc pc = .ok (.dup_x1, 1)) (hv : v.category = 1) (hw : w.category = 1) (K : AW g M k n (pc + 1) L (v :: w :: v :: st) h) : AW g M k n pc L (v :: w :: st) h := by
  intro H locs ls hH hk hS hl
  exact lv_dup_x1 cx.hx cx.hb d hv hw (K H locs ls hH hk hS hl)
theorem a_dup_x2 {g : GP} {M : MC} {own : String} {cc : ByteArray} {nL : Nat} {rt : Option FieldType} {R : Room} {k n pc : Nat} {L : List (Option Value)} {st : List Value} {h : AH} (cx : CX g M own cc nL rt R) {v w u : Value} (d : decode cc pc = .ok (.dup_x2, 1)) (hv : v.category = 1) (hw : w.category = 1) (hu : u.category = 1) (K : AW g M k n (pc + 1) L (v :: w :: u :: v :: st) h) : AW g M k n pc L (v :: w :: u :: st) h := by
  intro H locs ls hH hk hS hl
  exact lv_dup_x2 cx.hx cx.hb d hv hw hu (K H locs ls hH hk hS hl)
theorem a_dup2 {g : GP} {M : MC} {own : String} {cc : ByteArray} {nL : Nat} {rt : Option FieldType} {R : Room} {k n pc : Nat} {L : List (Option Value)} {st : List Value} {h : AH} (cx : CX g M own cc nL rt R) {v w : Value} (d : decode cc pc = .ok (.dup2, 1)) (hv : v.category = 1) (hw : w.category = 1) (K : AW g M k n (pc + 1) L (v :: w :: v :: w :: st) h) : AW g M k n pc L (v :: w :: st) h := by
  intro H locs ls hH hk hS hl
  exact lv_dup2_11 cx.hx cx.hb d hv hw (K H locs ls hH hk hS hl)
theorem a_if_eq {g : GP} {M : MC} {own : String} {cc : ByteArray} {nL : Nat} {rt : Option FieldType} {R : Room} {k n pc : Nat} {L : List (Option Value)} {st : List Value} {h : AH} (cx : CX g M own cc nL rt R) {x : Int32} {off : Int} {tgt : Nat} (d : decode cc pc = .ok (.ifCond .eq off, 3)) (ht : (pc : Int) + off = (tgt : Int)) (Kt : x = 0 → AW g M k n tgt L st h) (Kf : ¬ x = 0 → AW g M k n (pc + 3) L st h) : AW g M k n pc L (.int x :: st) h := by
  intro H locs ls hH hk hS hl
  exact lv_if_eq cx.hx cx.hb d ht (fun q => Kt q H locs ls hH hk hS hl) (fun q => Kf q H locs ls hH hk hS hl)
theorem a_icmp_eq {g : GP} {M : MC} {own : String} {cc : ByteArray} {nL : Nat} {rt : Option FieldType} {R : Room} {k n pc : Nat} {L : List (Option Value)} {st : List Value} {h : AH} (cx : CX g M own cc nL rt R) {x y : Int32} {off : Int} {tgt : Nat} (d : decode cc pc = .ok (.if_icmp .eq off, 3)) (ht : (pc : Int) + off = (tgt : Int)) (Kt : x = y → AW g M k n tgt L st h) (Kf : ¬ x = y → AW g M k n (pc + 3) L st h) : AW g M k n pc L (.int y :: .int x :: st) h := by
  intro H locs ls hH hk hS hl
  exact lv_icmp_eq cx.hx cx.hb d ht (fun q => Kt q H locs ls hH hk hS hl) (fun q => Kf q H locs ls hH hk hS hl)
theorem a_if_ne {g : GP} {M : MC} {own : String} {cc : ByteArray} {nL : Nat} {rt : Option FieldType} {R : Room} {k n pc : Nat} {L : List (Option Value)} {st : List Value} {h : AH} (cx : CX g M own cc nL rt R) {x : Int32} {off : Int} {tgt : Nat} (d : decode cc pc = .ok (.ifCond .ne off, 3)) (ht : (pc : Int) + off = (tgt : Int)) (Kt : ¬ x = 0 → AW g M k n tgt L st h) (Kf : x = 0 → AW g M k n (pc + 3) L st h) : AW g M k n pc L (.int x :: st) h := by
  intro H locs ls hH hk hS hl
  exact lv_if_ne cx.hx cx.hb d ht (fun q => Kt q H locs ls hH hk hS hl) (fun q => Kf q H locs ls hH hk hS hl)
theorem a_icmp_ne {g : GP} {M : MC} {own : String} {cc : ByteArray} {nL : Nat} {rt : Option FieldType} {R : Room} {k n pc : Nat} {L : List (Option Value)} {st : List Value} {h : AH} (cx : CX g M own cc nL rt R) {x y : Int32} {off : Int} {tgt : Nat} (d : decode cc pc = .ok (.if_icmp .ne off, 3)) (ht : (pc : Int) + off = (tgt : Int)) (Kt : ¬ x = y → AW g M k n tgt L st h) (Kf : x = y → AW g M k n (pc + 3) L st h) : AW g M k n pc L (.int y :: .int x :: st) h := by
  intro H locs ls hH hk hS hl
  exact lv_icmp_ne cx.hx cx.hb d ht (fun q => Kt q H locs ls hH hk hS hl) (fun q => Kf q H locs ls hH hk hS hl)
theorem a_if_lt {g : GP} {M : MC} {own : String} {cc : ByteArray} {nL : Nat} {rt : Option FieldType} {R : Room} {k n pc : Nat} {L : List (Option Value)} {st : List Value} {h : AH} (cx : CX g M own cc nL rt R) {x : Int32} {off : Int} {tgt : Nat} (d : decode cc pc = .ok (.ifCond .lt off, 3)) (ht : (pc : Int) + off = (tgt : Int)) (Kt : x < 0 → AW g M k n tgt L st h) (Kf : ¬ x < 0 → AW g M k n (pc + 3) L st h) : AW g M k n pc L (.int x :: st) h := by
  intro H locs ls hH hk hS hl
  exact lv_if_lt cx.hx cx.hb d ht (fun q => Kt q H locs ls hH hk hS hl) (fun q => Kf q H locs ls hH hk hS hl)
theorem a_icmp_lt {g : GP} {M : MC} {own : String} {cc : ByteArray} {nL : Nat} {rt : Option FieldType} {R : Room} {k n pc : Nat} {L : List (Option Value)} {st : List Value} {h : AH} (cx : CX g M own cc nL rt R) {x y : Int32} {off : Int} {tgt : Nat} (d : decode cc pc = .ok (.if_icmp .lt off, 3)) (ht : (pc : Int) + off = (tgt : Int)) (Kt : x < y → AW g M k n tgt L st h) (Kf : ¬ x < y → AW g M k n (pc + 3) L st h) : AW g M k n pc L (.int y :: .int x :: st) h := by
  intro H locs ls hH hk hS hl
  exact lv_icmp_lt cx.hx cx.hb d ht (fun q => Kt q H locs ls hH hk hS hl) (fun q => Kf q H locs ls hH hk hS hl)
theorem a_if_ge {g : GP} {M : MC} {own : String} {cc : ByteArray} {nL : Nat} {rt : Option FieldType} {R : Room} {k n pc : Nat} {L : List (Option Value)} {st : List Value} {h : AH} (cx : CX g M own cc nL rt R) {x : Int32} {off : Int} {tgt : Nat} (d : decode cc pc = .ok (.ifCond .ge off, 3)) (ht : (pc : Int) + off = (tgt : Int)) (Kt : 0 ≤ x → AW g M k n tgt L st h) (Kf : ¬ 0 ≤ x → AW g M k n (pc + 3) L st h) : AW g M k n pc L (.int x :: st) h := by
  intro H locs ls hH hk hS hl
  exact lv_if_ge cx.hx cx.hb d ht (fun q => Kt q H locs ls hH hk hS hl) (fun q => Kf q H locs ls hH hk hS hl)
theorem a_icmp_ge {g : GP} {M : MC} {own : String} {cc : ByteArray} {nL : Nat} {rt : Option FieldType} {R : Room} {k n pc : Nat} {L : List (Option Value)} {st : List Value} {h : AH} (cx : CX g M own cc nL rt R) {x y : Int32} {off : Int} {tgt : Nat} (d : decode cc pc = .ok (.if_icmp .ge off, 3)) (ht : (pc : Int) + off = (tgt : Int)) (Kt : y ≤ x → AW g M k n tgt L st h) (Kf : ¬ y ≤ x → AW g M k n (pc + 3) L st h) : AW g M k n pc L (.int y :: .int x :: st) h := by
  intro H locs ls hH hk hS hl
  exact lv_icmp_ge cx.hx cx.hb d ht (fun q => Kt q H locs ls hH hk hS hl) (fun q => Kf q H locs ls hH hk hS hl)
theorem a_if_gt {g : GP} {M : MC} {own : String} {cc : ByteArray} {nL : Nat} {rt : Option FieldType} {R : Room} {k n pc : Nat} {L : List (Option Value)} {st : List Value} {h : AH} (cx : CX g M own cc nL rt R) {x : Int32} {off : Int} {tgt : Nat} (d : decode cc pc = .ok (.ifCond .gt off, 3)) (ht : (pc : Int) + off = (tgt : Int)) (Kt : 0 < x → AW g M k n tgt L st h) (Kf : ¬ 0 < x → AW g M k n (pc + 3) L st h) : AW g M k n pc L (.int x :: st) h := by
  intro H locs ls hH hk hS hl
  exact lv_if_gt cx.hx cx.hb d ht (fun q => Kt q H locs ls hH hk hS hl) (fun q => Kf q H locs ls hH hk hS hl)
theorem a_icmp_gt {g : GP} {M : MC} {own : String} {cc : ByteArray} {nL : Nat} {rt : Option FieldType} {R : Room} {k n pc : Nat} {L : List (Option Value)} {st : List Value} {h : AH} (cx : CX g M own cc nL rt R) {x y : Int32} {off : Int} {tgt : Nat} (d : decode cc pc = .ok (.if_icmp .gt off, 3)) (ht : (pc : Int) + off = (tgt : Int)) (Kt : y < x → AW g M k n tgt L st h) (Kf : ¬ y < x → AW g M k n (pc + 3) L st h) : AW g M k n pc L (.int y :: .int x :: st) h := by
  intro H locs ls hH hk hS hl
  exact lv_icmp_gt cx.hx cx.hb d ht (fun q => Kt q H locs ls hH hk hS hl) (fun q => Kf q H locs ls hH hk hS hl)
theorem a_if_le {g : GP} {M : MC} {own : String} {cc : ByteArray} {nL : Nat} {rt : Option FieldType} {R : Room} {k n pc : Nat} {L : List (Option Value)} {st : List Value} {h : AH} (cx : CX g M own cc nL rt R) {x : Int32} {off : Int} {tgt : Nat} (d : decode cc pc = .ok (.ifCond .le off, 3)) (ht : (pc : Int) + off = (tgt : Int)) (Kt : x ≤ 0 → AW g M k n tgt L st h) (Kf : ¬ x ≤ 0 → AW g M k n (pc + 3) L st h) : AW g M k n pc L (.int x :: st) h := by
  intro H locs ls hH hk hS hl
  exact lv_if_le cx.hx cx.hb d ht (fun q => Kt q H locs ls hH hk hS hl) (fun q => Kf q H locs ls hH hk hS hl)
theorem a_icmp_le {g : GP} {M : MC} {own : String} {cc : ByteArray} {nL : Nat} {rt : Option FieldType} {R : Room} {k n pc : Nat} {L : List (Option Value)} {st : List Value} {h : AH} (cx : CX g M own cc nL rt R) {x y : Int32} {off : Int} {tgt : Nat} (d : decode cc pc = .ok (.if_icmp .le off, 3)) (ht : (pc : Int) + off = (tgt : Int)) (Kt : x ≤ y → AW g M k n tgt L st h) (Kf : ¬ x ≤ y → AW g M k n (pc + 3) L st h) : AW g M k n pc L (.int y :: .int x :: st) h := by
  intro H locs ls hH hk hS hl
  exact lv_icmp_le cx.hx cx.hb d ht (fun q => Kt q H locs ls hH hk hS hl) (fun q => Kf q H locs ls hH hk hS hl)
theorem a_goto {g : GP} {M : MC} {own : String} {cc : ByteArray} {nL : Nat} {rt : Option FieldType} {R : Room} {k n pc : Nat} {L : List (Option Value)} {st : List Value} {h : AH} (cx : CX g M own cc nL rt R) {off : Int} {tgt : Nat} (d : decode cc pc = .ok (.goto off, 3)) (ht : (pc : Int) + off = (tgt : Int)) (K : AW g M k n tgt L st h) : AW g M k n pc L st h := by
  intro H locs ls hH hk hS hl
  exact lv_goto cx.hx cx.hb d ht (K H locs ls hH hk hS hl)
theorem a_ifnonnull {g : GP} {M : MC} {own : String} {cc : ByteArray} {nL : Nat} {rt : Option FieldType} {R : Room} {k n pc : Nat} {L : List (Option Value)} {st : List Value} {h : AH} (cx : CX g M own cc nL rt R) {x : Nat} {off : Int} {tgt : Nat} (d : decode cc pc = .ok (.ifnonnull off, 3)) (ht : (pc : Int) + off = (tgt : Int)) (K : AW g M k n tgt L st h) : AW g M k n pc L (.ref x :: st) h := by
  intro H locs ls hH hk hS hl
  exact lv_ifnonnull cx.hx cx.hb d ht (K H locs ls hH hk hS hl)
theorem a_ifnull {g : GP} {M : MC} {own : String} {cc : ByteArray} {nL : Nat} {rt : Option FieldType} {R : Room} {k n pc : Nat} {L : List (Option Value)} {st : List Value} {h : AH} (cx : CX g M own cc nL rt R) {x : Nat} {off : Int} (d : decode cc pc = .ok (.ifnull off, 3)) (K : AW g M k n (pc + 3) L st h) : AW g M k n pc L (.ref x :: st) h := by
  intro H locs ls hH hk hS hl
  exact lv_ifnull cx.hx cx.hb d (K H locs ls hH hk hS hl)
theorem a_ifnullN {g : GP} {M : MC} {own : String} {cc : ByteArray} {nL : Nat} {rt : Option FieldType} {R : Room} {k n pc : Nat} {L : List (Option Value)} {st : List Value} {h : AH} (cx : CX g M own cc nL rt R) {off : Int} {tgt : Nat} (d : decode cc pc = .ok (.ifnull off, 3)) (ht : (pc : Int) + off = (tgt : Int)) (K : AW g M k n tgt L st h) : AW g M k n pc L (.null :: st) h := by
  intro H locs ls hH hk hS hl
  exact lv_ifnullN cx.hx cx.hb d ht (K H locs ls hH hk hS hl)
theorem a_ifnonnullN {g : GP} {M : MC} {own : String} {cc : ByteArray} {nL : Nat} {rt : Option FieldType} {R : Room} {k n pc : Nat} {L : List (Option Value)} {st : List Value} {h : AH} (cx : CX g M own cc nL rt R) {off : Int} (d : decode cc pc = .ok (.ifnonnull off, 3)) (K : AW g M k n (pc + 3) L st h) : AW g M k n pc L (.null :: st) h := by
  intro H locs ls hH hk hS hl
  exact lv_ifnonnullN cx.hx cx.hb d (K H locs ls hH hk hS hl)
theorem a_tabIn {g : GP} {M : MC} {own : String} {cc : ByteArray} {nL : Nat} {rt : Option FieldType} {R : Room} {k n pc : Nat} {L : List (Option Value)} {st : List Value} {h : AH} (cx : CX g M own cc nL rt R) {dflt lo hi : Int} {offs : Array Int} {len : Nat} {x : Int32} {off : Int} {tgt : Nat} (d : decode cc pc = .ok (.tableswitch dflt lo hi offs, len)) (h1 : ¬ x.toInt < lo) (h2 : ¬ hi < x.toInt) (ho : offs[(x.toInt - lo).toNat]? = some off) (ht : (pc : Int) + off = (tgt : Int)) (K : AW g M k n tgt L st h) : AW g M k n pc L (.int x :: st) h := by
  intro H locs ls hH hk hS hl
  exact lv_tableIn cx.hx cx.hb d h1 h2 ho ht (K H locs ls hH hk hS hl)
theorem a_tabOut {g : GP} {M : MC} {own : String} {cc : ByteArray} {nL : Nat} {rt : Option FieldType} {R : Room} {k n pc : Nat} {L : List (Option Value)} {st : List Value} {h : AH} (cx : CX g M own cc nL rt R) {dflt lo hi : Int} {offs : Array Int} {len : Nat} {x : Int32} {tgt : Nat} (d : decode cc pc = .ok (.tableswitch dflt lo hi offs, len)) (h1 : x.toInt < lo ∨ hi < x.toInt) (ht : (pc : Int) + dflt = (tgt : Int)) (K : AW g M k n tgt L st h) : AW g M k n pc L (.int x :: st) h := by
  intro H locs ls hH hk hS hl
  exact lv_tableOut cx.hx cx.hb d h1 ht (K H locs ls hH hk hS hl)
theorem a_lookup {g : GP} {M : MC} {own : String} {cc : ByteArray} {nL : Nat} {rt : Option FieldType} {R : Room} {k n pc : Nat} {L : List (Option Value)} {st : List Value} {h : AH} (cx : CX g M own cc nL rt R) {dflt : Int} {ps : Array (Int × Int)} {len : Nat} {x : Int32} {off : Int} {tgt : Nat} (d : decode cc pc = .ok (.lookupswitch dflt ps, len)) (hp : (ps.toList.zip (ps.toList.drop 1)).all (fun (a, next) => a.1 < next.1) = true) (ho : Op.lookupswitch.offset ps.toList dflt x.toInt = off) (ht : (pc : Int) + off = (tgt : Int)) (K : AW g M k n tgt L st h) : AW g M k n pc L (.int x :: st) h := by
  intro H locs ls hH hk hS hl
  exact lv_lookup cx.hx cx.hb d hp ho ht (K H locs ls hH hk hS hl)
