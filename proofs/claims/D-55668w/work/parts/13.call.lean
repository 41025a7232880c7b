set_option maxRecDepth 100000
/-! calls -/
section CALLS
variable {g : GP} {M : MC} {own C : String} {cc : ByteArray} {nL : Nat} {rt : Option FieldType} {R : Room} {k n pc index : Nat} {L : List (Option Value)} {st : List Value} {h : AH}
variable {y : MethodName} {bytes : ByteArray} {maxL mc ms na : Nat} {ret : Option FieldType} {hh : List (Nat × Nat × Nat × Nat)} {rm : Room} {b : Addr} {As rest : List Value} {Post : Option Value → AH → Prop} {XPost : String → Nat → AH → Prop}
/-- what is owed behind a call -/
def CK (g : GP) (M : MC) (k n pc pc' : Nat) (L : List (Option Value)) (rest : List Value) (mc ms : Nat) (Post : Option Value → AH → Prop) (XPost : String → Nat → AH → Prop) : Prop :=
  (∀ (v : Option Value) (h' : AH), Post v h' → AW g M (k + mc) (n + ms) pc' L (v.toList ++ rest) h') ∧ ∀ (E : String) (q : Nat) (h' : AH), XPost E q h' → AX g M (k + mc) (n + ms) pc L E q h'
theorem va_S.call {g : GP} {s t T' : State} {H : Heap} {locs L : List Loc} {st₀ : State} (h0 : st₀.heap = H) (e1 : T'.heap = t.heap) (hS : va_S (gA g) s.heap H locs) (hL : ∀ q ∈ L, gA g q.base) (hF : va_F (gA g) st₀ t) : va_S (gA g) s.heap T'.heap (locs ++ L) := by
  obtain ⟨hz, hk⟩ := hF
  rw [h0] at hz hk
  exact ⟨Nat.le_trans hS.1 (by rw [e1]; exact hz), fun q h1 h2 => by rw [e1, hk q (Nat.lt_of_lt_of_le h1 hS.1) h2]; exact hS.2.1 q h1 h2, fun q hq => by
    rcases List.mem_append.mp hq with h | h
    · exact hS.2.2 q h
    · exact hL q h⟩
theorem run_AW (hK : CK g M k n pc (pc + 3) L rest mc ms Post XPost) {a : Array Value}
    (hr : ∀ (H : Heap) (locs : List Loc) (ls : Array Slot), HP g.1 allC h H → HK g h → va_S (gA g) (Ms M).heap H locs → lvo ls L → vx_Run (Mp M) (Ml M) (Me M) (MR M) (Ms M) (Mm M) (Ma M) (Mb M) (Mt M) (Mc M) H locs k n mc ms (F0 (Mm M) pc ls st) rest (kQ g Post a) (kX g XPost) (gA g)) : AW g M k n pc L st h := by
  intro H locs ls hH hk hS hl T hT X
  rcases hr H locs ls hH hk hS hl T hT X with ⟨v, st₀, t, T', L9, h0, X', hL, e1, e2, ⟨v', h', hv, hp, hH', hk', hF⟩, stp⟩ | ⟨q, st₀, t, T', L9, E, ce, h0, X', hL, e1, e2, ⟨h', hp, hH', hk', hF⟩, hce, hcv, hcl, stp⟩
  · cases hv
    obtain ⟨t2, a1, b1⟩ := hK.1 _ h' hp T'.heap (locs ++ L9) ls (by rw [e1]; exact hH') hk' (va_S.call h0 e1 hS hL hF) hl T' rfl X'
    exact ⟨t2, stp t2 a1, b1⟩
  · obtain ⟨t2, a1, b1⟩ := hK.2 E q h' hp T'.heap (locs ++ L9) ls ce rest (by rw [e1]; exact hH') hk' (va_S.call h0 e1 hS hL hF) hl (by rw [e1]; exact hce) hcv hcl T' rfl X'
    exact ⟨t2, stp.trans a1, b1⟩
theorem run_AW5 (hK : CK g M k n pc (pc + 5) L rest mc ms Post XPost) {a : Array Value}
    (hr : ∀ (H : Heap) (locs : List Loc) (ls : Array Slot), HP g.1 allC h H → HK g h → va_S (gA g) (Ms M).heap H locs → lvo ls L → vx_Run5 (Mp M) (Ml M) (Me M) (MR M) (Ms M) (Mm M) (Ma M) (Mb M) (Mt M) (Mc M) H locs k n mc ms (F0 (Mm M) pc ls st) rest (kQ g Post a) (kX g XPost) (gA g)) : AW g M k n pc L st h := by
  intro H locs ls hH hk hS hl T hT X
  rcases hr H locs ls hH hk hS hl T hT X with ⟨v, st₀, t, T', L9, h0, X', hL, e1, e2, ⟨v', h', hv, hp, hH', hk', hF⟩, stp⟩ | ⟨q, st₀, t, T', L9, E, ce, h0, X', hL, e1, e2, ⟨h', hp, hH', hk', hF⟩, hce, hcv, hcl, stp⟩
  · cases hv
    obtain ⟨t2, a1, b1⟩ := hK.1 _ h' hp T'.heap (locs ++ L9) ls (by rw [e1]; exact hH') hk' (va_S.call h0 e1 hS hL hF) hl T' rfl X'
    exact ⟨t2, stp t2 a1, b1⟩
  · obtain ⟨t2, a1, b1⟩ := hK.2 E q h' hp T'.heap (locs ++ L9) ls ce rest (by rw [e1]; exact hH') hk' (va_S.call h0 e1 hS hL hF) hl (by rw [e1]; exact hce) hcv hcl T' rfl X'
    exact ⟨t2, stp.trans a1, b1⟩
/-- the numbers of a call: descriptor, room -/
def DN (y : MethodName) (na : Nat) : Prop := y.cls ≠ "java/lang/invoke/MethodHandle" ∧ y.cls ≠ "java/lang/invoke/VarHandle" ∧ (parseMethodDescriptor y.desc).map (fun d => d.parameters.length) = some na
def RN (R rm : Room) (maxL mc ms : Nat) : Prop := rm.cells = mc ∧ rm.slots = ms ∧ rm.frames + 1 ≤ R.frames ∧ 8 + (maxL + 11) + rm.locals ≤ R.locals
theorem RN.of {R rm : Room} {maxL mc ms : Nat} (h1 : rm.cells = mc) (h2 : rm.slots = ms) (h3 : Nat.ble (rm.frames + 1) R.frames = true) (h4 : Nat.ble (8 + (maxL + 11) + rm.locals) R.locals = true) : RN R rm maxL mc ms := ⟨h1, h2, Nat.le_of_ble_eq_true h3, Nat.le_of_ble_eq_true h4⟩
/-- invokevirtual of y, by an object of class y.cls -/
theorem a_callV (cx : CX g M own cc nL rt R) (hM : KT (Ml M) g y (ws_ y bytes maxL ret) rm mc ms (.ref b :: As) h Post XPost) (hW : GoodIn lw_all (wsV own index y.cls y (ws_ y bytes maxL ret))) (hd : DN y na) (hR : RN R rm maxL mc ms) (hn : As.length = na) {ci : Nat} {fs : List Value} {r : vw_C} (hb : h b = some (eO ci fs)) (hc : allC[ci]? = some r) (hcls : r.1 = y.cls) (hcat : (rest.map fun v => v.category).sum ≤ 8) (d : decode cc pc = .ok (.invokevirtual index, 3)) (h1 : k + mc ≤ R.cells) (h2 : n + ms ≤ R.slots)
    (K : CK g M k n pc (pc + 3) L rest mc ms Post XPost) (hLn : L.length = nL := by rfl) : AW g M k n pc L (As.reverse ++ .ref b :: rest) h := by
  rw [← cx.hR] at h1 h2
  obtain ⟨r1, r2, r3, r4⟩ := hR
  rw [← cx.hR] at r3 r4
  refine run_AW (st := (As.reverse ++ .ref b :: rest)) K (a := (Value.ref b :: As).toArray) fun H locs ls hH hk hS hl => ?_
  have hrecv := HP.recv cx.hG.K hH hb hc
  rw [hcls] at hrecv
  exact vx_runV (C := y.cls) cx.fix hM (cwV na cx.hts hW rfl r1 r2 ⟨rfl, hd⟩ ⟨r3, r4⟩) ⟨kPc.blind, hrecv, fun U hU hWm => kPc.at cx.hG hS hH hk hU hWm⟩ rfl hn (hl.1.trans hLn) rfl (lv_room hcat) d ⟨h1, h2⟩
/-- .. y with handlers -/
theorem a_callVH (cx : CX g M own cc nL rt R) (hM : KT (Ml M) g y (wsW_ y bytes maxL ret hh) rm mc ms (.ref b :: As) h Post XPost) (hW : GoodIn lw_all (wsV own index y.cls y (wsW_ y bytes maxL ret hh))) (hd : DN y na) (hR : RN R rm maxL mc ms) (hn : As.length = na) {ci : Nat} {fs : List Value} {r : vw_C} (hb : h b = some (eO ci fs)) (hc : allC[ci]? = some r) (hcls : r.1 = y.cls) (hcat : (rest.map fun v => v.category).sum ≤ 8) (d : decode cc pc = .ok (.invokevirtual index, 3)) (h1 : k + mc ≤ R.cells) (h2 : n + ms ≤ R.slots)
    (K : CK g M k n pc (pc + 3) L rest mc ms Post XPost) (hLn : L.length = nL := by rfl) : AW g M k n pc L (As.reverse ++ .ref b :: rest) h := by
  rw [← cx.hR] at h1 h2
  obtain ⟨r1, r2, r3, r4⟩ := hR
  rw [← cx.hR] at r3 r4
  refine run_AW (st := (As.reverse ++ .ref b :: rest)) K (a := (Value.ref b :: As).toArray) fun H locs ls hH hk hS hl => ?_
  have hrecv := HP.recv cx.hG.K hH hb hc
  rw [hcls] at hrecv
  exact vx_runVX (C := y.cls) cx.fix hM (vx_cwVW na cx.hts hW rfl r1 r2 ⟨rfl, hd⟩ ⟨r3, r4⟩) ⟨kPc.blind, hrecv, fun U hU hWm => kPc.at cx.hG hS hH hk hU hWm⟩ rfl hn (hl.1.trans hLn) rfl (lv_room hcat) d ⟨h1, h2⟩
/-- invokestatic -/
theorem a_callS (cx : CX g M own cc nL rt R) (hM : KT (Ml M) g y (ws_ y bytes maxL ret) rm mc ms As h Post XPost) (hW : GoodIn lw_all (va_wsS own index y (ws_ y bytes maxL ret))) (hd : DN y na) (hR : RN R rm maxL mc ms) (hn : As.length = na) (hcat : (rest.map fun v => v.category).sum ≤ 8) (d : decode cc pc = .ok (.invokestatic index, 3)) (h1 : k + mc ≤ R.cells) (h2 : n + ms ≤ R.slots)
    (K : CK g M k n pc (pc + 3) L rest mc ms Post XPost) (hLn : L.length = nL := by rfl) : AW g M k n pc L (As.reverse ++ rest) h := by
  rw [← cx.hR] at h1 h2
  obtain ⟨r1, r2, r3, r4⟩ := hR
  rw [← cx.hR] at r3 r4
  refine run_AW (st := (As.reverse ++ rest)) K (a := As.toArray) fun H locs ls hH hk hS hl => ?_
  exact vx_runS cx.fix hM (va_cwS na cx.hts hW rfl r1 r2 hd ⟨r3, r4⟩) ⟨kPc.blind, fun U hU hWm => kPc.at cx.hG hS hH hk hU hWm⟩ rfl hn (hl.1.trans hLn) rfl (lv_room hcat) d ⟨h1, h2⟩
/-- .. y with handlers -/
theorem a_callSH (cx : CX g M own cc nL rt R) (hM : KT (Ml M) g y (wsW_ y bytes maxL ret hh) rm mc ms As h Post XPost) (hW : GoodIn lw_all (va_wsS own index y (wsW_ y bytes maxL ret hh))) (hd : DN y na) (hR : RN R rm maxL mc ms) (hn : As.length = na) (hcat : (rest.map fun v => v.category).sum ≤ 8) (d : decode cc pc = .ok (.invokestatic index, 3)) (h1 : k + mc ≤ R.cells) (h2 : n + ms ≤ R.slots)
    (K : CK g M k n pc (pc + 3) L rest mc ms Post XPost) (hLn : L.length = nL := by rfl) : AW g M k n pc L (As.reverse ++ rest) h := by
  rw [← cx.hR] at h1 h2
  obtain ⟨r1, r2, r3, r4⟩ := hR
  rw [← cx.hR] at r3 r4
  refine run_AW (st := (As.reverse ++ rest)) K (a := As.toArray) fun H locs ls hH hk hS hl => ?_
  exact vx_runSX cx.fix hM (vx_cwSW na cx.hts hW rfl r1 r2 hd ⟨r3, r4⟩) ⟨kPc.blind, fun U hU hWm => kPc.at cx.hG hS hH hk hU hWm⟩ rfl hn (hl.1.trans hLn) rfl (lv_room hcat) d ⟨h1, h2⟩
/-- invokespecial of a constructor -/
theorem a_callI (cx : CX g M own cc nL rt R) (hM : KT (Ml M) g y (ws_ y bytes maxL none) rm mc ms (.ref b :: As) h Post XPost) (hW : GoodIn lw_all (ws_ y bytes maxL none)) (q1 : Cond.initialized y.cls ∈ lw_all) (q2 : Cond.methodLink own index y ∈ lw_all) (q3 : Cond.instanceMethod y ∈ lw_all) (hy : y.name = "<init>") (hd : DN y na) (hR : RN R rm maxL mc ms) (hn : As.length = na) (hcat : (rest.map fun v => v.category).sum ≤ 8) (d : decode cc pc = .ok (.invokespecial index, 3)) (h1 : k + mc ≤ R.cells) (h2 : n + ms ≤ R.slots)
    (K : CK g M k n pc (pc + 3) L rest mc ms Post XPost) (hLn : L.length = nL := by rfl) : AW g M k n pc L (As.reverse ++ .ref b :: rest) h := by
  rw [← cx.hR] at h1 h2
  obtain ⟨r1, r2, r3, r4⟩ := hR
  rw [← cx.hR] at r3 r4
  refine run_AW (st := (As.reverse ++ .ref b :: rest)) K (a := (Value.ref b :: As).toArray) fun H locs ls hH hk hS hl => ?_
  exact vx_runI cx.fix hM (cwI na cx.hts hW rfl r1 r2 (cx.hts _ q1) (cx.hts _ q2) (cx.hts _ q3) hy hd ⟨r3, r4⟩) ⟨kPc.blind, fun U hU hWm => kPc.at cx.hG hS hH hk hU hWm⟩ rfl hn (hl.1.trans hLn) rfl (lv_room hcat) d ⟨h1, h2⟩
/-- .. of a nest mate -/
theorem a_callIN {host : String} (cx : CX g M own cc nL rt R) (hM : KT (Ml M) g y (ws_ y bytes maxL none) rm mc ms (.ref b :: As) h Post XPost) (hW : GoodIn lw_all (ws_ y bytes maxL none)) (q1 : Cond.initialized y.cls ∈ lw_all) (q2 : Cond.methodLinkNest own index y host ∈ lw_tbl) (q3 : Cond.instanceMethod y ∈ lw_all) (hy : y.name = "<init>") (hd : DN y na) (hR : RN R rm maxL mc ms) (hn : As.length = na) (hcat : (rest.map fun v => v.category).sum ≤ 8) (d : decode cc pc = .ok (.invokespecial index, 3)) (h1 : k + mc ≤ R.cells) (h2 : n + ms ≤ R.slots)
    (K : CK g M k n pc (pc + 3) L rest mc ms Post XPost) (hLn : L.length = nL := by rfl) : AW g M k n pc L (As.reverse ++ .ref b :: rest) h := by
  rw [← cx.hR] at h1 h2
  obtain ⟨r1, r2, r3, r4⟩ := hR
  rw [← cx.hR] at r3 r4
  refine run_AW (st := (As.reverse ++ .ref b :: rest)) K (a := (Value.ref b :: As).toArray) fun H locs ls hH hk hS hl => ?_
  exact vx_runIN (host := host) cx.fix hM ⟨va_cnB na cx.hts hW rfl r1 r2 (cx.hG.nw q2 rfl) (cx.hts _ q1) hd ⟨r3, r4⟩, hy, cx.hts _ q3⟩ ⟨kPc.blind, fun U hU hWm => kPc.at cx.hG hS hH hk hU hWm⟩ rfl hn (hl.1.trans hLn) rfl (lv_room hcat) d ⟨h1, h2⟩
/-- invokestatic of a nest mate's private method -/
theorem a_callSN {host : String} (cx : CX g M own cc nL rt R) (hM : KT (Ml M) g y (ws_ y bytes maxL ret) rm mc ms As h Post XPost) (hW : GoodIn lw_all (ws_ y bytes maxL ret)) (q1 : Cond.initialized y.cls ∈ lw_all) (q2 : Cond.methodLinkNest own index y host ∈ lw_tbl) (q3 : Cond.static y ∈ lw_all) (hd : DN y na) (hR : RN R rm maxL mc ms) (hn : As.length = na) (hcat : (rest.map fun v => v.category).sum ≤ 8) (d : decode cc pc = .ok (.invokestatic index, 3)) (h1 : k + mc ≤ R.cells) (h2 : n + ms ≤ R.slots)
    (K : CK g M k n pc (pc + 3) L rest mc ms Post XPost) (hLn : L.length = nL := by rfl) : AW g M k n pc L (As.reverse ++ rest) h := by
  rw [← cx.hR] at h1 h2
  obtain ⟨r1, r2, r3, r4⟩ := hR
  rw [← cx.hR] at r3 r4
  refine run_AW (st := (As.reverse ++ rest)) K (a := As.toArray) fun H locs ls hH hk hS hl => ?_
  exact vx_runSN (host := host) cx.fix hM ⟨va_cnB na cx.hts hW rfl r1 r2 (cx.hG.nw q2 rfl) (cx.hts _ q1) hd ⟨r3, r4⟩, cx.hts _ q3, trivial⟩ ⟨kPc.blind, fun U hU hWm => kPc.at cx.hG hS hH hk hU hWm⟩ rfl hn (hl.1.trans hLn) rfl (lv_room hcat) d ⟨h1, h2⟩
/-- invokevirtual that is inherited by the object's class C -/
theorem a_callU (cx : CX g M own cc nL rt R) (hM : KT (Ml M) g y (ws_ y bytes maxL ret) rm mc ms (.ref b :: As) h Post XPost) (hW : GoodIn lw_all (va_wsU own index C y.cls y y (ws_ y bytes maxL ret))) (hd : DN y na) (hR : RN R rm maxL mc ms) (hn : As.length = na) {ci : Nat} {fs : List Value} {r : vw_C} (hb : h b = some (eO ci fs)) (hc : allC[ci]? = some r) (hcls : r.1 = C) (hcat : (rest.map fun v => v.category).sum ≤ 8) (d : decode cc pc = .ok (.invokevirtual index, 3)) (h1 : k + mc ≤ R.cells) (h2 : n + ms ≤ R.slots)
    (K : CK g M k n pc (pc + 3) L rest mc ms Post XPost) (hLn : L.length = nL := by rfl) : AW g M k n pc L (As.reverse ++ .ref b :: rest) h := by
  rw [← cx.hR] at h1 h2
  obtain ⟨r1, r2, r3, r4⟩ := hR
  rw [← cx.hR] at r3 r4
  refine run_AW (st := (As.reverse ++ .ref b :: rest)) K (a := (Value.ref b :: As).toArray) fun H locs ls hH hk hS hl => ?_
  have hrecv := HP.recv cx.hG.K hH hb hc
  rw [hcls] at hrecv
  exact vx_runU cx.fix hM (va_cwU na cx.hts hW rfl r1 r2 rfl hd ⟨r3, r4⟩) ⟨kPc.blind, hrecv, fun U hU hWm => kPc.at cx.hG hS hH hk hU hWm⟩ rfl hn (hl.1.trans hLn) rfl (lv_room hcat) d ⟨h1, h2⟩
/-- invokespecial of a superclass's method -/
theorem a_callSU (cx : CX g M own cc nL rt R) (hM : KT (Ml M) g y (ws_ y bytes maxL ret) rm mc ms (.ref b :: As) h Post XPost) (hW : GoodIn lw_all (va_wsSU own index y (ws_ y bytes maxL ret))) (hd : y.name ≠ "<init>" ∧ (parseMethodDescriptor y.desc).map (fun d => d.parameters.length) = some na) (hR : RN R rm maxL mc ms) (hn : As.length = na) {ci : Nat} {fs : List Value} {r : vw_C} (hb : h b = some (eO ci fs)) (hc : allC[ci]? = some r) (hcls : r.1 = C) (hcat : (rest.map fun v => v.category).sum ≤ 8) (d : decode cc pc = .ok (.invokespecial index, 3)) (h1 : k + mc ≤ R.cells) (h2 : n + ms ≤ R.slots)
    (K : CK g M k n pc (pc + 3) L rest mc ms Post XPost) (hLn : L.length = nL := by rfl) : AW g M k n pc L (As.reverse ++ .ref b :: rest) h := by
  rw [← cx.hR] at h1 h2
  obtain ⟨r1, r2, r3, r4⟩ := hR
  rw [← cx.hR] at r3 r4
  refine run_AW (st := (As.reverse ++ .ref b :: rest)) K (a := (Value.ref b :: As).toArray) fun H locs ls hH hk hS hl => ?_
  have hrecv := HP.recv cx.hG.K hH hb hc
  rw [hcls] at hrecv
  exact vx_runSU (C := C) (show ClassAt (Ms M) C _ from hcls ▸ (cx.hG.K.1 ci r hc).2) cx.fix hM (va_cwSU na cx.hts hW rfl r1 r2 hd ⟨r3, r4⟩) ⟨kPc.blind, hrecv, fun U hU hWm => kPc.at cx.hG hS hH hk hU hWm⟩ rfl hn (hl.1.trans hLn) rfl (lv_room hcat) d ⟨h1, h2⟩
/-- invokeinterface -/
theorem a_callF {x : MethodName} {count : Nat} (cx : CX g M own cc nL rt R) (hM : KT (Ml M) g y (ws_ y bytes maxL ret) rm mc ms (.ref b :: As) h Post XPost) (hW : GoodIn lw_all (va_wsF own index C x y (ws_ y bytes maxL ret))) (hF : (C, x, y) ∈ faces) (hd : DN x na) (hR : RN R rm maxL mc ms) (hn : As.length = na) {ci : Nat} {fs : List Value} {r : vw_C} (hb : h b = some (eO ci fs)) (hc : allC[ci]? = some r) (hcls : r.1 = C) (hcat : (rest.map fun v => v.category).sum ≤ 8) (d : decode cc pc = .ok (.invokeinterface index count, 5)) (h1 : k + mc ≤ R.cells) (h2 : n + ms ≤ R.slots)
    (K : CK g M k n pc (pc + 5) L rest mc ms Post XPost) (hLn : L.length = nL := by rfl) : AW g M k n pc L (As.reverse ++ .ref b :: rest) h := by
  rw [← cx.hR] at h1 h2
  obtain ⟨r1, r2, r3, r4⟩ := hR
  rw [← cx.hR] at r3 r4
  refine run_AW5 (st := (As.reverse ++ .ref b :: rest)) K (a := (Value.ref b :: As).toArray) fun H locs ls hH hk hS hl => ?_
  have hrecv := HP.recv cx.hG.K hH hb hc
  rw [hcls] at hrecv
  exact vx_runF (C := C) (show ClassAt (Ms M) C _ from hcls ▸ (cx.hG.K.1 ci r hc).2) cx.fix hM (va_cwF na cx.hts hW rfl r1 r2 (cx.hG.2.2.1 _ hF) hd ⟨r3, r4⟩) ⟨kPc.blind, hrecv, fun U hU hWm => kPc.at cx.hG hS hH hk hU hWm⟩ rfl hn (hl.1.trans hLn) rfl (lv_room hcat) d ⟨h1, h2⟩
/-- Object's own constructor -/
theorem a_objInit (cx : CX g M own cc nL rt R) {a : Nat} {st : List Value} (q1 : Cond.methodLink own index Lib.objectInit ∈ lw_all) (q2 : Cond.instanceMethod Lib.objectInit ∈ lw_all) (q3 : Cond.code Lib.objectInit ⟨#[0xb1]⟩ 1 none ∈ lw_all) (d : decode cc pc = .ok (.invokespecial index, 3)) (hf : 1 ≤ R.frames) (hcat : (st.map fun v => v.category).sum + 12 ≤ R.locals) (K : AW g M k n (pc + 3) L st h) (hLn : L.length = nL := by rfl) : AW g M k n pc L (.ref a :: st) h := by
  rw [← cx.hR] at hf hcat
  intro H locs ls hH hk hS hl
  refine W.objInit cx.hx cx.hb cx.hown (cx.hts _ q1) (cx.hts _ q2) (cx.hts _ q3) rfl (hl.1.trans (hLn.trans cx.hml.symm)) rfl d hf (by show 2 * 0 + _ + 12 ≤ _; omega) (K H locs ls hH hk hS hl)
/-- a default method, called through the interface -/
theorem a_callFD (cx : CX g M own cc nL rt R) {count : Nat} (hM : KT (Ml M) g nDist (ws_ nDist bytes maxL ret) rm mc ms (.ref b :: As) h Post noX) (hG : GoodIn lw_all (ws_ nDist bytes maxL ret)) (q1 : Cond.methodLink own index nDist ∈ lw_all) (q2 : Cond.declares nDist ∈ lw_tbl) (q3 : Cond.instanceMethod nDist ∈ lw_all) (q4 : Cond.castable C "FlockHuts$Placed" ∈ lw_tbl) (q5 : Cond.initialized "FlockHuts$Placed" ∈ lw_all) (hF : (C, nDist, nDist) ∈ dfts) (hR : RN R rm maxL mc ms) (hn : As.length = 1)
    {ci : Nat} {fs : List Value} {r : vw_C} (hb : h b = some (eO ci fs)) (hc : allC[ci]? = some r) (hcls : r.1 = C) (hcat : (rest.map fun v => v.category).sum ≤ 8) (d : decode cc pc = .ok (.invokeinterface index count, 5)) (h1 : k + mc ≤ R.cells) (h2 : n + ms ≤ R.slots)
    (K : CK g M k n pc (pc + 5) L rest mc ms Post noX) (hLn : L.length = nL := by rfl) : AW g M k n pc L (As.reverse ++ .ref b :: rest) h := by
  rw [← cx.hR] at h1 h2
  obtain ⟨r1, r2, r3, r4⟩ := hR
  rw [← cx.hR] at r3 r4
  refine run_AW5 (st := As.reverse ++ .ref b :: rest) K (a := (Value.ref b :: As).toArray) fun H locs ls hH hk hS hl => ?_
  obtain ⟨ce, e1, e2, e3⟩ := HP.obj cx.hG.K hH hb hc
  rw [hcls] at e3
  have hcat' := (cx.hG.K.1 ci r hc).2
  obtain ⟨-, -, -, -, hdf, ⟨hfa, hpu⟩, -⟩ := cx.hG
  obtain ⟨hfc, kB, hkB, -⟩ := hcat'
  rw [hcls] at hfc
  have hce : g.1.1 ci = ce.cls := Option.some.inj (hfc.symm.trans e3)
  rw [hce] at hkB
  have hBk : Back (Ml M) (MR M) (Mp M) (Me M) (Mb M) (Ms M) (Ma M) nDist 5 8 (PreOf (MR M) mc ms (kPc g (.ref b :: As) h)) (PostOf (kQ g Post) mc ms (gA g)) := back_of (bytes := bytes) (maxL := maxL) (ret := ret) hM.met kPc.blind r1 r2 r3 r4 (pay_in cx.hts hG) List.mem_cons_self (fun a' U hW => word_at hW (Or.inl (by first | rfl | simp [Cond.onTables, Cond.keeps, Cond.steady])) (cx.hts _ q5))
  intro T hT X
  obtain ⟨v, vm₁, ⟨U', l2, c2, s2⟩, hW₁, X', ⟨g', mk, t, L9, f1, f2, hq, f3, hL, f4, f5⟩, stp⟩ := Jvm.Stand.interfaceBackD X cx.hx cx.hown (cx.hts _ q1) (cx.hG.nest q2 rfl) (va_any rfl hfa) (dft_vm rfl (hdf _ hF)) (cx.hts _ q3) (va_any rfl hpu) (cx.hG.nest q4 rfl) (by decide) hBk e3 hkB ⟨ce, by rw [hT]; exact e1, rfl, by rw [e2]; rfl⟩ (g := F0 (Mm M) pc ls (As.reverse ++ .ref b :: rest)) rfl (hl.1.trans (hLn.trans cx.hml.symm)) (Steps.refl _) (argsL := As) (rest := rest)
    (fun sig hs => by
      have h9 : (parseMethodDescriptor nDist.desc).map (fun d => d.parameters.length) = some 1 := by decide +kernel
      rw [hs] at h9
      rw [hn]
      exact (Option.some.inj h9).symm) rfl (lv_room hcat) (by rw [cx.hb]; exact d) (fun vm₁ hW₁ => ⟨h1, h2, kPc.at cx.hG hS hH hk hT hW₁⟩)
  dsimp only [Pt.U, Pt.locs, Pt.cells, Pt.slots] at X' f1 f2 f3 f4 f5 stp
  subst f3; subst f4; subst f5
  exact Or.inl ⟨v, (T.setVm vm₁).calling g' mk (Value.ref b :: As).toArray, t, U', L9, hT, X', hL, f1, f2, hq, fun tg hs => stp.trans hs⟩
/-- a default method, called by the class's own name (invokevirtual) -/
theorem a_callVD (cx : CX g M own cc nL rt R) {x : MethodName} (hM : KT (Ml M) g y (ws_ y bytes maxL ret) rm mc ms (.ref b :: As) h Post noX) (hG : GoodIn lw_all (ws_ y bytes maxL ret)) (q1 : Cond.methodLink own index x ∈ defaultWords_1) (q1' : Cond.sameMethod x.cls "FlockHuts$Placed" x.name x.desc ∈ defaultWords_1) (q2 : Cond.declares ⟨"FlockHuts$Placed", x.name, x.desc⟩ ∈ lw_tbl) (q3 : Cond.instanceMethod y ∈ lw_all) (q5 : Cond.initialized y.cls ∈ lw_all) (hF : (C, x, y) ∈ dfts) (hR : RN R rm maxL mc ms) (hn : As.length = na) (hxd : (parseMethodDescriptor x.desc).map (fun d => d.parameters.length) = some na)
    {ci : Nat} {fs : List Value} {r : vw_C} (hb : h b = some (eO ci fs)) (hc : allC[ci]? = some r) (hcls : r.1 = C) (hcat : (rest.map fun v => v.category).sum ≤ 8) (d : decode cc pc = .ok (.invokevirtual index, 3)) (h1 : k + mc ≤ R.cells) (h2 : n + ms ≤ R.slots)
    (K : CK g M k n pc (pc + 3) L rest mc ms Post noX) (hLn : L.length = nL := by rfl) : AW g M k n pc L (As.reverse ++ .ref b :: rest) h := by
  rw [← cx.hR] at h1 h2
  obtain ⟨r1, r2, r3, r4⟩ := hR
  rw [← cx.hR] at r3 r4
  refine run_AW (st := As.reverse ++ .ref b :: rest) K (a := (Value.ref b :: As).toArray) fun H locs ls hH hk hS hl => ?_
  obtain ⟨ce, e1, e2, e3⟩ := HP.obj cx.hG.K hH hb hc
  rw [hcls] at e3
  obtain ⟨-, -, -, hdw, hdf, -⟩ := cx.hG
  have w1 := hdw _ q1 rfl
  have w2 := hdw _ q1' rfl
  have hBk : Back (Ml M) (MR M) (Mp M) (Me M) (Mb M) (Ms M) (Ma M) y 3 8 (PreOf (MR M) mc ms (kPc g (.ref b :: As) h)) (PostOf (kQ g Post) mc ms (gA g)) := back_of (bytes := bytes) (maxL := maxL) (ret := ret) hM.met kPc.blind r1 r2 r3 r4 (pay_in cx.hts hG) List.mem_cons_self (fun a' U hW => word_at hW (Or.inl (by first | rfl | simp [Cond.onTables, Cond.keeps, Cond.steady])) (cx.hts _ q5))
  intro T hT X
  obtain ⟨v, vm₁, ⟨U', l2, c2, s2⟩, hW₁, X', ⟨g', mk, t, L9, f1, f2, hq, f3, hL, f4, f5⟩, stp⟩ := Jvm.Stand.virtualBackUpD X cx.hx cx.hown (va_any rfl w1) (va_any rfl w2) (cx.hG.nest q2 rfl) (by decide) (dft_vm rfl (hdf _ hF)) (cx.hts _ q3) hBk e3 ⟨ce, by rw [hT]; exact e1, rfl, by rw [e2]; rfl⟩ (g := F0 (Mm M) pc ls (As.reverse ++ .ref b :: rest)) rfl (hl.1.trans (hLn.trans cx.hml.symm)) (Steps.refl _) (argsL := As) (rest := rest)
    (fun sig hs => by
      rw [hs] at hxd
      rw [hn]
      exact (Option.some.inj hxd).symm) rfl (lv_room hcat) (by rw [cx.hb]; exact d) (fun vm₁ hW₁ => ⟨h1, h2, kPc.at cx.hG hS hH hk hT hW₁⟩)
  dsimp only [Pt.U, Pt.locs, Pt.cells, Pt.slots] at X' f1 f2 f3 f4 f5 stp
  subst f3; subst f4; subst f5
  exact Or.inl ⟨v, (T.setVm vm₁).calling g' mk (Value.ref b :: As).toArray, t, U', L9, hT, X', hL, f1, f2, hq, fun tg hs => stp.trans hs⟩
end CALLS
