/-! calls that land in a default method -/
section VD
variable {g : GP} {M : MC} {own C : String} {cc : ByteArray} {nL : Nat} {rt : Option FieldType} {R : Room} {k n pc index : Nat} {L : List (Option Value)} {st : List Value} {h : AH}
variable {y : MethodName} {bytes : ByteArray} {maxL mc ms na : Nat} {ret : Option FieldType} {rm : Room} {b : Addr} {As rest : List Value} {Post : Option Value → AH → Prop}
theorem c_FD {count : Nat} (cx : CX g M own cc nL rt R) (hM : KT (Ml M) g nDist (ws_ nDist bytes maxL ret) rm mc ms (.ref b :: As) h Post noX) (hG : GoodIn lw_all (ws_ nDist bytes maxL ret)) (q1 : Cond.methodLink own index nDist ∈ lw_all) (q2 : Cond.declares nDist ∈ lw_tbl) (q3 : Cond.instanceMethod nDist ∈ lw_all) (q4 : Cond.castable C "FlockHuts$Placed" ∈ lw_tbl) (q5 : Cond.initialized "FlockHuts$Placed" ∈ lw_all) (hF : (C, nDist, nDist) ∈ dfts) (hR : RN R rm maxL mc ms) (hn : As.length = 1)
    {ci : Nat} {fs : List Value} {r : vw_C} (hb : h b = some (eO ci fs)) (hc : allC[ci]? = some r) (hcls : r.1 = C) (hs : st = As.reverse ++ .ref b :: rest) (hcat : (rest.map fun v => v.category).sum ≤ 8) (d : decode cc pc = .ok (.invokeinterface index count, 5)) (h1 : k + mc ≤ R.cells) (h2 : n + ms ≤ R.slots)
    (K1 : ∀ (v : Option Value) (h' : AH), Post v h' → AW g M (k + mc) (n + ms) (pc + 5) L (v.toList ++ rest) h') (hLn : L.length = nL := by rfl) : AW g M k n pc L st h := by
  subst hs
  exact a_callFD cx hM hG q1 q2 q3 q4 q5 hF hR hn hb hc hcls hcat d h1 h2 ⟨K1, fun E q h' hx => hx.elim⟩ hLn
theorem c_VD {x : MethodName} (cx : CX g M own cc nL rt R) (hM : KT (Ml M) g y (ws_ y bytes maxL ret) rm mc ms (.ref b :: As) h Post noX) (hG : GoodIn lw_all (ws_ y bytes maxL ret)) (q1 : Cond.methodLink own index x ∈ defaultWords_1) (q1' : Cond.sameMethod x.cls "FlockHuts$Placed" x.name x.desc ∈ defaultWords_1) (q2 : Cond.declares ⟨"FlockHuts$Placed", x.name, x.desc⟩ ∈ lw_tbl) (q3 : Cond.instanceMethod y ∈ lw_all) (q5 : Cond.initialized y.cls ∈ lw_all) (hF : (C, x, y) ∈ dfts) (hR : RN R rm maxL mc ms) (hn : As.length = na) (hxd : (parseMethodDescriptor x.desc).map (fun d => d.parameters.length) = some na)
    {ci : Nat} {fs : List Value} {r : vw_C} (hb : h b = some (eO ci fs)) (hc : allC[ci]? = some r) (hcls : r.1 = C) (hs : st = As.reverse ++ .ref b :: rest) (hcat : (rest.map fun v => v.category).sum ≤ 8) (d : decode cc pc = .ok (.invokevirtual index, 3)) (h1 : k + mc ≤ R.cells) (h2 : n + ms ≤ R.slots)
    (K1 : ∀ (v : Option Value) (h' : AH), Post v h' → AW g M (k + mc) (n + ms) (pc + 3) L (v.toList ++ rest) h') (hLn : L.length = nL := by rfl) : AW g M k n pc L st h := by
  subst hs
  exact a_callVD cx hM hG q1 q1' q2 q3 q5 hF hR hn hxd hb hc hcls hcat d h1 h2 ⟨K1, fun E q h' hx => hx.elim⟩ hLn
end VD
