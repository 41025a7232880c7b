/-! a private method on an object of a subclass -/
set_option maxRecDepth 100000
theorem sel_priv {args : Array Value} {s : State} {y : MethodName} {C : String} {c : ClassId} (hc : s.vm.findClass C = some c) (hp : (Cond.privateMethod y).before args s = true) (hi : (Cond.instanceMethod y).before args s = true) (hs : (Cond.sameMethod y.cls y.cls y.name y.desc).before args s = true)
    : (Cond.selects C y y).before args s = true := by
  obtain ⟨m, meth, hm, hmeth, -, -⟩ := Cond.instanceMethod_spec hi
  obtain ⟨cn, k, r1, hcn, hck, hk2, hf, hn1⟩ := Cond.sameMethod_found hs
  have e1 : s.methodNamed? y = some r1 := hn1
  cases hm.symm.trans e1
  have hcm : s.vm.findClass y.cls = some m.cls := findClass_of_methodNamed hm
  cases hcn.symm.trans hcm
  have hk : s.vm.classes[m.cls]? = some k := hck
  have hsel : selectMethod {} s.vm c m = .method m := selectMethod_private hmeth (Cond.privateMethod_at hp m meth hm hmeth)
  have hf' : s.methodFound? y.cls y.name y.desc = some m := hf
  simp only [Cond.before, Cond.holds, Cond.value, hc, hf', hm, hsel, hk]
  simp [hk2]
section CP
variable {g : GP} {M : MC} {own C : String} {cc : ByteArray} {nL : Nat} {rt : Option FieldType} {R : Room} {k n pc index : Nat} {L : List (Option Value)} {st : List Value} {h : AH}
variable {y : MethodName} {bytes : ByteArray} {maxL mc ms na : Nat} {ret : Option FieldType} {rm : Room} {b : Addr} {As rest : List Value} {Post : Option Value → AH → Prop} {XPost : String → Nat → AH → Prop}
theorem c_P (cx : CX g M own cc nL rt R) (hM : KT (Ml M) g y (ws_ y bytes maxL ret) rm mc ms (.ref b :: As) h Post XPost) (hG : GoodIn lw_all (ws_ y bytes maxL ret)) (q1 : Cond.methodLink own index y ∈ lw_all) (q2 : Cond.privateMethod y ∈ lw_tbl) (q3 : Cond.instanceMethod y ∈ lw_all) (q4 : Cond.sameMethod y.cls y.cls y.name y.desc ∈ lw_all) (q5 : Cond.initialized y.cls ∈ lw_all) (hd : DN y na) (hR : RN R rm maxL mc ms) (hn : As.length = na) {ci : Nat} {fs : List Value} {r : vw_C} (hb : h b = some (eO ci fs)) (hc : allC[ci]? = some r) (hs : st = As.reverse ++ .ref b :: rest) (hcat : (rest.map fun v => v.category).sum ≤ 8) (d : decode cc pc = .ok (.invokevirtual index, 3)) (h1 : k + mc ≤ R.cells) (h2 : n + ms ≤ R.slots)
    (K1 : ∀ (v : Option Value) (h' : AH), Post v h' → AW g M (k + mc) (n + ms) (pc + 3) L (v.toList ++ rest) h') (K2 : ∀ (E : String) (q : Nat) (h' : AH), XPost E q h' → AX g M (k + mc) (n + ms) pc L E q h') (hLn : L.length = nL := by rfl) : AW g M k n pc L st h := by
  subst hs
  rw [← cx.hR] at h1 h2
  obtain ⟨r1, r2, r3, r4⟩ := hR
  rw [← cx.hR] at r3 r4
  refine run_AW (st := (As.reverse ++ .ref b :: rest)) ⟨K1, K2⟩ (a := (Value.ref b :: As).toArray) fun H locs ls hH hk hS hl => ?_
  have hrecv := HP.recv cx.hG.K hH hb hc
  exact vx_runV (C := r.1) cx.fix hM ⟨callB_of na cx.hts hG rfl r1 r2 (cx.hts _ q5) (cx.hts _ q1) hd ⟨r3, r4⟩, cx.hts _ q3, sel_priv (cx.hG.K.1 ci r hc).2.1 (cx.hG.nest q2 rfl) (cx.hts _ q3) (cx.hts _ q4)⟩ ⟨kPc.blind, hrecv, fun U hU hWm => kPc.at cx.hG hS hH hk hU hWm⟩ rfl hn (hl.1.trans hLn) rfl (lv_room hcat) d ⟨h1, h2⟩
theorem lw_O {own : String} {idx : Nat} {C owner : String} {x y : MethodName} {b : ByteArray} {L : Nat} {r : Option FieldType} (h1 : Cond.methodLink own idx x ∈ lw_all) (h2 : Cond.sameMethod x.cls owner x.name x.desc ∈ lw_all) (h0 : Cond.instanceMethod ⟨owner, x.name, x.desc⟩ ∈ lw_all) (h3 : Cond.selects C x y ∈ lw_all) (h4 : Cond.instanceMethod y ∈ lw_all) (h5 : Cond.initialized y.cls ∈ lw_all) (h6 : Cond.code y b L r ∈ lw_all) : GoodIn lw_all (va_wsO own idx C owner x y (ws_ y b L r)) := by
  refine lw_app ?_ (lw_meth h6)
  intro w hw
  simp only [List.mem_cons, List.not_mem_nil, or_false] at hw
  rcases hw with e | e | e | e | e | e
  · rw [e]; exact h1
  · rw [e]; exact h2
  · rw [e]; exact h0
  · rw [e]; exact h3
  · rw [e]; exact h4
  · rw [e]; exact h5
/-- invokevirtual that names x and runs the overriding y -/
theorem c_O {x : MethodName} {b0 : ByteArray} {m0 : Nat} {r0 : Option FieldType} (cx : CX g M own cc nL rt R) (hM : KT (Ml M) g y (ws_ y bytes maxL ret) rm mc ms (.ref b :: As) h Post XPost) (hW : GoodIn lw_all (va_wsO own index C x.cls x y (ws_ y bytes maxL ret))) (h0 : Cond.code x b0 m0 r0 ∈ lw_all) (hd : DN x na) (hR : RN R rm maxL mc ms) (hn : As.length = na) {ci : Nat} {fs : List Value} {r : vw_C} (hb : h b = some (eO ci fs)) (hc : allC[ci]? = some r) (hcls : r.1 = C) (hs : st = As.reverse ++ .ref b :: rest) (hcat : (rest.map fun v => v.category).sum ≤ 8) (d : decode cc pc = .ok (.invokevirtual index, 3)) (h1 : k + mc ≤ R.cells) (h2 : n + ms ≤ R.slots)
    (K1 : ∀ (v : Option Value) (h' : AH), Post v h' → AW g M (k + mc) (n + ms) (pc + 3) L (v.toList ++ rest) h') (K2 : ∀ (E : String) (q : Nat) (h' : AH), XPost E q h' → AX g M (k + mc) (n + ms) pc L E q h') (hLn : L.length = nL := by rfl) : AW g M k n pc L st h := by
  subst hs
  rw [← cx.hR] at h1 h2
  obtain ⟨r1, r2, r3, r4⟩ := hR
  rw [← cx.hR] at r3 r4
  refine run_AW (st := (As.reverse ++ .ref b :: rest)) ⟨K1, K2⟩ (a := (Value.ref b :: As).toArray) fun H locs ls hH hk hS hl => ?_
  have hrecv := HP.recv cx.hG.K hH hb hc
  rw [hcls] at hrecv
  exact vx_runU cx.fix hM (va_cwO na cx.hts hW rfl r1 r2 h0 hd ⟨r3, r4⟩) ⟨kPc.blind, hrecv, fun U hU hWm => kPc.at cx.hG hS hH hk hU hWm⟩ rfl hn (hl.1.trans hLn) rfl (lv_room hcat) d ⟨h1, h2⟩
end CP
