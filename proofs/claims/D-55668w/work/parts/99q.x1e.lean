/-! THE CLASS: acts -/
set_option maxRecDepth 100000
theorem isOb_fi {h : AH} {x : Nat} {fs : List Value} (hx : h x = some (eO 1 fs)) : isOb h x := ⟨1, fs, (RX2, TX2, 7), hx, rfl, q2438⟩
theorem FieldAt.o {g : GP} {h : AH} {f : Nat} {s : SF} (hF : FieldAt g h f s) : ∃ fs, h f = some (eO 1 fs) := by
  obtain ⟨a, ea, ma, ca, b, eb, mb, cb, d, ls, lh, hF⟩ := hF
  exact ⟨_, hF.o⟩
theorem hp_8 {l : List SF} {y f : SF} (h : (y :: l).length = 8) : hp (y :: l) f = l ++ [f] := by unfold hp; rw [if_pos h]; rfl
theorem hp_n {l : List SF} {f : SF} (h : ¬ l.length = 8) : hp l f = l ++ [f] := by unfold hp; rw [if_neg h]
theorem ar_comes {s : SF} {x y w : Int32} : ¬ (comesA s x y w).1 = 0 → (comesA s x y w).2.2 = s := by unfold comesA; (repeat' split) <;> intro h <;> first | rfl | exact absurd rfl h
theorem ar_sets {s : SF} {x y : Int32} : ¬ (setsA s x y).1 = 0 → (setsA s x y).2.2 = s := by unfold setsA; (repeat' split) <;> intro h <;> first | rfl | exact absurd rfl h
theorem ar_goes {s : SF} {x : Int32} : ¬ (goesA s x).1 = 0 → (goesA s x).2.2 = s := by unfold goesA; (repeat' split) <;> intro h <;> first | rfl | exact absurd rfl h
theorem ar_strikes {s : SF} {x : Int32} : ¬ (strikesA s x).1 = 0 → (strikesA s x).2.2 = s := by unfold strikesA; (repeat' split) <;> intro h <;> first | rfl | exact absurd rfl h
theorem ar_moves {s : SF} {u x y : Int32} : ¬ (movesA s u x y).1 = 0 → (movesA s u x y).2.2 = s := by unfold movesA; (repeat' split) <;> intro h <;> first | rfl | exact absurd rfl h
theorem ar_weighs {s : SF} {x y : Int32} : ¬ (weighsA s x y).1 = 0 → (weighsA s x y).2.2 = s := by unfold weighsA; (repeat' split) <;> intro h <;> first | rfl | exact absurd rfl h
theorem ar_rounds {s : SF} : ¬ (roundsA s).1 = 0 → (roundsA s).2.2 = s := by unfold roundsA; (repeat' split) <;> intro h <;> first | rfl | exact absurd rfl h
theorem ar_settles {s : SF} {x : Int32} : ¬ (settlesA s x).1 = 0 → (settlesA s x).2.2 = s := by unfold settlesA; (repeat' split) <;> intro h <;> first | rfl | exact absurd rfl h
theorem ar_sends {s : SF} {x y : Int32} : ¬ (sendsA s x y).1 = 0 → (sendsA s x y).2.2 = s := by unfold sendsA; (repeat' split) <;> intro h <;> first | rfl | exact absurd rfl h
theorem ar_fetches {s : SF} {x : Int32} : ¬ (fetchesA s x).1 = 0 → (fetchesA s x).2.2 = s := by unfold fetchesA; (repeat' split) <;> intro h <;> first | rfl | exact absurd rfl h
/-- an act of the class: done, refused, or thrown -/
def PC (g : GP) (hb : AH) (x : Nat) (S : ST) (A : Act) : Option Value → AH → Prop := fun v h' => v = some (.int A.2.1) ∧ A.1 = 0 ∧ CW g hb x (mutS S A) h'
def XC9 (g : GP) (hb : AH) (x : Nat) (S : ST) (A : Act) (ex : Int32 → String) : String → Nat → AH → Prop := fun E _ h' => CW g hb x (mutS S A) h' ∧ ((0 < A.1 ∧ E = "java/lang/UnsupportedOperationException") ∨ (A.1 < 0 ∧ E = ex A.1))
theorem mutS_0 {S : ST} {A : Act} (h : A.1 = 0) : mutS S A = (S.wRow A.2.2).wHist (hp S.hist S.row) := if_pos h
theorem neg_n0 {a : Int32} (h : a < 0) : ¬ a = 0 := fun z => by rw [z] at h; exact absurd h (by decide)
theorem pos_n0 {a : Int32} (h : 0 < a) : ¬ a = 0 := fun z => by rw [z] at h; exact absurd h (by decide)
theorem pos_nn {a : Int32} (h : 0 < a) : ¬ a < 0 := fun z => absurd (Int32.lt_trans h z) (by decide)
theorem mutS_n {S : ST} {A : Act} (h : A.1 < 0) (hr : A.2.2 = S.row) : mutS S A = S := by unfold mutS; rw [if_neg (neg_n0 h), if_pos h, hr]; rfl
theorem mutS_p {S : ST} {A : Act} (h : 0 < A.1) (hr : A.2.2 = S.row) : mutS S A = (S.wWhy A.1).wDetail A.2.1 := by unfold mutS; rw [if_neg (pos_n0 h), if_neg (pos_nn h), hr]; rfl
theorem HX.n6 {hb h : AH} (hX : HX hb) (hs : sub hb h) {q : Nat} {fs : List Value} (hq : h q = some (eO 6 fs)) : hb q = none := by
  cases e : hb q with
  | none => rfl
  | some e2 => have := hs _ _ e; rw [hq] at this; exact absurd (e.trans (this.symm)) (hX q fs).1
theorem HX.n11 {hb h : AH} (hX : HX hb) (hs : sub hb h) {q : Nat} {fs : List Value} (hq : h q = some (eO 11 fs)) : hb q = none := by
  cases e : hb q with
  | none => rfl
  | some e2 => have := hs _ _ e; rw [hq] at this; exact absurd (e.trans (this.symm)) (hX q fs).2
theorem kw_z {t : Nat} (h : t < 14) : (if t = 0 then (1 : Int32) else 0) = zf (ltr t) := by
  have : ∀ t, t < 14 → (if t = 0 then (1 : Int32) else 0) = zf (ltr t) := by decide +kernel
  exact this t h
abbrev rm_X1_become : Room := { frames := 6, cells := 0, slots := 0, locals := 120 }
set_option maxHeartbeats 4000000 in
theorem f1_become {lx : Launch} {g : GP} {h : AH} (htr : lx.stackTraces = false) {hb B : AH} {x f dq el hd sb bb cap ln : Nat} {lq tx : List Nat} {sv er re : Option Nat} {it : Int32} {S : ST} (hC : CH g hb h x B f dq el hd lq sv sb bb cap tx ln er re it) (hS : CS g B S f lq sv tx ln er re it) (h8 : S.hist.length ≤ 8) {f2 : Nat} {r2 : SF} (hF2 : FieldAt g B f2 r2) : KT lx g yX1_become (ws_ yX1_become cX1_become 3 none) rm_X1_become 0 0 [.ref x, .ref f2] h (fun v h' => v = none ∧ CW g hb x ((S.wRow r2).wHist (hp S.hist S.row)) h') (noX) := by
  refine KT.of (by decide +kernel) htr (Nat.le_of_ble_eq_true rfl) (L0 := [some (.ref x), some (.ref f2), none]) rfl ?_
  intro M cx hl9 hq hin hnx
  have hR1 : rm_X1_become.cells = 0 := rfl
  have hR2 : rm_X1_become.slots = 0 := rfl
  refine AW.hk fun hk9 => ?_
  have hx := hC.ox
  obtain ⟨s1, s2, s3, s4, s5, s6, s7, s8⟩ := hS
  refine a_aload_n cx dX1_become_0 rfl ?_
  refine a_get cx fl_X1_44.g dX1_become_1 (by assumption) (by exact rfl) ?_
  refine c_V cx (j3_size cx.htr hC.d) (lw_V q1351 q1352 q1353 q82 q1354) dn_J3_size (RN.of rfl rfl rfl rfl) rfl hC.d.1 rfl rfl rfl (Nat.le_of_ble_eq_true rfl) dX1_become_4 (by omega) (by omega) (pK ?_) (fun E9 q9 h9 hx9 => hx9.elim)
  refine a_bipush cx (v := 8) dX1_become_7 (by decide) ?_
  refine a_icmp_ne cx (tgt := 23) dX1_become_9 (by decide) (fun c9 => ?_) (fun c9 => ?_)
  · have d9 : ¬ lq.length = 8 := fun z => c9 (by rw [z]; rfl)
    have e9 : hp S.hist S.row = S.hist ++ [S.row] := hp_n (by rw [← s2.1]; exact d9)
    have hl8 := s2.1
    refine a_aload_n cx dX1_become_23 rfl ?_
    refine a_get cx fl_X1_44.g dX1_become_24 hC.ox (by exact rfl) ?_
    refine a_aload_n cx dX1_become_27 rfl ?_
    refine a_get cx fl_X1_37.g dX1_become_28 hC.ox (by exact rfl) ?_
    refine c_V cx (j3_addLast (l := lq) cx.htr hC.d (by omega) (isOb_fi (hC.b _ _ s1.o.choose_spec))) (lw_V q1374 q1375 q1376 q82 q1377) dn_J3_addLast (RN.of rfl rfl rfl rfl) rfl hC.d.1 rfl rfl rfl (Nat.le_of_ble_eq_true rfl) dX1_become_31 (by omega) (by omega) (fun v9 h hp9 => ?_) (fun E9 q9 h9 hx9 => hx9.elim)
    obtain ⟨rfl, hD3, hq3⟩ := hp9
    have hC3 := hC.deq hq3 hD3
    refine a_aload_n cx dX1_become_34 rfl ?_
    refine a_aload_n cx dX1_become_35 rfl ?_
    refine a_put cx fl_X1_37 dX1_become_36 hC3.ox rfl rfl (by exact (Nat.le_of_ble_eq_true rfl)) ?_
    exact a_vret cx hq dX1_become_39 ⟨rfl, B, f2, dq, el, hd, _, sv, sb, bb, cap, tx, ln, er, re, it, hC3.setx, hF2, (by rw [e9]; exact s2.snoc s1), s3, s4, s5, s6, s7, s8⟩ (by omega) (by omega)
  · have d9 : lq.length = 8 := nI_inj (b := 8) (by have := s2.1; omega) (by omega) c9
    obtain ⟨y, l, rfl⟩ : ∃ y l, lq = y :: l := by
      cases lq with
      | nil => cases d9
      | cons y l => exact ⟨y, l, rfl⟩
    obtain ⟨r, hs, hh⟩ : ∃ r hs, S.hist = r :: hs := by
      cases e : S.hist with
      | nil => have := s2.1; rw [e] at this; cases this
      | cons r hs => exact ⟨r, hs, rfl⟩
    rw [hh] at s2
    have e9 : hp S.hist S.row = hs ++ [S.row] := by rw [hh]; exact hp_8 (by rw [← s2.1]; exact d9)
    have d9l : l.length = 7 := Nat.succ.inj d9
    refine a_aload_n cx dX1_become_12 rfl ?_
    refine a_get cx fl_X1_44.g dX1_become_13 (by assumption) (by exact rfl) ?_
    refine c_V cx (j3_removeFirst cx.htr hC.d) (lw_V q1358 q1359 q1360 q82 q1361) dn_J3_removeFirst (RN.of rfl rfl rfl rfl) rfl hC.d.1 rfl rfl rfl (Nat.le_of_ble_eq_true rfl) dX1_become_16 (by omega) (by omega) (fun v9 h hp9 => ?_) (fun E9 q9 h9 hx9 => hx9.elim)
    obtain ⟨rfl, hD2, hq2⟩ := hp9
    have hC2 := hC.deq hq2 hD2
    have hy := hC2.b _ _ (s2.2 0 r rfl).o.choose_spec
    refine a_castS (r := (RX2, TX2, 7)) cx q126 dX1_become_19 hy rfl ?_
    refine a_astore_n cx dX1_become_22 (Nat.le_of_ble_eq_true rfl) rfl ?_
    refine a_aload_n cx dX1_become_23 rfl ?_
    refine a_get cx fl_X1_44.g dX1_become_24 hC2.ox (by exact rfl) ?_
    refine a_aload_n cx dX1_become_27 rfl ?_
    refine a_get cx fl_X1_37.g dX1_become_28 hC2.ox (by exact rfl) ?_
    refine c_V cx (j3_addLast (l := l) cx.htr hC2.d (by omega) (isOb_fi (hC2.b _ _ s1.o.choose_spec))) (lw_V q1374 q1375 q1376 q82 q1377) dn_J3_addLast (RN.of rfl rfl rfl rfl) rfl hC2.d.1 rfl rfl rfl (Nat.le_of_ble_eq_true rfl) dX1_become_31 (by omega) (by omega) (fun v9 h hp9 => ?_) (fun E9 q9 h9 hx9 => hx9.elim)
    obtain ⟨rfl, hD3, hq3⟩ := hp9
    have hC3 := hC2.deq hq3 hD3
    refine a_aload_n cx dX1_become_34 rfl ?_
    refine a_aload_n cx dX1_become_35 rfl ?_
    refine a_put cx fl_X1_37 dX1_become_36 hC3.ox rfl rfl (by exact (Nat.le_of_ble_eq_true rfl)) ?_
    exact a_vret cx hq dX1_become_39 ⟨rfl, B, f2, dq, el, dp hd 1, _, sv, sb, bb, cap, tx, ln, er, re, it, hC3.setx, hF2, (by rw [e9]; exact s2.tl.snoc s1), s3, s4, s5, s6, s7, s8⟩ (by omega) (by omega)
abbrev rm_X1_change : Room := { frames := 32, cells := 6470, slots := 129800, locals := 700 }
set_option maxHeartbeats 4000000 in
theorem f1_change {lx : Launch} {g : GP} {h : AH} (htr : lx.stackTraces = false) {hb B : AH} {x f dq el hd sb bb cap ln : Nat} {lq tx : List Nat} {sv er re : Option Nat} {it : Int32} {S : ST} (hC : CH g hb h x B f dq el hd lq sv sb bb cap tx ln er re it) (hS : CS g B S f lq sv tx ln er re it) (hWF : WF S.row) (h8 : S.hist.length ≤ 8) (hX : HX hb) {w p : Nat} {A : Act} {ex : Int32 → String} (hA0 : ¬ A.1 = 0 → A.2.2 = S.row) (hex : ∀ c, ex c = "java/lang/IllegalArgumentException" ∨ ex c = "java/lang/IndexOutOfBoundsException") (mk : ∀ {h2 hb2 : AH} {f2 o a ea : Nat} {ma : Int32} {ca b eb : Nat} {mb : Int32} {cb d : Nat} {ls lh : List Nat}, sub h h2 → FA g hb2 h2 f2 S.row a ea ma ca b eb mb cb d ls lh → h2 o = some (eO 5 [.ref w, .ref p]) → KT lx g yX6_make (ws_ yX6_make cX6_make 4 (some .int)) rm_X6_make2 6400 127200 [.ref o, .ref f2] h2 (PA g hb2 f2 A) (XA g hb2 A ex)) : KT lx g yX1_change (wsW_ yX1_change cX1_change 6 (some .int) [(8, 23, 26, 90)]) rm_X1_change 6470 129800 [.ref x, .ref w, .ref p] h (PC g hb x S A) (XC9 g hb x S A ex) := by
  refine KT.ofH (by decide +kernel) htr (Nat.le_of_ble_eq_true rfl) (L0 := [some (.ref x), some (.ref w), some (.ref p), none, none, none]) rfl ?_
  intro M cx hl9 hq hin hnx
  have hR1 : rm_X1_change.cells = 6470 := rfl
  have hR2 : rm_X1_change.slots = 129800 := rfl
  subst hl9
  refine AW.hk fun hk9 => ?_
  have hx := hC.ox
  obtain ⟨s1, s2, s3, s4, s5, s6, s7, s8⟩ := hS
  have hn := hWF.1.2.1
  have hm := hWF.1.2.2.2
  refine a_aload_n cx dX1_change_0 rfl ?_
  refine a_get cx fl_X1_37.g dX1_change_1 (by assumption) (by exact rfl) ?_
  obtain ⟨a, ea, ma, ca, b, eb, mb, cb, d, ls, lh, hF⟩ := s1.up hC.b
  refine c_V cx (f2_copy cx.htr hF hn hm hWF.1) (lw_V q1054 q293 q294 q78 q295) dn_X2_copy (RN.of rfl rfl rfl rfl) rfl hF.o rfl rfl rfl (Nat.le_of_ble_eq_true rfl) dX1_change_4 (by omega) (by omega) (fun v9 h hp9 => ?_) (fun E9 q9 h9 hx9 => hx9.elim)
  obtain ⟨f2, a2, ea2, ma2, ca2, b2, eb2, mb2, cb2, d2, ls2, lh2, rfl, hF2⟩ := hp9
  refine a_astore_n cx dX1_change_7 (Nat.le_of_ble_eq_true rfl) rfl ?_
  refine a_new cx nl_X1_81 dX1_change_8 (by omega) (by omega) (fun o n8 hB8 => ?_)
  refine a_dup cx dX1_change_11 rfl ?_
  refine a_aload_n cx dX1_change_12 rfl ?_
  refine a_aload_n cx dX1_change_13 rfl ?_
  refine c_I cx (f6_init cx.htr (hset_s _ _ _) hB8) (lw_meth q1059) q101 q1057 q1058 rfl dn_X6_init (RN.of rfl rfl rfl rfl) rfl rfl (Nat.le_of_ble_eq_true rfl) dX1_change_14 (by omega) (by omega) (fun v9 h hp9 => ?_) (fun E9 q9 h9 hx9 => hx9.elim)
  obtain ⟨rfl, rfl⟩ := hp9
  rw [hset_hset]
  have hF3 := hF2.up (sub.new n8 (e := eO 5 [.ref w, .ref p]))
  refine a_aload_n cx dX1_change_17 rfl ?_
  refine c_V cx (mk (hF2.ss.tr (sub.new n8)) hF3 (hset_s _ _ _)) (lw_V q1068 q1069 q1070 q101 q1071) dn_X6_make (RN.of rfl rfl rfl rfl) rfl (hset_s _ _ _) rfl rfl rfl (Nat.le_of_ble_eq_true rfl) dX1_change_18 (by omega) (by omega) (fun v9 h hp9 => ?_) (fun E9 q9 h9 hx9 => ?_)
  rotate_left
  · obtain ⟨x1, x2⟩ := hx9
    have hC9 := hC.up x1
    rcases x2 with ⟨y1, y2, y3, y4⟩ | ⟨y1, y2⟩
    · subst y2
      refine AX.catch cx [] ⟨8, 23, 26, 90⟩ [] (hnx.trans rfl) (fun z hz => nomatch hz) rfl (by decide) q1053 q1174 ?_
      refine a_astore cx dX1_change_26 (Nat.le_of_ble_eq_true rfl) rfl ?_
      refine a_aload_n cx dX1_change_28 rfl ?_
      refine a_aload cx dX1_change_29 rfl ?_
      refine a_put cx fl_X1_92 dX1_change_31 hC9.ox rfl rfl (by exact (Nat.le_of_ble_eq_true rfl)) ?_
      have hC8 := hC9.addB y3 (hX.n6 hC9.hs y3) (hC9.ne y3 nofun nofun nofun nofun nofun)
      have hB8 : sub B (hset B q9 (reE A.1 A.2.1)) := hC9.b.put y3
      exact t_UOE cx hq dX1_change_34 dX1_change_37 dX1_change_38 dX1_change_41 (out_of hnx (by decide)) (by decide) (Nat.le_of_ble_eq_true rfl) (by omega) (by omega) (fun q => ⟨(by rw [mutS_p y1 (hA0 (pos_n0 y1))]; exact ⟨hset B q9 (reE A.1 A.2.1), f, dq, el, hd, lq, sv, sb, bb, cap, tx, ln, er, some q9, it, hC8.setx (f2 := f) (sv2 := sv) (ln2 := ln) (er2 := er) (re2 := some q9) (it2 := it), s1.up hB8, s2.up hB8, s3.imp id (fun z => by obtain ⟨r, a, z1, z2, z3⟩ := z; exact ⟨r, a, z1, z2, z3.up hB8⟩), s4, (by obtain ⟨ol, z1, z2⟩ := s5; exact ⟨ol, z1.up hB8, z2⟩), ⟨s6.1, fun a ha => by obtain ⟨p, z1, z2, z3⟩ := s6.2 a ha; exact ⟨p, z1, z2, hB8 _ _ z3⟩⟩, ⟨nofun, fun a ha => by cases ha; exact ⟨pos_n0 y1, hset_s _ _ _⟩⟩, s8⟩), Or.inl ⟨y1, rfl⟩⟩) (by omega) (by omega)
    · refine AX.pass cx hq (fun z hz => ?_) ⟨(by rw [mutS_n y1 (hA0 (neg_n0 y1))]; exact ⟨B, f, dq, el, hd, lq, sv, sb, bb, cap, tx, ln, er, re, it, hC9, s1, s2, s3, s4, s5, s6, s7, s8⟩), Or.inr ⟨y1, y2⟩⟩ (by omega) (by omega)
      rw [hnx] at hz
      obtain rfl := List.mem_singleton.mp hz
      refine Or.inr ⟨by decide, "FlockHuts$Refused", cx.hts _ q1053, ?_⟩
      rw [y2]
      rcases hex A.1 with e | e <;> rw [e]
      · exact cx.hG.nc (by decide)
      · exact cx.hG.nc (by decide)
  obtain ⟨kA, rfl, a9, ea9, ma9, ca9, b9, eb9, mb9, cb9, d9, ls9, lh9, hF9⟩ := hp9
  obtain ⟨hC4, hBB, m1, m2⟩ := hC.base hF9.ss
  have hF4 := hF9.res m1 m2
  have hS4 : CS g _ S f lq sv tx ln er re it := CS.up ⟨s1, s2, s3, s4, s5, s6, s7, s8⟩ hBB
  refine a_istore cx dX1_change_21 (Nat.le_of_ble_eq_true rfl) rfl ?_
  refine a_goto cx (tgt := 42) dX1_change_23 (by decide) ?_
  refine a_aload_n cx dX1_change_42 rfl ?_
  refine a_aload_n cx dX1_change_43 rfl ?_
  refine c_V cx (f1_become cx.htr hC4 hS4 h8 hF4) (lw_V q1347 q1349 qs13 q77 q1350) dn_X1_become (RN.of rfl rfl rfl rfl) rfl hC4.ox rfl rfl rfl (Nat.le_of_ble_eq_true rfl) dX1_change_44 (by omega) (by omega) (fun v9 h hp9 => ?_) (fun E9 q9 h9 hx9 => hx9.elim)
  obtain ⟨rfl, hW⟩ := hp9
  refine a_iload cx dX1_change_47 rfl ?_
  exact a_iret cx hq dX1_change_49 ⟨rfl, kA, by rw [mutS_0 kA]; exact hW⟩ (by omega) (by omega)
