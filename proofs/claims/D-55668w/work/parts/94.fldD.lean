/-! THE FIELD: acts -/
set_option maxRecDepth 100000
theorem m1_neg : (-1 : Int32) < 0 := by decide
theorem m2_neg : (-2 : Int32) < 0 := by decide
abbrev exIA : Int32 → String := fun _ => "java/lang/IllegalArgumentException"
abbrev exIO : Int32 → String := fun _ => "java/lang/IndexOutOfBoundsException"
/-- the index first, then the arguments -/
abbrev exMv : Int32 → String := fun c => if c = -1 then "java/lang/IndexOutOfBoundsException" else "java/lang/IllegalArgumentException"
/-- an act was done -/
def PA (g : GP) (hb : AH) (f : Nat) (A : Act) : Option Value → AH → Prop := fun v h' => A.1 = 0 ∧ v = some (.int A.2.1) ∧ FW g hb f A.2.2 h'
/-- .. or refused, or it has thrown -/
def XA (g : GP) (hb : AH) (A : Act) (ex : Int32 → String) : String → Nat → AH → Prop := fun E q h' => sub hb h' ∧ ((0 < A.1 ∧ E = "FlockHuts$Refused" ∧ h' q = some (reE A.1 A.2.1) ∧ gB g ≤ q) ∨ (A.1 < 0 ∧ E = ex A.1))
theorem XA.ref {g : GP} {hb h h' : AH} {A : Act} {ex : Int32 → String} {r d : Int32} {P : Prop} {E : String} {q : Nat} (hs : sub hb h) (hx : xR g r d P h E q h') (hA : P → A.1 = r ∧ A.2.1 = d) (hr : 0 < r) : XA g hb A ex E q h' := by
  obtain ⟨e1, e2, e3, e4, e5⟩ := hx
  obtain ⟨a1, a2⟩ := hA e5
  refine ⟨by rw [e4]; exact hs.set (hs.none e2), Or.inl ⟨by rw [a1]; exact hr, e1, by rw [e4, hset_s, a1, a2], e3⟩⟩
theorem XA.thr {g : GP} {hb h h' : AH} {A : Act} {ex : Int32 → String} {cls : String} {P : Prop} {E : String} {q : Nat} (hs : sub hb h) (hx : xN cls P h E q h') (hA : P → A.1 < 0 ∧ ex A.1 = cls) : XA g hb A ex E q h' := by
  obtain ⟨e1, e2, e3⟩ := hx
  obtain ⟨a1, a2⟩ := hA e3
  exact ⟨by rw [e2]; exact hs, Or.inr ⟨a1, by rw [a2]; exact e1⟩⟩
theorem FA.w {g : GP} {hb h : AH} {f : Nat} {s : SF} {a ea : Nat} {ma : Int32} {ca b eb : Nat} {mb : Int32} {cb d : Nat} {ls lh : List Nat} (hF : FA g hb h f s a ea ma ca b eb mb cb d ls lh) : FW g hb f s h := ⟨a, ea, ma, ca, b, eb, mb, cb, d, ls, lh, hF⟩
theorem fi_nodup {l : List Nat} (hl : l.Nodup) {k : Nat} (hk : k < l.length) : fi l (l.getD k 0) l.length = some k := by
  refine fi_up ?_ _ hk
  have h0 : ∀ n, n ≤ k → fi l (l.getD k 0) n = none := by
    intro n
    induction n with
    | zero => intro _; rfl
    | succ n ih =>
      intro hn
      rw [fi, ih (by omega)]
      exact if_neg (fun z => by have := nodup_at hl (by omega) hk z; omega)
  rw [fi, h0 k (Nat.le_refl _)]
  exact if_pos rfl
theorem comesA_0 {s : SF} {x y w : Int32} (h1 : inP x = true) (h2 : inP y = true) (h3 : inR w 1 9 = true) : comesA s x y w = if nS s = 18 then (1, 18, s) else (0, nI (nS s), comesS s x y w) := if_pos ⟨h1, h2, h3⟩
theorem comesA_x {s : SF} {x y w : Int32} (h : ¬ (inP x = true ∧ inP y = true)) : comesA s x y w = (-1, 0, s) := if_neg (fun z => h ⟨z.1, z.2.1⟩)
theorem comesA_w {s : SF} {x y w : Int32} (h : inR w 1 9 = false) : comesA s x y w = (-1, 0, s) := if_neg (fun z => by rw [h] at z; cases z.2.2)
theorem comesS_q {s : SF} {x y w : Int32} {q : Nat} (h0 : q ≠ 0) (h1 : q ≠ 9 + nS s) (h2 : q ≠ 27 + nS s) (h3 : q ≠ 45 + nS s) (h4 : q ≠ 63 + nS s) : comesS s x y w q = s q := by
  unfold comesS
  rw [upd_n h0, upd_n h4, upd_n h3, upd_n h2, upd_n h1]
theorem comesS_v {s : SF} {x y w : Int32} (hn : nS s < 18) : comesS s x y w (9 + nS s) = x ∧ comesS s x y w (27 + nS s) = y ∧ comesS s x y w (45 + nS s) = w ∧ comesS s x y w (63 + nS s) = oI (near s x y) := by
  unfold comesS
  refine ⟨?_, ?_, ?_, ?_⟩
  · rw [upd_n (by omega), upd_n (by omega), upd_n (by omega), upd_n (by omega), upd_s]
  · rw [upd_n (by omega), upd_n (by omega), upd_n (by omega), upd_s]
  · rw [upd_n (by omega), upd_n (by omega), upd_s]
  · rw [upd_n (by omega), upd_s]
abbrev rm_X2_come : Room := { frames := 14, cells := 10, slots := 200, locals := 300 }
set_option maxHeartbeats 4000000 in
theorem f2_come {lx : Launch} {g : GP} {h : AH} (htr : lx.stackTraces = false) {hb : AH} {f a ea ca b eb cb d : Nat} {ma mb : Int32} {ls lh : List Nat} {s : SF} (hF : FA g hb h f s a ea ma ca b eb mb cb d ls lh) (hWF : WF s) {x y w : Int32} : KT lx g yX2_come (ws_ yX2_come cX2_come 6 (some .int)) rm_X2_come 10 200 [.ref f, .int x, .int y, .int w] h (PA g hb f (comesA s x y w)) (XA g hb (comesA s x y w) exIA) := by
  refine KT.of (by decide +kernel) htr (Nat.le_of_ble_eq_true rfl) (L0 := [some (.ref f), some (.int x), some (.int y), some (.int w), none, none]) rfl ?_
  intro M cx hl9 hq hin hnx
  have hR1 : rm_X2_come.cells = 10 := rfl
  have hR2 : rm_X2_come.slots = 200 := rfl
  refine AW.hk fun hk9 => ?_
  have hS := hWF.1
  have hP := hWF.2.2
  have hn := hS.2.1
  have hm := hS.2.2.2
  refine a_iconst cx (v := 2) dX2_come_0 (by decide) ?_
  refine a_newaI cx dX2_come_1 (show (2 : Int32) = nI 2 from rfl) (by decide) (by omega) (by omega) (fun p n1 hB1 => ?_)
  have hF1 := hF.up (sub.new n1 (e := eI (g.2.1 0) 2 (fun _ => 0)))
  refine a_dup cx dX2_come_3 rfl ?_
  refine a_iconst cx (v := 0) dX2_come_4 (by decide) ?_
  refine a_iload_n cx dX2_come_5 rfl ?_
  refine a_iast cx dX2_come_6 (hset_s _ _ _) (show (0 : Int32) = nI 0 from rfl) (by omega) (by omega) ?_
  rw [hset_hset]
  refine a_dup cx dX2_come_7 rfl ?_
  refine a_iconst cx (v := 1) dX2_come_8 (by decide) ?_
  refine a_iload_n cx dX2_come_9 rfl ?_
  refine a_iast cx dX2_come_10 (hset_s _ _ _) (show (1 : Int32) = nI 1 from rfl) (by omega) (by omega) ?_
  rw [hset_hset]
  refine c_SN cx (f1_checkPlaces cx.htr (hset_s _ _ _)) (lw_meth q1156) q77 q1154 q1155 dn_X1_checkPlaces (RN.of rfl rfl rfl rfl) rfl rfl (Nat.le_of_ble_eq_true rfl) dX2_come_11 (by omega) (by omega) (fun v9 h hp9 => ?_) (fun E9 q9 h9 hx9 => AX.out cx hq hnx (XA.thr (hF.ss.tr (sub.new n1)) hx9 (fun z => ⟨by rw [comesA_x (x := x) (y := y) z]; exact m1_neg, by rw [comesA_x (x := x) (y := y) z]; first | done | rfl | decide⟩)) (by omega) (by omega))
  obtain ⟨rfl, e11, kx, ky⟩ := hp9
  rw [e11]
  replace kx : inP x = true := kx
  replace ky : inP y = true := ky
  refine AW.hm (sub.new n1) (fun _ => hk9) ?_
  refine a_iload_n cx dX2_come_14 rfl ?_
  refine a_i2l cx dX2_come_15 rfl ?_
  refine a_lconst cx (v := 1) dX2_come_16 (by decide) ?_
  refine a_ldc2 cx q1167 dX2_come_17 ?_
  refine c_SN cx (f1_inRange (x := w) (y := 1) (z := 9) cx.htr) (lw_meth q795) q77 q793 q794 dn_X1_inRange (RN.of rfl rfl rfl rfl) rfl rfl (Nat.le_of_ble_eq_true rfl) dX2_come_20 (by omega) (by omega) (pK ?_) (fun E9 q9 h9 hx9 => hx9.elim)
  refine c_SN cx (f1_checkArgument cx.htr) (lw_meth q1161) q77 q1168 q1160 dn_X1_checkArgument (RN.of rfl rfl rfl rfl) rfl rfl (Nat.le_of_ble_eq_true rfl) dX2_come_23 (by omega) (by omega) (fun v9 h hp9 => ?_) (fun E9 q9 h9 hx9 => AX.out cx hq hnx (XA.thr hF.ss hx9 (fun z => ⟨by rw [comesA_w ((bI_0 _).mp z)]; exact m1_neg, by rw [comesA_w ((bI_0 _).mp z)]; first | done | rfl | decide⟩)) (by omega) (by omega))
  obtain ⟨rfl, e23, ck23⟩ := hp9
  rw [e23]
  have k23 := bI_n0 ck23
  refine a_aload_n cx dX2_come_26 rfl ?_
  refine a_get cx fl_X2_12.g dX2_come_27 hF.o (by exact rfl) ?_
  refine c_V cx (j2_size cx.htr hF.la.1) (lw_V q638 q274 q275 q81 q276) dn_J2_size (RN.of rfl rfl rfl rfl) rfl hF.la.1 rfl rfl rfl (Nat.le_of_ble_eq_true rfl) dX2_come_30 (by omega) (by omega) (pK ?_) (fun E9 q9 h9 hx9 => hx9.elim)
  refine AW.topi (congrArg nI hF.nl) ?_
  refine a_bipush cx (v := 18) dX2_come_33 (by decide) ?_
  refine a_icmp_ge cx (tgt := 42) dX2_come_35 (by decide) (fun c35 => ?_) (fun c35 => ?_)
  · have d35 : nS s = 18 := by have := le_nI (a := 18) c35 (by omega) (by omega); omega
    have hA := comesA_0 (s := s) kx ky k23
    rw [if_pos d35] at hA
    refine a_iconst cx (v := 0) dX2_come_42 (by decide) ?_
    refine a_iconst cx (v := 1) dX2_come_43 (by decide) ?_
    refine a_bipush cx (v := 18) dX2_come_44 (by decide) ?_
    refine c_S cx (f7_check (r := 1) (d := 18) cx.htr) (lw_S q1169 q1170 q106 q1171) dn_X7_check (RN.of rfl rfl rfl rfl) rfl rfl (Nat.le_of_ble_eq_true rfl) dX2_come_46 (by omega) (by omega) (fun v9 h hp9 => ?_) (fun E9 q9 h9 hx9 => AX.out cx hq hnx (XA.ref hF.ss hx9 (fun _ => by rw [hA]; exact ⟨rfl, rfl⟩) (by decide)) (by omega) (by omega))
    obtain ⟨rfl, e46, ck46⟩ := hp9
    exact absurd rfl ck46
  · have d35 : nS s < 18 := nle_nI (a := 18) c35 (by omega) (by omega)
    have hA := comesA_0 (s := s) kx ky k23
    rw [if_neg (by omega)] at hA
    refine a_iconst cx (v := 1) dX2_come_38 (by decide) ?_
    refine a_goto cx (tgt := 43) dX2_come_39 (by decide) ?_
    refine a_iconst cx (v := 1) dX2_come_43 (by decide) ?_
    refine a_bipush cx (v := 18) dX2_come_44 (by decide) ?_
    refine c_S cx (f7_check (r := 1) (d := 18) cx.htr) (lw_S q1169 q1170 q106 q1171) dn_X7_check (RN.of rfl rfl rfl rfl) rfl rfl (Nat.le_of_ble_eq_true rfl) dX2_come_46 (by omega) (by omega) (fun v9 h hp9 => ?_) (fun E9 q9 h9 hx9 => (absurd hx9.2.2.2.2 (by decide)))
    obtain ⟨rfl, e46, ck46⟩ := hp9
    rw [e46]
    refine a_new cx nl_X2_40 dX2_come_49 (by omega) (by omega) (fun y9 n49 hB49 => ?_)
    refine a_dup cx dX2_come_52 rfl ?_
    refine a_iload_n cx dX2_come_53 rfl ?_
    refine a_iload_n cx dX2_come_54 rfl ?_
    refine a_iload_n cx dX2_come_55 rfl ?_
    refine c_I cx (f4_init cx.htr (hset_s _ _ _) hB49) (lw_meth q465) q95 q1200 q464 rfl dn_X4_init (RN.of rfl rfl rfl rfl) rfl rfl (Nat.le_of_ble_eq_true rfl) dX2_come_56 (by omega) (by omega) (pV ?_) (fun E9 q9 h9 hx9 => hx9.elim)
    rw [hset_hset]
    have hF1 := hF.up (sub.new n49 (e := shE x y w (-1)))
    refine a_astore cx dX2_come_59 (Nat.le_of_ble_eq_true rfl) rfl ?_
    refine a_aload cx dX2_come_61 rfl ?_
    refine a_aload_n cx dX2_come_63 rfl ?_
    refine a_aload cx dX2_come_64 rfl ?_
    refine c_V cx (f2_nearests cx.htr hF1 hn hm (hset_s _ _ _)) (lw_V q634 q635 q636 q78 q637) dn_X2_nearest (RN.of rfl rfl rfl rfl) rfl hF1.o rfl rfl rfl (Nat.le_of_ble_eq_true rfl) dX2_come_66 (by omega) (by omega) (pK ?_) (fun E9 q9 h9 hx9 => hx9.elim)
    refine a_put cx fl_X2_107 dX2_come_69 (hset_s _ _ _) rfl rfl (by exact (Nat.le_of_ble_eq_true rfl)) ?_
    rw [hset_hset]
    have hF2 := hF.up (sub.new n49 (e := shE x y w (oI (near s x y))))
    refine a_aload_n cx dX2_come_72 rfl ?_
    refine a_get cx fl_X2_12.g dX2_come_73 hF2.o (by exact rfl) ?_
    refine a_aload cx dX2_come_76 rfl ?_
    refine c_V cx (j2_add cx.htr hF2.la (by rw [hF2.nl]; omega) (isOb_sh (hset_s _ _ _)) (fun z => by have := hF.la.1; rw [← z, n49] at this; cases this) (fun y hy => by obtain ⟨k2, hk2, e⟩ := gD_mem hy; rw [← e]; exact isOb_sh (hF2.sh (by rw [← hF2.nl]; exact hk2))) (fun hy => by obtain ⟨k2, hk2, e⟩ := gD_mem hy; have := hF2.sh (k := k2) (by rw [← hF2.nl]; exact hk2); rw [e, hF2.la.1] at this; cases this)) (lw_V q492 q493 q494 q81 q495) dn_J2_add (RN.of rfl rfl rfl rfl) rfl hF2.la.1 rfl rfl rfl (Nat.le_of_ble_eq_true rfl) dX2_come_78 (by omega) (by omega) (fun v9 h hp9 => ?_) (fun E9 q9 h9 hx9 => hx9.elim)
    obtain ⟨rfl, hA9⟩ := hp9
    refine AW.hk fun hk8 => ?_
    obtain ⟨v1, v2, v3, v4⟩ := comesS_v (s := s) (x := x) (y := y) (w := w) d35
    obtain ⟨ea3, ca3, hF3⟩ := hF2.comes (s' := comesS s x y w) (x := y9) (by rw [v1, v2, v3, v4]; exact hset_s _ _ _) (hF.ss.none n49) (fun k2 hk2 z => by have := hF.sh hk2; rw [z, n49] at this; cases this) hA9 hk8.2.2.1 d35 (upd_s _ _ _) (fun q h0 h1 h2 h3 h4 => comesS_q h0 h1 h2 h3 h4)
    refine a_istore cx dX2_come_81 (Nat.le_of_ble_eq_true rfl) rfl ?_
    refine a_aload_n cx dX2_come_83 rfl ?_
    refine a_get cx fl_X2_12.g dX2_come_84 hF3.o (by exact rfl) ?_
    refine c_V cx (j2_size cx.htr hF3.la.1) (lw_V q638 q274 q275 q81 q276) dn_J2_size (RN.of rfl rfl rfl rfl) rfl hF3.la.1 rfl rfl rfl (Nat.le_of_ble_eq_true rfl) dX2_come_87 (by omega) (by omega) (pK ?_) (fun E9 q9 h9 hx9 => hx9.elim)
    refine AW.topi (show _ = nI (nS s + 1) from congrArg nI (by rw [List.length_append, hF.nl]; rfl)) ?_
    refine a_iconst cx (v := 1) dX2_come_90 (by decide) ?_
    refine a_isub cx dX2_come_91 ?_
    refine AW.topi (show _ = nI (nS s) from (show nI (nS s + 1) - nI 1 = _ from pk_sub (by omega))) ?_
    exact a_iret cx hq dX2_come_92 ⟨by rw [hA], by rw [hA], by rw [hA]; exact hF3.w⟩ (by omega) (by omega)
