/-! THE PARSER: all orders -/
set_option maxRecDepth 100000
abbrev OW : Type := List Nat × List Int32
def conF (s : List Nat) (f : Nat → Nat × Bool × List OW) (p : Nat) : Nat × Bool × List OW := if p < s.length then (if hrs s p = 59 then f (p + 1) else (p, true, [])) else (p, false, [])
def prw (s : List Nat) : Nat → Nat → Nat × Bool × List OW
  | 0, p => (p, true, [])
  | m + 1, p => if (orw s p).2.1 = true then ((orw s p).1, true, []) else ((conF s (prw s m) (orw s p).1).1, (conF s (prw s m) (orw s p).1).2.1, ((orw s p).2.2.1, (orw s p).2.2.2) :: (conF s (prw s m) (orw s p).1).2.2)
theorem prw_f {s : List Nat} {m p : Nat} (h : (orw s p).2.1 = true) : prw s (m + 1) p = ((orw s p).1, true, []) := by rw [prw, if_pos h]
theorem prw_t {s : List Nat} {m p : Nat} (h : (orw s p).2.1 = false) : prw s (m + 1) p = ((conF s (prw s m) (orw s p).1).1, (conF s (prw s m) (orw s p).1).2.1, ((orw s p).2.2.1, (orw s p).2.2.2) :: (conF s (prw s m) (orw s p).1).2.2) := by rw [prw, if_neg (by rw [h]; decide)]
theorem len_3 : ∀ t, t < 12 → 2 ≤ t → 3 ≤ (ltr t).length := by decide +kernel
theorem nm_len {l : List Nat} (h : ¬ nmO l = -1) : 3 ≤ l.length := by
  refine Classical.byContradiction fun z => h (nm_none fun t h1 h2 h7 e => ?_)
  have := len_3 t h1 h2
  rw [e] at z
  omega
/-- all but one cell -/
def er (h : AH) (a : Nat) : AH := fun q => if q = a then none else h q
theorem er_a (h : AH) (a : Nat) : er h a a = none := if_pos rfl
theorem er_n {h : AH} {a q : Nat} (hn : q ≠ a) : er h a q = h q := if_neg hn
theorem er_sub (h : AH) (a : Nat) : sub (er h a) h := fun q e hq => by
  by_cases z : q = a
  · rw [z, er_a] at hq; cases hq
  · rw [er_n z] at hq; exact hq
theorem er_of {h : AH} {a q : Nat} {e0 e : va_E} (ha : h a = some e0) (hq : h q = some e) (hne : e ≠ e0) : er h a q = some e := (er_n (fun z => by rw [z, ha] at hq; exact hne (Option.some.inj hq).symm)).trans hq
theorem OrdAt.er {g : GP} {h : AH} {a o : Nat} {l : List Nat} {ns : List Int32} {sb : Nat} {p : Int32} (ha : h a = some (psE sb p)) (hO : OrdAt g h o l ns) : OrdAt g (er h a) o l ns := by
  obtain ⟨w, wb, pr, fn, h1, h2, h3, h4, h5⟩ := hO
  exact ⟨w, wb, pr, fn, er_of ha h1 nofun, er_of ha h2 nofun, er_of ha h3 nofun, er_of ha h4 nofun, h5⟩
theorem OrdAt.fr {g : GP} {h h' : AH} {o q ed mc : Nat} {c : Int32} {n : Nat} {fn0 : Nat → Option Nat} {l : List Nat} {ns : List Int32} (hO : OrdAt g h o l ns) (hq : h q = some (eO 12 [.int c, .ref ed, .int (nI n)])) (hed : h ed = some (eQ (g.2.1 4) mc fn0)) (hfr : ∀ y e, h y = some e → y ≠ q → y ≠ ed → h' y = some e) : OrdAt g h' o l ns := by
  obtain ⟨w, wb, pr, fn, h1, h2, h3, h4, h5⟩ := hO
  have k : ∀ y e, h y = some e → e ≠ eO 12 [.int c, .ref ed, .int (nI n)] → e ≠ eQ (g.2.1 4) mc fn0 → h' y = some e := fun y e hy a1 a2 => hfr y e hy (fun z => by rw [z, hq] at hy; exact a1 (Option.some.inj hy).symm) (fun z => by rw [z, hed] at hy; exact a2 (Option.some.inj hy).symm)
  exact ⟨w, wb, pr, fn, k _ _ h1 nofun nofun, k _ _ h2 nofun nofun, k _ _ h3 nofun (fun z => by injection z with z; injection z with z1 z2; injection z2 with z3 z4; cases z4), k _ _ h4 nofun (fun z => by injection z with z; injection z with z1 z2; injection z2 with z3 z4; cases z4), h5⟩
theorem isOb_or {h : AH} {x : Nat} {fs : List Value} (hx : h x = some (eO 5 fs)) : isOb h x := ⟨5, fs, (RX6, TX6, 2), hx, rfl, q2447⟩
/-- the orders in a list -/
def OrL (g : GP) (h : AH) (lo : List Nat) (os : List OW) : Prop := lo.length = os.length ∧ ∀ i, i < os.length → OrdAt g h (lo.getD i 0) (os.getD i ([], [])).1 (os.getD i ([], [])).2 ∧ ¬ nmO (os.getD i ([], [])).1 = -1 ∧ (os.getD i ([], [])).2.length = nN (os.getD i ([], [])).1
theorem OrL.add {g : GP} {h : AH} {lo : List Nat} {os : List OW} {o : Nat} {r : OW} (hL : OrL g h lo os) (hO : OrdAt g h o r.1 r.2) (h1 : ¬ nmO r.1 = -1) (h2 : r.2.length = nN r.1) : OrL g h (lo ++ [o]) (os ++ [r]) := by
  obtain ⟨e, hL⟩ := hL
  refine ⟨by rw [List.length_append, List.length_append, e]; rfl, fun i hi => ?_⟩
  rw [List.length_append] at hi
  have hi : i < os.length + 1 := hi
  by_cases z : i < os.length
  · have e1 : (os ++ [r]).getD i ([], []) = os.getD i ([], []) := by rw [List.getD_eq_getElem?_getD, List.getD_eq_getElem?_getD, List.getElem?_append_left z]
    rw [gD_a (by omega), e1]
    exact hL i z
  · have ei : i = os.length := by omega
    subst ei
    have e1 : (os ++ [r]).getD os.length ([], []) = r := by rw [List.getD_eq_getElem?_getD, List.getElem?_append_right (Nat.le_refl _), Nat.sub_self]; rfl
    rw [gD_b e.symm, e1]
    exact ⟨hO, h1, h2⟩
abbrev rm_X12_orders (N : Nat) : Room := { frames := 18, cells := 300 + 210 * N, slots := 23100 + 22900 * N, locals := 520 }
set_option maxHeartbeats 4000000 in
theorem f12_orders {lx : Launch} {g : GP} {h : AH} (htr : lx.stackTraces = false) {hb : AH} {pa sb b cap N : Nat} {s : List Nat} (hs : sub hb h) (npa : hb pa = none) (hpa : h pa = some (psE sb (nI 0))) (hS : SB g h sb b cap s) (has_ : asc s) (hsl : s.length ≤ 60) (hN : s.length + 1 < 4 * N + 4) : KT lx g yX12_orders (ws_ yX12_orders cX12_orders 4 (some (.object "java/util/ArrayList"))) (rm_X12_orders N) (300 + 210 * N) (23100 + 22900 * N) [.ref pa] h (fun v h' => ∃ q ed mq cq lo, v = some (.ref q) ∧ (prw s (s.length + 1) 0).2.1 = false ∧ AL g h' q ed mq cq lo ∧ OrL g h' lo (prw s (s.length + 1) 0).2.2 ∧ sub hb h' ∧ 4 * (prw s (s.length + 1) 0).2.2.length ≤ s.length + 1) (fun E q h' => E = "FlockHuts$SyntaxException" ∧ (prw s (s.length + 1) 0).2.1 = true ∧ sub hb h' ∧ h' q = some (syE (nI (prw s (s.length + 1) 0).1)) ∧ gB g ≤ q) := by
  refine KT.of (by decide +kernel) htr (Nat.le_of_ble_eq_true rfl) (L0 := [some (.ref pa), none, none, none]) rfl ?_
  intro M cx hl9 hq hin hnx
  have hR1 : (rm_X12_orders N).cells = 300 + 210 * N := rfl
  have hR2 : (rm_X12_orders N).slots = 23100 + 22900 * N := rfl
  refine a_new cx nl_X12_83 dX12_orders_0 (by omega) (by omega) (fun q n0 hB0 => ?_)
  refine a_dup cx dX12_orders_3 rfl ?_
  refine c_I cx (j2_init cx.htr (hset_s _ _ _)) (lw_meth q136) q81 q1780 q135 rfl dn_J2_init (RN.of rfl rfl rfl rfl) rfl rfl (Nat.le_of_ble_eq_true rfl) dX12_orders_4 (by omega) (by omega) (fun v9 h hp9 => ?_) (fun E9 q9 h9 hx9 => hx9.elim)
  obtain ⟨rfl, rfl, hl0⟩ := hp9
  rw [hset_hset]
  rw [hset_hset] at hl0
  have nq : hb q = none := hs.none n0
  have hs1 := hs.set nq (e := eO 12 [.int 0, .ref (gs g 0), .int 0])
  obtain ⟨h1, eh1⟩ : ∃ z, z = hset h q (eO 12 [.int 0, .ref (gs g 0), .int 0]) := ⟨_, rfl⟩
  rw [← eh1]
  rw [← eh1] at hs1 hl0
  have hpa1 : h1 pa = some (psE sb (nI 0)) := by rw [eh1]; exact (hset_n (fun z => by rw [z, n0] at hpa; cases hpa)).trans hpa
  have hS1 : SB g h1 sb b cap s := by rw [eh1]; exact hS.sub (sub.new n0)
  have hSe : SB g (er h1 pa) sb b cap s := ⟨er_of hpa1 hS1.1 nofun, ⟨_, er_of hpa1 hS1.2.1.choose_spec.1 nofun, hS1.2.1.choose_spec.2⟩, hS1.2.2⟩
  have hle : AL g (er h1 pa) q (gs g 0) 0 0 [] := hl0.keep (er_n (fun z => by rw [← z, hl0.1] at hpa1; cases hpa1)) (er_n (fun z => by obtain ⟨fn, y⟩ := hl0.arr; rw [← z, y] at hpa1; cases hpa1))
  have hse : sub hb (er h1 pa) := fun x e hx => (er_n (fun z => by rw [z, npa] at hx; cases hx)).trans (hs1 x e hx)
  have hqB := hle.1
  refine a_astore_n cx dX12_orders_7 (Nat.le_of_ble_eq_true rfl) rfl ?_
  refine a_aload_n cx dX12_orders_8 rfl ?_
  refine a_aload_n cx dX12_orders_9 rfl ?_
  refine c_V cx (f12_order (hb := er h1 pa) (p := 0) cx.htr (er_sub _ _) (er_a _ _) hpa1 hSe has_ (by omega) (by omega) (by omega)) (lw_V q1781 q1783 qs21 q116 q1784) dn_X12_order (RN.of rfl rfl rfl rfl) rfl hpa1 rfl rfl rfl (Nat.le_of_ble_eq_true rfl) dX12_orders_10 (by omega) (by omega) (fun v9 h hp9 => ?_) (fun E9 q9 h9 hx9 => AX.out cx hq hnx ⟨hx9.1, by rw [prw_f hx9.2.1], hse.tr hx9.2.2.1, by rw [prw_f hx9.2.1]; exact hx9.2.2.2.2.1, hx9.2.2.2.2.2⟩ (by omega) (by omega))
  obtain ⟨o, rfl, r1, r2, r3, r4, r5, r6, r7, r8, r9, r10, r11⟩ := hp9
  have hl2 := hle.sub r8
  have hS2 := hSe.sub r8
  have hsb2 := hse.tr r8
  have hol2 : OrL g h [] [] := ⟨rfl, fun i hi => absurd hi (Nat.not_lt_zero _)⟩
  have hed : gs g 0 = gs g 0 ∨ hb (gs g 0) = none := Or.inl rfl
  have z0 : ([] : List Nat).length = 0 := rfl
  refine c_V cx (j2_add cx.htr hl2 (by omega) (isOb_or r10.choose_spec.choose_spec.choose_spec.choose_spec.1) (fun z => by have := hqB; rw [← z, r11] at this; cases this) (fun y hy => by obtain ⟨k2, hk2, e⟩ := gD_mem hy; rw [← e]; obtain ⟨w, wb, pr, fn, w1, -⟩ := (hol2.2 k2 (by rw [← hol2.1]; exact hk2)).1; exact isOb_or w1) (fun hy => by obtain ⟨k2, hk2, e⟩ := gD_mem hy; obtain ⟨w, wb, pr, fn, w1, -⟩ := (hol2.2 k2 (by rw [← hol2.1]; exact hk2)).1; rw [e, hl2.1] at w1; cases w1)) (lw_V q1911 q493 q494 q81 q495) dn_J2_add (RN.of rfl rfl rfl rfl) rfl hl2.1 rfl rfl rfl (Nat.le_of_ble_eq_true rfl) dX12_orders_13 (by omega) (by omega) (fun v9 h hp9 => ?_) (fun E9 q9 h9 hx9 => hx9.elim)
  obtain ⟨rfl, hA⟩ := hp9
  refine AW.hk fun hk8 => ?_
  obtain ⟨ed3, cq3, hA1, hA2, hA3, hA4⟩ := ADD.fresh hsb2 nq hed hA hk8.2.2.1
  obtain ⟨fn9, har9⟩ := hl2.arr
  have hpa3 := hA4 _ _ r9 (fun z => by rw [z, hl2.1] at r9; cases r9) (fun z => by rw [z, har9] at r9; cases r9)
  have hol3 := (show OrL g h _ _ from ⟨hol2.1, fun i hi => ⟨(hol2.2 i hi).1.fr hl2.1 har9 hA4, (hol2.2 i hi).2⟩⟩).add (r10.fr hl2.1 har9 hA4) r3 r7
  obtain ⟨u1, ⟨fu, u2, u3⟩, u4⟩ := hS2
  have hS3 : SB g h sb b cap s := ⟨hA4 _ _ u1 (fun z => by rw [z, hl2.1] at u1; cases u1) (fun z => by rw [z, har9] at u1; cases u1), ⟨fu, hA4 _ _ u2 (fun z => by rw [z, hl2.1] at u2; cases u2) (fun z => by rw [z, har9] at u2; have := Option.some.inj u2; injection this with z; injection z with z1 z2; injection z2 with z3 z4; cases z4), u3⟩, u4⟩
  have hl3 := nm_len r3
  refine a_istore_n cx dX12_orders_16 (Nat.le_of_ble_eq_true rfl) rfl ?_
  have loop : ∀ (j0 k m p : Nat) (os : List OW) (lo : List Nat) (ed cq : Nat) (mq : Int32) (h1 : AH), s.length < p + j0 → os.length = k → 4 * k ≤ p + 1 → s.length < m + p → p ≤ s.length → (prw s (s.length + 1) 0).1 = (conF s (prw s m) p).1 → (prw s (s.length + 1) 0).2.1 = (conF s (prw s m) p).2.1 → ((conF s (prw s m) p).2.1 = false → (prw s (s.length + 1) 0).2.2 = os ++ (conF s (prw s m) p).2.2) → sub hb h1 → h1 pa = some (psE sb (nI p)) → SB g h1 sb b cap s → AL g h1 q ed mq cq lo → OrL g h1 lo os → (ed = gs g 0 ∨ hb ed = none) → AW g M (2 + 210 * k) (10 + 22900 * k) 17 [some (.ref pa), some (.ref q), some (.int 1), none] [] h1 := by
    intro j0
    induction j0 with
    | zero => intro k m p os lo ed cq mq h1 b1 b2 b3 b4 b5; omega
    | succ j0 ih =>
      intro k m p os lo ed cq mq h1 z1 z2 z3 z4 z5 z6 z7 z8 hs1 hpa1 hS1 hl1 hol1 hed
      refine a_aload_n cx dX12_orders_17 rfl ?_
      refine a_get cx fl_X12_15.g dX12_orders_18 hpa1 (by exact rfl) ?_
      refine a_aload_n cx dX12_orders_21 rfl ?_
      refine a_get cx fl_X12_9.g dX12_orders_22 hpa1 (by exact rfl) ?_
      refine c_F cx (j5_length cx.htr hS1.1) (lw_F q1795 q1803 q965 q84 q966) (by decide +kernel) ⟨by decide, by decide, by decide +kernel⟩ (RN.of rfl rfl rfl rfl) rfl hS1.1 rfl rfl rfl (Nat.le_of_ble_eq_true rfl) dX12_orders_25 (by omega) (by omega) (pK ?_) (fun E9 q9 h9 hx9 => hx9.elim)
      refine a_icmp_ge cx (tgt := 54) dX12_orders_30 (by decide) (fun c30 => ?_) (fun c30 => ?_)
      · have d30 : p = s.length := by have := le_nI c30 (by omega) (by omega); omega
        have hcon : conF s (prw s m) p = (p, false, []) := if_neg (by omega)
        rw [hcon] at z6 z7 z8
        have w8 := z8 rfl
        rw [List.append_nil] at w8
        refine a_aload_n cx dX12_orders_54 rfl ?_
        exact a_aret cx hq dX12_orders_55 (Or.inl ⟨_, rfl⟩) ⟨q, ed, mq, cq, lo, rfl, z7, hl1, by rw [w8]; exact hol1, hs1, by rw [w8]; omega⟩ (by omega) (by omega)
      · have d30 : p < s.length := nle_nI c30 (by omega) (by omega)
        refine a_aload_n cx dX12_orders_33 rfl ?_
        refine a_bipush cx (v := 59) dX12_orders_34 (by decide) ?_
        refine a_bipush cx (v := 59) dX12_orders_36 (by decide) ?_
        refine c_V cx (f12_take (p := p) (lo := 59) (hi := 59) cx.htr hpa1 hS1 has_ (by decide) (by omega)) (lw_V q1900 q1902 qs24 q116 q1903) dn_X12_take (RN.of rfl rfl rfl rfl) rfl hpa1 rfl rfl rfl (Nat.le_of_ble_eq_true rfl) dX12_orders_38 (by omega) (by omega) (fun v9 h hp9 => ?_) (fun E9 q9 h9 hx9 => AX.out cx hq hnx (by obtain ⟨x1, x2, x3, x4, x5⟩ := hx9; have hcon : conF s (prw s m) p = (p, true, []) := (by unfold conF; rw [if_pos d30, if_neg (fun y => by rw [inR_eq.mpr y] at x5; cases x5)]); rw [hcon] at z6 z7; exact ⟨x1, z7, by rw [x4]; exact (hs1.set npa).set (hs1.none x2), by rw [x4, z6]; exact hset_s _ _ _, x3⟩) (by omega) (by omega))
        obtain ⟨rfl, rfl, t1, t2⟩ := hp9
        replace t1 : hrs s p = 59 := inR_eq.mp t1
        have hcon : conF s (prw s m) p = prw s m (p + 1) := by unfold conF; rw [if_pos d30, if_pos t1]
        rw [hcon] at z6 z7 z8
        obtain ⟨m', em'⟩ : ∃ m', m = m' + 1 := ⟨m - 1, by omega⟩
        subst em'
        have npq : q ≠ pa := fun z => by rw [← z, hl1.1] at hpa1; cases hpa1
        obtain ⟨h2, eh2⟩ : ∃ z, z = hset h1 pa (psE sb (nI (p + 1))) := ⟨_, rfl⟩
        rw [← eh2]
        have hpa2 : h2 pa = some (psE sb (nI (p + 1))) := by rw [eh2]; exact hset_s _ _ _
        have her : er h2 pa = er h1 pa := by
          rw [eh2]; funext y
          by_cases z : y = pa
          · rw [z, er_a, er_a]
          · rw [er_n z, er_n z, hset_n z]
        have hSe : SB g (er h2 pa) sb b cap s := by rw [her]; exact ⟨er_of hpa1 hS1.1 nofun, ⟨_, er_of hpa1 hS1.2.1.choose_spec.1 nofun, hS1.2.1.choose_spec.2⟩, hS1.2.2⟩
        have hle : AL g (er h2 pa) q ed mq cq lo := by rw [her]; exact hl1.keep (er_n (fun z => by rw [← z, hl1.1] at hpa1; cases hpa1)) (er_n (fun z => by obtain ⟨fn, y⟩ := hl1.arr; rw [← z, y] at hpa1; cases hpa1))
        have hse : sub hb (er h2 pa) := by rw [her]; exact fun x e hx => (er_n (fun z => by rw [z, npa] at hx; cases hx)).trans (hs1 x e hx)
        have hole : OrL g (er h2 pa) lo os := by rw [her]; exact ⟨hol1.1, fun i hi => ⟨(hol1.2 i hi).1.er hpa1, (hol1.2 i hi).2⟩⟩
        have hqB := hle.1
        refine a_istore_n cx dX12_orders_41 (Nat.le_of_ble_eq_true rfl) rfl ?_
        refine a_aload_n cx dX12_orders_42 rfl ?_
        refine a_aload_n cx dX12_orders_43 rfl ?_
        refine c_V cx (f12_order (hb := er h2 pa) (p := p + 1) cx.htr (er_sub _ _) (er_a _ _) hpa2 hSe has_ (by omega) (by omega) (by omega)) (lw_V q1781 q1783 qs21 q116 q1784) dn_X12_order (RN.of rfl rfl rfl rfl) rfl hpa2 rfl rfl rfl (Nat.le_of_ble_eq_true rfl) dX12_orders_44 (by omega) (by omega) (fun v9 h hp9 => ?_) (fun E9 q9 h9 hx9 => AX.out cx hq hnx ⟨hx9.1, by rw [z7, prw_f hx9.2.1], hse.tr hx9.2.2.1, by rw [z6, prw_f hx9.2.1]; exact hx9.2.2.2.2.1, hx9.2.2.2.2.2⟩ (by omega) (by omega))
        obtain ⟨o, rfl, r1, r2, r3, r4, r5, r6, r7, r8, r9, r10, r11⟩ := hp9
        have hl2 := hle.sub r8
        have hS2 := hSe.sub r8
        have hsb2 := hse.tr r8
        have hol2 : OrL g h lo os := ⟨hole.1, fun i hi => ⟨(hole.2 i hi).1.up r8, (hole.2 i hi).2⟩⟩
        have z0 : lo.length = k := hole.1.trans z2
        refine c_V cx (j2_add cx.htr hl2 (by omega) (isOb_or r10.choose_spec.choose_spec.choose_spec.choose_spec.1) (fun z => by have := hqB; rw [← z, r11] at this; cases this) (fun y hy => by obtain ⟨k2, hk2, e⟩ := gD_mem hy; rw [← e]; obtain ⟨w, wb, pr, fn, w1, -⟩ := (hol2.2 k2 (by rw [← hol2.1]; exact hk2)).1; exact isOb_or w1) (fun hy => by obtain ⟨k2, hk2, e⟩ := gD_mem hy; obtain ⟨w, wb, pr, fn, w1, -⟩ := (hol2.2 k2 (by rw [← hol2.1]; exact hk2)).1; rw [e, hl2.1] at w1; cases w1)) (lw_V q1911 q493 q494 q81 q495) dn_J2_add (RN.of rfl rfl rfl rfl) rfl hl2.1 rfl rfl rfl (Nat.le_of_ble_eq_true rfl) dX12_orders_47 (by omega) (by omega) (fun v9 h hp9 => ?_) (fun E9 q9 h9 hx9 => hx9.elim)
        obtain ⟨rfl, hA⟩ := hp9
        refine AW.hk fun hk8 => ?_
        obtain ⟨ed3, cq3, hA1, hA2, hA3, hA4⟩ := ADD.fresh hsb2 nq hed hA hk8.2.2.1
        obtain ⟨fn9, har9⟩ := hl2.arr
        have hpa3 := hA4 _ _ r9 (fun z => by rw [z, hl2.1] at r9; cases r9) (fun z => by rw [z, har9] at r9; cases r9)
        have hol3 := (show OrL g h _ _ from ⟨hol2.1, fun i hi => ⟨(hol2.2 i hi).1.fr hl2.1 har9 hA4, (hol2.2 i hi).2⟩⟩).add (r10.fr hl2.1 har9 hA4) r3 r7
        obtain ⟨u1, ⟨fu, u2, u3⟩, u4⟩ := hS2
        have hS3 : SB g h sb b cap s := ⟨hA4 _ _ u1 (fun z => by rw [z, hl2.1] at u1; cases u1) (fun z => by rw [z, har9] at u1; cases u1), ⟨fu, hA4 _ _ u2 (fun z => by rw [z, hl2.1] at u2; cases u2) (fun z => by rw [z, har9] at u2; have := Option.some.inj u2; injection this with z; injection z with z1 z2; injection z2 with z3 z4; cases z4), u3⟩, u4⟩
        have hl3 := nm_len r3
        refine a_istore_n cx dX12_orders_50 (Nat.le_of_ble_eq_true rfl) rfl ?_
        refine a_goto cx (tgt := 17) dX12_orders_51 (by decide) ?_
        refine AW.widen ?_ ?_ (AW.loc ?_ (ih (k + 1) m' (orw s (p + 1)).1 _ _ ed3 cq3 _ _ (by omega) (by rw [List.length_append, z2]; rfl) (by omega) (by omega) (r6 (by omega)) (by rw [z6, prw_t r1]) (by rw [z7, prw_t r1]) (fun y => by rw [z8 (by rw [prw_t r1]; exact y), prw_t r1, List.append_assoc]; rfl) hA2 hpa3 hS3 hA1 hol3 hA3))
        · omega
        · omega
        · exact ⟨rfl, rfl, rfl, trivial⟩
  exact AW.widen (by omega) (by omega) (AW.loc (show lle [some (.ref pa), some (.ref q), some (.int 1), none] _ from ⟨rfl, rfl, rfl, trivial⟩) (loop (s.length + 1) 1 s.length (orw s 0).1 _ _ ed3 cq3 _ _ (by omega) rfl (by omega) (by omega) (r6 (Nat.zero_le _)) (by rw [prw_t r1]) (by rw [prw_t r1]) (fun _ => by rw [prw_t r1]; rfl) hA2 hpa3 hS3 hA1 hol3 hA3))
