set_option maxRecDepth 100000
theorem zup_zup (h : ZH) (a : Nat) (x y : Nat × ZE) : zup (zup h a x) a y = zup h a y := by
  funext b
  by_cases hb : b = a <;> simp [zup, hb]
def zma (m : Nat → Option (Nat × Value)) (k q : Nat) (w : Value) : Nat → Option (Nat × Value) := fun j => if j = k then some (q, w) else m j
def zCa (C : Nat → List Nat) (b k : Nat) : Nat → List Nat := fun i => if i = b then C i ++ [k] else C i
theorem zma_k {m : Nat → Option (Nat × Value)} {k q : Nat} {w : Value} : zma m k q w k = some (q, w) := if_pos rfl
theorem zma_n {m : Nat → Option (Nat × Value)} {k q j : Nat} {w : Value} (h : j ≠ k) : zma m k q w j = m j := if_neg h
theorem zKO.no {N k : Nat} {C : Nat → List Nat} {m : Nat → Option (Nat × Value)} (H : zKO N C m) (hm : m k = none) : ∀ b, k ∉ C b := fun b hb => by
  have := (H.1 b k hb).2.2.2
  rw [hm] at this; cases this
theorem zKO.add {N k q : Nat} {C : Nat → List Nat} {m : Nat → Option (Nat × Value)} {w : Value} (H : zKO N C m) (hk : k < 64) (hN : 0 < N) (hm : m k = none) : zKO N (zCa C (k % N) k) (zma m k q w) := by
  have hno := H.no hm
  refine ⟨fun b j hj => ?_, fun b => ?_, fun j hj => ?_⟩
  · have key : j ∈ C b → b < N ∧ j < 64 ∧ j % N = b ∧ (zma m k q w j).isSome = true := fun h1 => by
      have h2 := H.1 _ j h1
      have hne : j ≠ k := fun z => hno b (z ▸ h1)
      exact ⟨h2.1, h2.2.1, h2.2.2.1, by rw [zma_n hne]; exact h2.2.2.2⟩
    unfold zCa at hj
    split at hj
    · rename_i e
      rcases List.mem_append.mp hj with h1 | h1
      · exact key h1
      · have : j = k := by simpa using h1
        subst this
        exact ⟨by rw [e]; exact Nat.mod_lt _ hN, hk, e.symm, by rw [zma_k]; rfl⟩
    · exact key hj
  · unfold zCa
    split
    · exact List.nodup_append.mpr ⟨H.2.1 _, by simp, fun x hx y hy => by have : y = k := by simpa using hy
                                                                         subst this; exact fun z => hno _ (z ▸ hx)⟩
    · exact H.2.1 _
  · by_cases e : j = k
    · subst e; exact ⟨hk, by unfold zCa; rw [if_pos rfl]; simp⟩
    · have := H.2.2 j (by rwa [zma_n e] at hj)
      refine ⟨this.1, ?_⟩
      unfold zCa
      split
      · exact List.mem_append_left _ this.2
      · exact this.2
theorem zKO.eqs {N : Nat} {C : Nat → List Nat} {m m1 : Nat → Option (Nat × Value)} (H : zKO N C m) (he : ∀ j, (m1 j).isSome = (m j).isSome) : zKO N C m1 :=
  ⟨fun b k hk => by rw [he]; exact H.1 b k hk, H.2.1, fun k hk => H.2.2 k (by rw [← he]; exact hk)⟩
theorem zma_is {m : Nat → Option (Nat × Value)} {k q : Nat} {w : Value} {x : Nat × Value} (hm : m k = some x) : ∀ j, (zma m k q w j).isSome = (m j).isSome := fun j => by
  by_cases e : j = k
  · subst e; rw [zma_k, hm]; rfl
  · rw [zma_n e]
theorem zct.add {G : ZG} {h : ZH} {t k q : Nat} {m : Nat → Option (Nat × Value)} {L : List Nat} {v e w : Value} (H : zct G h t m L v e) (hk : k ∉ L) : zct G h t (zma m k q w) L v e :=
  zct.mono L v e H (fun j hj q' w' nx g1 g2 => ⟨(zma_n (fun (z : j = k) => hk (by rw [← z]; exact hj))).trans g1, rfl⟩)
theorem zHM.node {G : ZG} {h : ZH} {t a N k q : Nat} {C : Nat → List Nat} {m : Nat → Option (Nat × Value)} {mc : Int32} {w : Value} (H : zHM G h t a N C m mc) (hm : m k = some (q, w)) : k < 64 ∧ zref w ∧ ∃ nx, zref nx ∧ h q = znd G t k w nx := by
  obtain ⟨vs, es, tab, thr, e1, e2, e3, e4, e5⟩ := H
  obtain ⟨hk, hin⟩ := e5.2.2 k (by rw [hm]; rfl)
  refine ⟨hk, ?_⟩
  rcases e4 with ⟨hN0, -⟩ | ⟨T, g, hN, -, -, -, e6⟩
  · subst hN0; exact absurd (e5.1 _ k hin).1 (Nat.not_lt_zero _)
  · have hc := e6 (k % N) (e5.1 _ k hin).1
    obtain ⟨L1, L2, hL⟩ := List.append_of_mem hin
    rw [hL] at hc
    obtain ⟨x, -, q9, w9, nx, g1, g2, g3, g4, g5⟩ := (zct.app L1 (k :: L2) _ _).mp hc
    cases hm.symm.trans g2
    exact ⟨g3, nx, g5.zref zref.nul, g4⟩
theorem zHM.set {G : ZG} {h h1 : ZH} {t a N k q : Nat} {C : Nat → List Nat} {m : Nat → Option (Nat × Value)} {mc : Int32} {w w0 nx : Value} (H : zHM G h t a N C m mc) (hm : m k = some (q, w0)) (hq : h q = znd G t k w0 nx) (hw : zref w) (e1 : h1 = zup h q (znd G t k w nx)) : zHM G h1 t a N C (zma m k q w) mc := by
  have hk := (H.node hm).1
  obtain ⟨vs, es, tab, thr, i1, i2, i3, i4, i5⟩ := H
  refine ⟨vs, es, tab, thr, ?_, i2.up e1 hq (by simp [znd]), i3.up e1 hq (by simp [znd]), ?_, i5.eqs (zma_is hm)⟩
  · rw [zcnt_eq 64 (fun j _ => zma_is hm j)]
    exact zup_oa e1 i1 (fun z => by rw [z, hq] at i1; simp [znd] at i1)
  · rcases i4 with z | ⟨T, g, hN, j1, j2, j3, j4⟩
    · exact Or.inl z
    · exact Or.inr ⟨T, g, hN, j1, j2, zup_oa e1 j3 (fun z => by rw [z, hq] at j3; simp [znd] at j3), fun b hb => zct.val hm hq (fun j => rfl) hw e1 _ _ _ (fun j hj => (i5.1 b j hj).2.1) hk (j4 b hb)⟩
theorem zct_tail {G : ZG} {h1 hN h2 : ZH} {t k q kp p : Nat} {m : Nat → Option (Nat × Value)} {L1 : List Nat} {v w wp : Value} (H : zct G h1 t m (L1 ++ [kp]) v .null) (hk : k ∉ L1 ++ [kp]) (hnd : (L1 ++ [kp]).Nodup) (hlt : ∀ j ∈ L1 ++ [kp], j < 64) (hm : m kp = some (p, wp)) (hw : zref w) (ht : t ≠ 0) (hp : (h1 p).1 = t) (E1 : hN = zup h1 q (znd G t k w .null)) (hq0 : (h1 q).1 = 0) (E2 : h2 = zup hN p (znd G t kp wp (.ref q))) : zct G h2 t (zma m k q w) (L1 ++ [kp] ++ [k]) v .null := by
  have c1 := H.up0 ht E1 hq0
  obtain ⟨n1, n2, n3⟩ := List.nodup_append.mp hnd
  have c2 := zct.link c1 (fun z => n3 kp z kp (by simp) rfl) hlt hm E2
  have hpq : q ≠ p := fun z => by rw [z, hp] at hq0; exact ht hq0
  exact (zct.app _ _ _ _).mpr ⟨_, c2.add hk, q, w, .null, rfl, zma_k, hw, by rw [E2, zup_n hpq, E1, zup_s], rfl⟩
/-- the map while a node is put in: the size still as it was -/
def zHMp (G : ZG) (h : ZH) (t a N : Nat) (C1 : Nat → List Nat) (m m1 : Nat → Option (Nat × Value)) (mc : Int32) (T : Nat) (g : Nat → Value) : Prop :=
  ∃ (vs es : Value), h a = (t, .inr (11, [.null, vs, .ref T, es, .int (nI (zcnt m 64)), .int mc, .int (nI (3 * N / 4)), .float 1061158912])) ∧ zvw h t a 18 vs ∧ zvw h t a 16 es ∧ h T = (t, .inl (6, N, g)) ∧ (∀ b, b < N → zct G h t m1 (C1 b) (g b) .null) ∧ zKO N C1 m1 ∧ zNs N
set_option maxHeartbeats 2000000 in
theorem c_J17_init {l : Launch} {G : ZG} {h : ZH} {q t k : Nat} {w nx : Value} (hq : h q = (t, .inr (13, [.int 0, .null, .null, .null]))) (ht : 1 < t) (hw : zref w) (hnx : zref nx) : ZM l G yJ17_init (ws_ yJ17_init cJ17_init 5 (Option.none : Option FieldType)) (zRm 1 0 0 12) [.ref q, .int (nI k), .ref (zS G (228 + k)), w, nx] h (fun v h' => v = none ∧ h' = zup h q (znd G t k w nx)) := by
  refine ZT.zm (ZT.of (by first | exact plainFor_of_name (by decide) | decide +kernel) (Nat.le_of_ble_eq_true rfl) (zcats.r zref.r (zcats.i (zcats.r zref.r (zcats.r hw (zcats.r hnx zcats.nil))))) ?_)
  intro p_ e_ s_ m_ args_ below_ meth_ c_ X hr hlk hin htab
  have X : ZX p_ m_ c_ cJ17_init 5 s_ args_ "java/util/HashMap$Node" G := X
  refine z_lv (lv' := [(0, .ref q), (1, .int (nI k)), (2, .ref (zS G (228 + k))), (3, w), (4, nx)]) (fun _ hq => hq) ?_
  refine z_aload_n X 0 dJ17_init_0 zref.r rfl ?_
  refine z_objInit X q815 q95 q96 dJ17_init_1 (by first | exact Nat.le_of_ble_eq_true rfl | (dsimp only [zRm]; omega)) (by first | exact Nat.le_of_ble_eq_true rfl | (dsimp only [zRm]; omega)) ?_
  refine z_aload_n X 0 dJ17_init_4 zref.r rfl ?_
  refine z_iload_n X 1 dJ17_init_5 rfl ?_
  refine z_putF X zP13 0 (by decide) q816 (Or.inl rfl) rfl hin rfl hq (by omega) (by omega) (zfits.i _) (Nat.le_of_ble_eq_true rfl) rfl dJ17_init_6 ?_
  refine z_nm fun h1 e2 => ?_
  have f3 : h1 q = (t, .inr (13, [.int (nI k), .null, .null, .null])) := zup_is e2
  refine z_aload_n X 0 dJ17_init_9 zref.r rfl ?_
  refine z_aload_n X 2 dJ17_init_10 zref.r rfl ?_
  refine z_putF X zP13 1 (by decide) q820 (Or.inl rfl) rfl hin rfl f3 (by omega) (by omega) (zfits.o zref.r) (Nat.le_of_ble_eq_true rfl) rfl dJ17_init_11 ?_
  refine z_nm fun h4 e5 => ?_
  have f6 : h4 q = (t, .inr (13, [.int (nI k), .ref (zS G (228 + k)), .null, .null])) := zup_is e5
  refine z_aload_n X 0 dJ17_init_14 zref.r rfl ?_
  refine z_aload_n X 3 dJ17_init_15 hw rfl ?_
  refine z_put X zP13 2 (by decide) q824 (Or.inl rfl) rfl f6 (by omega) (by omega) (zfits.o hw) (Nat.le_of_ble_eq_true rfl) rfl dJ17_init_16 ?_
  refine z_nm fun h7 e8 => ?_
  have f9 : h7 q = (t, .inr (13, [.int (nI k), .ref (zS G (228 + k)), w, .null])) := zup_is e8
  refine z_aload_n X 0 dJ17_init_19 zref.r rfl ?_
  refine z_aload X 4 dJ17_init_20 hnx rfl ?_
  refine z_put X zP13 3 (by decide) q827 (Or.inl rfl) rfl f9 (by omega) (by omega) (zfits.o hnx) (Nat.le_of_ble_eq_true rfl) rfl dJ17_init_22 ?_
  refine z_nm fun h10 e11 => ?_
  have f12 : h10 q = (t, .inr (13, [.int (nI k), .ref (zS G (228 + k)), w, nx])) := zup_is e11
  exact z_vret X hr hlk dJ17_init_25 (by first | exact Nat.le_of_ble_eq_true rfl | (dsimp only [zRm]; omega) | omega) (by first | exact Nat.le_of_ble_eq_true rfl | (dsimp only [zRm]; omega) | omega) ⟨rfl, by rw [e11, e8, zup_zup, e5, zup_zup, e2, zup_zup]; rfl⟩
set_option maxHeartbeats 2000000 in
theorem c_J9_newNode {l : Launch} {G : ZG} {h : ZH} (t : Nat) {a k : Nat} {w nx : Value} (ht : 1 < t) (hw : zref w) (hnx : zref nx) : ZM l G yJ9_newNode (ws_ yJ9_newNode cJ9_newNode 5 (Option.some (FieldType.object "java/util/HashMap$Node"))) (zRm 2 1 4 40) [.ref a, .int (nI k), .ref (zS G (228 + k)), w, nx] h (fun v h' => ∃ q : Nat, v = some (.ref q) ∧ (h q).1 = 0 ∧ h' = zup h q (znd G t k w nx)) := by
  refine ZT.zm (ZT.of (by first | exact plainFor_of_name (by decide) | decide +kernel) (Nat.le_of_ble_eq_true rfl) (zcats.r zref.r (zcats.i (zcats.r zref.r (zcats.r hw (zcats.r hnx zcats.nil))))) ?_)
  intro p_ e_ s_ m_ args_ below_ meth_ c_ X hr hlk hin htab
  have X : ZX p_ m_ c_ cJ9_newNode 5 s_ args_ "java/util/HashMap" G := X
  refine z_lv (lv' := [(0, .ref a), (1, .int (nI k)), (2, .ref (zS G (228 + k))), (3, w), (4, nx)]) (fun _ hq => hq) ?_
  refine z_new X zP13 t (by omega) (fs := [.int 0, .null, .null, .null]) (by intro j hj; rcases j with _ | _ | _ | _ | _ <;> first | rfl | omega) q796 q811 q76 (by first | exact Nat.le_of_ble_eq_true rfl | (dsimp only [zRm]; omega)) (by first | exact Nat.le_of_ble_eq_true rfl | (dsimp only [zRm]; omega)) dJ9_newNode_0 fun q n13 => ?_
  refine z_nm fun h14 e15 => ?_
  have f16 : h14 q = (t, .inr (13, [.int 0, .null, .null, .null])) := zup_is e15
  refine z_dup X dJ9_newNode_3 rfl ?_
  refine z_iload_n X 1 dJ9_newNode_4 rfl ?_
  refine z_aload_n X 2 dJ9_newNode_5 zref.r rfl ?_
  refine z_aload_n X 3 dJ9_newNode_6 hw rfl ?_
  refine z_aload X 4 dJ9_newNode_7 hnx rfl ?_
  refine z_callI X (rest := [.ref q]) (c_J17_init f16 ht hw hnx) (cwI 4 (zXts X) (lw_meth q814) rfl rfl rfl (zXts X _ q76) (zXts X _ q812) (zXts X _ q813) rfl (by decide +kernel) ⟨Nat.le_of_ble_eq_true rfl, Nat.le_of_ble_eq_true rfl⟩) rfl (Nat.le_of_ble_eq_true rfl) ⟨(by first | exact Nat.le_of_ble_eq_true rfl | (dsimp only [zRm]; omega)), (by first | exact Nat.le_of_ble_eq_true rfl | (dsimp only [zRm]; omega))⟩ dJ9_newNode_9 (fun v17 h18 p19 => ?_)
  obtain ⟨rfl, E2⟩ := p19
  refine z_st (st' := [.ref q]) rfl ?_
  exact z_aret X hr (by first | exact Or.inl ⟨_, rfl⟩ | exact Or.inr ⟨_, rfl⟩) hlk zref.r dJ9_newNode_12 (by first | exact Nat.le_of_ble_eq_true rfl | (dsimp only [zRm]; omega) | omega) (by first | exact Nat.le_of_ble_eq_true rfl | (dsimp only [zRm]; omega) | omega) ⟨q, rfl, n13, by rw [E2, e15, zup_zup]⟩
set_option maxHeartbeats 2000000 in
theorem c_J9_afterNodeAccess {l : Launch} {G : ZG} {h : ZH} {a b : Nat}  : ZM l G yJ9_afterNodeAccess (ws_ yJ9_afterNodeAccess cJ9_afterNodeAccess 2 (Option.none : Option FieldType)) (zRm 0 0 0 0) [.ref a, .ref b] h (fun v h' => v = none ∧ h = h') := by
  refine ZT.zm (ZT.of (by first | exact plainFor_of_name (by decide) | decide +kernel) (Nat.le_of_ble_eq_true rfl) (zcats.r zref.r (zcats.r zref.r zcats.nil)) ?_)
  intro p_ e_ s_ m_ args_ below_ meth_ c_ X hr hlk hin htab
  have X : ZX p_ m_ c_ cJ9_afterNodeAccess 2 s_ args_ "java/util/HashMap" G := X
  refine z_lv (lv' := [(0, .ref a), (1, .ref b)]) (fun _ hq => hq) ?_
  exact z_vret X hr hlk dJ9_afterNodeAccess_0 (by first | exact Nat.le_of_ble_eq_true rfl | (dsimp only [zRm]; omega) | omega) (by first | exact Nat.le_of_ble_eq_true rfl | (dsimp only [zRm]; omega) | omega) ⟨rfl, rfl⟩
set_option maxHeartbeats 2000000 in
theorem c_J9_afterNodeInsertion {l : Launch} {G : ZG} {h : ZH} {a : Nat}  : ZM l G yJ9_afterNodeInsertion (ws_ yJ9_afterNodeInsertion cJ9_afterNodeInsertion 2 (Option.none : Option FieldType)) (zRm 0 0 0 0) [.ref a, .int (nI 1)] h (fun v h' => v = none ∧ h = h') := by
  refine ZT.zm (ZT.of (by first | exact plainFor_of_name (by decide) | decide +kernel) (Nat.le_of_ble_eq_true rfl) (zcats.r zref.r (zcats.i zcats.nil)) ?_)
  intro p_ e_ s_ m_ args_ below_ meth_ c_ X hr hlk hin htab
  have X : ZX p_ m_ c_ cJ9_afterNodeInsertion 2 s_ args_ "java/util/HashMap" G := X
  refine z_lv (lv' := [(0, .ref a), (1, .int (nI 1))]) (fun _ hq => hq) ?_
  exact z_vret X hr hlk dJ9_afterNodeInsertion_0 (by first | exact Nat.le_of_ble_eq_true rfl | (dsimp only [zRm]; omega) | omega) (by first | exact Nat.le_of_ble_eq_true rfl | (dsimp only [zRm]; omega) | omega) ⟨rfl, rfl⟩
set_option maxHeartbeats 8000000 in
theorem c_J9_putVal_new {l : Launch} {G : ZG} {h : ZH} {a t N k : Nat} {C : Nat → List Nat} {m : Nat → Option (Nat × Value)} {mc : Int32} {w : Value} (hM : zHM G h t a N C m mc) (ht : 1 < t) (hk : k < 64) (hm : m k = none) (hw : zref w) : ZM l G yJ9_putVal (ws_ yJ9_putVal cJ9_putVal 13 (Option.some (FieldType.object "java/lang/Object"))) (zRm 4 3 150 120) [.ref a, .int (nI k), .ref (zS G (228 + k)), w, .int (nI 0), .int (nI 1)] h (fun v h' => ∃ (N' q : Nat) (C' : Nat → List Nat) (mc' : Int32), v = some .null ∧ zHM G h' t a N' C' (zma m k q w) mc' ∧ zOn (fun t' => t' = t) h h') := by
  refine ZT.zm (ZT.of (by first | exact plainFor_of_name (by decide) | decide +kernel) (Nat.le_of_ble_eq_true rfl) (zcats.r zref.r (zcats.i (zcats.r zref.r (zcats.r hw (zcats.i (zcats.i zcats.nil)))))) ?_)
  intro p_ e_ s_ m_ args_ below_ meth_ c_ X hr hlk hin htab
  have X : ZX p_ m_ c_ cJ9_putVal 13 s_ args_ "java/util/HashMap" G := X
  refine z_lv (lv' := [(0, .ref a), (1, .int (nI k)), (2, .ref (zS G (228 + k))), (3, w), (4, .int (nI 0)), (5, .int (nI 1))]) (fun _ hq => hq) ?_
  have rest : ∀ (h1 : ZH) (N1 T : Nat) (C1 : Nat → List Nat) (g : Nat → Value), zHMt G h1 t a N1 C1 m mc T g → zOn (fun t' => t' = t) h h1 → Zw p_ l e_ (zRm 4 3 150 120) s_ m_ args_ below_ meth_ c_ G 13 (zEnd G (zRm 4 3 150 120) (fun v h' => ∃ (N' q : Nat) (C' : Nat → List Nat) (mc' : Int32), v = some .null ∧ zHM G h' t a N' C' (zma m k q w) mc' ∧ zOn (fun t' => t' = t) h h') (fun _ _ _ => False) below_ args_ s_) 29 [(0, .ref a), (1, .int (nI k)), (2, .ref (zS G (228 + k))), (3, w), (5, .int (nI 1)), (6, .ref T), (8, .int (nI N1))] [] h1 1 16 := by
    intro h1 N1 T C1 g M1 O1
    obtain ⟨vs, es, i1, i2, i3, i4, i5, i6, i7⟩ := M1
    have hNb := i7.lt
    have hbl : k % N1 < N1 := Nat.mod_lt _ (by omega)
    have hch := i5 (k % N1) hbl
    have hno := i6.no hm
    have fin : ∀ (h2 : ZH) (q : Nat) (g2 : Nat → Value), zHMp G h2 t a N1 (zCa C1 (k % N1) k) m (zma m k q w) mc T g2 → zOn (fun t' => t' = t) h h2 → Zw p_ l e_ (zRm 4 3 150 120) s_ m_ args_ below_ meth_ c_ G 13 (zEnd G (zRm 4 3 150 120) (fun v h' => ∃ (N' q : Nat) (C' : Nat → List Nat) (mc' : Int32), v = some .null ∧ zHM G h' t a N' C' (zma m k q w) mc' ∧ zOn (fun t' => t' = t) h h') (fun _ _ _ => False) below_ args_ s_) 259 [(0, .ref a), (5, .int (nI 1))] [] h2 2 20 := by
      clear hM i1 i2 i3 i4 i5 hch
      intro h2 q g2 P2 O2
      obtain ⟨vs, es, j1, j2, j3, j4, j5, j6, j7⟩ := P2
      have hvs := j2.zref
      have hes := j3.zref
      have hc64 : zcnt (zma m k q w) 64 = zcnt m 64 + 1 := zcnt_new (k0 := k) (by rw [hm]; rfl) (by rw [zma_k]; rfl) (fun j hj => by rw [zma_n hj]) 64 hk
      have hle := zcnt_le (zma m k q w) 64
      have hle0 := zcnt_le m 64
      refine z_aload_n X 0 dJ9_putVal_259 zref.r rfl ?_
      refine z_dup X dJ9_putVal_260 rfl ?_
      refine z_get X zP11 5 (by decide) q298 (Or.inl rfl) j1 (by omega) rfl dJ9_putVal_261 ?_
      refine z_iconst X (nI 1) dJ9_putVal_264 (by decide) ?_
      refine z_iadd X (mc + (nI 1)) dJ9_putVal_265 rfl ?_
      refine z_put X zP11 5 (by decide) q298 (Or.inl rfl) rfl j1 (by omega) (by omega) (zfits.i _) (Nat.le_of_ble_eq_true rfl) rfl dJ9_putVal_266 ?_
      refine z_nm fun h20 e21 => ?_
      have o22 := zOn.up O2 e21 j1 (by first | exact rfl | omega | simp)
      have f23 : h20 T = (t, .inl (6, N1, g2)) := zup_oa e21 j4 (by intro z9; rw [z9, j1] at j4; cases j4)
      have f24 : h20 a = (t, .inr (11, [.null, vs, .ref T, es, .int (nI (zcnt m 64)), .int (mc + (nI 1)), .int (nI (3 * N1 / 4)), .float 1061158912])) := zup_is e21
      refine z_aload_n X 0 dJ9_putVal_269 zref.r rfl ?_
      refine z_dup X dJ9_putVal_270 rfl ?_
      refine z_get X zP11 4 (by decide) q296 (Or.inl rfl) f24 (by omega) rfl dJ9_putVal_271 ?_
      refine z_iconst X (nI 1) dJ9_putVal_274 (by decide) ?_
      refine z_iadd X (nI ((zcnt m 64) + 1)) dJ9_putVal_275 (nI_add _ _) ?_
      refine z_dup_x1 X dJ9_putVal_276 rfl rfl ?_
      refine z_put X zP11 4 (by decide) q296 (Or.inl rfl) rfl f24 (by omega) (by omega) (zfits.i _) (Nat.le_of_ble_eq_true rfl) rfl dJ9_putVal_277 ?_
      refine z_nm fun h25 e26 => ?_
      have o27 := zOn.up o22 e26 f24 (by first | exact rfl | omega | simp)
      have f28 : h25 T = (t, .inl (6, N1, g2)) := zup_oa e26 f23 (by intro z9; rw [z9, j1] at j4; cases j4)
      have f29 : h25 a = (t, .inr (11, [.null, vs, .ref T, es, .int (nI ((zcnt m 64) + 1)), .int (mc + (nI 1)), .int (nI (3 * N1 / 4)), .float 1061158912])) := zup_is e26
      refine z_aload_n X 0 dJ9_putVal_280 zref.r rfl ?_
      refine z_get X zP11 6 (by decide) q299 (Or.inl rfl) f29 (by omega) rfl dJ9_putVal_281 ?_
      have M3 : zHMt G h25 t a N1 (zCa C1 (k % N1) k) (zma m k q w) (mc + 1) T g2 := ⟨vs, es, by rw [hc64]; exact f29, (j2.up e21 j1 (by simp)).up e26 f24 (by simp), (j3.up e21 j1 (by simp)).up e26 f24 (by simp), f28, fun b hb => ((j5 b hb).up e21 j1 (by simp [znd])).up e26 f24 (by simp [znd]), j6, j7⟩
      refine z_icmp_leN X ((zcnt m 64) + 1) (3 * N1 / 4) 292 dJ9_putVal_284 (by decide) rfl rfl (by omega) (by omega) (fun c30 => ?_) (fun c30 => ?_)
      · refine z_aload_n X 0 dJ9_putVal_292 zref.r rfl ?_
        refine z_iload X 1 dJ9_putVal_293 rfl ?_
        refine z_callV X (rest := []) c_J9_afterNodeInsertion (cwV 1 (zXts X) (lw_V q919 q920 q921 q62 q922) rfl rfl rfl (by decide +kernel) ⟨Nat.le_of_ble_eq_true rfl, Nat.le_of_ble_eq_true rfl⟩) f29 (by omega) rfl rfl (Nat.le_of_ble_eq_true rfl) ⟨(by first | exact Nat.le_of_ble_eq_true rfl | (dsimp only [zRm]; omega)), (by first | exact Nat.le_of_ble_eq_true rfl | (dsimp only [zRm]; omega))⟩ dJ9_putVal_295 (fun v31 h32 p33 => ?_)
        obtain ⟨rfl, rfl⟩ := p33
        refine z_st (st' := []) rfl ?_
        refine z_null X dJ9_putVal_298 ?_
        exact z_aret X hr (by first | exact Or.inl ⟨_, rfl⟩ | exact Or.inr ⟨_, rfl⟩) hlk zref.nul dJ9_putVal_299 (by first | exact Nat.le_of_ble_eq_true rfl | (dsimp only [zRm]; omega) | omega) (by first | exact Nat.le_of_ble_eq_true rfl | (dsimp only [zRm]; omega) | omega) ⟨N1, q, _, _, rfl, M3.hm, o27⟩
      · have hN3 : N1 = 16 ∨ N1 = 32 ∨ N1 = 64 := by rcases j7 with z | z | z | z <;> omega
        refine z_aload_n X 0 dJ9_putVal_287 zref.r rfl ?_
        refine z_callV X (rest := []) (c_J9_resize_2 M3 ht hN3) (cwV 0 (zXts X) (lw_V q789 q790 q791 q62 q792) rfl rfl rfl (by decide +kernel) ⟨Nat.le_of_ble_eq_true rfl, Nat.le_of_ble_eq_true rfl⟩) f29 (by omega) rfl rfl (Nat.le_of_ble_eq_true rfl) ⟨(by first | exact Nat.le_of_ble_eq_true rfl | (dsimp only [zRm]; omega)), (by first | exact Nat.le_of_ble_eq_true rfl | (dsimp only [zRm]; omega))⟩ dJ9_putVal_288 (fun v34 h35 p36 => ?_)
        obtain ⟨T1, g1, rfl, M4, O4⟩ := p36
        refine z_st (st' := [.ref T1]) rfl ?_
        refine z_pop X dJ9_putVal_291 rfl ?_
        refine z_aload_n X 0 dJ9_putVal_292 zref.r rfl ?_
        refine z_iload X 1 dJ9_putVal_293 rfl ?_
        obtain ⟨_, r37⟩ := zHM.rc M4.hm
        refine z_callV X (rest := []) c_J9_afterNodeInsertion (cwV 1 (zXts X) (lw_V q919 q920 q921 q62 q922) rfl rfl rfl (by decide +kernel) ⟨Nat.le_of_ble_eq_true rfl, Nat.le_of_ble_eq_true rfl⟩) r37 (by omega) rfl rfl (Nat.le_of_ble_eq_true rfl) ⟨(by first | exact Nat.le_of_ble_eq_true rfl | (dsimp only [zRm]; omega)), (by first | exact Nat.le_of_ble_eq_true rfl | (dsimp only [zRm]; omega))⟩ dJ9_putVal_295 (fun v38 h39 p40 => ?_)
        obtain ⟨rfl, rfl⟩ := p40
        refine z_st (st' := []) rfl ?_
        refine z_null X dJ9_putVal_298 ?_
        exact z_aret X hr (by first | exact Or.inl ⟨_, rfl⟩ | exact Or.inr ⟨_, rfl⟩) hlk zref.nul dJ9_putVal_299 (by first | exact Nat.le_of_ble_eq_true rfl | (dsimp only [zRm]; omega) | omega) (by first | exact Nat.le_of_ble_eq_true rfl | (dsimp only [zRm]; omega) | omega) ⟨_, q, _, _, rfl, M4.hm, o27.trans O4⟩
    refine z_aload X 5 dJ9_putVal_29 zref.r rfl ?_
    refine z_iload X 6 dJ9_putVal_31 rfl ?_
    refine z_iconst X (nI 1) dJ9_putVal_33 (by decide) ?_
    refine z_isub X (nI (N1 - 1)) dJ9_putVal_34 (pk_sub (by omega)) ?_
    refine z_iload_n X 1 dJ9_putVal_35 rfl ?_
    refine z_iand X ((nI (N1 - 1)) &&& (nI k)) dJ9_putVal_36 rfl ?_
    refine z_st (st' := [.int (nI (k % N1)), .ref T]) (by rw [zix_k i7 k hk]) ?_
    refine z_dup X dJ9_putVal_37 rfl ?_
    refine z_istore X (lv' := [(9, .int (nI (k % N1))), (0, .ref a), (1, .int (nI k)), (2, .ref (zS G (228 + k))), (3, w), (5, .int (nI 1)), (6, .ref T), (8, .int (nI N1))]) dJ9_putVal_38 (by decide) rfl ?_
    refine z_aald X (v := g (k % N1)) (k % N1) i4 (ty := .object "java/util/HashMap$Node") rfl rfl (by omega) rfl hbl (by first | decide | omega) rfl dJ9_putVal_40 ?_
    refine z_dup X dJ9_putVal_41 (((hch.zref zref.nul)).cat) ?_
    refine z_astore X (lv' := [(7, g (k % N1)), (9, .int (nI (k % N1))), (0, .ref a), (1, .int (nI k)), (2, .ref (zS G (228 + k))), (3, w), (5, .int (nI 1)), (6, .ref T), (8, .int (nI N1))]) dJ9_putVal_42 (hch.zref zref.nul) (by decide) rfl ?_
    refine z_ifnonnull X 63 dJ9_putVal_44 (by decide) (hch.zref zref.nul) (fun a42 c41 => ?_) (fun c41 => ?_)
    · rw [c41] at hch
      refine z_lv (lv' := [(7, .ref a42), (9, .int (nI (k % N1))), (0, .ref a), (1, .int (nI k)), (2, .ref (zS G (228 + k))), (3, w), (5, .int (nI 1)), (6, .ref T), (8, .int (nI N1))]) (by intro x9 h9; rw [c41]; exact h9) ?_
      obtain ⟨k7, L7, hL, w7, nx7, g1, g2, g3, g4⟩ := id hch.ref
      have hk7 : k7 < 64 := (i6.1 _ k7 (by rw [hL]; simp)).2.1
      have hne7 : k7 ≠ k := fun z => hno (k % N1) (by rw [hL, z]; simp)
      refine z_aload X 0 dJ9_putVal_63 zref.r rfl ?_
      refine z_get X zP13 0 (by decide) q819 (Or.inl rfl) g3 (by omega) rfl dJ9_putVal_65 ?_
      refine z_iload_n X 3 dJ9_putVal_68 rfl ?_
      refine z_icmp_neN X k7 k 104 dJ9_putVal_69 (by decide) rfl rfl (by omega) (by omega) (fun c43 => ?_) (fun c43 => ?_)
      rotate_left
      · exact absurd c43 hne7
      refine z_aload X 0 dJ9_putVal_104 zref.r rfl ?_
      refine z_instNo X g3 (by omega) rfl q718 X.2.1.2.2.2.2.2.2.2.2.2.2.1 dJ9_putVal_106 ?_
      refine z_if_eq X 131 dJ9_putVal_109 (by decide) (fun c44 => ?_) (fun c44 => ?_)
      rotate_left
      · exact absurd rfl c44
      refine z_iconst X (nI 0) dJ9_putVal_131 (by decide) ?_
      refine z_istore X (lv' := [(12, .int (nI 0)), (7, .ref a42), (9, .int (nI (k % N1))), (0, .ref a), (1, .int (nI k)), (2, .ref (zS G (228 + k))), (3, w), (5, .int (nI 1)), (6, .ref T), (8, .int (nI N1))]) dJ9_putVal_132 (by decide) rfl ?_
      clear g1 g2 g3 g4 hne7 hk7
      refine z_lvp (lv' := [(0, .ref a), (1, .int (nI k)), (2, .ref (zS G (228 + k))), (3, w), (5, .int (nI 1)), (7, .ref a42), (12, .int (nI 0))]) [3, 4, 5, 6, 7, 1, 0] rfl ?_
      refine z_loop (σ := List Nat × List Nat × Nat) (fun x => C1 (k % N1) = x.1 ++ x.2.1 ∧ x.2.1 ≠ [] ∧ zct G h1 t m x.1 (g (k % N1)) (.ref x.2.2) ∧ zct G h1 t m x.2.1 (.ref x.2.2) .null) (fun x => x.2.1.length) (fun x => [(0, .ref a), (1, .int (nI k)), (2, .ref (zS G (228 + k))), (3, w), (5, .int (nI 1)), (7, .ref x.2.2), (12, .int (nI x.1.length))]) (fun x => []) (fun x => h1) (fun x => 1) (fun x => 16) ?_ ([], C1 (k % N1), a42) (⟨rfl, by rw [hL]; simp, c41, hch⟩)
      intro ⟨Pk, S, p⟩ hI ih
      try dsimp only at hI
      try dsimp only at ih
      try dsimp only
      clear hch hL
      obtain ⟨u1, u2, u3, u4⟩ := hI
      obtain ⟨kp, L2, hS, wp, nx, g1, g2, g3, g4⟩ := id u4.ref
      have hkpC : kp ∈ C1 (k % N1) := by rw [u1, hS]; simp
      have hkp := i6.1 _ kp hkpC
      have hlen := i6.len i7 (k % N1)
      have hlen2 : Pk.length < 7 := by rw [u1, List.length_append] at hlen; omega
      refine z_aload X 5 dJ9_putVal_134 zref.r rfl ?_
      refine z_get X zP13 3 (by decide) q832 (Or.inl rfl) g3 (by omega) rfl dJ9_putVal_136 ?_
      refine z_dup X dJ9_putVal_139 (((g4.zref zref.nul)).cat) ?_
      refine z_astore X (lv' := [(10, nx), (0, .ref a), (1, .int (nI k)), (2, .ref (zS G (228 + k))), (3, w), (5, .int (nI 1)), (7, .ref p), (12, .int (nI Pk.length))]) dJ9_putVal_140 (g4.zref zref.nul) (by decide) rfl ?_
      refine z_ifnonnull X 175 dJ9_putVal_142 (by decide) (g4.zref zref.nul) (fun a46 c45 => ?_) (fun c45 => ?_)
      · rw [c45] at g4
        refine z_lv (lv' := [(10, .ref a46), (0, .ref a), (1, .int (nI k)), (2, .ref (zS G (228 + k))), (3, w), (5, .int (nI 1)), (7, .ref p), (12, .int (nI Pk.length))]) (by intro x9 h9; rw [c45]; exact h9) ?_
        obtain ⟨k2, L3, hL3, w2, nx2, r1, r2, r3, r4⟩ := id g4.ref
        have hk2C : k2 ∈ C1 (k % N1) := by rw [u1, hS, hL3]; simp
        have hk2 := i6.1 _ k2 hk2C
        have hne2 : k2 ≠ k := fun z => hno _ (z ▸ hk2C)
        refine z_aload X 0 dJ9_putVal_175 zref.r rfl ?_
        refine z_get X zP13 0 (by decide) q819 (Or.inl rfl) r3 (by omega) rfl dJ9_putVal_177 ?_
        refine z_iload_n X 2 dJ9_putVal_180 rfl ?_
        refine z_icmp_neN X k2 k 212 dJ9_putVal_181 (by decide) rfl rfl (by omega) (by omega) (fun c47 => ?_) (fun c47 => ?_)
        rotate_left
        · exact absurd c47 hne2
        refine z_aload X 0 dJ9_putVal_212 zref.r rfl ?_
        refine z_astore X (lv' := [(7, .ref a46), (10, .ref a46), (0, .ref a), (1, .int (nI k)), (2, .ref (zS G (228 + k))), (3, w), (5, .int (nI 1)), (12, .int (nI Pk.length))]) dJ9_putVal_214 zref.r (by decide) rfl ?_
        refine z_iinc X (lv' := [(12, .int (nI (Pk.length + 1))), (7, .ref a46), (10, .ref a46), (0, .ref a), (1, .int (nI k)), (2, .ref (zS G (228 + k))), (3, w), (5, .int (nI 1))]) (nI (Pk.length + 1)) 7 dJ9_putVal_216 rfl (nI_1 _) (by decide) rfl ?_
        refine z_goto X 134 dJ9_putVal_219 (by decide) ?_
        refine z_lvp (lv' := [(0, .ref a), (1, .int (nI k)), (2, .ref (zS G (228 + k))), (3, w), (5, .int (nI 1)), (7, .ref a46), (12, .int (nI (Pk.length + 1)))]) [3, 4, 5, 6, 7, 1, 0] rfl ?_
        refine z_lv (lv' := [(0, .ref a), (1, .int (nI k)), (2, .ref (zS G (228 + k))), (3, w), (5, .int (nI 1)), (7, .ref a46), (12, .int (nI ((Pk ++ [kp]).length)))]) (by intro x9 h9; rw [show (Pk ++ [kp]).length = Pk.length + 1 from by simp] at h9; exact h9) ?_
        exact ih (Pk ++ [kp], L2, a46) ⟨by rw [u1, hS]; simp, by rw [hL3]; simp, (zct.app _ _ _ _).mpr ⟨_, u3, p, wp, nx, rfl, g1, g2, g3, c45⟩, g4⟩ (by dsimp only; rw [hS]; simp)
      · have hL2 : L2 = [] := by rw [c45] at g4; exact g4.null
        subst c45
        refine z_st (st' := []) rfl ?_
        refine z_aload X 6 dJ9_putVal_145 zref.r rfl ?_
        refine z_aload_n X 1 dJ9_putVal_147 zref.r rfl ?_
        refine z_iload_n X 2 dJ9_putVal_148 rfl ?_
        refine z_aload_n X 3 dJ9_putVal_149 zref.r rfl ?_
        refine z_aload_n X 4 dJ9_putVal_150 hw rfl ?_
        refine z_null X dJ9_putVal_151 ?_
        refine z_callV X (rest := [.ref p]) (c_J9_newNode t ht hw zref.nul) (cwV 4 (zXts X) (lw_V q861 q862 q863 q62 q864) rfl rfl rfl (by decide +kernel) ⟨Nat.le_of_ble_eq_true rfl, Nat.le_of_ble_eq_true rfl⟩) i1 (by omega) rfl rfl (Nat.le_of_ble_eq_true rfl) ⟨(by first | exact Nat.le_of_ble_eq_true rfl | (dsimp only [zRm]; omega)), (by first | exact Nat.le_of_ble_eq_true rfl | (dsimp only [zRm]; omega))⟩ dJ9_putVal_152 (fun v48 h49 p50 => ?_)
        obtain ⟨q, rfl, hq0, E1⟩ := p50
        refine z_st (st' := [.ref q, .ref p]) rfl ?_
        have j1 := zup_o0 E1 hq0 i1 (by omega)
        have j4 := zup_o0 E1 hq0 i4 (by omega)
        have j3 := zup_o0 E1 hq0 g3 (by omega)
        have O5 := O1.new E1 hq0
        refine z_put X zP13 3 (by decide) q832 (Or.inl rfl) rfl j3 (by omega) (by omega) (zfits.o zref.r) (Nat.le_of_ble_eq_true rfl) rfl dJ9_putVal_155 ?_
        refine z_nm fun h51 e52 => ?_
        have o53 := zOn.up O5 e52 j3 (by first | exact rfl | omega | simp)
        have f54 : h51 a = (t, .inr (11, [.null, vs, .ref T, es, .int (nI (zcnt m 64)), .int mc, .int (nI (3 * N1 / 4)), .float 1061158912])) := zup_oa e52 j1 (by intro z9; rw [z9, j3] at j1; cases j1)
        have f55 : h51 T = (t, .inl (6, N1, g)) := zup_oa e52 j4 (by intro z9; rw [z9, j3] at j4; cases j4)
        have f56 : h51 p = (t, .inr (13, [.int (nI kp), .ref (zS G (228 + kp)), wp, .ref q])) := zup_is e52
        refine z_iload X 7 dJ9_putVal_158 rfl ?_
        refine z_bipush X (nI 7) dJ9_putVal_160 (by decide) ?_
        refine z_icmp_ltN X Pk.length 7 222 dJ9_putVal_162 (by decide) rfl rfl (by omega) (by omega) (fun c57 => ?_) (fun c57 => ?_)
        rotate_left
        · omega
        refine z_aload X 0 dJ9_putVal_222 zref.nul rfl ?_
        refine z_ifnull X 259 dJ9_putVal_224 (by decide) zref.nul (fun c58 => ?_) (fun a59 c58 => ?_)
        rotate_left
        · cases c58
        refine z_lvp (lv' := [(0, .ref a), (5, .int (nI 1))]) [1, 5] rfl ?_
        have hC : C1 (k % N1) = Pk ++ [kp] := by rw [u1, hS, hL2]
        refine fin _ q g ⟨vs, es, f54, (i2.up0 (by omega) E1 hq0).up e52 j3 (by simp [znd]), (i3.up0 (by omega) E1 hq0).up e52 j3 (by simp [znd]), f55, fun b hb => ?_, i6.add hk (by omega) hm, i7⟩ o53
        by_cases hbb : b = k % N1
        · subst hbb
          rw [show zCa C1 (k % N1) k (k % N1) = Pk ++ [kp] ++ [k] from by unfold zCa; rw [if_pos rfl, hC]]
          exact zct_tail (h1 := h1) ((zct.app _ _ _ _).mpr ⟨_, u3, p, wp, .null, rfl, g1, g2, g3, rfl⟩) (by rw [← hC]; exact hno _) (by rw [← hC]; exact i6.2.1 _) (by rw [← hC]; exact fun j hj => (i6.1 _ j hj).2.1) g1 hw (by omega) (by rw [g3]) E1 hq0 e52
        · rw [show zCa C1 (k % N1) k b = C1 b from if_neg hbb]
          exact (((i5 b hb).up0 (by omega) E1 hq0).up e52 j3 (fun j hj w9 n9 => znd_ne hkp.2.1 (i6.1 b j hj).2.1 (fun z => hbb (by rw [← (i6.1 b j hj).2.2.1, ← z, hkp.2.2.1])))).add (hno b)
    · have hnil : C1 (k % N1) = [] := by rw [c41] at hch; exact hch.null
      refine z_aload X 7 dJ9_putVal_47 zref.r rfl ?_
      refine z_iload X 1 dJ9_putVal_49 rfl ?_
      refine z_aload_n X 2 dJ9_putVal_51 zref.r rfl ?_
      refine z_iload_n X 3 dJ9_putVal_52 rfl ?_
      refine z_aload_n X 4 dJ9_putVal_53 zref.r rfl ?_
      refine z_aload_n X 5 dJ9_putVal_54 hw rfl ?_
      refine z_null X dJ9_putVal_55 ?_
      refine z_callV X (rest := [.int (nI (k % N1)), .ref T]) (c_J9_newNode t ht hw zref.nul) (cwV 4 (zXts X) (lw_V q861 q862 q863 q62 q864) rfl rfl rfl (by decide +kernel) ⟨Nat.le_of_ble_eq_true rfl, Nat.le_of_ble_eq_true rfl⟩) i1 (by omega) rfl rfl (Nat.le_of_ble_eq_true rfl) ⟨(by first | exact Nat.le_of_ble_eq_true rfl | (dsimp only [zRm]; omega)), (by first | exact Nat.le_of_ble_eq_true rfl | (dsimp only [zRm]; omega))⟩ dJ9_putVal_56 (fun v60 h61 p62 => ?_)
      obtain ⟨q, rfl, hq0, E1⟩ := p62
      refine z_st (st' := [.ref q, .int (nI (k % N1)), .ref T]) rfl ?_
      have j1 := zup_o0 E1 hq0 i1 (by omega)
      have j4 := zup_o0 E1 hq0 i4 (by omega)
      have O5 := O1.new E1 hq0
      have j3 : h61 q = znd G t k w .null := by rw [E1, zup_s]
      refine z_aast X (k % N1) j4 rfl (by decide) (by omega) (by omega) j3 (by omega) rfl (Or.inl rfl) rfl hbl (by first | decide | omega) (f' := zuf g (k % N1) (.ref q)) (fun _ => rfl) dJ9_putVal_59 ?_
      refine z_nm fun h63 e64 => ?_
      have o65 := zOn.up O5 e64 j4 (by first | exact rfl | omega | simp)
      have f66 : h63 a = (t, .inr (11, [.null, vs, .ref T, es, .int (nI (zcnt m 64)), .int mc, .int (nI (3 * N1 / 4)), .float 1061158912])) := zup_oa e64 j1 (by intro z9; rw [z9, j4] at j1; cases j1)
      have f67 : h63 q = (t, .inr (13, [.int (nI k), .ref (zS G (228 + k)), w, .null])) := zup_oa e64 j3 (by intro z9; rw [z9, j4] at j3; cases j3)
      have f68 : h63 T = (t, .inl (6, N1, zuf g (k % N1) (.ref q))) := zup_is e64
      refine z_goto X 259 dJ9_putVal_60 (by decide) ?_
      refine z_lvp (lv' := [(0, .ref a), (5, .int (nI 1))]) [2, 6] rfl ?_
      refine fin _ q _ ⟨vs, es, f66, (i2.up0 (by omega) E1 hq0).up e64 j4 (by simp), (i3.up0 (by omega) E1 hq0).up e64 j4 (by simp), f68, fun b hb => ?_, i6.add hk (by omega) hm, i7⟩ o65
      by_cases hbb : b = k % N1
      · subst hbb
        rw [show zCa C1 (k % N1) k (k % N1) = [k] from by unfold zCa; rw [if_pos rfl, hnil]; rfl, show zuf g (k % N1) (.ref q) (k % N1) = .ref q from if_pos rfl]
        exact ⟨q, w, .null, rfl, zma_k, hw, f67, rfl⟩
      · rw [show zCa C1 (k % N1) k b = C1 b from if_neg hbb, show zuf g (k % N1) (.ref q) b = g b from if_neg hbb]
        exact (((i5 b hb).up0 (by omega) E1 hq0).up e64 j4 (fun j hj w9 n9 => by simp [znd])).add (hno b)
  obtain ⟨vs, es, tab, thr, e1, e2, e3, e4, e5⟩ := hM
  rcases e4 with ⟨hN0, htab, hthr⟩ | ⟨T, g, hN, htab, hthr, e4, e6⟩
  · subst hN0; subst htab; subst hthr
    refine z_aload_n X 0 dJ9_putVal_0 zref.r rfl ?_
    refine z_get X zP11 2 (by decide) q293 (Or.inl rfl) e1 (by omega) rfl dJ9_putVal_1 ?_
    refine z_dup X dJ9_putVal_4 rfl ?_
    refine z_astore X (lv' := [(6, .null), (0, .ref a), (1, .int (nI k)), (2, .ref (zS G (228 + k))), (3, w), (4, .int (nI 0)), (5, .int (nI 1))]) dJ9_putVal_5 zref.nul (by decide) rfl ?_
    refine z_ifnull X 19 dJ9_putVal_7 (by decide) zref.nul (fun c69 => ?_) (fun a70 c69 => ?_)
    rotate_left
    · cases c69
    refine z_aload_n X 1 dJ9_putVal_19 zref.r rfl ?_
    refine z_callV X (rest := []) (c_J9_resize_0 e1 ht e2.zref e3.zref) (cwV 0 (zXts X) (lw_V q789 q790 q791 q62 q792) rfl rfl rfl (by decide +kernel) ⟨Nat.le_of_ble_eq_true rfl, Nat.le_of_ble_eq_true rfl⟩) e1 (by omega) rfl rfl (Nat.le_of_ble_eq_true rfl) ⟨(by first | exact Nat.le_of_ble_eq_true rfl | (dsimp only [zRm]; omega)), (by first | exact Nat.le_of_ble_eq_true rfl | (dsimp only [zRm]; omega))⟩ dJ9_putVal_20 (fun v71 h72 p73 => ?_)
    obtain ⟨T, rfl, k1, k2, k3, k4⟩ := p73
    refine z_st (st' := [.ref T]) rfl ?_
    have hTa : ∀ b x, h b = x → x.1 ≠ 0 → b ≠ T := fun b x h9 h8 z => by rw [z] at h9; rw [← h9] at h8; exact h8 k3
    refine z_dup X dJ9_putVal_23 rfl ?_
    refine z_astore X (lv' := [(6, .ref T), (0, .ref a), (1, .int (nI k)), (2, .ref (zS G (228 + k))), (3, w), (4, .int (nI 0)), (5, .int (nI 1))]) dJ9_putVal_24 zref.r (by decide) rfl ?_
    refine z_alen X k2 (ty := .object "java/util/HashMap$Node") rfl (by omega) dJ9_putVal_26 ?_
    refine z_istore X (lv' := [(8, .int (nI 16)), (6, .ref T), (0, .ref a), (1, .int (nI k)), (2, .ref (zS G (228 + k))), (3, w), (4, .int (nI 0)), (5, .int (nI 1))]) dJ9_putVal_27 (by decide) rfl ?_
    have hC0 : ∀ b, C b = [] := fun b => by cases hb : C b with | nil => rfl | cons j L => exact absurd (e5.1 b j (by rw [hb]; simp)).1 (Nat.not_lt_zero _)
    have hm0 : ∀ j, (m j).isSome = true → False := fun j hj => by have := (e5.2.2 j hj).2; rw [hC0] at this; cases this
    refine z_lvp (lv' := [(0, .ref a), (1, .int (nI k)), (2, .ref (zS G (228 + k))), (3, w), (5, .int (nI 1)), (6, .ref T), (8, .int (nI 16))]) [2, 3, 4, 5, 7, 1, 0] rfl ?_
    have hvw : ∀ ci v, zvw h t a ci v → zvw h72 t a ci v := fun ci v hv => by
      rcases hv with z | ⟨q, z, e⟩
      · exact Or.inl z
      · exact Or.inr ⟨q, z, by rw [k4 q (fun z => by rw [z, e1] at e; simp at e) (hTa q _ e (by dsimp only; omega))]; exact e⟩
    refine rest h72 16 T C _ ⟨vs, es, k1, hvw _ _ e2, hvw _ _ e3, k2, fun b hb => (by rw [hC0 b]; rfl), ⟨fun b j hj => (by rw [hC0 b] at hj; cases hj), fun b => (by rw [hC0 b]; exact List.nodup_nil), fun j hj => (hm0 j hj).elim⟩, Or.inl rfl⟩ (fun b h0 hT => k4 b (fun z => by rw [z, e1] at hT; exact hT rfl) (hTa b _ rfl h0))
  · subst htab; subst hthr
    have hNb := hN.lt
    refine z_aload_n X 0 dJ9_putVal_0 zref.r rfl ?_
    refine z_get X zP11 2 (by decide) q293 (Or.inl rfl) e1 (by omega) rfl dJ9_putVal_1 ?_
    refine z_dup X dJ9_putVal_4 rfl ?_
    refine z_astore X (lv' := [(6, .ref T), (0, .ref a), (1, .int (nI k)), (2, .ref (zS G (228 + k))), (3, w), (4, .int (nI 0)), (5, .int (nI 1))]) dJ9_putVal_5 zref.r (by decide) rfl ?_
    refine z_ifnull X 19 dJ9_putVal_7 (by decide) zref.r (fun c74 => ?_) (fun a75 c74 => ?_)
    · cases c74
    refine z_aload X 0 dJ9_putVal_10 zref.r rfl ?_
    refine z_alen X e4 (ty := .object "java/util/HashMap$Node") rfl (by omega) dJ9_putVal_12 ?_
    refine z_dup X dJ9_putVal_13 rfl ?_
    refine z_istore X (lv' := [(8, .int (nI N)), (6, .ref T), (0, .ref a), (1, .int (nI k)), (2, .ref (zS G (228 + k))), (3, w), (4, .int (nI 0)), (5, .int (nI 1))]) dJ9_putVal_14 (by decide) rfl ?_
    refine z_if_neN X N 29 dJ9_putVal_16 (by decide) rfl (by omega) (fun c76 => ?_) (fun c76 => ?_)
    rotate_left
    · omega
    refine z_lvp (lv' := [(0, .ref a), (1, .int (nI k)), (2, .ref (zS G (228 + k))), (3, w), (5, .int (nI 1)), (6, .ref T), (8, .int (nI N))]) [2, 3, 4, 5, 7, 1, 0] rfl ?_
    exact z_widen (k := 1) (n := 16) (by omega) (by omega) (rest h N T C g ⟨vs, es, e1, e2, e3, e4, e6, e5, hN⟩ zOn.rf)
set_option maxHeartbeats 4000000 in
theorem c_J9_putVal_set {l : Launch} {G : ZG} {h : ZH} {a t N k : Nat} {C : Nat → List Nat} {m : Nat → Option (Nat × Value)} {mc : Int32} {w w0 : Value} {q0 : Nat} (hM : zHM G h t a N C m mc) (ht : 1 < t) (hk : k < 64) (hm : m k = some (q0, w0)) (hw : zref w) : ZM l G yJ9_putVal (ws_ yJ9_putVal cJ9_putVal 13 (Option.some (FieldType.object "java/lang/Object"))) (zRm 4 0 0 120) [.ref a, .int (nI k), .ref (zS G (228 + k)), w, .int (nI 0), .int (nI 1)] h (fun v h' => v = some w0 ∧ zHM G h' t a N C (zma m k q0 w) mc ∧ zOn (fun t' => t' = t) h h') := by
  refine ZT.zm (ZT.of (by first | exact plainFor_of_name (by decide) | decide +kernel) (Nat.le_of_ble_eq_true rfl) (zcats.r zref.r (zcats.i (zcats.r zref.r (zcats.r hw (zcats.i (zcats.i zcats.nil)))))) ?_)
  intro p_ e_ s_ m_ args_ below_ meth_ c_ X hr hlk hin htab
  have X : ZX p_ m_ c_ cJ9_putVal 13 s_ args_ "java/util/HashMap" G := X
  refine z_lv (lv' := [(0, .ref a), (1, .int (nI k)), (2, .ref (zS G (228 + k))), (3, w), (4, .int (nI 0)), (5, .int (nI 1))]) (fun _ hq => hq) ?_
  obtain ⟨-, hw0, nx0, hnx0, hq0⟩ := hM.node hm
  have fin : Zw p_ l e_ (zRm 4 0 0 120) s_ m_ args_ below_ meth_ c_ G 13 (zEnd G (zRm 4 0 0 120) (fun v h' => v = some w0 ∧ zHM G h' t a N C (zma m k q0 w) mc ∧ zOn (fun t' => t' = t) h h') (fun _ _ _ => False) below_ args_ s_) 222 [(0, .ref a), (3, w), (4, .int (nI 0)), (10, .ref q0)] [] h 0 0 := by
    refine z_aload X 3 dJ9_putVal_222 zref.r rfl ?_
    refine z_ifnull X 259 dJ9_putVal_224 (by decide) zref.r (fun c77 => ?_) (fun a78 c77 => ?_)
    · cases c77
    refine z_aload X 3 dJ9_putVal_227 zref.r rfl ?_
    refine z_get X zP13 2 (by decide) q826 (Or.inl rfl) hq0 (by omega) rfl dJ9_putVal_229 ?_
    refine z_astore X (lv' := [(12, w0), (0, .ref a), (3, w), (4, .int (nI 0)), (10, .ref q0)]) dJ9_putVal_232 hw0 (by decide) rfl ?_
    refine z_iload X 3 dJ9_putVal_234 rfl ?_
    refine z_if_eqN X 0 244 dJ9_putVal_236 (by decide) rfl (by omega) (fun c79 => ?_) (fun c79 => ?_)
    rotate_left
    · omega
    refine z_aload X 4 dJ9_putVal_244 zref.r rfl ?_
    refine z_aload_n X 2 dJ9_putVal_246 hw rfl ?_
    refine z_put X zP13 2 (by decide) q826 (Or.inl rfl) rfl hq0 (by omega) (by omega) (zfits.o hw) (Nat.le_of_ble_eq_true rfl) rfl dJ9_putVal_247 ?_
    refine z_nm fun h80 e81 => ?_
    have o82 := zOn.up (zOn.rf (T := fun t' => t' = t) (h := h)) e81 hq0 (by first | exact rfl | omega | simp)
    have f83 : h80 q0 = (t, .inr (13, [.int (nI k), .ref (zS G (228 + k)), w, nx0])) := zup_is e81
    refine z_aload_n X 1 dJ9_putVal_250 zref.r rfl ?_
    refine z_aload X 4 dJ9_putVal_251 zref.r rfl ?_
    have M2 := hM.set hm hq0 hw e81
    obtain ⟨_, r84⟩ := zHM.rc M2
    refine z_callV X (rest := []) c_J9_afterNodeAccess (cwV 1 (zXts X) (lw_V q915 q916 q917 q62 q918) rfl rfl rfl (by decide +kernel) ⟨Nat.le_of_ble_eq_true rfl, Nat.le_of_ble_eq_true rfl⟩) r84 (by omega) rfl rfl (Nat.le_of_ble_eq_true rfl) ⟨(by first | exact Nat.le_of_ble_eq_true rfl | (dsimp only [zRm]; omega)), (by first | exact Nat.le_of_ble_eq_true rfl | (dsimp only [zRm]; omega))⟩ dJ9_putVal_253 (fun v85 h86 p87 => ?_)
    obtain ⟨rfl, rfl⟩ := p87
    refine z_st (st' := []) rfl ?_
    refine z_aload X 0 dJ9_putVal_256 hw0 rfl ?_
    exact z_aret X hr (by first | exact Or.inl ⟨_, rfl⟩ | exact Or.inr ⟨_, rfl⟩) hlk hw0 dJ9_putVal_258 (by first | exact Nat.le_of_ble_eq_true rfl | (dsimp only [zRm]; omega) | omega) (by first | exact Nat.le_of_ble_eq_true rfl | (dsimp only [zRm]; omega) | omega) ⟨rfl, M2, o82⟩
  obtain ⟨vs, es, tab, thr, e1, e2, e3, e4, e5⟩ := id hM
  have hkin := (e5.2.2 k (by rw [hm]; rfl)).2
  rcases e4 with ⟨hN0, htab, hthr⟩ | ⟨T, g, hN, htab, hthr, e4, e6⟩
  · subst hN0; exact absurd (e5.1 _ k hkin).1 (Nat.not_lt_zero _)
  · subst htab; subst hthr
    have hNb := hN.lt
    have hbl : k % N < N := Nat.mod_lt _ (by omega)
    have hch := e6 (k % N) hbl
    refine z_aload_n X 0 dJ9_putVal_0 zref.r rfl ?_
    refine z_get X zP11 2 (by decide) q293 (Or.inl rfl) e1 (by omega) rfl dJ9_putVal_1 ?_
    refine z_dup X dJ9_putVal_4 rfl ?_
    refine z_astore X (lv' := [(6, .ref T), (0, .ref a), (1, .int (nI k)), (2, .ref (zS G (228 + k))), (3, w), (4, .int (nI 0)), (5, .int (nI 1))]) dJ9_putVal_5 zref.r (by decide) rfl ?_
    refine z_ifnull X 19 dJ9_putVal_7 (by decide) zref.r (fun c88 => ?_) (fun a89 c88 => ?_)
    · cases c88
    refine z_aload X 0 dJ9_putVal_10 zref.r rfl ?_
    refine z_alen X e4 (ty := .object "java/util/HashMap$Node") rfl (by omega) dJ9_putVal_12 ?_
    refine z_dup X dJ9_putVal_13 rfl ?_
    refine z_istore X (lv' := [(8, .int (nI N)), (6, .ref T), (0, .ref a), (1, .int (nI k)), (2, .ref (zS G (228 + k))), (3, w), (4, .int (nI 0)), (5, .int (nI 1))]) dJ9_putVal_14 (by decide) rfl ?_
    refine z_if_neN X N 29 dJ9_putVal_16 (by decide) rfl (by omega) (fun c90 => ?_) (fun c90 => ?_)
    rotate_left
    · omega
    refine z_aload X 1 dJ9_putVal_29 zref.r rfl ?_
    refine z_iload X 0 dJ9_putVal_31 rfl ?_
    refine z_iconst X (nI 1) dJ9_putVal_33 (by decide) ?_
    refine z_isub X (nI (N - 1)) dJ9_putVal_34 (pk_sub (by omega)) ?_
    refine z_iload_n X 3 dJ9_putVal_35 rfl ?_
    refine z_iand X ((nI (N - 1)) &&& (nI k)) dJ9_putVal_36 rfl ?_
    refine z_st (st' := [.int (nI (k % N)), .ref T]) (by rw [zix_k hN k hk]) ?_
    refine z_dup X dJ9_putVal_37 rfl ?_
    refine z_istore X (lv' := [(9, .int (nI (k % N))), (8, .int (nI N)), (6, .ref T), (0, .ref a), (1, .int (nI k)), (2, .ref (zS G (228 + k))), (3, w), (4, .int (nI 0)), (5, .int (nI 1))]) dJ9_putVal_38 (by decide) rfl ?_
    refine z_aald X (v := g (k % N)) (k % N) e4 (ty := .object "java/util/HashMap$Node") rfl rfl (by omega) rfl hbl (by first | decide | omega) rfl dJ9_putVal_40 ?_
    refine z_dup X dJ9_putVal_41 (((hch.zref zref.nul)).cat) ?_
    refine z_astore X (lv' := [(7, g (k % N)), (9, .int (nI (k % N))), (8, .int (nI N)), (6, .ref T), (0, .ref a), (1, .int (nI k)), (2, .ref (zS G (228 + k))), (3, w), (4, .int (nI 0)), (5, .int (nI 1))]) dJ9_putVal_42 (hch.zref zref.nul) (by decide) rfl ?_
    refine z_ifnonnull X 63 dJ9_putVal_44 (by decide) (hch.zref zref.nul) (fun a92 c91 => ?_) (fun c91 => ?_)
    rotate_left
    · exact (by rw [c91] at hch; have z9 := hch.null; rw [z9] at hkin; cases hkin)
    rw [c91] at hch
    refine z_lv (lv' := [(7, .ref a92), (9, .int (nI (k % N))), (8, .int (nI N)), (6, .ref T), (0, .ref a), (1, .int (nI k)), (2, .ref (zS G (228 + k))), (3, w), (4, .int (nI 0)), (5, .int (nI 1))]) (by intro x9 h9; rw [c91]; exact h9) ?_
    obtain ⟨k7, L7, hL, w7, nx7, g1, g2, g3, g4⟩ := id hch.ref
    have hk7 : k7 < 64 := (e5.1 _ k7 (by rw [hL]; simp)).2.1
    refine z_aload X 0 dJ9_putVal_63 zref.r rfl ?_
    refine z_get X zP13 0 (by decide) q819 (Or.inl rfl) g3 (by omega) rfl dJ9_putVal_65 ?_
    refine z_iload_n X 5 dJ9_putVal_68 rfl ?_
    refine z_icmp_neN X k7 k 104 dJ9_putVal_69 (by decide) rfl rfl (by omega) (by omega) (fun c93 => ?_) (fun c93 => ?_)
    · have hne7 : k7 ≠ k := c93
      have hkL : k ∈ L7 := by rw [hL] at hkin; exact (List.mem_cons.mp hkin).resolve_left (Ne.symm hne7)
      refine z_aload X 0 dJ9_putVal_104 zref.r rfl ?_
      refine z_instNo X g3 (by omega) rfl q718 X.2.1.2.2.2.2.2.2.2.2.2.2.1 dJ9_putVal_106 ?_
      refine z_if_eq X 131 dJ9_putVal_109 (by decide) (fun c94 => ?_) (fun c94 => ?_)
      rotate_left
      · exact absurd rfl c94
      refine z_iconst X (nI 0) dJ9_putVal_131 (by decide) ?_
      refine z_istore X (lv' := [(12, .int (nI 0)), (7, .ref a92), (9, .int (nI (k % N))), (8, .int (nI N)), (6, .ref T), (0, .ref a), (1, .int (nI k)), (2, .ref (zS G (228 + k))), (3, w), (4, .int (nI 0)), (5, .int (nI 1))]) dJ9_putVal_132 (by decide) rfl ?_
      refine z_lvp (lv' := [(0, .ref a), (1, .int (nI k)), (2, .ref (zS G (228 + k))), (3, w), (4, .int (nI 0)), (5, .int (nI 1)), (7, .ref a92), (12, .int (nI 0))]) [5, 6, 7, 8, 9, 10, 1, 0] rfl ?_
      refine z_loop (σ := Nat × List Nat × Nat × Int32) (fun x => zct G h t m (x.1 :: x.2.1) (.ref x.2.2.1) .null ∧ k ∈ x.2.1 ∧ ∀ j ∈ x.1 :: x.2.1, j < 64) (fun x => x.2.1.length) (fun x => [(0, .ref a), (1, .int (nI k)), (2, .ref (zS G (228 + k))), (3, w), (4, .int (nI 0)), (5, .int (nI 1)), (7, .ref x.2.2.1), (12, .int x.2.2.2)]) (fun x => []) (fun x => h) (fun x => 0) (fun x => 0) ?_ (k7, L7, a92, nI 0) (⟨by rw [← hL]; exact hch, hkL, fun j hj => (e5.1 _ j (by rw [hL]; exact hj)).2.1⟩)
      intro ⟨kp, L2, p, bc⟩ hI ih
      try dsimp only at hI
      try dsimp only at ih
      try dsimp only
      clear g1 g2 g3 g4 hch hkL
      obtain ⟨⟨p2, wp, nx, hpp, g1, g2, g3, g4⟩, u2, u3⟩ := hI
      cases hpp
      refine z_aload X 6 dJ9_putVal_134 zref.r rfl ?_
      refine z_get X zP13 3 (by decide) q832 (Or.inl rfl) g3 (by omega) rfl dJ9_putVal_136 ?_
      refine z_dup X dJ9_putVal_139 (((g4.zref zref.nul)).cat) ?_
      refine z_astore X (lv' := [(10, nx), (0, .ref a), (1, .int (nI k)), (2, .ref (zS G (228 + k))), (3, w), (4, .int (nI 0)), (5, .int (nI 1)), (7, .ref p), (12, .int bc)]) dJ9_putVal_140 (g4.zref zref.nul) (by decide) rfl ?_
      refine z_ifnonnull X 175 dJ9_putVal_142 (by decide) (g4.zref zref.nul) (fun a96 c95 => ?_) (fun c95 => ?_)
      rotate_left
      · exact (by rw [c95] at g4; rw [g4.null] at u2; cases u2)
      rw [c95] at g4
      refine z_lv (lv' := [(10, .ref a96), (0, .ref a), (1, .int (nI k)), (2, .ref (zS G (228 + k))), (3, w), (4, .int (nI 0)), (5, .int (nI 1)), (7, .ref p), (12, .int bc)]) (by intro x9 h9; rw [c95]; exact h9) ?_
      obtain ⟨k2, L3, hL3, w2, nx2, r1, r2, r3, r4⟩ := id g4.ref
      have hk2 := u3 k2 (by rw [hL3]; simp)
      refine z_aload X 0 dJ9_putVal_175 zref.r rfl ?_
      refine z_get X zP13 0 (by decide) q819 (Or.inl rfl) r3 (by omega) rfl dJ9_putVal_177 ?_
      refine z_iload_n X 2 dJ9_putVal_180 rfl ?_
      refine z_icmp_neN X k2 k 212 dJ9_putVal_181 (by decide) rfl rfl (by omega) (by omega) (fun c97 => ?_) (fun c97 => ?_)
      · have hne2 : k2 ≠ k := c97
        refine z_aload X 0 dJ9_putVal_212 zref.r rfl ?_
        refine z_astore X (lv' := [(7, .ref a96), (10, .ref a96), (0, .ref a), (1, .int (nI k)), (2, .ref (zS G (228 + k))), (3, w), (4, .int (nI 0)), (5, .int (nI 1)), (12, .int bc)]) dJ9_putVal_214 zref.r (by decide) rfl ?_
        refine z_iinc X (lv' := [(12, .int (bc + 1)), (7, .ref a96), (10, .ref a96), (0, .ref a), (1, .int (nI k)), (2, .ref (zS G (228 + k))), (3, w), (4, .int (nI 0)), (5, .int (nI 1))]) (bc + 1) 8 dJ9_putVal_216 rfl rfl (by decide) rfl ?_
        refine z_goto X 134 dJ9_putVal_219 (by decide) ?_
        refine z_lvp (lv' := [(0, .ref a), (1, .int (nI k)), (2, .ref (zS G (228 + k))), (3, w), (4, .int (nI 0)), (5, .int (nI 1)), (7, .ref a96), (12, .int (bc + 1))]) [3, 4, 5, 6, 7, 8, 1, 0] rfl ?_
        exact ih (k2, L3, a96, _) ⟨by rw [← hL3]; exact g4, by rw [hL3] at u2; exact (List.mem_cons.mp u2).resolve_left (Ne.symm hne2), fun j hj => u3 j (by rw [hL3]; exact List.mem_cons_of_mem _ hj)⟩ (by dsimp only; rw [hL3]; simp)
      · refine z_aload X 0 dJ9_putVal_184 zref.r rfl ?_
        refine z_get X zP13 1 (by decide) q823 (Or.inl rfl) r3 (by omega) rfl dJ9_putVal_186 ?_
        refine z_dup X dJ9_putVal_189 rfl ?_
        refine z_astore X (lv' := [(11, .ref (zS G (228 + k2))), (10, .ref a96), (0, .ref a), (1, .int (nI k)), (2, .ref (zS G (228 + k))), (3, w), (4, .int (nI 0)), (5, .int (nI 1)), (7, .ref p), (12, .int bc)]) dJ9_putVal_190 zref.r (by decide) rfl ?_
        refine z_aload_n X 4 dJ9_putVal_192 zref.r rfl ?_
        have hke : k2 = k := Classical.byContradiction fun z9 => by first | exact z9 c97 | exact c97 z9
        refine z_acmp_eq X 222 dJ9_putVal_193 (by decide) zref.r zref.r (fun c98 => ?_) (fun c98 => ?_)
        rotate_left
        · exact absurd (by rw [hke]) c98
        have hqq : a96 = q0 := by have z9 := r1; rw [hke, hm] at z9; simp only [Option.some.injEq, Prod.mk.injEq] at z9; exact z9.1.symm
        refine z_lvp (lv' := [(0, .ref a), (3, w), (4, .int (nI 0)), (10, .ref a96)]) [2, 5, 6, 1] rfl ?_
        rw [hqq]
        exact fin
    · refine z_aload X 0 dJ9_putVal_72 zref.r rfl ?_
      refine z_get X zP13 1 (by decide) q823 (Or.inl rfl) g3 (by omega) rfl dJ9_putVal_74 ?_
      refine z_dup X dJ9_putVal_77 rfl ?_
      refine z_astore X (lv' := [(11, .ref (zS G (228 + k7))), (7, .ref a92), (9, .int (nI (k % N))), (8, .int (nI N)), (6, .ref T), (0, .ref a), (1, .int (nI k)), (2, .ref (zS G (228 + k))), (3, w), (4, .int (nI 0)), (5, .int (nI 1))]) dJ9_putVal_78 zref.r (by decide) rfl ?_
      refine z_aload_n X 7 dJ9_putVal_80 zref.r rfl ?_
      have hke : k7 = k := Classical.byContradiction fun z9 => by first | exact z9 c93 | exact c93 z9
      refine z_acmp_eq X 97 dJ9_putVal_81 (by decide) zref.r zref.r (fun c99 => ?_) (fun c99 => ?_)
      rotate_left
      · exact absurd (by rw [hke]) c99
      refine z_aload X 1 dJ9_putVal_97 zref.r rfl ?_
      refine z_astore X (lv' := [(10, .ref a92), (11, .ref (zS G (228 + k7))), (7, .ref a92), (9, .int (nI (k % N))), (8, .int (nI N)), (6, .ref T), (0, .ref a), (1, .int (nI k)), (2, .ref (zS G (228 + k))), (3, w), (4, .int (nI 0)), (5, .int (nI 1))]) dJ9_putVal_99 zref.r (by decide) rfl ?_
      refine z_goto X 222 dJ9_putVal_101 (by decide) ?_
      have hqq : a92 = q0 := by have z9 := g1; rw [hke, hm] at z9; simp only [Option.some.injEq, Prod.mk.injEq] at z9; exact z9.1.symm
      refine z_lvp (lv' := [(0, .ref a), (3, w), (4, .int (nI 0)), (10, .ref a92)]) [6, 9, 10, 0] rfl ?_
      rw [hqq]
      exact fin
set_option maxHeartbeats 2000000 in
theorem c_J9_put_new {l : Launch} {G : ZG} {h : ZH} {a t N k : Nat} {C : Nat → List Nat} {m : Nat → Option (Nat × Value)} {mc : Int32} {w : Value} (hM : zHM G h t a N C m mc) (ht : 1 < t) (hk : k < 64) (hm : m k = none) (hw : zref w) : ZM l G yJ9_put (ws_ yJ9_put cJ9_put 3 (Option.some (FieldType.object "java/lang/Object"))) (zRm 5 3 150 170) [.ref a, .ref (zS G (228 + k)), w] h (fun v h' => ∃ (N' q : Nat) (C' : Nat → List Nat) (mc' : Int32), v = some .null ∧ zHM G h' t a N' C' (zma m k q w) mc' ∧ zOn (fun t' => t' = t) h h') := by
  refine ZT.zm (ZT.of (by first | exact plainFor_of_name (by decide) | decide +kernel) (Nat.le_of_ble_eq_true rfl) (zcats.r zref.r (zcats.r zref.r (zcats.r hw zcats.nil))) ?_)
  intro p_ e_ s_ m_ args_ below_ meth_ c_ X hr hlk hin htab
  have X : ZX p_ m_ c_ cJ9_put 3 s_ args_ "java/util/HashMap" G := X
  refine z_lv (lv' := [(0, .ref a), (1, .ref (zS G (228 + k))), (2, w)]) (fun _ hq => hq) ?_
  refine z_sh (fun sh => ?_)
  refine z_aload_n X 0 dJ9_put_0 zref.r rfl ?_
  refine z_aload_n X 1 dJ9_put_1 zref.r rfl ?_
  refine z_callS X (rest := [.ref a]) (c_J9_hash (zbx.c sh (k := k) (by omega))) (va_cwS 1 (zXts X) (lw_S q688 q689 q62 q690) rfl rfl rfl (by decide +kernel) ⟨Nat.le_of_ble_eq_true rfl, Nat.le_of_ble_eq_true rfl⟩) rfl (Nat.le_of_ble_eq_true rfl) ⟨(by first | exact Nat.le_of_ble_eq_true rfl | (dsimp only [zRm]; omega)), (by first | exact Nat.le_of_ble_eq_true rfl | (dsimp only [zRm]; omega))⟩ dJ9_put_2 (fun v100 h101 p102 => ?_)
  obtain ⟨rfl, rfl⟩ := p102
  refine z_st (st' := [.int (nI k), .ref a]) (by show _ = _; rw [zhash_n hk]; rfl) ?_
  refine z_aload_n X 1 dJ9_put_5 zref.r rfl ?_
  refine z_aload_n X 2 dJ9_put_6 hw rfl ?_
  refine z_iconst X (nI 0) dJ9_put_7 (by decide) ?_
  refine z_iconst X (nI 1) dJ9_put_8 (by decide) ?_
  obtain ⟨_, r103⟩ := zHM.rc hM
  refine z_callV X (rest := []) (c_J9_putVal_new hM ht hk hm hw) (cwV 5 (zXts X) (lw_V q785 q786 q787 q62 q788) rfl rfl rfl (by decide +kernel) ⟨Nat.le_of_ble_eq_true rfl, Nat.le_of_ble_eq_true rfl⟩) r103 (by omega) rfl rfl (Nat.le_of_ble_eq_true rfl) ⟨(by first | exact Nat.le_of_ble_eq_true rfl | (dsimp only [zRm]; omega)), (by first | exact Nat.le_of_ble_eq_true rfl | (dsimp only [zRm]; omega))⟩ dJ9_put_9 (fun v104 h105 p106 => ?_)
  obtain ⟨N2, q, C2, mc2, rfl, M2, O2⟩ := p106
  refine z_st (st' := [.null]) rfl ?_
  exact z_aret X hr (by first | exact Or.inl ⟨_, rfl⟩ | exact Or.inr ⟨_, rfl⟩) hlk zref.nul dJ9_put_12 (by first | exact Nat.le_of_ble_eq_true rfl | (dsimp only [zRm]; omega) | omega) (by first | exact Nat.le_of_ble_eq_true rfl | (dsimp only [zRm]; omega) | omega) ⟨N2, q, C2, mc2, rfl, M2, O2⟩
set_option maxHeartbeats 2000000 in
theorem c_J9_put_set {l : Launch} {G : ZG} {h : ZH} {a t N k : Nat} {C : Nat → List Nat} {m : Nat → Option (Nat × Value)} {mc : Int32} {w w0 : Value} {q0 : Nat} (hM : zHM G h t a N C m mc) (ht : 1 < t) (hk : k < 64) (hm : m k = some (q0, w0)) (hw : zref w) : ZM l G yJ9_put (ws_ yJ9_put cJ9_put 3 (Option.some (FieldType.object "java/lang/Object"))) (zRm 5 0 0 170) [.ref a, .ref (zS G (228 + k)), w] h (fun v h' => v = some w0 ∧ zHM G h' t a N C (zma m k q0 w) mc ∧ zOn (fun t' => t' = t) h h') := by
  refine ZT.zm (ZT.of (by first | exact plainFor_of_name (by decide) | decide +kernel) (Nat.le_of_ble_eq_true rfl) (zcats.r zref.r (zcats.r zref.r (zcats.r hw zcats.nil))) ?_)
  intro p_ e_ s_ m_ args_ below_ meth_ c_ X hr hlk hin htab
  have X : ZX p_ m_ c_ cJ9_put 3 s_ args_ "java/util/HashMap" G := X
  refine z_lv (lv' := [(0, .ref a), (1, .ref (zS G (228 + k))), (2, w)]) (fun _ hq => hq) ?_
  have hw0 := (hM.node hm).2.1
  refine z_sh (fun sh => ?_)
  refine z_aload_n X 0 dJ9_put_0 zref.r rfl ?_
  refine z_aload_n X 1 dJ9_put_1 zref.r rfl ?_
  refine z_callS X (rest := [.ref a]) (c_J9_hash (zbx.c sh (k := k) (by omega))) (va_cwS 1 (zXts X) (lw_S q688 q689 q62 q690) rfl rfl rfl (by decide +kernel) ⟨Nat.le_of_ble_eq_true rfl, Nat.le_of_ble_eq_true rfl⟩) rfl (Nat.le_of_ble_eq_true rfl) ⟨(by first | exact Nat.le_of_ble_eq_true rfl | (dsimp only [zRm]; omega)), (by first | exact Nat.le_of_ble_eq_true rfl | (dsimp only [zRm]; omega))⟩ dJ9_put_2 (fun v107 h108 p109 => ?_)
  obtain ⟨rfl, rfl⟩ := p109
  refine z_st (st' := [.int (nI k), .ref a]) (by show _ = _; rw [zhash_n hk]; rfl) ?_
  refine z_aload_n X 1 dJ9_put_5 zref.r rfl ?_
  refine z_aload_n X 2 dJ9_put_6 hw rfl ?_
  refine z_iconst X (nI 0) dJ9_put_7 (by decide) ?_
  refine z_iconst X (nI 1) dJ9_put_8 (by decide) ?_
  obtain ⟨_, r110⟩ := zHM.rc hM
  refine z_callV X (rest := []) (c_J9_putVal_set hM ht hk hm hw) (cwV 5 (zXts X) (lw_V q785 q786 q787 q62 q788) rfl rfl rfl (by decide +kernel) ⟨Nat.le_of_ble_eq_true rfl, Nat.le_of_ble_eq_true rfl⟩) r110 (by omega) rfl rfl (Nat.le_of_ble_eq_true rfl) ⟨(by first | exact Nat.le_of_ble_eq_true rfl | (dsimp only [zRm]; omega)), (by first | exact Nat.le_of_ble_eq_true rfl | (dsimp only [zRm]; omega))⟩ dJ9_put_9 (fun v111 h112 p113 => ?_)
  obtain ⟨rfl, M2, O2⟩ := p113
  refine z_st (st' := [w0]) rfl ?_
  exact z_aret X hr (by first | exact Or.inl ⟨_, rfl⟩ | exact Or.inr ⟨_, rfl⟩) hlk hw0 dJ9_put_12 (by first | exact Nat.le_of_ble_eq_true rfl | (dsimp only [zRm]; omega) | omega) (by first | exact Nat.le_of_ble_eq_true rfl | (dsimp only [zRm]; omega) | omega) ⟨rfl, M2, O2⟩
