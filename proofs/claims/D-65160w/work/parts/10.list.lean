set_option maxRecDepth 100000
/-- an ArrayList of tag t at a: n elements f -/
def zAL (G : ZG) (h : ZH) (t a n : Nat) (f : Nat → Value) : Prop := ∃ (mc : Int32) (ed cap te : Nat) (g : Nat → Value), h a = (t, .inr (9, [.int mc, .ref ed, .int (nI n)])) ∧ h ed = (te, .inl (3, cap, g)) ∧ n ≤ cap ∧ cap < 2 ^ 24 ∧ (∀ k, k < n → g k = f k) ∧ ((te = t ∧ 0 < cap) ∨ (te = 1 ∧ cap = 0 ∧ ed = zS G 1))
theorem zAL.on {G : ZG} {h h' : ZH} {t a n : Nat} {f : Nat → Value} {T : Nat → Prop} (H : zAL G h t a n f) (o : zOn T h h') (ht : 1 < t) (hT : ¬ T t) (h1 : ¬ T 1) : zAL G h' t a n f := by
  obtain ⟨mc, ed, cap, te, g, e1, e2, e3⟩ := H
  refine ⟨mc, ed, cap, te, g, o.at e1 (by omega) hT, o.at e2 ?_ ?_, e3⟩
  · rcases e3.2.2.2 with ⟨z, -⟩ | ⟨z, -⟩ <;> omega
  · rcases e3.2.2.2 with ⟨z, -⟩ | ⟨z, -⟩ <;> rw [z] <;> assumption
theorem zAL.eq {G : ZG} {h : ZH} {t a n : Nat} {f f' : Nat → Value} (H : zAL G h t a n f) (he : ∀ k, k < n → f k = f' k) : zAL G h t a n f' := by
  obtain ⟨mc, ed, cap, te, g, e1, e2, e3, e4, e5, e6⟩ := H
  exact ⟨mc, ed, cap, te, g, e1, e2, e3, e4, fun k hk => (e5 k hk).trans (he k hk), e6⟩
theorem zAL.rc {G : ZG} {h : ZH} {t a n : Nat} {f : Nat → Value} (H : zAL G h t a n f) : ∃ fs, h a = (t, .inr (9, fs)) := by
  obtain ⟨mc, ed, cap, te, g, e1, -⟩ := H
  exact ⟨_, e1⟩
theorem zob.on {h h' : ZH} {v : Value} {T : Nat → Prop} (hv : zob h v) (o : zOn T h h') (hT : ∀ (b tb : Nat) (cb : ZE), v = .ref b → h b = (tb, cb) → ¬ T tb) : zob h' v := by
  rcases hv with rfl | ⟨b, tb, ci, gs, C, T0, N, rfl, hb, htb, hC, hasg⟩
  · exact Or.inl rfl
  · exact Or.inr ⟨b, tb, ci, gs, C, T0, N, rfl, o.at hb htb (hT b tb _ rfl hb), htb, hC, hasg⟩
theorem zb01 {x : Int32} (h : x = 0 ∨ x = 1) : zfits .boolean (.int x) := by
  rcases h with rfl | rfl
  · exact zfits.b0
  · exact zfits.b1

set_option maxHeartbeats 2000000 in
theorem c_J14_checkIndex {l : Launch} {G : ZG} {h : ZH} {a b : Nat} (hab : a < b) (hb : b < 2 ^ 31) : ZM l G yJ14_checkIndex (ws_ yJ14_checkIndex cJ14_checkIndex 3 (Option.some FieldType.int)) (zRm 0 0 0 0) [.int (nI a), .int (nI b), .null] h (fun v h' => v = some (.int (nI a)) ∧ h = h') := by
  refine ZT.zm (ZT.of (by first | exact plainFor_of_name (by decide) | decide +kernel) (Nat.le_of_ble_eq_true rfl) (zcats.i (zcats.i (zcats.r zref.nul zcats.nil))) ?_)
  intro p_ e_ s_ m_ args_ below_ meth_ c_ X hr hlk hin htab
  have X : ZX p_ m_ c_ cJ14_checkIndex 3 s_ args_ "jdk/internal/util/Preconditions" G := X
  refine z_lv (lv' := [(0, .int (nI a)), (1, .int (nI b)), (2, .null)]) (fun _ hq => hq) ?_
  refine z_iload_n X 0 dJ14_checkIndex_0 rfl ?_
  refine z_if_ltN X a 9 dJ14_checkIndex_1 (by decide) rfl (by omega) (fun c1 => ?_) (fun c1 => ?_)
  · exact c1.elim
  refine z_iload_n X 0 dJ14_checkIndex_4 rfl ?_
  refine z_iload_n X 1 dJ14_checkIndex_5 rfl ?_
  refine z_icmp_ltN X a b 16 dJ14_checkIndex_6 (by decide) rfl rfl (by omega) (by omega) (fun c2 => ?_) (fun c2 => ?_)
  rotate_left
  · omega
  refine z_iload_n X 0 dJ14_checkIndex_16 rfl ?_
  exact z_iret X hr hlk dJ14_checkIndex_17 (by first | exact Nat.le_of_ble_eq_true rfl | (dsimp only [zRm]; omega) | omega) (by first | exact Nat.le_of_ble_eq_true rfl | (dsimp only [zRm]; omega) | omega) ⟨rfl, rfl⟩
set_option maxHeartbeats 2000000 in
theorem c_J13_checkIndex {l : Launch} {G : ZG} {h : ZH} {a b : Nat} (hab : a < b) (hb : b < 2 ^ 31) : ZM l G yJ13_checkIndex (ws_ yJ13_checkIndex cJ13_checkIndex 2 (Option.some FieldType.int)) (zRm 1 0 0 22) [.int (nI a), .int (nI b)] h (fun v h' => v = some (.int (nI a)) ∧ h = h') := by
  refine ZT.zm (ZT.of (by first | exact plainFor_of_name (by decide) | decide +kernel) (Nat.le_of_ble_eq_true rfl) (zcats.i (zcats.i zcats.nil)) ?_)
  intro p_ e_ s_ m_ args_ below_ meth_ c_ X hr hlk hin htab
  have X : ZX p_ m_ c_ cJ13_checkIndex 2 s_ args_ "java/util/Objects" G := X
  refine z_lv (lv' := [(0, .int (nI a)), (1, .int (nI b))]) (fun _ hq => hq) ?_
  refine z_iload_n X 0 dJ13_checkIndex_0 rfl ?_
  refine z_iload_n X 1 dJ13_checkIndex_1 rfl ?_
  refine z_null X dJ13_checkIndex_2 ?_
  refine z_callS X (rest := []) (c_J14_checkIndex hab hb) (va_cwS 3 (zXts X) (lw_S q603 q604 q72 q605) rfl rfl rfl (by decide +kernel) ⟨Nat.le_of_ble_eq_true rfl, Nat.le_of_ble_eq_true rfl⟩) rfl (Nat.le_of_ble_eq_true rfl) ⟨(by first | exact Nat.le_of_ble_eq_true rfl | (dsimp only [zRm]; omega)), (by first | exact Nat.le_of_ble_eq_true rfl | (dsimp only [zRm]; omega))⟩ dJ13_checkIndex_3 (fun v3 h4 p5 => ?_)
  obtain ⟨rfl, rfl⟩ := p5
  refine z_st (st' := [.int (nI a)]) rfl ?_
  exact z_iret X hr hlk dJ13_checkIndex_6 (by first | exact Nat.le_of_ble_eq_true rfl | (dsimp only [zRm]; omega) | omega) (by first | exact Nat.le_of_ble_eq_true rfl | (dsimp only [zRm]; omega) | omega) ⟨rfl, rfl⟩
set_option maxHeartbeats 2000000 in
theorem c_J1_init {l : Launch} {G : ZG} {h : ZH} {a : Nat}  : ZM l G yJ1_init (ws_ yJ1_init cJ1_init 1 (Option.none : Option FieldType)) (zRm 1 0 0 12) [.ref a] h (fun v h' => v = none ∧ h = h') := by
  refine ZT.zm (ZT.of (by first | exact plainFor_of_name (by decide) | decide +kernel) (Nat.le_of_ble_eq_true rfl) (zcats.r zref.r zcats.nil) ?_)
  intro p_ e_ s_ m_ args_ below_ meth_ c_ X hr hlk hin htab
  have X : ZX p_ m_ c_ cJ1_init 1 s_ args_ "java/util/AbstractCollection" G := X
  refine z_lv (lv' := [(0, .ref a)]) (fun _ hq => hq) ?_
  refine z_aload_n X 0 dJ1_init_0 zref.r rfl ?_
  refine z_objInit X q121 q95 q96 dJ1_init_1 (by first | exact Nat.le_of_ble_eq_true rfl | (dsimp only [zRm]; omega)) (by first | exact Nat.le_of_ble_eq_true rfl | (dsimp only [zRm]; omega)) ?_
  exact z_vret X hr hlk dJ1_init_4 (by first | exact Nat.le_of_ble_eq_true rfl | (dsimp only [zRm]; omega) | omega) (by first | exact Nat.le_of_ble_eq_true rfl | (dsimp only [zRm]; omega) | omega) ⟨rfl, rfl⟩
set_option maxHeartbeats 2000000 in
theorem c_J2_init {l : Launch} {G : ZG} {h : ZH} {a t : Nat} {x0 : Int32} {v1 v2 : Value} (ha : h a = (t, .inr (9, [.int x0, v1, v2]))) (ht : 1 < t) : ZM l G yJ2_init (ws_ yJ2_init cJ2_init 1 (Option.none : Option FieldType)) (zRm 2 0 0 32) [.ref a] h (fun v h' => v = none ∧ h' = zup h a (t, .inr (9, [.int 0, v1, v2]))) := by
  refine ZT.zm (ZT.of (by first | exact plainFor_of_name (by decide) | decide +kernel) (Nat.le_of_ble_eq_true rfl) (zcats.r zref.r zcats.nil) ?_)
  intro p_ e_ s_ m_ args_ below_ meth_ c_ X hr hlk hin htab
  have X : ZX p_ m_ c_ cJ2_init 1 s_ args_ "java/util/AbstractList" G := X
  refine z_lv (lv' := [(0, .ref a)]) (fun _ hq => hq) ?_
  refine z_aload_n X 0 dJ2_init_0 zref.r rfl ?_
  refine z_callI X (rest := []) c_J1_init (cwI 0 (zXts X) (lw_meth q120) rfl rfl rfl (zXts X _ q51) (zXts X _ q118) (zXts X _ q119) rfl (by decide +kernel) ⟨Nat.le_of_ble_eq_true rfl, Nat.le_of_ble_eq_true rfl⟩) rfl (Nat.le_of_ble_eq_true rfl) ⟨(by first | exact Nat.le_of_ble_eq_true rfl | (dsimp only [zRm]; omega)), (by first | exact Nat.le_of_ble_eq_true rfl | (dsimp only [zRm]; omega))⟩ dJ2_init_1 (fun v6 h7 p8 => ?_)
  obtain ⟨rfl, rfl⟩ := p8
  refine z_st (st' := []) rfl ?_
  refine z_aload_n X 0 dJ2_init_4 zref.r rfl ?_
  refine z_iconst X (nI 0) dJ2_init_5 (by decide) ?_
  refine z_st (st' := [.int 0, .ref a]) rfl ?_
  refine z_put X zP9 0 (by decide) q128 (Or.inl rfl) rfl ha (by omega) (by omega) (zfits.i _) (Nat.le_of_ble_eq_true rfl) rfl dJ2_init_6 ?_
  refine z_nm fun h9 e10 => ?_
  have f11 : h9 a = (t, .inr (9, [.int 0, v1, v2])) := zup_is e10
  exact z_vret X hr hlk dJ2_init_9 (by first | exact Nat.le_of_ble_eq_true rfl | (dsimp only [zRm]; omega) | omega) (by first | exact Nat.le_of_ble_eq_true rfl | (dsimp only [zRm]; omega) | omega) ⟨rfl, e10⟩
set_option maxHeartbeats 2000000 in
theorem c_J3_init {l : Launch} {G : ZG} {h : ZH} {a t : Nat} {x0 x2 : Int32} {v1 : Value} (ha : h a = (t, .inr (9, [.int x0, v1, .int x2]))) (ht : 1 < t) : ZM l G yJ3_init (ws_ yJ3_init cJ3_init 1 (Option.none : Option FieldType)) (zRm 3 0 0 60) [.ref a] h (fun v h' => v = none ∧ h' a = (t, .inr (9, [.int 0, .ref (zS G 1), .int x2])) ∧ zOn (fun t' => t' = t) h h') := by
  refine ZT.zm (ZT.of (by first | exact plainFor_of_name (by decide) | decide +kernel) (Nat.le_of_ble_eq_true rfl) (zcats.r zref.r zcats.nil) ?_)
  intro p_ e_ s_ m_ args_ below_ meth_ c_ X hr hlk hin htab
  have X : ZX p_ m_ c_ cJ3_init 1 s_ args_ "java/util/ArrayList" G := X
  refine z_lv (lv' := [(0, .ref a)]) (fun _ hq => hq) ?_
  refine z_aload_n X 0 dJ3_init_0 zref.r rfl ?_
  refine z_callI X (rest := []) (c_J2_init ha ht) (cwI 0 (zXts X) (lw_meth q117) rfl rfl rfl (zXts X _ q52) (zXts X _ q115) (zXts X _ q116) rfl (by decide +kernel) ⟨Nat.le_of_ble_eq_true rfl, Nat.le_of_ble_eq_true rfl⟩) rfl (Nat.le_of_ble_eq_true rfl) ⟨(by first | exact Nat.le_of_ble_eq_true rfl | (dsimp only [zRm]; omega)), (by first | exact Nat.le_of_ble_eq_true rfl | (dsimp only [zRm]; omega))⟩ dJ3_init_1 (fun v12 h13 p14 => ?_)
  obtain ⟨rfl, e0⟩ := p14
  refine z_st (st' := []) rfl ?_
  have o0 := zOn.up (T := fun t' => t' = t) (h0 := h) zOn.rf e0 ha rfl
  have f0 : h13 a = (t, .inr (9, [.int 0, v1, .int x2])) := zup_is e0
  refine z_aload_n X 0 dJ3_init_4 zref.r rfl ?_
  refine z_gets X (C := "java/util/ArrayList") (n := "DEFAULTCAPACITY_EMPTY_ELEMENTDATA") (d := "[Ljava/lang/Object;") (v := .ref (zS G 1)) (List.mem_of_getElem? (i := 6) rfl) q122 (Or.inl rfl) dJ3_init_5 ?_
  refine z_put X zP9 1 (by decide) q124 (Or.inl rfl) rfl f0 (by omega) (by omega) (zfits.a zref.r) (Nat.le_of_ble_eq_true rfl) rfl dJ3_init_8 ?_
  refine z_nm fun h15 e16 => ?_
  have o17 := zOn.up o0 e16 f0 (by first | exact rfl | omega | simp)
  have f18 : h15 a = (t, .inr (9, [.int 0, .ref (zS G 1), .int x2])) := zup_is e16
  exact z_vret X hr hlk dJ3_init_11 (by first | exact Nat.le_of_ble_eq_true rfl | (dsimp only [zRm]; omega) | omega) (by first | exact Nat.le_of_ble_eq_true rfl | (dsimp only [zRm]; omega) | omega) ⟨rfl, f18, o17⟩
set_option maxHeartbeats 2000000 in
theorem c_J3_size {l : Launch} {G : ZG} {h : ZH} {t a n : Nat} {f : Nat → Value} (hA : zAL G h t a n f) (ht : 1 < t) : ZM l G yJ3_size (ws_ yJ3_size cJ3_size 1 (Option.some FieldType.int)) (zRm 0 0 0 0) [.ref a] h (fun v h' => v = some (.int (nI n)) ∧ h = h') := by
  refine ZT.zm (ZT.of (by first | exact plainFor_of_name (by decide) | decide +kernel) (Nat.le_of_ble_eq_true rfl) (zcats.r zref.r zcats.nil) ?_)
  intro p_ e_ s_ m_ args_ below_ meth_ c_ X hr hlk hin htab
  have X : ZX p_ m_ c_ cJ3_size 1 s_ args_ "java/util/ArrayList" G := X
  refine z_lv (lv' := [(0, .ref a)]) (fun _ hq => hq) ?_
  obtain ⟨mc, ed, cap, te, g, e1, e2, e3, e4, e5, e6⟩ := hA
  refine z_aload_n X 0 dJ3_size_0 zref.r rfl ?_
  refine z_get X zP9 2 (by decide) q127 (Or.inl rfl) e1 (by omega) rfl dJ3_size_1 ?_
  exact z_iret X hr hlk dJ3_size_4 (by first | exact Nat.le_of_ble_eq_true rfl | (dsimp only [zRm]; omega) | omega) (by first | exact Nat.le_of_ble_eq_true rfl | (dsimp only [zRm]; omega) | omega) ⟨rfl, rfl⟩
set_option maxHeartbeats 2000000 in
theorem c_J3_elementData {l : Launch} {G : ZG} {h : ZH} {t a n i : Nat} {f : Nat → Value} (hA : zAL G h t a n f) (ht : 1 < t) (hi : i < n) (hv : zref (f i)) : ZM l G yJ3_elementData (ws_ yJ3_elementData cJ3_elementData 2 (Option.some (FieldType.object "java/lang/Object"))) (zRm 0 0 0 0) [.ref a, .int (nI i)] h (fun v h' => v = some (f i) ∧ h = h') := by
  refine ZT.zm (ZT.of (by first | exact plainFor_of_name (by decide) | decide +kernel) (Nat.le_of_ble_eq_true rfl) (zcats.r zref.r (zcats.i zcats.nil)) ?_)
  intro p_ e_ s_ m_ args_ below_ meth_ c_ X hr hlk hin htab
  have X : ZX p_ m_ c_ cJ3_elementData 2 s_ args_ "java/util/ArrayList" G := X
  refine z_lv (lv' := [(0, .ref a), (1, .int (nI i))]) (fun _ hq => hq) ?_
  obtain ⟨mc, ed, cap, te, g, e1, e2, e3, e4, e5, e6⟩ := hA
  have hte : 0 < te := by rcases e6 with ⟨z, -⟩ | ⟨z, -⟩ <;> omega
  refine z_aload_n X 0 dJ3_elementData_0 zref.r rfl ?_
  refine z_get X zP9 1 (by decide) q124 (Or.inl rfl) e1 (by omega) rfl dJ3_elementData_1 ?_
  refine z_iload_n X 1 dJ3_elementData_4 rfl ?_
  refine z_aald X (v := f i) i e2 (ty := .object "java/lang/Object") rfl rfl (by omega) rfl (by omega) (by first | decide | omega) (e5 i hi) dJ3_elementData_5 ?_
  exact z_aret X hr (by first | exact Or.inl ⟨_, rfl⟩ | exact Or.inr ⟨_, rfl⟩) hlk hv dJ3_elementData_6 (by first | exact Nat.le_of_ble_eq_true rfl | (dsimp only [zRm]; omega) | omega) (by first | exact Nat.le_of_ble_eq_true rfl | (dsimp only [zRm]; omega) | omega) ⟨rfl, rfl⟩
set_option maxHeartbeats 2000000 in
theorem c_J3_get {l : Launch} {G : ZG} {h : ZH} {t a n i : Nat} {f : Nat → Value} (hA : zAL G h t a n f) (ht : 1 < t) (hi : i < n) (hv : zref (f i)) : ZM l G yJ3_get (ws_ yJ3_get cJ3_get 2 (Option.some (FieldType.object "java/lang/Object"))) (zRm 2 0 0 44) [.ref a, .int (nI i)] h (fun v h' => v = some (f i) ∧ h = h') := by
  refine ZT.zm (ZT.of (by first | exact plainFor_of_name (by decide) | decide +kernel) (Nat.le_of_ble_eq_true rfl) (zcats.r zref.r (zcats.i zcats.nil)) ?_)
  intro p_ e_ s_ m_ args_ below_ meth_ c_ X hr hlk hin htab
  have X : ZX p_ m_ c_ cJ3_get 2 s_ args_ "java/util/ArrayList" G := X
  refine z_lv (lv' := [(0, .ref a), (1, .int (nI i))]) (fun _ hq => hq) ?_
  obtain ⟨mc, ed, cap, te, g, e1, e2, e3, e4, e5, e6⟩ := id hA
  refine z_iload_n X 1 dJ3_get_0 rfl ?_
  refine z_aload_n X 0 dJ3_get_1 zref.r rfl ?_
  refine z_get X zP9 2 (by decide) q127 (Or.inl rfl) e1 (by omega) rfl dJ3_get_2 ?_
  refine z_callS X (rest := []) (c_J13_checkIndex hi (by omega)) (va_cwS 2 (zXts X) (lw_S q600 q601 q71 q602) rfl rfl rfl (by decide +kernel) ⟨Nat.le_of_ble_eq_true rfl, Nat.le_of_ble_eq_true rfl⟩) rfl (Nat.le_of_ble_eq_true rfl) ⟨(by first | exact Nat.le_of_ble_eq_true rfl | (dsimp only [zRm]; omega)), (by first | exact Nat.le_of_ble_eq_true rfl | (dsimp only [zRm]; omega))⟩ dJ3_get_5 (fun v19 h20 p21 => ?_)
  obtain ⟨rfl, rfl⟩ := p21
  refine z_st (st' := [.int (nI i)]) rfl ?_
  refine z_pop X dJ3_get_8 rfl ?_
  refine z_aload_n X 0 dJ3_get_9 zref.r rfl ?_
  refine z_iload_n X 1 dJ3_get_10 rfl ?_
  refine z_callV X (rest := []) (c_J3_elementData hA ht hi hv) (cwV 1 (zXts X) (lw_V q606 q607 q608 q53 q609) rfl rfl rfl (by decide +kernel) ⟨Nat.le_of_ble_eq_true rfl, Nat.le_of_ble_eq_true rfl⟩) e1 (by omega) rfl rfl (Nat.le_of_ble_eq_true rfl) ⟨(by first | exact Nat.le_of_ble_eq_true rfl | (dsimp only [zRm]; omega)), (by first | exact Nat.le_of_ble_eq_true rfl | (dsimp only [zRm]; omega))⟩ dJ3_get_11 (fun v22 h23 p24 => ?_)
  obtain ⟨rfl, rfl⟩ := p24
  refine z_st (st' := [f i]) rfl ?_
  exact z_aret X hr (by first | exact Or.inl ⟨_, rfl⟩ | exact Or.inr ⟨_, rfl⟩) hlk hv dJ3_get_14 (by first | exact Nat.le_of_ble_eq_true rfl | (dsimp only [zRm]; omega) | omega) (by first | exact Nat.le_of_ble_eq_true rfl | (dsimp only [zRm]; omega) | omega) ⟨rfl, rfl⟩
set_option maxHeartbeats 2000000 in
theorem c_J10_newLength {l : Launch} {G : ZG} {h : ZH} {i j k : Nat} (ha : i < 2 ^ 25) (hb : j < 2 ^ 25) (hc : k < 2 ^ 25) (h0 : 0 < i + max j k) : ZM l G yJ10_newLength (ws_ yJ10_newLength cJ10_newLength 4 (Option.some FieldType.int)) (zRm 1 0 0 20) [.int (nI i), .int (nI j), .int (nI k)] h (fun v h' => v = some (.int (nI (i + max j k))) ∧ h = h') := by
  refine ZT.zm (ZT.of (by first | exact plainFor_of_name (by decide) | decide +kernel) (Nat.le_of_ble_eq_true rfl) (zcats.i (zcats.i (zcats.i zcats.nil))) ?_)
  intro p_ e_ s_ m_ args_ below_ meth_ c_ X hr hlk hin htab
  have X : ZX p_ m_ c_ cJ10_newLength 4 s_ args_ "jdk/internal/util/ArraysSupport" G := X
  refine z_lv (lv' := [(0, .int (nI i)), (1, .int (nI j)), (2, .int (nI k))]) (fun _ hq => hq) ?_
  have hmx : max j k < 2 ^ 25 := by omega
  refine z_iload_n X 0 dJ10_newLength_0 rfl ?_
  refine z_iload_n X 1 dJ10_newLength_1 rfl ?_
  refine z_iload_n X 2 dJ10_newLength_2 rfl ?_
  refine z_mmax X q537 (a := j) (b := k) rfl rfl (by omega) (by omega) (by first | exact Nat.le_of_ble_eq_true rfl | (dsimp only [zRm]; omega)) (by first | exact Nat.le_of_ble_eq_true rfl | (dsimp only [zRm]; omega)) (by first | exact Nat.le_of_ble_eq_true rfl | (dsimp only [zRm]; omega)) (by first | exact Nat.le_of_ble_eq_true rfl | (dsimp only [zRm]; omega)) dJ10_newLength_3 ?_
  refine z_iadd X (nI (i + (max j k))) dJ10_newLength_6 (nI_add _ _) ?_
  refine z_istore_n X (lv' := [(3, .int (nI (i + (max j k)))), (0, .int (nI i)), (1, .int (nI j)), (2, .int (nI k))]) dJ10_newLength_7 (by decide) rfl ?_
  refine z_iconst X (nI 0) dJ10_newLength_8 (by decide) ?_
  refine z_iload_n X 0 dJ10_newLength_9 rfl ?_
  refine z_icmp_geN X 0 (i + (max j k)) 21 dJ10_newLength_10 (by decide) rfl rfl (by omega) (by omega) (fun c25 => ?_) (fun c25 => ?_)
  · omega
  refine z_iload_n X 0 dJ10_newLength_13 rfl ?_
  refine z_ldc X q540 dJ10_newLength_14 ?_
  refine z_st (st' := [.int (nI 2147483639), .int (nI (i + (max j k)))]) (by rw [show (2147483639 : Int32) = nI 2147483639 from by decide]) ?_
  refine z_icmp_gtN X (i + (max j k)) 2147483639 21 dJ10_newLength_16 (by decide) rfl rfl (by omega) (by omega) (fun c26 => ?_) (fun c26 => ?_)
  · omega
  refine z_iload_n X 0 dJ10_newLength_19 rfl ?_
  exact z_iret X hr hlk dJ10_newLength_20 (by first | exact Nat.le_of_ble_eq_true rfl | (dsimp only [zRm]; omega) | omega) (by first | exact Nat.le_of_ble_eq_true rfl | (dsimp only [zRm]; omega) | omega) ⟨rfl, rfl⟩
set_option maxHeartbeats 2000000 in
theorem c_J12_copyOf_2 {l : Launch} {G : ZG} {h : ZH} (t : Nat) {ed te cap N : Nat} {g : Nat → Value} (e2 : h ed = (te, .inl (3, cap, g))) (hte : 0 < te) (hcap : cap ≤ N) (hN : N < 2 ^ 25) (hob : ∀ i, i < cap → zob h (g i)) (ht : 1 < t) : ZM l G yJ12_copyOf_2 (ws_ yJ12_copyOf_2 cJ12_copyOf_2 4 (Option.some (FieldType.array (FieldType.object "java/lang/Object")))) (zRm 1 1 N 60) [.ref ed, .int (nI N), .ref (zS G 3)] h (fun v h' => ∃ (q : Nat) (g' : Nat → Value), v = some (.ref q) ∧ h' q = (t, .inl (3, N, g')) ∧ (∀ k, k < cap → g' k = g k) ∧ zOn (fun _ => False) h h' ∧ (h q).1 = 0) := by
  refine ZT.zm (ZT.of (by first | exact plainFor_of_name (by decide) | decide +kernel) (Nat.le_of_ble_eq_true rfl) (zcats.r zref.r (zcats.i (zcats.r zref.r zcats.nil))) ?_)
  intro p_ e_ s_ m_ args_ below_ meth_ c_ X hr hlk hin htab
  have X : ZX p_ m_ c_ cJ12_copyOf_2 4 s_ args_ "java/util/Arrays" G := X
  refine z_lv (lv' := [(0, .ref ed), (1, .int (nI N)), (2, .ref (zS G 3))]) (fun _ hq => hq) ?_
  refine z_aload_n X 2 dJ12_copyOf_2_0 zref.r rfl ?_
  refine z_ldcM X q577 dJ12_copyOf_2_1 ?_
  refine z_acmp_ne X 13 dJ12_copyOf_2_3 (by decide) zref.r zref.r (fun c27 => ?_) (fun c27 => ?_)
  · exact absurd rfl c27
  refine z_iload_n X 1 dJ12_copyOf_2_6 rfl ?_
  refine z_anew X 3 rfl (by decide) t (by omega) (f := (fun _ => .null)) (fun _ => rfl) (by decide) q579 N rfl (by first | decide | omega) (by first | exact Nat.le_of_ble_eq_true rfl | (dsimp only [zRm]; omega)) (by first | exact Nat.le_of_ble_eq_true rfl | (dsimp only [zRm]; omega)) dJ12_copyOf_2_7 fun q n28 => ?_
  refine z_nm fun h29 e30 => ?_
  have o31 := zOn.new (zOn.rf (T := fun _ => False) (h := h)) e30 n28
  have f32 : h29 ed = (te, .inl (3, cap, g)) := zup_o0 e30 n28 e2 (by omega)
  have f33 : h29 q = (t, .inl (3, N, (fun _ => .null))) := zup_is e30
  refine z_goto X 24 dJ12_copyOf_2_10 (by decide) ?_
  refine z_astore_n X (lv' := [(3, .ref q), (0, .ref ed), (1, .int (nI N)), (2, .ref (zS G 3))]) dJ12_copyOf_2_24 zref.r (by decide) rfl ?_
  refine z_aload_n X 1 dJ12_copyOf_2_25 zref.r rfl ?_
  refine z_iconst X (nI 0) dJ12_copyOf_2_26 (by decide) ?_
  refine z_aload_n X 0 dJ12_copyOf_2_27 zref.r rfl ?_
  refine z_iconst X (nI 0) dJ12_copyOf_2_28 (by decide) ?_
  refine z_aload_n X 1 dJ12_copyOf_2_29 zref.r rfl ?_
  refine z_alen X f32 (ty := .object "java/lang/Object") rfl (by omega) dJ12_copyOf_2_30 ?_
  refine z_iload_n X 2 dJ12_copyOf_2_31 rfl ?_
  refine z_mmin X q580 (a := cap) (b := N) rfl rfl (by omega) (by omega) (by first | exact Nat.le_of_ble_eq_true rfl | (dsimp only [zRm]; omega)) (by first | exact Nat.le_of_ble_eq_true rfl | (dsimp only [zRm]; omega)) (by first | exact Nat.le_of_ble_eq_true rfl | (dsimp only [zRm]; omega)) (by first | exact Nat.le_of_ble_eq_true rfl | (dsimp only [zRm]; omega)) dJ12_copyOf_2_32 ?_
  rw [Nat.min_eq_left hcap]
  refine z_st (st' := [.int (nI cap), .int 0, .ref q, .int 0, .ref ed]) rfl ?_
  refine z_copyO X (g' := fun k => if k < cap then g k else .null) cap q583 f32 f33 (by omega) ht rfl (by omega) (by omega) (by omega) (fun i hi => (hob i hi).on o31 (fun _ _ _ _ _ z => z)) (fun _ _ => rfl) (by first | exact Nat.le_of_ble_eq_true rfl | (dsimp only [zRm]; omega)) (by first | exact Nat.le_of_ble_eq_true rfl | (dsimp only [zRm]; omega)) dJ12_copyOf_2_35 ?_
  refine z_nm fun h34 e35 => ?_
  refine z_aload_n X 0 dJ12_copyOf_2_38 zref.r rfl ?_
  exact z_aret X hr (by first | exact Or.inl ⟨_, rfl⟩ | exact Or.inr ⟨_, rfl⟩) hlk zref.r dJ12_copyOf_2_39 (by first | exact Nat.le_of_ble_eq_true rfl | (dsimp only [zRm]; omega) | omega) (by first | exact Nat.le_of_ble_eq_true rfl | (dsimp only [zRm]; omega) | omega) ⟨q, _, rfl, zup_is e35, fun k hk => if_pos hk, fun b hb _ => by rw [e35, zup_n (fun z => hb (by rw [z]; exact n28)), o31 b hb (fun z => z)], n28⟩
set_option maxHeartbeats 2000000 in
theorem c_J12_copyOf {l : Launch} {G : ZG} {h : ZH} (t : Nat) {ed te cap N : Nat} {g : Nat → Value} (e2 : h ed = (te, .inl (3, cap, g))) (hte : 0 < te) (hcap : cap ≤ N) (hN : N < 2 ^ 25) (hob : ∀ i, i < cap → zob h (g i)) (ht : 1 < t) : ZM l G yJ12_copyOf (ws_ yJ12_copyOf cJ12_copyOf 2 (Option.some (FieldType.array (FieldType.object "java/lang/Object")))) (zRm 2 1 N 90) [.ref ed, .int (nI N)] h (fun v h' => ∃ (q : Nat) (g' : Nat → Value), v = some (.ref q) ∧ h' q = (t, .inl (3, N, g')) ∧ (∀ k, k < cap → g' k = g k) ∧ zOn (fun _ => False) h h' ∧ (h q).1 = 0) := by
  refine ZT.zm (ZT.of (by first | exact plainFor_of_name (by decide) | decide +kernel) (Nat.le_of_ble_eq_true rfl) (zcats.r zref.r (zcats.i zcats.nil)) ?_)
  intro p_ e_ s_ m_ args_ below_ meth_ c_ X hr hlk hin htab
  have X : ZX p_ m_ c_ cJ12_copyOf 2 s_ args_ "java/util/Arrays" G := X
  refine z_lv (lv' := [(0, .ref ed), (1, .int (nI N))]) (fun _ hq => hq) ?_
  refine z_aload_n X 0 dJ12_copyOf_0 zref.r rfl ?_
  refine z_iload_n X 1 dJ12_copyOf_1 rfl ?_
  refine z_aload_n X 0 dJ12_copyOf_2 zref.r rfl ?_
  refine z_getC X q547 e2 (by omega) (by first | exact Nat.le_of_ble_eq_true rfl | (dsimp only [zRm]; omega)) (by first | exact Nat.le_of_ble_eq_true rfl | (dsimp only [zRm]; omega)) dJ12_copyOf_3 ?_
  refine z_callS X (rest := []) (c_J12_copyOf_2 t e2 hte hcap hN hob ht) (va_cwS 3 (zXts X) (lw_S q574 q575 q69 q576) rfl rfl rfl (by decide +kernel) ⟨Nat.le_of_ble_eq_true rfl, Nat.le_of_ble_eq_true rfl⟩) rfl (Nat.le_of_ble_eq_true rfl) ⟨(by first | exact Nat.le_of_ble_eq_true rfl | (dsimp only [zRm]; omega)), (by first | exact Nat.le_of_ble_eq_true rfl | (dsimp only [zRm]; omega))⟩ dJ12_copyOf_6 (fun v36 h37 p38 => ?_)
  obtain ⟨q, g9, rfl, p1, p2, p3, p4⟩ := p38
  refine z_st (st' := [.ref q]) rfl ?_
  exact z_aret X hr (by first | exact Or.inl ⟨_, rfl⟩ | exact Or.inr ⟨_, rfl⟩) hlk zref.r dJ12_copyOf_9 (by first | exact Nat.le_of_ble_eq_true rfl | (dsimp only [zRm]; omega) | omega) (by first | exact Nat.le_of_ble_eq_true rfl | (dsimp only [zRm]; omega) | omega) ⟨q, g9, rfl, p1, p2, p3, p4⟩
set_option maxHeartbeats 2000000 in
theorem c_J3_grow_2 {l : Launch} {G : ZG} {h : ZH} {t a n ed te : Nat} {mc : Int32} {g : Nat → Value} (e1 : h a = (t, .inr (9, [.int mc, .ref ed, .int (nI n)]))) (e2 : h ed = (te, .inl (3, n, g))) (hn : n < 2 ^ 20) (e6 : (te = t ∧ 0 < n) ∨ (te = 1 ∧ n = 0 ∧ ed = zS G 1)) (ht : 1 < t) (hob : ∀ i, i < n → zob h (g i)) : ZM l G yJ3_grow_2 (ws_ yJ3_grow_2 cJ3_grow_2 4 (Option.some (FieldType.array (FieldType.object "java/lang/Object")))) (zRm 3 1 (2 * n + 10) 130) [.ref a, .int (nI (n + 1))] h (fun v h' => ∃ (ed' cap' : Nat) (g' : Nat → Value), v = some (.ref ed') ∧ h' a = (t, .inr (9, [.int mc, .ref ed', .int (nI n)])) ∧ h' ed' = (t, .inl (3, cap', g')) ∧ n < cap' ∧ cap' ≤ 2 * n + 10 ∧ (∀ k, k < n → g' k = g k) ∧ zOn (fun t' => t' = t) h h' ∧ (h ed').1 = 0) := by
  refine ZT.zm (ZT.of (by first | exact plainFor_of_name (by decide) | decide +kernel) (Nat.le_of_ble_eq_true rfl) (zcats.r zref.r (zcats.i zcats.nil)) ?_)
  intro p_ e_ s_ m_ args_ below_ meth_ c_ X hr hlk hin htab
  have X : ZX p_ m_ c_ cJ3_grow_2 4 s_ args_ "java/util/ArrayList" G := X
  refine z_lv (lv' := [(0, .ref a), (1, .int (nI (n + 1)))]) (fun _ hq => hq) ?_
  have hte : 0 < te := by rcases e6 with ⟨z, -⟩ | ⟨z, -⟩ <;> omega
  refine z_aload_n X 0 dJ3_grow_2_0 zref.r rfl ?_
  refine z_get X zP9 1 (by decide) q124 (Or.inl rfl) e1 (by omega) rfl dJ3_grow_2_1 ?_
  refine z_alen X e2 (ty := .object "java/lang/Object") rfl (by omega) dJ3_grow_2_4 ?_
  refine z_istore_n X (lv' := [(2, .int (nI n)), (0, .ref a), (1, .int (nI (n + 1)))]) dJ3_grow_2_5 (by decide) rfl ?_
  refine z_iload_n X 0 dJ3_grow_2_6 rfl ?_
  refine z_if_gtN X n 20 dJ3_grow_2_7 (by decide) rfl (by omega) (fun c39 => ?_) (fun c39 => ?_)
  · refine z_iload_n X 0 dJ3_grow_2_20 rfl ?_
    refine z_iload_n X 2 dJ3_grow_2_21 rfl ?_
    refine z_iload_n X 0 dJ3_grow_2_22 rfl ?_
    refine z_isub X (nI ((n + 1) - n)) dJ3_grow_2_23 (pk_sub (by omega)) ?_
    refine z_iload_n X 0 dJ3_grow_2_24 rfl ?_
    refine z_iconst X (nI 1) dJ3_grow_2_25 (by decide) ?_
    refine z_ishr X ((nI n) >>> ((nI 1) &&& 31)) dJ3_grow_2_26 rfl ?_
    have hsh : nI n >>> (nI 1 &&& 31) = nI (n / 2) := pk_shrN (by omega) _ 1 (by decide)
    rw [hsh]
    refine z_st (st' := [.int (nI (n / 2)), .int (nI 1), .int (nI n)]) (by rw [show n + 1 - n = 1 from by omega]) ?_
    refine z_callS X (rest := []) (c_J10_newLength (i := n) (j := 1) (k := n / 2) (by omega) (by omega) (by omega) (by omega)) (va_cwS 3 (zXts X) (lw_S q534 q535 q67 q536) rfl rfl rfl (by decide +kernel) ⟨Nat.le_of_ble_eq_true rfl, Nat.le_of_ble_eq_true rfl⟩) rfl (Nat.le_of_ble_eq_true rfl) ⟨(by first | exact Nat.le_of_ble_eq_true rfl | (dsimp only [zRm]; omega)), (by first | exact Nat.le_of_ble_eq_true rfl | (dsimp only [zRm]; omega))⟩ dJ3_grow_2_27 (fun v40 h41 p42 => ?_)
    obtain ⟨rfl, rfl⟩ := p42
    refine z_st (st' := [.int (nI (n + max 1 (n / 2)))]) rfl ?_
    obtain ⟨N, hN⟩ : ∃ N, N = n + max 1 (n / 2) := ⟨_, rfl⟩
    rw [← hN]
    refine z_istore_n X (lv' := [(3, .int (nI N)), (2, .int (nI n)), (0, .ref a), (1, .int (nI (n + 1)))]) dJ3_grow_2_30 (by decide) rfl ?_
    refine z_aload_n X 2 dJ3_grow_2_31 zref.r rfl ?_
    refine z_aload_n X 2 dJ3_grow_2_32 zref.r rfl ?_
    refine z_get X zP9 1 (by decide) q124 (Or.inl rfl) e1 (by omega) rfl dJ3_grow_2_33 ?_
    refine z_iload_n X 0 dJ3_grow_2_36 rfl ?_
    refine z_callS X (rest := [.ref a]) (c_J12_copyOf t e2 hte (N := N) (by omega) (by omega) hob ht) (va_cwS 2 (zXts X) (lw_S q544 q545 q69 q546) rfl rfl rfl (by decide +kernel) ⟨Nat.le_of_ble_eq_true rfl, Nat.le_of_ble_eq_true rfl⟩) rfl (Nat.le_of_ble_eq_true rfl) ⟨(by first | exact Nat.le_of_ble_eq_true rfl | (dsimp only [zRm]; omega)), (by first | exact Nat.le_of_ble_eq_true rfl | (dsimp only [zRm]; omega))⟩ dJ3_grow_2_37 (fun v43 h44 p45 => ?_)
    obtain ⟨q, g9, rfl, p1, p2, p3, p4⟩ := p45
    refine z_st (st' := [.ref q, .ref a]) rfl ?_
    have f46 : h44 a = (t, .inr (9, [.int mc, .ref ed, .int (nI n)])) := zOn.at p3 e1 (by omega) (fun z => z)
    have o47 := zOn.trans (zOn.rf (T := fun t' => t' = t) (h := h)) (zOn.mono p3 (by intro t ht; first | exact ht | omega | simp_all))
    refine z_dup_x1 X dJ3_grow_2_40 rfl rfl ?_
    refine z_put X zP9 1 (by decide) q124 (Or.inl rfl) rfl f46 (by omega) (by omega) (zfits.a zref.r) (Nat.le_of_ble_eq_true rfl) rfl dJ3_grow_2_41 ?_
    refine z_nm fun h48 e49 => ?_
    have o50 := zOn.up o47 e49 f46 (by first | exact rfl | omega | simp)
    have f51 : h48 q = (t, .inl (3, N, g9)) := zup_oa e49 p1 (by intro z9; rw [z9] at p4; rw [e1] at p4; simp at p4; omega)
    have f52 : h48 a = (t, .inr (9, [.int mc, .ref q, .int (nI n)])) := zup_is e49
    exact z_aret X hr (by first | exact Or.inl ⟨_, rfl⟩ | exact Or.inr ⟨_, rfl⟩) hlk zref.r dJ3_grow_2_44 (by first | exact Nat.le_of_ble_eq_true rfl | (dsimp only [zRm]; omega) | omega) (by first | exact Nat.le_of_ble_eq_true rfl | (dsimp only [zRm]; omega) | omega) ⟨q, N, g9, rfl, f52, f51, by omega, by omega, p2, o50, p4⟩
  · refine z_aload_n X 1 dJ3_grow_2_10 zref.r rfl ?_
    refine z_get X zP9 1 (by decide) q124 (Or.inl rfl) e1 (by omega) rfl dJ3_grow_2_11 ?_
    refine z_gets X (C := "java/util/ArrayList") (n := "DEFAULTCAPACITY_EMPTY_ELEMENTDATA") (d := "[Ljava/lang/Object;") (v := .ref (zS G 1)) (List.mem_of_getElem? (i := 6) rfl) q122 (Or.inl rfl) dJ3_grow_2_14 ?_
    rcases e6 with ⟨-, z⟩ | ⟨he, hn0, hed⟩
    · exact absurd c39 (by omega)
    refine z_acmp_eq X 45 dJ3_grow_2_17 (by decide) zref.r zref.r (fun c53 => ?_) (fun c53 => ?_)
    rotate_left
    · exact absurd (by rw [hed]) c53
    refine z_aload_n X 1 dJ3_grow_2_45 zref.r rfl ?_
    refine z_bipush X (nI 10) dJ3_grow_2_46 (by decide) ?_
    refine z_iload_n X 2 dJ3_grow_2_48 rfl ?_
    refine z_mmax X q586 (a := 10) (b := n + 1) rfl rfl (by omega) (by omega) (by first | exact Nat.le_of_ble_eq_true rfl | (dsimp only [zRm]; omega)) (by first | exact Nat.le_of_ble_eq_true rfl | (dsimp only [zRm]; omega)) (by first | exact Nat.le_of_ble_eq_true rfl | (dsimp only [zRm]; omega)) (by first | exact Nat.le_of_ble_eq_true rfl | (dsimp only [zRm]; omega)) dJ3_grow_2_49 ?_
    refine z_st (st' := [.int (nI 10), .ref a]) (by rw [show max 10 (n + 1) = 10 from by omega]) ?_
    refine z_anew X 3 rfl (by decide) t (by omega) (f := (fun _ => .null)) (fun _ => rfl) (by decide) q587 10 rfl (by first | decide | omega) (by first | exact Nat.le_of_ble_eq_true rfl | (dsimp only [zRm]; omega)) (by first | exact Nat.le_of_ble_eq_true rfl | (dsimp only [zRm]; omega)) dJ3_grow_2_52 fun q n54 => ?_
    refine z_nm fun h55 e56 => ?_
    have o57 := zOn.new (zOn.rf (T := fun t' => t' = t) (h := h)) e56 n54
    have f58 : h55 a = (t, .inr (9, [.int mc, .ref ed, .int (nI n)])) := zup_o0 e56 n54 e1 (by omega)
    have f59 : h55 ed = (te, .inl (3, n, g)) := zup_o0 e56 n54 e2 (by omega)
    have f60 : h55 q = (t, .inl (3, 10, (fun _ => .null))) := zup_is e56
    refine z_dup_x1 X dJ3_grow_2_55 rfl rfl ?_
    refine z_put X zP9 1 (by decide) q124 (Or.inl rfl) rfl f58 (by omega) (by omega) (zfits.a zref.r) (Nat.le_of_ble_eq_true rfl) rfl dJ3_grow_2_56 ?_
    refine z_nm fun h61 e62 => ?_
    have o63 := zOn.up o57 e62 f58 (by first | exact rfl | omega | simp)
    have f64 : h61 ed = (te, .inl (3, n, g)) := zup_ot e62 f58 f59 (by omega)
    have f65 : h61 q = (t, .inl (3, 10, (fun _ => .null))) := zup_oa e62 f60 (by intro z9; rw [z9] at n54; rw [e1] at n54; simp at n54; omega)
    have f66 : h61 a = (t, .inr (9, [.int mc, .ref q, .int (nI n)])) := zup_is e62
    exact z_aret X hr (by first | exact Or.inl ⟨_, rfl⟩ | exact Or.inr ⟨_, rfl⟩) hlk zref.r dJ3_grow_2_59 (by first | exact Nat.le_of_ble_eq_true rfl | (dsimp only [zRm]; omega) | omega) (by first | exact Nat.le_of_ble_eq_true rfl | (dsimp only [zRm]; omega) | omega) ⟨q, 10, _, rfl, f66, f65, by omega, by omega, fun k hk => absurd hk (by omega), o63, n54⟩
set_option maxHeartbeats 2000000 in
theorem c_J3_grow {l : Launch} {G : ZG} {h : ZH} {t a n ed te : Nat} {mc : Int32} {g : Nat → Value} (e1 : h a = (t, .inr (9, [.int mc, .ref ed, .int (nI n)]))) (e2 : h ed = (te, .inl (3, n, g))) (hn : n < 2 ^ 20) (e6 : (te = t ∧ 0 < n) ∨ (te = 1 ∧ n = 0 ∧ ed = zS G 1)) (ht : 1 < t) (hob : ∀ i, i < n → zob h (g i)) : ZM l G yJ3_grow (ws_ yJ3_grow cJ3_grow 1 (Option.some (FieldType.array (FieldType.object "java/lang/Object")))) (zRm 4 1 (2 * n + 10) 160) [.ref a] h (fun v h' => ∃ (ed' cap' : Nat) (g' : Nat → Value), v = some (.ref ed') ∧ h' a = (t, .inr (9, [.int mc, .ref ed', .int (nI n)])) ∧ h' ed' = (t, .inl (3, cap', g')) ∧ n < cap' ∧ cap' ≤ 2 * n + 10 ∧ (∀ k, k < n → g' k = g k) ∧ zOn (fun t' => t' = t) h h' ∧ (h ed').1 = 0) := by
  refine ZT.zm (ZT.of (by first | exact plainFor_of_name (by decide) | decide +kernel) (Nat.le_of_ble_eq_true rfl) (zcats.r zref.r zcats.nil) ?_)
  intro p_ e_ s_ m_ args_ below_ meth_ c_ X hr hlk hin htab
  have X : ZX p_ m_ c_ cJ3_grow 1 s_ args_ "java/util/ArrayList" G := X
  refine z_lv (lv' := [(0, .ref a)]) (fun _ hq => hq) ?_
  refine z_aload_n X 0 dJ3_grow_0 zref.r rfl ?_
  refine z_aload_n X 0 dJ3_grow_1 zref.r rfl ?_
  refine z_get X zP9 2 (by decide) q127 (Or.inl rfl) e1 (by omega) rfl dJ3_grow_2 ?_
  refine z_iconst X (nI 1) dJ3_grow_5 (by decide) ?_
  refine z_iadd X (nI (n + 1)) dJ3_grow_6 (nI_add _ _) ?_
  refine z_callV X (rest := []) (c_J3_grow_2 e1 e2 hn e6 ht hob) (cwV 1 (zXts X) (lw_V q530 q532 qs4 q53 q533) rfl rfl rfl (by decide +kernel) ⟨Nat.le_of_ble_eq_true rfl, Nat.le_of_ble_eq_true rfl⟩) e1 (by omega) rfl rfl (Nat.le_of_ble_eq_true rfl) ⟨(by first | exact Nat.le_of_ble_eq_true rfl | (dsimp only [zRm]; omega)), (by first | exact Nat.le_of_ble_eq_true rfl | (dsimp only [zRm]; omega))⟩ dJ3_grow_7 (fun v67 h68 p69 => ?_)
  obtain ⟨ed9, cap9, g9, rfl, p1⟩ := p69
  refine z_st (st' := [.ref ed9]) rfl ?_
  exact z_aret X hr (by first | exact Or.inl ⟨_, rfl⟩ | exact Or.inr ⟨_, rfl⟩) hlk zref.r dJ3_grow_10 (by first | exact Nat.le_of_ble_eq_true rfl | (dsimp only [zRm]; omega) | omega) (by first | exact Nat.le_of_ble_eq_true rfl | (dsimp only [zRm]; omega) | omega) ⟨ed9, cap9, g9, rfl, p1⟩
set_option maxHeartbeats 2000000 in
theorem c_J3_add_2 {l : Launch} {G : ZG} {h : ZH} {t a n ed te cap : Nat} {mc : Int32} {g : Nat → Value} {v : Value} (e1 : h a = (t, .inr (9, [.int mc, .ref ed, .int (nI n)]))) (e2 : h ed = (te, .inl (3, cap, g))) (e3 : n ≤ cap) (e4 : cap < 2 ^ 24) (e6 : (te = t ∧ 0 < cap) ∨ (te = 1 ∧ cap = 0 ∧ ed = zS G 1)) (ht : 1 < t) (hn : n < 2 ^ 20) (hob : ∀ i, i < n → zob h (g i)) (hv : zob h v) (hvt : ∀ (b tb : Nat) (cb : ZE), v = .ref b → h b = (tb, cb) → tb ≠ t) : ZM l G yJ3_add_2 (ws_ yJ3_add_2 cJ3_add_2 4 (Option.none : Option FieldType)) (zRm 5 1 (2 * n + 10) 200) [.ref a, v, .ref ed, .int (nI n)] h (fun v' h' => v' = none ∧ zAL G h' t a (n + 1) (zuf g n v) ∧ zOn (fun t' => t' = t) h h') := by
  refine ZT.zm (ZT.of (by first | exact plainFor_of_name (by decide) | decide +kernel) (Nat.le_of_ble_eq_true rfl) (zcats.r zref.r (zcats.r hv.ref (zcats.r zref.r (zcats.i zcats.nil)))) ?_)
  intro p_ e_ s_ m_ args_ below_ meth_ c_ X hr hlk hin htab
  have X : ZX p_ m_ c_ cJ3_add_2 4 s_ args_ "java/util/ArrayList" G := X
  refine z_lv (lv' := [(0, .ref a), (1, v), (2, .ref ed), (3, .int (nI n))]) (fun _ hq => hq) ?_
  have hte : 0 < te := by rcases e6 with ⟨z, -⟩ | ⟨z, -⟩ <;> omega
  refine z_iload_n X 3 dJ3_add_2_0 rfl ?_
  refine z_aload_n X 2 dJ3_add_2_1 zref.r rfl ?_
  refine z_alen X e2 (ty := .object "java/lang/Object") rfl (by omega) dJ3_add_2_2 ?_
  refine z_icmp_neN X n cap 11 dJ3_add_2_3 (by decide) rfl rfl (by omega) (by omega) (fun c70 => ?_) (fun c70 => ?_)
  · rcases e6 with ⟨rfl, -⟩ | ⟨-, z, -⟩
    rotate_left
    · exact absurd z (by omega)
    refine z_aload_n X 2 dJ3_add_2_11 zref.r rfl ?_
    refine z_iload_n X 3 dJ3_add_2_12 rfl ?_
    refine z_aload_n X 1 dJ3_add_2_13 hv.ref rfl ?_
    refine z_aastO X n e2 ht hv rfl (by omega) (by omega) (f' := zuf g n v) (fun _ => rfl) dJ3_add_2_14 ?_
    refine z_nm fun h71 e72 => ?_
    have o73 := zOn.up (zOn.rf (T := fun t' => t' = te) (h := h)) e72 e2 (by first | exact rfl | omega | simp)
    have f74 : h71 a = (te, .inr (9, [.int mc, .ref ed, .int (nI n)])) := zup_oa e72 e1 (by intro z9; have z8 := e1; rw [z9, e2] at z8; cases z8)
    have f75 : h71 ed = (te, .inl (3, cap, (zuf g n v))) := zup_is e72
    refine z_aload_n X 0 dJ3_add_2_15 zref.r rfl ?_
    refine z_iload_n X 3 dJ3_add_2_16 rfl ?_
    refine z_iconst X (nI 1) dJ3_add_2_17 (by decide) ?_
    refine z_iadd X (nI (n + 1)) dJ3_add_2_18 (nI_add _ _) ?_
    refine z_put X zP9 2 (by decide) q127 (Or.inl rfl) rfl f74 (by omega) (by omega) (zfits.i _) (Nat.le_of_ble_eq_true rfl) rfl dJ3_add_2_19 ?_
    refine z_nm fun h76 e77 => ?_
    have o78 := zOn.up o73 e77 f74 (by first | exact rfl | omega | simp)
    have f79 : h76 ed = (te, .inl (3, cap, (zuf g n v))) := zup_oa e77 f75 (by intro z9; have z8 := f74; rw [← z9, f75] at z8; cases z8)
    have f80 : h76 a = (te, .inr (9, [.int mc, .ref ed, .int (nI (n + 1))])) := zup_is e77
    exact z_vret X hr hlk dJ3_add_2_22 (by first | exact Nat.le_of_ble_eq_true rfl | (dsimp only [zRm]; omega) | omega) (by first | exact Nat.le_of_ble_eq_true rfl | (dsimp only [zRm]; omega) | omega) ⟨rfl, ⟨mc, ed, cap, te, _, f80, f79, by omega, e4, fun _ _ => rfl, Or.inl ⟨rfl, by omega⟩⟩, o78⟩
  · have hnc : cap = n := by omega
    subst hnc
    refine z_aload_n X 0 dJ3_add_2_6 zref.r rfl ?_
    refine z_callV X (rest := []) (c_J3_grow e1 e2 hn e6 ht hob) (cwV 0 (zXts X) (lw_V q526 q528 qs3 q53 q529) rfl rfl rfl (by decide +kernel) ⟨Nat.le_of_ble_eq_true rfl, Nat.le_of_ble_eq_true rfl⟩) e1 (by omega) rfl rfl (Nat.le_of_ble_eq_true rfl) ⟨(by first | exact Nat.le_of_ble_eq_true rfl | (dsimp only [zRm]; omega)), (by first | exact Nat.le_of_ble_eq_true rfl | (dsimp only [zRm]; omega))⟩ dJ3_add_2_7 (fun v81 h82 p83 => ?_)
    obtain ⟨ed9, cap9, g9, rfl, p1, p2, p3, p4, p5, p6, p7⟩ := p83
    refine z_st (st' := [.ref ed9]) rfl ?_
    refine z_astore_n X (lv' := [(2, .ref ed9), (0, .ref a), (1, v), (3, .int (nI cap))]) dJ3_add_2_10 zref.r (by decide) rfl ?_
    refine z_aload_n X 0 dJ3_add_2_11 zref.r rfl ?_
    refine z_iload_n X 3 dJ3_add_2_12 rfl ?_
    refine z_aload_n X 2 dJ3_add_2_13 hv.ref rfl ?_
    refine z_aastO X cap p2 ht (hv.on p6 (fun b tb cb x y => hvt b tb cb x y)) rfl (by omega) (by omega) (f' := zuf g9 cap v) (fun _ => rfl) dJ3_add_2_14 ?_
    refine z_nm fun h84 e85 => ?_
    have o86 := zOn.up p6 e85 p2 (by first | exact rfl | omega | simp)
    have f87 : h84 a = (t, .inr (9, [.int mc, .ref ed9, .int (nI cap)])) := zup_oa e85 p1 (by intro z9; have z8 := p1; rw [z9, p2] at z8; cases z8)
    have f88 : h84 ed9 = (t, .inl (3, cap9, (zuf g9 cap v))) := zup_is e85
    refine z_aload_n X 1 dJ3_add_2_15 zref.r rfl ?_
    refine z_iload_n X 3 dJ3_add_2_16 rfl ?_
    refine z_iconst X (nI 1) dJ3_add_2_17 (by decide) ?_
    refine z_iadd X (nI (cap + 1)) dJ3_add_2_18 (nI_add _ _) ?_
    refine z_put X zP9 2 (by decide) q127 (Or.inl rfl) rfl f87 (by omega) (by omega) (zfits.i _) (Nat.le_of_ble_eq_true rfl) rfl dJ3_add_2_19 ?_
    refine z_nm fun h89 e90 => ?_
    have o91 := zOn.up o86 e90 f87 (by first | exact rfl | omega | simp)
    have f92 : h89 ed9 = (t, .inl (3, cap9, (zuf g9 cap v))) := zup_oa e90 f88 (by intro z9; have z8 := f87; rw [← z9, f88] at z8; cases z8)
    have f93 : h89 a = (t, .inr (9, [.int mc, .ref ed9, .int (nI (cap + 1))])) := zup_is e90
    exact z_vret X hr hlk dJ3_add_2_22 (by first | exact Nat.le_of_ble_eq_true rfl | (dsimp only [zRm]; omega) | omega) (by first | exact Nat.le_of_ble_eq_true rfl | (dsimp only [zRm]; omega) | omega) ⟨rfl, ⟨mc, ed9, cap9, t, _, f93, f92, by omega, by omega, (fun k hk => by by_cases h9 : k = cap <;> simp [zuf, h9]; exact p5 k (by omega)), Or.inl ⟨rfl, by omega⟩⟩, o91⟩
set_option maxHeartbeats 2000000 in
theorem c_J3_add {l : Launch} {G : ZG} {h : ZH} {t a n : Nat} {f : Nat → Value} {v : Value} (hA : zAL G h t a n f) (ht : 1 < t) (hn : n < 2 ^ 20) (hob : ∀ i, i < n → zob h (f i)) (hv : zob h v) (hvt : ∀ (b tb : Nat) (cb : ZE), v = .ref b → h b = (tb, cb) → tb ≠ t) (hot : ∀ (i : Nat), i < n → ∀ (b tb : Nat) (cb : ZE), f i = .ref b → h b = (tb, cb) → tb ≠ t) : ZM l G yJ3_add (ws_ yJ3_add cJ3_add 2 (Option.some FieldType.boolean)) (zRm 6 1 (2 * n + 10) 230) [.ref a, v] h (fun v' h' => v' = some (.int 1) ∧ zAL G h' t a (n + 1) (zuf f n v) ∧ zOn (fun t' => t' = t) h h') := by
  refine ZT.zm (ZT.of (by first | exact plainFor_of_name (by decide) | decide +kernel) (Nat.le_of_ble_eq_true rfl) (zcats.r zref.r (zcats.r hv.ref zcats.nil)) ?_)
  intro p_ e_ s_ m_ args_ below_ meth_ c_ X hr hlk hin htab
  have X : ZX p_ m_ c_ cJ3_add 2 s_ args_ "java/util/ArrayList" G := X
  refine z_lv (lv' := [(0, .ref a), (1, v)]) (fun _ hq => hq) ?_
  obtain ⟨mc, ed, cap, te, g, e1, e2, e3, e4, e5, e6⟩ := hA
  have hte : 0 < te := by rcases e6 with ⟨z, -⟩ | ⟨z, -⟩ <;> omega
  refine z_aload_n X 0 dJ3_add_0 zref.r rfl ?_
  refine z_dup X dJ3_add_1 rfl ?_
  refine z_get X zP9 0 (by decide) q131 (Or.inr q130) e1 (by omega) rfl dJ3_add_2 ?_
  refine z_iconst X (nI 1) dJ3_add_5 (by decide) ?_
  refine z_iadd X (mc + (nI 1)) dJ3_add_6 rfl ?_
  refine z_put X zP9 0 (by decide) q131 (Or.inr q130) rfl e1 (by omega) (by omega) (zfits.i _) (Nat.le_of_ble_eq_true rfl) rfl dJ3_add_7 ?_
  refine z_nm fun h94 e95 => ?_
  have o96 := zOn.up (zOn.rf (T := fun t' => t' = t) (h := h)) e95 e1 (by first | exact rfl | omega | simp)
  have f97 : h94 ed = (te, .inl (3, cap, g)) := zup_oa e95 e2 (by intro z9; rw [z9, e1] at e2; cases e2)
  have f98 : h94 a = (t, .inr (9, [.int (mc + (nI 1)), .ref ed, .int (nI n)])) := zup_is e95
  refine z_aload_n X 0 dJ3_add_10 zref.r rfl ?_
  refine z_aload_n X 1 dJ3_add_11 hv.ref rfl ?_
  refine z_aload_n X 0 dJ3_add_12 zref.r rfl ?_
  refine z_get X zP9 1 (by decide) q124 (Or.inl rfl) f98 (by omega) rfl dJ3_add_13 ?_
  refine z_aload_n X 0 dJ3_add_16 zref.r rfl ?_
  refine z_get X zP9 2 (by decide) q127 (Or.inl rfl) f98 (by omega) rfl dJ3_add_17 ?_
  refine z_callV X (rest := []) (c_J3_add_2 f98 f97 e3 e4 e6 ht hn (fun i hi => by rw [e5 i hi]; exact (hob i hi).on o96 (hot i hi)) (hv.on o96 hvt) (fun b tb cb x y => by intro z9; subst z9; rcases hv with z | ⟨b2, tb2, _, _, _, _, _, z1, z2, z3, -⟩; rw [z] at x; cases x; rw [z1] at x; cases x; have z4 := o96.at z2 z3 (hvt _ _ _ z1 z2); rw [y] at z4; cases z4; exact hvt _ _ _ z1 z2 rfl)) (cwV 3 (zXts X) (lw_V q522 q524 qs2 q53 q525) rfl rfl rfl (by decide +kernel) ⟨Nat.le_of_ble_eq_true rfl, Nat.le_of_ble_eq_true rfl⟩) f98 (by omega) rfl rfl (Nat.le_of_ble_eq_true rfl) ⟨(by first | exact Nat.le_of_ble_eq_true rfl | (dsimp only [zRm]; omega)), (by first | exact Nat.le_of_ble_eq_true rfl | (dsimp only [zRm]; omega))⟩ dJ3_add_20 (fun v99 h100 p101 => ?_)
  obtain ⟨rfl, p1, p2⟩ := p101
  refine z_st (st' := []) rfl ?_
  refine z_iconst X (nI 1) dJ3_add_23 (by decide) ?_
  exact z_zret X hr hlk (zfits.b1) dJ3_add_24 (by first | exact Nat.le_of_ble_eq_true rfl | (dsimp only [zRm]; omega) | omega) (by first | exact Nat.le_of_ble_eq_true rfl | (dsimp only [zRm]; omega) | omega) ⟨rfl, p1.eq (fun k hk => by simp only [zuf]; split; rfl; exact e5 k (by omega)), o96.trans p2⟩
set_option maxHeartbeats 2000000 in
theorem c_J29_equals {l : Launch} {G : ZG} {h : ZH} {x : Nat} {v : Value} (hv : zref v) : ZM l G yJ29_equals (ws_ yJ29_equals cJ29_equals 2 (Option.some FieldType.boolean)) (zRm 0 0 0 0) [.ref x, v] h (fun v' h' => v' = some (.int (if v = .ref x then 1 else 0)) ∧ h = h') := by
  refine ZT.zm (ZT.of (by first | exact plainFor_of_name (by decide) | decide +kernel) (Nat.le_of_ble_eq_true rfl) (zcats.r zref.r (zcats.r hv zcats.nil)) ?_)
  intro p_ e_ s_ m_ args_ below_ meth_ c_ X hr hlk hin htab
  have X : ZX p_ m_ c_ cJ29_equals 2 s_ args_ "java/lang/Object" G := X
  refine z_lv (lv' := [(0, .ref x), (1, v)]) (fun _ hq => hq) ?_
  refine z_aload_n X 0 dJ29_equals_0 zref.r rfl ?_
  refine z_aload_n X 1 dJ29_equals_1 hv rfl ?_
  refine z_acmp_ne X 9 dJ29_equals_2 (by decide) zref.r hv (fun c102 => ?_) (fun c102 => ?_)
  · refine z_iconst X (nI 0) dJ29_equals_9 (by decide) ?_
    exact z_zret X hr hlk (zfits.b0) dJ29_equals_10 (by first | exact Nat.le_of_ble_eq_true rfl | (dsimp only [zRm]; omega) | omega) (by first | exact Nat.le_of_ble_eq_true rfl | (dsimp only [zRm]; omega) | omega) ⟨by rw [if_neg (fun z => c102 z.symm)]; rfl, rfl⟩
  · refine z_iconst X (nI 1) dJ29_equals_5 (by decide) ?_
    refine z_goto X 10 dJ29_equals_6 (by decide) ?_
    exact z_zret X hr hlk (zfits.b1) dJ29_equals_10 (by first | exact Nat.le_of_ble_eq_true rfl | (dsimp only [zRm]; omega) | omega) (by first | exact Nat.le_of_ble_eq_true rfl | (dsimp only [zRm]; omega) | omega) ⟨by rw [if_pos c102.symm]; rfl, rfl⟩
set_option maxHeartbeats 2000000 in
theorem c_J3_indexOfRange {l : Launch} {G : ZG} {h : ZH} {t a n x tx : Nat} {f : Nat → Value} {gs : List Value} (hA : zAL G h t a n f) (ht : 1 < t) (hn : n < 2 ^ 20) (hx : h x = (tx, .inr (7, gs))) (htx : tx ≠ 0) (hz : ∀ i, i < n → zref (f i)) : ZM l G yJ3_indexOfRange (ws_ yJ3_indexOfRange cJ3_indexOfRange 6 (Option.some FieldType.int)) (zRm 1 0 0 60) [.ref a, .ref x, .int (nI 0), .int (nI n)] h (fun v' h' => (((∀ i, i < n → f i ≠ .ref x) ∧ v' = some (.int (-1))) ∨ ∃ i, i < n ∧ f i = .ref x ∧ v' = some (.int (nI i))) ∧ h = h') := by
  refine ZT.zm (ZT.of (by first | exact plainFor_of_name (by decide) | decide +kernel) (Nat.le_of_ble_eq_true rfl) (zcats.r zref.r (zcats.r zref.r (zcats.i (zcats.i zcats.nil)))) ?_)
  intro p_ e_ s_ m_ args_ below_ meth_ c_ X hr hlk hin htab
  have X : ZX p_ m_ c_ cJ3_indexOfRange 6 s_ args_ "java/util/ArrayList" G := X
  refine z_lv (lv' := [(0, .ref a), (1, .ref x), (2, .int (nI 0)), (3, .int (nI n))]) (fun _ hq => hq) ?_
  obtain ⟨mc, ed, cap, te, g, e1, e2, e3, e4, e5, e6⟩ := id hA
  have hte : 0 < te := by rcases e6 with ⟨z, -⟩ | ⟨z, -⟩ <;> omega
  refine z_aload_n X 0 dJ3_indexOfRange_0 zref.r rfl ?_
  refine z_get X zP9 1 (by decide) q124 (Or.inl rfl) e1 (by omega) rfl dJ3_indexOfRange_1 ?_
  refine z_astore X (lv' := [(4, .ref ed), (0, .ref a), (1, .ref x), (2, .int (nI 0)), (3, .int (nI n))]) dJ3_indexOfRange_4 zref.r (by decide) rfl ?_
  refine z_aload_n X 2 dJ3_indexOfRange_6 zref.r rfl ?_
  refine z_ifnonnull X 39 dJ3_indexOfRange_7 (by decide) zref.r (fun a104 c103 => ?_) (fun c103 => ?_)
  rotate_left
  · cases c103
  refine z_iload_n X 3 dJ3_indexOfRange_39 rfl ?_
  refine z_istore X (lv' := [(5, .int (nI 0)), (4, .ref ed), (0, .ref a), (1, .ref x), (2, .int (nI 0)), (3, .int (nI n))]) dJ3_indexOfRange_40 (by decide) rfl ?_
  refine z_lvp (lv' := [(0, .ref a), (1, .ref x), (3, .int (nI n)), (4, .ref ed), (5, .int (nI 0))]) [2, 3, 5, 1, 0] rfl ?_
  refine z_loop (σ := Nat) (fun i => i ≤ n ∧ ∀ j, j < i → f j ≠ .ref x) (fun i => n - i) (fun i => [(0, .ref a), (1, .ref x), (3, .int (nI n)), (4, .ref ed), (5, .int (nI i))]) (fun i => []) (fun i => h) (fun i => 0) (fun i => 0) ?_ 0 (⟨Nat.zero_le _, fun j hj => absurd hj (Nat.not_lt_zero _)⟩)
  intro i hI ih
  try dsimp only at hI
  try dsimp only at ih
  try dsimp only
  refine z_iload X 4 dJ3_indexOfRange_42 rfl ?_
  refine z_iload_n X 2 dJ3_indexOfRange_44 rfl ?_
  refine z_icmp_geN X i n 69 dJ3_indexOfRange_45 (by decide) rfl rfl (by omega) (by omega) (fun c105 => ?_) (fun c105 => ?_)
  · refine z_iconst X (-1) dJ3_indexOfRange_69 (by decide) ?_
    exact z_iret X hr hlk dJ3_indexOfRange_70 (by first | exact Nat.le_of_ble_eq_true rfl | (dsimp only [zRm]; omega) | omega) (by first | exact Nat.le_of_ble_eq_true rfl | (dsimp only [zRm]; omega) | omega) ⟨Or.inl ⟨fun j hj => hI.2 j (by omega), rfl⟩, rfl⟩
  · refine z_aload_n X 1 dJ3_indexOfRange_48 zref.r rfl ?_
    refine z_aload X 3 dJ3_indexOfRange_49 zref.r rfl ?_
    refine z_iload X 4 dJ3_indexOfRange_51 rfl ?_
    refine z_aald X (v := f i) i e2 (ty := .object "java/lang/Object") rfl rfl (by omega) rfl (by omega) (by first | decide | omega) (e5 i c105) dJ3_indexOfRange_53 ?_
    refine z_callU X (rest := []) (y := yJ29_equals) (c_J29_equals (hz i c105)) (va_cwA 1 (zXts X) (zlw_U q623 q625 q631 q624 q1831 q646) rfl rfl rfl (zXnw X q622 rfl) (by decide +kernel) ⟨Nat.le_of_ble_eq_true rfl, Nat.le_of_ble_eq_true rfl⟩) hx (by omega) rfl rfl (Nat.le_of_ble_eq_true rfl) ⟨(by first | exact Nat.le_of_ble_eq_true rfl | (dsimp only [zRm]; omega)), (by first | exact Nat.le_of_ble_eq_true rfl | (dsimp only [zRm]; omega))⟩ dJ3_indexOfRange_54 (fun v106 h107 p108 => ?_)
    obtain ⟨rfl, rfl⟩ := p108
    refine z_st (st' := [.int (if f i = .ref x then 1 else 0)]) rfl ?_
    refine z_if_eq X 63 dJ3_indexOfRange_57 (by decide) (fun c109 => ?_) (fun c109 => ?_)
    · have hne : f i ≠ .ref x := by intro z; rw [if_pos z] at c109; exact absurd c109 (by decide)
      refine z_iinc X (lv' := [(5, .int (nI (i + 1))), (0, .ref a), (1, .ref x), (3, .int (nI n)), (4, .ref ed)]) (nI (i + 1)) 4 dJ3_indexOfRange_63 rfl (nI_1 _) (by decide) rfl ?_
      refine z_goto X 42 dJ3_indexOfRange_66 (by decide) ?_
      refine z_lvp (lv' := [(0, .ref a), (1, .ref x), (3, .int (nI n)), (4, .ref ed), (5, .int (nI (i + 1)))]) [1, 2, 3, 4, 0] rfl ?_
      exact ih (i + 1) ⟨c105, fun j hj => by by_cases h9 : j = i; subst h9; exact hne; exact hI.2 j (by omega)⟩ (by omega)
    · have hne : f i = .ref x := Classical.byContradiction fun z => by rw [if_neg z] at c109; exact c109 rfl
      refine z_iload X 4 dJ3_indexOfRange_60 rfl ?_
      exact z_iret X hr hlk dJ3_indexOfRange_62 (by first | exact Nat.le_of_ble_eq_true rfl | (dsimp only [zRm]; omega) | omega) (by first | exact Nat.le_of_ble_eq_true rfl | (dsimp only [zRm]; omega) | omega) ⟨Or.inr ⟨i, c105, hne, rfl⟩, rfl⟩
set_option maxHeartbeats 2000000 in
theorem c_J3_indexOf {l : Launch} {G : ZG} {h : ZH} {t a n x tx : Nat} {f : Nat → Value} {gs : List Value} (hA : zAL G h t a n f) (ht : 1 < t) (hn : n < 2 ^ 20) (hx : h x = (tx, .inr (7, gs))) (htx : tx ≠ 0) (hz : ∀ i, i < n → zref (f i)) : ZM l G yJ3_indexOf (ws_ yJ3_indexOf cJ3_indexOf 2 (Option.some FieldType.int)) (zRm 2 0 0 90) [.ref a, .ref x] h (fun v' h' => (((∀ i, i < n → f i ≠ .ref x) ∧ v' = some (.int (-1))) ∨ ∃ i, i < n ∧ f i = .ref x ∧ v' = some (.int (nI i))) ∧ h = h') := by
  refine ZT.zm (ZT.of (by first | exact plainFor_of_name (by decide) | decide +kernel) (Nat.le_of_ble_eq_true rfl) (zcats.r zref.r (zcats.r zref.r zcats.nil)) ?_)
  intro p_ e_ s_ m_ args_ below_ meth_ c_ X hr hlk hin htab
  have X : ZX p_ m_ c_ cJ3_indexOf 2 s_ args_ "java/util/ArrayList" G := X
  refine z_lv (lv' := [(0, .ref a), (1, .ref x)]) (fun _ hq => hq) ?_
  obtain ⟨mc, ed, cap, te, g, e1, e2, e3, e4, e5, e6⟩ := id hA
  refine z_aload_n X 0 dJ3_indexOf_0 zref.r rfl ?_
  refine z_aload_n X 1 dJ3_indexOf_1 zref.r rfl ?_
  refine z_iconst X (nI 0) dJ3_indexOf_2 (by decide) ?_
  refine z_aload_n X 0 dJ3_indexOf_3 zref.r rfl ?_
  refine z_get X zP9 2 (by decide) q127 (Or.inl rfl) e1 (by omega) rfl dJ3_indexOf_4 ?_
  refine z_callV X (rest := []) (c_J3_indexOfRange hA ht hn hx htx hz) (cwV 3 (zXts X) (lw_V q618 q619 q620 q53 q621) rfl rfl rfl (by decide +kernel) ⟨Nat.le_of_ble_eq_true rfl, Nat.le_of_ble_eq_true rfl⟩) e1 (by omega) rfl rfl (Nat.le_of_ble_eq_true rfl) ⟨(by first | exact Nat.le_of_ble_eq_true rfl | (dsimp only [zRm]; omega)), (by first | exact Nat.le_of_ble_eq_true rfl | (dsimp only [zRm]; omega))⟩ dJ3_indexOf_7 (fun v110 h111 p112 => ?_)
  obtain ⟨z | ⟨i, z1, z2, z⟩, rfl⟩ := p112
  · obtain ⟨z1, rfl⟩ := z
    refine z_st (st' := [.int (-1)]) rfl ?_
    exact z_iret X hr hlk dJ3_indexOf_10 (by first | exact Nat.le_of_ble_eq_true rfl | (dsimp only [zRm]; omega) | omega) (by first | exact Nat.le_of_ble_eq_true rfl | (dsimp only [zRm]; omega) | omega) ⟨Or.inl ⟨z1, rfl⟩, rfl⟩
  · subst z
    refine z_st (st' := [.int (nI i)]) rfl ?_
    exact z_iret X hr hlk dJ3_indexOf_10 (by first | exact Nat.le_of_ble_eq_true rfl | (dsimp only [zRm]; omega) | omega) (by first | exact Nat.le_of_ble_eq_true rfl | (dsimp only [zRm]; omega) | omega) ⟨Or.inr ⟨i, z1, z2, rfl⟩, rfl⟩
set_option maxHeartbeats 2000000 in
theorem c_J3_contains {l : Launch} {G : ZG} {h : ZH} {t a n x tx : Nat} {f : Nat → Value} {gs : List Value} (hA : zAL G h t a n f) (ht : 1 < t) (hn : n < 2 ^ 20) (hx : h x = (tx, .inr (7, gs))) (htx : tx ≠ 0) (hz : ∀ i, i < n → zref (f i)) : ZM l G yJ3_contains (ws_ yJ3_contains cJ3_contains 2 (Option.some FieldType.boolean)) (zRm 3 0 0 120) [.ref a, .ref x] h (fun v' h' => (((∀ i, i < n → f i ≠ .ref x) ∧ v' = some (.int 0)) ∨ ∃ i, i < n ∧ f i = .ref x ∧ v' = some (.int 1)) ∧ h = h') := by
  refine ZT.zm (ZT.of (by first | exact plainFor_of_name (by decide) | decide +kernel) (Nat.le_of_ble_eq_true rfl) (zcats.r zref.r (zcats.r zref.r zcats.nil)) ?_)
  intro p_ e_ s_ m_ args_ below_ meth_ c_ X hr hlk hin htab
  have X : ZX p_ m_ c_ cJ3_contains 2 s_ args_ "java/util/ArrayList" G := X
  refine z_lv (lv' := [(0, .ref a), (1, .ref x)]) (fun _ hq => hq) ?_
  refine z_aload_n X 0 dJ3_contains_0 zref.r rfl ?_
  refine z_aload_n X 1 dJ3_contains_1 zref.r rfl ?_
  obtain ⟨_, r113⟩ := zAL.rc hA
  refine z_callV X (rest := []) (c_J3_indexOf hA ht hn hx htx hz) (cwV 1 (zXts X) (lw_V q614 q615 q616 q53 q617) rfl rfl rfl (by decide +kernel) ⟨Nat.le_of_ble_eq_true rfl, Nat.le_of_ble_eq_true rfl⟩) r113 (by omega) rfl rfl (Nat.le_of_ble_eq_true rfl) ⟨(by first | exact Nat.le_of_ble_eq_true rfl | (dsimp only [zRm]; omega)), (by first | exact Nat.le_of_ble_eq_true rfl | (dsimp only [zRm]; omega))⟩ dJ3_contains_2 (fun v114 h115 p116 => ?_)
  obtain ⟨z | ⟨i, z1, z2, z⟩, rfl⟩ := p116
  · obtain ⟨z1, rfl⟩ := z
    refine z_st (st' := [.int (-1)]) rfl ?_
    refine z_if_lt X 12 dJ3_contains_5 (by decide) (fun c117 => ?_) (fun c117 => ?_)
    · refine z_iconst X (nI 0) dJ3_contains_12 (by decide) ?_
      exact z_zret X hr hlk (zfits.b0) dJ3_contains_13 (by first | exact Nat.le_of_ble_eq_true rfl | (dsimp only [zRm]; omega) | omega) (by first | exact Nat.le_of_ble_eq_true rfl | (dsimp only [zRm]; omega) | omega) ⟨Or.inl ⟨z1, rfl⟩, rfl⟩
    · exact absurd (by decide) c117
  · subst z
    refine z_st (st' := [.int (nI i)]) rfl ?_
    refine z_if_lt X 12 dJ3_contains_5 (by decide) (fun c118 => ?_) (fun c118 => ?_)
    · exact absurd c118 (nI_pos (by omega))
    · refine z_iconst X (nI 1) dJ3_contains_8 (by decide) ?_
      refine z_goto X 13 dJ3_contains_9 (by decide) ?_
      exact z_zret X hr hlk (zfits.b1) dJ3_contains_13 (by first | exact Nat.le_of_ble_eq_true rfl | (dsimp only [zRm]; omega) | omega) (by first | exact Nat.le_of_ble_eq_true rfl | (dsimp only [zRm]; omega) | omega) ⟨Or.inr ⟨i, z1, z2, rfl⟩, rfl⟩
set_option maxHeartbeats 2000000 in
theorem c_J3_clear {l : Launch} {G : ZG} {h : ZH} {t a n : Nat} {f : Nat → Value} (hA : zAL G h t a n f) (ht : 1 < t) (hn : n < 2 ^ 20) : ZM l G yJ3_clear (ws_ yJ3_clear cJ3_clear 4 (Option.none : Option FieldType)) (zRm 0 0 0 0) [.ref a] h (fun v' h' => v' = none ∧ (∀ f', zAL G h' t a 0 f') ∧ zOn (fun t' => t' = t) h h') := by
  refine ZT.zm (ZT.of (by first | exact plainFor_of_name (by decide) | decide +kernel) (Nat.le_of_ble_eq_true rfl) (zcats.r zref.r zcats.nil) ?_)
  intro p_ e_ s_ m_ args_ below_ meth_ c_ X hr hlk hin htab
  have X : ZX p_ m_ c_ cJ3_clear 4 s_ args_ "java/util/ArrayList" G := X
  refine z_lv (lv' := [(0, .ref a)]) (fun _ hq => hq) ?_
  obtain ⟨mc, ed, cap, te, g, e1, e2, e3, e4, e5, e6⟩ := id hA
  have hte : 0 < te := by rcases e6 with ⟨z, -⟩ | ⟨z, -⟩ <;> omega
  have hea : ed ≠ a := by intro z; rw [z, e1] at e2; cases e2
  refine z_aload_n X 0 dJ3_clear_0 zref.r rfl ?_
  refine z_dup X dJ3_clear_1 rfl ?_
  refine z_get X zP9 0 (by decide) q131 (Or.inr q130) e1 (by omega) rfl dJ3_clear_2 ?_
  refine z_iconst X (nI 1) dJ3_clear_5 (by decide) ?_
  refine z_iadd X (mc + (nI 1)) dJ3_clear_6 rfl ?_
  refine z_put X zP9 0 (by decide) q131 (Or.inr q130) rfl e1 (by omega) (by omega) (zfits.i _) (Nat.le_of_ble_eq_true rfl) rfl dJ3_clear_7 ?_
  refine z_nm fun h119 e120 => ?_
  have o121 := zOn.up (zOn.rf (T := fun t' => t' = t) (h := h)) e120 e1 (by first | exact rfl | omega | simp)
  have f122 : h119 ed = (te, .inl (3, cap, g)) := zup_oa e120 e2 hea
  have f123 : h119 a = (t, .inr (9, [.int (mc + (nI 1)), .ref ed, .int (nI n)])) := zup_is e120
  refine z_aload_n X 0 dJ3_clear_10 zref.r rfl ?_
  refine z_get X zP9 1 (by decide) q124 (Or.inl rfl) f123 (by omega) rfl dJ3_clear_11 ?_
  refine z_astore_n X (lv' := [(1, .ref ed), (0, .ref a)]) dJ3_clear_14 zref.r (by decide) rfl ?_
  refine z_aload_n X 1 dJ3_clear_15 zref.r rfl ?_
  refine z_get X zP9 2 (by decide) q127 (Or.inl rfl) f123 (by omega) rfl dJ3_clear_16 ?_
  refine z_istore_n X (lv' := [(2, .int (nI n)), (1, .ref ed), (0, .ref a)]) dJ3_clear_19 (by decide) rfl ?_
  refine z_aload_n X 2 dJ3_clear_20 zref.r rfl ?_
  refine z_iconst X (nI 0) dJ3_clear_21 (by decide) ?_
  refine z_dup_x1 X dJ3_clear_22 rfl rfl ?_
  refine z_put X zP9 2 (by decide) q127 (Or.inl rfl) rfl f123 (by omega) (by omega) (zfits.i _) (Nat.le_of_ble_eq_true rfl) rfl dJ3_clear_23 ?_
  refine z_nm fun h124 e125 => ?_
  have o126 := zOn.up o121 e125 f123 (by first | exact rfl | omega | simp)
  have f127 : h124 ed = (te, .inl (3, cap, g)) := zup_oa e125 f122 hea
  have f128 : h124 a = (t, .inr (9, [.int (mc + (nI 1)), .ref ed, .int (nI 0)])) := zup_is e125
  refine z_istore_n X (lv' := [(3, .int (nI 0)), (2, .int (nI n)), (1, .ref ed), (0, .ref a)]) dJ3_clear_26 (by decide) rfl ?_
  have hE : ∃ g9 : Nat → Value, h124 ed = (te, .inl (3, cap, g9)) := ⟨_, f127⟩
  refine z_lvp (lv' := [(0, .ref a), (1, .ref ed), (2, .int (nI n)), (3, .int (nI 0))]) [3, 2, 1, 0] rfl ?_
  refine z_loop (σ := Nat × ZH) (fun x => x.1 ≤ n ∧ x.2 a = (t, .inr (9, [.int (mc + (nI 1)), .ref ed, .int (nI 0)])) ∧ (∃ g9 : Nat → Value, x.2 ed = (te, .inl (3, cap, g9))) ∧ zOn (fun t' => t' = t) h x.2) (fun x => n - x.1) (fun x => [(0, .ref a), (1, .ref ed), (2, .int (nI n)), (3, .int (nI x.1))]) (fun x => []) (fun x => x.2) (fun x => 0) (fun x => 0) ?_ (0, h124) (⟨Nat.zero_le _, f128, hE, o126⟩)
  intro ⟨i, h9⟩ hI ih
  try dsimp only at hI
  try dsimp only at ih
  try dsimp only
  obtain ⟨hi, i1, ⟨g9, i2⟩, i3⟩ := hI
  refine z_iload_n X 3 dJ3_clear_27 rfl ?_
  refine z_iload_n X 2 dJ3_clear_28 rfl ?_
  refine z_icmp_geN X i n 42 dJ3_clear_29 (by decide) rfl rfl (by omega) (by omega) (fun c129 => ?_) (fun c129 => ?_)
  · exact z_vret X hr hlk dJ3_clear_42 (by first | exact Nat.le_of_ble_eq_true rfl | (dsimp only [zRm]; omega) | omega) (by first | exact Nat.le_of_ble_eq_true rfl | (dsimp only [zRm]; omega) | omega) ⟨rfl, fun f9 => ⟨_, ed, cap, te, g9, i1, i2, Nat.zero_le _, e4, fun k hk => absurd hk (Nat.not_lt_zero _), e6⟩, i3⟩
  · have htt : te = t := by rcases e6 with ⟨z, -⟩ | ⟨-, z, -⟩ <;> omega
    refine z_aload_n X 1 dJ3_clear_32 zref.r rfl ?_
    refine z_iload_n X 3 dJ3_clear_33 rfl ?_
    refine z_null X dJ3_clear_34 ?_
    refine z_aastN X i i2 rfl (by omega) (by omega) rfl (by omega) (by first | decide | omega) (f' := (zuf g9 i .null)) (fun _ => rfl) dJ3_clear_35 ?_
    refine z_nm fun h130 e131 => ?_
    have o132 := zOn.up i3 e131 i2 (by first | exact rfl | omega | simp)
    have f133 : h130 a = (t, .inr (9, [.int (mc + (nI 1)), .ref ed, .int (nI 0)])) := zup_oa e131 i1 (Ne.symm hea)
    have f134 : h130 ed = (te, .inl (3, cap, (zuf g9 i .null))) := zup_is e131
    refine z_iinc X (lv' := [(3, .int (nI (i + 1))), (0, .ref a), (1, .ref ed), (2, .int (nI n))]) (nI (i + 1)) 3 dJ3_clear_36 rfl (nI_1 _) (by decide) rfl ?_
    refine z_goto X 27 dJ3_clear_39 (by decide) ?_
    refine z_lvp (lv' := [(0, .ref a), (1, .ref ed), (2, .int (nI n)), (3, .int (nI (i + 1)))]) [1, 2, 3, 0] rfl ?_
    exact ih (i + 1, h130) ⟨by omega, f133, ⟨_, f134⟩, o132⟩ (by dsimp only; omega)
set_option maxHeartbeats 2000000 in
theorem c_J21_init {l : Launch} {G : ZG} {h : ZH} {t a n tx x : Nat} {mc y0 y1 y2 : Int32} {v1 v3 : Value} (ha : h a = (t, .inr (9, [.int mc, v1, .int (nI n)]))) (ht : t ≠ 0) (hx : h x = (tx, .inr (15, [.int y0, .int y1, .int y2, v3]))) (htx : 1 < tx) (hax : a ≠ x) : ZM l G yJ21_init (ws_ yJ21_init cJ21_init 2 (Option.none : Option FieldType)) (zRm 1 0 0 12) [.ref x, .ref a] h (fun v' h' => v' = none ∧ h' x = (tx, .inr (15, [.int y0, .int (-1), .int mc, .ref a])) ∧ zOn (fun t' => t' = tx) h h') := by
  refine ZT.zm (ZT.of (by first | exact plainFor_of_name (by decide) | decide +kernel) (Nat.le_of_ble_eq_true rfl) (zcats.r zref.r (zcats.r zref.r zcats.nil)) ?_)
  intro p_ e_ s_ m_ args_ below_ meth_ c_ X hr hlk hin htab
  have X : ZX p_ m_ c_ cJ21_init 2 s_ args_ "java/util/ArrayList$Itr" G := X
  refine z_lv (lv' := [(0, .ref x), (1, .ref a)]) (fun _ hq => hq) ?_
  refine z_aload_n X 0 dJ21_init_0 zref.r rfl ?_
  refine z_aload_n X 1 dJ21_init_1 zref.r rfl ?_
  refine z_putF X zP15 3 (by decide) q1094 (Or.inl rfl) rfl hin rfl hx (by omega) (by omega) (zfits.o zref.r) (Nat.le_of_ble_eq_true rfl) rfl dJ21_init_2 ?_
  refine z_nm fun h135 e136 => ?_
  have o137 := zOn.up (zOn.rf (T := fun t' => t' = tx) (h := h)) e136 hx (by first | exact rfl | omega | simp)
  have f138 : h135 a = (t, .inr (9, [.int mc, v1, .int (nI n)])) := zup_oa e136 ha hax
  have f139 : h135 x = (tx, .inr (15, [.int y0, .int y1, .int y2, .ref a])) := zup_is e136
  refine z_aload_n X 0 dJ21_init_5 zref.r rfl ?_
  refine z_objInit X q1090 q95 q96 dJ21_init_6 (by first | exact Nat.le_of_ble_eq_true rfl | (dsimp only [zRm]; omega)) (by first | exact Nat.le_of_ble_eq_true rfl | (dsimp only [zRm]; omega)) ?_
  refine z_aload_n X 0 dJ21_init_9 zref.r rfl ?_
  refine z_iconst X (-1) dJ21_init_10 (by decide) ?_
  refine z_put X zP15 1 (by decide) q1092 (Or.inl rfl) rfl f139 (by omega) (by omega) (zfits.i _) (Nat.le_of_ble_eq_true rfl) rfl dJ21_init_11 ?_
  refine z_nm fun h140 e141 => ?_
  have o142 := zOn.up o137 e141 f139 (by first | exact rfl | omega | simp)
  have f143 : h140 a = (t, .inr (9, [.int mc, v1, .int (nI n)])) := zup_oa e141 f138 hax
  have f144 : h140 x = (tx, .inr (15, [.int y0, .int (-1), .int y2, .ref a])) := zup_is e141
  refine z_aload_n X 0 dJ21_init_14 zref.r rfl ?_
  refine z_aload_n X 0 dJ21_init_15 zref.r rfl ?_
  refine z_get X zP15 3 (by decide) q1094 (Or.inl rfl) f144 (by omega) rfl dJ21_init_16 ?_
  refine z_get X zP9 0 (by decide) q129 (Or.inr q130) f143 (by omega) rfl dJ21_init_19 ?_
  refine z_put X zP15 2 (by decide) q1093 (Or.inl rfl) rfl f144 (by omega) (by omega) (zfits.i _) (Nat.le_of_ble_eq_true rfl) rfl dJ21_init_22 ?_
  refine z_nm fun h145 e146 => ?_
  have o147 := zOn.up o142 e146 f144 (by first | exact rfl | omega | simp)
  have f148 : h145 a = (t, .inr (9, [.int mc, v1, .int (nI n)])) := zup_oa e146 f143 hax
  have f149 : h145 x = (tx, .inr (15, [.int y0, .int (-1), .int mc, .ref a])) := zup_is e146
  exact z_vret X hr hlk dJ21_init_25 (by first | exact Nat.le_of_ble_eq_true rfl | (dsimp only [zRm]; omega) | omega) (by first | exact Nat.le_of_ble_eq_true rfl | (dsimp only [zRm]; omega) | omega) ⟨rfl, f149, o147⟩
/-- an iterator of the list at a: i elements told -/
def zIT (h : ZH) (tx x a i : Nat) (mc : Int32) : Prop := ∃ y1 : Int32, h x = (tx, .inr (15, [.int (nI i), .int y1, .int mc, .ref a]))
/-- the list with its count of changes -/
def zALm (G : ZG) (h : ZH) (t a n : Nat) (f : Nat → Value) (mc : Int32) : Prop := ∃ (ed cap te : Nat) (g : Nat → Value), h a = (t, .inr (9, [.int mc, .ref ed, .int (nI n)])) ∧ h ed = (te, .inl (3, cap, g)) ∧ n ≤ cap ∧ cap < 2 ^ 24 ∧ (∀ k, k < n → g k = f k) ∧ ((te = t ∧ 0 < cap) ∨ (te = 1 ∧ cap = 0 ∧ ed = zS G 1))
theorem zALm.on {G : ZG} {h h' : ZH} {t a n : Nat} {f : Nat → Value} {mc : Int32} {T : Nat → Prop} (H : zALm G h t a n f mc) (o : zOn T h h') (ht : 1 < t) (hT : ¬ T t) (h1 : ¬ T 1) : zALm G h' t a n f mc := by
  obtain ⟨ed, cap, te, g, e1, e2, e3⟩ := H
  refine ⟨ed, cap, te, g, o.at e1 (by omega) hT, o.at e2 ?_ ?_, e3⟩
  · rcases e3.2.2.2 with ⟨z, -⟩ | ⟨z, -⟩ <;> omega
  · rcases e3.2.2.2 with ⟨z, -⟩ | ⟨z, -⟩ <;> rw [z] <;> assumption
theorem zALm.rc {G : ZG} {h : ZH} {t a n : Nat} {f : Nat → Value} {mc : Int32} (H : zALm G h t a n f mc) : ∃ fs, h a = (t, .inr (9, fs)) := by
  obtain ⟨ed, cap, te, g, e1, -⟩ := H
  exact ⟨_, e1⟩
theorem zIT.rc {h : ZH} {tx x a i : Nat} {mc : Int32} (H : zIT h tx x a i mc) : ∃ fs, h x = (tx, .inr (15, fs)) := by
  obtain ⟨y1, e1⟩ := H
  exact ⟨_, e1⟩
theorem zALm.al {G : ZG} {h : ZH} {t a n : Nat} {f : Nat → Value} {mc : Int32} (H : zALm G h t a n f mc) : zAL G h t a n f := ⟨mc, H⟩
theorem zIT.on {h h' : ZH} {tx x a i : Nat} {mc : Int32} {T : Nat → Prop} (H : zIT h tx x a i mc) (o : zOn T h h') (ht : 1 < tx) (hT : ¬ T tx) : zIT h' tx x a i mc := by
  obtain ⟨y1, e1⟩ := H
  exact ⟨y1, o.at e1 (by omega) hT⟩

set_option maxHeartbeats 2000000 in
theorem c_J3_iterator {l : Launch} {G : ZG} {h : ZH} (tx : Nat) {t a n : Nat} {f : Nat → Value} (hA : zAL G h t a n f) (ht : 1 < t) (htx : 1 < tx) (hne : tx ≠ t) : ZM l G yJ3_iterator (ws_ yJ3_iterator cJ3_iterator 1 (Option.some (FieldType.object "java/util/Iterator"))) (zRm 2 1 4 40) [.ref a] h (fun v' h' => ∃ (x : Nat) (mc : Int32), v' = some (.ref x) ∧ zIT h' tx x a 0 mc ∧ zALm G h' t a n f mc ∧ (h x).1 = 0 ∧ zOn (fun t' => t' = tx) h h') := by
  refine ZT.zm (ZT.of (by first | exact plainFor_of_name (by decide) | decide +kernel) (Nat.le_of_ble_eq_true rfl) (zcats.r zref.r zcats.nil) ?_)
  intro p_ e_ s_ m_ args_ below_ meth_ c_ X hr hlk hin htab
  have X : ZX p_ m_ c_ cJ3_iterator 1 s_ args_ "java/util/ArrayList" G := X
  refine z_lv (lv' := [(0, .ref a)]) (fun _ hq => hq) ?_
  obtain ⟨mc, ed, cap, te, g, e1, e2, e3, e4, e5, e6⟩ := hA
  have hte : 0 < te := by rcases e6 with ⟨z, -⟩ | ⟨z, -⟩ <;> omega
  have hte2 : te ≠ tx := by rcases e6 with ⟨z, -⟩ | ⟨z, -⟩ <;> omega
  refine z_new X zP15 tx (by omega) (fs := [.int 0, .int 0, .int 0, .null]) (by intro j hj; rcases j with _ | _ | _ | _ | _ <;> first | rfl | omega) q1085 q1086 q81 (by first | exact Nat.le_of_ble_eq_true rfl | (dsimp only [zRm]; omega)) (by first | exact Nat.le_of_ble_eq_true rfl | (dsimp only [zRm]; omega)) dJ3_iterator_0 fun x n150 => ?_
  refine z_nm fun h151 e152 => ?_
  have o153 := zOn.new (zOn.rf (T := fun t' => t' = tx) (h := h)) e152 n150
  have f154 : h151 a = (t, .inr (9, [.int mc, .ref ed, .int (nI n)])) := zup_o0 e152 n150 e1 (by omega)
  have f155 : h151 ed = (te, .inl (3, cap, g)) := zup_o0 e152 n150 e2 (by omega)
  have f156 : h151 x = (tx, .inr (15, [.int 0, .int 0, .int 0, .null])) := zup_is e152
  refine z_dup X dJ3_iterator_3 rfl ?_
  refine z_aload_n X 0 dJ3_iterator_4 zref.r rfl ?_
  refine z_callI X (rest := [.ref x]) (c_J21_init f154 (by omega) f156 htx (by intro z; rw [← z, e1] at n150; simp at n150; omega)) (cwI 1 (zXts X) (lw_meth q1089) rfl rfl rfl (zXts X _ q81) (zXts X _ q1087) (zXts X _ q1088) rfl (by decide +kernel) ⟨Nat.le_of_ble_eq_true rfl, Nat.le_of_ble_eq_true rfl⟩) rfl (Nat.le_of_ble_eq_true rfl) ⟨(by first | exact Nat.le_of_ble_eq_true rfl | (dsimp only [zRm]; omega)), (by first | exact Nat.le_of_ble_eq_true rfl | (dsimp only [zRm]; omega))⟩ dJ3_iterator_5 (fun v157 h158 p159 => ?_)
  obtain ⟨rfl, p1, p2⟩ := p159
  refine z_st (st' := [.ref x]) rfl ?_
  have f160 : h158 a = (t, .inr (9, [.int mc, .ref ed, .int (nI n)])) := zOn.at p2 f154 (by omega) (by omega)
  have f161 : h158 ed = (te, .inl (3, cap, g)) := zOn.at p2 f155 (by omega) (by omega)
  have o162 := zOn.trans o153 (zOn.mono p2 (by intro t ht; first | exact ht | omega | simp_all))
  exact z_aret X hr (by first | exact Or.inl ⟨_, rfl⟩ | exact Or.inr ⟨_, rfl⟩) hlk zref.r dJ3_iterator_8 (by first | exact Nat.le_of_ble_eq_true rfl | (dsimp only [zRm]; omega) | omega) (by first | exact Nat.le_of_ble_eq_true rfl | (dsimp only [zRm]; omega) | omega) ⟨x, mc, rfl, ⟨_, p1⟩, ⟨ed, cap, te, g, f160, f161, e3, e4, e5, e6⟩, n150, o162⟩
set_option maxHeartbeats 2000000 in
theorem c_J21_hasNext {l : Launch} {G : ZG} {h : ZH} {tx x t a n i : Nat} {mc : Int32} {f : Nat → Value} (hI : zIT h tx x a i mc) (hA : zALm G h t a n f mc) (ht : 1 < t) (htx : 1 < tx) (hi : i ≤ n) : ZM l G yJ21_hasNext (ws_ yJ21_hasNext cJ21_hasNext 1 (Option.some FieldType.boolean)) (zRm 0 0 0 0) [.ref x] h (fun v' h' => v' = some (.int (if i < n then 1 else 0)) ∧ h = h') := by
  refine ZT.zm (ZT.of (by first | exact plainFor_of_name (by decide) | decide +kernel) (Nat.le_of_ble_eq_true rfl) (zcats.r zref.r zcats.nil) ?_)
  intro p_ e_ s_ m_ args_ below_ meth_ c_ X hr hlk hin htab
  have X : ZX p_ m_ c_ cJ21_hasNext 1 s_ args_ "java/util/ArrayList$Itr" G := X
  refine z_lv (lv' := [(0, .ref x)]) (fun _ hq => hq) ?_
  obtain ⟨y1, hx⟩ := hI
  obtain ⟨ed, cap, te, g, e1, e2, e3, e4, e5, e6⟩ := hA
  refine z_aload_n X 0 dJ21_hasNext_0 zref.r rfl ?_
  refine z_get X zP15 0 (by decide) q1091 (Or.inl rfl) hx (by omega) rfl dJ21_hasNext_1 ?_
  refine z_aload_n X 0 dJ21_hasNext_4 zref.r rfl ?_
  refine z_get X zP15 3 (by decide) q1094 (Or.inl rfl) hx (by omega) rfl dJ21_hasNext_5 ?_
  refine z_getN X zP9 2 (by decide) q126 (Or.inl rfl) e1 (by omega) rfl dJ21_hasNext_8 ?_
  refine z_icmp_eqN X i n 18 dJ21_hasNext_11 (by decide) rfl rfl (by omega) (by omega) (fun c163 => ?_) (fun c163 => ?_)
  · refine z_iconst X (nI 0) dJ21_hasNext_18 (by decide) ?_
    exact z_zret X hr hlk (zfits.b0) dJ21_hasNext_19 (by first | exact Nat.le_of_ble_eq_true rfl | (dsimp only [zRm]; omega) | omega) (by first | exact Nat.le_of_ble_eq_true rfl | (dsimp only [zRm]; omega) | omega) ⟨by rw [if_neg (by omega)]; rfl, rfl⟩
  · refine z_iconst X (nI 1) dJ21_hasNext_14 (by decide) ?_
    refine z_goto X 19 dJ21_hasNext_15 (by decide) ?_
    exact z_zret X hr hlk (zfits.b1) dJ21_hasNext_19 (by first | exact Nat.le_of_ble_eq_true rfl | (dsimp only [zRm]; omega) | omega) (by first | exact Nat.le_of_ble_eq_true rfl | (dsimp only [zRm]; omega) | omega) ⟨by rw [if_pos (by omega)]; rfl, rfl⟩
set_option maxHeartbeats 2000000 in
theorem c_J21_checkForComodification {l : Launch} {G : ZG} {h : ZH} {tx x t a n i : Nat} {mc : Int32} {f : Nat → Value} (hI : zIT h tx x a i mc) (hA : zALm G h t a n f mc) (ht : 1 < t) (htx : 1 < tx) : ZM l G yJ21_checkForComodification (ws_ yJ21_checkForComodification cJ21_checkForComodification 1 (Option.none : Option FieldType)) (zRm 0 0 0 0) [.ref x] h (fun v' h' => v' = none ∧ h = h') := by
  refine ZT.zm (ZT.of (by first | exact plainFor_of_name (by decide) | decide +kernel) (Nat.le_of_ble_eq_true rfl) (zcats.r zref.r zcats.nil) ?_)
  intro p_ e_ s_ m_ args_ below_ meth_ c_ X hr hlk hin htab
  have X : ZX p_ m_ c_ cJ21_checkForComodification 1 s_ args_ "java/util/ArrayList$Itr" G := X
  refine z_lv (lv' := [(0, .ref x)]) (fun _ hq => hq) ?_
  obtain ⟨y1, hx⟩ := hI
  obtain ⟨ed, cap, te, g, e1, e2, e3, e4, e5, e6⟩ := hA
  refine z_aload_n X 0 dJ21_checkForComodification_0 zref.r rfl ?_
  refine z_get X zP15 3 (by decide) q1094 (Or.inl rfl) hx (by omega) rfl dJ21_checkForComodification_1 ?_
  refine z_get X zP9 0 (by decide) q129 (Or.inr q130) e1 (by omega) rfl dJ21_checkForComodification_4 ?_
  refine z_aload_n X 0 dJ21_checkForComodification_7 zref.r rfl ?_
  refine z_get X zP15 2 (by decide) q1093 (Or.inl rfl) hx (by omega) rfl dJ21_checkForComodification_8 ?_
  refine z_icmp_eq X 22 dJ21_checkForComodification_11 (by decide) (fun c164 => ?_) (fun c164 => ?_)
  rotate_left
  · exact absurd rfl c164
  exact z_vret X hr hlk dJ21_checkForComodification_22 (by first | exact Nat.le_of_ble_eq_true rfl | (dsimp only [zRm]; omega) | omega) (by first | exact Nat.le_of_ble_eq_true rfl | (dsimp only [zRm]; omega) | omega) ⟨rfl, rfl⟩
set_option maxHeartbeats 2000000 in
theorem c_J21_next {l : Launch} {G : ZG} {h : ZH} {tx x t a n i : Nat} {mc : Int32} {f : Nat → Value} (hI : zIT h tx x a i mc) (hA : zALm G h t a n f mc) (ht : 1 < t) (htx : 1 < tx) (hne : tx ≠ t) (hi : i < n) (hv : zref (f i)) : ZM l G yJ21_next (ws_ yJ21_next cJ21_next 3 (Option.some (FieldType.object "java/lang/Object"))) (zRm 1 0 0 20) [.ref x] h (fun v' h' => v' = some (f i) ∧ zIT h' tx x a (i + 1) mc ∧ zALm G h' t a n f mc ∧ zOn (fun t' => t' = tx) h h') := by
  refine ZT.zm (ZT.of (by first | exact plainFor_of_name (by decide) | decide +kernel) (Nat.le_of_ble_eq_true rfl) (zcats.r zref.r zcats.nil) ?_)
  intro p_ e_ s_ m_ args_ below_ meth_ c_ X hr hlk hin htab
  have X : ZX p_ m_ c_ cJ21_next 3 s_ args_ "java/util/ArrayList$Itr" G := X
  refine z_lv (lv' := [(0, .ref x)]) (fun _ hq => hq) ?_
  refine z_aload_n X 0 dJ21_next_0 zref.r rfl ?_
  obtain ⟨_, r165⟩ := zIT.rc hI
  refine z_callV X (rest := []) (c_J21_checkForComodification hI hA ht htx) (cwV 0 (zXts X) (lw_V q1147 q1148 q1149 q81 q1150) rfl rfl rfl (by decide +kernel) ⟨Nat.le_of_ble_eq_true rfl, Nat.le_of_ble_eq_true rfl⟩) r165 (by omega) rfl rfl (Nat.le_of_ble_eq_true rfl) ⟨(by first | exact Nat.le_of_ble_eq_true rfl | (dsimp only [zRm]; omega)), (by first | exact Nat.le_of_ble_eq_true rfl | (dsimp only [zRm]; omega))⟩ dJ21_next_1 (fun v166 h167 p168 => ?_)
  obtain ⟨rfl, rfl⟩ := p168
  refine z_st (st' := []) rfl ?_
  obtain ⟨y1, hx⟩ := hI
  obtain ⟨ed, cap, te, g, e1, e2, e3, e4, e5, e6⟩ := hA
  have hte : 0 < te := by rcases e6 with ⟨z, -⟩ | ⟨z, -⟩ <;> omega
  have hte2 : te ≠ tx := by rcases e6 with ⟨z, -⟩ | ⟨z, -⟩ <;> omega
  refine z_aload_n X 0 dJ21_next_4 zref.r rfl ?_
  refine z_get X zP15 0 (by decide) q1091 (Or.inl rfl) hx (by omega) rfl dJ21_next_5 ?_
  refine z_istore_n X (lv' := [(1, .int (nI i)), (0, .ref x)]) dJ21_next_8 (by decide) rfl ?_
  refine z_iload_n X 0 dJ21_next_9 rfl ?_
  refine z_aload_n X 1 dJ21_next_10 zref.r rfl ?_
  refine z_get X zP15 3 (by decide) q1094 (Or.inl rfl) hx (by omega) rfl dJ21_next_11 ?_
  refine z_getN X zP9 2 (by decide) q126 (Or.inl rfl) e1 (by omega) rfl dJ21_next_14 ?_
  refine z_icmp_ltN X i n 28 dJ21_next_17 (by decide) rfl rfl (by omega) (by omega) (fun c169 => ?_) (fun c169 => ?_)
  rotate_left
  · omega
  refine z_aload_n X 1 dJ21_next_28 zref.r rfl ?_
  refine z_get X zP15 3 (by decide) q1094 (Or.inl rfl) hx (by omega) rfl dJ21_next_29 ?_
  refine z_get X zP9 1 (by decide) q125 (Or.inl rfl) e1 (by omega) rfl dJ21_next_32 ?_
  refine z_astore_n X (lv' := [(2, .ref ed), (1, .int (nI i)), (0, .ref x)]) dJ21_next_35 zref.r (by decide) rfl ?_
  refine z_iload_n X 1 dJ21_next_36 rfl ?_
  refine z_aload_n X 0 dJ21_next_37 zref.r rfl ?_
  refine z_alen X e2 (ty := .object "java/lang/Object") rfl (by omega) dJ21_next_38 ?_
  refine z_icmp_ltN X i cap 50 dJ21_next_39 (by decide) rfl rfl (by omega) (by omega) (fun c170 => ?_) (fun c170 => ?_)
  rotate_left
  · omega
  refine z_aload_n X 2 dJ21_next_50 zref.r rfl ?_
  refine z_iload_n X 1 dJ21_next_51 rfl ?_
  refine z_iconst X (nI 1) dJ21_next_52 (by decide) ?_
  refine z_iadd X (nI (i + 1)) dJ21_next_53 (nI_add _ _) ?_
  refine z_put X zP15 0 (by decide) q1091 (Or.inl rfl) rfl hx (by omega) (by omega) (zfits.i _) (Nat.le_of_ble_eq_true rfl) rfl dJ21_next_54 ?_
  refine z_nm fun h171 e172 => ?_
  have o173 := zOn.up (zOn.rf (T := fun t' => t' = tx) (h := h)) e172 hx (by first | exact rfl | omega | simp)
  have f174 : h171 a = (t, .inr (9, [.int mc, .ref ed, .int (nI n)])) := zup_ot e172 hx e1 (by omega)
  have f175 : h171 ed = (te, .inl (3, cap, g)) := zup_ot e172 hx e2 (by omega)
  have f176 : h171 x = (tx, .inr (15, [.int (nI (i + 1)), .int y1, .int mc, .ref a])) := zup_is e172
  refine z_aload_n X 0 dJ21_next_57 zref.r rfl ?_
  refine z_aload_n X 2 dJ21_next_58 zref.r rfl ?_
  refine z_iload_n X 1 dJ21_next_59 rfl ?_
  refine z_dup_x1 X dJ21_next_60 rfl rfl ?_
  refine z_put X zP15 1 (by decide) q1092 (Or.inl rfl) rfl f176 (by omega) (by omega) (zfits.i _) (Nat.le_of_ble_eq_true rfl) rfl dJ21_next_61 ?_
  refine z_nm fun h177 e178 => ?_
  have o179 := zOn.up o173 e178 f176 (by first | exact rfl | omega | simp)
  have f180 : h177 a = (t, .inr (9, [.int mc, .ref ed, .int (nI n)])) := zup_ot e178 f176 f174 (by omega)
  have f181 : h177 ed = (te, .inl (3, cap, g)) := zup_ot e178 f176 f175 (by omega)
  have f182 : h177 x = (tx, .inr (15, [.int (nI (i + 1)), .int (nI i), .int mc, .ref a])) := zup_is e178
  refine z_aald X (v := f i) i f181 (ty := .object "java/lang/Object") rfl rfl (by omega) rfl (by omega) (by first | decide | omega) (e5 i hi) dJ21_next_64 ?_
  exact z_aret X hr (by first | exact Or.inl ⟨_, rfl⟩ | exact Or.inr ⟨_, rfl⟩) hlk hv dJ21_next_65 (by first | exact Nat.le_of_ble_eq_true rfl | (dsimp only [zRm]; omega) | omega) (by first | exact Nat.le_of_ble_eq_true rfl | (dsimp only [zRm]; omega) | omega) ⟨rfl, ⟨_, f182⟩, ⟨ed, cap, te, g, f180, f181, e3, e4, e5, e6⟩, o179⟩
