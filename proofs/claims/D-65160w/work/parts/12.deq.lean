set_option maxRecDepth 100000
/-- an ArrayDeque that holds the places hd .. tl of f -/
def zDQ (h : ZH) (t a hd tl : Nat) (f : Nat → Value) : Prop := ∃ (ea : Nat) (g : Nat → Value), h a = (t, .inr (14, [.ref ea, .int (nI hd), .int (nI tl)])) ∧ h ea = (t, .inl (3, 17, g)) ∧ hd ≤ tl ∧ tl < 17 ∧ (∀ k, hd ≤ k → k < tl → g k = f k)
theorem zDQ.on {h h' : ZH} {t a hd tl : Nat} {f : Nat → Value} {T : Nat → Prop} (H : zDQ h t a hd tl f) (o : zOn T h h') (ht : 1 < t) (hT : ¬ T t) : zDQ h' t a hd tl f := by
  obtain ⟨ea, g, e1, e2, e3⟩ := H
  exact ⟨ea, g, o.at e1 (by omega) hT, o.at e2 (by omega) hT, e3⟩
theorem zDQ.rc {h : ZH} {t a hd tl : Nat} {f : Nat → Value} (H : zDQ h t a hd tl f) : ∃ fs, h a = (t, .inr (14, fs)) := by
  obtain ⟨ea, g, e1, -⟩ := H
  exact ⟨_, e1⟩
set_option maxHeartbeats 2000000 in
theorem c_J20_init {l : Launch} {G : ZG} {h : ZH} {a t : Nat} (ha : h a = (t, .inr (14, [.null, .int 0, .int 0]))) (ht : 1 < t) : ZM l G yJ20_init (ws_ yJ20_init cJ20_init 1 (Option.none : Option FieldType)) (zRm 3 1 17 60) [.ref a] h (fun v h' => v = none ∧ (∀ f, zDQ h' t a 0 0 f) ∧ zOn (fun t' => t' = t) h h') := by
  refine ZT.zm (ZT.of (by first | exact plainFor_of_name (by decide) | decide +kernel) (Nat.le_of_ble_eq_true rfl) (zcats.r zref.r zcats.nil) ?_)
  intro p_ e_ s_ m_ args_ below_ meth_ c_ X hr hlk hin htab
  have X : ZX p_ m_ c_ cJ20_init 1 s_ args_ "java/util/ArrayDeque" G := X
  refine z_lv (lv' := [(0, .ref a)]) (fun _ hq => hq) ?_
  refine z_aload_n X 0 dJ20_init_0 zref.r rfl ?_
  refine z_callI X (rest := []) c_J1_init (cwI 0 (zXts X) (lw_meth q120) rfl rfl rfl (zXts X _ q51) (zXts X _ q1022) (zXts X _ q119) rfl (by decide +kernel) ⟨Nat.le_of_ble_eq_true rfl, Nat.le_of_ble_eq_true rfl⟩) rfl (Nat.le_of_ble_eq_true rfl) ⟨(by first | exact Nat.le_of_ble_eq_true rfl | (dsimp only [zRm]; omega)), (by first | exact Nat.le_of_ble_eq_true rfl | (dsimp only [zRm]; omega))⟩ dJ20_init_1 (fun v1 h2 p3 => ?_)
  obtain ⟨rfl, rfl⟩ := p3
  refine z_st (st' := []) rfl ?_
  refine z_aload_n X 0 dJ20_init_4 zref.r rfl ?_
  refine z_bipush X (nI 17) dJ20_init_5 (by decide) ?_
  refine z_anew X 3 rfl (by decide) t (by omega) (f := (fun _ => .null)) (fun _ => rfl) (by decide) q1023 17 rfl (by first | decide | omega) (by first | exact Nat.le_of_ble_eq_true rfl | (dsimp only [zRm]; omega)) (by first | exact Nat.le_of_ble_eq_true rfl | (dsimp only [zRm]; omega)) dJ20_init_7 fun ea n4 => ?_
  refine z_nm fun h5 e6 => ?_
  have o7 := zOn.new (zOn.rf (T := fun t' => t' = t) (h := h)) e6 n4
  have f8 : h5 a = (t, .inr (14, [.null, .int 0, .int 0])) := zup_o0 e6 n4 ha (by omega)
  have f9 : h5 ea = (t, .inl (3, 17, (fun _ => .null))) := zup_is e6
  refine z_put X zP14 0 (by decide) q1024 (Or.inl rfl) rfl f8 (by omega) (by omega) (zfits.a zref.r) (Nat.le_of_ble_eq_true rfl) rfl dJ20_init_10 ?_
  refine z_nm fun h10 e11 => ?_
  have o12 := zOn.up o7 e11 f8 (by first | exact rfl | omega | simp)
  have f13 : h10 ea = (t, .inl (3, 17, (fun _ => .null))) := zup_oa e11 f9 (by intro z9; rw [z9, ha] at n4; simp at n4; omega)
  have f14 : h10 a = (t, .inr (14, [.ref ea, .int 0, .int 0])) := zup_is e11
  exact z_vret X hr hlk dJ20_init_13 (by first | exact Nat.le_of_ble_eq_true rfl | (dsimp only [zRm]; omega) | omega) (by first | exact Nat.le_of_ble_eq_true rfl | (dsimp only [zRm]; omega) | omega) ⟨rfl, fun f => ⟨ea, _, f14, f13, Nat.le_refl _, by decide, fun k h1 h2 => absurd h2 (Nat.not_lt_zero _)⟩, o12⟩
set_option maxHeartbeats 2000000 in
theorem c_J20_isEmpty {l : Launch} {G : ZG} {h : ZH} {a t hd tl : Nat} {f : Nat → Value} (hA : zDQ h t a hd tl f) (ht : 1 < t) : ZM l G yJ20_isEmpty (ws_ yJ20_isEmpty cJ20_isEmpty 1 (Option.some FieldType.boolean)) (zRm 0 0 0 0) [.ref a] h (fun v h' => v = some (.int (if hd = tl then 1 else 0)) ∧ h = h') := by
  refine ZT.zm (ZT.of (by first | exact plainFor_of_name (by decide) | decide +kernel) (Nat.le_of_ble_eq_true rfl) (zcats.r zref.r zcats.nil) ?_)
  intro p_ e_ s_ m_ args_ below_ meth_ c_ X hr hlk hin htab
  have X : ZX p_ m_ c_ cJ20_isEmpty 1 s_ args_ "java/util/ArrayDeque" G := X
  refine z_lv (lv' := [(0, .ref a)]) (fun _ hq => hq) ?_
  obtain ⟨ea, g, e1, e2, e3, e4, e5⟩ := hA
  refine z_aload_n X 0 dJ20_isEmpty_0 zref.r rfl ?_
  refine z_get X zP14 1 (by decide) q1027 (Or.inl rfl) e1 (by omega) rfl dJ20_isEmpty_1 ?_
  refine z_aload_n X 0 dJ20_isEmpty_4 zref.r rfl ?_
  refine z_get X zP14 2 (by decide) q1028 (Or.inl rfl) e1 (by omega) rfl dJ20_isEmpty_5 ?_
  refine z_icmp_neN X hd tl 15 dJ20_isEmpty_8 (by decide) rfl rfl (by omega) (by omega) (fun c15 => ?_) (fun c15 => ?_)
  · refine z_iconst X (nI 0) dJ20_isEmpty_15 (by decide) ?_
    exact z_zret X hr hlk (zfits.b0) dJ20_isEmpty_16 (by first | exact Nat.le_of_ble_eq_true rfl | (dsimp only [zRm]; omega) | omega) (by first | exact Nat.le_of_ble_eq_true rfl | (dsimp only [zRm]; omega) | omega) ⟨by rw [if_neg c15]; rfl, rfl⟩
  · refine z_iconst X (nI 1) dJ20_isEmpty_11 (by decide) ?_
    refine z_goto X 16 dJ20_isEmpty_12 (by decide) ?_
    exact z_zret X hr hlk (zfits.b1) dJ20_isEmpty_16 (by first | exact Nat.le_of_ble_eq_true rfl | (dsimp only [zRm]; omega) | omega) (by first | exact Nat.le_of_ble_eq_true rfl | (dsimp only [zRm]; omega) | omega) ⟨by rw [if_pos c15]; rfl, rfl⟩
set_option maxHeartbeats 2000000 in
theorem c_J20_inc {l : Launch} {G : ZG} {h : ZH} {j n : Nat} (hj : j + 1 < n) (hn : n < 2 ^ 20) : ZM l G yJ20_inc (ws_ yJ20_inc cJ20_inc 2 (Option.some FieldType.int)) (zRm 0 0 0 0) [.int (nI j), .int (nI n)] h (fun v h' => v = some (.int (nI (j + 1))) ∧ h = h') := by
  refine ZT.zm (ZT.of (by first | exact plainFor_of_name (by decide) | decide +kernel) (Nat.le_of_ble_eq_true rfl) (zcats.i (zcats.i zcats.nil)) ?_)
  intro p_ e_ s_ m_ args_ below_ meth_ c_ X hr hlk hin htab
  have X : ZX p_ m_ c_ cJ20_inc 2 s_ args_ "java/util/ArrayDeque" G := X
  refine z_lv (lv' := [(0, .int (nI j)), (1, .int (nI n))]) (fun _ hq => hq) ?_
  refine z_iinc X (lv' := [(0, .int (nI (j + 1))), (1, .int (nI n))]) (nI (j + 1)) 0 dJ20_inc_0 rfl (nI_1 _) (by decide) rfl ?_
  refine z_iload_n X 0 dJ20_inc_3 rfl ?_
  refine z_iload_n X 1 dJ20_inc_4 rfl ?_
  refine z_icmp_ltN X (j + 1) n 10 dJ20_inc_5 (by decide) rfl rfl (by omega) (by omega) (fun c16 => ?_) (fun c16 => ?_)
  rotate_left
  · omega
  refine z_iload_n X 0 dJ20_inc_10 rfl ?_
  exact z_iret X hr hlk dJ20_inc_11 (by first | exact Nat.le_of_ble_eq_true rfl | (dsimp only [zRm]; omega) | omega) (by first | exact Nat.le_of_ble_eq_true rfl | (dsimp only [zRm]; omega) | omega) ⟨rfl, rfl⟩
set_option maxHeartbeats 2000000 in
theorem c_J20_elementAt {l : Launch} {G : ZG} {h : ZH} {ea t n j : Nat} {g : Nat → Value} {v : Value} (e2 : h ea = (t, .inl (3, n, g))) (ht : 1 < t) (hj : j < n) (hn : n < 2 ^ 20) (hg : g j = v) (hv : zref v) : ZM l G yJ20_elementAt (ws_ yJ20_elementAt cJ20_elementAt 2 (Option.some (FieldType.object "java/lang/Object"))) (zRm 0 0 0 0) [.ref ea, .int (nI j)] h (fun v' h' => v' = some v ∧ h = h') := by
  refine ZT.zm (ZT.of (by first | exact plainFor_of_name (by decide) | decide +kernel) (Nat.le_of_ble_eq_true rfl) (zcats.r zref.r (zcats.i zcats.nil)) ?_)
  intro p_ e_ s_ m_ args_ below_ meth_ c_ X hr hlk hin htab
  have X : ZX p_ m_ c_ cJ20_elementAt 2 s_ args_ "java/util/ArrayDeque" G := X
  refine z_lv (lv' := [(0, .ref ea), (1, .int (nI j))]) (fun _ hq => hq) ?_
  refine z_aload_n X 0 dJ20_elementAt_0 zref.r rfl ?_
  refine z_iload_n X 1 dJ20_elementAt_1 rfl ?_
  refine z_aald X (v := v) j e2 (ty := .object "java/lang/Object") rfl rfl (by omega) rfl (by omega) (by first | decide | omega) hg dJ20_elementAt_2 ?_
  exact z_aret X hr (by first | exact Or.inl ⟨_, rfl⟩ | exact Or.inr ⟨_, rfl⟩) hlk hv dJ20_elementAt_3 (by first | exact Nat.le_of_ble_eq_true rfl | (dsimp only [zRm]; omega) | omega) (by first | exact Nat.le_of_ble_eq_true rfl | (dsimp only [zRm]; omega) | omega) ⟨rfl, rfl⟩
set_option maxHeartbeats 2000000 in
theorem c_J20_addLast {l : Launch} {G : ZG} {h : ZH} {a t hd tl b : Nat} {f : Nat → Value} (hA : zDQ h t a hd tl f) (ht : 1 < t) (htl : tl < 16) (hb : zob h (.ref b)) (hd0 : hd ≤ tl) : ZM l G yJ20_addLast (ws_ yJ20_addLast cJ20_addLast 3 (Option.none : Option FieldType)) (zRm 1 0 0 40) [.ref a, .ref b] h (fun v' h' => v' = none ∧ zDQ h' t a hd (tl + 1) (zuf f tl (.ref b)) ∧ zOn (fun t' => t' = t) h h') := by
  refine ZT.zm (ZT.of (by first | exact plainFor_of_name (by decide) | decide +kernel) (Nat.le_of_ble_eq_true rfl) (zcats.r zref.r (zcats.r zref.r zcats.nil)) ?_)
  intro p_ e_ s_ m_ args_ below_ meth_ c_ X hr hlk hin htab
  have X : ZX p_ m_ c_ cJ20_addLast 3 s_ args_ "java/util/ArrayDeque" G := X
  refine z_lv (lv' := [(0, .ref a), (1, .ref b)]) (fun _ hq => hq) ?_
  obtain ⟨ea, g, e1, e2, e3, e4, e5⟩ := hA
  have hne : ea ≠ a := by intro z; rw [z, e1] at e2; cases e2
  refine z_aload_n X 1 dJ20_addLast_0 zref.r rfl ?_
  refine z_ifnonnull X 12 dJ20_addLast_1 (by decide) zref.r (fun a18 c17 => ?_) (fun c17 => ?_)
  rotate_left
  · cases c17
  refine z_aload_n X 0 dJ20_addLast_12 zref.r rfl ?_
  refine z_get X zP14 0 (by decide) q1024 (Or.inl rfl) e1 (by omega) rfl dJ20_addLast_13 ?_
  refine z_astore_n X (lv' := [(2, .ref ea), (0, .ref a), (1, .ref b)]) dJ20_addLast_16 zref.r (by decide) rfl ?_
  refine z_aload_n X 0 dJ20_addLast_17 zref.r rfl ?_
  refine z_aload_n X 1 dJ20_addLast_18 zref.r rfl ?_
  refine z_get X zP14 2 (by decide) q1028 (Or.inl rfl) e1 (by omega) rfl dJ20_addLast_19 ?_
  refine z_aload_n X 2 dJ20_addLast_22 zref.r rfl ?_
  refine z_aastO X tl e2 ht hb rfl (by omega) (by decide) (f' := zuf g tl (.ref b)) (fun _ => rfl) dJ20_addLast_23 ?_
  refine z_nm fun h19 e20 => ?_
  have o21 := zOn.up (zOn.rf (T := fun t' => t' = t) (h := h)) e20 e2 (by first | exact rfl | omega | simp)
  have f22 : h19 a = (t, .inr (14, [.ref ea, .int (nI hd), .int (nI tl)])) := zup_oa e20 e1 (Ne.symm hne)
  have f23 : h19 ea = (t, .inl (3, 17, (zuf g tl (.ref b)))) := zup_is e20
  refine z_aload_n X 1 dJ20_addLast_24 zref.r rfl ?_
  refine z_get X zP14 1 (by decide) q1027 (Or.inl rfl) f22 (by omega) rfl dJ20_addLast_25 ?_
  refine z_aload_n X 1 dJ20_addLast_28 zref.r rfl ?_
  refine z_aload_n X 1 dJ20_addLast_29 zref.r rfl ?_
  refine z_get X zP14 2 (by decide) q1028 (Or.inl rfl) f22 (by omega) rfl dJ20_addLast_30 ?_
  refine z_aload_n X 0 dJ20_addLast_33 zref.r rfl ?_
  refine z_alen X f23 (ty := .object "java/lang/Object") rfl (by omega) dJ20_addLast_34 ?_
  refine z_callS X (rest := [.ref a, .int (nI hd)]) (c_J20_inc (j := tl) (n := 17) (by omega) (by decide)) (va_cwS 2 (zXts X) (lw_S q1049 q1050 q80 q1051) rfl rfl rfl (by decide +kernel) ⟨Nat.le_of_ble_eq_true rfl, Nat.le_of_ble_eq_true rfl⟩) rfl (Nat.le_of_ble_eq_true rfl) ⟨(by first | exact Nat.le_of_ble_eq_true rfl | (dsimp only [zRm]; omega)), (by first | exact Nat.le_of_ble_eq_true rfl | (dsimp only [zRm]; omega))⟩ dJ20_addLast_35 (fun v24 h25 p26 => ?_)
  obtain ⟨rfl, rfl⟩ := p26
  refine z_st (st' := [.int (nI (tl + 1)), .ref a, .int (nI hd)]) rfl ?_
  refine z_dup_x1 X dJ20_addLast_38 rfl rfl ?_
  refine z_put X zP14 2 (by decide) q1028 (Or.inl rfl) rfl f22 (by omega) (by omega) (zfits.i _) (Nat.le_of_ble_eq_true rfl) rfl dJ20_addLast_39 ?_
  refine z_nm fun h27 e28 => ?_
  have o29 := zOn.up o21 e28 f22 (by first | exact rfl | omega | simp)
  have f30 : h27 ea = (t, .inl (3, 17, (zuf g tl (.ref b)))) := zup_oa e28 f23 hne
  have f31 : h27 a = (t, .inr (14, [.ref ea, .int (nI hd), .int (nI (tl + 1))])) := zup_is e28
  refine z_icmp_neN X hd (tl + 1) 50 dJ20_addLast_42 (by decide) rfl rfl (by omega) (by omega) (fun c32 => ?_) (fun c32 => ?_)
  rotate_left
  · omega
  exact z_vret X hr hlk dJ20_addLast_50 (by first | exact Nat.le_of_ble_eq_true rfl | (dsimp only [zRm]; omega) | omega) (by first | exact Nat.le_of_ble_eq_true rfl | (dsimp only [zRm]; omega) | omega) ⟨rfl, ⟨ea, _, f31, f30, by omega, by omega, fun k h1 h2 => by simp only [zuf]; split; rfl; exact e5 k h1 (by omega)⟩, o29⟩
set_option maxHeartbeats 2000000 in
theorem c_J20_add {l : Launch} {G : ZG} {h : ZH} {a t hd tl b : Nat} {f : Nat → Value} (hA : zDQ h t a hd tl f) (ht : 1 < t) (htl : tl < 16) (hb : zob h (.ref b)) (hd0 : hd ≤ tl) : ZM l G yJ20_add (ws_ yJ20_add cJ20_add 2 (Option.some FieldType.boolean)) (zRm 2 0 0 70) [.ref a, .ref b] h (fun v' h' => v' = some (.int 1) ∧ zDQ h' t a hd (tl + 1) (zuf f tl (.ref b)) ∧ zOn (fun t' => t' = t) h h') := by
  refine ZT.zm (ZT.of (by first | exact plainFor_of_name (by decide) | decide +kernel) (Nat.le_of_ble_eq_true rfl) (zcats.r zref.r (zcats.r zref.r zcats.nil)) ?_)
  intro p_ e_ s_ m_ args_ below_ meth_ c_ X hr hlk hin htab
  have X : ZX p_ m_ c_ cJ20_add 2 s_ args_ "java/util/ArrayDeque" G := X
  refine z_lv (lv' := [(0, .ref a), (1, .ref b)]) (fun _ hq => hq) ?_
  refine z_aload_n X 0 dJ20_add_0 zref.r rfl ?_
  refine z_aload_n X 1 dJ20_add_1 zref.r rfl ?_
  obtain ⟨_, r33⟩ := zDQ.rc hA
  refine z_callV X (rest := []) (c_J20_addLast hA ht htl hb hd0) (cwV 1 (zXts X) (lw_V q1045 q1046 q1047 q80 q1048) rfl rfl rfl (by decide +kernel) ⟨Nat.le_of_ble_eq_true rfl, Nat.le_of_ble_eq_true rfl⟩) r33 (by omega) rfl rfl (Nat.le_of_ble_eq_true rfl) ⟨(by first | exact Nat.le_of_ble_eq_true rfl | (dsimp only [zRm]; omega)), (by first | exact Nat.le_of_ble_eq_true rfl | (dsimp only [zRm]; omega))⟩ dJ20_add_2 (fun v34 h35 p36 => ?_)
  obtain ⟨rfl, p1, p2⟩ := p36
  refine z_st (st' := []) rfl ?_
  refine z_iconst X (nI 1) dJ20_add_5 (by decide) ?_
  exact z_zret X hr hlk (zfits.b1) dJ20_add_6 (by first | exact Nat.le_of_ble_eq_true rfl | (dsimp only [zRm]; omega) | omega) (by first | exact Nat.le_of_ble_eq_true rfl | (dsimp only [zRm]; omega) | omega) ⟨rfl, p1, p2⟩
set_option maxHeartbeats 2000000 in
theorem c_J20_pollFirst {l : Launch} {G : ZG} {h : ZH} {a t hd tl b : Nat} {f : Nat → Value} (hA : zDQ h t a hd tl f) (ht : 1 < t) (hlt : hd < tl) (hf : f hd = .ref b) : ZM l G yJ20_pollFirst (ws_ yJ20_pollFirst cJ20_pollFirst 4 (Option.some (FieldType.object "java/lang/Object"))) (zRm 1 0 0 40) [.ref a] h (fun v' h' => v' = some (.ref b) ∧ zDQ h' t a (hd + 1) tl f ∧ zOn (fun t' => t' = t) h h') := by
  refine ZT.zm (ZT.of (by first | exact plainFor_of_name (by decide) | decide +kernel) (Nat.le_of_ble_eq_true rfl) (zcats.r zref.r zcats.nil) ?_)
  intro p_ e_ s_ m_ args_ below_ meth_ c_ X hr hlk hin htab
  have X : ZX p_ m_ c_ cJ20_pollFirst 4 s_ args_ "java/util/ArrayDeque" G := X
  refine z_lv (lv' := [(0, .ref a)]) (fun _ hq => hq) ?_
  obtain ⟨ea, g, e1, e2, e3, e4, e5⟩ := hA
  have hne : ea ≠ a := by intro z; rw [z, e1] at e2; cases e2
  refine z_aload_n X 0 dJ20_pollFirst_0 zref.r rfl ?_
  refine z_get X zP14 0 (by decide) q1024 (Or.inl rfl) e1 (by omega) rfl dJ20_pollFirst_1 ?_
  refine z_dup X dJ20_pollFirst_4 rfl ?_
  refine z_astore_n X (lv' := [(1, .ref ea), (0, .ref a)]) dJ20_pollFirst_5 zref.r (by decide) rfl ?_
  refine z_aload_n X 1 dJ20_pollFirst_6 zref.r rfl ?_
  refine z_get X zP14 1 (by decide) q1027 (Or.inl rfl) e1 (by omega) rfl dJ20_pollFirst_7 ?_
  refine z_dup X dJ20_pollFirst_10 rfl ?_
  refine z_istore_n X (lv' := [(2, .int (nI hd)), (1, .ref ea), (0, .ref a)]) dJ20_pollFirst_11 (by decide) rfl ?_
  refine z_callS X (rest := []) (c_J20_elementAt e2 ht (j := hd) (by omega) (by decide) ((e5 hd (Nat.le_refl _) hlt).trans hf) zref.r) (va_cwS 2 (zXts X) (lw_S q1076 q1077 q80 q1078) rfl rfl rfl (by decide +kernel) ⟨Nat.le_of_ble_eq_true rfl, Nat.le_of_ble_eq_true rfl⟩) rfl (Nat.le_of_ble_eq_true rfl) ⟨(by first | exact Nat.le_of_ble_eq_true rfl | (dsimp only [zRm]; omega)), (by first | exact Nat.le_of_ble_eq_true rfl | (dsimp only [zRm]; omega))⟩ dJ20_pollFirst_12 (fun v37 h38 p39 => ?_)
  obtain ⟨rfl, rfl⟩ := p39
  refine z_st (st' := [.ref b]) rfl ?_
  refine z_astore_n X (lv' := [(3, .ref b), (2, .int (nI hd)), (1, .ref ea), (0, .ref a)]) dJ20_pollFirst_15 zref.r (by decide) rfl ?_
  refine z_aload_n X 0 dJ20_pollFirst_16 zref.r rfl ?_
  refine z_ifnull X 34 dJ20_pollFirst_17 (by decide) zref.r (fun c40 => ?_) (fun a41 c40 => ?_)
  · cases c40
  refine z_aload_n X 2 dJ20_pollFirst_20 zref.r rfl ?_
  refine z_iload_n X 1 dJ20_pollFirst_21 rfl ?_
  refine z_null X dJ20_pollFirst_22 ?_
  refine z_aastN X hd e2 rfl (by omega) (by omega) rfl (by omega) (by first | decide | omega) (f' := (zuf g hd .null)) (fun _ => rfl) dJ20_pollFirst_23 ?_
  refine z_nm fun h42 e43 => ?_
  have o44 := zOn.up (zOn.rf (T := fun t' => t' = t) (h := h)) e43 e2 (by first | exact rfl | omega | simp)
  have f45 : h42 a = (t, .inr (14, [.ref ea, .int (nI hd), .int (nI tl)])) := zup_oa e43 e1 (Ne.symm hne)
  have f46 : h42 ea = (t, .inl (3, 17, (zuf g hd .null))) := zup_is e43
  refine z_aload_n X 3 dJ20_pollFirst_24 zref.r rfl ?_
  refine z_iload_n X 1 dJ20_pollFirst_25 rfl ?_
  refine z_aload_n X 2 dJ20_pollFirst_26 zref.r rfl ?_
  refine z_alen X f46 (ty := .object "java/lang/Object") rfl (by omega) dJ20_pollFirst_27 ?_
  refine z_callS X (rest := [.ref a]) (c_J20_inc (j := hd) (n := 17) (by omega) (by decide)) (va_cwS 2 (zXts X) (lw_S q1049 q1050 q80 q1051) rfl rfl rfl (by decide +kernel) ⟨Nat.le_of_ble_eq_true rfl, Nat.le_of_ble_eq_true rfl⟩) rfl (Nat.le_of_ble_eq_true rfl) ⟨(by first | exact Nat.le_of_ble_eq_true rfl | (dsimp only [zRm]; omega)), (by first | exact Nat.le_of_ble_eq_true rfl | (dsimp only [zRm]; omega))⟩ dJ20_pollFirst_28 (fun v47 h48 p49 => ?_)
  obtain ⟨rfl, rfl⟩ := p49
  refine z_st (st' := [.int (nI (hd + 1)), .ref a]) rfl ?_
  refine z_put X zP14 1 (by decide) q1027 (Or.inl rfl) rfl f45 (by omega) (by omega) (zfits.i _) (Nat.le_of_ble_eq_true rfl) rfl dJ20_pollFirst_31 ?_
  refine z_nm fun h50 e51 => ?_
  have o52 := zOn.up o44 e51 f45 (by first | exact rfl | omega | simp)
  have f53 : h50 ea = (t, .inl (3, 17, (zuf g hd .null))) := zup_oa e51 f46 hne
  have f54 : h50 a = (t, .inr (14, [.ref ea, .int (nI (hd + 1)), .int (nI tl)])) := zup_is e51
  refine z_aload_n X 0 dJ20_pollFirst_34 zref.r rfl ?_
  exact z_aret X hr (by first | exact Or.inl ⟨_, rfl⟩ | exact Or.inr ⟨_, rfl⟩) hlk zref.r dJ20_pollFirst_35 (by first | exact Nat.le_of_ble_eq_true rfl | (dsimp only [zRm]; omega) | omega) (by first | exact Nat.le_of_ble_eq_true rfl | (dsimp only [zRm]; omega) | omega) ⟨rfl, ⟨ea, _, f54, f53, by omega, by omega, fun k h1 h2 => by simp only [zuf]; rw [if_neg (by omega)]; exact e5 k (by omega) h2⟩, o52⟩
set_option maxHeartbeats 2000000 in
theorem c_J20_poll {l : Launch} {G : ZG} {h : ZH} {a t hd tl b : Nat} {f : Nat → Value} (hA : zDQ h t a hd tl f) (ht : 1 < t) (hlt : hd < tl) (hf : f hd = .ref b) : ZM l G yJ20_poll (ws_ yJ20_poll cJ20_poll 1 (Option.some (FieldType.object "java/lang/Object"))) (zRm 2 0 0 70) [.ref a] h (fun v' h' => v' = some (.ref b) ∧ zDQ h' t a (hd + 1) tl f ∧ zOn (fun t' => t' = t) h h') := by
  refine ZT.zm (ZT.of (by first | exact plainFor_of_name (by decide) | decide +kernel) (Nat.le_of_ble_eq_true rfl) (zcats.r zref.r zcats.nil) ?_)
  intro p_ e_ s_ m_ args_ below_ meth_ c_ X hr hlk hin htab
  have X : ZX p_ m_ c_ cJ20_poll 1 s_ args_ "java/util/ArrayDeque" G := X
  refine z_lv (lv' := [(0, .ref a)]) (fun _ hq => hq) ?_
  refine z_aload_n X 0 dJ20_poll_0 zref.r rfl ?_
  obtain ⟨_, r55⟩ := zDQ.rc hA
  refine z_callV X (rest := []) (c_J20_pollFirst hA ht hlt hf) (cwV 0 (zXts X) (lw_V q1072 q1073 q1074 q80 q1075) rfl rfl rfl (by decide +kernel) ⟨Nat.le_of_ble_eq_true rfl, Nat.le_of_ble_eq_true rfl⟩) r55 (by omega) rfl rfl (Nat.le_of_ble_eq_true rfl) ⟨(by first | exact Nat.le_of_ble_eq_true rfl | (dsimp only [zRm]; omega)), (by first | exact Nat.le_of_ble_eq_true rfl | (dsimp only [zRm]; omega))⟩ dJ20_poll_1 (fun v56 h57 p58 => ?_)
  obtain ⟨rfl, p1, p2⟩ := p58
  refine z_st (st' := [.ref b]) rfl ?_
  exact z_aret X hr (by first | exact Or.inl ⟨_, rfl⟩ | exact Or.inr ⟨_, rfl⟩) hlk zref.r dJ20_poll_4 (by first | exact Nat.le_of_ble_eq_true rfl | (dsimp only [zRm]; omega) | omega) (by first | exact Nat.le_of_ble_eq_true rfl | (dsimp only [zRm]; omega) | omega) ⟨rfl, p1, p2⟩
set_option maxHeartbeats 2000000 in
theorem c_J12_fill {l : Launch} {G : ZG} {h : ZH} {a t n : Nat} {f : Nat → Value} {x : Int32} (ha : h a = (t, .inl (0, n, f))) (ht : 1 < t) (hn : n < 2 ^ 20) : ZM l G yJ12_fill (ws_ yJ12_fill cJ12_fill 4 (Option.none : Option FieldType)) (zRm 0 0 0 0) [.ref a, .int x] h (fun v' h' => v' = none ∧ (∃ g : Nat → Value, h' a = (t, .inl (0, n, g)) ∧ ∀ k, k < n → g k = .int x) ∧ zOn (fun t' => t' = t) h h') := by
  refine ZT.zm (ZT.of (by first | exact plainFor_of_name (by decide) | decide +kernel) (Nat.le_of_ble_eq_true rfl) (zcats.r zref.r (zcats.i zcats.nil)) ?_)
  intro p_ e_ s_ m_ args_ below_ meth_ c_ X hr hlk hin htab
  have X : ZX p_ m_ c_ cJ12_fill 4 s_ args_ "java/util/Arrays" G := X
  refine z_lv (lv' := [(0, .ref a), (1, .int x)]) (fun _ hq => hq) ?_
  refine z_iconst X (nI 0) dJ12_fill_0 (by decide) ?_
  refine z_istore_n X (lv' := [(2, .int (nI 0)), (0, .ref a), (1, .int x)]) dJ12_fill_1 (by decide) rfl ?_
  refine z_aload_n X 1 dJ12_fill_2 zref.r rfl ?_
  refine z_alen X ha (ty := .int) rfl (by omega) dJ12_fill_3 ?_
  refine z_istore_n X (lv' := [(3, .int (nI n)), (2, .int (nI 0)), (0, .ref a), (1, .int x)]) dJ12_fill_4 (by decide) rfl ?_
  refine z_lvp (lv' := [(0, .ref a), (1, .int x), (2, .int (nI 0)), (3, .int (nI n))]) [2, 3, 1, 0] rfl ?_
  refine z_loop (σ := Nat × ZH) (fun y => y.1 ≤ n ∧ (∃ g : Nat → Value, y.2 a = (t, .inl (0, n, g)) ∧ ∀ k, k < y.1 → g k = .int x) ∧ zOn (fun t' => t' = t) h y.2) (fun y => n - y.1) (fun y => [(0, .ref a), (1, .int x), (2, .int (nI y.1)), (3, .int (nI n))]) (fun y => []) (fun y => y.2) (fun y => 0) (fun y => 0) ?_ (0, h) (⟨Nat.zero_le _, ⟨f, ha, fun k hk => absurd hk (Nat.not_lt_zero _)⟩, zOn.rf⟩)
  intro ⟨i, h9⟩ hI ih
  try dsimp only at hI
  try dsimp only at ih
  try dsimp only
  obtain ⟨hi, ⟨g, i1, i2⟩, i3⟩ := hI
  refine z_iload_n X 2 dJ12_fill_5 rfl ?_
  refine z_iload_n X 3 dJ12_fill_6 rfl ?_
  refine z_icmp_geN X i n 20 dJ12_fill_7 (by decide) rfl rfl (by omega) (by omega) (fun c59 => ?_) (fun c59 => ?_)
  · have z9 : i = n := by omega
    subst z9
    exact z_vret X hr hlk dJ12_fill_20 (by first | exact Nat.le_of_ble_eq_true rfl | (dsimp only [zRm]; omega) | omega) (by first | exact Nat.le_of_ble_eq_true rfl | (dsimp only [zRm]; omega) | omega) ⟨rfl, ⟨g, i1, i2⟩, i3⟩
  · refine z_aload_n X 0 dJ12_fill_10 zref.r rfl ?_
    refine z_iload_n X 2 dJ12_fill_11 rfl ?_
    refine z_iload_n X 1 dJ12_fill_12 rfl ?_
    refine z_iast X i i1 (by omega) (by omega) rfl (by omega) (by first | decide | omega) (f' := (zuf g i (.int x))) (fun _ => rfl) dJ12_fill_13 ?_
    refine z_nm fun h60 e61 => ?_
    have o62 := zOn.up i3 e61 i1 (by first | exact rfl | omega | simp)
    have f63 : h60 a = (t, .inl (0, n, (zuf g i (.int x)))) := zup_is e61
    refine z_iinc X (lv' := [(2, .int (nI (i + 1))), (0, .ref a), (1, .int x), (3, .int (nI n))]) (nI (i + 1)) 2 dJ12_fill_14 rfl (nI_1 _) (by decide) rfl ?_
    refine z_goto X 5 dJ12_fill_17 (by decide) ?_
    refine z_lvp (lv' := [(0, .ref a), (1, .int x), (2, .int (nI (i + 1))), (3, .int (nI n))]) [1, 2, 0, 3] rfl ?_
    exact ih (i + 1, h60) ⟨by omega, ⟨_, f63, fun k hk => by simp only [zuf]; split; rfl; exact i2 k (by omega)⟩, o62⟩ (by dsimp only; omega)
set_option maxHeartbeats 2000000 in
theorem c_J0_ordinal {l : Launch} {G : ZG} {h : ZH} {i : Nat} (hi : i < 15) : ZM l G yJ0_ordinal (ws_ yJ0_ordinal cJ0_ordinal 1 (Option.some FieldType.int)) (zRm 0 0 0 0) [.ref (zS G (16 + i))] h (fun v' h' => v' = some (.int (nI i)) ∧ h = h') := by
  refine ZT.zm (ZT.of (by first | exact plainFor_of_name (by decide) | decide +kernel) (Nat.le_of_ble_eq_true rfl) (zcats.r zref.r zcats.nil) ?_)
  intro p_ e_ s_ m_ args_ below_ meth_ c_ X hr hlk hin htab
  have X : ZX p_ m_ c_ cJ0_ordinal 1 s_ args_ "java/lang/Enum" G := X
  refine z_lv (lv' := [(0, .ref (zS G (16 + i)))]) (fun _ hq => hq) ?_
  refine z_aload_n X 0 dJ0_ordinal_0 zref.r rfl ?_
  refine z_getOrd X hi q1870 dJ0_ordinal_1 ?_
  exact z_iret X hr hlk dJ0_ordinal_4 (by first | exact Nat.le_of_ble_eq_true rfl | (dsimp only [zRm]; omega) | omega) (by first | exact Nat.le_of_ble_eq_true rfl | (dsimp only [zRm]; omega) | omega) ⟨rfl, rfl⟩
set_option maxHeartbeats 2000000 in
theorem c_X1_takesDatum {l : Launch} {G : ZG} {h : ZH} {i : Nat} (hi : i < 15) : ZM l G yX1_takesDatum (ws_ yX1_takesDatum cX1_takesDatum 1 (Option.some FieldType.boolean)) (zRm 0 0 0 0) [.ref (zS G (16 + i))] h (fun v' h' => v' = some (.int (if i = 8 ∨ i = 9 then 1 else 0)) ∧ h = h') := by
  refine ZT.zm (ZT.of (by first | exact plainFor_of_name (by decide) | decide +kernel) (Nat.le_of_ble_eq_true rfl) (zcats.r zref.r zcats.nil) ?_)
  intro p_ e_ s_ m_ args_ below_ meth_ c_ X hr hlk hin htab
  have X : ZX p_ m_ c_ cX1_takesDatum 1 s_ args_ "LinkStation$Op" G := X
  refine z_lv (lv' := [(0, .ref (zS G (16 + i)))]) (fun _ hq => hq) ?_
  refine z_aload_n X 0 dX1_takesDatum_0 zref.r rfl ?_
  refine z_gets X (C := "LinkStation$Op") (n := "GET") (d := "LLinkStation$Op;") (v := .ref (zS G 24)) (List.mem_of_getElem? (i := 2) rfl) q1304 (Or.inl rfl) dX1_takesDatum_1 ?_
  refine z_acmp_eq X 14 dX1_takesDatum_4 (by decide) zref.r zref.r (fun c64 => ?_) (fun c64 => ?_)
  · have hi8 : i = 8 := zopinj X hi (by decide) (Value.ref.inj c64)
    refine z_iconst X (nI 1) dX1_takesDatum_14 (by decide) ?_
    refine z_goto X 19 dX1_takesDatum_15 (by decide) ?_
    exact z_zret X hr hlk (zfits.b1) dX1_takesDatum_19 (by first | exact Nat.le_of_ble_eq_true rfl | (dsimp only [zRm]; omega) | omega) (by first | exact Nat.le_of_ble_eq_true rfl | (dsimp only [zRm]; omega) | omega) ⟨by rw [if_pos (Or.inl hi8)]; rfl, rfl⟩
  · have hi8 : i ≠ 8 := fun z => c64 (by rw [z])
    refine z_aload_n X 0 dX1_takesDatum_7 zref.r rfl ?_
    refine z_gets X (C := "LinkStation$Op") (n := "PUT") (d := "LLinkStation$Op;") (v := .ref (zS G 25)) (List.mem_of_getElem? (i := 3) rfl) q1306 (Or.inl rfl) dX1_takesDatum_8 ?_
    refine z_acmp_ne X 18 dX1_takesDatum_11 (by decide) zref.r zref.r (fun c65 => ?_) (fun c65 => ?_)
    · have hi9 : i ≠ 9 := fun z => c65 (by rw [z])
      refine z_iconst X (nI 0) dX1_takesDatum_18 (by decide) ?_
      exact z_zret X hr hlk (zfits.b0) dX1_takesDatum_19 (by first | exact Nat.le_of_ble_eq_true rfl | (dsimp only [zRm]; omega) | omega) (by first | exact Nat.le_of_ble_eq_true rfl | (dsimp only [zRm]; omega) | omega) ⟨by rw [if_neg (by omega)]; rfl, rfl⟩
    · have hi9 : i = 9 := zopinj X hi (by decide) (Value.ref.inj c65)
      refine z_iconst X (nI 1) dX1_takesDatum_14 (by decide) ?_
      refine z_goto X 19 dX1_takesDatum_15 (by decide) ?_
      exact z_zret X hr hlk (zfits.b1) dX1_takesDatum_19 (by first | exact Nat.le_of_ble_eq_true rfl | (dsimp only [zRm]; omega) | omega) (by first | exact Nat.le_of_ble_eq_true rfl | (dsimp only [zRm]; omega) | omega) ⟨by rw [if_pos (Or.inr hi9)]; rfl, rfl⟩
