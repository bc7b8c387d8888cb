set_option maxRecDepth 100000
def zmk (j : Nat) : Int64 := (1 : Int64) <<< ((nI j).toInt64 &&& 63)
theorem zmk_bv : ∀ j, j < 64 → (zmk j).toBitVec = BitVec.twoPow 64 j := by decide +kernel
theorem zmk_and (w : Int64) {j : Nat} (hj : j < 64) : (w &&& zmk j) = 0 ↔ w.toBitVec.getLsbD j = false := by
  have h1 : (w &&& zmk j).toBitVec = w.toBitVec &&& BitVec.twoPow 64 j := by rw [Int64.toBitVec_and, zmk_bv j hj]
  constructor
  · intro z
    have h2 : w.toBitVec &&& BitVec.twoPow 64 j = 0#64 := by rw [← h1, z]; rfl
    have h3 := congrArg (fun b => b.getLsbD j) h2
    simpa [hj] using h3
  · intro z
    apply Int64.toBitVec_inj.mp
    rw [h1]
    apply BitVec.eq_of_getLsbD_eq
    intro i hi
    by_cases hij : i = j
    · subst hij
      simp [z]
    · simp [Ne.symm hij]
theorem zmk_or (w : Int64) {i j : Nat} (hj : j < 64) : (w ||| zmk j).toBitVec.getLsbD i = (w.toBitVec.getLsbD i || decide (i = j)) := by
  rw [Int64.toBitVec_or, zmk_bv j hj]
  by_cases hij : i = j
  · subst hij; simp [hj]
  · simp [hij, Ne.symm hij]
/-- a BitSet of one word: the bits B -/
def zBS (h : ZH) (t a : Nat) (B : Nat → Bool) : Prop := ∃ (wa wi : Nat) (w : Int64) (y : Int32) (g : Nat → Value), h a = (t, .inr (10, [.ref wa, .int (nI wi), .int y])) ∧ h wa = (t, .inl (2, 1, g)) ∧ g 0 = .long w ∧ ((wi = 0 ∧ w = 0) ∨ wi = 1) ∧ ∀ j, j < 64 → B j = w.toBitVec.getLsbD j
theorem zBS.on {h h' : ZH} {t a : Nat} {B : Nat → Bool} {T : Nat → Prop} (H : zBS h t a B) (o : zOn T h h') (ht : 1 < t) (hT : ¬ T t) : zBS h' t a B := by
  obtain ⟨wa, wi, w, y, g, e1, e2, e3⟩ := H
  exact ⟨wa, wi, w, y, g, o.at e1 (by omega) hT, o.at e2 (by omega) hT, e3⟩
theorem zBS.rc {h : ZH} {t a : Nat} {B : Nat → Bool} (H : zBS h t a B) : ∃ fs, h a = (t, .inr (10, fs)) := by
  obtain ⟨wa, wi, w, y, g, e1, -⟩ := H
  exact ⟨_, e1⟩
theorem zBS.eq {h : ZH} {t a : Nat} {B B' : Nat → Bool} (H : zBS h t a B) (he : ∀ j, j < 64 → B j = B' j) : zBS h t a B' := by
  obtain ⟨wa, wi, w, y, g, e1, e2, eg, e3, e4⟩ := H
  exact ⟨wa, wi, w, y, g, e1, e2, eg, e3, fun j hj => (he j hj).symm.trans (e4 j hj)⟩
set_option maxHeartbeats 2000000 in
theorem c_J7_wordIndex {l : Launch} {G : ZG} {h : ZH} {j : Nat} (hj : j < 64) : ZM l G yJ7_wordIndex (ws_ yJ7_wordIndex cJ7_wordIndex 1 (Option.some FieldType.int)) (zRm 0 0 0 0) [.int (nI j)] h (fun v h' => v = some (.int (nI 0)) ∧ h = h') := by
  refine ZT.zm (ZT.of (by first | exact plainFor_of_name (by decide) | decide +kernel) (Nat.le_of_ble_eq_true rfl) (zcats.i zcats.nil) ?_)
  intro p_ e_ s_ m_ args_ below_ meth_ c_ X hr hlk hin htab
  have X : ZX p_ m_ c_ cJ7_wordIndex 1 s_ args_ "java/util/BitSet" G := X
  refine z_lv (lv' := [(0, .int (nI j))]) (fun _ hq => hq) ?_
  refine z_iload_n X 0 dJ7_wordIndex_0 rfl ?_
  refine z_bipush X (nI 6) dJ7_wordIndex_1 (by decide) ?_
  refine z_ishr X ((nI j) >>> ((nI 6) &&& 31)) dJ7_wordIndex_3 rfl ?_
  have e9 : nI j >>> (nI 6 &&& 31) = nI 0 := by rw [pk_shrN (by omega) _ 6 (by decide)]; rw [show j / 2 ^ 6 = 0 from by omega]
  exact z_iret X hr hlk dJ7_wordIndex_4 (by first | exact Nat.le_of_ble_eq_true rfl | (dsimp only [zRm]; omega) | omega) (by first | exact Nat.le_of_ble_eq_true rfl | (dsimp only [zRm]; omega) | omega) ⟨by rw [e9], rfl⟩
set_option maxHeartbeats 2000000 in
theorem c_J7_initWords {l : Launch} {G : ZG} {h : ZH} {a t n : Nat} {x1 x2 : Int32} (ha : h a = (t, .inr (10, [.null, .int x1, .int x2]))) (ht : 1 < t) (hn : 0 < n) (hn2 : n ≤ 64) : ZM l G yJ7_initWords (ws_ yJ7_initWords cJ7_initWords 2 (Option.none : Option FieldType)) (zRm 1 1 1 30) [.ref a, .int (nI n)] h (fun v h' => v = none ∧ (∃ wa : Nat, h' a = (t, .inr (10, [.ref wa, .int x1, .int x2])) ∧ h' wa = (t, .inl (2, 1, fun _ => .long 0))) ∧ zOn (fun t' => t' = t) h h') := by
  refine ZT.zm (ZT.of (by first | exact plainFor_of_name (by decide) | decide +kernel) (Nat.le_of_ble_eq_true rfl) (zcats.r zref.r (zcats.i zcats.nil)) ?_)
  intro p_ e_ s_ m_ args_ below_ meth_ c_ X hr hlk hin htab
  have X : ZX p_ m_ c_ cJ7_initWords 2 s_ args_ "java/util/BitSet" G := X
  refine z_lv (lv' := [(0, .ref a), (1, .int (nI n))]) (fun _ hq => hq) ?_
  refine z_aload_n X 0 dJ7_initWords_0 zref.r rfl ?_
  refine z_iload_n X 1 dJ7_initWords_1 rfl ?_
  refine z_iconst X (nI 1) dJ7_initWords_2 (by decide) ?_
  refine z_isub X (nI (n - 1)) dJ7_initWords_3 (pk_sub (by omega)) ?_
  refine z_callS X (rest := [.ref a]) (c_J7_wordIndex (j := n - 1) (by omega)) (va_cwS 1 (zXts X) (lw_S q268 q269 q60 q270) rfl rfl rfl (by decide +kernel) ⟨Nat.le_of_ble_eq_true rfl, Nat.le_of_ble_eq_true rfl⟩) rfl (Nat.le_of_ble_eq_true rfl) ⟨(by first | exact Nat.le_of_ble_eq_true rfl | (dsimp only [zRm]; omega)), (by first | exact Nat.le_of_ble_eq_true rfl | (dsimp only [zRm]; omega))⟩ dJ7_initWords_4 (fun v1 h2 p3 => ?_)
  obtain ⟨rfl, rfl⟩ := p3
  refine z_st (st' := [.int (nI 0), .ref a]) rfl ?_
  refine z_iconst X (nI 1) dJ7_initWords_7 (by decide) ?_
  refine z_iadd X (nI 1) dJ7_initWords_8 (by decide) ?_
  refine z_newa X (atype := .long) (ty := .long) 2 rfl rfl (by decide) t (by omega) (f := (fun _ => .long 0)) (fun _ => rfl) q281 1 rfl (by first | decide | omega) (by decide) (by first | exact Nat.le_of_ble_eq_true rfl | (dsimp only [zRm]; omega)) (by first | exact Nat.le_of_ble_eq_true rfl | (dsimp only [zRm]; omega)) dJ7_initWords_9 fun wa n4 => ?_
  refine z_nm fun h5 e6 => ?_
  have o7 := zOn.new (zOn.rf (T := fun t' => t' = t) (h := h)) e6 n4
  have f8 : h5 a = (t, .inr (10, [.null, .int x1, .int x2])) := zup_o0 e6 n4 ha (by omega)
  have f9 : h5 wa = (t, .inl (2, 1, (fun _ => .long 0))) := zup_is e6
  refine z_put X zP10 0 (by decide) q271 (Or.inl rfl) rfl f8 (by omega) (by omega) (zfits.a zref.r) (Nat.le_of_ble_eq_true rfl) rfl dJ7_initWords_11 ?_
  refine z_nm fun h10 e11 => ?_
  have o12 := zOn.up o7 e11 f8 (by first | exact rfl | omega | simp)
  have f13 : h10 wa = (t, .inl (2, 1, (fun _ => .long 0))) := zup_oa e11 f9 (by intro z9; rw [z9, ha] at n4; simp at n4; omega)
  have f14 : h10 a = (t, .inr (10, [.ref wa, .int x1, .int x2])) := zup_is e11
  exact z_vret X hr hlk dJ7_initWords_14 (by first | exact Nat.le_of_ble_eq_true rfl | (dsimp only [zRm]; omega) | omega) (by first | exact Nat.le_of_ble_eq_true rfl | (dsimp only [zRm]; omega) | omega) ⟨rfl, ⟨wa, f14, f13⟩, o12⟩
set_option maxHeartbeats 2000000 in
theorem c_J7_init {l : Launch} {G : ZG} {h : ZH} {a t n : Nat} (ha : h a = (t, .inr (10, [.null, .int 0, .int 0]))) (ht : 1 < t) (hn : 0 < n) (hn2 : n ≤ 64) : ZM l G yJ7_init (ws_ yJ7_init cJ7_init 2 (Option.none : Option FieldType)) (zRm 2 1 1 60) [.ref a, .int (nI n)] h (fun v h' => v = none ∧ zBS h' t a (fun _ => false) ∧ zOn (fun t' => t' = t) h h') := by
  refine ZT.zm (ZT.of (by first | exact plainFor_of_name (by decide) | decide +kernel) (Nat.le_of_ble_eq_true rfl) (zcats.r zref.r (zcats.i zcats.nil)) ?_)
  intro p_ e_ s_ m_ args_ below_ meth_ c_ X hr hlk hin htab
  have X : ZX p_ m_ c_ cJ7_init 2 s_ args_ "java/util/BitSet" G := X
  refine z_lv (lv' := [(0, .ref a), (1, .int (nI n))]) (fun _ hq => hq) ?_
  refine z_aload_n X 0 dJ7_init_0 zref.r rfl ?_
  refine z_objInit X q263 q95 q96 dJ7_init_1 (by first | exact Nat.le_of_ble_eq_true rfl | (dsimp only [zRm]; omega)) (by first | exact Nat.le_of_ble_eq_true rfl | (dsimp only [zRm]; omega)) ?_
  refine z_aload_n X 0 dJ7_init_4 zref.r rfl ?_
  refine z_iconst X (nI 0) dJ7_init_5 (by decide) ?_
  refine z_put X zP10 1 (by decide) q272 (Or.inl rfl) rfl ha (by omega) (by omega) (zfits.i _) (Nat.le_of_ble_eq_true rfl) rfl dJ7_init_6 ?_
  refine z_nm fun h15 e16 => ?_
  have o17 := zOn.up (zOn.rf (T := fun t' => t' = t) (h := h)) e16 ha (by first | exact rfl | omega | simp)
  have f18 : h15 a = (t, .inr (10, [.null, .int (nI 0), .int 0])) := zup_is e16
  refine z_aload_n X 0 dJ7_init_9 zref.r rfl ?_
  refine z_iconst X (nI 0) dJ7_init_10 (by decide) ?_
  refine z_put X zP10 2 (by decide) q273 (Or.inl rfl) rfl f18 (by omega) (by omega) (zfits.b0) (Nat.le_of_ble_eq_true rfl) rfl dJ7_init_11 ?_
  refine z_nm fun h19 e20 => ?_
  have o21 := zOn.up o17 e20 f18 (by first | exact rfl | omega | simp)
  have f22 : h19 a = (t, .inr (10, [.null, .int (nI 0), .int (nI 0)])) := zup_is e20
  refine z_iload_n X 1 dJ7_init_14 rfl ?_
  refine z_if_geN X n 45 dJ7_init_15 (by decide) rfl (by omega) (fun c23 => ?_) (fun c23 => ?_)
  rotate_left
  · exact c23.elim
  refine z_aload_n X 0 dJ7_init_45 zref.r rfl ?_
  refine z_iload_n X 1 dJ7_init_46 rfl ?_
  refine z_callV X (rest := []) (c_J7_initWords f22 ht hn hn2) (cwV 1 (zXts X) (lw_V q264 q266 qs1 q60 q267) rfl rfl rfl (by decide +kernel) ⟨Nat.le_of_ble_eq_true rfl, Nat.le_of_ble_eq_true rfl⟩) f22 (by omega) rfl rfl (Nat.le_of_ble_eq_true rfl) ⟨(by first | exact Nat.le_of_ble_eq_true rfl | (dsimp only [zRm]; omega)), (by first | exact Nat.le_of_ble_eq_true rfl | (dsimp only [zRm]; omega))⟩ dJ7_init_47 (fun v24 h25 p26 => ?_)
  obtain ⟨rfl, ⟨wa, p1, p2⟩, p3⟩ := p26
  refine z_st (st' := []) rfl ?_
  have o9 := zOn.trans o21 p3
  refine z_aload_n X 0 dJ7_init_50 zref.r rfl ?_
  refine z_iconst X (nI 1) dJ7_init_51 (by decide) ?_
  refine z_put X zP10 2 (by decide) q273 (Or.inl rfl) rfl p1 (by omega) (by omega) (zfits.b1) (Nat.le_of_ble_eq_true rfl) rfl dJ7_init_52 ?_
  refine z_nm fun h27 e28 => ?_
  have o29 := zOn.up o9 e28 p1 (by first | exact rfl | omega | simp)
  have f30 : h27 wa = (t, .inl (2, 1, (fun _ => .long 0))) := zup_oa e28 p2 (by intro z9; rw [z9, p1] at p2; cases p2)
  have f31 : h27 a = (t, .inr (10, [.ref wa, .int (nI 0), .int (nI 1)])) := zup_is e28
  exact z_vret X hr hlk dJ7_init_55 (by first | exact Nat.le_of_ble_eq_true rfl | (dsimp only [zRm]; omega) | omega) (by first | exact Nat.le_of_ble_eq_true rfl | (dsimp only [zRm]; omega) | omega) ⟨rfl, ⟨wa, 0, 0, _, _, f31, f30, rfl, Or.inl ⟨rfl, rfl⟩, fun j hj => by simp⟩, o29⟩
set_option maxHeartbeats 2000000 in
theorem c_J7_checkInvariants {l : Launch} {G : ZG} {h : ZH} {a : Nat}  : ZM l G yJ7_checkInvariants (ws_ yJ7_checkInvariants cJ7_checkInvariants 1 (Option.none : Option FieldType)) (zRm 0 0 0 0) [.ref a] h (fun v h' => v = none ∧ h = h') := by
  refine ZT.zm (ZT.of (by first | exact plainFor_of_name (by decide) | decide +kernel) (Nat.le_of_ble_eq_true rfl) (zcats.r zref.r zcats.nil) ?_)
  intro p_ e_ s_ m_ args_ below_ meth_ c_ X hr hlk hin htab
  have X : ZX p_ m_ c_ cJ7_checkInvariants 1 s_ args_ "java/util/BitSet" G := X
  refine z_lv (lv' := [(0, .ref a)]) (fun _ hq => hq) ?_
  refine z_gets X (C := "java/util/BitSet") (n := "$assertionsDisabled") (d := "Z") (v := .int 1) (List.mem_of_getElem? (i := 7) rfl) q935 (Or.inl rfl) dJ7_checkInvariants_0 ?_
  refine z_if_ne X 37 dJ7_checkInvariants_3 (by decide) (fun c32 => ?_) (fun c32 => ?_)
  rotate_left
  · exact absurd c32 (by decide)
  refine z_gets X (C := "java/util/BitSet") (n := "$assertionsDisabled") (d := "Z") (v := .int 1) (List.mem_of_getElem? (i := 7) rfl) q935 (Or.inl rfl) dJ7_checkInvariants_37 ?_
  refine z_if_ne X 70 dJ7_checkInvariants_40 (by decide) (fun c33 => ?_) (fun c33 => ?_)
  rotate_left
  · exact absurd c33 (by decide)
  refine z_gets X (C := "java/util/BitSet") (n := "$assertionsDisabled") (d := "Z") (v := .int 1) (List.mem_of_getElem? (i := 7) rfl) q935 (Or.inl rfl) dJ7_checkInvariants_70 ?_
  refine z_if_ne X 110 dJ7_checkInvariants_73 (by decide) (fun c34 => ?_) (fun c34 => ?_)
  rotate_left
  · exact absurd c34 (by decide)
  exact z_vret X hr hlk dJ7_checkInvariants_110 (by first | exact Nat.le_of_ble_eq_true rfl | (dsimp only [zRm]; omega) | omega) (by first | exact Nat.le_of_ble_eq_true rfl | (dsimp only [zRm]; omega) | omega) ⟨rfl, rfl⟩
set_option maxHeartbeats 2000000 in
theorem c_J7_get {l : Launch} {G : ZG} {h : ZH} {a t j : Nat} {B : Nat → Bool} (hB : zBS h t a B) (ht : 1 < t) (hj : j < 64) : ZM l G yJ7_get (ws_ yJ7_get cJ7_get 3 (Option.some FieldType.boolean)) (zRm 1 0 0 40) [.ref a, .int (nI j)] h (fun v h' => v = some (.int (if B j = true then 1 else 0)) ∧ h = h') := by
  refine ZT.zm (ZT.of (by first | exact plainFor_of_name (by decide) | decide +kernel) (Nat.le_of_ble_eq_true rfl) (zcats.r zref.r (zcats.i zcats.nil)) ?_)
  intro p_ e_ s_ m_ args_ below_ meth_ c_ X hr hlk hin htab
  have X : ZX p_ m_ c_ cJ7_get 3 s_ args_ "java/util/BitSet" G := X
  refine z_lv (lv' := [(0, .ref a), (1, .int (nI j))]) (fun _ hq => hq) ?_
  obtain ⟨wa, wi, w, y, g, e1, e2, eg, e3, e4⟩ := hB
  refine z_iload_n X 1 dJ7_get_0 rfl ?_
  refine z_if_geN X j 31 dJ7_get_1 (by decide) rfl (by omega) (fun c35 => ?_) (fun c35 => ?_)
  rotate_left
  · exact c35.elim
  refine z_aload_n X 0 dJ7_get_31 zref.r rfl ?_
  refine z_callV X (rest := []) c_J7_checkInvariants (cwV 0 (zXts X) (lw_V q931 q933 qs7 q60 q934) rfl rfl rfl (by decide +kernel) ⟨Nat.le_of_ble_eq_true rfl, Nat.le_of_ble_eq_true rfl⟩) e1 (by omega) rfl rfl (Nat.le_of_ble_eq_true rfl) ⟨(by first | exact Nat.le_of_ble_eq_true rfl | (dsimp only [zRm]; omega)), (by first | exact Nat.le_of_ble_eq_true rfl | (dsimp only [zRm]; omega))⟩ dJ7_get_32 (fun v36 h37 p38 => ?_)
  obtain ⟨rfl, rfl⟩ := p38
  refine z_st (st' := []) rfl ?_
  refine z_iload_n X 1 dJ7_get_35 rfl ?_
  refine z_callS X (rest := []) (c_J7_wordIndex hj) (va_cwS 1 (zXts X) (lw_S q268 q269 q60 q270) rfl rfl rfl (by decide +kernel) ⟨Nat.le_of_ble_eq_true rfl, Nat.le_of_ble_eq_true rfl⟩) rfl (Nat.le_of_ble_eq_true rfl) ⟨(by first | exact Nat.le_of_ble_eq_true rfl | (dsimp only [zRm]; omega)), (by first | exact Nat.le_of_ble_eq_true rfl | (dsimp only [zRm]; omega))⟩ dJ7_get_36 (fun v39 h40 p41 => ?_)
  obtain ⟨rfl, rfl⟩ := p41
  refine z_st (st' := [.int (nI 0)]) rfl ?_
  refine z_istore_n X (lv' := [(2, .int (nI 0)), (0, .ref a), (1, .int (nI j))]) dJ7_get_39 (by decide) rfl ?_
  refine z_iload_n X 0 dJ7_get_40 rfl ?_
  refine z_aload_n X 1 dJ7_get_41 zref.r rfl ?_
  refine z_get X zP10 1 (by decide) q272 (Or.inl rfl) e1 (by omega) rfl dJ7_get_42 ?_
  have hwi : wi < 2 := by omega
  refine z_icmp_geN X 0 wi 67 dJ7_get_45 (by decide) rfl rfl (by omega) (by omega) (fun c42 => ?_) (fun c42 => ?_)
  · have hb : B j = false := by rw [e4 j hj]; rcases e3 with ⟨-, z⟩ | z; rw [z]; simp; exact absurd c42 (by omega)
    refine z_iconst X (nI 0) dJ7_get_67 (by decide) ?_
    exact z_zret X hr hlk (zfits.b0) dJ7_get_68 (by first | exact Nat.le_of_ble_eq_true rfl | (dsimp only [zRm]; omega) | omega) (by first | exact Nat.le_of_ble_eq_true rfl | (dsimp only [zRm]; omega) | omega) ⟨by rw [hb]; rfl, rfl⟩
  · refine z_aload_n X 1 dJ7_get_48 zref.r rfl ?_
    refine z_get X zP10 0 (by decide) q271 (Or.inl rfl) e1 (by omega) rfl dJ7_get_49 ?_
    refine z_iload_n X 0 dJ7_get_52 rfl ?_
    refine z_lald X (v := .long w) 0 e2 (by omega) rfl (by omega) (by first | decide | omega) eg dJ7_get_53 ?_
    refine z_lconst X 1 dJ7_get_54 (by decide) ?_
    refine z_iload_n X 2 dJ7_get_55 rfl ?_
    refine z_lshl X (v := 1 <<< ((nI j).toInt64 &&& 63)) dJ7_get_56 rfl ?_
    refine z_land X dJ7_get_57 ?_
    refine z_lconst X 0 dJ7_get_58 (by decide) ?_
    refine z_lcmp X dJ7_get_59 ?_
    refine z_if_eq X 67 dJ7_get_60 (by decide) (fun c43 => ?_) (fun c43 => ?_)
    · have hb : B j = false := by rw [e4 j hj]; exact (zmk_and w hj).mp ((lg_cmp_eq _ _).mp c43)
      refine z_iconst X (nI 0) dJ7_get_67 (by decide) ?_
      exact z_zret X hr hlk (zfits.b0) dJ7_get_68 (by first | exact Nat.le_of_ble_eq_true rfl | (dsimp only [zRm]; omega) | omega) (by first | exact Nat.le_of_ble_eq_true rfl | (dsimp only [zRm]; omega) | omega) ⟨by rw [hb]; rfl, rfl⟩
    · have hb : B j = true := by rw [e4 j hj]; cases hq : w.toBitVec.getLsbD j; exact absurd ((lg_cmp_eq _ _).mpr ((zmk_and w hj).mpr hq)) c43; rfl
      refine z_iconst X (nI 1) dJ7_get_63 (by decide) ?_
      refine z_goto X 68 dJ7_get_64 (by decide) ?_
      exact z_zret X hr hlk (zfits.b1) dJ7_get_68 (by first | exact Nat.le_of_ble_eq_true rfl | (dsimp only [zRm]; omega) | omega) (by first | exact Nat.le_of_ble_eq_true rfl | (dsimp only [zRm]; omega) | omega) ⟨by rw [hb]; rfl, rfl⟩
set_option maxHeartbeats 2000000 in
theorem c_J7_ensureCapacity {l : Launch} {G : ZG} {h : ZH} {a t wa wi : Nat} {g : Nat → Value} {y : Int32} (e1 : h a = (t, .inr (10, [.ref wa, .int (nI wi), .int y]))) (e2 : h wa = (t, .inl (2, 1, g))) (ht : 1 < t) : ZM l G yJ7_ensureCapacity (ws_ yJ7_ensureCapacity cJ7_ensureCapacity 3 (Option.none : Option FieldType)) (zRm 0 0 0 0) [.ref a, .int (nI 1)] h (fun v h' => v = none ∧ h = h') := by
  refine ZT.zm (ZT.of (by first | exact plainFor_of_name (by decide) | decide +kernel) (Nat.le_of_ble_eq_true rfl) (zcats.r zref.r (zcats.i zcats.nil)) ?_)
  intro p_ e_ s_ m_ args_ below_ meth_ c_ X hr hlk hin htab
  have X : ZX p_ m_ c_ cJ7_ensureCapacity 3 s_ args_ "java/util/BitSet" G := X
  refine z_lv (lv' := [(0, .ref a), (1, .int (nI 1))]) (fun _ hq => hq) ?_
  refine z_aload_n X 0 dJ7_ensureCapacity_0 zref.r rfl ?_
  refine z_get X zP10 0 (by decide) q271 (Or.inl rfl) e1 (by omega) rfl dJ7_ensureCapacity_1 ?_
  refine z_alen X e2 (ty := .long) rfl (by omega) dJ7_ensureCapacity_4 ?_
  refine z_iload_n X 1 dJ7_ensureCapacity_5 rfl ?_
  refine z_icmp_geN X 1 1 38 dJ7_ensureCapacity_6 (by decide) rfl rfl (by omega) (by omega) (fun c44 => ?_) (fun c44 => ?_)
  rotate_left
  · omega
  exact z_vret X hr hlk dJ7_ensureCapacity_38 (by first | exact Nat.le_of_ble_eq_true rfl | (dsimp only [zRm]; omega) | omega) (by first | exact Nat.le_of_ble_eq_true rfl | (dsimp only [zRm]; omega) | omega) ⟨rfl, rfl⟩
set_option maxHeartbeats 2000000 in
theorem c_J7_expandTo {l : Launch} {G : ZG} {h : ZH} {a t wa wi : Nat} {g : Nat → Value} {y : Int32} (e1 : h a = (t, .inr (10, [.ref wa, .int (nI wi), .int y]))) (e2 : h wa = (t, .inl (2, 1, g))) (ht : 1 < t) (hwi : wi < 2) : ZM l G yJ7_expandTo (ws_ yJ7_expandTo cJ7_expandTo 3 (Option.none : Option FieldType)) (zRm 1 0 0 30) [.ref a, .int (nI 0)] h (fun v h' => v = none ∧ h' a = (t, .inr (10, [.ref wa, .int (nI 1), .int y])) ∧ h' wa = (t, .inl (2, 1, g)) ∧ zOn (fun t' => t' = t) h h') := by
  refine ZT.zm (ZT.of (by first | exact plainFor_of_name (by decide) | decide +kernel) (Nat.le_of_ble_eq_true rfl) (zcats.r zref.r (zcats.i zcats.nil)) ?_)
  intro p_ e_ s_ m_ args_ below_ meth_ c_ X hr hlk hin htab
  have X : ZX p_ m_ c_ cJ7_expandTo 3 s_ args_ "java/util/BitSet" G := X
  refine z_lv (lv' := [(0, .ref a), (1, .int (nI 0))]) (fun _ hq => hq) ?_
  refine z_iload_n X 1 dJ7_expandTo_0 rfl ?_
  refine z_iconst X (nI 1) dJ7_expandTo_1 (by decide) ?_
  refine z_iadd X (nI 1) dJ7_expandTo_2 (by decide) ?_
  refine z_istore_n X (lv' := [(2, .int (nI 1)), (0, .ref a), (1, .int (nI 0))]) dJ7_expandTo_3 (by decide) rfl ?_
  refine z_aload_n X 1 dJ7_expandTo_4 zref.r rfl ?_
  refine z_get X zP10 1 (by decide) q272 (Or.inl rfl) e1 (by omega) rfl dJ7_expandTo_5 ?_
  refine z_iload_n X 0 dJ7_expandTo_8 rfl ?_
  refine z_icmp_geN X wi 1 22 dJ7_expandTo_9 (by decide) rfl rfl (by omega) (by omega) (fun c45 => ?_) (fun c45 => ?_)
  · have z9 : wi = 1 := by omega
    subst z9
    exact z_vret X hr hlk dJ7_expandTo_22 (by first | exact Nat.le_of_ble_eq_true rfl | (dsimp only [zRm]; omega) | omega) (by first | exact Nat.le_of_ble_eq_true rfl | (dsimp only [zRm]; omega) | omega) ⟨rfl, e1, e2, zOn.rf⟩
  · refine z_aload_n X 1 dJ7_expandTo_12 zref.r rfl ?_
    refine z_iload_n X 0 dJ7_expandTo_13 rfl ?_
    refine z_callV X (rest := []) (c_J7_ensureCapacity e1 e2 ht) (cwV 1 (zXts X) (lw_V q945 q947 qs9 q60 q948) rfl rfl rfl (by decide +kernel) ⟨Nat.le_of_ble_eq_true rfl, Nat.le_of_ble_eq_true rfl⟩) e1 (by omega) rfl rfl (Nat.le_of_ble_eq_true rfl) ⟨(by first | exact Nat.le_of_ble_eq_true rfl | (dsimp only [zRm]; omega)), (by first | exact Nat.le_of_ble_eq_true rfl | (dsimp only [zRm]; omega))⟩ dJ7_expandTo_14 (fun v46 h47 p48 => ?_)
    obtain ⟨rfl, rfl⟩ := p48
    refine z_st (st' := []) rfl ?_
    refine z_aload_n X 1 dJ7_expandTo_17 zref.r rfl ?_
    refine z_iload_n X 0 dJ7_expandTo_18 rfl ?_
    refine z_put X zP10 1 (by decide) q272 (Or.inl rfl) rfl e1 (by omega) (by omega) (zfits.i _) (Nat.le_of_ble_eq_true rfl) rfl dJ7_expandTo_19 ?_
    refine z_nm fun h49 e50 => ?_
    have o51 := zOn.up (zOn.rf (T := fun t' => t' = t) (h := h)) e50 e1 (by first | exact rfl | omega | simp)
    have f52 : h49 wa = (t, .inl (2, 1, g)) := zup_oa e50 e2 (by intro z9; rw [z9, e1] at e2; cases e2)
    have f53 : h49 a = (t, .inr (10, [.ref wa, .int (nI 1), .int y])) := zup_is e50
    exact z_vret X hr hlk dJ7_expandTo_22 (by first | exact Nat.le_of_ble_eq_true rfl | (dsimp only [zRm]; omega) | omega) (by first | exact Nat.le_of_ble_eq_true rfl | (dsimp only [zRm]; omega) | omega) ⟨rfl, f53, f52, o51⟩
set_option maxHeartbeats 2000000 in
theorem c_J7_set {l : Launch} {G : ZG} {h : ZH} {a t j : Nat} {B : Nat → Bool} (hB : zBS h t a B) (ht : 1 < t) (hj : j < 64) : ZM l G yJ7_set (ws_ yJ7_set cJ7_set 3 (Option.none : Option FieldType)) (zRm 2 0 0 60) [.ref a, .int (nI j)] h (fun v h' => v = none ∧ zBS h' t a (fun k => if k = j then true else B k) ∧ zOn (fun t' => t' = t) h h') := by
  refine ZT.zm (ZT.of (by first | exact plainFor_of_name (by decide) | decide +kernel) (Nat.le_of_ble_eq_true rfl) (zcats.r zref.r (zcats.i zcats.nil)) ?_)
  intro p_ e_ s_ m_ args_ below_ meth_ c_ X hr hlk hin htab
  have X : ZX p_ m_ c_ cJ7_set 3 s_ args_ "java/util/BitSet" G := X
  refine z_lv (lv' := [(0, .ref a), (1, .int (nI j))]) (fun _ hq => hq) ?_
  obtain ⟨wa, wi, w, y, g, e1, e2, eg, e3, e4⟩ := hB
  have hwi : wi < 2 := by omega
  refine z_iload_n X 1 dJ7_set_0 rfl ?_
  refine z_if_geN X j 31 dJ7_set_1 (by decide) rfl (by omega) (fun c54 => ?_) (fun c54 => ?_)
  rotate_left
  · exact c54.elim
  refine z_iload_n X 1 dJ7_set_31 rfl ?_
  refine z_callS X (rest := []) (c_J7_wordIndex hj) (va_cwS 1 (zXts X) (lw_S q268 q269 q60 q270) rfl rfl rfl (by decide +kernel) ⟨Nat.le_of_ble_eq_true rfl, Nat.le_of_ble_eq_true rfl⟩) rfl (Nat.le_of_ble_eq_true rfl) ⟨(by first | exact Nat.le_of_ble_eq_true rfl | (dsimp only [zRm]; omega)), (by first | exact Nat.le_of_ble_eq_true rfl | (dsimp only [zRm]; omega))⟩ dJ7_set_32 (fun v55 h56 p57 => ?_)
  obtain ⟨rfl, rfl⟩ := p57
  refine z_st (st' := [.int (nI 0)]) rfl ?_
  refine z_istore_n X (lv' := [(2, .int (nI 0)), (0, .ref a), (1, .int (nI j))]) dJ7_set_35 (by decide) rfl ?_
  refine z_aload_n X 1 dJ7_set_36 zref.r rfl ?_
  refine z_iload_n X 0 dJ7_set_37 rfl ?_
  refine z_callV X (rest := []) (c_J7_expandTo e1 e2 ht hwi) (cwV 1 (zXts X) (lw_V q941 q943 qs8 q60 q944) rfl rfl rfl (by decide +kernel) ⟨Nat.le_of_ble_eq_true rfl, Nat.le_of_ble_eq_true rfl⟩) e1 (by omega) rfl rfl (Nat.le_of_ble_eq_true rfl) ⟨(by first | exact Nat.le_of_ble_eq_true rfl | (dsimp only [zRm]; omega)), (by first | exact Nat.le_of_ble_eq_true rfl | (dsimp only [zRm]; omega))⟩ dJ7_set_38 (fun v58 h59 p60 => ?_)
  obtain ⟨rfl, p1, p2, p3⟩ := p60
  refine z_st (st' := []) rfl ?_
  refine z_aload_n X 1 dJ7_set_41 zref.r rfl ?_
  refine z_get X zP10 0 (by decide) q271 (Or.inl rfl) p1 (by omega) rfl dJ7_set_42 ?_
  refine z_iload_n X 0 dJ7_set_45 rfl ?_
  refine z_dup2 X dJ7_set_46 rfl rfl ?_
  refine z_lald X (v := .long w) 0 p2 (by omega) rfl (by omega) (by first | decide | omega) eg dJ7_set_47 ?_
  refine z_lconst X 1 dJ7_set_48 (by decide) ?_
  refine z_iload_n X 2 dJ7_set_49 rfl ?_
  refine z_lshl X (v := 1 <<< ((nI j).toInt64 &&& 63)) dJ7_set_50 rfl ?_
  refine z_lor X dJ7_set_51 ?_
  refine z_last X (f' := zuf g 0 (.long (w ||| zmk j))) 0 p2 (by omega) (by omega) rfl (by decide) (by decide) (fun _ => rfl) dJ7_set_52 ?_
  refine z_nm fun h61 e62 => ?_
  have o63 := zOn.up p3 e62 p2 (by first | exact rfl | omega | simp)
  have f64 : h61 a = (t, .inr (10, [.ref wa, .int (nI 1), .int y])) := zup_oa e62 p1 (by intro z9; rw [z9, p2] at p1; cases p1)
  have f65 : h61 wa = (t, .inl (2, 1, (zuf g 0 (.long (w ||| zmk j))))) := zup_is e62
  refine z_aload_n X 1 dJ7_set_53 zref.r rfl ?_
  refine z_callV X (rest := []) c_J7_checkInvariants (cwV 0 (zXts X) (lw_V q931 q933 qs7 q60 q934) rfl rfl rfl (by decide +kernel) ⟨Nat.le_of_ble_eq_true rfl, Nat.le_of_ble_eq_true rfl⟩) f64 (by omega) rfl rfl (Nat.le_of_ble_eq_true rfl) ⟨(by first | exact Nat.le_of_ble_eq_true rfl | (dsimp only [zRm]; omega)), (by first | exact Nat.le_of_ble_eq_true rfl | (dsimp only [zRm]; omega))⟩ dJ7_set_54 (fun v66 h67 p68 => ?_)
  obtain ⟨rfl, rfl⟩ := p68
  refine z_st (st' := []) rfl ?_
  exact z_vret X hr hlk dJ7_set_57 (by first | exact Nat.le_of_ble_eq_true rfl | (dsimp only [zRm]; omega) | omega) (by first | exact Nat.le_of_ble_eq_true rfl | (dsimp only [zRm]; omega) | omega) ⟨rfl, ⟨wa, 1, w ||| zmk j, _, _, f64, f65, rfl, Or.inr rfl, fun k hk => by rw [zmk_or w hj, ← e4 k hk]; by_cases h9 : k = j <;> simp [h9]⟩, o63⟩
set_option maxHeartbeats 2000000 in
theorem c_J7_clear {l : Launch} {G : ZG} {h : ZH} {a t : Nat} {B : Nat → Bool} (hB : zBS h t a B) (ht : 1 < t) : ZM l G yJ7_clear (ws_ yJ7_clear cJ7_clear 1 (Option.none : Option FieldType)) (zRm 0 0 0 0) [.ref a] h (fun v h' => v = none ∧ zBS h' t a (fun _ => false) ∧ zOn (fun t' => t' = t) h h') := by
  refine ZT.zm (ZT.of (by first | exact plainFor_of_name (by decide) | decide +kernel) (Nat.le_of_ble_eq_true rfl) (zcats.r zref.r zcats.nil) ?_)
  intro p_ e_ s_ m_ args_ below_ meth_ c_ X hr hlk hin htab
  have X : ZX p_ m_ c_ cJ7_clear 1 s_ args_ "java/util/BitSet" G := X
  refine z_lv (lv' := [(0, .ref a)]) (fun _ hq => hq) ?_
  obtain ⟨wa, wi, w, y, g, e1, e2, eg, e3, e4⟩ := hB
  have hwi : wi < 2 := by omega
  refine z_aload_n X 0 dJ7_clear_0 zref.r rfl ?_
  refine z_get X zP10 1 (by decide) q272 (Or.inl rfl) e1 (by omega) rfl dJ7_clear_1 ?_
  refine z_if_leN X wi 27 dJ7_clear_4 (by decide) rfl (by omega) (fun c69 => ?_) (fun c69 => ?_)
  · have hw0 : w = 0 := by rcases e3 with ⟨-, z⟩ | z; exact z; exact absurd c69 (by omega)
    exact z_vret X hr hlk dJ7_clear_27 (by first | exact Nat.le_of_ble_eq_true rfl | (dsimp only [zRm]; omega) | omega) (by first | exact Nat.le_of_ble_eq_true rfl | (dsimp only [zRm]; omega) | omega) ⟨rfl, ⟨wa, wi, w, y, g, e1, e2, eg, e3, fun j hj => by rw [hw0]; simp⟩, zOn.rf⟩
  · have z9 : wi = 1 := by omega
    subst z9
    refine z_aload_n X 0 dJ7_clear_7 zref.r rfl ?_
    refine z_get X zP10 0 (by decide) q271 (Or.inl rfl) e1 (by omega) rfl dJ7_clear_8 ?_
    refine z_aload_n X 0 dJ7_clear_11 zref.r rfl ?_
    refine z_dup X dJ7_clear_12 rfl ?_
    refine z_get X zP10 1 (by decide) q272 (Or.inl rfl) e1 (by omega) rfl dJ7_clear_13 ?_
    refine z_iconst X (nI 1) dJ7_clear_16 (by decide) ?_
    refine z_isub X (nI 0) dJ7_clear_17 (by decide) ?_
    refine z_dup_x1 X dJ7_clear_18 rfl rfl ?_
    refine z_put X zP10 1 (by decide) q272 (Or.inl rfl) rfl e1 (by omega) (by omega) (zfits.i _) (Nat.le_of_ble_eq_true rfl) rfl dJ7_clear_19 ?_
    refine z_nm fun h70 e71 => ?_
    have o72 := zOn.up (zOn.rf (T := fun t' => t' = t) (h := h)) e71 e1 (by first | exact rfl | omega | simp)
    have f73 : h70 wa = (t, .inl (2, 1, g)) := zup_oa e71 e2 (by intro z9; rw [z9, e1] at e2; cases e2)
    have f74 : h70 a = (t, .inr (10, [.ref wa, .int (nI 0), .int y])) := zup_is e71
    refine z_lconst X 0 dJ7_clear_22 (by decide) ?_
    refine z_last X (f' := zuf g 0 (.long 0)) 0 f73 (by omega) (by omega) rfl (by decide) (by decide) (fun _ => rfl) dJ7_clear_23 ?_
    refine z_nm fun h75 e76 => ?_
    have o77 := zOn.up o72 e76 f73 (by first | exact rfl | omega | simp)
    have f78 : h75 a = (t, .inr (10, [.ref wa, .int (nI 0), .int y])) := zup_oa e76 f74 (by intro z9; rw [z9, e2] at e1; cases e1)
    have f79 : h75 wa = (t, .inl (2, 1, (zuf g 0 (.long 0)))) := zup_is e76
    refine z_goto X 0 dJ7_clear_24 (by decide) ?_
    refine z_aload_n X 0 dJ7_clear_0 zref.r rfl ?_
    refine z_get X zP10 1 (by decide) q272 (Or.inl rfl) f78 (by omega) rfl dJ7_clear_1 ?_
    refine z_if_leN X 0 27 dJ7_clear_4 (by decide) rfl (by omega) (fun c80 => ?_) (fun c80 => ?_)
    rotate_left
    · omega
    exact z_vret X hr hlk dJ7_clear_27 (by first | exact Nat.le_of_ble_eq_true rfl | (dsimp only [zRm]; omega) | omega) (by first | exact Nat.le_of_ble_eq_true rfl | (dsimp only [zRm]; omega) | omega) ⟨rfl, ⟨wa, 0, 0, y, _, f78, f79, rfl, Or.inl ⟨rfl, rfl⟩, fun j hj => by simp⟩, o77⟩
/-- a boxed int -/
def zbx (h : ZH) (y : Nat) (x : Int32) : Prop := ∃ t : Nat, t ≠ 0 ∧ h y = (t, .inr (12, [.int x]))
theorem zbx.on {h h' : ZH} {y : Nat} {x : Int32} {T : Nat → Prop} (H : zbx h y x) (o : zOn T h h') (hT : ∀ t cb, h y = (t, cb) → ¬ T t) : zbx h' y x := by
  obtain ⟨t, h0, e⟩ := H
  exact ⟨t, h0, o.at e h0 (hT _ _ e)⟩
theorem zbx.c {G : ZG} {h : ZH} (sh : zSH G h) {k : Nat} (hk : k < 128) : zbx h (zS G (228 + k)) (nI k) := ⟨1, by decide, by
  have e := sh.1 (128 + k) (by omega)
  rw [show 100 + (128 + k) = 228 + k from by omega] at e
  rw [e]
  have : vb_c (128 + k) = nI k := by
    show Int32.ofNat (128 + k) - 128 = nI k
    rw [show (128 : Int32) = nI 128 from by decide]
    show nI (128 + k) - nI 128 = nI k
    rw [pk_sub (by omega), show 128 + k - 128 = k from by omega]
  rw [this]⟩
set_option maxHeartbeats 2000000 in
theorem c_J15_init {l : Launch} {G : ZG} {h : ZH} {a : Nat}  : ZM l G yJ15_init (ws_ yJ15_init cJ15_init 1 (Option.none : Option FieldType)) (zRm 1 0 0 12) [.ref a] h (fun v h' => v = none ∧ h = h') := by
  refine ZT.zm (ZT.of (by first | exact plainFor_of_name (by decide) | decide +kernel) (Nat.le_of_ble_eq_true rfl) (zcats.r zref.r zcats.nil) ?_)
  intro p_ e_ s_ m_ args_ below_ meth_ c_ X hr hlk hin htab
  have X : ZX p_ m_ c_ cJ15_init 1 s_ args_ "java/lang/Number" G := X
  refine z_lv (lv' := [(0, .ref a)]) (fun _ hq => hq) ?_
  refine z_aload_n X 0 dJ15_init_0 zref.r rfl ?_
  refine z_objInit X q675 q95 q96 dJ15_init_1 (by first | exact Nat.le_of_ble_eq_true rfl | (dsimp only [zRm]; omega)) (by first | exact Nat.le_of_ble_eq_true rfl | (dsimp only [zRm]; omega)) ?_
  exact z_vret X hr hlk dJ15_init_4 (by first | exact Nat.le_of_ble_eq_true rfl | (dsimp only [zRm]; omega) | omega) (by first | exact Nat.le_of_ble_eq_true rfl | (dsimp only [zRm]; omega) | omega) ⟨rfl, rfl⟩
set_option maxHeartbeats 2000000 in
theorem c_J16_init {l : Launch} {G : ZG} {h : ZH} {a t : Nat} {x : Int32} (ha : h a = (t, .inr (12, [.int 0]))) (ht : 1 < t) : ZM l G yJ16_init (ws_ yJ16_init cJ16_init 2 (Option.none : Option FieldType)) (zRm 2 0 0 40) [.ref a, .int x] h (fun v h' => v = none ∧ h' = zup h a (t, .inr (12, [.int x]))) := by
  refine ZT.zm (ZT.of (by first | exact plainFor_of_name (by decide) | decide +kernel) (Nat.le_of_ble_eq_true rfl) (zcats.r zref.r (zcats.i zcats.nil)) ?_)
  intro p_ e_ s_ m_ args_ below_ meth_ c_ X hr hlk hin htab
  have X : ZX p_ m_ c_ cJ16_init 2 s_ args_ "java/lang/Integer" G := X
  refine z_lv (lv' := [(0, .ref a), (1, .int x)]) (fun _ hq => hq) ?_
  refine z_aload_n X 0 dJ16_init_0 zref.r rfl ?_
  refine z_callI X (rest := []) c_J15_init (cwI 0 (zXts X) (lw_meth q674) rfl rfl rfl (zXts X _ q73) (zXts X _ q672) (zXts X _ q673) rfl (by decide +kernel) ⟨Nat.le_of_ble_eq_true rfl, Nat.le_of_ble_eq_true rfl⟩) rfl (Nat.le_of_ble_eq_true rfl) ⟨(by first | exact Nat.le_of_ble_eq_true rfl | (dsimp only [zRm]; omega)), (by first | exact Nat.le_of_ble_eq_true rfl | (dsimp only [zRm]; omega))⟩ dJ16_init_1 (fun v81 h82 p83 => ?_)
  obtain ⟨rfl, rfl⟩ := p83
  refine z_st (st' := []) rfl ?_
  refine z_aload_n X 0 dJ16_init_4 zref.r rfl ?_
  refine z_iload_n X 1 dJ16_init_5 rfl ?_
  refine z_putF X zP12 0 (by decide) q676 (Or.inl rfl) rfl hin rfl ha (by omega) (by omega) (zfits.i _) (Nat.le_of_ble_eq_true rfl) rfl dJ16_init_6 ?_
  refine z_nm fun h84 e85 => ?_
  have f86 : h84 a = (t, .inr (12, [.int x])) := zup_is e85
  exact z_vret X hr hlk dJ16_init_9 (by first | exact Nat.le_of_ble_eq_true rfl | (dsimp only [zRm]; omega) | omega) (by first | exact Nat.le_of_ble_eq_true rfl | (dsimp only [zRm]; omega) | omega) ⟨rfl, e85⟩
set_option maxHeartbeats 2000000 in
theorem c_J16_valueOf_c {l : Launch} {G : ZG} {h : ZH} {k : Nat} (hk : k < 128) : ZM l G yJ16_valueOf (ws_ yJ16_valueOf cJ16_valueOf 1 (Option.some (FieldType.object "java/lang/Integer"))) (zRm 0 0 0 0) [.int (nI k)] h (fun v h' => v = some (.ref (zS G (228 + k))) ∧ h = h') := by
  refine ZT.zm (ZT.of (by first | exact plainFor_of_name (by decide) | decide +kernel) (Nat.le_of_ble_eq_true rfl) (zcats.i zcats.nil) ?_)
  intro p_ e_ s_ m_ args_ below_ meth_ c_ X hr hlk hin htab
  have X : ZX p_ m_ c_ cJ16_valueOf 1 s_ args_ "java/lang/Integer" G := X
  refine z_lv (lv' := [(0, .int (nI k))]) (fun _ hq => hq) ?_
  refine z_iload_n X 0 dJ16_valueOf_0 rfl ?_
  refine z_bipush X (-128) dJ16_valueOf_1 (by decide) ?_
  have hlo : ¬ nI k < -128 := fun z => nI_pos (n := k) (by omega) (Int32.lt_trans z (by decide))
  refine z_icmp_lt X 23 dJ16_valueOf_3 (by decide) (fun c87 => ?_) (fun c87 => ?_)
  · exact absurd c87 hlo
  refine z_iload_n X 0 dJ16_valueOf_6 rfl ?_
  refine z_gets X (C := "java/lang/Integer$IntegerCache") (n := "high") (d := "I") (v := .int 127) (List.mem_of_getElem? (i := 4) rfl) q664 (Or.inl rfl) dJ16_valueOf_7 ?_
  have hhi : ¬ (127 : Int32) < nI k := fun z => by rw [show (127 : Int32) = nI 127 from by decide] at z; have := (nI_ltI (by decide) (by omega)).mp z; omega
  refine z_icmp_gt X 23 dJ16_valueOf_10 (by decide) (fun c88 => ?_) (fun c88 => ?_)
  · exact absurd c88 hhi
  refine z_gets X (C := "java/lang/Integer$IntegerCache") (n := "cache") (d := "[Ljava/lang/Integer;") (v := .ref (zS G 0)) (List.mem_of_getElem? (i := 5) rfl) q666 (Or.inl rfl) dJ16_valueOf_13 ?_
  refine z_iload_n X 0 dJ16_valueOf_16 rfl ?_
  refine z_sipush X (nI 128) dJ16_valueOf_17 (by decide) ?_
  refine z_iadd X (nI (k + 128)) dJ16_valueOf_20 (nI_add _ _) ?_
  refine z_sh (fun sh => ?_)
  refine z_aald X (v := .ref (zS G (228 + k))) (k + 128) sh.2.1 (ty := .object "java/lang/Integer") rfl rfl (by decide) rfl (by omega) (by first | decide | omega) (by show Value.ref (zS G (100 + (k + 128))) = _; rw [show 100 + (k + 128) = 228 + k from by omega]) dJ16_valueOf_21 ?_
  exact z_aret X hr (by first | exact Or.inl ⟨_, rfl⟩ | exact Or.inr ⟨_, rfl⟩) hlk zref.r dJ16_valueOf_22 (by first | exact Nat.le_of_ble_eq_true rfl | (dsimp only [zRm]; omega) | omega) (by first | exact Nat.le_of_ble_eq_true rfl | (dsimp only [zRm]; omega) | omega) ⟨rfl, rfl⟩
set_option maxHeartbeats 2000000 in
theorem c_J16_valueOf {l : Launch} {G : ZG} {h : ZH} {x : Int32}  : ZM l G yJ16_valueOf (ws_ yJ16_valueOf cJ16_valueOf 1 (Option.some (FieldType.object "java/lang/Integer"))) (zRm 3 1 1 70) [.int x] h (fun v h' => ∃ y : Nat, v = some (.ref y) ∧ zbx h' y x ∧ zOn (fun _ => False) h h') := by
  refine ZT.zm (ZT.of (by first | exact plainFor_of_name (by decide) | decide +kernel) (Nat.le_of_ble_eq_true rfl) (zcats.i zcats.nil) ?_)
  intro p_ e_ s_ m_ args_ below_ meth_ c_ X hr hlk hin htab
  have X : ZX p_ m_ c_ cJ16_valueOf 1 s_ args_ "java/lang/Integer" G := X
  refine z_lv (lv' := [(0, .int x)]) (fun _ hq => hq) ?_
  refine z_iload_n X 0 dJ16_valueOf_0 rfl ?_
  refine z_bipush X (-128) dJ16_valueOf_1 (by decide) ?_
  refine z_icmp_lt X 23 dJ16_valueOf_3 (by decide) (fun c89 => ?_) (fun c89 => ?_)
  · refine z_new X zP12 2 (by decide) (fs := [.int 0]) (by intro j hj; rcases j with _ | _ <;> first | rfl | omega) q641 q668 q74 (by first | exact Nat.le_of_ble_eq_true rfl | (dsimp only [zRm]; omega)) (by first | exact Nat.le_of_ble_eq_true rfl | (dsimp only [zRm]; omega)) dJ16_valueOf_23 fun y n90 => ?_
    refine z_nm fun h91 e92 => ?_
    have f93 : h91 y = (2, .inr (12, [.int 0])) := zup_is e92
    refine z_dup X dJ16_valueOf_26 rfl ?_
    refine z_iload_n X 0 dJ16_valueOf_27 rfl ?_
    refine z_callI X (rest := [.ref y]) (c_J16_init (t := 2) f93 (by decide)) (cwI 1 (zXts X) (lw_meth q671) rfl rfl rfl (zXts X _ q74) (zXts X _ q669) (zXts X _ q670) rfl (by decide +kernel) ⟨Nat.le_of_ble_eq_true rfl, Nat.le_of_ble_eq_true rfl⟩) rfl (Nat.le_of_ble_eq_true rfl) ⟨(by first | exact Nat.le_of_ble_eq_true rfl | (dsimp only [zRm]; omega)), (by first | exact Nat.le_of_ble_eq_true rfl | (dsimp only [zRm]; omega))⟩ dJ16_valueOf_28 (fun v94 h95 p96 => ?_)
    obtain ⟨rfl, e9⟩ := p96
    refine z_st (st' := [.ref y]) rfl ?_
    exact z_aret X hr (by first | exact Or.inl ⟨_, rfl⟩ | exact Or.inr ⟨_, rfl⟩) hlk zref.r dJ16_valueOf_31 (by first | exact Nat.le_of_ble_eq_true rfl | (dsimp only [zRm]; omega) | omega) (by first | exact Nat.le_of_ble_eq_true rfl | (dsimp only [zRm]; omega) | omega) ⟨y, rfl, ⟨2, by decide, zup_is e9⟩, fun b hb _ => by have hby : b ≠ y := (fun z => hb (by rw [z]; exact n90)); rw [e9, zup_n hby, e92, zup_n hby]⟩
  · refine z_iload_n X 0 dJ16_valueOf_6 rfl ?_
    refine z_gets X (C := "java/lang/Integer$IntegerCache") (n := "high") (d := "I") (v := .int 127) (List.mem_of_getElem? (i := 4) rfl) q664 (Or.inl rfl) dJ16_valueOf_7 ?_
    refine z_icmp_gt X 23 dJ16_valueOf_10 (by decide) (fun c97 => ?_) (fun c97 => ?_)
    · refine z_new X zP12 2 (by decide) (fs := [.int 0]) (by intro j hj; rcases j with _ | _ <;> first | rfl | omega) q641 q668 q74 (by first | exact Nat.le_of_ble_eq_true rfl | (dsimp only [zRm]; omega)) (by first | exact Nat.le_of_ble_eq_true rfl | (dsimp only [zRm]; omega)) dJ16_valueOf_23 fun y n98 => ?_
      refine z_nm fun h99 e100 => ?_
      have f101 : h99 y = (2, .inr (12, [.int 0])) := zup_is e100
      refine z_dup X dJ16_valueOf_26 rfl ?_
      refine z_iload_n X 0 dJ16_valueOf_27 rfl ?_
      refine z_callI X (rest := [.ref y]) (c_J16_init (t := 2) f101 (by decide)) (cwI 1 (zXts X) (lw_meth q671) rfl rfl rfl (zXts X _ q74) (zXts X _ q669) (zXts X _ q670) rfl (by decide +kernel) ⟨Nat.le_of_ble_eq_true rfl, Nat.le_of_ble_eq_true rfl⟩) rfl (Nat.le_of_ble_eq_true rfl) ⟨(by first | exact Nat.le_of_ble_eq_true rfl | (dsimp only [zRm]; omega)), (by first | exact Nat.le_of_ble_eq_true rfl | (dsimp only [zRm]; omega))⟩ dJ16_valueOf_28 (fun v102 h103 p104 => ?_)
      obtain ⟨rfl, e9⟩ := p104
      refine z_st (st' := [.ref y]) rfl ?_
      exact z_aret X hr (by first | exact Or.inl ⟨_, rfl⟩ | exact Or.inr ⟨_, rfl⟩) hlk zref.r dJ16_valueOf_31 (by first | exact Nat.le_of_ble_eq_true rfl | (dsimp only [zRm]; omega) | omega) (by first | exact Nat.le_of_ble_eq_true rfl | (dsimp only [zRm]; omega) | omega) ⟨y, rfl, ⟨2, by decide, zup_is e9⟩, fun b hb _ => by have hby : b ≠ y := (fun z => hb (by rw [z]; exact n98)); rw [e9, zup_n hby, e100, zup_n hby]⟩
    · refine z_gets X (C := "java/lang/Integer$IntegerCache") (n := "cache") (d := "[Ljava/lang/Integer;") (v := .ref (zS G 0)) (List.mem_of_getElem? (i := 5) rfl) q666 (Or.inl rfl) dJ16_valueOf_13 ?_
      refine z_iload_n X 0 dJ16_valueOf_16 rfl ?_
      refine z_sipush X (nI 128) dJ16_valueOf_17 (by decide) ?_
      refine z_iadd X (x + (nI 128)) dJ16_valueOf_20 rfl ?_
      refine z_sh (fun sh => ?_)
      obtain ⟨j, hj, hj1, hj2⟩ := bx_small c89 c97
      refine z_st (st' := [.int (nI j), .ref (zS G 0)]) (by rw [← hj1]; rfl) ?_
      refine z_aald X (v := .ref (zS G (100 + j))) j sh.2.1 (ty := .object "java/lang/Integer") rfl rfl (by decide) rfl (by omega) (by first | decide | omega) rfl dJ16_valueOf_21 ?_
      exact z_aret X hr (by first | exact Or.inl ⟨_, rfl⟩ | exact Or.inr ⟨_, rfl⟩) hlk zref.r dJ16_valueOf_22 (by first | exact Nat.le_of_ble_eq_true rfl | (dsimp only [zRm]; omega) | omega) (by first | exact Nat.le_of_ble_eq_true rfl | (dsimp only [zRm]; omega) | omega) ⟨_, rfl, ⟨1, by decide, by rw [sh.1 j hj, hj2]⟩, zOn.rf⟩
set_option maxHeartbeats 2000000 in
theorem c_J16_intValue {l : Launch} {G : ZG} {h : ZH} {a : Nat} {x : Int32} (hb : zbx h a x) : ZM l G yJ16_intValue (ws_ yJ16_intValue cJ16_intValue 1 (Option.some FieldType.int)) (zRm 0 0 0 0) [.ref a] h (fun v h' => v = some (.int x) ∧ h = h') := by
  refine ZT.zm (ZT.of (by first | exact plainFor_of_name (by decide) | decide +kernel) (Nat.le_of_ble_eq_true rfl) (zcats.r zref.r zcats.nil) ?_)
  intro p_ e_ s_ m_ args_ below_ meth_ c_ X hr hlk hin htab
  have X : ZX p_ m_ c_ cJ16_intValue 1 s_ args_ "java/lang/Integer" G := X
  refine z_lv (lv' := [(0, .ref a)]) (fun _ hq => hq) ?_
  obtain ⟨t, ht, e1⟩ := hb
  refine z_aload_n X 0 dJ16_intValue_0 zref.r rfl ?_
  refine z_get X zP12 0 (by decide) q676 (Or.inl rfl) e1 (by omega) rfl dJ16_intValue_1 ?_
  exact z_iret X hr hlk dJ16_intValue_4 (by first | exact Nat.le_of_ble_eq_true rfl | (dsimp only [zRm]; omega) | omega) (by first | exact Nat.le_of_ble_eq_true rfl | (dsimp only [zRm]; omega) | omega) ⟨rfl, rfl⟩
set_option maxHeartbeats 2000000 in
theorem c_J16_hashCode_2 {l : Launch} {G : ZG} {h : ZH} {x : Int32}  : ZM l G yJ16_hashCode_2 (ws_ yJ16_hashCode_2 cJ16_hashCode_2 1 (Option.some FieldType.int)) (zRm 0 0 0 0) [.int x] h (fun v h' => v = some (.int x) ∧ h = h') := by
  refine ZT.zm (ZT.of (by first | exact plainFor_of_name (by decide) | decide +kernel) (Nat.le_of_ble_eq_true rfl) (zcats.i zcats.nil) ?_)
  intro p_ e_ s_ m_ args_ below_ meth_ c_ X hr hlk hin htab
  have X : ZX p_ m_ c_ cJ16_hashCode_2 1 s_ args_ "java/lang/Integer" G := X
  refine z_lv (lv' := [(0, .int x)]) (fun _ hq => hq) ?_
  refine z_iload_n X 0 dJ16_hashCode_2_0 rfl ?_
  exact z_iret X hr hlk dJ16_hashCode_2_1 (by first | exact Nat.le_of_ble_eq_true rfl | (dsimp only [zRm]; omega) | omega) (by first | exact Nat.le_of_ble_eq_true rfl | (dsimp only [zRm]; omega) | omega) ⟨rfl, rfl⟩
set_option maxHeartbeats 2000000 in
theorem c_J16_hashCode {l : Launch} {G : ZG} {h : ZH} {a : Nat} {x : Int32} (hb : zbx h a x) : ZM l G yJ16_hashCode (ws_ yJ16_hashCode cJ16_hashCode 1 (Option.some FieldType.int)) (zRm 1 0 0 22) [.ref a] h (fun v h' => v = some (.int x) ∧ h = h') := by
  refine ZT.zm (ZT.of (by first | exact plainFor_of_name (by decide) | decide +kernel) (Nat.le_of_ble_eq_true rfl) (zcats.r zref.r zcats.nil) ?_)
  intro p_ e_ s_ m_ args_ below_ meth_ c_ X hr hlk hin htab
  have X : ZX p_ m_ c_ cJ16_hashCode 1 s_ args_ "java/lang/Integer" G := X
  refine z_lv (lv' := [(0, .ref a)]) (fun _ hq => hq) ?_
  obtain ⟨t, ht, e1⟩ := hb
  refine z_aload_n X 0 dJ16_hashCode_0 zref.r rfl ?_
  refine z_get X zP12 0 (by decide) q676 (Or.inl rfl) e1 (by omega) rfl dJ16_hashCode_1 ?_
  refine z_callS X (rest := []) c_J16_hashCode_2 (va_cwS 1 (zXts X) (lw_S q713 q714 q74 q715) rfl rfl rfl (by decide +kernel) ⟨Nat.le_of_ble_eq_true rfl, Nat.le_of_ble_eq_true rfl⟩) rfl (Nat.le_of_ble_eq_true rfl) ⟨(by first | exact Nat.le_of_ble_eq_true rfl | (dsimp only [zRm]; omega)), (by first | exact Nat.le_of_ble_eq_true rfl | (dsimp only [zRm]; omega))⟩ dJ16_hashCode_4 (fun v105 h106 p107 => ?_)
  obtain ⟨rfl, rfl⟩ := p107
  refine z_st (st' := [.int x]) rfl ?_
  exact z_iret X hr hlk dJ16_hashCode_7 (by first | exact Nat.le_of_ble_eq_true rfl | (dsimp only [zRm]; omega) | omega) (by first | exact Nat.le_of_ble_eq_true rfl | (dsimp only [zRm]; omega) | omega) ⟨rfl, rfl⟩
set_option maxHeartbeats 2000000 in
theorem c_J16_equals {l : Launch} {G : ZG} {h : ZH} {a b : Nat} {x y : Int32} (ha : zbx h a x) (hb : zbx h b y) : ZM l G yJ16_equals (ws_ yJ16_equals cJ16_equals 2 (Option.some FieldType.boolean)) (zRm 1 0 0 30) [.ref a, .ref b] h (fun v h' => v = some (.int (if x = y then 1 else 0)) ∧ h = h') := by
  refine ZT.zm (ZT.of (by first | exact plainFor_of_name (by decide) | decide +kernel) (Nat.le_of_ble_eq_true rfl) (zcats.r zref.r (zcats.r zref.r zcats.nil)) ?_)
  intro p_ e_ s_ m_ args_ below_ meth_ c_ X hr hlk hin htab
  have X : ZX p_ m_ c_ cJ16_equals 2 s_ args_ "java/lang/Integer" G := X
  refine z_lv (lv' := [(0, .ref a), (1, .ref b)]) (fun _ hq => hq) ?_
  obtain ⟨t, ht, e1⟩ := ha
  obtain ⟨t2, ht2, e2⟩ := id hb
  refine z_aload_n X 1 dJ16_equals_0 zref.r rfl ?_
  refine z_inst X e2 (by omega) rfl q641 (Or.inl rfl) dJ16_equals_1 ?_
  refine z_if_eq X 27 dJ16_equals_4 (by decide) (fun c108 => ?_) (fun c108 => ?_)
  · exact absurd c108 (by decide)
  refine z_aload_n X 0 dJ16_equals_7 zref.r rfl ?_
  refine z_get X zP12 0 (by decide) q676 (Or.inl rfl) e1 (by omega) rfl dJ16_equals_8 ?_
  refine z_aload_n X 1 dJ16_equals_11 zref.r rfl ?_
  refine z_cast X e2 (by omega) rfl q641 (Or.inl rfl) dJ16_equals_12 ?_
  refine z_callV X (rest := [.int x]) (c_J16_intValue hb) (cwV 0 (zXts X) (lw_V q642 q643 q644 q74 q645) rfl rfl rfl (by decide +kernel) ⟨Nat.le_of_ble_eq_true rfl, Nat.le_of_ble_eq_true rfl⟩) e2 (by omega) rfl rfl (Nat.le_of_ble_eq_true rfl) ⟨(by first | exact Nat.le_of_ble_eq_true rfl | (dsimp only [zRm]; omega)), (by first | exact Nat.le_of_ble_eq_true rfl | (dsimp only [zRm]; omega))⟩ dJ16_equals_15 (fun v109 h110 p111 => ?_)
  obtain ⟨rfl, rfl⟩ := p111
  refine z_st (st' := [.int y, .int x]) rfl ?_
  refine z_icmp_ne X 25 dJ16_equals_18 (by decide) (fun c112 => ?_) (fun c112 => ?_)
  · refine z_iconst X (nI 0) dJ16_equals_25 (by decide) ?_
    exact z_zret X hr hlk (zfits.b0) dJ16_equals_26 (by first | exact Nat.le_of_ble_eq_true rfl | (dsimp only [zRm]; omega) | omega) (by first | exact Nat.le_of_ble_eq_true rfl | (dsimp only [zRm]; omega) | omega) ⟨by rw [if_neg c112]; rfl, rfl⟩
  · refine z_iconst X (nI 1) dJ16_equals_21 (by decide) ?_
    refine z_goto X 26 dJ16_equals_22 (by decide) ?_
    exact z_zret X hr hlk (zfits.b1) dJ16_equals_26 (by first | exact Nat.le_of_ble_eq_true rfl | (dsimp only [zRm]; omega) | omega) (by first | exact Nat.le_of_ble_eq_true rfl | (dsimp only [zRm]; omega) | omega) ⟨by rw [if_pos c112]; rfl, rfl⟩
