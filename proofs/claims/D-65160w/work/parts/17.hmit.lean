set_option maxRecDepth 100000
def zfl (C : Nat → List Nat) : Nat → Nat → List Nat
  | _, 0 => []
  | i, n + 1 => C i ++ zfl C (i + 1) n
theorem zfl_mem {C : Nat → List Nat} {k : Nat} : ∀ (n i : Nat), k ∈ zfl C i n ↔ ∃ b, i ≤ b ∧ b < i + n ∧ k ∈ C b
  | 0, i => ⟨fun h => (by cases h), fun ⟨b, h1, h2, _⟩ => (by omega)⟩
  | n + 1, i => by
    show k ∈ C i ++ zfl C (i + 1) n ↔ _
    rw [List.mem_append, zfl_mem n (i + 1)]
    constructor
    · rintro (h | ⟨b, h1, h2, h3⟩)
      · exact ⟨i, Nat.le_refl _, by omega, h⟩
      · exact ⟨b, by omega, by omega, h3⟩
    · rintro ⟨b, h1, h2, h3⟩
      by_cases e : b = i
      · subst e; exact Or.inl h3
      · exact Or.inr ⟨b, by omega, by omega, h3⟩
theorem zfl_nodup {N : Nat} {C : Nat → List Nat} {m : Nat → Option (Nat × Value)} (H : zKO N C m) : ∀ (n i : Nat), (zfl C i n).Nodup
  | 0, _ => List.nodup_nil
  | n + 1, i => List.nodup_append.mpr ⟨H.2.1 i, zfl_nodup H n (i + 1), fun x hx y hy z => by
      subst z
      obtain ⟨b, h1, h2, h3⟩ := (zfl_mem n (i + 1)).mp hy
      have a1 := (H.1 i x hx).2.2.1
      have a2 := (H.1 b x h3).2.2.1
      omega⟩
theorem zKO.keys {N k : Nat} {C : Nat → List Nat} {m : Nat → Option (Nat × Value)} (H : zKO N C m) : k ∈ zfl C 0 N ↔ (m k).isSome = true := by
  rw [zfl_mem]
  constructor
  · rintro ⟨b, -, -, h⟩; exact (H.1 b k h).2.2.2
  · intro h
    have h1 := H.2.2 k h
    exact ⟨k % N, Nat.zero_le _, by have := (H.1 _ k h1.2).1; omega, h1.2⟩
theorem zKO.nil {N : Nat} {C : Nat → List Nat} {m : Nat → Option (Nat × Value)} (H : zKO N C m) (h0 : zcnt m 64 = 0) : (∀ b, C b = []) ∧ m = fun _ => none := by
  have hm : ∀ k, m k = none := fun k => by
    cases h : m k with
    | none => rfl
    | some x =>
      have := zcnt_0 64 h0 k (H.2.2 k (by rw [h]; rfl)).1
      rw [h] at this; cases this
  refine ⟨fun b => ?_, funext hm⟩
  cases h : C b with
  | nil => rfl
  | cons k L =>
    have := (H.1 b k (by rw [h]; simp)).2.2.2
    rw [hm] at this; cases this
theorem zfl_nil {C : Nat → List Nat} (h : ∀ b, C b = []) : ∀ n i, zfl C i n = []
  | 0, _ => rfl
  | n + 1, i => by show C i ++ zfl C (i + 1) n = []; rw [h, zfl_nil h n]; rfl
theorem zHM.ko {G : ZG} {h : ZH} {t a N : Nat} {C : Nat → List Nat} {m : Nat → Option (Nat × Value)} {mc : Int32} (H : zHM G h t a N C m mc) : zKO N C m := by
  obtain ⟨vs, es, tab, thr, e1, e2, e3, e4, e5⟩ := H
  exact e5
/-- an iterator x (of class ci) over the map a: the keys that are still to come -/
def zHI (h : ZH) (tx x ci a N : Nat) (C : Nat → List Nat) (m : Nat → Option (Nat × Value)) (rem : List Nat) (mc : Int32) : Prop :=
  ∃ (nv cv : Value) (i b : Nat) (P L : List Nat), h x = (tx, .inr (ci, [nv, cv, .int mc, .int (nI i), .ref a])) ∧ zref cv ∧ i ≤ N ∧ rem = L ++ zfl C i (N - i) ∧ ((L = [] ∧ nv = .null ∧ rem = []) ∨ (∃ k L' q w, L = k :: L' ∧ m k = some (q, w) ∧ nv = .ref q ∧ b < N ∧ C b = P ++ L))
theorem zHI.on {h h' : ZH} {tx x ci a N : Nat} {C : Nat → List Nat} {m : Nat → Option (Nat × Value)} {rem : List Nat} {mc : Int32} {T : Nat → Prop} (H : zHI h tx x ci a N C m rem mc) (o : zOn T h h') (ht : 1 < tx) (hT : ¬ T tx) : zHI h' tx x ci a N C m rem mc := by
  obtain ⟨nv, cv, i, b, P, L, e1, e2⟩ := H
  exact ⟨nv, cv, i, b, P, L, o.at e1 (by omega) hT, e2⟩
theorem zHI.set {h : ZH} {tx x ci a N : Nat} {C : Nat → List Nat} {m m1 : Nat → Option (Nat × Value)} {rem : List Nat} {mc : Int32} (H : zHI h tx x ci a N C m rem mc) (hm : ∀ k q w, m k = some (q, w) → ∃ w', m1 k = some (q, w')) : zHI h tx x ci a N C m1 rem mc := by
  obtain ⟨nv, cv, i, b, P, L, e1, e2, e3, e4, e5⟩ := H
  refine ⟨nv, cv, i, b, P, L, e1, e2, e3, e4, ?_⟩
  rcases e5 with z | ⟨k, L', q, w, g1, g2, g3⟩
  · exact Or.inl z
  · obtain ⟨w', hw'⟩ := hm k q w g2
    exact Or.inr ⟨k, L', q, w', g1, hw', g3⟩
theorem zHI.rc {h : ZH} {tx x ci a N : Nat} {C : Nat → List Nat} {m : Nat → Option (Nat × Value)} {rem : List Nat} {mc : Int32} (H : zHI h tx x ci a N C m rem mc) : ∃ fs, h x = (tx, .inr (ci, fs)) := by
  obtain ⟨nv, cv, i, b, P, L, e1, -⟩ := H
  exact ⟨_, e1⟩
theorem zma_ad {m : Nat → Option (Nat × Value)} {k q : Nat} {w w0 : Value} (hm : m k = some (q, w0)) : ∀ j q' w', m j = some (q', w') → ∃ w2, zma m k q w j = some (q', w2) := fun j q' w' h => by
  by_cases e : j = k
  · subst e; rw [hm] at h; cases h; exact ⟨w, zma_k⟩
  · exact ⟨w', by rw [zma_n e]; exact h⟩
theorem zHT.up {G : ZG} {h h1 : ZH} {t N q0 t0 ci : Nat} {C : Nat → List Nat} {m : Nat → Option (Nat × Value)} {tab : Value} {thr : Int32} {fs : List Value} {x : Nat × ZE} (H : zHT G h t N C m tab thr) (e1 : h1 = zup h q0 x) (hq : h q0 = (t0, .inr (ci, fs))) (hci : ci ≠ 13) : zHT G h1 t N C m tab thr := by
  rcases H with z | ⟨q, g, i1, i2, i3, i4, i5⟩
  · exact Or.inl z
  · refine Or.inr ⟨q, g, i1, i2, i3, zup_oa e1 i4 (fun z => by rw [z, hq] at i4; simp at i4), fun b hb => (i5 b hb).up e1 hq (fun k hk w nx z => hci ?_)⟩
    have z1 := (Prod.mk.inj z).2
    exact (Prod.mk.inj (Sum.inr.inj z1)).1
theorem zHT.up0 {G : ZG} {h h1 : ZH} {t N q0 : Nat} {C : Nat → List Nat} {m : Nat → Option (Nat × Value)} {tab : Value} {thr : Int32} {x : Nat × ZE} (H : zHT G h t N C m tab thr) (ht : t ≠ 0) (e1 : h1 = zup h q0 x) (hq : (h q0).1 = 0) : zHT G h1 t N C m tab thr := by
  rcases H with z | ⟨q, g, i1, i2, i3, i4, i5⟩
  · exact Or.inl z
  · exact Or.inr ⟨q, g, i1, i2, i3, zup_o0 e1 hq i4 ht, fun b hb => (i5 b hb).up0 ht e1 hq⟩
theorem zNs.pos {N : Nat} (h : zNs N) : 0 < N := by have := h.lt; omega
set_option maxHeartbeats 4000000 in
theorem c_J9_clear {l : Launch} {G : ZG} {h : ZH} {a t N : Nat} {C : Nat → List Nat} {m : Nat → Option (Nat × Value)} {mc : Int32} (hM : zHM G h t a N C m mc) (ht : 1 < t) : ZM l G yJ9_clear (ws_ yJ9_clear cJ9_clear 3 (Option.none : Option FieldType)) (zRm 0 0 0 0) [.ref a] h (fun v h' => v = none ∧ (∃ mc' : Int32, zHM G h' t a N (fun _ => []) (fun _ => none) mc') ∧ zOn (fun t' => t' = t) h h') := by
  refine ZT.zm (ZT.of (by first | exact plainFor_of_name (by decide) | decide +kernel) (Nat.le_of_ble_eq_true rfl) (zcats.r zref.r zcats.nil) ?_)
  intro p_ e_ s_ m_ args_ below_ meth_ c_ X hr hlk hin htab
  have X : ZX p_ m_ c_ cJ9_clear 3 s_ args_ "java/util/HashMap" G := X
  refine z_lv (lv' := [(0, .ref a)]) (fun _ hq => hq) ?_
  obtain ⟨vs, es, tab, thr, e1, e2, e3, e4, e5⟩ := hM
  have hle := zcnt_le m 64
  have hz0 : zcnt (fun _ => none) 64 = 0 := by decide
  have hko : zKO N (fun _ => []) (fun _ => none) := ⟨fun b k hk => (by cases hk), fun b => List.nodup_nil, fun k hk => (by cases hk)⟩
  refine z_aload_n X 0 dJ9_clear_0 zref.r rfl ?_
  refine z_dup X dJ9_clear_1 rfl ?_
  refine z_get X zP11 5 (by decide) q298 (Or.inl rfl) e1 (by omega) rfl dJ9_clear_2 ?_
  refine z_iconst X (nI 1) dJ9_clear_5 (by decide) ?_
  refine z_iadd X (mc + (nI 1)) dJ9_clear_6 rfl ?_
  refine z_put X zP11 5 (by decide) q298 (Or.inl rfl) rfl e1 (by omega) (by omega) (zfits.i _) (Nat.le_of_ble_eq_true rfl) rfl dJ9_clear_7 ?_
  refine z_nm fun h501 e502 => ?_
  have o503 := zOn.up (zOn.rf (T := fun t' => t' = t) (h := h)) e502 e1 (by first | exact rfl | omega | simp)
  have f504 : h501 a = (t, .inr (11, [.null, vs, tab, es, .int (nI (zcnt m 64)), .int (mc + (nI 1)), .int thr, .float 1061158912])) := zup_is e502
  refine z_aload_n X 0 dJ9_clear_10 zref.r rfl ?_
  refine z_get X zP11 2 (by decide) q293 (Or.inl rfl) f504 (by omega) rfl dJ9_clear_11 ?_
  refine z_dup X dJ9_clear_14 ((e4.zref).cat) ?_
  refine z_astore_n X (lv' := [(1, tab), (0, .ref a)]) dJ9_clear_15 e4.zref (by decide) rfl ?_
  have t1 := e4.up e502 e1 (by decide)
  have v1 := e2.up e502 e1 (by simp)
  have s1 := e3.up e502 e1 (by simp)
  refine z_ifnull X 49 dJ9_clear_16 (by decide) e4.zref (fun c505 => ?_) (fun a506 c505 => ?_)
  · obtain ⟨hN0, hthr⟩ : N = 0 ∧ thr = nI 0 := by rcases t1 with ⟨z, -, z2⟩ | ⟨T, g, -, z, -⟩; exact ⟨z, z2⟩; rw [c505] at z; cases z
    have hC0 : zcnt m 64 = 0 := Classical.byContradiction fun z => by have hn := zcnt_0 (m := m) 64; exact z (by have hmn : m = fun _ => none := funext fun k => (by cases hk : m k with | none => rfl | some x9 => exact absurd (e5.1 _ k (e5.2.2 k (by rw [hk]; rfl)).2).1 (by omega)); rw [hmn]; exact hz0)
    exact z_vret X hr hlk dJ9_clear_49 (by first | exact Nat.le_of_ble_eq_true rfl | (dsimp only [zRm]; omega) | omega) (by first | exact Nat.le_of_ble_eq_true rfl | (dsimp only [zRm]; omega) | omega) ⟨rfl, ⟨_, vs, es, tab, thr, by rw [hz0, ← hC0]; exact f504, v1, s1, Or.inl ⟨hN0, c505, hthr⟩, hko⟩, o503⟩
  · refine z_aload_n X 1 dJ9_clear_19 zref.r rfl ?_
    refine z_get X zP11 4 (by decide) q296 (Or.inl rfl) f504 (by omega) rfl dJ9_clear_20 ?_
    refine z_if_leN X (zcnt m 64) 49 dJ9_clear_23 (by decide) rfl (by omega) (fun c507 => ?_) (fun c507 => ?_)
    · have hC0 : zcnt m 64 = 0 := by omega
      obtain ⟨hCn, hmn⟩ := e5.nil hC0
      have hCC : C = fun _ => [] := funext hCn
      subst hmn; subst hCC
      exact z_vret X hr hlk dJ9_clear_49 (by first | exact Nat.le_of_ble_eq_true rfl | (dsimp only [zRm]; omega) | omega) (by first | exact Nat.le_of_ble_eq_true rfl | (dsimp only [zRm]; omega) | omega) ⟨rfl, ⟨_, vs, es, tab, thr, f504, v1, s1, t1, e5⟩, o503⟩
    · refine z_aload_n X 1 dJ9_clear_26 zref.r rfl ?_
      refine z_iconst X (nI 0) dJ9_clear_27 (by decide) ?_
      refine z_put X zP11 4 (by decide) q296 (Or.inl rfl) rfl f504 (by omega) (by omega) (zfits.i _) (Nat.le_of_ble_eq_true rfl) rfl dJ9_clear_28 ?_
      refine z_nm fun h508 e509 => ?_
      have o510 := zOn.up o503 e509 f504 (by first | exact rfl | omega | simp)
      have f511 : h508 a = (t, .inr (11, [.null, vs, tab, es, .int (nI 0), .int (mc + (nI 1)), .int thr, .float 1061158912])) := zup_is e509
      rcases t1 with ⟨-, z, -⟩ | ⟨T9, g, hN, hT, hthr, k4, k5⟩
      · rw [c505] at z; cases z
      · rw [c505] at hT
        cases hT
        have hNb := hN.lt
        have k6 := zup_oa e509 k4 (by intro z9; rw [z9, f504] at k4; cases k4)
        have v2 := v1.up e509 f504 (by simp)
        have s2 := s1.up e509 f504 (by simp)
        refine z_iconst X (nI 0) dJ9_clear_31 (by decide) ?_
        refine z_istore_n X (lv' := [(2, .int (nI 0)), (1, tab), (0, .ref a)]) dJ9_clear_32 (by decide) rfl ?_
        refine z_lv (lv' := [(2, .int (nI 0)), (1, .ref a506), (0, .ref a)]) (by intro x9 h9; rw [c505]; exact h9) ?_
        refine z_lvp (lv' := [(0, .ref a), (1, .ref a506), (2, .int (nI 0))]) [2, 1, 0] rfl ?_
        refine z_loop (σ := Nat × ZH × (Nat → Value)) (fun x => x.1 ≤ N ∧ x.2.1 a = (t, .inr (11, [.null, vs, tab, es, .int (nI 0), .int (mc + (nI 1)), .int thr, .float 1061158912])) ∧ x.2.1 a506 = (t, .inl (6, N, x.2.2)) ∧ zvw x.2.1 t a 18 vs ∧ zvw x.2.1 t a 16 es ∧ (∀ b, b < x.1 → x.2.2 b = .null) ∧ zOn (fun t' => t' = t) h x.2.1) (fun x => N - x.1) (fun x => [(0, .ref a), (1, .ref a506), (2, .int (nI x.1))]) (fun x => []) (fun x => x.2.1) (fun x => 0) (fun x => 0) ?_ (0, h508, g) (⟨Nat.zero_le _, f511, k6, v2, s2, fun b hb => absurd hb (Nat.not_lt_zero _), o510⟩)
        intro ⟨i, h9, g9⟩ hI ih
        try dsimp only at hI
        try dsimp only at ih
        try dsimp only
        obtain ⟨q1, q2, q3, q4, q5, q6, q7⟩ := hI
        refine z_iload_n X 2 dJ9_clear_33 rfl ?_
        refine z_aload_n X 1 dJ9_clear_34 zref.r rfl ?_
        refine z_alen X q3 (ty := .object "java/util/HashMap$Node") rfl (by omega) dJ9_clear_35 ?_
        refine z_icmp_geN X i N 49 dJ9_clear_36 (by decide) rfl rfl (by omega) (by omega) (fun c512 => ?_) (fun c512 => ?_)
        · exact z_vret X hr hlk dJ9_clear_49 (by first | exact Nat.le_of_ble_eq_true rfl | (dsimp only [zRm]; omega) | omega) (by first | exact Nat.le_of_ble_eq_true rfl | (dsimp only [zRm]; omega) | omega) ⟨rfl, ⟨_, vs, es, tab, thr, by rw [hz0]; exact q2, q4, q5, Or.inr ⟨a506, g9, hN, c505, hthr, q3, fun b hb => q6 b (by omega)⟩, hko⟩, q7⟩
        · refine z_aload_n X 1 dJ9_clear_39 zref.r rfl ?_
          refine z_iload_n X 2 dJ9_clear_40 rfl ?_
          refine z_null X dJ9_clear_41 ?_
          refine z_aastN X i q3 rfl (by omega) (by omega) rfl (by omega) (by first | decide | omega) (f' := zuf g9 i .null) (fun _ => rfl) dJ9_clear_42 ?_
          refine z_nm fun h513 e514 => ?_
          have o515 := zOn.up q7 e514 q3 (by first | exact rfl | omega | simp)
          have f516 : h513 a = (t, .inr (11, [.null, vs, tab, es, .int (nI 0), .int (mc + (nI 1)), .int thr, .float 1061158912])) := zup_oa e514 q2 (by intro z9; rw [z9, q3] at q2; cases q2)
          have f517 : h513 a506 = (t, .inl (6, N, zuf g9 i .null)) := zup_is e514
          refine z_iinc X (lv' := [(2, .int (nI (i + 1))), (0, .ref a), (1, .ref a506)]) (nI (i + 1)) 2 dJ9_clear_43 rfl (nI_1 _) (by decide) rfl ?_
          refine z_goto X 33 dJ9_clear_46 (by decide) ?_
          refine z_lvp (lv' := [(0, .ref a), (1, .ref a506), (2, .int (nI (i + 1)))]) [1, 2, 0] rfl ?_
          exact ih (i + 1, h513, zuf g9 i .null) ⟨by omega, f516, f517, q4.up e514 q3 (by simp), q5.up e514 q3 (by simp), fun b hb => (by by_cases z : b = i; exact if_pos z; exact (if_neg z).trans (q6 b (by dsimp only at hb; omega))), o515⟩ (by dsimp only; omega)
set_option maxHeartbeats 2000000 in
theorem c_J22_init {l : Launch} {G : ZG} {h : ZH} {x : Nat}  : ZM l G yJ22_init (ws_ yJ22_init cJ22_init 1 (Option.none : Option FieldType)) (zRm 2 0 0 32) [.ref x] h (fun v h' => v = none ∧ h = h') := by
  refine ZT.zm (ZT.of (by first | exact plainFor_of_name (by decide) | decide +kernel) (Nat.le_of_ble_eq_true rfl) (zcats.r zref.r zcats.nil) ?_)
  intro p_ e_ s_ m_ args_ below_ meth_ c_ X hr hlk hin htab
  have X : ZX p_ m_ c_ cJ22_init 1 s_ args_ "java/util/AbstractSet" G := X
  refine z_lv (lv' := [(0, .ref x)]) (fun _ hq => hq) ?_
  refine z_aload_n X 0 dJ22_init_0 zref.r rfl ?_
  refine z_callI X (rest := []) c_J1_init (cwI 0 (zXts X) (lw_meth q120) rfl rfl rfl (zXts X _ q51) (zXts X _ q1191) (zXts X _ q119) rfl (by decide +kernel) ⟨Nat.le_of_ble_eq_true rfl, Nat.le_of_ble_eq_true rfl⟩) rfl (Nat.le_of_ble_eq_true rfl) ⟨(by first | exact Nat.le_of_ble_eq_true rfl | (dsimp only [zRm]; omega)), (by first | exact Nat.le_of_ble_eq_true rfl | (dsimp only [zRm]; omega))⟩ dJ22_init_1 (fun v518 h519 p520 => ?_)
  obtain ⟨rfl, rfl⟩ := p520
  refine z_st (st' := []) rfl ?_
  exact z_vret X hr hlk dJ22_init_4 (by first | exact Nat.le_of_ble_eq_true rfl | (dsimp only [zRm]; omega) | omega) (by first | exact Nat.le_of_ble_eq_true rfl | (dsimp only [zRm]; omega) | omega) ⟨rfl, rfl⟩
set_option maxHeartbeats 2000000 in
theorem c_J23_init {l : Launch} {G : ZG} {h : ZH} {a x t : Nat} (hx : h x = (t, .inr (16, [.null]))) (ht : 1 < t) : ZM l G yJ23_init (ws_ yJ23_init cJ23_init 2 (Option.none : Option FieldType)) (zRm 3 0 0 60) [.ref x, .ref a] h (fun v h' => v = none ∧ h' = zup h x (t, .inr (16, [.ref a]))) := by
  refine ZT.zm (ZT.of (by first | exact plainFor_of_name (by decide) | decide +kernel) (Nat.le_of_ble_eq_true rfl) (zcats.r zref.r (zcats.r zref.r zcats.nil)) ?_)
  intro p_ e_ s_ m_ args_ below_ meth_ c_ X hr hlk hin htab
  have X : ZX p_ m_ c_ cJ23_init 2 s_ args_ "java/util/HashMap$EntrySet" G := X
  refine z_lv (lv' := [(0, .ref x), (1, .ref a)]) (fun _ hq => hq) ?_
  refine z_aload_n X 0 dJ23_init_0 zref.r rfl ?_
  refine z_aload_n X 1 dJ23_init_1 zref.r rfl ?_
  refine z_putF X zP16 0 (by decide) q1192 (Or.inl rfl) rfl hin rfl hx (by omega) (by omega) (zfits.o zref.r) (Nat.le_of_ble_eq_true rfl) rfl dJ23_init_2 ?_
  refine z_nm fun h521 e522 => ?_
  have f523 : h521 x = (t, .inr (16, [.ref a])) := zup_is e522
  refine z_aload_n X 0 dJ23_init_5 zref.r rfl ?_
  refine z_callI X (rest := []) c_J22_init (cwI 0 (zXts X) (lw_meth q1190) rfl rfl rfl (zXts X _ q82) (zXts X _ q1188) (zXts X _ q1189) rfl (by decide +kernel) ⟨Nat.le_of_ble_eq_true rfl, Nat.le_of_ble_eq_true rfl⟩) rfl (Nat.le_of_ble_eq_true rfl) ⟨(by first | exact Nat.le_of_ble_eq_true rfl | (dsimp only [zRm]; omega)), (by first | exact Nat.le_of_ble_eq_true rfl | (dsimp only [zRm]; omega))⟩ dJ23_init_6 (fun v524 h525 p526 => ?_)
  obtain ⟨rfl, rfl⟩ := p526
  refine z_st (st' := []) rfl ?_
  exact z_vret X hr hlk dJ23_init_9 (by first | exact Nat.le_of_ble_eq_true rfl | (dsimp only [zRm]; omega) | omega) (by first | exact Nat.le_of_ble_eq_true rfl | (dsimp only [zRm]; omega) | omega) ⟨rfl, e522⟩
set_option maxHeartbeats 2000000 in
theorem c_J26_init {l : Launch} {G : ZG} {h : ZH} {a x t : Nat} (hx : h x = (t, .inr (18, [.null]))) (ht : 1 < t) : ZM l G yJ26_init (ws_ yJ26_init cJ26_init 2 (Option.none : Option FieldType)) (zRm 2 0 0 40) [.ref x, .ref a] h (fun v h' => v = none ∧ h' = zup h x (t, .inr (18, [.ref a]))) := by
  refine ZT.zm (ZT.of (by first | exact plainFor_of_name (by decide) | decide +kernel) (Nat.le_of_ble_eq_true rfl) (zcats.r zref.r (zcats.r zref.r zcats.nil)) ?_)
  intro p_ e_ s_ m_ args_ below_ meth_ c_ X hr hlk hin htab
  have X : ZX p_ m_ c_ cJ26_init 2 s_ args_ "java/util/HashMap$Values" G := X
  refine z_lv (lv' := [(0, .ref x), (1, .ref a)]) (fun _ hq => hq) ?_
  refine z_aload_n X 0 dJ26_init_0 zref.r rfl ?_
  refine z_aload_n X 1 dJ26_init_1 zref.r rfl ?_
  refine z_putF X zP18 0 (by decide) q1332 (Or.inl rfl) rfl hin rfl hx (by omega) (by omega) (zfits.o zref.r) (Nat.le_of_ble_eq_true rfl) rfl dJ26_init_2 ?_
  refine z_nm fun h527 e528 => ?_
  have f529 : h527 x = (t, .inr (18, [.ref a])) := zup_is e528
  refine z_aload_n X 0 dJ26_init_5 zref.r rfl ?_
  refine z_callI X (rest := []) c_J1_init (cwI 0 (zXts X) (lw_meth q120) rfl rfl rfl (zXts X _ q51) (zXts X _ q1331) (zXts X _ q119) rfl (by decide +kernel) ⟨Nat.le_of_ble_eq_true rfl, Nat.le_of_ble_eq_true rfl⟩) rfl (Nat.le_of_ble_eq_true rfl) ⟨(by first | exact Nat.le_of_ble_eq_true rfl | (dsimp only [zRm]; omega)), (by first | exact Nat.le_of_ble_eq_true rfl | (dsimp only [zRm]; omega))⟩ dJ26_init_6 (fun v530 h531 p532 => ?_)
  obtain ⟨rfl, rfl⟩ := p532
  refine z_st (st' := []) rfl ?_
  exact z_vret X hr hlk dJ26_init_9 (by first | exact Nat.le_of_ble_eq_true rfl | (dsimp only [zRm]; omega) | omega) (by first | exact Nat.le_of_ble_eq_true rfl | (dsimp only [zRm]; omega) | omega) ⟨rfl, e528⟩
set_option maxHeartbeats 2000000 in
theorem c_J9_entrySet {l : Launch} {G : ZG} {h : ZH} {a t N : Nat} {C : Nat → List Nat} {m : Nat → Option (Nat × Value)} {mc : Int32} (hM : zHM G h t a N C m mc) (ht : 1 < t) : ZM l G yJ9_entrySet (ws_ yJ9_entrySet cJ9_entrySet 2 (Option.some (FieldType.object "java/util/Set"))) (zRm 4 1 1 100) [.ref a] h (fun v h' => ∃ x : Nat, v = some (.ref x) ∧ h' x = (t, .inr (16, [.ref a])) ∧ zHM G h' t a N C m mc ∧ zOn (fun t' => t' = t) h h') := by
  refine ZT.zm (ZT.of (by first | exact plainFor_of_name (by decide) | decide +kernel) (Nat.le_of_ble_eq_true rfl) (zcats.r zref.r zcats.nil) ?_)
  intro p_ e_ s_ m_ args_ below_ meth_ c_ X hr hlk hin htab
  have X : ZX p_ m_ c_ cJ9_entrySet 2 s_ args_ "java/util/HashMap" G := X
  refine z_lv (lv' := [(0, .ref a)]) (fun _ hq => hq) ?_
  obtain ⟨vs, es, tab, thr, e1, e2, e3, e4, e5⟩ := id hM
  rcases id e3 with hnul | ⟨x, hxx, hx⟩
  · subst hnul
    refine z_aload_n X 0 dJ9_entrySet_0 zref.r rfl ?_
    refine z_get X zP11 3 (by decide) q294 (Or.inl rfl) e1 (by omega) rfl dJ9_entrySet_1 ?_
    refine z_dup X dJ9_entrySet_4 rfl ?_
    refine z_astore_n X (lv' := [(1, .null), (0, .ref a)]) dJ9_entrySet_5 zref.nul (by decide) rfl ?_
    refine z_ifnonnull X 25 dJ9_entrySet_6 (by decide) zref.nul (fun a534 c533 => ?_) (fun c533 => ?_)
    · cases c533
    refine z_aload_n X 1 dJ9_entrySet_9 zref.r rfl ?_
    refine z_new X zP16 t (by omega) (fs := [.null]) (by intro j hj; rcases j with _ | _ <;> first | rfl | omega) q1183 q1184 q83 (by first | exact Nat.le_of_ble_eq_true rfl | (dsimp only [zRm]; omega)) (by first | exact Nat.le_of_ble_eq_true rfl | (dsimp only [zRm]; omega)) dJ9_entrySet_10 fun x n535 => ?_
    refine z_nm fun h536 e537 => ?_
    have o538 := zOn.new (zOn.rf (T := fun t' => t' = t) (h := h)) e537 n535
    have f539 : h536 a = (t, .inr (11, [.null, vs, tab, .null, .int (nI (zcnt m 64)), .int mc, .int thr, .float 1061158912])) := zup_o0 e537 n535 e1 (by omega)
    have f540 : h536 x = (t, .inr (16, [.null])) := zup_is e537
    refine z_dup X dJ9_entrySet_13 rfl ?_
    refine z_aload_n X 1 dJ9_entrySet_14 zref.r rfl ?_
    refine z_callI X (rest := [.ref x, .ref a]) (c_J23_init f540 ht) (cwI 1 (zXts X) (lw_meth q1187) rfl rfl rfl (zXts X _ q83) (zXts X _ q1185) (zXts X _ q1186) rfl (by decide +kernel) ⟨Nat.le_of_ble_eq_true rfl, Nat.le_of_ble_eq_true rfl⟩) rfl (Nat.le_of_ble_eq_true rfl) ⟨(by first | exact Nat.le_of_ble_eq_true rfl | (dsimp only [zRm]; omega)), (by first | exact Nat.le_of_ble_eq_true rfl | (dsimp only [zRm]; omega))⟩ dJ9_entrySet_15 (fun v541 h542 p543 => ?_)
    obtain ⟨rfl, E2⟩ := p543
    refine z_st (st' := [.ref x, .ref a]) rfl ?_
    have hax : a ≠ x := by intro z9; rw [← z9, e1] at n535; simp at n535; omega
    have j1 := zup_oa E2 f539 hax
    have jx := zup_is E2
    have O2 := (o538).up E2 f540 rfl
    refine z_dup_x1 X dJ9_entrySet_18 rfl rfl ?_
    refine z_put X zP11 3 (by decide) q294 (Or.inl rfl) rfl j1 (by omega) (by omega) (zfits.o zref.r) (Nat.le_of_ble_eq_true rfl) rfl dJ9_entrySet_19 ?_
    refine z_nm fun h544 e545 => ?_
    have o546 := zOn.up O2 e545 j1 (by first | exact rfl | omega | simp)
    have f547 : h544 x = (t, .inr (16, [.ref a])) := zup_oa e545 jx (Ne.symm hax)
    have f548 : h544 a = (t, .inr (11, [.null, vs, tab, .ref x, .int (nI (zcnt m 64)), .int mc, .int thr, .float 1061158912])) := zup_is e545
    refine z_goto X 26 dJ9_entrySet_22 (by decide) ?_
    exact z_aret X hr (by first | exact Or.inl ⟨_, rfl⟩ | exact Or.inr ⟨_, rfl⟩) hlk zref.r dJ9_entrySet_26 (by first | exact Nat.le_of_ble_eq_true rfl | (dsimp only [zRm]; omega) | omega) (by first | exact Nat.le_of_ble_eq_true rfl | (dsimp only [zRm]; omega) | omega) ⟨x, rfl, f547, ⟨vs, _, tab, thr, f548, ((e2.up0 (by omega) e537 n535).up E2 f540 (by simp)).up e545 j1 (by simp), (Or.inr ⟨x, rfl, f547⟩), ((e4.up0 (by omega) e537 n535).up E2 f540 (by decide)).up e545 j1 (by decide), e5⟩, o546⟩
  · subst hxx
    refine z_aload_n X 0 dJ9_entrySet_0 zref.r rfl ?_
    refine z_get X zP11 3 (by decide) q294 (Or.inl rfl) e1 (by omega) rfl dJ9_entrySet_1 ?_
    refine z_dup X dJ9_entrySet_4 rfl ?_
    refine z_astore_n X (lv' := [(1, .ref x), (0, .ref a)]) dJ9_entrySet_5 zref.r (by decide) rfl ?_
    refine z_ifnonnull X 25 dJ9_entrySet_6 (by decide) zref.r (fun a550 c549 => ?_) (fun c549 => ?_)
    rotate_left
    · cases c549
    refine z_aload_n X 0 dJ9_entrySet_25 zref.r rfl ?_
    exact z_aret X hr (by first | exact Or.inl ⟨_, rfl⟩ | exact Or.inr ⟨_, rfl⟩) hlk zref.r dJ9_entrySet_26 (by first | exact Nat.le_of_ble_eq_true rfl | (dsimp only [zRm]; omega) | omega) (by first | exact Nat.le_of_ble_eq_true rfl | (dsimp only [zRm]; omega) | omega) ⟨x, rfl, hx, hM, zOn.rf⟩
set_option maxHeartbeats 2000000 in
theorem c_J9_values {l : Launch} {G : ZG} {h : ZH} {a t N : Nat} {C : Nat → List Nat} {m : Nat → Option (Nat × Value)} {mc : Int32} (hM : zHM G h t a N C m mc) (ht : 1 < t) : ZM l G yJ9_values (ws_ yJ9_values cJ9_values 2 (Option.some (FieldType.object "java/util/Collection"))) (zRm 3 1 1 100) [.ref a] h (fun v h' => ∃ x : Nat, v = some (.ref x) ∧ h' x = (t, .inr (18, [.ref a])) ∧ zHM G h' t a N C m mc ∧ zOn (fun t' => t' = t) h h') := by
  refine ZT.zm (ZT.of (by first | exact plainFor_of_name (by decide) | decide +kernel) (Nat.le_of_ble_eq_true rfl) (zcats.r zref.r zcats.nil) ?_)
  intro p_ e_ s_ m_ args_ below_ meth_ c_ X hr hlk hin htab
  have X : ZX p_ m_ c_ cJ9_values 2 s_ args_ "java/util/HashMap" G := X
  refine z_lv (lv' := [(0, .ref a)]) (fun _ hq => hq) ?_
  obtain ⟨vs, es, tab, thr, e1, e2, e3, e4, e5⟩ := id hM
  rcases id e2 with hnul | ⟨x, hxx, hx⟩
  · subst hnul
    refine z_aload_n X 0 dJ9_values_0 zref.r rfl ?_
    refine z_get X zP11 1 (by decide) q301 (Or.inr q302) e1 (by omega) rfl dJ9_values_1 ?_
    refine z_astore_n X (lv' := [(1, .null), (0, .ref a)]) dJ9_values_4 zref.nul (by decide) rfl ?_
    refine z_aload_n X 0 dJ9_values_5 zref.nul rfl ?_
    refine z_ifnonnull X 23 dJ9_values_6 (by decide) zref.nul (fun a552 c551 => ?_) (fun c551 => ?_)
    · cases c551
    refine z_new X zP18 t (by omega) (fs := [.null]) (by intro j hj; rcases j with _ | _ <;> first | rfl | omega) q1326 q1327 q86 (by first | exact Nat.le_of_ble_eq_true rfl | (dsimp only [zRm]; omega)) (by first | exact Nat.le_of_ble_eq_true rfl | (dsimp only [zRm]; omega)) dJ9_values_9 fun x n553 => ?_
    refine z_nm fun h554 e555 => ?_
    have o556 := zOn.new (zOn.rf (T := fun t' => t' = t) (h := h)) e555 n553
    have f557 : h554 a = (t, .inr (11, [.null, .null, tab, es, .int (nI (zcnt m 64)), .int mc, .int thr, .float 1061158912])) := zup_o0 e555 n553 e1 (by omega)
    have f558 : h554 x = (t, .inr (18, [.null])) := zup_is e555
    refine z_dup X dJ9_values_12 rfl ?_
    refine z_aload_n X 1 dJ9_values_13 zref.r rfl ?_
    refine z_callI X (rest := [.ref x]) (c_J26_init f558 ht) (cwI 1 (zXts X) (lw_meth q1330) rfl rfl rfl (zXts X _ q86) (zXts X _ q1328) (zXts X _ q1329) rfl (by decide +kernel) ⟨Nat.le_of_ble_eq_true rfl, Nat.le_of_ble_eq_true rfl⟩) rfl (Nat.le_of_ble_eq_true rfl) ⟨(by first | exact Nat.le_of_ble_eq_true rfl | (dsimp only [zRm]; omega)), (by first | exact Nat.le_of_ble_eq_true rfl | (dsimp only [zRm]; omega))⟩ dJ9_values_14 (fun v559 h560 p561 => ?_)
    obtain ⟨rfl, E2⟩ := p561
    refine z_st (st' := [.ref x]) rfl ?_
    have hax : a ≠ x := by intro z9; rw [← z9, e1] at n553; simp at n553; omega
    have j1 := zup_oa E2 f557 hax
    have jx := zup_is E2
    have O2 := (o556).up E2 f558 rfl
    refine z_astore_n X (lv' := [(1, .ref x), (0, .ref a)]) dJ9_values_17 zref.r (by decide) rfl ?_
    refine z_aload_n X 1 dJ9_values_18 zref.r rfl ?_
    refine z_aload_n X 0 dJ9_values_19 zref.r rfl ?_
    refine z_put X zP11 1 (by decide) q301 (Or.inr q302) rfl j1 (by omega) (by omega) (zfits.o zref.r) (Nat.le_of_ble_eq_true rfl) rfl dJ9_values_20 ?_
    refine z_nm fun h562 e563 => ?_
    have o564 := zOn.up O2 e563 j1 (by first | exact rfl | omega | simp)
    have f565 : h562 x = (t, .inr (18, [.ref a])) := zup_oa e563 jx (Ne.symm hax)
    have f566 : h562 a = (t, .inr (11, [.null, .ref x, tab, es, .int (nI (zcnt m 64)), .int mc, .int thr, .float 1061158912])) := zup_is e563
    refine z_aload_n X 0 dJ9_values_23 zref.r rfl ?_
    exact z_aret X hr (by first | exact Or.inl ⟨_, rfl⟩ | exact Or.inr ⟨_, rfl⟩) hlk zref.r dJ9_values_24 (by first | exact Nat.le_of_ble_eq_true rfl | (dsimp only [zRm]; omega) | omega) (by first | exact Nat.le_of_ble_eq_true rfl | (dsimp only [zRm]; omega) | omega) ⟨x, rfl, f565, ⟨_, es, tab, thr, f566, (Or.inr ⟨x, rfl, f565⟩), ((e3.up0 (by omega) e555 n553).up E2 f558 (by simp)).up e563 j1 (by simp), ((e4.up0 (by omega) e555 n553).up E2 f558 (by decide)).up e563 j1 (by decide), e5⟩, o564⟩
  · subst hxx
    refine z_aload_n X 0 dJ9_values_0 zref.r rfl ?_
    refine z_get X zP11 1 (by decide) q301 (Or.inr q302) e1 (by omega) rfl dJ9_values_1 ?_
    refine z_astore_n X (lv' := [(1, .ref x), (0, .ref a)]) dJ9_values_4 zref.r (by decide) rfl ?_
    refine z_aload_n X 0 dJ9_values_5 zref.r rfl ?_
    refine z_ifnonnull X 23 dJ9_values_6 (by decide) zref.r (fun a568 c567 => ?_) (fun c567 => ?_)
    rotate_left
    · cases c567
    refine z_aload_n X 0 dJ9_values_23 zref.r rfl ?_
    exact z_aret X hr (by first | exact Or.inl ⟨_, rfl⟩ | exact Or.inr ⟨_, rfl⟩) hlk zref.r dJ9_values_24 (by first | exact Nat.le_of_ble_eq_true rfl | (dsimp only [zRm]; omega) | omega) (by first | exact Nat.le_of_ble_eq_true rfl | (dsimp only [zRm]; omega) | omega) ⟨x, rfl, hx, hM, zOn.rf⟩
set_option maxHeartbeats 4000000 in
theorem c_J24_init_17 {l : Launch} {G : ZG} {h : ZH} {tx x a t N : Nat} {C : Nat → List Nat} {m : Nat → Option (Nat × Value)} {mc : Int32} (hM : zHM G h t a N C m mc) (hx : h x = (tx, .inr (17, [.null, .null, .int 0, .int 0, .null]))) (ht : 1 < t) (htx : 1 < tx) (hne : tx ≠ t) : ZM l G yJ24_init (ws_ yJ24_init cJ24_init 3 (Option.none : Option FieldType)) (zRm 1 0 0 12) [.ref x, .ref a] h (fun v h' => v = none ∧ zHI h' tx x 17 a N C m (zfl C 0 N) mc ∧ zOn (fun t' => t' = tx) h h') := by
  refine ZT.zm (ZT.of (by first | exact plainFor_of_name (by decide) | decide +kernel) (Nat.le_of_ble_eq_true rfl) (zcats.r zref.r (zcats.r zref.r zcats.nil)) ?_)
  intro p_ e_ s_ m_ args_ below_ meth_ c_ X hr hlk hin htab
  have X : ZX p_ m_ c_ cJ24_init 3 s_ args_ "java/util/HashMap$HashIterator" G := X
  refine z_lv (lv' := [(0, .ref x), (1, .ref a)]) (fun _ hq => hq) ?_
  obtain ⟨vs, es, tab, thr, e1, e2, e3, e4, e5⟩ := id hM
  have hle := zcnt_le m 64
  refine z_aload_n X 0 dJ24_init_0 zref.r rfl ?_
  refine z_aload_n X 1 dJ24_init_1 zref.r rfl ?_
  refine z_putF X zP17 4 (by decide) q1219 (Or.inl rfl) rfl hin rfl hx (by omega) (by omega) (zfits.o zref.r) (Nat.le_of_ble_eq_true rfl) rfl dJ24_init_2 ?_
  refine z_nm fun h569 e570 => ?_
  have o571 := zOn.up (zOn.rf (T := fun t' => t' = tx) (h := h)) e570 hx (by first | exact rfl | omega | simp)
  have f572 : h569 a = (t, .inr (11, [.null, vs, tab, es, .int (nI (zcnt m 64)), .int mc, .int thr, .float 1061158912])) := zup_ot e570 hx e1 (by omega)
  have f573 : h569 x = (tx, .inr (17, [.null, .null, .int 0, .int 0, .ref a])) := zup_is e570
  refine z_aload_n X 0 dJ24_init_5 zref.r rfl ?_
  refine z_objInit X q1214 q95 q96 dJ24_init_6 (by first | exact Nat.le_of_ble_eq_true rfl | (dsimp only [zRm]; omega)) (by first | exact Nat.le_of_ble_eq_true rfl | (dsimp only [zRm]; omega)) ?_
  refine z_aload_n X 0 dJ24_init_9 zref.r rfl ?_
  refine z_aload_n X 1 dJ24_init_10 zref.r rfl ?_
  refine z_get X zP11 5 (by decide) q297 (Or.inl rfl) f572 (by omega) rfl dJ24_init_11 ?_
  refine z_put X zP17 2 (by decide) q1217 (Or.inl rfl) rfl f573 (by omega) (by omega) (zfits.i _) (Nat.le_of_ble_eq_true rfl) rfl dJ24_init_14 ?_
  refine z_nm fun h574 e575 => ?_
  have o576 := zOn.up o571 e575 f573 (by first | exact rfl | omega | simp)
  have f577 : h574 a = (t, .inr (11, [.null, vs, tab, es, .int (nI (zcnt m 64)), .int mc, .int thr, .float 1061158912])) := zup_ot e575 f573 f572 (by omega)
  have f578 : h574 x = (tx, .inr (17, [.null, .null, .int mc, .int 0, .ref a])) := zup_is e575
  refine z_aload_n X 1 dJ24_init_17 zref.r rfl ?_
  refine z_get X zP11 2 (by decide) q292 (Or.inl rfl) f577 (by omega) rfl dJ24_init_18 ?_
  refine z_astore_n X (lv' := [(2, tab), (0, .ref x), (1, .ref a)]) dJ24_init_21 e4.zref (by decide) rfl ?_
  refine z_aload_n X 1 dJ24_init_22 zref.r rfl ?_
  refine z_aload_n X 1 dJ24_init_23 zref.r rfl ?_
  refine z_null X dJ24_init_24 ?_
  refine z_dup_x1 X dJ24_init_25 rfl rfl ?_
  refine z_put X zP17 0 (by decide) q1215 (Or.inl rfl) rfl f578 (by omega) (by omega) (zfits.o zref.nul) (Nat.le_of_ble_eq_true rfl) rfl dJ24_init_26 ?_
  refine z_nm fun h579 e580 => ?_
  have o581 := zOn.up o576 e580 f578 (by first | exact rfl | omega | simp)
  have f582 : h579 a = (t, .inr (11, [.null, vs, tab, es, .int (nI (zcnt m 64)), .int mc, .int thr, .float 1061158912])) := zup_ot e580 f578 f577 (by omega)
  have f583 : h579 x = (tx, .inr (17, [.null, .null, .int mc, .int 0, .ref a])) := zup_is e580
  refine z_put X zP17 1 (by decide) q1216 (Or.inl rfl) rfl f583 (by omega) (by omega) (zfits.o zref.nul) (Nat.le_of_ble_eq_true rfl) rfl dJ24_init_29 ?_
  refine z_nm fun h584 e585 => ?_
  have o586 := zOn.up o581 e585 f583 (by first | exact rfl | omega | simp)
  have f587 : h584 a = (t, .inr (11, [.null, vs, tab, es, .int (nI (zcnt m 64)), .int mc, .int thr, .float 1061158912])) := zup_ot e585 f583 f582 (by omega)
  have f588 : h584 x = (tx, .inr (17, [.null, .null, .int mc, .int 0, .ref a])) := zup_is e585
  refine z_aload_n X 1 dJ24_init_32 zref.r rfl ?_
  refine z_iconst X (nI 0) dJ24_init_33 (by decide) ?_
  refine z_put X zP17 3 (by decide) q1218 (Or.inl rfl) rfl f588 (by omega) (by omega) (zfits.i _) (Nat.le_of_ble_eq_true rfl) rfl dJ24_init_34 ?_
  refine z_nm fun h589 e590 => ?_
  have o591 := zOn.up o586 e590 f588 (by first | exact rfl | omega | simp)
  have f592 : h589 a = (t, .inr (11, [.null, vs, tab, es, .int (nI (zcnt m 64)), .int mc, .int thr, .float 1061158912])) := zup_ot e590 f588 f587 (by omega)
  have f593 : h589 x = (tx, .inr (17, [.null, .null, .int mc, .int (nI 0), .ref a])) := zup_is e590
  refine z_aload_n X 0 dJ24_init_37 e4.zref rfl ?_
  refine z_ifnull X 78 dJ24_init_38 (by decide) e4.zref (fun c594 => ?_) (fun a595 c594 => ?_)
  · have hN0 : N = 0 := by rcases e4 with ⟨z, -⟩ | ⟨T, g, -, z, -⟩; exact z; rw [c594] at z; cases z
    subst hN0
    exact z_vret X hr hlk dJ24_init_78 (by first | exact Nat.le_of_ble_eq_true rfl | (dsimp only [zRm]; omega) | omega) (by first | exact Nat.le_of_ble_eq_true rfl | (dsimp only [zRm]; omega) | omega) ⟨rfl, ⟨_, _, 0, 0, [], [], f593, zref.nul, Nat.le_refl _, rfl, Or.inl ⟨rfl, rfl, rfl⟩⟩, o591⟩
  · refine z_aload_n X 2 dJ24_init_41 zref.r rfl ?_
    refine z_get X zP11 4 (by decide) q295 (Or.inl rfl) f592 (by omega) rfl dJ24_init_42 ?_
    refine z_if_leN X (zcnt m 64) 78 dJ24_init_45 (by decide) rfl (by omega) (fun c596 => ?_) (fun c596 => ?_)
    · have hC0 : zcnt m 64 = 0 := by omega
      have hCn := zfl_nil (e5.nil hC0).1 N 0
      exact z_vret X hr hlk dJ24_init_78 (by first | exact Nat.le_of_ble_eq_true rfl | (dsimp only [zRm]; omega) | omega) (by first | exact Nat.le_of_ble_eq_true rfl | (dsimp only [zRm]; omega) | omega) ⟨rfl, ⟨_, _, 0, 0, [], [], f593, zref.nul, Nat.zero_le _, rfl, Or.inl ⟨rfl, rfl, hCn⟩⟩, o591⟩
    · rcases e4 with ⟨-, z, -⟩ | ⟨T9, g, hN, hT, hthr, k4, k5⟩
      · rw [c594] at z; cases z
      · rw [c594] at hT
        cases hT
        have hNb := hN.lt
        refine z_lv (lv' := [(2, .ref a595), (0, .ref x), (1, .ref a)]) (by intro x9 h9; rw [c594]; exact h9) ?_
        refine z_lvp (lv' := [(0, .ref x), (2, .ref a595)]) [1, 0] rfl ?_
        refine z_loop (σ := Nat × ZH) (fun x9 => x9.1 ≤ N ∧ x9.2 x = (tx, .inr (17, [.null, .null, .int mc, .int (nI x9.1), .ref a])) ∧ zfl C 0 N = zfl C x9.1 (N - x9.1) ∧ zOn (fun t' => t' = tx) h x9.2) (fun x9 => N - x9.1) (fun x9 => [(0, .ref x), (2, .ref a595)]) (fun x9 => []) (fun x9 => x9.2) (fun x9 => 0) (fun x9 => 0) ?_ (0, h589) (⟨Nat.zero_le _, f593, rfl, o591⟩)
        intro ⟨i, h9⟩ hI ih
        try dsimp only at hI
        try dsimp only at ih
        try dsimp only
        obtain ⟨q1, q2, q3, q4⟩ := hI
        have q5 := q4.at k4 (by omega) (by omega)
        refine z_aload_n X 0 dJ24_init_48 zref.r rfl ?_
        refine z_get X zP17 3 (by decide) q1218 (Or.inl rfl) q2 (by omega) rfl dJ24_init_49 ?_
        refine z_aload_n X 1 dJ24_init_52 zref.r rfl ?_
        refine z_alen X q5 (ty := .object "java/util/HashMap$Node") rfl (by omega) dJ24_init_53 ?_
        refine z_icmp_geN X i N 78 dJ24_init_54 (by decide) rfl rfl (by omega) (by omega) (fun c597 => ?_) (fun c597 => ?_)
        · have hiN : i = N := by omega
          subst hiN
          exact z_vret X hr hlk dJ24_init_78 (by first | exact Nat.le_of_ble_eq_true rfl | (dsimp only [zRm]; omega) | omega) (by first | exact Nat.le_of_ble_eq_true rfl | (dsimp only [zRm]; omega) | omega) ⟨rfl, ⟨_, _, i, 0, [], [], q2, zref.nul, Nat.le_refl _, q3, Or.inl ⟨rfl, rfl, by rw [q3, Nat.sub_self]; rfl⟩⟩, q4⟩
        · have hiN : i < N := by omega
          have hch := k5 i hiN
          have q6 : zfl C 0 N = C i ++ zfl C (i + 1) (N - (i + 1)) := by rw [q3, show N - i = (N - (i + 1)) + 1 from by omega]; rfl
          refine z_aload_n X 0 dJ24_init_57 zref.r rfl ?_
          refine z_aload_n X 1 dJ24_init_58 zref.r rfl ?_
          refine z_aload_n X 0 dJ24_init_59 zref.r rfl ?_
          refine z_dup X dJ24_init_60 rfl ?_
          refine z_get X zP17 3 (by decide) q1218 (Or.inl rfl) q2 (by omega) rfl dJ24_init_61 ?_
          refine z_dup_x1 X dJ24_init_64 rfl rfl ?_
          refine z_iconst X (nI 1) dJ24_init_65 (by decide) ?_
          refine z_iadd X (nI (i + 1)) dJ24_init_66 (nI_add _ _) ?_
          refine z_put X zP17 3 (by decide) q1218 (Or.inl rfl) rfl q2 (by omega) (by omega) (zfits.i _) (Nat.le_of_ble_eq_true rfl) rfl dJ24_init_67 ?_
          refine z_nm fun h598 e599 => ?_
          have o600 := zOn.up q4 e599 q2 (by first | exact rfl | omega | simp)
          have f601 : h598 a595 = (t, .inl (6, N, g)) := zup_ot e599 q2 q5 (by omega)
          have f602 : h598 x = (tx, .inr (17, [.null, .null, .int mc, .int (nI (i + 1)), .ref a])) := zup_is e599
          refine z_aald X (v := g i) i f601 (ty := .object "java/util/HashMap$Node") rfl rfl (by omega) rfl hiN (by first | decide | omega) rfl dJ24_init_70 ?_
          refine z_dup_x1 X dJ24_init_71 (((hch.zref zref.nul)).cat) rfl ?_
          refine z_put X zP17 0 (by decide) q1215 (Or.inl rfl) rfl f602 (by omega) (by omega) (zfits.o (hch.zref zref.nul)) (Nat.le_of_ble_eq_true rfl) rfl dJ24_init_72 ?_
          refine z_nm fun h603 e604 => ?_
          have o605 := zOn.up o600 e604 f602 (by first | exact rfl | omega | simp)
          have f606 : h603 a595 = (t, .inl (6, N, g)) := zup_ot e604 f602 f601 (by omega)
          have f607 : h603 x = (tx, .inr (17, [g i, .null, .int mc, .int (nI (i + 1)), .ref a])) := zup_is e604
          refine z_ifnull X 48 dJ24_init_75 (by decide) (hch.zref zref.nul) (fun c608 => ?_) (fun a609 c608 => ?_)
          · have hnil : C i = [] := by rw [c608] at hch; exact hch.null
            refine z_lvp (lv' := [(0, .ref x), (2, .ref a595)]) [0, 1] rfl ?_
            exact ih (i + 1, h603) ⟨hiN, (by have z9 := f607; rw [c608] at z9; exact z9), by rw [q6, hnil]; rfl, o605⟩ (by dsimp only; omega)
          · rw [c608] at hch
            obtain ⟨k, L2, hL, w0, nx, g1, g2, g3, g4⟩ := hch.ref
            exact z_vret X hr hlk dJ24_init_78 (by first | exact Nat.le_of_ble_eq_true rfl | (dsimp only [zRm]; omega) | omega) (by first | exact Nat.le_of_ble_eq_true rfl | (dsimp only [zRm]; omega) | omega) ⟨rfl, ⟨_, _, i + 1, i, [], C i, f607, zref.nul, hiN, q6, Or.inr ⟨k, L2, _, w0, hL, g1, c608, hiN, rfl⟩⟩, o605⟩
set_option maxHeartbeats 2000000 in
theorem c_J24_hasNext_17 {l : Launch} {G : ZG} {h : ZH} {tx x a N : Nat} {C : Nat → List Nat} {m : Nat → Option (Nat × Value)} {mc : Int32} {rem : List Nat} (hI : zHI h tx x 17 a N C m rem mc) (htx : 1 < tx) : ZM l G yJ24_hasNext (ws_ yJ24_hasNext cJ24_hasNext 1 (Option.some FieldType.boolean)) (zRm 0 0 0 0) [.ref x] h (fun v h' => ((rem = [] ∧ v = some (.int 0)) ∨ (rem ≠ [] ∧ v = some (.int 1))) ∧ h = h') := by
  refine ZT.zm (ZT.of (by first | exact plainFor_of_name (by decide) | decide +kernel) (Nat.le_of_ble_eq_true rfl) (zcats.r zref.r zcats.nil) ?_)
  intro p_ e_ s_ m_ args_ below_ meth_ c_ X hr hlk hin htab
  have X : ZX p_ m_ c_ cJ24_hasNext 1 s_ args_ "java/util/HashMap$HashIterator" G := X
  refine z_lv (lv' := [(0, .ref x)]) (fun _ hq => hq) ?_
  obtain ⟨nv, cv, i, b, P, L, e1, e2, e3, e4, e5⟩ := hI
  rcases e5 with ⟨z1, z2, z3⟩ | ⟨k, L2, q, w0, z1, z2, z3, -⟩
  · subst z2
    refine z_aload_n X 0 dJ24_hasNext_0 zref.r rfl ?_
    refine z_get X zP17 0 (by decide) q1215 (Or.inl rfl) e1 (by omega) rfl dJ24_hasNext_1 ?_
    refine z_ifnull X 11 dJ24_hasNext_4 (by decide) zref.nul (fun c610 => ?_) (fun a611 c610 => ?_)
    rotate_left
    · cases c610
    refine z_iconst X (nI 0) dJ24_hasNext_11 (by decide) ?_
    exact z_zret X hr hlk (zfits.b0) dJ24_hasNext_12 (by first | exact Nat.le_of_ble_eq_true rfl | (dsimp only [zRm]; omega) | omega) (by first | exact Nat.le_of_ble_eq_true rfl | (dsimp only [zRm]; omega) | omega) ⟨Or.inl ⟨z3, rfl⟩, rfl⟩
  · subst z3
    refine z_aload_n X 0 dJ24_hasNext_0 zref.r rfl ?_
    refine z_get X zP17 0 (by decide) q1215 (Or.inl rfl) e1 (by omega) rfl dJ24_hasNext_1 ?_
    refine z_ifnull X 11 dJ24_hasNext_4 (by decide) zref.r (fun c612 => ?_) (fun a613 c612 => ?_)
    · cases c612
    refine z_iconst X (nI 1) dJ24_hasNext_7 (by decide) ?_
    refine z_goto X 12 dJ24_hasNext_8 (by decide) ?_
    exact z_zret X hr hlk (zfits.b1) dJ24_hasNext_12 (by first | exact Nat.le_of_ble_eq_true rfl | (dsimp only [zRm]; omega) | omega) (by first | exact Nat.le_of_ble_eq_true rfl | (dsimp only [zRm]; omega) | omega) ⟨Or.inr ⟨by rw [e4, z1]; simp, rfl⟩, rfl⟩
set_option maxHeartbeats 4000000 in
theorem c_J24_nextNode_17 {l : Launch} {G : ZG} {h : ZH} {tx x a t N : Nat} {C : Nat → List Nat} {m : Nat → Option (Nat × Value)} {mc : Int32} {k : Nat} {rem : List Nat} (hM : zHM G h t a N C m mc) (hI : zHI h tx x 17 a N C m (k :: rem) mc) (ht : 1 < t) (htx : 1 < tx) (hne : tx ≠ t) : ZM l G yJ24_nextNode (ws_ yJ24_nextNode cJ24_nextNode 3 (Option.some (FieldType.object "java/util/HashMap$Node"))) (zRm 0 0 0 0) [.ref x] h (fun v h' => ∃ (q : Nat) (w : Value), m k = some (q, w) ∧ v = some (.ref q) ∧ zHI h' tx x 17 a N C m rem mc ∧ zOn (fun t' => t' = tx) h h') := by
  refine ZT.zm (ZT.of (by first | exact plainFor_of_name (by decide) | decide +kernel) (Nat.le_of_ble_eq_true rfl) (zcats.r zref.r zcats.nil) ?_)
  intro p_ e_ s_ m_ args_ below_ meth_ c_ X hr hlk hin htab
  have X : ZX p_ m_ c_ cJ24_nextNode 3 s_ args_ "java/util/HashMap$HashIterator" G := X
  refine z_lv (lv' := [(0, .ref x)]) (fun _ hq => hq) ?_
  obtain ⟨vs, es, tab, thr, e1, e2, e3, e4, e5⟩ := id hM
  obtain ⟨nv, cv, i, b, P, L, i1, i2, i3, i4, i5⟩ := hI
  rcases i5 with ⟨-, -, z3⟩ | ⟨k0, L2, q, w0, hL, hmk, z3, hbN, hCb⟩
  · cases z3
  · subst hL; subst z3
    obtain ⟨hk0, hrem⟩ := List.cons.inj i4
    subst hk0
    obtain ⟨-, hw0, -⟩ := hM.node hmk
    rcases e4 with ⟨z, -⟩ | ⟨T, g, hN, hT, hthr, k4, k5⟩
    · omega
    · subst hT
      have hNb := hN.lt
      have hcb := k5 b hbN
      rw [hCb] at hcb
      obtain ⟨y, -, q9, w9, nx, g1, g2, g3, g4, g5⟩ := (zct.app P (k :: L2) _ _).mp hcb
      cases hmk.symm.trans g2
      clear g1
      refine z_aload_n X 0 dJ24_nextNode_0 zref.r rfl ?_
      refine z_get X zP17 0 (by decide) q1215 (Or.inl rfl) i1 (by omega) rfl dJ24_nextNode_1 ?_
      refine z_astore_n X (lv' := [(2, .ref q), (0, .ref x)]) dJ24_nextNode_4 zref.r (by decide) rfl ?_
      refine z_aload_n X 1 dJ24_nextNode_5 zref.r rfl ?_
      refine z_get X zP17 4 (by decide) q1219 (Or.inl rfl) i1 (by omega) rfl dJ24_nextNode_6 ?_
      refine z_get X zP11 5 (by decide) q297 (Or.inl rfl) e1 (by omega) rfl dJ24_nextNode_9 ?_
      refine z_aload_n X 1 dJ24_nextNode_12 zref.r rfl ?_
      refine z_get X zP17 2 (by decide) q1217 (Or.inl rfl) i1 (by omega) rfl dJ24_nextNode_13 ?_
      refine z_icmp_eq X 27 dJ24_nextNode_16 (by decide) (fun c614 => ?_) (fun c614 => ?_)
      rotate_left
      · exact absurd rfl c614
      refine z_aload_n X 0 dJ24_nextNode_27 zref.r rfl ?_
      refine z_ifnonnull X 39 dJ24_nextNode_28 (by decide) zref.r (fun a616 c615 => ?_) (fun c615 => ?_)
      rotate_left
      · cases c615
      refine z_aload_n X 1 dJ24_nextNode_39 zref.r rfl ?_
      refine z_aload_n X 1 dJ24_nextNode_40 zref.r rfl ?_
      refine z_aload_n X 0 dJ24_nextNode_41 zref.r rfl ?_
      refine z_dup_x1 X dJ24_nextNode_42 rfl rfl ?_
      refine z_put X zP17 1 (by decide) q1216 (Or.inl rfl) rfl i1 (by omega) (by omega) (zfits.o zref.r) (Nat.le_of_ble_eq_true rfl) rfl dJ24_nextNode_43 ?_
      refine z_nm fun h617 e618 => ?_
      have o619 := zOn.up (zOn.rf (T := fun t' => t' = tx) (h := h)) e618 i1 (by first | exact rfl | omega | simp)
      have f620 : h617 a = (t, .inr (11, [.null, vs, .ref T, es, .int (nI (zcnt m 64)), .int mc, .int thr, .float 1061158912])) := zup_ot e618 i1 e1 (by omega)
      have f621 : h617 q = (t, .inr (13, [.int (nI k), .ref (zS G (228 + k)), w0, nx])) := zup_ot e618 i1 g4 (by omega)
      have f622 : h617 T = (t, .inl (6, N, g)) := zup_ot e618 i1 k4 (by omega)
      have f623 : h617 x = (tx, .inr (17, [.ref q, .ref q, .int mc, .int (nI i), .ref a])) := zup_is e618
      refine z_get X zP13 3 (by decide) q828 (Or.inl rfl) f621 (by omega) rfl dJ24_nextNode_46 ?_
      refine z_dup_x1 X dJ24_nextNode_49 (((g5.zref zref.nul)).cat) rfl ?_
      refine z_put X zP17 0 (by decide) q1215 (Or.inl rfl) rfl f623 (by omega) (by omega) (zfits.o (g5.zref zref.nul)) (Nat.le_of_ble_eq_true rfl) rfl dJ24_nextNode_50 ?_
      refine z_nm fun h624 e625 => ?_
      have o626 := zOn.up o619 e625 f623 (by first | exact rfl | omega | simp)
      have f627 : h624 a = (t, .inr (11, [.null, vs, .ref T, es, .int (nI (zcnt m 64)), .int mc, .int thr, .float 1061158912])) := zup_ot e625 f623 f620 (by omega)
      have f628 : h624 q = (t, .inr (13, [.int (nI k), .ref (zS G (228 + k)), w0, nx])) := zup_ot e625 f623 f621 (by omega)
      have f629 : h624 T = (t, .inl (6, N, g)) := zup_ot e625 f623 f622 (by omega)
      have f630 : h624 x = (tx, .inr (17, [nx, .ref q, .int mc, .int (nI i), .ref a])) := zup_is e625
      refine z_ifnonnull X 98 dJ24_nextNode_53 (by decide) (g5.zref zref.nul) (fun a632 c631 => ?_) (fun c631 => ?_)
      · rw [c631] at g5
        obtain ⟨k2, L3, hL3, w2, nx2, r1, r2, r3, r4⟩ := g5.ref
        refine z_aload_n X 0 dJ24_nextNode_98 zref.r rfl ?_
        exact z_aret X hr (by first | exact Or.inl ⟨_, rfl⟩ | exact Or.inr ⟨_, rfl⟩) hlk zref.r dJ24_nextNode_99 (by first | exact Nat.le_of_ble_eq_true rfl | (dsimp only [zRm]; omega) | omega) (by first | exact Nat.le_of_ble_eq_true rfl | (dsimp only [zRm]; omega) | omega) ⟨q, w0, hmk, rfl, ⟨_, _, i, b, P ++ [k], L2, f630, zref.r, i3, hrem, Or.inr ⟨k2, L3, _, w2, hL3, r1, c631, hbN, by rw [hCb]; simp⟩⟩, o626⟩
      · have hL2 : L2 = [] := by rw [c631] at g5; exact g5.null
        refine z_aload_n X 1 dJ24_nextNode_56 zref.r rfl ?_
        refine z_get X zP17 4 (by decide) q1219 (Or.inl rfl) f630 (by omega) rfl dJ24_nextNode_57 ?_
        refine z_get X zP11 2 (by decide) q292 (Or.inl rfl) f627 (by omega) rfl dJ24_nextNode_60 ?_
        refine z_dup X dJ24_nextNode_63 rfl ?_
        refine z_astore_n X (lv' := [(1, .ref T), (2, .ref q), (0, .ref x)]) dJ24_nextNode_64 zref.r (by decide) rfl ?_
        refine z_ifnull X 98 dJ24_nextNode_65 (by decide) zref.r (fun c633 => ?_) (fun a634 c633 => ?_)
        · cases c633
        have hx0 := f630
        rw [c631] at hx0
        refine z_lvp (lv' := [(0, .ref x), (1, .ref T), (2, .ref q)]) [2, 0, 1] rfl ?_
        refine z_loop (σ := Nat × ZH) (fun x9 => x9.1 ≤ N ∧ x9.2 x = (tx, .inr (17, [.null, .ref q, .int mc, .int (nI x9.1), .ref a])) ∧ rem = zfl C x9.1 (N - x9.1) ∧ zOn (fun t' => t' = tx) h x9.2) (fun x9 => N - x9.1) (fun x9 => [(0, .ref x), (1, .ref T), (2, .ref q)]) (fun x9 => []) (fun x9 => x9.2) (fun x9 => 0) (fun x9 => 0) ?_ (i, h624) (⟨i3, hx0, by rw [hrem, hL2]; rfl, o626⟩)
        intro ⟨i, h9⟩ hI ih
        try dsimp only at hI
        try dsimp only at ih
        try dsimp only
        clear hrem i4 i3
        obtain ⟨q1, q2, q3, q4⟩ := hI
        have q5 := q4.at k4 (by omega) (by omega)
        refine z_aload_n X 0 dJ24_nextNode_68 zref.r rfl ?_
        refine z_get X zP17 3 (by decide) q1218 (Or.inl rfl) q2 (by omega) rfl dJ24_nextNode_69 ?_
        refine z_aload_n X 1 dJ24_nextNode_72 zref.r rfl ?_
        refine z_alen X q5 (ty := .object "java/util/HashMap$Node") rfl (by omega) dJ24_nextNode_73 ?_
        refine z_icmp_geN X i N 98 dJ24_nextNode_74 (by decide) rfl rfl (by omega) (by omega) (fun c635 => ?_) (fun c635 => ?_)
        · have hiN : i = N := by omega
          subst hiN
          refine z_aload_n X 2 dJ24_nextNode_98 zref.r rfl ?_
          exact z_aret X hr (by first | exact Or.inl ⟨_, rfl⟩ | exact Or.inr ⟨_, rfl⟩) hlk zref.r dJ24_nextNode_99 (by first | exact Nat.le_of_ble_eq_true rfl | (dsimp only [zRm]; omega) | omega) (by first | exact Nat.le_of_ble_eq_true rfl | (dsimp only [zRm]; omega) | omega) ⟨q, w0, hmk, rfl, ⟨_, _, i, 0, [], [], q2, zref.r, Nat.le_refl _, q3, Or.inl ⟨rfl, rfl, by rw [q3, Nat.sub_self]; rfl⟩⟩, q4⟩
        · have hiN : i < N := by omega
          have hch := k5 i hiN
          have q6 : rem = C i ++ zfl C (i + 1) (N - (i + 1)) := by rw [q3, show N - i = (N - (i + 1)) + 1 from by omega]; rfl
          refine z_aload_n X 0 dJ24_nextNode_77 zref.r rfl ?_
          refine z_aload_n X 1 dJ24_nextNode_78 zref.r rfl ?_
          refine z_aload_n X 0 dJ24_nextNode_79 zref.r rfl ?_
          refine z_dup X dJ24_nextNode_80 rfl ?_
          refine z_get X zP17 3 (by decide) q1218 (Or.inl rfl) q2 (by omega) rfl dJ24_nextNode_81 ?_
          refine z_dup_x1 X dJ24_nextNode_84 rfl rfl ?_
          refine z_iconst X (nI 1) dJ24_nextNode_85 (by decide) ?_
          refine z_iadd X (nI (i + 1)) dJ24_nextNode_86 (nI_add _ _) ?_
          refine z_put X zP17 3 (by decide) q1218 (Or.inl rfl) rfl q2 (by omega) (by omega) (zfits.i _) (Nat.le_of_ble_eq_true rfl) rfl dJ24_nextNode_87 ?_
          refine z_nm fun h636 e637 => ?_
          have o638 := zOn.up q4 e637 q2 (by first | exact rfl | omega | simp)
          have f639 : h636 T = (t, .inl (6, N, g)) := zup_ot e637 q2 q5 (by omega)
          have f640 : h636 x = (tx, .inr (17, [.null, .ref q, .int mc, .int (nI (i + 1)), .ref a])) := zup_is e637
          refine z_aald X (v := g i) i f639 (ty := .object "java/util/HashMap$Node") rfl rfl (by omega) rfl hiN (by first | decide | omega) rfl dJ24_nextNode_90 ?_
          refine z_dup_x1 X dJ24_nextNode_91 (((hch.zref zref.nul)).cat) rfl ?_
          refine z_put X zP17 0 (by decide) q1215 (Or.inl rfl) rfl f640 (by omega) (by omega) (zfits.o (hch.zref zref.nul)) (Nat.le_of_ble_eq_true rfl) rfl dJ24_nextNode_92 ?_
          refine z_nm fun h641 e642 => ?_
          have o643 := zOn.up o638 e642 f640 (by first | exact rfl | omega | simp)
          have f644 : h641 T = (t, .inl (6, N, g)) := zup_ot e642 f640 f639 (by omega)
          have f645 : h641 x = (tx, .inr (17, [g i, .ref q, .int mc, .int (nI (i + 1)), .ref a])) := zup_is e642
          refine z_ifnull X 68 dJ24_nextNode_95 (by decide) (hch.zref zref.nul) (fun c646 => ?_) (fun a647 c646 => ?_)
          · have hnil : C i = [] := by rw [c646] at hch; exact hch.null
            refine z_lvp (lv' := [(0, .ref x), (1, .ref T), (2, .ref q)]) [0, 1, 2] rfl ?_
            exact ih (i + 1, h641) ⟨hiN, (by have z9 := f645; rw [c646] at z9; exact z9), by rw [q6, hnil]; rfl, o643⟩ (by dsimp only; omega)
          · rw [c646] at hch
            obtain ⟨k2, L3, hL3, w2, nx2, r1, r2, r3, r4⟩ := hch.ref
            refine z_aload_n X 2 dJ24_nextNode_98 zref.r rfl ?_
            exact z_aret X hr (by first | exact Or.inl ⟨_, rfl⟩ | exact Or.inr ⟨_, rfl⟩) hlk zref.r dJ24_nextNode_99 (by first | exact Nat.le_of_ble_eq_true rfl | (dsimp only [zRm]; omega) | omega) (by first | exact Nat.le_of_ble_eq_true rfl | (dsimp only [zRm]; omega) | omega) ⟨q, w0, hmk, rfl, ⟨_, _, i + 1, i, [], C i, f645, zref.r, hiN, q6, Or.inr ⟨k2, L3, _, w2, hL3, r1, c646, hiN, rfl⟩⟩, o643⟩
set_option maxHeartbeats 2000000 in
theorem c_J25_init {l : Launch} {G : ZG} {h : ZH} {tx x a t N : Nat} {C : Nat → List Nat} {m : Nat → Option (Nat × Value)} {mc : Int32} (hM : zHM G h t a N C m mc) (hx : h x = (tx, .inr (17, [.null, .null, .int 0, .int 0, .null]))) (ht : 1 < t) (htx : 1 < tx) (hne : tx ≠ t) : ZM l G yJ25_init (ws_ yJ25_init cJ25_init 2 (Option.none : Option FieldType)) (zRm 2 0 0 40) [.ref x, .ref a] h (fun v h' => v = none ∧ zHI h' tx x 17 a N C m (zfl C 0 N) mc ∧ zOn (fun t' => t' = tx) h h') := by
  refine ZT.zm (ZT.of (by first | exact plainFor_of_name (by decide) | decide +kernel) (Nat.le_of_ble_eq_true rfl) (zcats.r zref.r (zcats.r zref.r zcats.nil)) ?_)
  intro p_ e_ s_ m_ args_ below_ meth_ c_ X hr hlk hin htab
  have X : ZX p_ m_ c_ cJ25_init 2 s_ args_ "java/util/HashMap$EntryIterator" G := X
  refine z_lv (lv' := [(0, .ref x), (1, .ref a)]) (fun _ hq => hq) ?_
  refine z_aload_n X 0 dJ25_init_0 zref.r rfl ?_
  refine z_aload_n X 1 dJ25_init_1 zref.r rfl ?_
  refine z_callI X (rest := []) (c_J24_init_17 hM hx ht htx hne) (cwI 1 (zXts X) (lw_meth q1213) rfl rfl rfl (zXts X _ q84) (zXts X _ q1211) (zXts X _ q1212) rfl (by decide +kernel) ⟨Nat.le_of_ble_eq_true rfl, Nat.le_of_ble_eq_true rfl⟩) rfl (Nat.le_of_ble_eq_true rfl) ⟨(by first | exact Nat.le_of_ble_eq_true rfl | (dsimp only [zRm]; omega)), (by first | exact Nat.le_of_ble_eq_true rfl | (dsimp only [zRm]; omega))⟩ dJ25_init_2 (fun v648 h649 p650 => ?_)
  obtain ⟨rfl, H2, O2⟩ := p650
  refine z_st (st' := []) rfl ?_
  exact z_vret X hr hlk dJ25_init_5 (by first | exact Nat.le_of_ble_eq_true rfl | (dsimp only [zRm]; omega) | omega) (by first | exact Nat.le_of_ble_eq_true rfl | (dsimp only [zRm]; omega) | omega) ⟨rfl, H2, O2⟩
set_option maxHeartbeats 2000000 in
theorem c_J23_iterator {l : Launch} {G : ZG} {h : ZH} (tx : Nat) {y a t N : Nat} {C : Nat → List Nat} {m : Nat → Option (Nat × Value)} {mc : Int32} (hM : zHM G h t a N C m mc) (hy : h y = (t, .inr (16, [.ref a]))) (ht : 1 < t) (htx : 1 < tx) (hne : tx ≠ t) : ZM l G yJ23_iterator (ws_ yJ23_iterator cJ23_iterator 1 (Option.some (FieldType.object "java/util/Iterator"))) (zRm 3 1 5 70) [.ref y] h (fun v h' => ∃ x : Nat, v = some (.ref x) ∧ (h x).1 = 0 ∧ zHI h' tx x 17 a N C m (zfl C 0 N) mc ∧ zOn (fun t' => t' = tx) h h') := by
  refine ZT.zm (ZT.of (by first | exact plainFor_of_name (by decide) | decide +kernel) (Nat.le_of_ble_eq_true rfl) (zcats.r zref.r zcats.nil) ?_)
  intro p_ e_ s_ m_ args_ below_ meth_ c_ X hr hlk hin htab
  have X : ZX p_ m_ c_ cJ23_iterator 1 s_ args_ "java/util/HashMap$EntrySet" G := X
  refine z_lv (lv' := [(0, .ref y)]) (fun _ hq => hq) ?_
  refine z_new X zP17 tx (by omega) (fs := [.null, .null, .int 0, .int 0, .null]) (by intro j hj; rcases j with _ | _ | _ | _ | _ | _ <;> first | rfl | omega) q1206 q1207 q85 (by first | exact Nat.le_of_ble_eq_true rfl | (dsimp only [zRm]; omega)) (by first | exact Nat.le_of_ble_eq_true rfl | (dsimp only [zRm]; omega)) dJ23_iterator_0 fun x n651 => ?_
  refine z_nm fun h652 e653 => ?_
  have o654 := zOn.new (zOn.rf (T := fun t' => t' = tx) (h := h)) e653 n651
  have f655 : h652 y = (t, .inr (16, [.ref a])) := zup_o0 e653 n651 hy (by omega)
  have f656 : h652 x = (tx, .inr (17, [.null, .null, .int 0, .int 0, .null])) := zup_is e653
  refine z_dup X dJ23_iterator_3 rfl ?_
  refine z_aload_n X 0 dJ23_iterator_4 zref.r rfl ?_
  refine z_get X zP16 0 (by decide) q1192 (Or.inl rfl) f655 (by omega) rfl dJ23_iterator_5 ?_
  refine z_callI X (rest := [.ref x]) (c_J25_init (hM.on o654 ht (by omega)) f656 ht htx hne) (cwI 1 (zXts X) (lw_meth q1210) rfl rfl rfl (zXts X _ q85) (zXts X _ q1208) (zXts X _ q1209) rfl (by decide +kernel) ⟨Nat.le_of_ble_eq_true rfl, Nat.le_of_ble_eq_true rfl⟩) rfl (Nat.le_of_ble_eq_true rfl) ⟨(by first | exact Nat.le_of_ble_eq_true rfl | (dsimp only [zRm]; omega)), (by first | exact Nat.le_of_ble_eq_true rfl | (dsimp only [zRm]; omega))⟩ dJ23_iterator_8 (fun v657 h658 p659 => ?_)
  obtain ⟨rfl, H2, O2⟩ := p659
  refine z_st (st' := [.ref x]) rfl ?_
  exact z_aret X hr (by first | exact Or.inl ⟨_, rfl⟩ | exact Or.inr ⟨_, rfl⟩) hlk zref.r dJ23_iterator_11 (by first | exact Nat.le_of_ble_eq_true rfl | (dsimp only [zRm]; omega) | omega) (by first | exact Nat.le_of_ble_eq_true rfl | (dsimp only [zRm]; omega) | omega) ⟨x, rfl, n651, H2, (o654).trans O2⟩
set_option maxHeartbeats 2000000 in
theorem c_J25_next_2 {l : Launch} {G : ZG} {h : ZH} {tx x a t N : Nat} {C : Nat → List Nat} {m : Nat → Option (Nat × Value)} {mc : Int32} {k : Nat} {rem : List Nat} (hM : zHM G h t a N C m mc) (hI : zHI h tx x 17 a N C m (k :: rem) mc) (ht : 1 < t) (htx : 1 < tx) (hne : tx ≠ t) : ZM l G yJ25_next_2 (ws_ yJ25_next_2 cJ25_next_2 1 (Option.some (FieldType.object "java/util/Map$Entry"))) (zRm 1 0 0 30) [.ref x] h (fun v h' => ∃ (q : Nat) (w : Value), m k = some (q, w) ∧ v = some (.ref q) ∧ zHI h' tx x 17 a N C m rem mc ∧ zOn (fun t' => t' = tx) h h') := by
  refine ZT.zm (ZT.of (by first | exact plainFor_of_name (by decide) | decide +kernel) (Nat.le_of_ble_eq_true rfl) (zcats.r zref.r zcats.nil) ?_)
  intro p_ e_ s_ m_ args_ below_ meth_ c_ X hr hlk hin htab
  have X : ZX p_ m_ c_ cJ25_next_2 1 s_ args_ "java/util/HashMap$EntryIterator" G := X
  refine z_lv (lv' := [(0, .ref x)]) (fun _ hq => hq) ?_
  refine z_aload_n X 0 dJ25_next_2_0 zref.r rfl ?_
  obtain ⟨_, r660⟩ := zHI.rc hI
  refine z_callU X (rest := []) (y := yJ24_nextNode) (c_J24_nextNode_17 hM hI ht htx hne) (va_cwA 0 (zXts X) (zlw_U q1160 q1161 q1163 q1164 q84 q1165) rfl rfl rfl (zXnw X q1162 rfl) (by decide +kernel) ⟨Nat.le_of_ble_eq_true rfl, Nat.le_of_ble_eq_true rfl⟩) r660 (by omega) rfl rfl (Nat.le_of_ble_eq_true rfl) ⟨(by first | exact Nat.le_of_ble_eq_true rfl | (dsimp only [zRm]; omega)), (by first | exact Nat.le_of_ble_eq_true rfl | (dsimp only [zRm]; omega))⟩ dJ25_next_2_1 (fun v661 h662 p663 => ?_)
  obtain ⟨q, w0, r1, rfl, r2, r3⟩ := p663
  refine z_st (st' := [.ref q]) rfl ?_
  exact z_aret X hr (by first | exact Or.inl ⟨_, rfl⟩ | exact Or.inr ⟨_, rfl⟩) hlk zref.r dJ25_next_2_4 (by first | exact Nat.le_of_ble_eq_true rfl | (dsimp only [zRm]; omega) | omega) (by first | exact Nat.le_of_ble_eq_true rfl | (dsimp only [zRm]; omega) | omega) ⟨q, w0, r1, rfl, r2, r3⟩
set_option maxHeartbeats 2000000 in
theorem c_J25_next {l : Launch} {G : ZG} {h : ZH} {tx x a t N : Nat} {C : Nat → List Nat} {m : Nat → Option (Nat × Value)} {mc : Int32} {k : Nat} {rem : List Nat} (hM : zHM G h t a N C m mc) (hI : zHI h tx x 17 a N C m (k :: rem) mc) (ht : 1 < t) (htx : 1 < tx) (hne : tx ≠ t) : ZM l G yJ25_next (ws_ yJ25_next cJ25_next 1 (Option.some (FieldType.object "java/lang/Object"))) (zRm 2 0 0 60) [.ref x] h (fun v h' => ∃ (q : Nat) (w : Value), m k = some (q, w) ∧ v = some (.ref q) ∧ zHI h' tx x 17 a N C m rem mc ∧ zOn (fun t' => t' = tx) h h') := by
  refine ZT.zm (ZT.of (by first | exact plainFor_of_name (by decide) | decide +kernel) (Nat.le_of_ble_eq_true rfl) (zcats.r zref.r zcats.nil) ?_)
  intro p_ e_ s_ m_ args_ below_ meth_ c_ X hr hlk hin htab
  have X : ZX p_ m_ c_ cJ25_next 1 s_ args_ "java/util/HashMap$EntryIterator" G := X
  refine z_lv (lv' := [(0, .ref x)]) (fun _ hq => hq) ?_
  refine z_aload_n X 0 dJ25_next_0 zref.r rfl ?_
  obtain ⟨_, r664⟩ := zHI.rc hI
  refine z_callV X (rest := []) (c_J25_next_2 hM hI ht htx hne) (cwV 0 (zXts X) (lw_V q1156 q1157 q1158 q85 q1159) rfl rfl rfl (by decide +kernel) ⟨Nat.le_of_ble_eq_true rfl, Nat.le_of_ble_eq_true rfl⟩) r664 (by omega) rfl rfl (Nat.le_of_ble_eq_true rfl) ⟨(by first | exact Nat.le_of_ble_eq_true rfl | (dsimp only [zRm]; omega)), (by first | exact Nat.le_of_ble_eq_true rfl | (dsimp only [zRm]; omega))⟩ dJ25_next_1 (fun v665 h666 p667 => ?_)
  obtain ⟨q, w0, r1, rfl, r2, r3⟩ := p667
  refine z_st (st' := [.ref q]) rfl ?_
  exact z_aret X hr (by first | exact Or.inl ⟨_, rfl⟩ | exact Or.inr ⟨_, rfl⟩) hlk zref.r dJ25_next_4 (by first | exact Nat.le_of_ble_eq_true rfl | (dsimp only [zRm]; omega) | omega) (by first | exact Nat.le_of_ble_eq_true rfl | (dsimp only [zRm]; omega) | omega) ⟨q, w0, r1, rfl, r2, r3⟩
set_option maxHeartbeats 4000000 in
theorem c_J24_init_19 {l : Launch} {G : ZG} {h : ZH} {tx x a t N : Nat} {C : Nat → List Nat} {m : Nat → Option (Nat × Value)} {mc : Int32} (hM : zHM G h t a N C m mc) (hx : h x = (tx, .inr (19, [.null, .null, .int 0, .int 0, .null]))) (ht : 1 < t) (htx : 1 < tx) (hne : tx ≠ t) : ZM l G yJ24_init (ws_ yJ24_init cJ24_init 3 (Option.none : Option FieldType)) (zRm 1 0 0 12) [.ref x, .ref a] h (fun v h' => v = none ∧ zHI h' tx x 19 a N C m (zfl C 0 N) mc ∧ zOn (fun t' => t' = tx) h h') := by
  refine ZT.zm (ZT.of (by first | exact plainFor_of_name (by decide) | decide +kernel) (Nat.le_of_ble_eq_true rfl) (zcats.r zref.r (zcats.r zref.r zcats.nil)) ?_)
  intro p_ e_ s_ m_ args_ below_ meth_ c_ X hr hlk hin htab
  have X : ZX p_ m_ c_ cJ24_init 3 s_ args_ "java/util/HashMap$HashIterator" G := X
  refine z_lv (lv' := [(0, .ref x), (1, .ref a)]) (fun _ hq => hq) ?_
  obtain ⟨vs, es, tab, thr, e1, e2, e3, e4, e5⟩ := id hM
  have hle := zcnt_le m 64
  refine z_aload_n X 0 dJ24_init_0 zref.r rfl ?_
  refine z_aload_n X 1 dJ24_init_1 zref.r rfl ?_
  refine z_putF X zP19 4 (by decide) q1219 (Or.inl rfl) rfl hin rfl hx (by omega) (by omega) (zfits.o zref.r) (Nat.le_of_ble_eq_true rfl) rfl dJ24_init_2 ?_
  refine z_nm fun h668 e669 => ?_
  have o670 := zOn.up (zOn.rf (T := fun t' => t' = tx) (h := h)) e669 hx (by first | exact rfl | omega | simp)
  have f671 : h668 a = (t, .inr (11, [.null, vs, tab, es, .int (nI (zcnt m 64)), .int mc, .int thr, .float 1061158912])) := zup_ot e669 hx e1 (by omega)
  have f672 : h668 x = (tx, .inr (19, [.null, .null, .int 0, .int 0, .ref a])) := zup_is e669
  refine z_aload_n X 0 dJ24_init_5 zref.r rfl ?_
  refine z_objInit X q1214 q95 q96 dJ24_init_6 (by first | exact Nat.le_of_ble_eq_true rfl | (dsimp only [zRm]; omega)) (by first | exact Nat.le_of_ble_eq_true rfl | (dsimp only [zRm]; omega)) ?_
  refine z_aload_n X 0 dJ24_init_9 zref.r rfl ?_
  refine z_aload_n X 1 dJ24_init_10 zref.r rfl ?_
  refine z_get X zP11 5 (by decide) q297 (Or.inl rfl) f671 (by omega) rfl dJ24_init_11 ?_
  refine z_put X zP19 2 (by decide) q1217 (Or.inl rfl) rfl f672 (by omega) (by omega) (zfits.i _) (Nat.le_of_ble_eq_true rfl) rfl dJ24_init_14 ?_
  refine z_nm fun h673 e674 => ?_
  have o675 := zOn.up o670 e674 f672 (by first | exact rfl | omega | simp)
  have f676 : h673 a = (t, .inr (11, [.null, vs, tab, es, .int (nI (zcnt m 64)), .int mc, .int thr, .float 1061158912])) := zup_ot e674 f672 f671 (by omega)
  have f677 : h673 x = (tx, .inr (19, [.null, .null, .int mc, .int 0, .ref a])) := zup_is e674
  refine z_aload_n X 1 dJ24_init_17 zref.r rfl ?_
  refine z_get X zP11 2 (by decide) q292 (Or.inl rfl) f676 (by omega) rfl dJ24_init_18 ?_
  refine z_astore_n X (lv' := [(2, tab), (0, .ref x), (1, .ref a)]) dJ24_init_21 e4.zref (by decide) rfl ?_
  refine z_aload_n X 1 dJ24_init_22 zref.r rfl ?_
  refine z_aload_n X 1 dJ24_init_23 zref.r rfl ?_
  refine z_null X dJ24_init_24 ?_
  refine z_dup_x1 X dJ24_init_25 rfl rfl ?_
  refine z_put X zP19 0 (by decide) q1215 (Or.inl rfl) rfl f677 (by omega) (by omega) (zfits.o zref.nul) (Nat.le_of_ble_eq_true rfl) rfl dJ24_init_26 ?_
  refine z_nm fun h678 e679 => ?_
  have o680 := zOn.up o675 e679 f677 (by first | exact rfl | omega | simp)
  have f681 : h678 a = (t, .inr (11, [.null, vs, tab, es, .int (nI (zcnt m 64)), .int mc, .int thr, .float 1061158912])) := zup_ot e679 f677 f676 (by omega)
  have f682 : h678 x = (tx, .inr (19, [.null, .null, .int mc, .int 0, .ref a])) := zup_is e679
  refine z_put X zP19 1 (by decide) q1216 (Or.inl rfl) rfl f682 (by omega) (by omega) (zfits.o zref.nul) (Nat.le_of_ble_eq_true rfl) rfl dJ24_init_29 ?_
  refine z_nm fun h683 e684 => ?_
  have o685 := zOn.up o680 e684 f682 (by first | exact rfl | omega | simp)
  have f686 : h683 a = (t, .inr (11, [.null, vs, tab, es, .int (nI (zcnt m 64)), .int mc, .int thr, .float 1061158912])) := zup_ot e684 f682 f681 (by omega)
  have f687 : h683 x = (tx, .inr (19, [.null, .null, .int mc, .int 0, .ref a])) := zup_is e684
  refine z_aload_n X 1 dJ24_init_32 zref.r rfl ?_
  refine z_iconst X (nI 0) dJ24_init_33 (by decide) ?_
  refine z_put X zP19 3 (by decide) q1218 (Or.inl rfl) rfl f687 (by omega) (by omega) (zfits.i _) (Nat.le_of_ble_eq_true rfl) rfl dJ24_init_34 ?_
  refine z_nm fun h688 e689 => ?_
  have o690 := zOn.up o685 e689 f687 (by first | exact rfl | omega | simp)
  have f691 : h688 a = (t, .inr (11, [.null, vs, tab, es, .int (nI (zcnt m 64)), .int mc, .int thr, .float 1061158912])) := zup_ot e689 f687 f686 (by omega)
  have f692 : h688 x = (tx, .inr (19, [.null, .null, .int mc, .int (nI 0), .ref a])) := zup_is e689
  refine z_aload_n X 0 dJ24_init_37 e4.zref rfl ?_
  refine z_ifnull X 78 dJ24_init_38 (by decide) e4.zref (fun c693 => ?_) (fun a694 c693 => ?_)
  · have hN0 : N = 0 := by rcases e4 with ⟨z, -⟩ | ⟨T, g, -, z, -⟩; exact z; rw [c693] at z; cases z
    subst hN0
    exact z_vret X hr hlk dJ24_init_78 (by first | exact Nat.le_of_ble_eq_true rfl | (dsimp only [zRm]; omega) | omega) (by first | exact Nat.le_of_ble_eq_true rfl | (dsimp only [zRm]; omega) | omega) ⟨rfl, ⟨_, _, 0, 0, [], [], f692, zref.nul, Nat.le_refl _, rfl, Or.inl ⟨rfl, rfl, rfl⟩⟩, o690⟩
  · refine z_aload_n X 2 dJ24_init_41 zref.r rfl ?_
    refine z_get X zP11 4 (by decide) q295 (Or.inl rfl) f691 (by omega) rfl dJ24_init_42 ?_
    refine z_if_leN X (zcnt m 64) 78 dJ24_init_45 (by decide) rfl (by omega) (fun c695 => ?_) (fun c695 => ?_)
    · have hC0 : zcnt m 64 = 0 := by omega
      have hCn := zfl_nil (e5.nil hC0).1 N 0
      exact z_vret X hr hlk dJ24_init_78 (by first | exact Nat.le_of_ble_eq_true rfl | (dsimp only [zRm]; omega) | omega) (by first | exact Nat.le_of_ble_eq_true rfl | (dsimp only [zRm]; omega) | omega) ⟨rfl, ⟨_, _, 0, 0, [], [], f692, zref.nul, Nat.zero_le _, rfl, Or.inl ⟨rfl, rfl, hCn⟩⟩, o690⟩
    · rcases e4 with ⟨-, z, -⟩ | ⟨T9, g, hN, hT, hthr, k4, k5⟩
      · rw [c693] at z; cases z
      · rw [c693] at hT
        cases hT
        have hNb := hN.lt
        refine z_lv (lv' := [(2, .ref a694), (0, .ref x), (1, .ref a)]) (by intro x9 h9; rw [c693]; exact h9) ?_
        refine z_lvp (lv' := [(0, .ref x), (2, .ref a694)]) [1, 0] rfl ?_
        refine z_loop (σ := Nat × ZH) (fun x9 => x9.1 ≤ N ∧ x9.2 x = (tx, .inr (19, [.null, .null, .int mc, .int (nI x9.1), .ref a])) ∧ zfl C 0 N = zfl C x9.1 (N - x9.1) ∧ zOn (fun t' => t' = tx) h x9.2) (fun x9 => N - x9.1) (fun x9 => [(0, .ref x), (2, .ref a694)]) (fun x9 => []) (fun x9 => x9.2) (fun x9 => 0) (fun x9 => 0) ?_ (0, h688) (⟨Nat.zero_le _, f692, rfl, o690⟩)
        intro ⟨i, h9⟩ hI ih
        try dsimp only at hI
        try dsimp only at ih
        try dsimp only
        obtain ⟨q1, q2, q3, q4⟩ := hI
        have q5 := q4.at k4 (by omega) (by omega)
        refine z_aload_n X 0 dJ24_init_48 zref.r rfl ?_
        refine z_get X zP19 3 (by decide) q1218 (Or.inl rfl) q2 (by omega) rfl dJ24_init_49 ?_
        refine z_aload_n X 1 dJ24_init_52 zref.r rfl ?_
        refine z_alen X q5 (ty := .object "java/util/HashMap$Node") rfl (by omega) dJ24_init_53 ?_
        refine z_icmp_geN X i N 78 dJ24_init_54 (by decide) rfl rfl (by omega) (by omega) (fun c696 => ?_) (fun c696 => ?_)
        · have hiN : i = N := by omega
          subst hiN
          exact z_vret X hr hlk dJ24_init_78 (by first | exact Nat.le_of_ble_eq_true rfl | (dsimp only [zRm]; omega) | omega) (by first | exact Nat.le_of_ble_eq_true rfl | (dsimp only [zRm]; omega) | omega) ⟨rfl, ⟨_, _, i, 0, [], [], q2, zref.nul, Nat.le_refl _, q3, Or.inl ⟨rfl, rfl, by rw [q3, Nat.sub_self]; rfl⟩⟩, q4⟩
        · have hiN : i < N := by omega
          have hch := k5 i hiN
          have q6 : zfl C 0 N = C i ++ zfl C (i + 1) (N - (i + 1)) := by rw [q3, show N - i = (N - (i + 1)) + 1 from by omega]; rfl
          refine z_aload_n X 0 dJ24_init_57 zref.r rfl ?_
          refine z_aload_n X 1 dJ24_init_58 zref.r rfl ?_
          refine z_aload_n X 0 dJ24_init_59 zref.r rfl ?_
          refine z_dup X dJ24_init_60 rfl ?_
          refine z_get X zP19 3 (by decide) q1218 (Or.inl rfl) q2 (by omega) rfl dJ24_init_61 ?_
          refine z_dup_x1 X dJ24_init_64 rfl rfl ?_
          refine z_iconst X (nI 1) dJ24_init_65 (by decide) ?_
          refine z_iadd X (nI (i + 1)) dJ24_init_66 (nI_add _ _) ?_
          refine z_put X zP19 3 (by decide) q1218 (Or.inl rfl) rfl q2 (by omega) (by omega) (zfits.i _) (Nat.le_of_ble_eq_true rfl) rfl dJ24_init_67 ?_
          refine z_nm fun h697 e698 => ?_
          have o699 := zOn.up q4 e698 q2 (by first | exact rfl | omega | simp)
          have f700 : h697 a694 = (t, .inl (6, N, g)) := zup_ot e698 q2 q5 (by omega)
          have f701 : h697 x = (tx, .inr (19, [.null, .null, .int mc, .int (nI (i + 1)), .ref a])) := zup_is e698
          refine z_aald X (v := g i) i f700 (ty := .object "java/util/HashMap$Node") rfl rfl (by omega) rfl hiN (by first | decide | omega) rfl dJ24_init_70 ?_
          refine z_dup_x1 X dJ24_init_71 (((hch.zref zref.nul)).cat) rfl ?_
          refine z_put X zP19 0 (by decide) q1215 (Or.inl rfl) rfl f701 (by omega) (by omega) (zfits.o (hch.zref zref.nul)) (Nat.le_of_ble_eq_true rfl) rfl dJ24_init_72 ?_
          refine z_nm fun h702 e703 => ?_
          have o704 := zOn.up o699 e703 f701 (by first | exact rfl | omega | simp)
          have f705 : h702 a694 = (t, .inl (6, N, g)) := zup_ot e703 f701 f700 (by omega)
          have f706 : h702 x = (tx, .inr (19, [g i, .null, .int mc, .int (nI (i + 1)), .ref a])) := zup_is e703
          refine z_ifnull X 48 dJ24_init_75 (by decide) (hch.zref zref.nul) (fun c707 => ?_) (fun a708 c707 => ?_)
          · have hnil : C i = [] := by rw [c707] at hch; exact hch.null
            refine z_lvp (lv' := [(0, .ref x), (2, .ref a694)]) [0, 1] rfl ?_
            exact ih (i + 1, h702) ⟨hiN, (by have z9 := f706; rw [c707] at z9; exact z9), by rw [q6, hnil]; rfl, o704⟩ (by dsimp only; omega)
          · rw [c707] at hch
            obtain ⟨k, L2, hL, w0, nx, g1, g2, g3, g4⟩ := hch.ref
            exact z_vret X hr hlk dJ24_init_78 (by first | exact Nat.le_of_ble_eq_true rfl | (dsimp only [zRm]; omega) | omega) (by first | exact Nat.le_of_ble_eq_true rfl | (dsimp only [zRm]; omega) | omega) ⟨rfl, ⟨_, _, i + 1, i, [], C i, f706, zref.nul, hiN, q6, Or.inr ⟨k, L2, _, w0, hL, g1, c707, hiN, rfl⟩⟩, o704⟩
set_option maxHeartbeats 2000000 in
theorem c_J24_hasNext_19 {l : Launch} {G : ZG} {h : ZH} {tx x a N : Nat} {C : Nat → List Nat} {m : Nat → Option (Nat × Value)} {mc : Int32} {rem : List Nat} (hI : zHI h tx x 19 a N C m rem mc) (htx : 1 < tx) : ZM l G yJ24_hasNext (ws_ yJ24_hasNext cJ24_hasNext 1 (Option.some FieldType.boolean)) (zRm 0 0 0 0) [.ref x] h (fun v h' => ((rem = [] ∧ v = some (.int 0)) ∨ (rem ≠ [] ∧ v = some (.int 1))) ∧ h = h') := by
  refine ZT.zm (ZT.of (by first | exact plainFor_of_name (by decide) | decide +kernel) (Nat.le_of_ble_eq_true rfl) (zcats.r zref.r zcats.nil) ?_)
  intro p_ e_ s_ m_ args_ below_ meth_ c_ X hr hlk hin htab
  have X : ZX p_ m_ c_ cJ24_hasNext 1 s_ args_ "java/util/HashMap$HashIterator" G := X
  refine z_lv (lv' := [(0, .ref x)]) (fun _ hq => hq) ?_
  obtain ⟨nv, cv, i, b, P, L, e1, e2, e3, e4, e5⟩ := hI
  rcases e5 with ⟨z1, z2, z3⟩ | ⟨k, L2, q, w0, z1, z2, z3, -⟩
  · subst z2
    refine z_aload_n X 0 dJ24_hasNext_0 zref.r rfl ?_
    refine z_get X zP19 0 (by decide) q1215 (Or.inl rfl) e1 (by omega) rfl dJ24_hasNext_1 ?_
    refine z_ifnull X 11 dJ24_hasNext_4 (by decide) zref.nul (fun c709 => ?_) (fun a710 c709 => ?_)
    rotate_left
    · cases c709
    refine z_iconst X (nI 0) dJ24_hasNext_11 (by decide) ?_
    exact z_zret X hr hlk (zfits.b0) dJ24_hasNext_12 (by first | exact Nat.le_of_ble_eq_true rfl | (dsimp only [zRm]; omega) | omega) (by first | exact Nat.le_of_ble_eq_true rfl | (dsimp only [zRm]; omega) | omega) ⟨Or.inl ⟨z3, rfl⟩, rfl⟩
  · subst z3
    refine z_aload_n X 0 dJ24_hasNext_0 zref.r rfl ?_
    refine z_get X zP19 0 (by decide) q1215 (Or.inl rfl) e1 (by omega) rfl dJ24_hasNext_1 ?_
    refine z_ifnull X 11 dJ24_hasNext_4 (by decide) zref.r (fun c711 => ?_) (fun a712 c711 => ?_)
    · cases c711
    refine z_iconst X (nI 1) dJ24_hasNext_7 (by decide) ?_
    refine z_goto X 12 dJ24_hasNext_8 (by decide) ?_
    exact z_zret X hr hlk (zfits.b1) dJ24_hasNext_12 (by first | exact Nat.le_of_ble_eq_true rfl | (dsimp only [zRm]; omega) | omega) (by first | exact Nat.le_of_ble_eq_true rfl | (dsimp only [zRm]; omega) | omega) ⟨Or.inr ⟨by rw [e4, z1]; simp, rfl⟩, rfl⟩
set_option maxHeartbeats 4000000 in
theorem c_J24_nextNode_19 {l : Launch} {G : ZG} {h : ZH} {tx x a t N : Nat} {C : Nat → List Nat} {m : Nat → Option (Nat × Value)} {mc : Int32} {k : Nat} {rem : List Nat} (hM : zHM G h t a N C m mc) (hI : zHI h tx x 19 a N C m (k :: rem) mc) (ht : 1 < t) (htx : 1 < tx) (hne : tx ≠ t) : ZM l G yJ24_nextNode (ws_ yJ24_nextNode cJ24_nextNode 3 (Option.some (FieldType.object "java/util/HashMap$Node"))) (zRm 0 0 0 0) [.ref x] h (fun v h' => ∃ (q : Nat) (w : Value), m k = some (q, w) ∧ v = some (.ref q) ∧ zHI h' tx x 19 a N C m rem mc ∧ zOn (fun t' => t' = tx) h h') := by
  refine ZT.zm (ZT.of (by first | exact plainFor_of_name (by decide) | decide +kernel) (Nat.le_of_ble_eq_true rfl) (zcats.r zref.r zcats.nil) ?_)
  intro p_ e_ s_ m_ args_ below_ meth_ c_ X hr hlk hin htab
  have X : ZX p_ m_ c_ cJ24_nextNode 3 s_ args_ "java/util/HashMap$HashIterator" G := X
  refine z_lv (lv' := [(0, .ref x)]) (fun _ hq => hq) ?_
  obtain ⟨vs, es, tab, thr, e1, e2, e3, e4, e5⟩ := id hM
  obtain ⟨nv, cv, i, b, P, L, i1, i2, i3, i4, i5⟩ := hI
  rcases i5 with ⟨-, -, z3⟩ | ⟨k0, L2, q, w0, hL, hmk, z3, hbN, hCb⟩
  · cases z3
  · subst hL; subst z3
    obtain ⟨hk0, hrem⟩ := List.cons.inj i4
    subst hk0
    obtain ⟨-, hw0, -⟩ := hM.node hmk
    rcases e4 with ⟨z, -⟩ | ⟨T, g, hN, hT, hthr, k4, k5⟩
    · omega
    · subst hT
      have hNb := hN.lt
      have hcb := k5 b hbN
      rw [hCb] at hcb
      obtain ⟨y, -, q9, w9, nx, g1, g2, g3, g4, g5⟩ := (zct.app P (k :: L2) _ _).mp hcb
      cases hmk.symm.trans g2
      clear g1
      refine z_aload_n X 0 dJ24_nextNode_0 zref.r rfl ?_
      refine z_get X zP19 0 (by decide) q1215 (Or.inl rfl) i1 (by omega) rfl dJ24_nextNode_1 ?_
      refine z_astore_n X (lv' := [(2, .ref q), (0, .ref x)]) dJ24_nextNode_4 zref.r (by decide) rfl ?_
      refine z_aload_n X 1 dJ24_nextNode_5 zref.r rfl ?_
      refine z_get X zP19 4 (by decide) q1219 (Or.inl rfl) i1 (by omega) rfl dJ24_nextNode_6 ?_
      refine z_get X zP11 5 (by decide) q297 (Or.inl rfl) e1 (by omega) rfl dJ24_nextNode_9 ?_
      refine z_aload_n X 1 dJ24_nextNode_12 zref.r rfl ?_
      refine z_get X zP19 2 (by decide) q1217 (Or.inl rfl) i1 (by omega) rfl dJ24_nextNode_13 ?_
      refine z_icmp_eq X 27 dJ24_nextNode_16 (by decide) (fun c713 => ?_) (fun c713 => ?_)
      rotate_left
      · exact absurd rfl c713
      refine z_aload_n X 0 dJ24_nextNode_27 zref.r rfl ?_
      refine z_ifnonnull X 39 dJ24_nextNode_28 (by decide) zref.r (fun a715 c714 => ?_) (fun c714 => ?_)
      rotate_left
      · cases c714
      refine z_aload_n X 1 dJ24_nextNode_39 zref.r rfl ?_
      refine z_aload_n X 1 dJ24_nextNode_40 zref.r rfl ?_
      refine z_aload_n X 0 dJ24_nextNode_41 zref.r rfl ?_
      refine z_dup_x1 X dJ24_nextNode_42 rfl rfl ?_
      refine z_put X zP19 1 (by decide) q1216 (Or.inl rfl) rfl i1 (by omega) (by omega) (zfits.o zref.r) (Nat.le_of_ble_eq_true rfl) rfl dJ24_nextNode_43 ?_
      refine z_nm fun h716 e717 => ?_
      have o718 := zOn.up (zOn.rf (T := fun t' => t' = tx) (h := h)) e717 i1 (by first | exact rfl | omega | simp)
      have f719 : h716 a = (t, .inr (11, [.null, vs, .ref T, es, .int (nI (zcnt m 64)), .int mc, .int thr, .float 1061158912])) := zup_ot e717 i1 e1 (by omega)
      have f720 : h716 q = (t, .inr (13, [.int (nI k), .ref (zS G (228 + k)), w0, nx])) := zup_ot e717 i1 g4 (by omega)
      have f721 : h716 T = (t, .inl (6, N, g)) := zup_ot e717 i1 k4 (by omega)
      have f722 : h716 x = (tx, .inr (19, [.ref q, .ref q, .int mc, .int (nI i), .ref a])) := zup_is e717
      refine z_get X zP13 3 (by decide) q828 (Or.inl rfl) f720 (by omega) rfl dJ24_nextNode_46 ?_
      refine z_dup_x1 X dJ24_nextNode_49 (((g5.zref zref.nul)).cat) rfl ?_
      refine z_put X zP19 0 (by decide) q1215 (Or.inl rfl) rfl f722 (by omega) (by omega) (zfits.o (g5.zref zref.nul)) (Nat.le_of_ble_eq_true rfl) rfl dJ24_nextNode_50 ?_
      refine z_nm fun h723 e724 => ?_
      have o725 := zOn.up o718 e724 f722 (by first | exact rfl | omega | simp)
      have f726 : h723 a = (t, .inr (11, [.null, vs, .ref T, es, .int (nI (zcnt m 64)), .int mc, .int thr, .float 1061158912])) := zup_ot e724 f722 f719 (by omega)
      have f727 : h723 q = (t, .inr (13, [.int (nI k), .ref (zS G (228 + k)), w0, nx])) := zup_ot e724 f722 f720 (by omega)
      have f728 : h723 T = (t, .inl (6, N, g)) := zup_ot e724 f722 f721 (by omega)
      have f729 : h723 x = (tx, .inr (19, [nx, .ref q, .int mc, .int (nI i), .ref a])) := zup_is e724
      refine z_ifnonnull X 98 dJ24_nextNode_53 (by decide) (g5.zref zref.nul) (fun a731 c730 => ?_) (fun c730 => ?_)
      · rw [c730] at g5
        obtain ⟨k2, L3, hL3, w2, nx2, r1, r2, r3, r4⟩ := g5.ref
        refine z_aload_n X 0 dJ24_nextNode_98 zref.r rfl ?_
        exact z_aret X hr (by first | exact Or.inl ⟨_, rfl⟩ | exact Or.inr ⟨_, rfl⟩) hlk zref.r dJ24_nextNode_99 (by first | exact Nat.le_of_ble_eq_true rfl | (dsimp only [zRm]; omega) | omega) (by first | exact Nat.le_of_ble_eq_true rfl | (dsimp only [zRm]; omega) | omega) ⟨q, w0, hmk, rfl, ⟨_, _, i, b, P ++ [k], L2, f729, zref.r, i3, hrem, Or.inr ⟨k2, L3, _, w2, hL3, r1, c730, hbN, by rw [hCb]; simp⟩⟩, o725⟩
      · have hL2 : L2 = [] := by rw [c730] at g5; exact g5.null
        refine z_aload_n X 1 dJ24_nextNode_56 zref.r rfl ?_
        refine z_get X zP19 4 (by decide) q1219 (Or.inl rfl) f729 (by omega) rfl dJ24_nextNode_57 ?_
        refine z_get X zP11 2 (by decide) q292 (Or.inl rfl) f726 (by omega) rfl dJ24_nextNode_60 ?_
        refine z_dup X dJ24_nextNode_63 rfl ?_
        refine z_astore_n X (lv' := [(1, .ref T), (2, .ref q), (0, .ref x)]) dJ24_nextNode_64 zref.r (by decide) rfl ?_
        refine z_ifnull X 98 dJ24_nextNode_65 (by decide) zref.r (fun c732 => ?_) (fun a733 c732 => ?_)
        · cases c732
        have hx0 := f729
        rw [c730] at hx0
        refine z_lvp (lv' := [(0, .ref x), (1, .ref T), (2, .ref q)]) [2, 0, 1] rfl ?_
        refine z_loop (σ := Nat × ZH) (fun x9 => x9.1 ≤ N ∧ x9.2 x = (tx, .inr (19, [.null, .ref q, .int mc, .int (nI x9.1), .ref a])) ∧ rem = zfl C x9.1 (N - x9.1) ∧ zOn (fun t' => t' = tx) h x9.2) (fun x9 => N - x9.1) (fun x9 => [(0, .ref x), (1, .ref T), (2, .ref q)]) (fun x9 => []) (fun x9 => x9.2) (fun x9 => 0) (fun x9 => 0) ?_ (i, h723) (⟨i3, hx0, by rw [hrem, hL2]; rfl, o725⟩)
        intro ⟨i, h9⟩ hI ih
        try dsimp only at hI
        try dsimp only at ih
        try dsimp only
        clear hrem i4 i3
        obtain ⟨q1, q2, q3, q4⟩ := hI
        have q5 := q4.at k4 (by omega) (by omega)
        refine z_aload_n X 0 dJ24_nextNode_68 zref.r rfl ?_
        refine z_get X zP19 3 (by decide) q1218 (Or.inl rfl) q2 (by omega) rfl dJ24_nextNode_69 ?_
        refine z_aload_n X 1 dJ24_nextNode_72 zref.r rfl ?_
        refine z_alen X q5 (ty := .object "java/util/HashMap$Node") rfl (by omega) dJ24_nextNode_73 ?_
        refine z_icmp_geN X i N 98 dJ24_nextNode_74 (by decide) rfl rfl (by omega) (by omega) (fun c734 => ?_) (fun c734 => ?_)
        · have hiN : i = N := by omega
          subst hiN
          refine z_aload_n X 2 dJ24_nextNode_98 zref.r rfl ?_
          exact z_aret X hr (by first | exact Or.inl ⟨_, rfl⟩ | exact Or.inr ⟨_, rfl⟩) hlk zref.r dJ24_nextNode_99 (by first | exact Nat.le_of_ble_eq_true rfl | (dsimp only [zRm]; omega) | omega) (by first | exact Nat.le_of_ble_eq_true rfl | (dsimp only [zRm]; omega) | omega) ⟨q, w0, hmk, rfl, ⟨_, _, i, 0, [], [], q2, zref.r, Nat.le_refl _, q3, Or.inl ⟨rfl, rfl, by rw [q3, Nat.sub_self]; rfl⟩⟩, q4⟩
        · have hiN : i < N := by omega
          have hch := k5 i hiN
          have q6 : rem = C i ++ zfl C (i + 1) (N - (i + 1)) := by rw [q3, show N - i = (N - (i + 1)) + 1 from by omega]; rfl
          refine z_aload_n X 0 dJ24_nextNode_77 zref.r rfl ?_
          refine z_aload_n X 1 dJ24_nextNode_78 zref.r rfl ?_
          refine z_aload_n X 0 dJ24_nextNode_79 zref.r rfl ?_
          refine z_dup X dJ24_nextNode_80 rfl ?_
          refine z_get X zP19 3 (by decide) q1218 (Or.inl rfl) q2 (by omega) rfl dJ24_nextNode_81 ?_
          refine z_dup_x1 X dJ24_nextNode_84 rfl rfl ?_
          refine z_iconst X (nI 1) dJ24_nextNode_85 (by decide) ?_
          refine z_iadd X (nI (i + 1)) dJ24_nextNode_86 (nI_add _ _) ?_
          refine z_put X zP19 3 (by decide) q1218 (Or.inl rfl) rfl q2 (by omega) (by omega) (zfits.i _) (Nat.le_of_ble_eq_true rfl) rfl dJ24_nextNode_87 ?_
          refine z_nm fun h735 e736 => ?_
          have o737 := zOn.up q4 e736 q2 (by first | exact rfl | omega | simp)
          have f738 : h735 T = (t, .inl (6, N, g)) := zup_ot e736 q2 q5 (by omega)
          have f739 : h735 x = (tx, .inr (19, [.null, .ref q, .int mc, .int (nI (i + 1)), .ref a])) := zup_is e736
          refine z_aald X (v := g i) i f738 (ty := .object "java/util/HashMap$Node") rfl rfl (by omega) rfl hiN (by first | decide | omega) rfl dJ24_nextNode_90 ?_
          refine z_dup_x1 X dJ24_nextNode_91 (((hch.zref zref.nul)).cat) rfl ?_
          refine z_put X zP19 0 (by decide) q1215 (Or.inl rfl) rfl f739 (by omega) (by omega) (zfits.o (hch.zref zref.nul)) (Nat.le_of_ble_eq_true rfl) rfl dJ24_nextNode_92 ?_
          refine z_nm fun h740 e741 => ?_
          have o742 := zOn.up o737 e741 f739 (by first | exact rfl | omega | simp)
          have f743 : h740 T = (t, .inl (6, N, g)) := zup_ot e741 f739 f738 (by omega)
          have f744 : h740 x = (tx, .inr (19, [g i, .ref q, .int mc, .int (nI (i + 1)), .ref a])) := zup_is e741
          refine z_ifnull X 68 dJ24_nextNode_95 (by decide) (hch.zref zref.nul) (fun c745 => ?_) (fun a746 c745 => ?_)
          · have hnil : C i = [] := by rw [c745] at hch; exact hch.null
            refine z_lvp (lv' := [(0, .ref x), (1, .ref T), (2, .ref q)]) [0, 1, 2] rfl ?_
            exact ih (i + 1, h740) ⟨hiN, (by have z9 := f744; rw [c745] at z9; exact z9), by rw [q6, hnil]; rfl, o742⟩ (by dsimp only; omega)
          · rw [c745] at hch
            obtain ⟨k2, L3, hL3, w2, nx2, r1, r2, r3, r4⟩ := hch.ref
            refine z_aload_n X 2 dJ24_nextNode_98 zref.r rfl ?_
            exact z_aret X hr (by first | exact Or.inl ⟨_, rfl⟩ | exact Or.inr ⟨_, rfl⟩) hlk zref.r dJ24_nextNode_99 (by first | exact Nat.le_of_ble_eq_true rfl | (dsimp only [zRm]; omega) | omega) (by first | exact Nat.le_of_ble_eq_true rfl | (dsimp only [zRm]; omega) | omega) ⟨q, w0, hmk, rfl, ⟨_, _, i + 1, i, [], C i, f744, zref.r, hiN, q6, Or.inr ⟨k2, L3, _, w2, hL3, r1, c745, hiN, rfl⟩⟩, o742⟩
set_option maxHeartbeats 2000000 in
theorem c_J28_init {l : Launch} {G : ZG} {h : ZH} {tx x a t N : Nat} {C : Nat → List Nat} {m : Nat → Option (Nat × Value)} {mc : Int32} (hM : zHM G h t a N C m mc) (hx : h x = (tx, .inr (19, [.null, .null, .int 0, .int 0, .null]))) (ht : 1 < t) (htx : 1 < tx) (hne : tx ≠ t) : ZM l G yJ28_init (ws_ yJ28_init cJ28_init 2 (Option.none : Option FieldType)) (zRm 2 0 0 40) [.ref x, .ref a] h (fun v h' => v = none ∧ zHI h' tx x 19 a N C m (zfl C 0 N) mc ∧ zOn (fun t' => t' = tx) h h') := by
  refine ZT.zm (ZT.of (by first | exact plainFor_of_name (by decide) | decide +kernel) (Nat.le_of_ble_eq_true rfl) (zcats.r zref.r (zcats.r zref.r zcats.nil)) ?_)
  intro p_ e_ s_ m_ args_ below_ meth_ c_ X hr hlk hin htab
  have X : ZX p_ m_ c_ cJ28_init 2 s_ args_ "java/util/HashMap$ValueIterator" G := X
  refine z_lv (lv' := [(0, .ref x), (1, .ref a)]) (fun _ hq => hq) ?_
  refine z_aload_n X 0 dJ28_init_0 zref.r rfl ?_
  refine z_aload_n X 1 dJ28_init_1 zref.r rfl ?_
  refine z_callI X (rest := []) (c_J24_init_19 hM hx ht htx hne) (cwI 1 (zXts X) (lw_meth q1213) rfl rfl rfl (zXts X _ q84) (zXts X _ q1389) (zXts X _ q1212) rfl (by decide +kernel) ⟨Nat.le_of_ble_eq_true rfl, Nat.le_of_ble_eq_true rfl⟩) rfl (Nat.le_of_ble_eq_true rfl) ⟨(by first | exact Nat.le_of_ble_eq_true rfl | (dsimp only [zRm]; omega)), (by first | exact Nat.le_of_ble_eq_true rfl | (dsimp only [zRm]; omega))⟩ dJ28_init_2 (fun v747 h748 p749 => ?_)
  obtain ⟨rfl, H2, O2⟩ := p749
  refine z_st (st' := []) rfl ?_
  exact z_vret X hr hlk dJ28_init_5 (by first | exact Nat.le_of_ble_eq_true rfl | (dsimp only [zRm]; omega) | omega) (by first | exact Nat.le_of_ble_eq_true rfl | (dsimp only [zRm]; omega) | omega) ⟨rfl, H2, O2⟩
set_option maxHeartbeats 2000000 in
theorem c_J26_iterator {l : Launch} {G : ZG} {h : ZH} (tx : Nat) {y a t N : Nat} {C : Nat → List Nat} {m : Nat → Option (Nat × Value)} {mc : Int32} (hM : zHM G h t a N C m mc) (hy : h y = (t, .inr (18, [.ref a]))) (ht : 1 < t) (htx : 1 < tx) (hne : tx ≠ t) : ZM l G yJ26_iterator (ws_ yJ26_iterator cJ26_iterator 1 (Option.some (FieldType.object "java/util/Iterator"))) (zRm 3 1 5 70) [.ref y] h (fun v h' => ∃ x : Nat, v = some (.ref x) ∧ (h x).1 = 0 ∧ zHI h' tx x 19 a N C m (zfl C 0 N) mc ∧ zOn (fun t' => t' = tx) h h') := by
  refine ZT.zm (ZT.of (by first | exact plainFor_of_name (by decide) | decide +kernel) (Nat.le_of_ble_eq_true rfl) (zcats.r zref.r zcats.nil) ?_)
  intro p_ e_ s_ m_ args_ below_ meth_ c_ X hr hlk hin htab
  have X : ZX p_ m_ c_ cJ26_iterator 1 s_ args_ "java/util/HashMap$Values" G := X
  refine z_lv (lv' := [(0, .ref y)]) (fun _ hq => hq) ?_
  refine z_new X zP19 tx (by omega) (fs := [.null, .null, .int 0, .int 0, .null]) (by intro j hj; rcases j with _ | _ | _ | _ | _ | _ <;> first | rfl | omega) q1384 q1385 q88 (by first | exact Nat.le_of_ble_eq_true rfl | (dsimp only [zRm]; omega)) (by first | exact Nat.le_of_ble_eq_true rfl | (dsimp only [zRm]; omega)) dJ26_iterator_0 fun x n750 => ?_
  refine z_nm fun h751 e752 => ?_
  have o753 := zOn.new (zOn.rf (T := fun t' => t' = tx) (h := h)) e752 n750
  have f754 : h751 y = (t, .inr (18, [.ref a])) := zup_o0 e752 n750 hy (by omega)
  have f755 : h751 x = (tx, .inr (19, [.null, .null, .int 0, .int 0, .null])) := zup_is e752
  refine z_dup X dJ26_iterator_3 rfl ?_
  refine z_aload_n X 0 dJ26_iterator_4 zref.r rfl ?_
  refine z_get X zP18 0 (by decide) q1332 (Or.inl rfl) f754 (by omega) rfl dJ26_iterator_5 ?_
  refine z_callI X (rest := [.ref x]) (c_J28_init (hM.on o753 ht (by omega)) f755 ht htx hne) (cwI 1 (zXts X) (lw_meth q1388) rfl rfl rfl (zXts X _ q88) (zXts X _ q1386) (zXts X _ q1387) rfl (by decide +kernel) ⟨Nat.le_of_ble_eq_true rfl, Nat.le_of_ble_eq_true rfl⟩) rfl (Nat.le_of_ble_eq_true rfl) ⟨(by first | exact Nat.le_of_ble_eq_true rfl | (dsimp only [zRm]; omega)), (by first | exact Nat.le_of_ble_eq_true rfl | (dsimp only [zRm]; omega))⟩ dJ26_iterator_8 (fun v756 h757 p758 => ?_)
  obtain ⟨rfl, H2, O2⟩ := p758
  refine z_st (st' := [.ref x]) rfl ?_
  exact z_aret X hr (by first | exact Or.inl ⟨_, rfl⟩ | exact Or.inr ⟨_, rfl⟩) hlk zref.r dJ26_iterator_11 (by first | exact Nat.le_of_ble_eq_true rfl | (dsimp only [zRm]; omega) | omega) (by first | exact Nat.le_of_ble_eq_true rfl | (dsimp only [zRm]; omega) | omega) ⟨x, rfl, n750, H2, (o753).trans O2⟩
set_option maxHeartbeats 2000000 in
theorem c_J28_next {l : Launch} {G : ZG} {h : ZH} {tx x a t N : Nat} {C : Nat → List Nat} {m : Nat → Option (Nat × Value)} {mc : Int32} {k : Nat} {rem : List Nat} (hM : zHM G h t a N C m mc) (hI : zHI h tx x 19 a N C m (k :: rem) mc) (ht : 1 < t) (htx : 1 < tx) (hne : tx ≠ t) : ZM l G yJ28_next (ws_ yJ28_next cJ28_next 1 (Option.some (FieldType.object "java/lang/Object"))) (zRm 1 0 0 30) [.ref x] h (fun v h' => ∃ (q : Nat) (w : Value), m k = some (q, w) ∧ v = some w ∧ zHI h' tx x 19 a N C m rem mc ∧ zOn (fun t' => t' = tx) h h') := by
  refine ZT.zm (ZT.of (by first | exact plainFor_of_name (by decide) | decide +kernel) (Nat.le_of_ble_eq_true rfl) (zcats.r zref.r zcats.nil) ?_)
  intro p_ e_ s_ m_ args_ below_ meth_ c_ X hr hlk hin htab
  have X : ZX p_ m_ c_ cJ28_next 1 s_ args_ "java/util/HashMap$ValueIterator" G := X
  refine z_lv (lv' := [(0, .ref x)]) (fun _ hq => hq) ?_
  refine z_aload_n X 0 dJ28_next_0 zref.r rfl ?_
  obtain ⟨_, r759⟩ := zHI.rc hI
  refine z_callU X (rest := []) (y := yJ24_nextNode) (c_J24_nextNode_19 hM hI ht htx hne) (va_cwA 0 (zXts X) (zlw_U q1171 q1172 q1173 q1164 q84 q1165) rfl rfl rfl (zXnw X q1162 rfl) (by decide +kernel) ⟨Nat.le_of_ble_eq_true rfl, Nat.le_of_ble_eq_true rfl⟩) r759 (by omega) rfl rfl (Nat.le_of_ble_eq_true rfl) ⟨(by first | exact Nat.le_of_ble_eq_true rfl | (dsimp only [zRm]; omega)), (by first | exact Nat.le_of_ble_eq_true rfl | (dsimp only [zRm]; omega))⟩ dJ28_next_1 (fun v760 h761 p762 => ?_)
  obtain ⟨q, w0, r1, rfl, r2, r3⟩ := p762
  refine z_st (st' := [.ref q]) rfl ?_
  obtain ⟨-, hw0, nx, hnx, hq⟩ := (hM.on r3 ht (by omega)).node r1
  refine z_get X zP13 2 (by decide) q825 (Or.inl rfl) hq (by omega) rfl dJ28_next_4 ?_
  exact z_aret X hr (by first | exact Or.inl ⟨_, rfl⟩ | exact Or.inr ⟨_, rfl⟩) hlk hw0 dJ28_next_7 (by first | exact Nat.le_of_ble_eq_true rfl | (dsimp only [zRm]; omega) | omega) (by first | exact Nat.le_of_ble_eq_true rfl | (dsimp only [zRm]; omega) | omega) ⟨q, w0, r1, rfl, r2, r3⟩
set_option maxHeartbeats 2000000 in
theorem c_J17_getKey {l : Launch} {G : ZG} {h : ZH} {a t N k q : Nat} {C : Nat → List Nat} {m : Nat → Option (Nat × Value)} {mc : Int32} {w0 : Value} (hM : zHM G h t a N C m mc) (hm : m k = some (q, w0)) (ht : 1 < t) : ZM l G yJ17_getKey (ws_ yJ17_getKey cJ17_getKey 1 (Option.some (FieldType.object "java/lang/Object"))) (zRm 0 0 0 0) [.ref q] h (fun v h' => v = some (.ref (zS G (228 + k))) ∧ h = h') := by
  refine ZT.zm (ZT.of (by first | exact plainFor_of_name (by decide) | decide +kernel) (Nat.le_of_ble_eq_true rfl) (zcats.r zref.r zcats.nil) ?_)
  intro p_ e_ s_ m_ args_ below_ meth_ c_ X hr hlk hin htab
  have X : ZX p_ m_ c_ cJ17_getKey 1 s_ args_ "java/util/HashMap$Node" G := X
  refine z_lv (lv' := [(0, .ref q)]) (fun _ hq => hq) ?_
  obtain ⟨hk, hw0, nx, hnx, hq⟩ := hM.node hm
  refine z_aload_n X 0 dJ17_getKey_0 zref.r rfl ?_
  refine z_get X zP13 1 (by decide) q820 (Or.inl rfl) hq (by omega) rfl dJ17_getKey_1 ?_
  exact z_aret X hr (by first | exact Or.inl ⟨_, rfl⟩ | exact Or.inr ⟨_, rfl⟩) hlk zref.r dJ17_getKey_4 (by first | exact Nat.le_of_ble_eq_true rfl | (dsimp only [zRm]; omega) | omega) (by first | exact Nat.le_of_ble_eq_true rfl | (dsimp only [zRm]; omega) | omega) ⟨rfl, rfl⟩
set_option maxHeartbeats 2000000 in
theorem c_J17_getValue {l : Launch} {G : ZG} {h : ZH} {a t N k q : Nat} {C : Nat → List Nat} {m : Nat → Option (Nat × Value)} {mc : Int32} {w0 : Value} (hM : zHM G h t a N C m mc) (hm : m k = some (q, w0)) (ht : 1 < t) : ZM l G yJ17_getValue (ws_ yJ17_getValue cJ17_getValue 1 (Option.some (FieldType.object "java/lang/Object"))) (zRm 0 0 0 0) [.ref q] h (fun v h' => v = some w0 ∧ h = h') := by
  refine ZT.zm (ZT.of (by first | exact plainFor_of_name (by decide) | decide +kernel) (Nat.le_of_ble_eq_true rfl) (zcats.r zref.r zcats.nil) ?_)
  intro p_ e_ s_ m_ args_ below_ meth_ c_ X hr hlk hin htab
  have X : ZX p_ m_ c_ cJ17_getValue 1 s_ args_ "java/util/HashMap$Node" G := X
  refine z_lv (lv' := [(0, .ref q)]) (fun _ hq => hq) ?_
  obtain ⟨hk, hw0, nx, hnx, hq⟩ := hM.node hm
  refine z_aload_n X 0 dJ17_getValue_0 zref.r rfl ?_
  refine z_get X zP13 2 (by decide) q824 (Or.inl rfl) hq (by omega) rfl dJ17_getValue_1 ?_
  exact z_aret X hr (by first | exact Or.inl ⟨_, rfl⟩ | exact Or.inr ⟨_, rfl⟩) hlk hw0 dJ17_getValue_4 (by first | exact Nat.le_of_ble_eq_true rfl | (dsimp only [zRm]; omega) | omega) (by first | exact Nat.le_of_ble_eq_true rfl | (dsimp only [zRm]; omega) | omega) ⟨rfl, rfl⟩
set_option maxHeartbeats 2000000 in
theorem c_J17_setValue {l : Launch} {G : ZG} {h : ZH} {a t N k q : Nat} {C : Nat → List Nat} {m : Nat → Option (Nat × Value)} {mc : Int32} {w w0 : Value} (hM : zHM G h t a N C m mc) (hm : m k = some (q, w0)) (ht : 1 < t) (hw : zref w) : ZM l G yJ17_setValue (ws_ yJ17_setValue cJ17_setValue 3 (Option.some (FieldType.object "java/lang/Object"))) (zRm 0 0 0 0) [.ref q, w] h (fun v h' => v = some w0 ∧ zHM G h' t a N C (zma m k q w) mc ∧ zOn (fun t' => t' = t) h h') := by
  refine ZT.zm (ZT.of (by first | exact plainFor_of_name (by decide) | decide +kernel) (Nat.le_of_ble_eq_true rfl) (zcats.r zref.r (zcats.r hw zcats.nil)) ?_)
  intro p_ e_ s_ m_ args_ below_ meth_ c_ X hr hlk hin htab
  have X : ZX p_ m_ c_ cJ17_setValue 3 s_ args_ "java/util/HashMap$Node" G := X
  refine z_lv (lv' := [(0, .ref q), (1, w)]) (fun _ hq => hq) ?_
  obtain ⟨hk, hw0, nx, hnx, hq⟩ := hM.node hm
  refine z_aload_n X 0 dJ17_setValue_0 zref.r rfl ?_
  refine z_get X zP13 2 (by decide) q824 (Or.inl rfl) hq (by omega) rfl dJ17_setValue_1 ?_
  refine z_astore_n X (lv' := [(2, w0), (0, .ref q), (1, w)]) dJ17_setValue_4 hw0 (by decide) rfl ?_
  refine z_aload_n X 1 dJ17_setValue_5 zref.r rfl ?_
  refine z_aload_n X 2 dJ17_setValue_6 hw rfl ?_
  refine z_put X zP13 2 (by decide) q824 (Or.inl rfl) rfl hq (by omega) (by omega) (zfits.o hw) (Nat.le_of_ble_eq_true rfl) rfl dJ17_setValue_7 ?_
  refine z_nm fun h763 e764 => ?_
  have o765 := zOn.up (zOn.rf (T := fun t' => t' = t) (h := h)) e764 hq (by first | exact rfl | omega | simp)
  have f766 : h763 q = (t, .inr (13, [.int (nI k), .ref (zS G (228 + k)), w, nx])) := zup_is e764
  refine z_aload_n X 0 dJ17_setValue_10 hw0 rfl ?_
  exact z_aret X hr (by first | exact Or.inl ⟨_, rfl⟩ | exact Or.inr ⟨_, rfl⟩) hlk hw0 dJ17_setValue_11 (by first | exact Nat.le_of_ble_eq_true rfl | (dsimp only [zRm]; omega) | omega) (by first | exact Nat.le_of_ble_eq_true rfl | (dsimp only [zRm]; omega) | omega) ⟨rfl, hM.set hm hq hw e764, o765⟩
