set_option maxRecDepth 100000
def zhash (x : Int32) : Int32 := x ^^^ (x.toUInt32 >>> ((nI 16).toUInt32 &&& Int32.toUInt32 31)).toInt32
theorem zhash_n {k : Nat} (hk : k < 64) : zhash (nI k) = nI k := zhash_k k hk
theorem nI_inj32 {a b : Nat} (ha : a < 2 ^ 32) (hb : b < 2 ^ 32) (he : nI a = nI b) : a = b := by
  have := congrArg (fun x : Int32 => x.toBitVec.toNat) he
  rwa [pk_tn ha, pk_tn hb] at this
theorem zbx.rc {h : ZH} {y : Nat} {x : Int32} (H : zbx h y x) : ∃ t fs, t ≠ 0 ∧ h y = (t, .inr (12, fs)) := by
  obtain ⟨t, h0, e⟩ := H
  exact ⟨t, _, h0, e⟩
theorem zbx.inj {h : ZH} {y : Nat} {x z : Int32} (H : zbx h y x) (H2 : zbx h y z) : x = z := by
  obtain ⟨t, h0, e⟩ := H
  obtain ⟨t2, h2, e2⟩ := H2
  have := e.symm.trans e2
  simp only [Prod.mk.injEq, Sum.inr.injEq, List.cons.injEq, Value.int.injEq, and_true, true_and] at this
  exact this.2
set_option maxHeartbeats 2000000 in
theorem c_J8_init {l : Launch} {G : ZG} {h : ZH} {a : Nat}  : ZM l G yJ8_init (ws_ yJ8_init cJ8_init 1 (Option.none : Option FieldType)) (zRm 1 0 0 12) [.ref a] h (fun v h' => v = none ∧ h = h') := by
  refine ZT.zm (ZT.of (by first | exact plainFor_of_name (by decide) | decide +kernel) (Nat.le_of_ble_eq_true rfl) (zcats.r zref.r zcats.nil) ?_)
  intro p_ e_ s_ m_ args_ below_ meth_ c_ X hr hlk hin htab
  have X : ZX p_ m_ c_ cJ8_init 1 s_ args_ "java/util/AbstractMap" G := X
  refine z_lv (lv' := [(0, .ref a)]) (fun _ hq => hq) ?_
  refine z_aload_n X 0 dJ8_init_0 zref.r rfl ?_
  refine z_objInit X q290 q95 q96 dJ8_init_1 (by first | exact Nat.le_of_ble_eq_true rfl | (dsimp only [zRm]; omega)) (by first | exact Nat.le_of_ble_eq_true rfl | (dsimp only [zRm]; omega)) ?_
  exact z_vret X hr hlk dJ8_init_4 (by first | exact Nat.le_of_ble_eq_true rfl | (dsimp only [zRm]; omega) | omega) (by first | exact Nat.le_of_ble_eq_true rfl | (dsimp only [zRm]; omega) | omega) ⟨rfl, rfl⟩
set_option maxHeartbeats 2000000 in
theorem c_J9_init {l : Launch} {G : ZG} {h : ZH} {a t : Nat} (ha : h a = (t, .inr (11, [.null, .null, .null, .null, .int 0, .int 0, .int 0, .float 0]))) (ht : 1 < t) : ZM l G yJ9_init (ws_ yJ9_init cJ9_init 1 (Option.none : Option FieldType)) (zRm 2 0 0 40) [.ref a] h (fun v h' => v = none ∧ zHM G h' t a 0 (fun _ => []) (fun _ => none) 0 ∧ zOn (fun t' => t' = t) h h') := by
  refine ZT.zm (ZT.of (by first | exact plainFor_of_name (by decide) | decide +kernel) (Nat.le_of_ble_eq_true rfl) (zcats.r zref.r zcats.nil) ?_)
  intro p_ e_ s_ m_ args_ below_ meth_ c_ X hr hlk hin htab
  have X : ZX p_ m_ c_ cJ9_init 1 s_ args_ "java/util/HashMap" G := X
  refine z_lv (lv' := [(0, .ref a)]) (fun _ hq => hq) ?_
  refine z_aload_n X 0 dJ9_init_0 zref.r rfl ?_
  refine z_callI X (rest := []) c_J8_init (cwI 0 (zXts X) (lw_meth q289) rfl rfl rfl (zXts X _ q61) (zXts X _ q287) (zXts X _ q288) rfl (by decide +kernel) ⟨Nat.le_of_ble_eq_true rfl, Nat.le_of_ble_eq_true rfl⟩) rfl (Nat.le_of_ble_eq_true rfl) ⟨(by first | exact Nat.le_of_ble_eq_true rfl | (dsimp only [zRm]; omega)), (by first | exact Nat.le_of_ble_eq_true rfl | (dsimp only [zRm]; omega))⟩ dJ9_init_1 (fun v1 h2 p3 => ?_)
  obtain ⟨rfl, rfl⟩ := p3
  refine z_st (st' := []) rfl ?_
  refine z_aload_n X 0 dJ9_init_4 zref.r rfl ?_
  refine z_ldcf X q291 dJ9_init_5 ?_
  refine z_putF X zP11 7 (by decide) q300 (Or.inl rfl) rfl hin rfl ha (by omega) (by omega) ⟨by decide, by decide⟩ (Nat.le_of_ble_eq_true rfl) rfl dJ9_init_7 ?_
  refine z_nm fun h4 e5 => ?_
  have o6 := zOn.up (zOn.rf (T := fun t' => t' = t) (h := h)) e5 ha (by first | exact rfl | omega | simp)
  have f7 : h4 a = (t, .inr (11, [.null, .null, .null, .null, .int 0, .int 0, .int 0, .float 1061158912])) := zup_is e5
  exact z_vret X hr hlk dJ9_init_10 (by first | exact Nat.le_of_ble_eq_true rfl | (dsimp only [zRm]; omega) | omega) (by first | exact Nat.le_of_ble_eq_true rfl | (dsimp only [zRm]; omega) | omega) ⟨rfl, ⟨.null, .null, .null, 0, f7, Or.inl rfl, Or.inl rfl, Or.inl ⟨rfl, rfl, rfl⟩, fun b k hk => absurd hk (by simp), fun b => List.nodup_nil, fun k hk => absurd hk (by simp)⟩, o6⟩
set_option maxHeartbeats 2000000 in
theorem c_J9_hash {l : Launch} {G : ZG} {h : ZH} {y : Nat} {x : Int32} (hb : zbx h y x) : ZM l G yJ9_hash (ws_ yJ9_hash cJ9_hash 2 (Option.some FieldType.int)) (zRm 2 0 0 60) [.ref y] h (fun v h' => v = some (.int (zhash x)) ∧ h = h') := by
  refine ZT.zm (ZT.of (by first | exact plainFor_of_name (by decide) | decide +kernel) (Nat.le_of_ble_eq_true rfl) (zcats.r zref.r zcats.nil) ?_)
  intro p_ e_ s_ m_ args_ below_ meth_ c_ X hr hlk hin htab
  have X : ZX p_ m_ c_ cJ9_hash 2 s_ args_ "java/util/HashMap" G := X
  refine z_lv (lv' := [(0, .ref y)]) (fun _ hq => hq) ?_
  refine z_aload_n X 0 dJ9_hash_0 zref.r rfl ?_
  refine z_ifnonnull X 8 dJ9_hash_1 (by decide) zref.r (fun a9 c8 => ?_) (fun c8 => ?_)
  rotate_left
  · cases c8
  refine z_aload_n X 0 dJ9_hash_8 zref.r rfl ?_
  obtain ⟨ty, fy, hty, ey⟩ := hb.rc
  refine z_callU X (rest := []) (y := yJ16_hashCode) (c_J16_hashCode hb) (va_cwA 0 (zXts X) (zlw_U q692 q694 q710 q711 q74 q712) rfl rfl rfl (zXnw X q691 rfl) (by decide +kernel) ⟨Nat.le_of_ble_eq_true rfl, Nat.le_of_ble_eq_true rfl⟩) ey (by omega) rfl rfl (Nat.le_of_ble_eq_true rfl) ⟨(by first | exact Nat.le_of_ble_eq_true rfl | (dsimp only [zRm]; omega)), (by first | exact Nat.le_of_ble_eq_true rfl | (dsimp only [zRm]; omega))⟩ dJ9_hash_9 (fun v10 h11 p12 => ?_)
  obtain ⟨rfl, rfl⟩ := p12
  refine z_st (st' := [.int x]) rfl ?_
  refine z_dup X dJ9_hash_12 rfl ?_
  refine z_istore_n X (lv' := [(1, .int x), (0, .ref y)]) dJ9_hash_13 (by decide) rfl ?_
  refine z_iload_n X 0 dJ9_hash_14 rfl ?_
  refine z_bipush X (nI 16) dJ9_hash_15 (by decide) ?_
  refine z_iushr X (v := (x.toUInt32 >>> ((nI 16).toUInt32 &&& Int32.toUInt32 31)).toInt32) dJ9_hash_17 rfl ?_
  refine z_ixor X (x ^^^ ((x.toUInt32 >>> ((nI 16).toUInt32 &&& Int32.toUInt32 31)).toInt32)) dJ9_hash_18 rfl ?_
  exact z_iret X hr hlk dJ9_hash_19 (by first | exact Nat.le_of_ble_eq_true rfl | (dsimp only [zRm]; omega) | omega) (by first | exact Nat.le_of_ble_eq_true rfl | (dsimp only [zRm]; omega) | omega) ⟨rfl, rfl⟩
set_option maxHeartbeats 2000000 in
theorem c_J9_size {l : Launch} {G : ZG} {h : ZH} {a t N : Nat} {C : Nat → List Nat} {m : Nat → Option (Nat × Value)} {mc : Int32} (hM : zHM G h t a N C m mc) (ht : 1 < t) : ZM l G yJ9_size (ws_ yJ9_size cJ9_size 1 (Option.some FieldType.int)) (zRm 0 0 0 0) [.ref a] h (fun v h' => v = some (.int (nI (zcnt m 64))) ∧ h = h') := by
  refine ZT.zm (ZT.of (by first | exact plainFor_of_name (by decide) | decide +kernel) (Nat.le_of_ble_eq_true rfl) (zcats.r zref.r zcats.nil) ?_)
  intro p_ e_ s_ m_ args_ below_ meth_ c_ X hr hlk hin htab
  have X : ZX p_ m_ c_ cJ9_size 1 s_ args_ "java/util/HashMap" G := X
  refine z_lv (lv' := [(0, .ref a)]) (fun _ hq => hq) ?_
  obtain ⟨vs, es, tab, thr, e1, e2, e3, e4, e5⟩ := hM
  refine z_aload_n X 0 dJ9_size_0 zref.r rfl ?_
  refine z_get X zP11 4 (by decide) q296 (Or.inl rfl) e1 (by omega) rfl dJ9_size_1 ?_
  exact z_iret X hr hlk dJ9_size_4 (by first | exact Nat.le_of_ble_eq_true rfl | (dsimp only [zRm]; omega) | omega) (by first | exact Nat.le_of_ble_eq_true rfl | (dsimp only [zRm]; omega) | omega) ⟨rfl, rfl⟩
set_option maxHeartbeats 2000000 in
theorem c_J9_getNode {l : Launch} {G : ZG} {h : ZH} {a t N y n : Nat} {C : Nat → List Nat} {m : Nat → Option (Nat × Value)} {mc : Int32} (hM : zHM G h t a N C m mc) (ht : 1 < t) (hb : zbx h y (nI n)) (hn : n < 2 ^ 32) : ZM l G yJ9_getNode (ws_ yJ9_getNode cJ9_getNode 8 (Option.some (FieldType.object "java/util/HashMap$Node"))) (zRm 3 0 0 120) [.ref a, .ref y] h (fun v h' => ((∃ q w, m n = some (q, w) ∧ v = some (.ref q)) ∨ (m n = none ∧ v = some .null)) ∧ h = h') := by
  refine ZT.zm (ZT.of (by first | exact plainFor_of_name (by decide) | decide +kernel) (Nat.le_of_ble_eq_true rfl) (zcats.r zref.r (zcats.r zref.r zcats.nil)) ?_)
  intro p_ e_ s_ m_ args_ below_ meth_ c_ X hr hlk hin htab
  have X : ZX p_ m_ c_ cJ9_getNode 8 s_ args_ "java/util/HashMap" G := X
  refine z_lv (lv' := [(0, .ref a), (1, .ref y)]) (fun _ hq => hq) ?_
  obtain ⟨vs, es, tab, thr, e1, e2, e3, e4, e5⟩ := hM
  obtain ⟨ty, fy, hty, ey⟩ := hb.rc
  refine z_sh (fun sh => ?_)
  rcases e4 with ⟨hN0, htab, -⟩ | ⟨T, g, hN, htab, -, e4, e6⟩
  · subst hN0; subst htab
    refine z_aload_n X 0 dJ9_getNode_0 zref.r rfl ?_
    refine z_get X zP11 2 (by decide) q293 (Or.inl rfl) e1 (by omega) rfl dJ9_getNode_1 ?_
    refine z_dup X dJ9_getNode_4 rfl ?_
    refine z_astore_n X (lv' := [(2, .null), (0, .ref a), (1, .ref y)]) dJ9_getNode_5 zref.nul (by decide) rfl ?_
    refine z_ifnull X 148 dJ9_getNode_6 (by decide) zref.nul (fun c13 => ?_) (fun a14 c13 => ?_)
    rotate_left
    · cases c13
    refine z_null X dJ9_getNode_148 ?_
    exact z_aret X hr (by first | exact Or.inl ⟨_, rfl⟩ | exact Or.inr ⟨_, rfl⟩) hlk zref.nul dJ9_getNode_149 (by first | exact Nat.le_of_ble_eq_true rfl | (dsimp only [zRm]; omega) | omega) (by first | exact Nat.le_of_ble_eq_true rfl | (dsimp only [zRm]; omega) | omega) ⟨Or.inr ⟨by cases hq : m n; rfl; exact absurd (e5.1 _ n (e5.2.2 n (by rw [hq]; rfl)).2).1 (Nat.not_lt_zero _), rfl⟩, rfl⟩
  · subst htab
    have hNb := hN.lt
    refine z_aload_n X 0 dJ9_getNode_0 zref.r rfl ?_
    refine z_get X zP11 2 (by decide) q293 (Or.inl rfl) e1 (by omega) rfl dJ9_getNode_1 ?_
    refine z_dup X dJ9_getNode_4 rfl ?_
    refine z_astore_n X (lv' := [(2, .ref T), (0, .ref a), (1, .ref y)]) dJ9_getNode_5 zref.r (by decide) rfl ?_
    refine z_ifnull X 148 dJ9_getNode_6 (by decide) zref.r (fun c15 => ?_) (fun a16 c15 => ?_)
    · cases c15
    refine z_aload_n X 0 dJ9_getNode_9 zref.r rfl ?_
    refine z_alen X e4 (ty := .object "java/util/HashMap$Node") rfl (by omega) dJ9_getNode_10 ?_
    refine z_dup X dJ9_getNode_11 rfl ?_
    refine z_istore X (lv' := [(5, .int (nI N)), (2, .ref T), (0, .ref a), (1, .ref y)]) dJ9_getNode_12 (by decide) rfl ?_
    refine z_if_leN X N 148 dJ9_getNode_14 (by decide) rfl (by omega) (fun c17 => ?_) (fun c17 => ?_)
    · omega
    refine z_aload_n X 1 dJ9_getNode_17 zref.r rfl ?_
    refine z_iload X 0 dJ9_getNode_18 rfl ?_
    refine z_iconst X (nI 1) dJ9_getNode_20 (by decide) ?_
    refine z_isub X (nI (N - 1)) dJ9_getNode_21 (pk_sub (by omega)) ?_
    refine z_aload_n X 3 dJ9_getNode_22 zref.r rfl ?_
    refine z_callS X (rest := [.int (nI (N - 1)), .ref T]) (c_J9_hash hb) (va_cwS 1 (zXts X) (lw_S q688 q689 q62 q690) rfl rfl rfl (by decide +kernel) ⟨Nat.le_of_ble_eq_true rfl, Nat.le_of_ble_eq_true rfl⟩) rfl (Nat.le_of_ble_eq_true rfl) ⟨(by first | exact Nat.le_of_ble_eq_true rfl | (dsimp only [zRm]; omega)), (by first | exact Nat.le_of_ble_eq_true rfl | (dsimp only [zRm]; omega))⟩ dJ9_getNode_23 (fun v18 h19 p20 => ?_)
    obtain ⟨rfl, rfl⟩ := p20
    refine z_st (st' := [.int (zhash (nI n)), .int (nI (N - 1)), .ref T]) rfl ?_
    refine z_dup X dJ9_getNode_26 rfl ?_
    refine z_istore X (lv' := [(6, .int (zhash (nI n))), (5, .int (nI N)), (2, .ref T), (0, .ref a), (1, .ref y)]) dJ9_getNode_27 (by decide) rfl ?_
    refine z_iand X ((nI (N - 1)) &&& (zhash (nI n))) dJ9_getNode_29 rfl ?_
    obtain ⟨j, hj, hjx⟩ := zix hN (zhash (nI n))
    have hjn : n < 64 → j = n % N := fun h64 => by rw [zhash_n h64, zix_k hN n h64] at hjx; exact (nI_inj32 (by have := Nat.mod_lt n (show 0 < N by omega); omega) (by omega) hjx).symm
    have hin : (m n).isSome = true → n ∈ C j := fun hs => by have h1 := e5.2.2 n hs; rw [hjn h1.1]; exact h1.2
    have hno : n ∉ C j → m n = none := fun h9 => by cases hq : m n; rfl; exact absurd (hin (by rw [hq]; rfl)) h9
    have hch := e6 j hj
    refine z_st (st' := [.int (nI j), .ref T]) (by rw [hjx]) ?_
    refine z_aald X (v := g j) j e4 (ty := .object "java/util/HashMap$Node") rfl rfl (by omega) rfl (by omega) (by first | decide | omega) rfl dJ9_getNode_30 ?_
    refine z_dup X dJ9_getNode_31 (((hch.zref zref.nul)).cat) ?_
    refine z_astore_n X (lv' := [(3, g j), (6, .int (zhash (nI n))), (5, .int (nI N)), (2, .ref T), (0, .ref a), (1, .ref y)]) dJ9_getNode_32 (hch.zref zref.nul) (by decide) rfl ?_
    refine z_ifnull X 148 dJ9_getNode_33 (by decide) (hch.zref zref.nul) (fun c21 => ?_) (fun a22 c21 => ?_)
    · have hnil : C j = [] := by rw [c21] at hch; exact hch.null
      refine z_null X dJ9_getNode_148 ?_
      exact z_aret X hr (by first | exact Or.inl ⟨_, rfl⟩ | exact Or.inr ⟨_, rfl⟩) hlk zref.nul dJ9_getNode_149 (by first | exact Nat.le_of_ble_eq_true rfl | (dsimp only [zRm]; omega) | omega) (by first | exact Nat.le_of_ble_eq_true rfl | (dsimp only [zRm]; omega) | omega) ⟨Or.inr ⟨hno (by rw [hnil]; simp), rfl⟩, rfl⟩
    · rw [c21] at hch
      obtain ⟨k, L, hL, w0, nx, g1, g2, g3, g4⟩ := hch.ref
      have hk : k < 64 := (e5.1 j k (by rw [hL]; simp)).2.1
      refine z_lv (lv' := [(3, .ref a22), (6, .int (zhash (nI n))), (5, .int (nI N)), (2, .ref T), (0, .ref a), (1, .ref y)]) (by intro x9 h9; rw [c21]; exact h9) ?_
      have rest : n ≠ k → Zw p_ l e_ (zRm 3 0 0 120) s_ m_ args_ below_ meth_ c_ G 8 (zEnd G (zRm 3 0 0 120) (fun v h' => ((∃ q w, m n = some (q, w) ∧ v = some (.ref q)) ∨ (m n = none ∧ v = some .null)) ∧ h = h') (fun _ _ _ => False) below_ args_ s_) 71 [(3, .ref a22), (6, .int (zhash (nI n))), (0, .ref a), (1, .ref y)] [] h (0 + 0) (0 + 0) := by
        intro hne
        have hin2 : (m n).isSome = true → n ∈ L := fun hs => by have h1 := hin hs; rw [hL] at h1; exact (List.mem_cons.mp h1).resolve_left hne
        refine z_aload_n X 0 dJ9_getNode_71 zref.r rfl ?_
        refine z_get X zP13 3 (by decide) q832 (Or.inl rfl) g3 (by omega) rfl dJ9_getNode_72 ?_
        refine z_dup X dJ9_getNode_75 (((g4.zref zref.nul)).cat) ?_
        refine z_astore X (lv' := [(4, nx), (3, .ref a22), (6, .int (zhash (nI n))), (0, .ref a), (1, .ref y)]) dJ9_getNode_76 (g4.zref zref.nul) (by decide) rfl ?_
        refine z_ifnull X 148 dJ9_getNode_78 (by decide) (g4.zref zref.nul) (fun c23 => ?_) (fun a24 c23 => ?_)
        · have hnil : L = [] := by rw [c23] at g4; exact g4.null
          refine z_null X dJ9_getNode_148 ?_
          exact z_aret X hr (by first | exact Or.inl ⟨_, rfl⟩ | exact Or.inr ⟨_, rfl⟩) hlk zref.nul dJ9_getNode_149 (by first | exact Nat.le_of_ble_eq_true rfl | (dsimp only [zRm]; omega) | omega) (by first | exact Nat.le_of_ble_eq_true rfl | (dsimp only [zRm]; omega) | omega) ⟨Or.inr ⟨by cases hq : m n; rfl; exact absurd (hin2 (by rw [hq]; rfl)) (by rw [hnil]; simp), rfl⟩, rfl⟩
        · refine z_aload_n X 1 dJ9_getNode_81 zref.r rfl ?_
          refine z_instNo X g3 (by omega) rfl q718 X.2.1.2.2.2.2.2.2.2.2.2.2.1 dJ9_getNode_82 ?_
          refine z_if_eq X 99 dJ9_getNode_85 (by decide) (fun c25 => ?_) (fun c25 => ?_)
          rotate_left
          · exact absurd rfl c25
          rw [c23] at g4
          refine z_lv (lv' := [(4, .ref a24), (3, .ref a22), (6, .int (zhash (nI n))), (0, .ref a), (1, .ref y)]) (by intro x9 h9; rw [c23]; exact h9) ?_
          have hlt : ∀ k ∈ L, k < 64 := fun k9 h9 => (e5.1 j k9 (by rw [hL]; simp [h9])).2.1
          clear g3 hL hne hk g1 g2 hch
          refine z_lvp (lv' := [(1, .ref y), (4, .ref a24), (6, .int (zhash (nI n)))]) [4, 0, 2] rfl ?_
          refine z_loop (σ := List Nat × Nat) (fun x => zct G h t m x.1 (.ref x.2) .null ∧ (∀ k ∈ x.1, k < 64) ∧ ((m n).isSome = true → n ∈ x.1)) (fun x => x.1.length) (fun x => [(1, .ref y), (4, .ref x.2), (6, .int (zhash (nI n)))]) (fun x => []) (fun x => h) (fun x => 0 + 0) (fun x => 0 + 0) ?_ (L, a24) (⟨g4, hlt, hin2⟩)
          intro ⟨L, q⟩ hI ih
          try dsimp only at hI
          try dsimp only at ih
          try dsimp only
          obtain ⟨i1, i2, i3⟩ := hI
          obtain ⟨k, L2, hL, w0, nx, g1, g2, g3, g4⟩ := i1.ref
          have hk : k < 64 := i2 k (by rw [hL]; simp)
          refine z_aload X 1 dJ9_getNode_99 zref.r rfl ?_
          refine z_get X zP13 0 (by decide) q819 (Or.inl rfl) g3 (by omega) rfl dJ9_getNode_101 ?_
          refine z_iload X 2 dJ9_getNode_104 rfl ?_
          refine z_icmp_ne X 137 dJ9_getNode_106 (by decide) (fun c26 => ?_) (fun c26 => ?_)
          · have hne : n ≠ k := fun z => c26 (by rw [z, zhash_n hk])
            refine z_aload X 1 dJ9_getNode_137 zref.r rfl ?_
            refine z_get X zP13 3 (by decide) q832 (Or.inl rfl) g3 (by omega) rfl dJ9_getNode_139 ?_
            refine z_dup X dJ9_getNode_142 (((g4.zref zref.nul)).cat) ?_
            refine z_astore X (lv' := [(4, nx), (1, .ref y), (6, .int (zhash (nI n)))]) dJ9_getNode_143 (g4.zref zref.nul) (by decide) rfl ?_
            refine z_ifnonnull X 99 dJ9_getNode_145 (by decide) (g4.zref zref.nul) (fun a28 c27 => ?_) (fun c27 => ?_)
            · rw [c27] at g4
              refine z_lv (lv' := [(4, .ref a28), (1, .ref y), (6, .int (zhash (nI n)))]) (by intro x9 h9; rw [c27]; exact h9) ?_
              refine z_lvp (lv' := [(1, .ref y), (4, .ref a28), (6, .int (zhash (nI n)))]) [1, 0, 2] rfl ?_
              exact ih (L2, a28) ⟨g4, fun k9 h9 => i2 k9 (by rw [hL]; simp [h9]), fun hs => by have h1 := i3 hs; rw [hL] at h1; exact (List.mem_cons.mp h1).resolve_left hne⟩ (by rw [hL]; simp)
            · have hnil : L2 = [] := by rw [c27] at g4; exact g4.null
              refine z_null X dJ9_getNode_148 ?_
              exact z_aret X hr (by first | exact Or.inl ⟨_, rfl⟩ | exact Or.inr ⟨_, rfl⟩) hlk zref.nul dJ9_getNode_149 (by first | exact Nat.le_of_ble_eq_true rfl | (dsimp only [zRm]; omega) | omega) (by first | exact Nat.le_of_ble_eq_true rfl | (dsimp only [zRm]; omega) | omega) ⟨Or.inr ⟨by cases hq : m n; rfl; exact absurd (i3 (by rw [hq]; rfl)) (by rw [hL, hnil]; simp [hne]), rfl⟩, rfl⟩
          · refine z_aload X 1 dJ9_getNode_109 zref.r rfl ?_
            refine z_get X zP13 1 (by decide) q823 (Or.inl rfl) g3 (by omega) rfl dJ9_getNode_111 ?_
            refine z_dup X dJ9_getNode_114 rfl ?_
            refine z_astore X (lv' := [(7, .ref (zS G (228 + k))), (1, .ref y), (4, .ref q), (6, .int (zhash (nI n)))]) dJ9_getNode_115 zref.r (by decide) rfl ?_
            refine z_aload_n X 1 dJ9_getNode_117 zref.r rfl ?_
            refine z_acmp_eq X 134 dJ9_getNode_118 (by decide) zref.r zref.r (fun c29 => ?_) (fun c29 => ?_)
            · have heq : n = k := by have z := zbx.c sh (k := k) (by omega); rw [Value.ref.inj c29] at z; exact nI_inj32 hn (by omega) (hb.inj z)
              refine z_aload X 2 dJ9_getNode_134 zref.r rfl ?_
              exact z_aret X hr (by first | exact Or.inl ⟨_, rfl⟩ | exact Or.inr ⟨_, rfl⟩) hlk zref.r dJ9_getNode_136 (by first | exact Nat.le_of_ble_eq_true rfl | (dsimp only [zRm]; omega) | omega) (by first | exact Nat.le_of_ble_eq_true rfl | (dsimp only [zRm]; omega) | omega) ⟨Or.inl ⟨q, w0, by rw [heq]; exact g1, rfl⟩, rfl⟩
            · refine z_aload_n X 1 dJ9_getNode_121 zref.r rfl ?_
              refine z_ifnull X 137 dJ9_getNode_122 (by decide) zref.r (fun c30 => ?_) (fun a31 c30 => ?_)
              · cases c30
              refine z_aload_n X 1 dJ9_getNode_125 zref.r rfl ?_
              refine z_aload X 0 dJ9_getNode_126 zref.r rfl ?_
              refine z_callU X (rest := []) (y := yJ16_equals) (c_J16_equals hb (zbx.c sh (k := k) (by omega))) (va_cwA 1 (zXts X) (zlw_U q717 q625 q638 q639 q74 q640) rfl rfl rfl (zXnw X q622 rfl) (by decide +kernel) ⟨Nat.le_of_ble_eq_true rfl, Nat.le_of_ble_eq_true rfl⟩) ey (by omega) rfl rfl (Nat.le_of_ble_eq_true rfl) ⟨(by first | exact Nat.le_of_ble_eq_true rfl | (dsimp only [zRm]; omega)), (by first | exact Nat.le_of_ble_eq_true rfl | (dsimp only [zRm]; omega))⟩ dJ9_getNode_128 (fun v32 h33 p34 => ?_)
              obtain ⟨rfl, rfl⟩ := p34
              refine z_st (st' := [.int (if nI n = nI k then 1 else 0)]) rfl ?_
              refine z_if_eq X 137 dJ9_getNode_131 (by decide) (fun c35 => ?_) (fun c35 => ?_)
              · have hne : n ≠ k := fun z => by rw [z, if_pos rfl] at c35; exact absurd c35 (by decide)
                refine z_aload X 2 dJ9_getNode_137 zref.r rfl ?_
                refine z_get X zP13 3 (by decide) q832 (Or.inl rfl) g3 (by omega) rfl dJ9_getNode_139 ?_
                refine z_dup X dJ9_getNode_142 (((g4.zref zref.nul)).cat) ?_
                refine z_astore X (lv' := [(4, nx), (7, .ref (zS G (228 + k))), (1, .ref y), (6, .int (zhash (nI n)))]) dJ9_getNode_143 (g4.zref zref.nul) (by decide) rfl ?_
                refine z_ifnonnull X 99 dJ9_getNode_145 (by decide) (g4.zref zref.nul) (fun a37 c36 => ?_) (fun c36 => ?_)
                · rw [c36] at g4
                  refine z_lv (lv' := [(4, .ref a37), (7, .ref (zS G (228 + k))), (1, .ref y), (6, .int (zhash (nI n)))]) (by intro x9 h9; rw [c36]; exact h9) ?_
                  refine z_lvp (lv' := [(1, .ref y), (4, .ref a37), (6, .int (zhash (nI n)))]) [2, 0, 3] rfl ?_
                  exact ih (L2, a37) ⟨g4, fun k9 h9 => i2 k9 (by rw [hL]; simp [h9]), fun hs => by have h1 := i3 hs; rw [hL] at h1; exact (List.mem_cons.mp h1).resolve_left hne⟩ (by rw [hL]; simp)
                · have hnil : L2 = [] := by rw [c36] at g4; exact g4.null
                  refine z_null X dJ9_getNode_148 ?_
                  exact z_aret X hr (by first | exact Or.inl ⟨_, rfl⟩ | exact Or.inr ⟨_, rfl⟩) hlk zref.nul dJ9_getNode_149 (by first | exact Nat.le_of_ble_eq_true rfl | (dsimp only [zRm]; omega) | omega) (by first | exact Nat.le_of_ble_eq_true rfl | (dsimp only [zRm]; omega) | omega) ⟨Or.inr ⟨by cases hq : m n; rfl; exact absurd (i3 (by rw [hq]; rfl)) (by rw [hL, hnil]; simp [hne]), rfl⟩, rfl⟩
              · have heq : n = k := Classical.byContradiction fun z => c35 (if_neg (fun z2 => z (nI_inj32 hn (by omega) z2)))
                refine z_aload X 2 dJ9_getNode_134 zref.r rfl ?_
                exact z_aret X hr (by first | exact Or.inl ⟨_, rfl⟩ | exact Or.inr ⟨_, rfl⟩) hlk zref.r dJ9_getNode_136 (by first | exact Nat.le_of_ble_eq_true rfl | (dsimp only [zRm]; omega) | omega) (by first | exact Nat.le_of_ble_eq_true rfl | (dsimp only [zRm]; omega) | omega) ⟨Or.inl ⟨q, w0, by rw [heq]; exact g1, rfl⟩, rfl⟩
      refine z_aload_n X 0 dJ9_getNode_36 zref.r rfl ?_
      refine z_get X zP13 0 (by decide) q819 (Or.inl rfl) g3 (by omega) rfl dJ9_getNode_37 ?_
      refine z_iload X 1 dJ9_getNode_40 rfl ?_
      refine z_icmp_ne X 71 dJ9_getNode_42 (by decide) (fun c38 => ?_) (fun c38 => ?_)
      · have hne : n ≠ k := fun z => c38 (by rw [z, zhash_n hk])
        refine z_lvp (lv' := [(3, .ref a22), (6, .int (zhash (nI n))), (0, .ref a), (1, .ref y)]) [0, 1, 4, 5] rfl ?_
        exact rest hne
      · refine z_aload_n X 0 dJ9_getNode_45 zref.r rfl ?_
        refine z_get X zP13 1 (by decide) q823 (Or.inl rfl) g3 (by omega) rfl dJ9_getNode_46 ?_
        refine z_dup X dJ9_getNode_49 rfl ?_
        refine z_astore X (lv' := [(7, .ref (zS G (228 + k))), (3, .ref a22), (6, .int (zhash (nI n))), (5, .int (nI N)), (2, .ref T), (0, .ref a), (1, .ref y)]) dJ9_getNode_50 zref.r (by decide) rfl ?_
        refine z_aload_n X 6 dJ9_getNode_52 zref.r rfl ?_
        refine z_acmp_eq X 69 dJ9_getNode_53 (by decide) zref.r zref.r (fun c39 => ?_) (fun c39 => ?_)
        · have heq : n = k := by have z := zbx.c sh (k := k) (by omega); rw [Value.ref.inj c39] at z; exact nI_inj32 hn (by omega) (hb.inj z)
          refine z_aload_n X 1 dJ9_getNode_69 zref.r rfl ?_
          exact z_aret X hr (by first | exact Or.inl ⟨_, rfl⟩ | exact Or.inr ⟨_, rfl⟩) hlk zref.r dJ9_getNode_70 (by first | exact Nat.le_of_ble_eq_true rfl | (dsimp only [zRm]; omega) | omega) (by first | exact Nat.le_of_ble_eq_true rfl | (dsimp only [zRm]; omega) | omega) ⟨Or.inl ⟨a22, w0, by rw [heq]; exact g1, rfl⟩, rfl⟩
        · refine z_aload_n X 6 dJ9_getNode_56 zref.r rfl ?_
          refine z_ifnull X 71 dJ9_getNode_57 (by decide) zref.r (fun c40 => ?_) (fun a41 c40 => ?_)
          · cases c40
          refine z_aload_n X 6 dJ9_getNode_60 zref.r rfl ?_
          refine z_aload X 0 dJ9_getNode_61 zref.r rfl ?_
          refine z_callU X (rest := []) (y := yJ16_equals) (c_J16_equals hb (zbx.c sh (k := k) (by omega))) (va_cwA 1 (zXts X) (zlw_U q717 q625 q638 q639 q74 q640) rfl rfl rfl (zXnw X q622 rfl) (by decide +kernel) ⟨Nat.le_of_ble_eq_true rfl, Nat.le_of_ble_eq_true rfl⟩) ey (by omega) rfl rfl (Nat.le_of_ble_eq_true rfl) ⟨(by first | exact Nat.le_of_ble_eq_true rfl | (dsimp only [zRm]; omega)), (by first | exact Nat.le_of_ble_eq_true rfl | (dsimp only [zRm]; omega))⟩ dJ9_getNode_63 (fun v42 h43 p44 => ?_)
          obtain ⟨rfl, rfl⟩ := p44
          refine z_st (st' := [.int (if nI n = nI k then 1 else 0)]) rfl ?_
          refine z_if_eq X 71 dJ9_getNode_66 (by decide) (fun c45 => ?_) (fun c45 => ?_)
          · have hne : n ≠ k := fun z => by rw [z, if_pos rfl] at c45; exact absurd c45 (by decide)
            refine z_lvp (lv' := [(3, .ref a22), (6, .int (zhash (nI n))), (0, .ref a), (1, .ref y)]) [1, 2, 5, 6] rfl ?_
            exact rest hne
          · have heq : n = k := Classical.byContradiction fun z => c45 (if_neg (fun z2 => z (nI_inj32 hn (by omega) z2)))
            refine z_aload_n X 1 dJ9_getNode_69 zref.r rfl ?_
            exact z_aret X hr (by first | exact Or.inl ⟨_, rfl⟩ | exact Or.inr ⟨_, rfl⟩) hlk zref.r dJ9_getNode_70 (by first | exact Nat.le_of_ble_eq_true rfl | (dsimp only [zRm]; omega) | omega) (by first | exact Nat.le_of_ble_eq_true rfl | (dsimp only [zRm]; omega) | omega) ⟨Or.inl ⟨a22, w0, by rw [heq]; exact g1, rfl⟩, rfl⟩
set_option maxHeartbeats 2000000 in
theorem c_J9_get {l : Launch} {G : ZG} {h : ZH} {a t N y n : Nat} {C : Nat → List Nat} {m : Nat → Option (Nat × Value)} {mc : Int32} (hM : zHM G h t a N C m mc) (ht : 1 < t) (hb : zbx h y (nI n)) (hn : n < 2 ^ 32) : ZM l G yJ9_get (ws_ yJ9_get cJ9_get 3 (Option.some (FieldType.object "java/lang/Object"))) (zRm 4 0 0 150) [.ref a, .ref y] h (fun v h' => ((∃ q w, m n = some (q, w) ∧ v = some w) ∨ (m n = none ∧ v = some .null)) ∧ h = h') := by
  refine ZT.zm (ZT.of (by first | exact plainFor_of_name (by decide) | decide +kernel) (Nat.le_of_ble_eq_true rfl) (zcats.r zref.r (zcats.r zref.r zcats.nil)) ?_)
  intro p_ e_ s_ m_ args_ below_ meth_ c_ X hr hlk hin htab
  have X : ZX p_ m_ c_ cJ9_get 3 s_ args_ "java/util/HashMap" G := X
  refine z_lv (lv' := [(0, .ref a), (1, .ref y)]) (fun _ hq => hq) ?_
  refine z_aload_n X 0 dJ9_get_0 zref.r rfl ?_
  refine z_aload_n X 1 dJ9_get_1 zref.r rfl ?_
  obtain ⟨_, r46⟩ := zHM.rc hM
  refine z_callV X (rest := []) (c_J9_getNode hM ht hb hn) (cwV 1 (zXts X) (lw_V q684 q685 q686 q62 q687) rfl rfl rfl (by decide +kernel) ⟨Nat.le_of_ble_eq_true rfl, Nat.le_of_ble_eq_true rfl⟩) r46 (by omega) rfl rfl (Nat.le_of_ble_eq_true rfl) ⟨(by first | exact Nat.le_of_ble_eq_true rfl | (dsimp only [zRm]; omega)), (by first | exact Nat.le_of_ble_eq_true rfl | (dsimp only [zRm]; omega))⟩ dJ9_get_2 (fun v47 h48 p49 => ?_)
  obtain ⟨⟨q, w0, hm, rfl⟩ | ⟨hm, rfl⟩, rfl⟩ := p49
  · refine z_st (st' := [.ref q]) rfl ?_
    obtain ⟨vs, es, tab, thr, e1, e2, e3, e4, e5⟩ := hM
    obtain ⟨hk, hin⟩ := e5.2.2 n (by rw [hm]; rfl)
    have hnode : ∃ nx, zref nx ∧ zref w0 ∧ h q = znd G t n w0 nx := by
      rcases e4 with ⟨hN0, -⟩ | ⟨T, g, hN, -, -, -, e6⟩
      · subst hN0; exact absurd (e5.1 _ n hin).1 (Nat.not_lt_zero _)
      · have hc := e6 (n % N) (e5.1 _ n hin).1
        obtain ⟨L1, L2, hL⟩ := List.append_of_mem hin
        rw [hL] at hc
        obtain ⟨x, -, q9, w9, nx, g1, g2, g3, g4, g5⟩ := (zct.app L1 (n :: L2) _ _).mp hc
        cases hm.symm.trans g2
        exact ⟨nx, g5.zref zref.nul, g3, g4⟩
    obtain ⟨nx, hnx, hw0, g3⟩ := hnode
    refine z_dup X dJ9_get_5 rfl ?_
    refine z_astore_n X (lv' := [(2, .ref q), (0, .ref a), (1, .ref y)]) dJ9_get_6 zref.r (by decide) rfl ?_
    refine z_ifnonnull X 14 dJ9_get_7 (by decide) zref.r (fun a51 c50 => ?_) (fun c50 => ?_)
    rotate_left
    · cases c50
    refine z_aload_n X 0 dJ9_get_14 zref.r rfl ?_
    refine z_get X zP13 2 (by decide) q826 (Or.inl rfl) g3 (by omega) rfl dJ9_get_15 ?_
    exact z_aret X hr (by first | exact Or.inl ⟨_, rfl⟩ | exact Or.inr ⟨_, rfl⟩) hlk hw0 dJ9_get_18 (by first | exact Nat.le_of_ble_eq_true rfl | (dsimp only [zRm]; omega) | omega) (by first | exact Nat.le_of_ble_eq_true rfl | (dsimp only [zRm]; omega) | omega) ⟨Or.inl ⟨q, w0, hm, rfl⟩, rfl⟩
  · refine z_st (st' := [.null]) rfl ?_
    refine z_dup X dJ9_get_5 rfl ?_
    refine z_astore_n X (lv' := [(2, .null), (0, .ref a), (1, .ref y)]) dJ9_get_6 zref.nul (by decide) rfl ?_
    refine z_ifnonnull X 14 dJ9_get_7 (by decide) zref.nul (fun a53 c52 => ?_) (fun c52 => ?_)
    · cases c52
    refine z_null X dJ9_get_10 ?_
    refine z_goto X 18 dJ9_get_11 (by decide) ?_
    exact z_aret X hr (by first | exact Or.inl ⟨_, rfl⟩ | exact Or.inr ⟨_, rfl⟩) hlk zref.nul dJ9_get_18 (by first | exact Nat.le_of_ble_eq_true rfl | (dsimp only [zRm]; omega) | omega) (by first | exact Nat.le_of_ble_eq_true rfl | (dsimp only [zRm]; omega) | omega) ⟨Or.inr ⟨hm, rfl⟩, rfl⟩
set_option maxHeartbeats 2000000 in
theorem c_J9_containsKey {l : Launch} {G : ZG} {h : ZH} {a t N y n : Nat} {C : Nat → List Nat} {m : Nat → Option (Nat × Value)} {mc : Int32} (hM : zHM G h t a N C m mc) (ht : 1 < t) (hb : zbx h y (nI n)) (hn : n < 2 ^ 32) : ZM l G yJ9_containsKey (ws_ yJ9_containsKey cJ9_containsKey 2 (Option.some FieldType.boolean)) (zRm 4 0 0 150) [.ref a, .ref y] h (fun v h' => v = some (.int (if (m n).isSome = true then 1 else 0)) ∧ h = h') := by
  refine ZT.zm (ZT.of (by first | exact plainFor_of_name (by decide) | decide +kernel) (Nat.le_of_ble_eq_true rfl) (zcats.r zref.r (zcats.r zref.r zcats.nil)) ?_)
  intro p_ e_ s_ m_ args_ below_ meth_ c_ X hr hlk hin htab
  have X : ZX p_ m_ c_ cJ9_containsKey 2 s_ args_ "java/util/HashMap" G := X
  refine z_lv (lv' := [(0, .ref a), (1, .ref y)]) (fun _ hq => hq) ?_
  refine z_aload_n X 0 dJ9_containsKey_0 zref.r rfl ?_
  refine z_aload_n X 1 dJ9_containsKey_1 zref.r rfl ?_
  obtain ⟨_, r54⟩ := zHM.rc hM
  refine z_callV X (rest := []) (c_J9_getNode hM ht hb hn) (cwV 1 (zXts X) (lw_V q684 q685 q686 q62 q687) rfl rfl rfl (by decide +kernel) ⟨Nat.le_of_ble_eq_true rfl, Nat.le_of_ble_eq_true rfl⟩) r54 (by omega) rfl rfl (Nat.le_of_ble_eq_true rfl) ⟨(by first | exact Nat.le_of_ble_eq_true rfl | (dsimp only [zRm]; omega)), (by first | exact Nat.le_of_ble_eq_true rfl | (dsimp only [zRm]; omega))⟩ dJ9_containsKey_2 (fun v55 h56 p57 => ?_)
  obtain ⟨⟨q, w0, hm, rfl⟩ | ⟨hm, rfl⟩, rfl⟩ := p57
  · refine z_st (st' := [.ref q]) rfl ?_
    refine z_ifnull X 12 dJ9_containsKey_5 (by decide) zref.r (fun c58 => ?_) (fun a59 c58 => ?_)
    · cases c58
    refine z_iconst X (nI 1) dJ9_containsKey_8 (by decide) ?_
    refine z_goto X 13 dJ9_containsKey_9 (by decide) ?_
    exact z_zret X hr hlk (zfits.b1) dJ9_containsKey_13 (by first | exact Nat.le_of_ble_eq_true rfl | (dsimp only [zRm]; omega) | omega) (by first | exact Nat.le_of_ble_eq_true rfl | (dsimp only [zRm]; omega) | omega) ⟨by rw [hm]; rfl, rfl⟩
  · refine z_st (st' := [.null]) rfl ?_
    refine z_ifnull X 12 dJ9_containsKey_5 (by decide) zref.nul (fun c60 => ?_) (fun a61 c60 => ?_)
    rotate_left
    · cases c60
    refine z_iconst X (nI 0) dJ9_containsKey_12 (by decide) ?_
    exact z_zret X hr hlk (zfits.b0) dJ9_containsKey_13 (by first | exact Nat.le_of_ble_eq_true rfl | (dsimp only [zRm]; omega) | omega) (by first | exact Nat.le_of_ble_eq_true rfl | (dsimp only [zRm]; omega) | omega) ⟨by rw [hm]; rfl, rfl⟩
