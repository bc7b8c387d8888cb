set_option maxRecDepth 100000
set_option maxHeartbeats 2000000 in
theorem c_J9_resize_0 {l : Launch} {G : ZG} {h : ZH} {a t : Nat} {vs es : Value} {sz mc : Int32} (ha : h a = (t, .inr (11, [.null, vs, .null, es, .int sz, .int mc, .int (nI 0), .float 1061158912]))) (ht : 1 < t) (hvs : zref vs) (hes : zref es) : ZM l G yJ9_resize (ws_ yJ9_resize cJ9_resize 14 (Option.some (FieldType.array (FieldType.object "java/util/HashMap$Node")))) (zRm 0 1 16 0) [.ref a] h (fun v h' => ∃ T : Nat, v = some (.ref T) ∧ h' a = (t, .inr (11, [.null, vs, .ref T, es, .int sz, .int mc, .int (nI 12), .float 1061158912])) ∧ h' T = (t, .inl (6, 16, fun _ => .null)) ∧ (h T).1 = 0 ∧ ∀ b, b ≠ a → b ≠ T → h' b = h b) := by
  refine ZT.zm (ZT.of (by first | exact plainFor_of_name (by decide) | decide +kernel) (Nat.le_of_ble_eq_true rfl) (zcats.r zref.r zcats.nil) ?_)
  intro p_ e_ s_ m_ args_ below_ meth_ c_ X hr hlk hin htab
  have X : ZX p_ m_ c_ cJ9_resize 14 s_ args_ "java/util/HashMap" G := X
  refine z_lv (lv' := [(0, .ref a)]) (fun _ hq => hq) ?_
  refine z_aload_n X 0 dJ9_resize_0 zref.r rfl ?_
  refine z_get X zP11 2 (by decide) q293 (Or.inl rfl) ha (by omega) rfl dJ9_resize_1 ?_
  refine z_astore_n X (lv' := [(1, .null), (0, .ref a)]) dJ9_resize_4 zref.nul (by decide) rfl ?_
  refine z_aload_n X 0 dJ9_resize_5 zref.nul rfl ?_
  refine z_ifnonnull X 13 dJ9_resize_6 (by decide) zref.nul (fun a2 c1 => ?_) (fun c1 => ?_)
  · cases c1
  refine z_iconst X (nI 0) dJ9_resize_9 (by decide) ?_
  refine z_goto X 15 dJ9_resize_10 (by decide) ?_
  refine z_istore_n X (lv' := [(2, .int (nI 0)), (1, .null), (0, .ref a)]) dJ9_resize_15 (by decide) rfl ?_
  refine z_aload_n X 2 dJ9_resize_16 zref.r rfl ?_
  refine z_get X zP11 6 (by decide) q299 (Or.inl rfl) ha (by omega) rfl dJ9_resize_17 ?_
  refine z_istore_n X (lv' := [(3, .int (nI 0)), (2, .int (nI 0)), (1, .null), (0, .ref a)]) dJ9_resize_20 (by decide) rfl ?_
  refine z_iconst X (nI 0) dJ9_resize_21 (by decide) ?_
  refine z_istore X (lv' := [(5, .int (nI 0)), (3, .int (nI 0)), (2, .int (nI 0)), (1, .null), (0, .ref a)]) dJ9_resize_22 (by decide) rfl ?_
  refine z_iload_n X 2 dJ9_resize_24 rfl ?_
  refine z_if_leN X 0 67 dJ9_resize_25 (by decide) rfl (by omega) (fun c3 => ?_) (fun c3 => ?_)
  rotate_left
  · omega
  refine z_iload_n X 1 dJ9_resize_67 rfl ?_
  refine z_if_leN X 0 77 dJ9_resize_68 (by decide) rfl (by omega) (fun c4 => ?_) (fun c4 => ?_)
  rotate_left
  · omega
  refine z_bipush X (nI 16) dJ9_resize_77 (by decide) ?_
  refine z_istore X (lv' := [(4, .int (nI 16)), (5, .int (nI 0)), (3, .int (nI 0)), (2, .int (nI 0)), (1, .null), (0, .ref a)]) dJ9_resize_79 (by decide) rfl ?_
  refine z_bipush X (nI 12) dJ9_resize_81 (by decide) ?_
  refine z_istore X (lv' := [(5, .int (nI 12)), (4, .int (nI 16)), (3, .int (nI 0)), (2, .int (nI 0)), (1, .null), (0, .ref a)]) dJ9_resize_83 (by decide) rfl ?_
  refine z_iload X 0 dJ9_resize_85 rfl ?_
  refine z_if_neN X 12 125 dJ9_resize_87 (by decide) rfl (by omega) (fun c5 => ?_) (fun c5 => ?_)
  rotate_left
  · omega
  refine z_aload_n X 5 dJ9_resize_125 zref.r rfl ?_
  refine z_iload X 0 dJ9_resize_126 rfl ?_
  refine z_put X zP11 6 (by decide) q299 (Or.inl rfl) rfl ha (by omega) (by omega) (zfits.i _) (Nat.le_of_ble_eq_true rfl) rfl dJ9_resize_128 ?_
  refine z_nm fun h6 e7 => ?_
  have f8 : h6 a = (t, .inr (11, [.null, vs, .null, es, .int sz, .int mc, .int (nI 12), .float 1061158912])) := zup_is e7
  refine z_iload X 1 dJ9_resize_131 rfl ?_
  refine z_anew X 6 rfl (by decide) t (by omega) (f := (fun _ => .null)) (fun _ => rfl) (by decide) q796 16 rfl (by first | decide | omega) (by first | exact Nat.le_of_ble_eq_true rfl | (dsimp only [zRm]; omega)) (by first | exact Nat.le_of_ble_eq_true rfl | (dsimp only [zRm]; omega)) dJ9_resize_133 fun T n9 => ?_
  refine z_nm fun h10 e11 => ?_
  have f12 : h10 a = (t, .inr (11, [.null, vs, .null, es, .int sz, .int mc, .int (nI 12), .float 1061158912])) := zup_o0 e11 n9 f8 (by omega)
  have f13 : h10 T = (t, .inl (6, 16, (fun _ => .null))) := zup_is e11
  refine z_astore X (lv' := [(6, .ref T), (5, .int (nI 12)), (4, .int (nI 16)), (3, .int (nI 0)), (2, .int (nI 0)), (1, .null), (0, .ref a)]) dJ9_resize_136 zref.r (by decide) rfl ?_
  refine z_aload_n X 6 dJ9_resize_138 zref.r rfl ?_
  refine z_aload X 0 dJ9_resize_139 zref.r rfl ?_
  have hTa : T ≠ a := by intro z; rw [z, f8] at n9; simp at n9; omega
  refine z_put X zP11 2 (by decide) q293 (Or.inl rfl) rfl f12 (by omega) (by omega) (zfits.a zref.r) (Nat.le_of_ble_eq_true rfl) rfl dJ9_resize_141 ?_
  refine z_nm fun h14 e15 => ?_
  have f16 : h14 T = (t, .inl (6, 16, (fun _ => .null))) := zup_oa e15 f13 hTa
  have f17 : h14 a = (t, .inr (11, [.null, vs, .ref T, es, .int sz, .int mc, .int (nI 12), .float 1061158912])) := zup_is e15
  refine z_aload_n X 5 dJ9_resize_144 zref.nul rfl ?_
  refine z_ifnull X 353 dJ9_resize_145 (by decide) zref.nul (fun c18 => ?_) (fun a19 c18 => ?_)
  rotate_left
  · cases c18
  refine z_aload X 0 dJ9_resize_353 zref.r rfl ?_
  have hT0 : (h T).1 = 0 := by have z := n9; rw [e7, zup_n hTa] at z; exact z
  exact z_aret X hr (by first | exact Or.inl ⟨_, rfl⟩ | exact Or.inr ⟨_, rfl⟩) hlk zref.r dJ9_resize_355 (by first | exact Nat.le_of_ble_eq_true rfl | (dsimp only [zRm]; omega) | omega) (by first | exact Nat.le_of_ble_eq_true rfl | (dsimp only [zRm]; omega) | omega) ⟨T, rfl, f17, f16, hT0, fun b h1 h2 => by rw [e15, zup_n h1, e11, zup_n h2, e7, zup_n h1]⟩
set_option maxHeartbeats 8000000 in
theorem c_J9_resize_2 {l : Launch} {G : ZG} {h : ZH} {a t N T : Nat} {C : Nat → List Nat} {m : Nat → Option (Nat × Value)} {mc : Int32} {g : Nat → Value} (hM : zHMt G h t a N C m mc T g) (ht : 1 < t) (hN3 : N = 16 ∨ N = 32 ∨ N = 64) : ZM l G yJ9_resize (ws_ yJ9_resize cJ9_resize 14 (Option.some (FieldType.array (FieldType.object "java/util/HashMap$Node")))) (zRm 0 1 (2 * N) 0) [.ref a] h (fun v h' => ∃ (T1 : Nat) (g1 : Nat → Value), v = some (.ref T1) ∧ zHMt G h' t a (2 * N) (zC2 N C) m mc T1 g1 ∧ zOn (fun t' => t' = t) h h') := by
  refine ZT.zm (ZT.of (by first | exact plainFor_of_name (by decide) | decide +kernel) (Nat.le_of_ble_eq_true rfl) (zcats.r zref.r zcats.nil) ?_)
  intro p_ e_ s_ m_ args_ below_ meth_ c_ X hr hlk hin htab
  have X : ZX p_ m_ c_ cJ9_resize 14 s_ args_ "java/util/HashMap" G := X
  refine z_lv (lv' := [(0, .ref a)]) (fun _ hq => hq) ?_
  obtain ⟨vs, es, e1, e2, e3, e4, e5, H, hNs⟩ := hM
  have hvs := e2.zref
  have hes := e3.zref
  have hN : 16 ≤ N ∧ N ≤ 64 := by omega
  have hthr : 2 * (3 * N / 4) = 3 * (2 * N) / 4 := by omega
  have hNs2 : zNs (2 * N) := by rcases hN3 with rfl | rfl | rfl <;> simp [zNs]
  refine z_aload_n X 0 dJ9_resize_0 zref.r rfl ?_
  refine z_get X zP11 2 (by decide) q293 (Or.inl rfl) e1 (by omega) rfl dJ9_resize_1 ?_
  refine z_astore_n X (lv' := [(1, .ref T), (0, .ref a)]) dJ9_resize_4 zref.r (by decide) rfl ?_
  refine z_aload_n X 0 dJ9_resize_5 zref.r rfl ?_
  refine z_ifnonnull X 13 dJ9_resize_6 (by decide) zref.r (fun a21 c20 => ?_) (fun c20 => ?_)
  rotate_left
  · cases c20
  refine z_aload_n X 0 dJ9_resize_13 zref.r rfl ?_
  refine z_alen X e4 (ty := .object "java/util/HashMap$Node") rfl (by omega) dJ9_resize_14 ?_
  refine z_istore_n X (lv' := [(2, .int (nI N)), (1, .ref T), (0, .ref a)]) dJ9_resize_15 (by decide) rfl ?_
  refine z_aload_n X 2 dJ9_resize_16 zref.r rfl ?_
  refine z_get X zP11 6 (by decide) q299 (Or.inl rfl) e1 (by omega) rfl dJ9_resize_17 ?_
  refine z_istore_n X (lv' := [(3, .int (nI (3 * N / 4))), (2, .int (nI N)), (1, .ref T), (0, .ref a)]) dJ9_resize_20 (by decide) rfl ?_
  refine z_iconst X (nI 0) dJ9_resize_21 (by decide) ?_
  refine z_istore X (lv' := [(5, .int (nI 0)), (3, .int (nI (3 * N / 4))), (2, .int (nI N)), (1, .ref T), (0, .ref a)]) dJ9_resize_22 (by decide) rfl ?_
  refine z_iload_n X 2 dJ9_resize_24 rfl ?_
  refine z_if_leN X N 67 dJ9_resize_25 (by decide) rfl (by omega) (fun c22 => ?_) (fun c22 => ?_)
  · omega
  refine z_iload_n X 2 dJ9_resize_28 rfl ?_
  refine z_ldc X q793 dJ9_resize_29 ?_
  refine z_st (st' := [.int (nI 1073741824), .int (nI N)]) (by rw [show (1073741824 : Int32) = nI 1073741824 from by decide]) ?_
  refine z_icmp_ltN X N 1073741824 42 dJ9_resize_31 (by decide) rfl rfl (by omega) (by omega) (fun c23 => ?_) (fun c23 => ?_)
  rotate_left
  · omega
  refine z_iload_n X 2 dJ9_resize_42 rfl ?_
  refine z_iconst X (nI 1) dJ9_resize_43 (by decide) ?_
  refine z_ishl X ((nI N) <<< ((nI 1) &&& 31)) dJ9_resize_44 rfl ?_
  refine z_st (st' := [.int (nI (2 * N))]) (by rw [zshl1 (by omega)]) ?_
  refine z_dup X dJ9_resize_45 rfl ?_
  refine z_istore X (lv' := [(4, .int (nI (2 * N))), (5, .int (nI 0)), (3, .int (nI (3 * N / 4))), (2, .int (nI N)), (1, .ref T), (0, .ref a)]) dJ9_resize_46 (by decide) rfl ?_
  refine z_ldc X q793 dJ9_resize_48 ?_
  refine z_st (st' := [.int (nI 1073741824), .int (nI (2 * N))]) (by rw [show (1073741824 : Int32) = nI 1073741824 from by decide]) ?_
  refine z_icmp_geN X (2 * N) 1073741824 85 dJ9_resize_50 (by decide) rfl rfl (by omega) (by omega) (fun c24 => ?_) (fun c24 => ?_)
  · omega
  refine z_iload_n X 3 dJ9_resize_53 rfl ?_
  refine z_bipush X (nI 16) dJ9_resize_54 (by decide) ?_
  refine z_icmp_ltN X N 16 85 dJ9_resize_56 (by decide) rfl rfl (by omega) (by omega) (fun c25 => ?_) (fun c25 => ?_)
  · omega
  refine z_iload_n X 2 dJ9_resize_59 rfl ?_
  refine z_iconst X (nI 1) dJ9_resize_60 (by decide) ?_
  refine z_ishl X ((nI (3 * N / 4)) <<< ((nI 1) &&& 31)) dJ9_resize_61 rfl ?_
  refine z_st (st' := [.int (nI (3 * (2 * N) / 4))]) (by rw [zshl1 (by omega), hthr]) ?_
  refine z_istore X (lv' := [(5, .int (nI (3 * (2 * N) / 4))), (4, .int (nI (2 * N))), (3, .int (nI (3 * N / 4))), (2, .int (nI N)), (1, .ref T), (0, .ref a)]) dJ9_resize_62 (by decide) rfl ?_
  refine z_goto X 85 dJ9_resize_64 (by decide) ?_
  refine z_iload X 0 dJ9_resize_85 rfl ?_
  refine z_if_neN X (3 * (2 * N) / 4) 125 dJ9_resize_87 (by decide) rfl (by omega) (fun c26 => ?_) (fun c26 => ?_)
  rotate_left
  · omega
  refine z_aload_n X 5 dJ9_resize_125 zref.r rfl ?_
  refine z_iload X 0 dJ9_resize_126 rfl ?_
  refine z_put X zP11 6 (by decide) q299 (Or.inl rfl) rfl e1 (by omega) (by omega) (zfits.i _) (Nat.le_of_ble_eq_true rfl) rfl dJ9_resize_128 ?_
  refine z_nm fun h27 e28 => ?_
  have o29 := zOn.up (zOn.rf (T := fun t' => t' = t) (h := h)) e28 e1 (by first | exact rfl | omega | simp)
  have f30 : h27 T = (t, .inl (6, N, g)) := zup_oa e28 e4 (by intro z9; rw [z9, e1] at e4; cases e4)
  have f31 : h27 a = (t, .inr (11, [.null, vs, .ref T, es, .int (nI (zcnt m 64)), .int mc, .int (nI (3 * (2 * N) / 4)), .float 1061158912])) := zup_is e28
  refine z_iload X 1 dJ9_resize_131 rfl ?_
  refine z_anew X 6 rfl (by decide) t (by omega) (f := (fun _ => .null)) (fun _ => rfl) (by decide) q796 (2 * N) rfl (by first | decide | omega) (by first | exact Nat.le_of_ble_eq_true rfl | (dsimp only [zRm]; omega)) (by first | exact Nat.le_of_ble_eq_true rfl | (dsimp only [zRm]; omega)) dJ9_resize_133 fun T1 n32 => ?_
  refine z_nm fun h33 e34 => ?_
  have o35 := zOn.new o29 e34 n32
  have f36 : h33 T = (t, .inl (6, N, g)) := zup_o0 e34 n32 f30 (by omega)
  have f37 : h33 a = (t, .inr (11, [.null, vs, .ref T, es, .int (nI (zcnt m 64)), .int mc, .int (nI (3 * (2 * N) / 4)), .float 1061158912])) := zup_o0 e34 n32 f31 (by omega)
  have f38 : h33 T1 = (t, .inl (6, (2 * N), (fun _ => .null))) := zup_is e34
  refine z_astore X (lv' := [(6, .ref T1), (5, .int (nI (3 * (2 * N) / 4))), (4, .int (nI (2 * N))), (3, .int (nI (3 * N / 4))), (2, .int (nI N)), (1, .ref T), (0, .ref a)]) dJ9_resize_136 zref.r (by decide) rfl ?_
  refine z_aload_n X 6 dJ9_resize_138 zref.r rfl ?_
  refine z_aload X 0 dJ9_resize_139 zref.r rfl ?_
  refine z_put X zP11 2 (by decide) q293 (Or.inl rfl) rfl f37 (by omega) (by omega) (zfits.a zref.r) (Nat.le_of_ble_eq_true rfl) rfl dJ9_resize_141 ?_
  refine z_nm fun h39 e40 => ?_
  have o41 := zOn.up o35 e40 f37 (by first | exact rfl | omega | simp)
  have f42 : h39 T = (t, .inl (6, N, g)) := zup_oa e40 f36 (by intro z9; rw [z9, e1] at e4; cases e4)
  have f43 : h39 T1 = (t, .inl (6, (2 * N), (fun _ => .null))) := zup_oa e40 f38 (by intro z9; rw [z9, f31] at n32; simp at n32; omega)
  have f44 : h39 a = (t, .inr (11, [.null, vs, .ref T1, es, .int (nI (zcnt m 64)), .int mc, .int (nI (3 * (2 * N) / 4)), .float 1061158912])) := zup_is e40
  refine z_aload_n X 5 dJ9_resize_144 zref.r rfl ?_
  refine z_ifnull X 353 dJ9_resize_145 (by decide) zref.r (fun c45 => ?_) (fun a46 c45 => ?_)
  · cases c45
  refine z_iconst X (nI 0) dJ9_resize_148 (by decide) ?_
  refine z_istore X (lv' := [(7, .int (nI 0)), (6, .ref T1), (5, .int (nI (3 * (2 * N) / 4))), (4, .int (nI (2 * N))), (3, .int (nI (3 * N / 4))), (2, .int (nI N)), (1, .ref T), (0, .ref a)]) dJ9_resize_149 (by decide) rfl ?_
  have hvv : ∀ ci v, zvw h t a ci v → zvw h39 t a ci v := fun ci v hv => ((hv.up e28 e1 (by simp)).up0 (by omega) e34 n32).up e40 f37 (by simp)
  have hzc : ∀ L v, zct G h t m L v .null → zct G h39 t m L v .null := fun L v hv => ((hv.up e28 e1 (by simp [znd])).up0 (by omega) e34 n32).up e40 f37 (by simp [znd])
  have hT01 : T ≠ T1 := by intro z9; have z8 := n32; rw [← z9, f30] at z8; simp at z8; omega
  have F0 : zRF G h39 t a N C m mc vs es T T1 g (fun _ => .null) 0 := ⟨f44, hvv _ _ e2, hvv _ _ e3, f42, f43, hT01, fun b hb _ => hzc _ _ (e5 b hb), fun b _ hb => absurd hb (Nat.not_lt_zero _), fun b _ _ => ⟨rfl, rfl⟩⟩
  refine z_lvp (lv' := [(0, .ref a), (1, .ref T), (2, .int (nI N)), (4, .int (nI (2 * N))), (6, .ref T1), (7, .int (nI 0))]) [7, 6, 5, 3, 1, 0] rfl ?_
  refine z_loop (σ := Nat × ZH × (Nat → Value) × (Nat → Value)) (fun x => x.1 ≤ N ∧ zRF G x.2.1 t a N C m mc vs es T T1 x.2.2.1 x.2.2.2 x.1 ∧ (x.1 < N → zct G x.2.1 t m (C x.1) (x.2.2.1 x.1) .null ∧ x.2.2.2 x.1 = .null ∧ x.2.2.2 (x.1 + N) = .null) ∧ zOn (fun t' => t' = t) h x.2.1) (fun x => N - x.1) (fun x => [(0, .ref a), (1, .ref T), (2, .int (nI N)), (4, .int (nI (2 * N))), (6, .ref T1), (7, .int (nI x.1))]) (fun x => []) (fun x => x.2.1) (fun x => 0 + 1) (fun x => 0 + (2 * N)) ?_ (0, h39, g, fun _ => .null) (⟨Nat.zero_le _, F0, fun _ => ⟨hzc _ _ (e5 0 (by omega)), rfl, rfl⟩, o41⟩)
  intro ⟨j, h2, g2, gn⟩ hI ih
  try dsimp only at hI
  try dsimp only at ih
  try dsimp only
  obtain ⟨hj, F, hcj, O2⟩ := hI
  clear hvv hzc F0
  refine z_iload X 5 dJ9_resize_151 rfl ?_
  refine z_iload_n X 2 dJ9_resize_153 rfl ?_
  refine z_icmp_geN X j N 353 dJ9_resize_154 (by decide) rfl rfl (by omega) (by omega) (fun c47 => ?_) (fun c47 => ?_)
  · have hjN : j = N := by omega
    subst hjN
    obtain ⟨f1, f2, f3, f4, f5, f6, f7, f8, f9⟩ := F
    refine z_aload X 4 dJ9_resize_353 zref.r rfl ?_
    exact z_aret X hr (by first | exact Or.inl ⟨_, rfl⟩ | exact Or.inr ⟨_, rfl⟩) hlk zref.r dJ9_resize_355 (by first | exact Nat.le_of_ble_eq_true rfl | (dsimp only [zRm]; omega) | omega) (by first | exact Nat.le_of_ble_eq_true rfl | (dsimp only [zRm]; omega) | omega) ⟨T1, gn, rfl, ⟨vs, es, f1, f2, f3, f5, fun b hb => by by_cases hbj : b < j; exact (f8 b hbj hbj).1; have z := (f8 (b - j) (by omega) (by omega)).2; rw [show b - j + j = b from by omega] at z; exact z, H.dbl (by omega), hNs2⟩, O2⟩
  · have hjN : j < N := by omega
    obtain ⟨hch, hg1, hg2⟩ := hcj hjN
    have J347 : ∀ (h5 : ZH) (g5 g6 : Nat → Value), zRF G h5 t a N C m mc vs es T T1 g5 g6 j → zct G h5 t m (zC2 N C j) (g6 j) .null → zct G h5 t m (zC2 N C (j + N)) (g6 (j + N)) .null → zOn (fun t' => t' = t) h h5 → Zw p_ l e_ (zRm 0 1 (2 * N) 0) s_ m_ args_ below_ meth_ c_ G 14 (zEnd G (zRm 0 1 (2 * N) 0) (fun v h' => ∃ (T1 : Nat) (g1 : Nat → Value), v = some (.ref T1) ∧ zHMt G h' t a (2 * N) (zC2 N C) m mc T1 g1 ∧ zOn (fun t' => t' = t) h h') (fun _ _ _ => False) below_ args_ s_) 347 [(0, .ref a), (1, .ref T), (2, .int (nI N)), (4, .int (nI (2 * N))), (6, .ref T1), (7, .int (nI j))] [] h5 (0 + 1) (0 + (2 * N)) := by
      intro h5 g5 g6 F5 c1 c2 O5
      refine z_iinc X (lv' := [(7, .int (nI (j + 1))), (0, .ref a), (1, .ref T), (2, .int (nI N)), (4, .int (nI (2 * N))), (6, .ref T1)]) (nI (j + 1)) 5 dJ9_resize_347 rfl (nI_1 _) (by decide) rfl ?_
      refine z_goto X 151 dJ9_resize_350 (by decide) ?_
      refine z_lvp (lv' := [(0, .ref a), (1, .ref T), (2, .int (nI N)), (4, .int (nI (2 * N))), (6, .ref T1), (7, .int (nI (j + 1)))]) [1, 2, 3, 4, 5, 0] rfl ?_
      obtain ⟨s1, s2⟩ := F5.step c1 c2
      exact ih (j + 1, h5, g5, g6) ⟨by omega, s1, s2, O5⟩ (by dsimp only; omega)
    obtain ⟨f1, f2, f3, f4, f5, f6, f7, f8, f9⟩ := id F
    refine z_aload_n X 1 dJ9_resize_157 zref.r rfl ?_
    refine z_iload X 5 dJ9_resize_158 rfl ?_
    refine z_aald X (v := g2 j) j f4 (ty := .object "java/util/HashMap$Node") rfl rfl (by omega) rfl hjN (by first | decide | omega) rfl dJ9_resize_160 ?_
    refine z_dup X dJ9_resize_161 (((hch.zref zref.nul)).cat) ?_
    refine z_astore X (lv' := [(8, g2 j), (0, .ref a), (1, .ref T), (2, .int (nI N)), (4, .int (nI (2 * N))), (6, .ref T1), (7, .int (nI j))]) dJ9_resize_162 (hch.zref zref.nul) (by decide) rfl ?_
    refine z_ifnull X 347 dJ9_resize_164 (by decide) (hch.zref zref.nul) (fun c48 => ?_) (fun a49 c48 => ?_)
    · have hnil : C j = [] := by rw [c48] at hch; exact hch.null
      refine z_lvp (lv' := [(0, .ref a), (1, .ref T), (2, .int (nI N)), (4, .int (nI (2 * N))), (6, .ref T1), (7, .int (nI j))]) [1, 2, 3, 4, 5, 6] rfl ?_
      exact J347 h2 g2 gn F (by rw [zC2_lo hjN, hnil, hg1]; rfl) (by rw [zC2_hi H hjN, hnil, hg2]; rfl) O2
    · rw [c48] at hch
      refine z_lv (lv' := [(8, .ref a49), (0, .ref a), (1, .ref T), (2, .int (nI N)), (4, .int (nI (2 * N))), (6, .ref T1), (7, .int (nI j))]) (by intro x9 h9; rw [c48]; exact h9) ?_
      refine z_aload_n X 2 dJ9_resize_167 zref.r rfl ?_
      refine z_iload X 6 dJ9_resize_168 rfl ?_
      refine z_null X dJ9_resize_170 ?_
      refine z_aastN X j f4 rfl (by omega) (by omega) rfl hjN (by omega) (f' := zuf g2 j .null) (fun _ => rfl) dJ9_resize_171 ?_
      refine z_nm fun h3 E3 => ?_
      have F3 := F.old E3
      have O3 := O2.up E3 f4 rfl
      have hch3 := hch.up E3 f4 (by simp [znd])
      obtain ⟨k, L, hL, w0, nx, g1, g2x, g3, g4⟩ := hch3.ref
      have hk := H.1 j k (by rw [hL]; simp)
      have hnx := g4.zref zref.nul
      refine z_aload X 0 dJ9_resize_172 zref.r rfl ?_
      refine z_get X zP13 3 (by decide) q832 (Or.inl rfl) g3 (by omega) rfl dJ9_resize_174 ?_
      refine z_ifnonnull X 198 dJ9_resize_177 (by decide) hnx (fun a51 c50 => ?_) (fun c50 => ?_)
      · refine z_aload X 0 dJ9_resize_198 zref.r rfl ?_
        refine z_instNo X g3 (by omega) rfl q718 X.2.1.2.2.2.2.2.2.2.2.2.2.1 dJ9_resize_200 ?_
        refine z_if_eq X 223 dJ9_resize_203 (by decide) (fun c52 => ?_) (fun c52 => ?_)
        rotate_left
        · exact absurd rfl c52
        refine z_null X dJ9_resize_223 ?_
        refine z_astore X (lv' := [(9, .null), (8, .ref a49), (0, .ref a), (1, .ref T), (2, .int (nI N)), (4, .int (nI (2 * N))), (6, .ref T1), (7, .int (nI j))]) dJ9_resize_224 zref.nul (by decide) rfl ?_
        refine z_null X dJ9_resize_226 ?_
        refine z_astore X (lv' := [(10, .null), (9, .null), (8, .ref a49), (0, .ref a), (1, .ref T), (2, .int (nI N)), (4, .int (nI (2 * N))), (6, .ref T1), (7, .int (nI j))]) dJ9_resize_227 zref.nul (by decide) rfl ?_
        refine z_null X dJ9_resize_229 ?_
        refine z_astore X (lv' := [(11, .null), (10, .null), (9, .null), (8, .ref a49), (0, .ref a), (1, .ref T), (2, .int (nI N)), (4, .int (nI (2 * N))), (6, .ref T1), (7, .int (nI j))]) dJ9_resize_230 zref.nul (by decide) rfl ?_
        refine z_null X dJ9_resize_232 ?_
        refine z_astore X (lv' := [(12, .null), (11, .null), (10, .null), (9, .null), (8, .ref a49), (0, .ref a), (1, .ref T), (2, .int (nI N)), (4, .int (nI (2 * N))), (6, .ref T1), (7, .int (nI j))]) dJ9_resize_233 zref.nul (by decide) rfl ?_
        have hltC : ∀ k ∈ C j, k < 64 := fun k hk => (H.1 j k hk).2.1
        have hlo := zC2_lo (C := C) hjN
        have hhi := zC2_hi H hjN
        refine z_lvp (lv' := [(0, .ref a), (1, .ref T), (2, .int (nI N)), (4, .int (nI (2 * N))), (6, .ref T1), (7, .int (nI j)), (8, .ref a49), (9, .null), (10, .null), (11, .null), (12, .null)]) [5, 6, 7, 8, 9, 10, 4, 3, 2, 1, 0] rfl ?_
        refine z_loop (σ := List Nat × List Nat × Nat × ZH × (Value × Value) × (Value × Value)) (fun x => C j = x.1 ++ x.2.1 ∧ x.2.1 ≠ [] ∧ zct G x.2.2.2.1 t m x.2.1 (.ref x.2.2.1) .null ∧ zRF G x.2.2.2.1 t a N C m mc vs es T T1 (zuf g2 j .null) gn j ∧ zhf G x.2.2.2.1 t m (x.1.filter (fun k => k % (2 * N) == j)) x.2.2.2.2.1.1 x.2.2.2.2.1.2 ∧ zhf G x.2.2.2.1 t m (x.1.filter (fun k => !(k % (2 * N) == j))) x.2.2.2.2.2.1 x.2.2.2.2.2.2 ∧ zOn (fun t' => t' = t) h x.2.2.2.1) (fun x => x.2.1.length) (fun x => [(0, .ref a), (1, .ref T), (2, .int (nI N)), (4, .int (nI (2 * N))), (6, .ref T1), (7, .int (nI j)), (8, .ref x.2.2.1), (9, x.2.2.2.2.1.1), (10, x.2.2.2.2.1.2), (11, x.2.2.2.2.2.1), (12, x.2.2.2.2.2.2)]) (fun x => []) (fun x => x.2.2.2.1) (fun x => 0 + 1) (fun x => 0 + (2 * N)) ?_ ([], C j, a49, h3, (.null, .null), (.null, .null)) (⟨rfl, by rw [hL]; simp, hch3, F3, Or.inl ⟨rfl, rfl, rfl⟩, Or.inl ⟨rfl, rfl, rfl⟩, O3⟩)
        intro ⟨Pk, S, q, h4, ⟨lh, lt⟩, ⟨hh, ht2⟩⟩ hI ih
        try dsimp only at hI
        try dsimp only at ih
        try dsimp only
        clear g1 g2x g3 g4 hk hnx hL
        obtain ⟨i1, i2, i3, i4, i5, i6, i7⟩ := hI
        obtain ⟨k, S2, hS, w0, nx, g1, g2x, g3, g4⟩ := i3.ref
        have hnx := g4.zref zref.nul
        have hkC : k ∈ C j := by rw [i1, hS]; simp
        have hk := H.1 j k hkC
        have hP2 : C j = (Pk ++ [k]) ++ S2 := by rw [i1, hS]; simp
        have hnd := H.2.1 j
        rw [hP2] at hnd
        obtain ⟨nd1, nd2, nd3⟩ := List.nodup_append.mp hnd
        have hmemC : ∀ k9 ∈ Pk ++ [k], k9 ∈ C j := fun k9 h9 => by rw [hP2]; simp at h9 ⊢; rcases h9 with z | z <;> simp [z]
        refine z_aload X 6 dJ9_resize_235 zref.r rfl ?_
        refine z_get X zP13 3 (by decide) q832 (Or.inl rfl) g3 (by omega) rfl dJ9_resize_237 ?_
        refine z_astore X (lv' := [(13, nx), (0, .ref a), (1, .ref T), (2, .int (nI N)), (4, .int (nI (2 * N))), (6, .ref T1), (7, .int (nI j)), (8, .ref q), (9, lh), (10, lt), (11, hh), (12, ht2)]) dJ9_resize_240 hnx (by decide) rfl ?_
        refine z_aload X 7 dJ9_resize_242 zref.r rfl ?_
        have J301 : ∀ (h5 : ZH) (l1 l2 m1 m2 : Value), zct G h5 t m S2 nx .null → zRF G h5 t a N C m mc vs es T T1 (zuf g2 j .null) gn j → zhf G h5 t m ((Pk ++ [k]).filter (fun k => k % (2 * N) == j)) l1 l2 → zhf G h5 t m ((Pk ++ [k]).filter (fun k => !(k % (2 * N) == j))) m1 m2 → zOn (fun t' => t' = t) h h5 → Zw p_ l e_ (zRm 0 1 (2 * N) 0) s_ m_ args_ below_ meth_ c_ G 14 (zEnd G (zRm 0 1 (2 * N) 0) (fun v h' => ∃ (T1 : Nat) (g1 : Nat → Value), v = some (.ref T1) ∧ zHMt G h' t a (2 * N) (zC2 N C) m mc T1 g1 ∧ zOn (fun t' => t' = t) h h') (fun _ _ _ => False) below_ args_ s_) 301 [(0, .ref a), (1, .ref T), (2, .int (nI N)), (4, .int (nI (2 * N))), (6, .ref T1), (7, .int (nI j)), (8, .ref q), (9, l1), (10, l2), (11, m1), (12, m2), (13, nx)] [] h5 (0 + 1) (0 + (2 * N)) := by
          intro h5 l1 l2 m1 m2 u1 u2 u3 u4 u5
          refine z_aload X 11 dJ9_resize_301 hnx rfl ?_
          refine z_dup X dJ9_resize_303 ((hnx).cat) ?_
          refine z_astore X (lv' := [(8, nx), (0, .ref a), (1, .ref T), (2, .int (nI N)), (4, .int (nI (2 * N))), (6, .ref T1), (7, .int (nI j)), (9, l1), (10, l2), (11, m1), (12, m2), (13, nx)]) dJ9_resize_304 hnx (by decide) rfl ?_
          refine z_ifnonnull X 235 dJ9_resize_306 (by decide) hnx (fun a54 c53 => ?_) (fun c53 => ?_)
          · rw [c53] at u1
            refine z_lv (lv' := [(8, .ref a54), (0, .ref a), (1, .ref T), (2, .int (nI N)), (4, .int (nI (2 * N))), (6, .ref T1), (7, .int (nI j)), (9, l1), (10, l2), (11, m1), (12, m2), (13, .ref a54)]) (by intro x9 h9; rw [c53]; exact h9) ?_
            refine z_lvp (lv' := [(0, .ref a), (1, .ref T), (2, .int (nI N)), (4, .int (nI (2 * N))), (6, .ref T1), (7, .int (nI j)), (8, .ref a54), (9, l1), (10, l2), (11, m1), (12, m2)]) [1, 2, 3, 4, 5, 6, 0, 7, 8, 9, 10] rfl ?_
            exact ih (Pk ++ [k], S2, a54, h5, (l1, l2), (m1, m2)) ⟨hP2, (fun z => by dsimp only at z; rw [z] at u1; cases u1), u1, u2, u3, u4, u5⟩ (by dsimp only; rw [hS]; simp)
          · rw [c53] at u1
            have hS2 := u1.null
            have hPC : Pk ++ [k] = C j := by rw [hP2, hS2]; simp
            rw [hPC] at u3 u4
            rw [← hlo] at u3
            rw [← hhi] at u4
            have ltl : ∀ k9 ∈ zC2 N C j, k9 < 64 := fun k9 h9 => (zC2_mem H h9).2.1
            have lth : ∀ k9 ∈ zC2 N C (j + N), k9 < 64 := fun k9 h9 => (zC2_mem H h9).2.1
            have hdb := H.dbl (show 0 < N by omega)
            have J327 : ∀ (h6 : ZH) (g6 : Nat → Value), zRF G h6 t a N C m mc vs es T T1 (zuf g2 j .null) g6 j → zct G h6 t m (zC2 N C j) (g6 j) .null → g6 (j + N) = .null → zhf G h6 t m (zC2 N C (j + N)) m1 m2 → zOn (fun t' => t' = t) h h6 → Zw p_ l e_ (zRm 0 1 (2 * N) 0) s_ m_ args_ below_ meth_ c_ G 14 (zEnd G (zRm 0 1 (2 * N) 0) (fun v h' => ∃ (T1 : Nat) (g1 : Nat → Value), v = some (.ref T1) ∧ zHMt G h' t a (2 * N) (zC2 N C) m mc T1 g1 ∧ zOn (fun t' => t' = t) h h') (fun _ _ _ => False) below_ args_ s_) 327 [(0, .ref a), (1, .ref T), (2, .int (nI N)), (4, .int (nI (2 * N))), (6, .ref T1), (7, .int (nI j)), (11, m1), (12, m2)] [] h6 (0 + 1) (0 + (2 * N)) := by
              intro h6 g6 v1 v2 v3 v4 v5
              refine z_aload X 7 dJ9_resize_327 u4.zr.2 rfl ?_
              refine z_ifnull X 347 dJ9_resize_329 (by decide) u4.zr.2 (fun c55 => ?_) (fun a56 c55 => ?_)
              · rw [c55] at v4
                refine z_lvp (lv' := [(0, .ref a), (1, .ref T), (2, .int (nI N)), (4, .int (nI (2 * N))), (6, .ref T1), (7, .int (nI j))]) [0, 1, 2, 3, 4, 5] rfl ?_
                exact J347 h6 _ _ v1 v2 (by rw [zhf_nil v4, v3]; rfl) v5
              · rw [c55] at v4
                refine z_lv (lv' := [(0, .ref a), (1, .ref T), (2, .int (nI N)), (4, .int (nI (2 * N))), (6, .ref T1), (7, .int (nI j)), (11, m1), (12, .ref a56)]) (by intro x9 h9; rw [c55]; exact h9) ?_
                obtain ⟨k1, w1, x1, b1, b2, b3, b4, b5, b6⟩ := zhf_cut v4 (hdb.2.1 _) lth
                have hk1 := zC2_mem H b1
                refine z_aload X 7 dJ9_resize_332 zref.r rfl ?_
                refine z_null X dJ9_resize_334 ?_
                refine z_put X zP13 3 (by decide) q832 (Or.inl rfl) rfl b5 (by omega) (by omega) (zfits.o zref.nul) (Nat.le_of_ble_eq_true rfl) rfl dJ9_resize_335 ?_
                refine z_nm fun h7 E7 => ?_
                have c7 := b6 h7 E7
                have F7 := v1.node H hk1.2.1 (j := j) (by rw [hk1.2.2.1, Nat.add_mod_right, Nat.mod_eq_of_lt hjN]) (by omega) E7 b5
                have cl7 := v2.up E7 b5 (fun k9 h9 w9 n9 => znd_ne hk1.2.1 (zC2_mem H h9).2.1 (fun z => by have z2 := (zC2_mem H h9).2.2.2; rw [← z, hk1.2.2.2] at z2; omega))
                have O7 := v5.up E7 b5 rfl
                obtain ⟨q0, fs0, hq0, hn0⟩ := zhd_node v4 (by simp)
                subst hq0
                have hn7 : ∃ fs7, h7 q0 = (t, .inr (13, fs7)) := by by_cases z : q0 = a56; exact ⟨_, by rw [z]; exact zup_is E7⟩; exact ⟨_, zup_oa E7 hn0 z⟩
                obtain ⟨fs7, hn7⟩ := hn7
                refine z_aload X 4 dJ9_resize_338 zref.r rfl ?_
                refine z_iload X 5 dJ9_resize_340 rfl ?_
                refine z_iload_n X 2 dJ9_resize_342 rfl ?_
                refine z_iadd X (nI (j + N)) dJ9_resize_343 (nI_add _ _) ?_
                refine z_aload X 6 dJ9_resize_344 zref.r rfl ?_
                obtain ⟨f1, f2, f3, f4, f5, f6, f7, f8, f9⟩ := id F7
                refine z_aast X (j + N) f5 rfl (by decide) (by omega) (by omega) hn7 (by omega) rfl (Or.inl rfl) rfl (by omega) (by omega) (f' := zuf g6 (j + N) (.ref q0)) (fun _ => rfl) dJ9_resize_346 ?_
                refine z_nm fun h8 E8 => ?_
                refine z_lvp (lv' := [(0, .ref a), (1, .ref T), (2, .int (nI N)), (4, .int (nI (2 * N))), (6, .ref T1), (7, .int (nI j))]) [0, 1, 2, 3, 4, 5] rfl ?_
                exact J347 h8 _ _ (F7.new hjN (Or.inr rfl) E8) (by rw [show zuf g6 (j + N) (.ref q0) j = g6 j from if_neg (by omega)]; exact cl7.up E8 f5 (by simp [znd])) (by rw [show zuf g6 (j + N) (.ref q0) (j + N) = .ref q0 from if_pos rfl]; exact c7.up E8 f5 (by simp [znd])) (O7.up E8 f5 rfl)
            refine z_aload X 8 dJ9_resize_309 u3.zr.2 rfl ?_
            refine z_ifnull X 327 dJ9_resize_311 (by decide) u3.zr.2 (fun c57 => ?_) (fun a58 c57 => ?_)
            · rw [c57] at u3
              refine z_lvp (lv' := [(0, .ref a), (1, .ref T), (2, .int (nI N)), (4, .int (nI (2 * N))), (6, .ref T1), (7, .int (nI j)), (11, m1), (12, m2)]) [1, 2, 3, 4, 5, 6, 9, 10] rfl ?_
              exact J327 h5 gn u2 (by rw [zhf_nil u3, hg1]; rfl) hg2 u4 u5
            · rw [c57] at u3
              refine z_lv (lv' := [(8, nx), (0, .ref a), (1, .ref T), (2, .int (nI N)), (4, .int (nI (2 * N))), (6, .ref T1), (7, .int (nI j)), (9, l1), (10, .ref a58), (11, m1), (12, m2), (13, nx)]) (by intro x9 h9; rw [c57]; exact h9) ?_
              obtain ⟨k1, w1, x1, b1, b2, b3, b4, b5, b6⟩ := zhf_cut u3 (hdb.2.1 _) ltl
              have hk1 := zC2_mem H b1
              refine z_aload X 8 dJ9_resize_314 zref.r rfl ?_
              refine z_null X dJ9_resize_316 ?_
              refine z_put X zP13 3 (by decide) q832 (Or.inl rfl) rfl b5 (by omega) (by omega) (zfits.o zref.nul) (Nat.le_of_ble_eq_true rfl) rfl dJ9_resize_317 ?_
              refine z_nm fun h7 E7 => ?_
              have c7 := b6 h7 E7
              have F7 := u2.node H hk1.2.1 (j := j) (by rw [hk1.2.2.1, Nat.mod_eq_of_lt hjN]) (by omega) E7 b5
              have cl7 := u4.up E7 b5 (fun k9 h9 w9 n9 => znd_ne hk1.2.1 (zC2_mem H h9).2.1 (fun z => by have z2 := (zC2_mem H h9).2.2.2; rw [← z, hk1.2.2.2] at z2; omega))
              have O7 := u5.up E7 b5 rfl
              obtain ⟨q0, fs0, hq0, hn0⟩ := zhd_node u3 (by simp)
              subst hq0
              have hn7 : ∃ fs7, h7 q0 = (t, .inr (13, fs7)) := by by_cases z : q0 = a58; exact ⟨_, by rw [z]; exact zup_is E7⟩; exact ⟨_, zup_oa E7 hn0 z⟩
              obtain ⟨fs7, hn7⟩ := hn7
              refine z_aload X 5 dJ9_resize_320 zref.r rfl ?_
              refine z_iload X 6 dJ9_resize_322 rfl ?_
              refine z_aload X 7 dJ9_resize_324 zref.r rfl ?_
              obtain ⟨f1, f2, f3, f4, f5, f6, f7, f8, f9⟩ := id F7
              refine z_aast X j f5 rfl (by decide) (by omega) (by omega) hn7 (by omega) rfl (Or.inl rfl) rfl (by omega) (by omega) (f' := zuf gn j (.ref q0)) (fun _ => rfl) dJ9_resize_326 ?_
              refine z_nm fun h8 E8 => ?_
              refine z_lvp (lv' := [(0, .ref a), (1, .ref T), (2, .int (nI N)), (4, .int (nI (2 * N))), (6, .ref T1), (7, .int (nI j)), (11, m1), (12, m2)]) [1, 2, 3, 4, 5, 6, 9, 10] rfl ?_
              exact J327 h8 _ (F7.new hjN (Or.inl rfl) E8) (by rw [show zuf gn j (.ref q0) j = .ref q0 from if_pos rfl]; exact c7.up E8 f5 (by simp [znd])) (by rw [show zuf gn j (.ref q0) (j + N) = gn (j + N) from if_neg (by omega)]; exact hg2) (cl7.up E8 f5 (by simp [znd])) (O7.up E8 f5 rfl)
        refine z_get X zP13 0 (by decide) q819 (Or.inl rfl) g3 (by omega) rfl dJ9_resize_244 ?_
        refine z_iload_n X 3 dJ9_resize_247 rfl ?_
        refine z_iand X ((nI k) &&& (nI N)) dJ9_resize_248 rfl ?_
        refine z_if_ne X 278 dJ9_resize_249 (by decide) (fun c59 => ?_) (fun c59 => ?_)
        · have hpk : ¬ k % (2 * N) = j := by intro z; exact c59 ((zlo hN3 k hk.2.1).mpr (by rw [z, hk.2.2.1]))
          have ef1 : (Pk ++ [k]).filter (fun k => k % (2 * N) == j) = Pk.filter (fun k => k % (2 * N) == j) := by rw [List.filter_append]; simp [hpk]
          have ef2 : (Pk ++ [k]).filter (fun k => !(k % (2 * N) == j)) = Pk.filter (fun k => !(k % (2 * N) == j)) ++ [k] := by rw [List.filter_append]; simp [hpk]
          refine z_aload X 11 dJ9_resize_278 i6.zr.2 rfl ?_
          refine z_ifnonnull X 290 dJ9_resize_280 (by decide) i6.zr.2 (fun a61 c60 => ?_) (fun c60 => ?_)
          · rw [c60] at i6
            refine z_lv (lv' := [(13, nx), (0, .ref a), (1, .ref T), (2, .int (nI N)), (4, .int (nI (2 * N))), (6, .ref T1), (7, .int (nI j)), (8, .ref q), (9, lh), (10, lt), (11, hh), (12, .ref a61)]) (by intro x9 h9; rw [c60]; exact h9) ?_
            have hmF : ∀ k9 ∈ Pk.filter (fun k => !(k % (2 * N) == j)), k9 ∈ Pk := fun k9 h9 => (List.mem_filter.mp h9).1
            obtain ⟨k1, w1, x1, b1, b2, b3, b4, b5, b6⟩ := zhf_push1 i6 (by rw [← ef2]; exact nd1.filter _) (fun j9 h9 => hltC j9 (hmemC j9 (by rw [List.mem_append] at h9 ⊢; exact h9.imp (hmF j9) id))) g1 g2x g3 hnx
            have hk1P := hmF k1 b1
            have hk1 := H.1 j k1 (hmemC k1 (by simp [hk1P]))
            refine z_aload X 11 dJ9_resize_290 zref.r rfl ?_
            refine z_aload X 7 dJ9_resize_292 zref.r rfl ?_
            refine z_put X zP13 3 (by decide) q832 (Or.inl rfl) rfl b5 (by omega) (by omega) (zfits.o zref.r) (Nat.le_of_ble_eq_true rfl) rfl dJ9_resize_294 ?_
            refine z_nm fun h7 E7 => ?_
            refine z_aload X 7 dJ9_resize_297 zref.r rfl ?_
            refine z_astore X (lv' := [(12, .ref q), (13, nx), (0, .ref a), (1, .ref T), (2, .int (nI N)), (4, .int (nI (2 * N))), (6, .ref T1), (7, .int (nI j)), (8, .ref q), (9, lh), (10, lt), (11, hh)]) dJ9_resize_299 zref.r (by decide) rfl ?_
            refine z_lvp (lv' := [(0, .ref a), (1, .ref T), (2, .int (nI N)), (4, .int (nI (2 * N))), (6, .ref T1), (7, .int (nI j)), (8, .ref q), (9, lh), (10, lt), (11, hh), (12, .ref q), (13, nx)]) [2, 3, 4, 5, 6, 7, 8, 9, 10, 11, 0, 1] rfl ?_
            exact J301 h7 lh lt hh (.ref q) (g4.up E7 b5 (fun k9 h9 w9 n9 => znd_ne hk1.2.1 (hltC k9 (by rw [hP2]; simp [h9])) (fun z => nd3 k1 (by simp [hk1P]) k9 h9 z))) (i4.node H hk1.2.1 hk1.2.2.1 (by omega) E7 b5) (by rw [ef1]; exact i5.up E7 b5 (fun k9 h9 w9 n9 => znd_ne hk1.2.1 (hltC k9 (hmemC k9 (by simp [(List.mem_filter.mp h9).1]))) (fun z => by have z2 := (List.mem_filter.mp h9).2; have z3 := (List.mem_filter.mp b1).2; rw [z] at z3; simp_all))) (by rw [ef2]; exact b6 h7 E7) (i7.up E7 b5 rfl)
          · rw [c60] at i6
            refine z_aload X 7 dJ9_resize_283 zref.r rfl ?_
            refine z_astore X (lv' := [(11, .ref q), (13, nx), (0, .ref a), (1, .ref T), (2, .int (nI N)), (4, .int (nI (2 * N))), (6, .ref T1), (7, .int (nI j)), (8, .ref q), (9, lh), (10, lt), (12, ht2)]) dJ9_resize_285 zref.r (by decide) rfl ?_
            refine z_goto X 297 dJ9_resize_287 (by decide) ?_
            refine z_aload X 8 dJ9_resize_297 zref.r rfl ?_
            refine z_astore X (lv' := [(12, .ref q), (11, .ref q), (13, nx), (0, .ref a), (1, .ref T), (2, .int (nI N)), (4, .int (nI (2 * N))), (6, .ref T1), (7, .int (nI j)), (8, .ref q), (9, lh), (10, lt)]) dJ9_resize_299 zref.r (by decide) rfl ?_
            refine z_lvp (lv' := [(0, .ref a), (1, .ref T), (2, .int (nI N)), (4, .int (nI (2 * N))), (6, .ref T1), (7, .int (nI j)), (8, .ref q), (9, lh), (10, lt), (11, .ref q), (12, .ref q), (13, nx)]) [3, 4, 5, 6, 7, 8, 9, 10, 11, 1, 0, 2] rfl ?_
            exact J301 h4 lh lt (.ref q) (.ref q) g4 i4 (by rw [ef1]; exact i5) (by rw [ef2]; exact zhf_push0 i6 g1 g2x g3 hnx) i7
        · have hpk : k % (2 * N) = j := by have z := (zlo hN3 k hk.2.1).mp c59; rw [z, hk.2.2.1]
          have ef1 : (Pk ++ [k]).filter (fun k => k % (2 * N) == j) = Pk.filter (fun k => k % (2 * N) == j) ++ [k] := by rw [List.filter_append]; simp [hpk]
          have ef2 : (Pk ++ [k]).filter (fun k => !(k % (2 * N) == j)) = Pk.filter (fun k => !(k % (2 * N) == j)) := by rw [List.filter_append]; simp [hpk]
          refine z_aload X 9 dJ9_resize_252 i5.zr.2 rfl ?_
          refine z_ifnonnull X 264 dJ9_resize_254 (by decide) i5.zr.2 (fun a63 c62 => ?_) (fun c62 => ?_)
          · rw [c62] at i5
            refine z_lv (lv' := [(13, nx), (0, .ref a), (1, .ref T), (2, .int (nI N)), (4, .int (nI (2 * N))), (6, .ref T1), (7, .int (nI j)), (8, .ref q), (9, lh), (10, .ref a63), (11, hh), (12, ht2)]) (by intro x9 h9; rw [c62]; exact h9) ?_
            have hmF : ∀ k9 ∈ Pk.filter (fun k => k % (2 * N) == j), k9 ∈ Pk := fun k9 h9 => (List.mem_filter.mp h9).1
            obtain ⟨k1, w1, x1, b1, b2, b3, b4, b5, b6⟩ := zhf_push1 i5 (by rw [← ef1]; exact nd1.filter _) (fun j9 h9 => hltC j9 (hmemC j9 (by rw [List.mem_append] at h9 ⊢; exact h9.imp (hmF j9) id))) g1 g2x g3 hnx
            have hk1P := hmF k1 b1
            have hk1 := H.1 j k1 (hmemC k1 (by simp [hk1P]))
            refine z_aload X 9 dJ9_resize_264 zref.r rfl ?_
            refine z_aload X 7 dJ9_resize_266 zref.r rfl ?_
            refine z_put X zP13 3 (by decide) q832 (Or.inl rfl) rfl b5 (by omega) (by omega) (zfits.o zref.r) (Nat.le_of_ble_eq_true rfl) rfl dJ9_resize_268 ?_
            refine z_nm fun h7 E7 => ?_
            refine z_aload X 7 dJ9_resize_271 zref.r rfl ?_
            refine z_astore X (lv' := [(10, .ref q), (13, nx), (0, .ref a), (1, .ref T), (2, .int (nI N)), (4, .int (nI (2 * N))), (6, .ref T1), (7, .int (nI j)), (8, .ref q), (9, lh), (11, hh), (12, ht2)]) dJ9_resize_273 zref.r (by decide) rfl ?_
            refine z_goto X 301 dJ9_resize_275 (by decide) ?_
            refine z_lvp (lv' := [(0, .ref a), (1, .ref T), (2, .int (nI N)), (4, .int (nI (2 * N))), (6, .ref T1), (7, .int (nI j)), (8, .ref q), (9, lh), (10, .ref q), (11, hh), (12, ht2), (13, nx)]) [2, 3, 4, 5, 6, 7, 8, 9, 0, 10, 11, 1] rfl ?_
            exact J301 h7 lh (.ref q) hh ht2 (g4.up E7 b5 (fun k9 h9 w9 n9 => znd_ne hk1.2.1 (hltC k9 (by rw [hP2]; simp [h9])) (fun z => nd3 k1 (by simp [hk1P]) k9 h9 z))) (i4.node H hk1.2.1 hk1.2.2.1 (by omega) E7 b5) (by rw [ef1]; exact b6 h7 E7) (by rw [ef2]; exact i6.up E7 b5 (fun k9 h9 w9 n9 => znd_ne hk1.2.1 (hltC k9 (hmemC k9 (by simp [(List.mem_filter.mp h9).1]))) (fun z => by have z2 := (List.mem_filter.mp h9).2; have z3 := (List.mem_filter.mp b1).2; rw [z] at z3; simp_all))) (i7.up E7 b5 rfl)
          · rw [c62] at i5
            refine z_aload X 7 dJ9_resize_257 zref.r rfl ?_
            refine z_astore X (lv' := [(9, .ref q), (13, nx), (0, .ref a), (1, .ref T), (2, .int (nI N)), (4, .int (nI (2 * N))), (6, .ref T1), (7, .int (nI j)), (8, .ref q), (10, lt), (11, hh), (12, ht2)]) dJ9_resize_259 zref.r (by decide) rfl ?_
            refine z_goto X 271 dJ9_resize_261 (by decide) ?_
            refine z_aload X 8 dJ9_resize_271 zref.r rfl ?_
            refine z_astore X (lv' := [(10, .ref q), (9, .ref q), (13, nx), (0, .ref a), (1, .ref T), (2, .int (nI N)), (4, .int (nI (2 * N))), (6, .ref T1), (7, .int (nI j)), (8, .ref q), (11, hh), (12, ht2)]) dJ9_resize_273 zref.r (by decide) rfl ?_
            refine z_goto X 301 dJ9_resize_275 (by decide) ?_
            refine z_lvp (lv' := [(0, .ref a), (1, .ref T), (2, .int (nI N)), (4, .int (nI (2 * N))), (6, .ref T1), (7, .int (nI j)), (8, .ref q), (9, .ref q), (10, .ref q), (11, hh), (12, ht2), (13, nx)]) [3, 4, 5, 6, 7, 8, 9, 1, 0, 10, 11, 2] rfl ?_
            exact J301 h4 (.ref q) (.ref q) hh ht2 g4 i4 (by rw [ef1]; exact zhf_push0 (i5) g1 g2x g3 hnx) (by rw [ef2]; exact i6) i7
      · rw [c50] at g4
        have hL0 := g4.null
        subst hL0
        refine z_aload X 5 dJ9_resize_180 zref.r rfl ?_
        refine z_aload X 0 dJ9_resize_182 zref.r rfl ?_
        refine z_get X zP13 0 (by decide) q819 (Or.inl rfl) g3 (by omega) rfl dJ9_resize_184 ?_
        refine z_iload X 4 dJ9_resize_187 rfl ?_
        refine z_iconst X (nI 1) dJ9_resize_189 (by decide) ?_
        refine z_isub X (nI ((2 * N) - 1)) dJ9_resize_190 (pk_sub (by omega)) ?_
        refine z_iand X ((nI k) &&& (nI ((2 * N) - 1))) dJ9_resize_191 rfl ?_
        refine z_aload X 0 dJ9_resize_192 zref.r rfl ?_
        obtain ⟨f1, f2, f3, f4, f5, f6, f7, f8, f9⟩ := id F3
        have hix : nI k &&& nI (2 * N - 1) = nI (k % (2 * N)) := by rw [Int32.and_comm]; exact zix_k hNs2 k hk.2.1
        have hkN : k % (2 * N) < 2 * N := Nat.mod_lt _ (by omega)
        have hkj : k % (2 * N) = j ∨ k % (2 * N) = j + N := by
          have z1 : k % (2 * N) % N = k % N := Nat.mod_mod_of_dvd k (Nat.dvd_mul_left N 2)
          rcases Nat.lt_or_ge (k % (2 * N)) N with z2 | z2
          · rw [Nat.mod_eq_of_lt z2] at z1; exact Or.inl (z1.trans hk.2.2.1)
          · rw [Nat.mod_eq_sub_mod z2, Nat.mod_eq_of_lt (by omega)] at z1; omega
        refine z_st (st' := [.ref a49, .int (nI (k % (2 * N))), .ref T1]) (by rw [hix]) ?_
        refine z_aast X (k % (2 * N)) f5 rfl (by decide) (by omega) (by omega) g3 (by omega) rfl (Or.inl rfl) rfl hkN (by omega) (f' := zuf gn (k % (2 * N)) (.ref a49)) (fun _ => rfl) dJ9_resize_194 ?_
        refine z_nm fun h8 E8 => ?_
        refine z_goto X 347 dJ9_resize_195 (by decide) ?_
        refine z_lvp (lv' := [(0, .ref a), (1, .ref T), (2, .int (nI N)), (4, .int (nI (2 * N))), (6, .ref T1), (7, .int (nI j))]) [1, 2, 3, 4, 5, 6] rfl ?_
        have hch8 := hch3.up E8 f5 (by simp [znd])
        have hlo := zC2_lo (C := C) hjN
        have hhi := zC2_hi H hjN
        rw [hL] at hch8 hlo hhi
        have zf1 : k % (2 * N) = j → [k].filter (fun k => k % (2 * N) == j) = [k] ∧ [k].filter (fun k => !(k % (2 * N) == j)) = [] := fun z => by simp [z]
        have zf2 : k % (2 * N) = j + N → [k].filter (fun k => k % (2 * N) == j) = [] ∧ [k].filter (fun k => !(k % (2 * N) == j)) = [k] := fun z => by simp [show ¬ k % (2 * N) = j from by omega]
        refine J347 h8 _ _ (F3.new hjN hkj E8) ?_ ?_ (O3.up E8 f5 rfl)
        · rw [hlo]
          rcases hkj with z | z
          · rw [(zf1 z).1, z, show zuf gn j (.ref a49) j = .ref a49 from if_pos rfl]; exact hch8
          · rw [(zf2 z).1, z, show zuf gn (j + N) (.ref a49) j = gn j from if_neg (by omega), hg1]; rfl
        · rw [hhi]
          rcases hkj with z | z
          · rw [(zf1 z).2, z, show zuf gn j (.ref a49) (j + N) = gn (j + N) from if_neg (by omega), hg2]; rfl
          · rw [(zf2 z).2, z, show zuf gn (j + N) (.ref a49) (j + N) = .ref a49 from if_pos rfl]; exact hch8
