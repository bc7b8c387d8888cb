set_option maxRecDepth 100000
theorem ZWF.df {S : ZS} (F : ZWF S) {l : Nat → Int32} {n m d : Nat} {x : Int32} (h : fnd S l n m x = some d) (hm : m < 12) (hl : ∀ p, p < n → zn (l p) < 12) : d < 240 ∧ zn (S 6 d) < 6 ∧ zn (S 4 d) < 2 ∧ (S 4 d = 0 → zn (S 5 d) < 100) ∧ d / 20 < 12 ∧ (d / 20 = m ∨ ∃ p, p < n ∧ zn (l p) = d / 20) := by
  obtain ⟨m', h1, h2⟩ := fnd_is h
  obtain ⟨a1, a2, a3, a4, a5, a6⟩ := F.ds h2
  have hm' : m' < 12 := by
    rcases h1 with z | ⟨p, hp, z⟩
    · omega
    · have := hl p hp; omega
  refine ⟨by omega, a3, a4, a5, by omega, ?_⟩
  rcases h1 with z | ⟨p, hp, z⟩
  · exact Or.inl (by omega)
  · exact Or.inr ⟨p, hp, by omega⟩
theorem lkC_lt {S : ZS} {m : Nat} {x : Int32} {f : Bool} : lkC S m x f < 3 := by
  unfold lkC
  split
  · split <;> decide
  · split <;> decide
theorem lk1_code {S : ZS} {m : Nat} {s x : Int32} {f : Bool} {r : Nat × Nat × Int32 × Int32} (h : lk1 S m s x f = some r) : 0 < r.1 ∧ r.1 < 3 ∧ r.2.1 = m := by
  unfold lk1 at h
  split at h
  · cases h
  · rename_i hn
    cases h
    exact ⟨Nat.pos_of_ne_zero hn, lkC_lt, rfl⟩
theorem lkS_code {S : ZS} {m : Nat} : ∀ {s : Nat} {r : Nat × Nat × Int32 × Int32}, lkS S m s = some r → 0 < r.1 ∧ r.1 < 3 ∧ r.2.1 = m
  | 0, r, h => by
    simp only [lkS] at h
    split at h
    · cases h
    · exact lk1_code h
  | s + 1, r, h => by
    simp only [lkS] at h
    split at h
    · rename_i q hq; cases h; exact lkS_code hq
    · split at h
      · cases h
      · exact lk1_code h
theorem lkS_stay {S : ZS} {m s : Nat} {r : Nat × Nat × Int32 × Int32} (h : lkS S m s = some r) : ∀ j, lkS S m (s + j) = some r
  | 0 => h
  | j + 1 => by show lkS S m (s + j + 1) = some r; simp only [lkS]; rw [lkS_stay h j]
theorem lkS_le {S : ZS} {m s n : Nat} {r : Nat × Nat × Int32 × Int32} (h : lkS S m s = some r) (hl : s ≤ n) : lkS S m n = some r := by
  have := lkS_stay h (n - s)
  rwa [show s + (n - s) = n from by omega] at this
theorem lkS_none {S : ZS} {m s : Nat} (h : lkS S m s = none) (hu : lkU S m s = none) : lkS S m (s + 1) = none := by simp only [lkS]; rw [h]; simp only; rw [hu]
theorem lkS_use {S : ZS} {m s : Nat} {x : Int32} {f : Bool} (h : lkS S m s = none) (hu : lkU S m s = some (x, f)) : lkS S m (s + 1) = lk1 S m (nI s) x f := by simp only [lkS]; rw [h]; simp only; rw [hu]
theorem lkM_stay {S : ZS} {l : Nat → Int32} {p : Nat} {r : Nat × Nat × Int32 × Int32} (h : lkM S l p = some r) : ∀ j, lkM S l (p + j) = some r
  | 0 => h
  | j + 1 => by show lkM S l (p + j + 1) = some r; simp only [lkM]; rw [lkM_stay h j]
theorem lkM_le {S : ZS} {l : Nat → Int32} {p n : Nat} {r : Nat × Nat × Int32 × Int32} (h : lkM S l p = some r) (hl : p ≤ n) : lkM S l n = some r := by
  have := lkM_stay h (n - p)
  rwa [show p + (n - p) = n from by omega] at this
theorem lkM_succ {S : ZS} {l : Nat → Int32} {p : Nat} (h : lkM S l p = none) : lkM S l (p + 1) = lkS S (zn (l p)) (zn (S 9 (zn (l p)))) := by simp only [lkM]; rw [h]
theorem lkU_7 {S : ZS} {m s : Nat} (h : zn (S 8 (4 * (100 * m + s))) = 7) : lkU S m s = some (S 8 (4 * (100 * m + s) + 1), true) := by
  unfold lkU; rw [zop_is h]; rfl
theorem lkU_8 {S : ZS} {m s : Nat} (h : zn (S 8 (4 * (100 * m + s))) = 8) : lkU S m s = some (S 8 (4 * (100 * m + s) + 2), false) := by
  unfold lkU; rw [zop_is h]; rfl
theorem lkU_9 {S : ZS} {m s : Nat} (h : zn (S 8 (4 * (100 * m + s))) = 9) : lkU S m s = some (S 8 (4 * (100 * m + s) + 1), false) := by
  unfold lkU; rw [zop_is h]; rfl
theorem lkU_10 {S : ZS} {m s : Nat} (h : zn (S 8 (4 * (100 * m + s))) = 10) : lkU S m s = some (S 8 (4 * (100 * m + s) + 2), true) := by
  unfold lkU; rw [zop_is h]; rfl
theorem lkU_no {S : ZS} {m s : Nat} (h : zn (S 8 (4 * (100 * m + s))) ≤ 6 ∨ 11 ≤ zn (S 8 (4 * (100 * m + s)))) : lkU S m s = none := by
  unfold lkU
  simp only [zeq_iff, zc7, zc8, zc9, zc10]
  rw [if_neg (by omega), if_neg (by omega)]
/-- the name of a use is a name -/
theorem ZWF.us {S : ZS} (F : ZWF S) {m s : Nat} (hs : s < zn (S 9 m)) : (zn (S 8 (4 * (100 * m + s))) = 7 ∨ zn (S 8 (4 * (100 * m + s))) = 9 → zn (S 8 (4 * (100 * m + s) + 1)) < 64) ∧ (zn (S 8 (4 * (100 * m + s))) = 8 ∨ zn (S 8 (4 * (100 * m + s))) = 10 → zn (S 8 (4 * (100 * m + s) + 2)) < 64) := by
  have h := F.so m s hs
  refine ⟨fun z => ?_, fun z => ?_⟩
  · rcases z with z | z
    · rw [zop_is z] at h; exact zg_7.mp h
    · rw [zop_is z] at h; exact (zg_9.mp h).1
  · rcases z with z | z
    · rw [zop_is z] at h; exact (zg_8.mp h).2
    · rw [zop_is z] at h; exact (zg_10.mp h).2
theorem zld_no {S : ZS} {x : Int32} (h : zld S x = false) (hL : S 12 0 ≠ 0) : plL S (zn x) (zn (S 15 0)) = none := plL_none (fun p hp z => by
  have := zld_iff.mpr ⟨hL, p, hp, zn_inj z⟩
  rw [h] at this; cases this)
set_option maxHeartbeats 2000000 in
theorem c_X7_usesCall {l : Launch} {G : ZG} {h : ZH} {E : Nat → Nat} {S : ZS} {m x : Nat} (D : MD E S h) (F : ZWF S) (hm : m < 12) (hx : x < 64) : ZM l G yX7_usesCall (ws_ yX7_usesCall cX7_usesCall 6 (Option.some FieldType.boolean)) (zRm 0 0 0 0) [.ref (E 0), .int (nI m), .int (nI x)] h (fun v h' => ((zuse S m x = true ∧ v = some (.int 1)) ∨ (¬ (zuse S m x = true) ∧ v = some (.int 0))) ∧ h = h') := by
  refine ZT.zm (ZT.of (by first | exact plainFor_of_name (by decide) | decide +kernel) (Nat.le_of_ble_eq_true rfl) (zcats.r zref.r (zcats.i (zcats.i zcats.nil))) ?_)
  intro p_ e_ s_ m_ args_ below_ meth_ c_ X hr hlk hin htab
  have X : ZX p_ m_ c_ cX7_usesCall 6 s_ args_ "LinkStationModel" G := X
  refine z_lv (lv' := [(0, .ref (E 0)), (1, .int (nI m)), (2, .int (nI x))]) (fun _ hq => hq) ?_
  have hs := F.sc m
  refine z_iconst X (nI 0) dX7_usesCall_0 (by decide) ?_
  refine z_istore_n X (lv' := [(3, .int (nI 0)), (0, .ref (E 0)), (1, .int (nI m)), (2, .int (nI x))]) dX7_usesCall_1 (by decide) rfl ?_
  refine z_iconst X (nI 0) dX7_usesCall_2 (by decide) ?_
  refine z_istore X (lv' := [(4, .int (nI 0)), (3, .int (nI 0)), (0, .ref (E 0)), (1, .int (nI m)), (2, .int (nI x))]) dX7_usesCall_3 (by decide) rfl ?_
  refine z_lvp (lv' := [(0, .ref (E 0)), (1, .int (nI m)), (2, .int (nI x)), (3, .int (nI 0)), (4, .int (nI 0))]) [2, 3, 4, 1, 0] rfl ?_
  refine z_loop (σ := Nat × Nat) (fun y => y.1 ≤ zn (S 9 m) ∧ y.2 < 2 ∧ (y.2 = 1 ↔ ∃ s, s < y.1 ∧ zn (S 8 (4 * (100 * m + s))) = 7 ∧ zn (S 8 (4 * (100 * m + s) + 1)) = x)) (fun y => zn (S 9 m) - y.1) (fun y => [(0, .ref (E 0)), (1, .int (nI m)), (2, .int (nI x)), (3, .int (nI y.2)), (4, .int (nI y.1))]) (fun y => []) (fun y => h) (fun y => 0) (fun y => 0) ?_ (0, 0) (⟨Nat.zero_le _, by decide, ⟨fun z => (by cases z), fun ⟨s, z, _⟩ => absurd z (Nat.not_lt_zero _)⟩⟩)
  intro ⟨k, b⟩ hI ih
  try dsimp only at hI
  try dsimp only at ih
  try dsimp only
  obtain ⟨i1, i2, i3⟩ := hI
  refine z_iload X 4 dX7_usesCall_5 rfl ?_
  refine z_aload_n X 0 dX7_usesCall_7 zref.r rfl ?_
  refine z_get X zP6 9 (by decide) q1572 (Or.inl rfl) D.1 (by decide) rfl dX7_usesCall_8 ?_
  refine z_iload_n X 1 dX7_usesCall_11 rfl ?_
  refine z_iald X (v := .int ((S 9) m)) m (D.2.1 9 rfl) (by decide) rfl (by show _ < 12; omega) (by decide) rfl dX7_usesCall_12 ?_
  refine z_icmpU_ge X k (zn ((S 9) m)) 68 dX7_usesCall_13 (by decide) rfl (nI_zn _).symm (by omega) (zn_lt _) (fun c6001 => ?_) (fun c6001 => ?_)
  · refine z_iload_n X 3 dX7_usesCall_68 rfl ?_
    have hz : zuse S m x = true ↔ b = 1 := by rw [i3, zuse_iff, show k = zn (S 9 m) from by omega]; simp only [zeq_iff, zc7, zn_nI (show x < 2 ^ 32 by omega)]
    rcases (show b = 0 ∨ b = 1 by omega) with z | z <;> subst z
    · exact z_zret X hr hlk (zfits.b0) dX7_usesCall_69 (by first | exact Nat.le_of_ble_eq_true rfl | (dsimp only [zRm]; omega) | omega) (by first | exact Nat.le_of_ble_eq_true rfl | (dsimp only [zRm]; omega) | omega) ⟨Or.inr ⟨fun z => absurd (hz.mp z) (by decide), rfl⟩, rfl⟩
    · exact z_zret X hr hlk (zfits.b1) dX7_usesCall_69 (by first | exact Nat.le_of_ble_eq_true rfl | (dsimp only [zRm]; omega) | omega) (by first | exact Nat.le_of_ble_eq_true rfl | (dsimp only [zRm]; omega) | omega) ⟨Or.inl ⟨hz.mpr rfl, rfl⟩, rfl⟩
  · refine z_iconst X (nI 4) dX7_usesCall_16 (by decide) ?_
    refine z_bipush X (nI 100) dX7_usesCall_17 (by decide) ?_
    refine z_iload_n X 1 dX7_usesCall_19 rfl ?_
    refine z_imul X (nI (100 * m)) dX7_usesCall_20 (zmul rfl rfl) ?_
    refine z_iload X 4 dX7_usesCall_21 rfl ?_
    refine z_iadd X (nI ((100 * m) + k)) dX7_usesCall_23 (zadd rfl rfl) ?_
    refine z_imul X (nI (4 * ((100 * m) + k))) dX7_usesCall_24 (zmul rfl rfl) ?_
    refine z_istore X (lv' := [(5, .int (nI (4 * ((100 * m) + k)))), (0, .ref (E 0)), (1, .int (nI m)), (2, .int (nI x)), (3, .int (nI b)), (4, .int (nI k))]) dX7_usesCall_25 (by decide) rfl ?_
    refine z_iload_n X 4 dX7_usesCall_27 rfl ?_
    refine z_ifU_ne X b 56 dX7_usesCall_28 (by decide) rfl (by omega) (fun c6002 => ?_) (fun c6002 => ?_)
    · refine z_iconst X (nI 1) dX7_usesCall_56 (by decide) ?_
      refine z_goto X 61 dX7_usesCall_57 (by decide) ?_
      refine z_istore_n X (lv' := [(3, .int (nI 1)), (5, .int (nI (4 * ((100 * m) + k)))), (0, .ref (E 0)), (1, .int (nI m)), (2, .int (nI x)), (4, .int (nI k))]) dX7_usesCall_61 (by decide) rfl ?_
      refine z_iinc X (lv' := [(4, .int (nI (k + 1))), (3, .int (nI 1)), (5, .int (nI (4 * ((100 * m) + k)))), (0, .ref (E 0)), (1, .int (nI m)), (2, .int (nI x))]) (nI (k + 1)) 5 dX7_usesCall_62 rfl (nI_1 _) (by decide) rfl ?_
      refine z_goto X 5 dX7_usesCall_65 (by decide) ?_
      refine z_lvp (lv' := [(0, .ref (E 0)), (1, .int (nI m)), (2, .int (nI x)), (3, .int (nI 1)), (4, .int (nI (k + 1)))]) [3, 4, 5, 1, 0] rfl ?_
      exact ih (k + 1, 1) ⟨by omega, show 1 < 2 by decide, ⟨fun _ => (by first | exact ⟨k, by omega, by omega, by omega⟩ | (obtain ⟨s, a1, a2, a3⟩ := i3.mp (by omega); exact ⟨s, by omega, a2, a3⟩)), fun _ => rfl⟩⟩ (by dsimp only; omega)
    · refine z_aload_n X 1 dX7_usesCall_31 zref.r rfl ?_
      refine z_get X zP6 8 (by decide) q1571 (Or.inl rfl) D.1 (by decide) rfl dX7_usesCall_32 ?_
      refine z_iload X 0 dX7_usesCall_35 rfl ?_
      refine z_iald X (v := .int ((S 8) (4 * ((100 * m) + k)))) (4 * ((100 * m) + k)) (D.2.1 8 rfl) (by decide) rfl (by show _ < 4800; omega) (by decide) rfl dX7_usesCall_37 ?_
      refine z_bipush X (nI 7) dX7_usesCall_38 (by decide) ?_
      refine z_icmpU_ne X (zn ((S 8) (4 * ((100 * m) + k)))) 7 60 dX7_usesCall_40 (by decide) (nI_zn _).symm rfl (zn_lt _) (by omega) (fun c6003 => ?_) (fun c6003 => ?_)
      · refine z_iconst X (nI 0) dX7_usesCall_60 (by decide) ?_
        refine z_istore_n X (lv' := [(3, .int (nI 0)), (5, .int (nI (4 * ((100 * m) + k)))), (0, .ref (E 0)), (1, .int (nI m)), (2, .int (nI x)), (4, .int (nI k))]) dX7_usesCall_61 (by decide) rfl ?_
        refine z_iinc X (lv' := [(4, .int (nI (k + 1))), (3, .int (nI 0)), (5, .int (nI (4 * ((100 * m) + k)))), (0, .ref (E 0)), (1, .int (nI m)), (2, .int (nI x))]) (nI (k + 1)) 5 dX7_usesCall_62 rfl (nI_1 _) (by decide) rfl ?_
        refine z_goto X 5 dX7_usesCall_65 (by decide) ?_
        refine z_lvp (lv' := [(0, .ref (E 0)), (1, .int (nI m)), (2, .int (nI x)), (3, .int (nI 0)), (4, .int (nI (k + 1)))]) [3, 4, 5, 1, 0] rfl ?_
        exact ih (k + 1, 0) ⟨by omega, show 0 < 2 by decide, ⟨fun z => absurd z (show ¬ 0 = 1 by decide), fun ⟨s, a1, a2, a3⟩ => (by by_cases z : s = k; subst z; omega; have := i3.mpr ⟨s, by omega, a2, a3⟩; omega)⟩⟩ (by dsimp only; omega)
      · refine z_aload_n X 1 dX7_usesCall_43 zref.r rfl ?_
        refine z_get X zP6 8 (by decide) q1571 (Or.inl rfl) D.1 (by decide) rfl dX7_usesCall_44 ?_
        refine z_iload X 0 dX7_usesCall_47 rfl ?_
        refine z_iconst X (nI 1) dX7_usesCall_49 (by decide) ?_
        refine z_iadd X (nI ((4 * ((100 * m) + k)) + 1)) dX7_usesCall_50 (zadd rfl rfl) ?_
        refine z_iald X (v := .int ((S 8) ((4 * ((100 * m) + k)) + 1))) ((4 * ((100 * m) + k)) + 1) (D.2.1 8 rfl) (by decide) rfl (by show _ < 4800; omega) (by decide) rfl dX7_usesCall_51 ?_
        refine z_iload_n X 3 dX7_usesCall_52 rfl ?_
        refine z_icmpU_ne X (zn ((S 8) ((4 * ((100 * m) + k)) + 1))) x 60 dX7_usesCall_53 (by decide) (nI_zn _).symm rfl (zn_lt _) (by omega) (fun c6004 => ?_) (fun c6004 => ?_)
        · refine z_iconst X (nI 0) dX7_usesCall_60 (by decide) ?_
          refine z_istore_n X (lv' := [(3, .int (nI 0)), (5, .int (nI (4 * ((100 * m) + k)))), (0, .ref (E 0)), (1, .int (nI m)), (2, .int (nI x)), (4, .int (nI k))]) dX7_usesCall_61 (by decide) rfl ?_
          refine z_iinc X (lv' := [(4, .int (nI (k + 1))), (3, .int (nI 0)), (5, .int (nI (4 * ((100 * m) + k)))), (0, .ref (E 0)), (1, .int (nI m)), (2, .int (nI x))]) (nI (k + 1)) 5 dX7_usesCall_62 rfl (nI_1 _) (by decide) rfl ?_
          refine z_goto X 5 dX7_usesCall_65 (by decide) ?_
          refine z_lvp (lv' := [(0, .ref (E 0)), (1, .int (nI m)), (2, .int (nI x)), (3, .int (nI 0)), (4, .int (nI (k + 1)))]) [3, 4, 5, 1, 0] rfl ?_
          exact ih (k + 1, 0) ⟨by omega, show 0 < 2 by decide, ⟨fun z => absurd z (show ¬ 0 = 1 by decide), fun ⟨s, a1, a2, a3⟩ => (by by_cases z : s = k; subst z; omega; have := i3.mpr ⟨s, by omega, a2, a3⟩; omega)⟩⟩ (by dsimp only; omega)
        · refine z_iconst X (nI 1) dX7_usesCall_56 (by decide) ?_
          refine z_goto X 61 dX7_usesCall_57 (by decide) ?_
          refine z_istore_n X (lv' := [(3, .int (nI 1)), (5, .int (nI (4 * ((100 * m) + k)))), (0, .ref (E 0)), (1, .int (nI m)), (2, .int (nI x)), (4, .int (nI k))]) dX7_usesCall_61 (by decide) rfl ?_
          refine z_iinc X (lv' := [(4, .int (nI (k + 1))), (3, .int (nI 1)), (5, .int (nI (4 * ((100 * m) + k)))), (0, .ref (E 0)), (1, .int (nI m)), (2, .int (nI x))]) (nI (k + 1)) 5 dX7_usesCall_62 rfl (nI_1 _) (by decide) rfl ?_
          refine z_goto X 5 dX7_usesCall_65 (by decide) ?_
          refine z_lvp (lv' := [(0, .ref (E 0)), (1, .int (nI m)), (2, .int (nI x)), (3, .int (nI 1)), (4, .int (nI (k + 1)))]) [3, 4, 5, 1, 0] rfl ?_
          exact ih (k + 1, 1) ⟨by omega, show 1 < 2 by decide, ⟨fun _ => (by first | exact ⟨k, by omega, by omega, by omega⟩ | (obtain ⟨s, a1, a2, a3⟩ := i3.mp (by omega); exact ⟨s, by omega, a2, a3⟩)), fun _ => rfl⟩⟩ (by dsimp only; omega)
set_option maxHeartbeats 4000000 in
theorem c_X7_look_1 {l : Launch} {G : ZG} {h : ZH} {E : Nat → Nat} {S : ZS} {m : Nat} {s0 x : Int32} (D : MD E S h) (F : ZWF S) (hm : m < 12) (hx : zn x < 64) (ht1 : zn (S 20 0) ≤ 12) (ht2 : ∀ p, p < zn (S 20 0) → zn (S 21 p) < 12) : ZM l G yX7_look (ws_ yX7_look cX7_look 7 (Option.some FieldType.int)) (zRm 2 0 0 60) [.ref (E 0), .int (nI m), .int s0, .int x, .int (nI 1)] h (fun v h' => v = some (.int (nI (lkC S m x true))) ∧ MD E (fltF S (lk1 S m s0 x true)) h' ∧ zOn zTM h h') := by
  refine ZT.zm (ZT.of (by first | exact plainFor_of_name (by decide) | decide +kernel) (Nat.le_of_ble_eq_true rfl) (zcats.r zref.r (zcats.i (zcats.i (zcats.i (zcats.i zcats.nil))))) ?_)
  intro p_ e_ s_ m_ args_ below_ meth_ c_ X hr hlk hin htab
  have X : ZX p_ m_ c_ cX7_look 7 s_ args_ "LinkStationModel" G := X
  refine z_lv (lv' := [(0, .ref (E 0)), (1, .int (nI m)), (2, .int s0), (3, .int x), (4, .int (nI 1))]) (fun _ hq => hq) ?_
  refine z_aload_n X 0 dX7_look_0 zref.r rfl ?_
  refine z_aload_n X 0 dX7_look_1 zref.r rfl ?_
  refine z_get X zP6 21 (by decide) q1584 (Or.inl rfl) D.1 (by decide) rfl dX7_look_2 ?_
  refine z_aload_n X 0 dX7_look_5 zref.r rfl ?_
  refine z_get X zP6 20 (by decide) q1583 (Or.inl rfl) (v := .int (S 20 0)) D.1 (by decide) rfl dX7_look_6 ?_
  refine z_iload_n X 1 dX7_look_9 rfl ?_
  refine z_iload_n X 3 dX7_look_10 rfl ?_
  refine z_st (st' := [.int x, .int (nI m), .int (nI (zn (S 20 0))), .ref (E 21), .ref (E 0)]) (by simp only [nI_zn]) ?_
  refine z_callV X (rest := []) (c_X7_find_21 D F (n := zn (S 20 0)) (m := m) (x := x) hm ht1 ht2) (cwV 4 (zXts X) (lw_V q1742 q1744 qs35 q65 q1745) rfl rfl rfl (by decide +kernel) ⟨Nat.le_of_ble_eq_true rfl, Nat.le_of_ble_eq_true rfl⟩) D.1 (by decide) rfl rfl (Nat.le_of_ble_eq_true rfl) ⟨(by first | exact Nat.le_of_ble_eq_true rfl | (dsimp only [zRm]; omega)), (by first | exact Nat.le_of_ble_eq_true rfl | (dsimp only [zRm]; omega))⟩ dX7_look_11 (fun v6005 h6006 p6007 => ?_)
  obtain ⟨rfl, rfl⟩ := p6007
  rcases hF6008 : fnd S (S 21) (zn (S 20 0)) m x with _ | d
  · refine z_st (st' := [.int (-1)]) rfl ?_
    refine z_istore X (lv' := [(5, .int (-1)), (0, .ref (E 0)), (1, .int (nI m)), (2, .int s0), (3, .int x), (4, .int (nI 1))]) dX7_look_14 (by decide) rfl ?_
    refine z_iload X 0 dX7_look_16 rfl ?_
    refine z_iconst X (-1) dX7_look_18 (by decide) ?_
    refine z_icmpU_ne X 4294967295 4294967295 44 dX7_look_19 (by decide) (by decide) (by decide) (by omega) (by omega) (fun c6009 => ?_) (fun c6009 => ?_)
    · omega
    · refine z_aload_n X 1 dX7_look_22 zref.r rfl ?_
      refine z_get X zP6 10 (by decide) q1573 (Or.inl rfl) D.1 (by decide) rfl dX7_look_23 ?_
      refine z_bipush X (nI 64) dX7_look_26 (by decide) ?_
      refine z_iload_n X 2 dX7_look_28 rfl ?_
      refine z_imul X (nI (64 * m)) dX7_look_29 (zmul rfl rfl) ?_
      refine z_iload_n X 4 dX7_look_30 rfl ?_
      refine z_iadd X (nI ((64 * m) + (zn x))) dX7_look_31 (zadd rfl (nI_zn _).symm) ?_
      refine z_zald X (v := .int ((S 10) ((64 * m) + (zn x)))) ((64 * m) + (zn x)) (D.2.1 10 rfl) (by decide) rfl (by show _ < 768; omega) (by decide) rfl dX7_look_32 ?_
      refine z_ifU_eq X (zn ((S 10) ((64 * m) + (zn x)))) 40 dX7_look_33 (by decide) (nI_zn _).symm (zn_lt _) (fun c6010 => ?_) (fun c6010 => ?_)
      · refine z_iconst X (nI 1) dX7_look_40 (by decide) ?_
        refine z_goto X 69 dX7_look_41 (by decide) ?_
        refine z_istore X (lv' := [(6, .int (nI 1)), (5, .int (-1)), (0, .ref (E 0)), (1, .int (nI m)), (2, .int s0), (3, .int x), (4, .int (nI 1))]) dX7_look_69 (by decide) rfl ?_
        refine z_iload X 0 dX7_look_71 rfl ?_
        refine z_ifU_le X 1 91 dX7_look_73 (by decide) rfl (by omega) (fun c6011 => ?_) (fun c6011 => ?_)
        · omega
        · refine z_aload_n X 2 dX7_look_76 zref.r rfl ?_
          refine z_iload_n X 3 dX7_look_77 rfl ?_
          refine z_put X zP6 25 (by decide) q1588 (Or.inl rfl) rfl D.1 (by decide) (by decide) (zfits.i _) (Nat.le_of_ble_eq_true rfl) rfl dX7_look_78 ?_
          refine z_nm fun h6012 e6013 => ?_
          have D6014 : MD E (zs0 S 25 (nI m)) h6012 := D.sF 25 (by decide) e6013
          have o6015 := zOn.up (zOn.rf (T := zTM) (h := h)) e6013 D.1 (by decide)
          refine z_aload_n X 2 dX7_look_81 zref.r rfl ?_
          refine z_iload_n X 4 dX7_look_82 rfl ?_
          refine z_put X zP6 26 (by decide) q1589 (Or.inl rfl) rfl D6014.1 (by decide) (by decide) (zfits.i _) (Nat.le_of_ble_eq_true rfl) rfl dX7_look_83 ?_
          refine z_nm fun h6016 e6017 => ?_
          have D6018 : MD E (zs0 (zs0 S 25 (nI m)) 26 s0) h6016 := D6014.sF 26 (by decide) e6017
          have o6019 := zOn.up o6015 e6017 D6014.1 (by decide)
          refine z_aload_n X 2 dX7_look_86 zref.r rfl ?_
          refine z_iload_n X 5 dX7_look_87 rfl ?_
          refine z_put X zP6 27 (by decide) q1590 (Or.inl rfl) rfl D6018.1 (by decide) (by decide) (zfits.i _) (Nat.le_of_ble_eq_true rfl) rfl dX7_look_88 ?_
          refine z_nm fun h6020 e6021 => ?_
          have D6022 : MD E (zs0 (zs0 (zs0 S 25 (nI m)) 26 s0) 27 x) h6020 := D6018.sF 27 (by decide) e6021
          have o6023 := zOn.up o6019 e6021 D6018.1 (by decide)
          refine z_iload X 0 dX7_look_91 rfl ?_
          have hC : lkC S m x true = 1 := (by unfold lkC; rw [hF6008]; first | exact if_pos (zn_inj (by show _ = 0; omega)) | exact if_neg (fun z => by simp only [zeq_iff, zc0] at z; omega))
          exact z_iret X hr hlk dX7_look_93 (by first | exact Nat.le_of_ble_eq_true rfl | (dsimp only [zRm]; omega) | omega) (by first | exact Nat.le_of_ble_eq_true rfl | (dsimp only [zRm]; omega) | omega) ⟨by rw [hC], by rw [lk1, hC]; exact D6022, o6023⟩
      · refine z_iconst X (nI 0) dX7_look_36 (by decide) ?_
        refine z_goto X 69 dX7_look_37 (by decide) ?_
        refine z_istore X (lv' := [(6, .int (nI 0)), (5, .int (-1)), (0, .ref (E 0)), (1, .int (nI m)), (2, .int s0), (3, .int x), (4, .int (nI 1))]) dX7_look_69 (by decide) rfl ?_
        refine z_iload X 0 dX7_look_71 rfl ?_
        refine z_ifU_le X 0 91 dX7_look_73 (by decide) rfl (by omega) (fun c6024 => ?_) (fun c6024 => ?_)
        · refine z_iload X 0 dX7_look_91 rfl ?_
          have hC : lkC S m x true = 0 := (by unfold lkC; rw [hF6008]; first | exact if_pos (zn_inj (by show _ = 0; omega)) | exact if_neg (fun z => by simp only [zeq_iff, zc0] at z; omega))
          exact z_iret X hr hlk dX7_look_93 (by first | exact Nat.le_of_ble_eq_true rfl | (dsimp only [zRm]; omega) | omega) (by first | exact Nat.le_of_ble_eq_true rfl | (dsimp only [zRm]; omega) | omega) ⟨by rw [hC], by rw [lk1, hC]; exact D, (zOn.rf (T := zTM) (h := h))⟩
        · omega
  · refine z_st (st' := [.int (nI d)]) rfl ?_
    obtain ⟨hF6008a, hF6008b, hF6008c, hF6008d, hF6008e, hF6008f⟩ := F.df hF6008 hm ht2
    refine z_istore X (lv' := [(5, .int (nI d)), (0, .ref (E 0)), (1, .int (nI m)), (2, .int s0), (3, .int x), (4, .int (nI 1))]) dX7_look_14 (by decide) rfl ?_
    refine z_iload X 0 dX7_look_16 rfl ?_
    refine z_iconst X (-1) dX7_look_18 (by decide) ?_
    refine z_icmpU_ne X d 4294967295 44 dX7_look_19 (by decide) rfl (by decide) (by omega) (by omega) (fun c6025 => ?_) (fun c6025 => ?_)
    · refine z_aload_n X 1 dX7_look_44 zref.r rfl ?_
      refine z_get X zP6 4 (by decide) q1567 (Or.inl rfl) D.1 (by decide) rfl dX7_look_45 ?_
      refine z_iload X 0 dX7_look_48 rfl ?_
      refine z_iald X (v := .int ((S 4) d)) d (D.2.1 4 rfl) (by decide) rfl (by show _ < 240; omega) (by decide) rfl dX7_look_50 ?_
      refine z_ifU_ne X (zn ((S 4) d)) 58 dX7_look_51 (by decide) (nI_zn _).symm (zn_lt _) (fun c6026 => ?_) (fun c6026 => ?_)
      · refine z_iconst X (nI 0) dX7_look_58 (by decide) ?_
        refine z_iload X 5 dX7_look_59 rfl ?_
        refine z_icmpU_ne X 0 1 68 dX7_look_61 (by decide) rfl rfl (by omega) (by omega) (fun c6027 => ?_) (fun c6027 => ?_)
        · refine z_iconst X (nI 2) dX7_look_68 (by decide) ?_
          refine z_istore X (lv' := [(6, .int (nI 2)), (5, .int (nI d)), (0, .ref (E 0)), (1, .int (nI m)), (2, .int s0), (3, .int x), (4, .int (nI 1))]) dX7_look_69 (by decide) rfl ?_
          refine z_iload X 0 dX7_look_71 rfl ?_
          refine z_ifU_le X 2 91 dX7_look_73 (by decide) rfl (by omega) (fun c6028 => ?_) (fun c6028 => ?_)
          · omega
          · refine z_aload_n X 2 dX7_look_76 zref.r rfl ?_
            refine z_iload_n X 3 dX7_look_77 rfl ?_
            refine z_put X zP6 25 (by decide) q1588 (Or.inl rfl) rfl D.1 (by decide) (by decide) (zfits.i _) (Nat.le_of_ble_eq_true rfl) rfl dX7_look_78 ?_
            refine z_nm fun h6029 e6030 => ?_
            have D6031 : MD E (zs0 S 25 (nI m)) h6029 := D.sF 25 (by decide) e6030
            have o6032 := zOn.up (zOn.rf (T := zTM) (h := h)) e6030 D.1 (by decide)
            refine z_aload_n X 2 dX7_look_81 zref.r rfl ?_
            refine z_iload_n X 4 dX7_look_82 rfl ?_
            refine z_put X zP6 26 (by decide) q1589 (Or.inl rfl) rfl D6031.1 (by decide) (by decide) (zfits.i _) (Nat.le_of_ble_eq_true rfl) rfl dX7_look_83 ?_
            refine z_nm fun h6033 e6034 => ?_
            have D6035 : MD E (zs0 (zs0 S 25 (nI m)) 26 s0) h6033 := D6031.sF 26 (by decide) e6034
            have o6036 := zOn.up o6032 e6034 D6031.1 (by decide)
            refine z_aload_n X 2 dX7_look_86 zref.r rfl ?_
            refine z_iload_n X 5 dX7_look_87 rfl ?_
            refine z_put X zP6 27 (by decide) q1590 (Or.inl rfl) rfl D6035.1 (by decide) (by decide) (zfits.i _) (Nat.le_of_ble_eq_true rfl) rfl dX7_look_88 ?_
            refine z_nm fun h6037 e6038 => ?_
            have D6039 : MD E (zs0 (zs0 (zs0 S 25 (nI m)) 26 s0) 27 x) h6037 := D6035.sF 27 (by decide) e6038
            have o6040 := zOn.up o6036 e6038 D6035.1 (by decide)
            refine z_iload X 0 dX7_look_91 rfl ?_
            have hC : lkC S m x true = 2 := (by first | (exfalso; omega) | skip; unfold lkC; rw [hF6008]; simp only [zeq_iff, zc0]; first | rw [if_pos (by simp; omega)] | rw [if_neg (by simp; omega)])
            exact z_iret X hr hlk dX7_look_93 (by first | exact Nat.le_of_ble_eq_true rfl | (dsimp only [zRm]; omega) | omega) (by first | exact Nat.le_of_ble_eq_true rfl | (dsimp only [zRm]; omega) | omega) ⟨by rw [hC], by rw [lk1, hC]; exact D6039, o6040⟩
        · omega
      · refine z_iconst X (nI 1) dX7_look_54 (by decide) ?_
        refine z_goto X 59 dX7_look_55 (by decide) ?_
        refine z_iload X 5 dX7_look_59 rfl ?_
        refine z_icmpU_ne X 1 1 68 dX7_look_61 (by decide) rfl rfl (by omega) (by omega) (fun c6041 => ?_) (fun c6041 => ?_)
        · omega
        · refine z_iconst X (nI 0) dX7_look_64 (by decide) ?_
          refine z_goto X 69 dX7_look_65 (by decide) ?_
          refine z_istore X (lv' := [(6, .int (nI 0)), (5, .int (nI d)), (0, .ref (E 0)), (1, .int (nI m)), (2, .int s0), (3, .int x), (4, .int (nI 1))]) dX7_look_69 (by decide) rfl ?_
          refine z_iload X 0 dX7_look_71 rfl ?_
          refine z_ifU_le X 0 91 dX7_look_73 (by decide) rfl (by omega) (fun c6042 => ?_) (fun c6042 => ?_)
          · refine z_iload X 0 dX7_look_91 rfl ?_
            have hC : lkC S m x true = 0 := (by first | (exfalso; omega) | skip; unfold lkC; rw [hF6008]; simp only [zeq_iff, zc0]; first | rw [if_pos (by simp; omega)] | rw [if_neg (by simp; omega)])
            exact z_iret X hr hlk dX7_look_93 (by first | exact Nat.le_of_ble_eq_true rfl | (dsimp only [zRm]; omega) | omega) (by first | exact Nat.le_of_ble_eq_true rfl | (dsimp only [zRm]; omega) | omega) ⟨by rw [hC], by rw [lk1, hC]; exact D, (zOn.rf (T := zTM) (h := h))⟩
          · omega
    · refine z_aload_n X 1 dX7_look_22 zref.r rfl ?_
      refine z_get X zP6 10 (by decide) q1573 (Or.inl rfl) D.1 (by decide) rfl dX7_look_23 ?_
      refine z_bipush X (nI 64) dX7_look_26 (by decide) ?_
      refine z_iload_n X 2 dX7_look_28 rfl ?_
      refine z_imul X (nI (64 * m)) dX7_look_29 (zmul rfl rfl) ?_
      refine z_iload_n X 4 dX7_look_30 rfl ?_
      refine z_iadd X (nI ((64 * m) + (zn x))) dX7_look_31 (zadd rfl (nI_zn _).symm) ?_
      refine z_zald X (v := .int ((S 10) ((64 * m) + (zn x)))) ((64 * m) + (zn x)) (D.2.1 10 rfl) (by decide) rfl (by show _ < 768; omega) (by decide) rfl dX7_look_32 ?_
      refine z_ifU_eq X (zn ((S 10) ((64 * m) + (zn x)))) 40 dX7_look_33 (by decide) (nI_zn _).symm (zn_lt _) (fun c6043 => ?_) (fun c6043 => ?_)
      · refine z_iconst X (nI 1) dX7_look_40 (by decide) ?_
        refine z_goto X 69 dX7_look_41 (by decide) ?_
        refine z_istore X (lv' := [(6, .int (nI 1)), (5, .int (nI d)), (0, .ref (E 0)), (1, .int (nI m)), (2, .int s0), (3, .int x), (4, .int (nI 1))]) dX7_look_69 (by decide) rfl ?_
        refine z_iload X 0 dX7_look_71 rfl ?_
        refine z_ifU_le X 1 91 dX7_look_73 (by decide) rfl (by omega) (fun c6044 => ?_) (fun c6044 => ?_)
        · omega
        · refine z_aload_n X 2 dX7_look_76 zref.r rfl ?_
          refine z_iload_n X 3 dX7_look_77 rfl ?_
          refine z_put X zP6 25 (by decide) q1588 (Or.inl rfl) rfl D.1 (by decide) (by decide) (zfits.i _) (Nat.le_of_ble_eq_true rfl) rfl dX7_look_78 ?_
          refine z_nm fun h6045 e6046 => ?_
          have D6047 : MD E (zs0 S 25 (nI m)) h6045 := D.sF 25 (by decide) e6046
          have o6048 := zOn.up (zOn.rf (T := zTM) (h := h)) e6046 D.1 (by decide)
          refine z_aload_n X 2 dX7_look_81 zref.r rfl ?_
          refine z_iload_n X 4 dX7_look_82 rfl ?_
          refine z_put X zP6 26 (by decide) q1589 (Or.inl rfl) rfl D6047.1 (by decide) (by decide) (zfits.i _) (Nat.le_of_ble_eq_true rfl) rfl dX7_look_83 ?_
          refine z_nm fun h6049 e6050 => ?_
          have D6051 : MD E (zs0 (zs0 S 25 (nI m)) 26 s0) h6049 := D6047.sF 26 (by decide) e6050
          have o6052 := zOn.up o6048 e6050 D6047.1 (by decide)
          refine z_aload_n X 2 dX7_look_86 zref.r rfl ?_
          refine z_iload_n X 5 dX7_look_87 rfl ?_
          refine z_put X zP6 27 (by decide) q1590 (Or.inl rfl) rfl D6051.1 (by decide) (by decide) (zfits.i _) (Nat.le_of_ble_eq_true rfl) rfl dX7_look_88 ?_
          refine z_nm fun h6053 e6054 => ?_
          have D6055 : MD E (zs0 (zs0 (zs0 S 25 (nI m)) 26 s0) 27 x) h6053 := D6051.sF 27 (by decide) e6054
          have o6056 := zOn.up o6052 e6054 D6051.1 (by decide)
          refine z_iload X 0 dX7_look_91 rfl ?_
          have hC : lkC S m x true = 1 := (by first | (exfalso; omega) | skip; unfold lkC; rw [hF6008]; simp only [zeq_iff, zc0]; first | rw [if_pos (by simp; omega)] | rw [if_neg (by simp; omega)])
          exact z_iret X hr hlk dX7_look_93 (by first | exact Nat.le_of_ble_eq_true rfl | (dsimp only [zRm]; omega) | omega) (by first | exact Nat.le_of_ble_eq_true rfl | (dsimp only [zRm]; omega) | omega) ⟨by rw [hC], by rw [lk1, hC]; exact D6055, o6056⟩
      · refine z_iconst X (nI 0) dX7_look_36 (by decide) ?_
        refine z_goto X 69 dX7_look_37 (by decide) ?_
        refine z_istore X (lv' := [(6, .int (nI 0)), (5, .int (nI d)), (0, .ref (E 0)), (1, .int (nI m)), (2, .int s0), (3, .int x), (4, .int (nI 1))]) dX7_look_69 (by decide) rfl ?_
        refine z_iload X 0 dX7_look_71 rfl ?_
        refine z_ifU_le X 0 91 dX7_look_73 (by decide) rfl (by omega) (fun c6057 => ?_) (fun c6057 => ?_)
        · refine z_iload X 0 dX7_look_91 rfl ?_
          have hC : lkC S m x true = 0 := (by first | (exfalso; omega) | skip; unfold lkC; rw [hF6008]; simp only [zeq_iff, zc0]; first | rw [if_pos (by simp; omega)] | rw [if_neg (by simp; omega)])
          exact z_iret X hr hlk dX7_look_93 (by first | exact Nat.le_of_ble_eq_true rfl | (dsimp only [zRm]; omega) | omega) (by first | exact Nat.le_of_ble_eq_true rfl | (dsimp only [zRm]; omega) | omega) ⟨by rw [hC], by rw [lk1, hC]; exact D, (zOn.rf (T := zTM) (h := h))⟩
        · omega
set_option maxHeartbeats 4000000 in
theorem c_X7_look_0 {l : Launch} {G : ZG} {h : ZH} {E : Nat → Nat} {S : ZS} {m : Nat} {s0 x : Int32} (D : MD E S h) (F : ZWF S) (hm : m < 12) (hx : zn x < 64) (ht1 : zn (S 20 0) ≤ 12) (ht2 : ∀ p, p < zn (S 20 0) → zn (S 21 p) < 12) : ZM l G yX7_look (ws_ yX7_look cX7_look 7 (Option.some FieldType.int)) (zRm 2 0 0 60) [.ref (E 0), .int (nI m), .int s0, .int x, .int (nI 0)] h (fun v h' => v = some (.int (nI (lkC S m x false))) ∧ MD E (fltF S (lk1 S m s0 x false)) h' ∧ zOn zTM h h') := by
  refine ZT.zm (ZT.of (by first | exact plainFor_of_name (by decide) | decide +kernel) (Nat.le_of_ble_eq_true rfl) (zcats.r zref.r (zcats.i (zcats.i (zcats.i (zcats.i zcats.nil))))) ?_)
  intro p_ e_ s_ m_ args_ below_ meth_ c_ X hr hlk hin htab
  have X : ZX p_ m_ c_ cX7_look 7 s_ args_ "LinkStationModel" G := X
  refine z_lv (lv' := [(0, .ref (E 0)), (1, .int (nI m)), (2, .int s0), (3, .int x), (4, .int (nI 0))]) (fun _ hq => hq) ?_
  refine z_aload_n X 0 dX7_look_0 zref.r rfl ?_
  refine z_aload_n X 0 dX7_look_1 zref.r rfl ?_
  refine z_get X zP6 21 (by decide) q1584 (Or.inl rfl) D.1 (by decide) rfl dX7_look_2 ?_
  refine z_aload_n X 0 dX7_look_5 zref.r rfl ?_
  refine z_get X zP6 20 (by decide) q1583 (Or.inl rfl) (v := .int (S 20 0)) D.1 (by decide) rfl dX7_look_6 ?_
  refine z_iload_n X 1 dX7_look_9 rfl ?_
  refine z_iload_n X 3 dX7_look_10 rfl ?_
  refine z_st (st' := [.int x, .int (nI m), .int (nI (zn (S 20 0))), .ref (E 21), .ref (E 0)]) (by simp only [nI_zn]) ?_
  refine z_callV X (rest := []) (c_X7_find_21 D F (n := zn (S 20 0)) (m := m) (x := x) hm ht1 ht2) (cwV 4 (zXts X) (lw_V q1742 q1744 qs35 q65 q1745) rfl rfl rfl (by decide +kernel) ⟨Nat.le_of_ble_eq_true rfl, Nat.le_of_ble_eq_true rfl⟩) D.1 (by decide) rfl rfl (Nat.le_of_ble_eq_true rfl) ⟨(by first | exact Nat.le_of_ble_eq_true rfl | (dsimp only [zRm]; omega)), (by first | exact Nat.le_of_ble_eq_true rfl | (dsimp only [zRm]; omega))⟩ dX7_look_11 (fun v6058 h6059 p6060 => ?_)
  obtain ⟨rfl, rfl⟩ := p6060
  rcases hF6061 : fnd S (S 21) (zn (S 20 0)) m x with _ | d
  · refine z_st (st' := [.int (-1)]) rfl ?_
    refine z_istore X (lv' := [(5, .int (-1)), (0, .ref (E 0)), (1, .int (nI m)), (2, .int s0), (3, .int x), (4, .int (nI 0))]) dX7_look_14 (by decide) rfl ?_
    refine z_iload X 0 dX7_look_16 rfl ?_
    refine z_iconst X (-1) dX7_look_18 (by decide) ?_
    refine z_icmpU_ne X 4294967295 4294967295 44 dX7_look_19 (by decide) (by decide) (by decide) (by omega) (by omega) (fun c6062 => ?_) (fun c6062 => ?_)
    · omega
    · refine z_aload_n X 1 dX7_look_22 zref.r rfl ?_
      refine z_get X zP6 10 (by decide) q1573 (Or.inl rfl) D.1 (by decide) rfl dX7_look_23 ?_
      refine z_bipush X (nI 64) dX7_look_26 (by decide) ?_
      refine z_iload_n X 2 dX7_look_28 rfl ?_
      refine z_imul X (nI (64 * m)) dX7_look_29 (zmul rfl rfl) ?_
      refine z_iload_n X 4 dX7_look_30 rfl ?_
      refine z_iadd X (nI ((64 * m) + (zn x))) dX7_look_31 (zadd rfl (nI_zn _).symm) ?_
      refine z_zald X (v := .int ((S 10) ((64 * m) + (zn x)))) ((64 * m) + (zn x)) (D.2.1 10 rfl) (by decide) rfl (by show _ < 768; omega) (by decide) rfl dX7_look_32 ?_
      refine z_ifU_eq X (zn ((S 10) ((64 * m) + (zn x)))) 40 dX7_look_33 (by decide) (nI_zn _).symm (zn_lt _) (fun c6063 => ?_) (fun c6063 => ?_)
      · refine z_iconst X (nI 1) dX7_look_40 (by decide) ?_
        refine z_goto X 69 dX7_look_41 (by decide) ?_
        refine z_istore X (lv' := [(6, .int (nI 1)), (5, .int (-1)), (0, .ref (E 0)), (1, .int (nI m)), (2, .int s0), (3, .int x), (4, .int (nI 0))]) dX7_look_69 (by decide) rfl ?_
        refine z_iload X 0 dX7_look_71 rfl ?_
        refine z_ifU_le X 1 91 dX7_look_73 (by decide) rfl (by omega) (fun c6064 => ?_) (fun c6064 => ?_)
        · omega
        · refine z_aload_n X 2 dX7_look_76 zref.r rfl ?_
          refine z_iload_n X 3 dX7_look_77 rfl ?_
          refine z_put X zP6 25 (by decide) q1588 (Or.inl rfl) rfl D.1 (by decide) (by decide) (zfits.i _) (Nat.le_of_ble_eq_true rfl) rfl dX7_look_78 ?_
          refine z_nm fun h6065 e6066 => ?_
          have D6067 : MD E (zs0 S 25 (nI m)) h6065 := D.sF 25 (by decide) e6066
          have o6068 := zOn.up (zOn.rf (T := zTM) (h := h)) e6066 D.1 (by decide)
          refine z_aload_n X 2 dX7_look_81 zref.r rfl ?_
          refine z_iload_n X 4 dX7_look_82 rfl ?_
          refine z_put X zP6 26 (by decide) q1589 (Or.inl rfl) rfl D6067.1 (by decide) (by decide) (zfits.i _) (Nat.le_of_ble_eq_true rfl) rfl dX7_look_83 ?_
          refine z_nm fun h6069 e6070 => ?_
          have D6071 : MD E (zs0 (zs0 S 25 (nI m)) 26 s0) h6069 := D6067.sF 26 (by decide) e6070
          have o6072 := zOn.up o6068 e6070 D6067.1 (by decide)
          refine z_aload_n X 2 dX7_look_86 zref.r rfl ?_
          refine z_iload_n X 5 dX7_look_87 rfl ?_
          refine z_put X zP6 27 (by decide) q1590 (Or.inl rfl) rfl D6071.1 (by decide) (by decide) (zfits.i _) (Nat.le_of_ble_eq_true rfl) rfl dX7_look_88 ?_
          refine z_nm fun h6073 e6074 => ?_
          have D6075 : MD E (zs0 (zs0 (zs0 S 25 (nI m)) 26 s0) 27 x) h6073 := D6071.sF 27 (by decide) e6074
          have o6076 := zOn.up o6072 e6074 D6071.1 (by decide)
          refine z_iload X 0 dX7_look_91 rfl ?_
          have hC : lkC S m x false = 1 := (by unfold lkC; rw [hF6061]; first | exact if_pos (zn_inj (by show _ = 0; omega)) | exact if_neg (fun z => by simp only [zeq_iff, zc0] at z; omega))
          exact z_iret X hr hlk dX7_look_93 (by first | exact Nat.le_of_ble_eq_true rfl | (dsimp only [zRm]; omega) | omega) (by first | exact Nat.le_of_ble_eq_true rfl | (dsimp only [zRm]; omega) | omega) ⟨by rw [hC], by rw [lk1, hC]; exact D6075, o6076⟩
      · refine z_iconst X (nI 0) dX7_look_36 (by decide) ?_
        refine z_goto X 69 dX7_look_37 (by decide) ?_
        refine z_istore X (lv' := [(6, .int (nI 0)), (5, .int (-1)), (0, .ref (E 0)), (1, .int (nI m)), (2, .int s0), (3, .int x), (4, .int (nI 0))]) dX7_look_69 (by decide) rfl ?_
        refine z_iload X 0 dX7_look_71 rfl ?_
        refine z_ifU_le X 0 91 dX7_look_73 (by decide) rfl (by omega) (fun c6077 => ?_) (fun c6077 => ?_)
        · refine z_iload X 0 dX7_look_91 rfl ?_
          have hC : lkC S m x false = 0 := (by unfold lkC; rw [hF6061]; first | exact if_pos (zn_inj (by show _ = 0; omega)) | exact if_neg (fun z => by simp only [zeq_iff, zc0] at z; omega))
          exact z_iret X hr hlk dX7_look_93 (by first | exact Nat.le_of_ble_eq_true rfl | (dsimp only [zRm]; omega) | omega) (by first | exact Nat.le_of_ble_eq_true rfl | (dsimp only [zRm]; omega) | omega) ⟨by rw [hC], by rw [lk1, hC]; exact D, (zOn.rf (T := zTM) (h := h))⟩
        · omega
  · refine z_st (st' := [.int (nI d)]) rfl ?_
    obtain ⟨hF6061a, hF6061b, hF6061c, hF6061d, hF6061e, hF6061f⟩ := F.df hF6061 hm ht2
    refine z_istore X (lv' := [(5, .int (nI d)), (0, .ref (E 0)), (1, .int (nI m)), (2, .int s0), (3, .int x), (4, .int (nI 0))]) dX7_look_14 (by decide) rfl ?_
    refine z_iload X 0 dX7_look_16 rfl ?_
    refine z_iconst X (-1) dX7_look_18 (by decide) ?_
    refine z_icmpU_ne X d 4294967295 44 dX7_look_19 (by decide) rfl (by decide) (by omega) (by omega) (fun c6078 => ?_) (fun c6078 => ?_)
    · refine z_aload_n X 1 dX7_look_44 zref.r rfl ?_
      refine z_get X zP6 4 (by decide) q1567 (Or.inl rfl) D.1 (by decide) rfl dX7_look_45 ?_
      refine z_iload X 0 dX7_look_48 rfl ?_
      refine z_iald X (v := .int ((S 4) d)) d (D.2.1 4 rfl) (by decide) rfl (by show _ < 240; omega) (by decide) rfl dX7_look_50 ?_
      refine z_ifU_ne X (zn ((S 4) d)) 58 dX7_look_51 (by decide) (nI_zn _).symm (zn_lt _) (fun c6079 => ?_) (fun c6079 => ?_)
      · refine z_iconst X (nI 0) dX7_look_58 (by decide) ?_
        refine z_iload X 5 dX7_look_59 rfl ?_
        refine z_icmpU_ne X 0 0 68 dX7_look_61 (by decide) rfl rfl (by omega) (by omega) (fun c6080 => ?_) (fun c6080 => ?_)
        · omega
        · refine z_iconst X (nI 0) dX7_look_64 (by decide) ?_
          refine z_goto X 69 dX7_look_65 (by decide) ?_
          refine z_istore X (lv' := [(6, .int (nI 0)), (5, .int (nI d)), (0, .ref (E 0)), (1, .int (nI m)), (2, .int s0), (3, .int x), (4, .int (nI 0))]) dX7_look_69 (by decide) rfl ?_
          refine z_iload X 0 dX7_look_71 rfl ?_
          refine z_ifU_le X 0 91 dX7_look_73 (by decide) rfl (by omega) (fun c6081 => ?_) (fun c6081 => ?_)
          · refine z_iload X 0 dX7_look_91 rfl ?_
            have hC : lkC S m x false = 0 := (by first | (exfalso; omega) | skip; unfold lkC; rw [hF6061]; simp only [zeq_iff, zc0]; first | rw [if_pos (by simp; omega)] | rw [if_neg (by simp; omega)])
            exact z_iret X hr hlk dX7_look_93 (by first | exact Nat.le_of_ble_eq_true rfl | (dsimp only [zRm]; omega) | omega) (by first | exact Nat.le_of_ble_eq_true rfl | (dsimp only [zRm]; omega) | omega) ⟨by rw [hC], by rw [lk1, hC]; exact D, (zOn.rf (T := zTM) (h := h))⟩
          · omega
      · refine z_iconst X (nI 1) dX7_look_54 (by decide) ?_
        refine z_goto X 59 dX7_look_55 (by decide) ?_
        refine z_iload X 5 dX7_look_59 rfl ?_
        refine z_icmpU_ne X 1 0 68 dX7_look_61 (by decide) rfl rfl (by omega) (by omega) (fun c6082 => ?_) (fun c6082 => ?_)
        · refine z_iconst X (nI 2) dX7_look_68 (by decide) ?_
          refine z_istore X (lv' := [(6, .int (nI 2)), (5, .int (nI d)), (0, .ref (E 0)), (1, .int (nI m)), (2, .int s0), (3, .int x), (4, .int (nI 0))]) dX7_look_69 (by decide) rfl ?_
          refine z_iload X 0 dX7_look_71 rfl ?_
          refine z_ifU_le X 2 91 dX7_look_73 (by decide) rfl (by omega) (fun c6083 => ?_) (fun c6083 => ?_)
          · omega
          · refine z_aload_n X 2 dX7_look_76 zref.r rfl ?_
            refine z_iload_n X 3 dX7_look_77 rfl ?_
            refine z_put X zP6 25 (by decide) q1588 (Or.inl rfl) rfl D.1 (by decide) (by decide) (zfits.i _) (Nat.le_of_ble_eq_true rfl) rfl dX7_look_78 ?_
            refine z_nm fun h6084 e6085 => ?_
            have D6086 : MD E (zs0 S 25 (nI m)) h6084 := D.sF 25 (by decide) e6085
            have o6087 := zOn.up (zOn.rf (T := zTM) (h := h)) e6085 D.1 (by decide)
            refine z_aload_n X 2 dX7_look_81 zref.r rfl ?_
            refine z_iload_n X 4 dX7_look_82 rfl ?_
            refine z_put X zP6 26 (by decide) q1589 (Or.inl rfl) rfl D6086.1 (by decide) (by decide) (zfits.i _) (Nat.le_of_ble_eq_true rfl) rfl dX7_look_83 ?_
            refine z_nm fun h6088 e6089 => ?_
            have D6090 : MD E (zs0 (zs0 S 25 (nI m)) 26 s0) h6088 := D6086.sF 26 (by decide) e6089
            have o6091 := zOn.up o6087 e6089 D6086.1 (by decide)
            refine z_aload_n X 2 dX7_look_86 zref.r rfl ?_
            refine z_iload_n X 5 dX7_look_87 rfl ?_
            refine z_put X zP6 27 (by decide) q1590 (Or.inl rfl) rfl D6090.1 (by decide) (by decide) (zfits.i _) (Nat.le_of_ble_eq_true rfl) rfl dX7_look_88 ?_
            refine z_nm fun h6092 e6093 => ?_
            have D6094 : MD E (zs0 (zs0 (zs0 S 25 (nI m)) 26 s0) 27 x) h6092 := D6090.sF 27 (by decide) e6093
            have o6095 := zOn.up o6091 e6093 D6090.1 (by decide)
            refine z_iload X 0 dX7_look_91 rfl ?_
            have hC : lkC S m x false = 2 := (by first | (exfalso; omega) | skip; unfold lkC; rw [hF6061]; simp only [zeq_iff, zc0]; first | rw [if_pos (by simp; omega)] | rw [if_neg (by simp; omega)])
            exact z_iret X hr hlk dX7_look_93 (by first | exact Nat.le_of_ble_eq_true rfl | (dsimp only [zRm]; omega) | omega) (by first | exact Nat.le_of_ble_eq_true rfl | (dsimp only [zRm]; omega) | omega) ⟨by rw [hC], by rw [lk1, hC]; exact D6094, o6095⟩
        · omega
    · refine z_aload_n X 1 dX7_look_22 zref.r rfl ?_
      refine z_get X zP6 10 (by decide) q1573 (Or.inl rfl) D.1 (by decide) rfl dX7_look_23 ?_
      refine z_bipush X (nI 64) dX7_look_26 (by decide) ?_
      refine z_iload_n X 2 dX7_look_28 rfl ?_
      refine z_imul X (nI (64 * m)) dX7_look_29 (zmul rfl rfl) ?_
      refine z_iload_n X 4 dX7_look_30 rfl ?_
      refine z_iadd X (nI ((64 * m) + (zn x))) dX7_look_31 (zadd rfl (nI_zn _).symm) ?_
      refine z_zald X (v := .int ((S 10) ((64 * m) + (zn x)))) ((64 * m) + (zn x)) (D.2.1 10 rfl) (by decide) rfl (by show _ < 768; omega) (by decide) rfl dX7_look_32 ?_
      refine z_ifU_eq X (zn ((S 10) ((64 * m) + (zn x)))) 40 dX7_look_33 (by decide) (nI_zn _).symm (zn_lt _) (fun c6096 => ?_) (fun c6096 => ?_)
      · refine z_iconst X (nI 1) dX7_look_40 (by decide) ?_
        refine z_goto X 69 dX7_look_41 (by decide) ?_
        refine z_istore X (lv' := [(6, .int (nI 1)), (5, .int (nI d)), (0, .ref (E 0)), (1, .int (nI m)), (2, .int s0), (3, .int x), (4, .int (nI 0))]) dX7_look_69 (by decide) rfl ?_
        refine z_iload X 0 dX7_look_71 rfl ?_
        refine z_ifU_le X 1 91 dX7_look_73 (by decide) rfl (by omega) (fun c6097 => ?_) (fun c6097 => ?_)
        · omega
        · refine z_aload_n X 2 dX7_look_76 zref.r rfl ?_
          refine z_iload_n X 3 dX7_look_77 rfl ?_
          refine z_put X zP6 25 (by decide) q1588 (Or.inl rfl) rfl D.1 (by decide) (by decide) (zfits.i _) (Nat.le_of_ble_eq_true rfl) rfl dX7_look_78 ?_
          refine z_nm fun h6098 e6099 => ?_
          have D6100 : MD E (zs0 S 25 (nI m)) h6098 := D.sF 25 (by decide) e6099
          have o6101 := zOn.up (zOn.rf (T := zTM) (h := h)) e6099 D.1 (by decide)
          refine z_aload_n X 2 dX7_look_81 zref.r rfl ?_
          refine z_iload_n X 4 dX7_look_82 rfl ?_
          refine z_put X zP6 26 (by decide) q1589 (Or.inl rfl) rfl D6100.1 (by decide) (by decide) (zfits.i _) (Nat.le_of_ble_eq_true rfl) rfl dX7_look_83 ?_
          refine z_nm fun h6102 e6103 => ?_
          have D6104 : MD E (zs0 (zs0 S 25 (nI m)) 26 s0) h6102 := D6100.sF 26 (by decide) e6103
          have o6105 := zOn.up o6101 e6103 D6100.1 (by decide)
          refine z_aload_n X 2 dX7_look_86 zref.r rfl ?_
          refine z_iload_n X 5 dX7_look_87 rfl ?_
          refine z_put X zP6 27 (by decide) q1590 (Or.inl rfl) rfl D6104.1 (by decide) (by decide) (zfits.i _) (Nat.le_of_ble_eq_true rfl) rfl dX7_look_88 ?_
          refine z_nm fun h6106 e6107 => ?_
          have D6108 : MD E (zs0 (zs0 (zs0 S 25 (nI m)) 26 s0) 27 x) h6106 := D6104.sF 27 (by decide) e6107
          have o6109 := zOn.up o6105 e6107 D6104.1 (by decide)
          refine z_iload X 0 dX7_look_91 rfl ?_
          have hC : lkC S m x false = 1 := (by first | (exfalso; omega) | skip; unfold lkC; rw [hF6061]; simp only [zeq_iff, zc0]; first | rw [if_pos (by simp; omega)] | rw [if_neg (by simp; omega)])
          exact z_iret X hr hlk dX7_look_93 (by first | exact Nat.le_of_ble_eq_true rfl | (dsimp only [zRm]; omega) | omega) (by first | exact Nat.le_of_ble_eq_true rfl | (dsimp only [zRm]; omega) | omega) ⟨by rw [hC], by rw [lk1, hC]; exact D6108, o6109⟩
      · refine z_iconst X (nI 0) dX7_look_36 (by decide) ?_
        refine z_goto X 69 dX7_look_37 (by decide) ?_
        refine z_istore X (lv' := [(6, .int (nI 0)), (5, .int (nI d)), (0, .ref (E 0)), (1, .int (nI m)), (2, .int s0), (3, .int x), (4, .int (nI 0))]) dX7_look_69 (by decide) rfl ?_
        refine z_iload X 0 dX7_look_71 rfl ?_
        refine z_ifU_le X 0 91 dX7_look_73 (by decide) rfl (by omega) (fun c6110 => ?_) (fun c6110 => ?_)
        · refine z_iload X 0 dX7_look_91 rfl ?_
          have hC : lkC S m x false = 0 := (by first | (exfalso; omega) | skip; unfold lkC; rw [hF6061]; simp only [zeq_iff, zc0]; first | rw [if_pos (by simp; omega)] | rw [if_neg (by simp; omega)])
          exact z_iret X hr hlk dX7_look_93 (by first | exact Nat.le_of_ble_eq_true rfl | (dsimp only [zRm]; omega) | omega) (by first | exact Nat.le_of_ble_eq_true rfl | (dsimp only [zRm]; omega) | omega) ⟨by rw [hC], by rw [lk1, hC]; exact D, (zOn.rf (T := zTM) (h := h))⟩
        · omega
set_option maxHeartbeats 8000000 in
theorem c_X7_lookAt {l : Launch} {G : ZG} {h : ZH} {E : Nat → Nat} {S : ZS} {m : Nat} (D : MD E S h) (F : ZWF S) (hm : m < 12) (hb : S 11 m = -1 ∨ zn (S 11 m) < 64) (ht1 : zn (S 20 0) ≤ 12) (ht2 : ∀ p, p < zn (S 20 0) → zn (S 21 p) < 12) : ZM l G yX7_lookAt (ws_ yX7_lookAt cX7_lookAt 6 (Option.some FieldType.int)) (zRm 3 0 0 90) [.ref (E 0), .int (nI m)] h (fun v h' => v = some (.int (fltC (lkS S m (zn (S 9 m))))) ∧ MD E (fltF S (lkS S m (zn (S 9 m)))) h' ∧ zOn zTM h h') := by
  refine ZT.zm (ZT.of (by first | exact plainFor_of_name (by decide) | decide +kernel) (Nat.le_of_ble_eq_true rfl) (zcats.r zref.r (zcats.i zcats.nil)) ?_)
  intro p_ e_ s_ m_ args_ below_ meth_ c_ X hr hlk hin htab
  have X : ZX p_ m_ c_ cX7_lookAt 6 s_ args_ "LinkStationModel" G := X
  refine z_lv (lv' := [(0, .ref (E 0)), (1, .int (nI m))]) (fun _ hq => hq) ?_
  have hs := F.sc m
  have rest : ∀ h1 : ZH, MD E (fltF S (lkS S m 0)) h1 → zOn zTM h h1 → Zw p_ l e_ (zRm 3 0 0 90) s_ m_ args_ below_ meth_ c_ G 6 (zEnd G (zRm 3 0 0 90) (fun v h' => v = some (.int (fltC (lkS S m (zn (S 9 m))))) ∧ MD E (fltF S (lkS S m (zn (S 9 m)))) h' ∧ zOn zTM h h') (fun _ _ _ => False) below_ args_ s_) 30 [(0, .ref (E 0)), (1, .int (nI m)), (2, .int (fltC (lkS S m 0))), (3, .int (nI 0))] [] h1 0 0 := by
    intro h1 D1 O1
    refine z_lvp (lv' := [(0, .ref (E 0)), (1, .int (nI m)), (2, .int (fltC (lkS S m 0))), (3, .int (nI 0))]) [0, 1, 2, 3] rfl ?_
    refine z_loop (σ := Nat × ZH) (fun y => y.1 ≤ zn (S 9 m) ∧ MD E (fltF S (lkS S m y.1)) y.2 ∧ zOn zTM h y.2) (fun y => zn (S 9 m) - y.1) (fun y => [(0, .ref (E 0)), (1, .int (nI m)), (2, .int (fltC (lkS S m y.1))), (3, .int (nI y.1))]) (fun y => []) (fun y => y.2) (fun y => 0) (fun y => 0) ?_ (0, h1) (⟨Nat.zero_le _, D1, O1⟩)
    intro ⟨k, h2⟩ hI ih
    try dsimp only at hI
    try dsimp only at ih
    try dsimp only
    obtain ⟨i1, i2, i3⟩ := hI
    rcases hL : lkS S m k with _ | r
    all_goals rw [hL] at i2
    · refine z_lv (lv' := [(0, .ref (E 0)), (1, .int (nI m)), (2, .int (nI 0)), (3, .int (nI k))]) (by intro x9 h9; exact h9) ?_
      have i2 : MD E S h2 := i2
      have ho9 := zn_lt (S 8 (4 * (100 * m + k)))
      refine z_iload_n X 3 dX7_lookAt_30 rfl ?_
      refine z_aload_n X 0 dX7_lookAt_31 zref.r rfl ?_
      refine z_get X zP6 9 (by decide) q1572 (Or.inl rfl) i2.1 (by decide) rfl dX7_lookAt_32 ?_
      refine z_iload_n X 1 dX7_lookAt_35 rfl ?_
      refine z_iald X (v := .int ((S 9) m)) m (i2.2.1 9 rfl) (by decide) rfl (by show _ < 12; omega) (by decide) rfl dX7_lookAt_36 ?_
      refine z_icmpU_ge X k (zn ((S 9) m)) 144 dX7_lookAt_37 (by decide) rfl (nI_zn _).symm (by omega) (zn_lt _) (fun c6111 => ?_) (fun c6111 => ?_)
      · refine z_iload_n X 2 dX7_lookAt_144 rfl ?_
        exact z_iret X hr hlk dX7_lookAt_145 (by first | exact Nat.le_of_ble_eq_true rfl | (dsimp only [zRm]; omega) | omega) (by first | exact Nat.le_of_ble_eq_true rfl | (dsimp only [zRm]; omega) | omega) ⟨by rw [show zn (S 9 m) = k from by omega, hL]; rfl, by rw [show zn (S 9 m) = k from by omega, hL]; exact i2, i3⟩
      · refine z_iload_n X 2 dX7_lookAt_40 rfl ?_
        refine z_ifU_ne X 0 144 dX7_lookAt_41 (by decide) rfl (by omega) (fun c6112 => ?_) (fun c6112 => ?_)
        · omega
        · refine z_iconst X (nI 4) dX7_lookAt_44 (by decide) ?_
          refine z_bipush X (nI 100) dX7_lookAt_45 (by decide) ?_
          refine z_iload_n X 1 dX7_lookAt_47 rfl ?_
          refine z_imul X (nI (100 * m)) dX7_lookAt_48 (zmul rfl rfl) ?_
          refine z_iload_n X 3 dX7_lookAt_49 rfl ?_
          refine z_iadd X (nI ((100 * m) + k)) dX7_lookAt_50 (zadd rfl rfl) ?_
          refine z_imul X (nI (4 * ((100 * m) + k))) dX7_lookAt_51 (zmul rfl rfl) ?_
          refine z_istore X (lv' := [(4, .int (nI (4 * ((100 * m) + k)))), (0, .ref (E 0)), (1, .int (nI m)), (2, .int (nI 0)), (3, .int (nI k))]) dX7_lookAt_52 (by decide) rfl ?_
          refine z_aload_n X 1 dX7_lookAt_54 zref.r rfl ?_
          refine z_get X zP6 8 (by decide) q1571 (Or.inl rfl) i2.1 (by decide) rfl dX7_lookAt_55 ?_
          refine z_iload X 0 dX7_lookAt_58 rfl ?_
          refine z_iald X (v := .int ((S 8) (4 * ((100 * m) + k)))) (4 * ((100 * m) + k)) (i2.2.1 8 rfl) (by decide) rfl (by show _ < 4800; omega) (by decide) rfl dX7_lookAt_60 ?_
          refine z_istore X (lv' := [(5, .int ((S 8) (4 * ((100 * m) + k)))), (4, .int (nI (4 * ((100 * m) + k)))), (0, .ref (E 0)), (1, .int (nI m)), (2, .int (nI 0)), (3, .int (nI k))]) dX7_lookAt_61 (by decide) rfl ?_
          refine z_iload X 0 dX7_lookAt_63 rfl ?_
          refine z_bipush X (nI 6) dX7_lookAt_65 (by decide) ?_
          refine z_icmpU_le X (zn ((S 8) (4 * ((100 * m) + k)))) 6 138 dX7_lookAt_67 (by decide) (nI_zn _).symm rfl (zn_lt _) (by omega) (fun c6113 => ?_) (fun c6113 => ?_)
          · refine z_iinc X (lv' := [(3, .int (nI (k + 1))), (5, .int ((S 8) (4 * ((100 * m) + k)))), (4, .int (nI (4 * ((100 * m) + k)))), (0, .ref (E 0)), (1, .int (nI m)), (2, .int (nI 0))]) (nI (k + 1)) 5 dX7_lookAt_138 rfl (nI_1 _) (by decide) rfl ?_
            refine z_goto X 30 dX7_lookAt_141 (by decide) ?_
            have hU : lkS S m (k + 1) = none := lkS_none hL (lkU_no (by omega))
            refine z_lvp (lv' := [(0, .ref (E 0)), (1, .int (nI m)), (2, .int (nI 0)), (3, .int (nI (k + 1)))]) [3, 4, 5, 0] rfl ?_
            refine z_lv (lv' := [(0, .ref (E 0)), (1, .int (nI m)), (2, .int (fltC (lkS S m (k + 1)))), (3, .int (nI (k + 1)))]) (by intro x9 h9; rw [hU] at h9; exact h9) ?_
            exact ih (k + 1, h2) ⟨by omega, by rw [hU]; exact i2, i3⟩ (by dsimp only; omega)
          · refine z_iload X 0 dX7_lookAt_70 rfl ?_
            refine z_bipush X (nI 11) dX7_lookAt_72 (by decide) ?_
            refine z_icmpU_ge X (zn ((S 8) (4 * ((100 * m) + k)))) 11 138 dX7_lookAt_74 (by decide) (nI_zn _).symm rfl (zn_lt _) (by omega) (fun c6114 => ?_) (fun c6114 => ?_)
            · refine z_iinc X (lv' := [(3, .int (nI (k + 1))), (5, .int ((S 8) (4 * ((100 * m) + k)))), (4, .int (nI (4 * ((100 * m) + k)))), (0, .ref (E 0)), (1, .int (nI m)), (2, .int (nI 0))]) (nI (k + 1)) 5 dX7_lookAt_138 rfl (nI_1 _) (by decide) rfl ?_
              refine z_goto X 30 dX7_lookAt_141 (by decide) ?_
              have hU : lkS S m (k + 1) = none := lkS_none hL (lkU_no (by omega))
              refine z_lvp (lv' := [(0, .ref (E 0)), (1, .int (nI m)), (2, .int (nI 0)), (3, .int (nI (k + 1)))]) [3, 4, 5, 0] rfl ?_
              refine z_lv (lv' := [(0, .ref (E 0)), (1, .int (nI m)), (2, .int (fltC (lkS S m (k + 1)))), (3, .int (nI (k + 1)))]) (by intro x9 h9; rw [hU] at h9; exact h9) ?_
              exact ih (k + 1, h2) ⟨by omega, by rw [hU]; exact i2, i3⟩ (by dsimp only; omega)
            · refine z_aload_n X 2 dX7_lookAt_77 zref.r rfl ?_
              refine z_iload_n X 3 dX7_lookAt_78 rfl ?_
              refine z_iload_n X 5 dX7_lookAt_79 rfl ?_
              refine z_iload X 0 dX7_lookAt_80 rfl ?_
              refine z_bipush X (nI 7) dX7_lookAt_82 (by decide) ?_
              refine z_icmpU_eq X (zn ((S 8) (4 * ((100 * m) + k)))) 7 94 dX7_lookAt_84 (by decide) (nI_zn _).symm rfl (zn_lt _) (by omega) (fun c6115 => ?_) (fun c6115 => ?_)
              · refine z_aload_n X 2 dX7_lookAt_94 zref.r rfl ?_
                refine z_get X zP6 8 (by decide) q1571 (Or.inl rfl) i2.1 (by decide) rfl dX7_lookAt_95 ?_
                refine z_iload X 1 dX7_lookAt_98 rfl ?_
                refine z_iconst X (nI 1) dX7_lookAt_100 (by decide) ?_
                refine z_iadd X (nI ((4 * ((100 * m) + k)) + 1)) dX7_lookAt_101 (zadd rfl rfl) ?_
                refine z_iald X (v := .int ((S 8) ((4 * ((100 * m) + k)) + 1))) ((4 * ((100 * m) + k)) + 1) (i2.2.1 8 rfl) (by decide) rfl (by show _ < 4800; omega) (by decide) rfl dX7_lookAt_102 ?_
                refine z_goto X 115 dX7_lookAt_103 (by decide) ?_
                refine z_iload X 0 dX7_lookAt_115 rfl ?_
                refine z_bipush X (nI 7) dX7_lookAt_117 (by decide) ?_
                refine z_icmpU_eq X (zn ((S 8) (4 * ((100 * m) + k)))) 7 129 dX7_lookAt_119 (by decide) (nI_zn _).symm rfl (zn_lt _) (by omega) (fun c6116 => ?_) (fun c6116 => ?_)
                · refine z_iconst X (nI 1) dX7_lookAt_129 (by decide) ?_
                  refine z_goto X 134 dX7_lookAt_130 (by decide) ?_
                  have hus := F.us (m := m) (s := k) (by omega)
                  refine z_callV X (rest := []) (c_X7_look_1 i2 F hm (by omega) ht1 ht2) (cwV 4 (zXts X) (lw_V q1738 q1740 qs34 q65 q1741) rfl rfl rfl (by decide +kernel) ⟨Nat.le_of_ble_eq_true rfl, Nat.le_of_ble_eq_true rfl⟩) i2.1 (by decide) rfl rfl (Nat.le_of_ble_eq_true rfl) ⟨(by first | exact Nat.le_of_ble_eq_true rfl | (dsimp only [zRm]; omega)), (by first | exact Nat.le_of_ble_eq_true rfl | (dsimp only [zRm]; omega))⟩ dX7_lookAt_134 (fun v6117 h6118 p6119 => ?_)
                  obtain ⟨rfl, D4, O4⟩ := p6119
                  refine z_istore_n X (lv' := [(2, .int (nI (lkC S m ((S 8) ((4 * ((100 * m) + k)) + 1)) true))), (5, .int ((S 8) (4 * ((100 * m) + k)))), (4, .int (nI (4 * ((100 * m) + k)))), (0, .ref (E 0)), (1, .int (nI m)), (3, .int (nI k))]) dX7_lookAt_137 (by decide) rfl ?_
                  refine z_iinc X (lv' := [(3, .int (nI (k + 1))), (2, .int (nI (lkC S m ((S 8) ((4 * ((100 * m) + k)) + 1)) true))), (5, .int ((S 8) (4 * ((100 * m) + k)))), (4, .int (nI (4 * ((100 * m) + k)))), (0, .ref (E 0)), (1, .int (nI m))]) (nI (k + 1)) 5 dX7_lookAt_138 rfl (nI_1 _) (by decide) rfl ?_
                  refine z_goto X 30 dX7_lookAt_141 (by decide) ?_
                  have hU : lkS S m (k + 1) = lk1 S m (nI k) ((S 8) ((4 * ((100 * m) + k)) + 1)) true := lkS_use hL (lkU_7 (by omega))
                  have hV : fltC (lkS S m (k + 1)) = nI (lkC S m ((S 8) ((4 * ((100 * m) + k)) + 1)) true) := by rw [hU, lk1]; by_cases z : lkC S m ((S 8) ((4 * ((100 * m) + k)) + 1)) true = 0; rw [if_pos z, z]; rfl; rw [if_neg z]; rfl
                  refine z_lvp (lv' := [(0, .ref (E 0)), (1, .int (nI m)), (2, .int (nI (lkC S m ((S 8) ((4 * ((100 * m) + k)) + 1)) true))), (3, .int (nI (k + 1)))]) [4, 5, 1, 0] rfl ?_
                  refine z_lv (lv' := [(0, .ref (E 0)), (1, .int (nI m)), (2, .int (fltC (lkS S m (k + 1)))), (3, .int (nI (k + 1)))]) (by intro x9 h9; rw [hV] at h9; exact h9) ?_
                  exact ih (k + 1, h6118) ⟨by omega, by rw [hU]; exact D4, i3.trans O4⟩ (by dsimp only; omega)
                · refine z_iload X 0 dX7_lookAt_122 rfl ?_
                  refine z_bipush X (nI 10) dX7_lookAt_124 (by decide) ?_
                  refine z_icmpU_ne X (zn ((S 8) (4 * ((100 * m) + k)))) 10 133 dX7_lookAt_126 (by decide) (nI_zn _).symm rfl (zn_lt _) (by omega) (fun c6120 => ?_) (fun c6120 => ?_)
                  · refine z_iconst X (nI 0) dX7_lookAt_133 (by decide) ?_
                    have hus := F.us (m := m) (s := k) (by omega)
                    refine z_callV X (rest := []) (c_X7_look_0 i2 F hm (by omega) ht1 ht2) (cwV 4 (zXts X) (lw_V q1738 q1740 qs34 q65 q1741) rfl rfl rfl (by decide +kernel) ⟨Nat.le_of_ble_eq_true rfl, Nat.le_of_ble_eq_true rfl⟩) i2.1 (by decide) rfl rfl (Nat.le_of_ble_eq_true rfl) ⟨(by first | exact Nat.le_of_ble_eq_true rfl | (dsimp only [zRm]; omega)), (by first | exact Nat.le_of_ble_eq_true rfl | (dsimp only [zRm]; omega))⟩ dX7_lookAt_134 (fun v6121 h6122 p6123 => ?_)
                    obtain ⟨rfl, D4, O4⟩ := p6123
                    refine z_istore_n X (lv' := [(2, .int (nI (lkC S m ((S 8) ((4 * ((100 * m) + k)) + 1)) false))), (5, .int ((S 8) (4 * ((100 * m) + k)))), (4, .int (nI (4 * ((100 * m) + k)))), (0, .ref (E 0)), (1, .int (nI m)), (3, .int (nI k))]) dX7_lookAt_137 (by decide) rfl ?_
                    refine z_iinc X (lv' := [(3, .int (nI (k + 1))), (2, .int (nI (lkC S m ((S 8) ((4 * ((100 * m) + k)) + 1)) false))), (5, .int ((S 8) (4 * ((100 * m) + k)))), (4, .int (nI (4 * ((100 * m) + k)))), (0, .ref (E 0)), (1, .int (nI m))]) (nI (k + 1)) 5 dX7_lookAt_138 rfl (nI_1 _) (by decide) rfl ?_
                    refine z_goto X 30 dX7_lookAt_141 (by decide) ?_
                    have hU : lkS S m (k + 1) = lk1 S m (nI k) ((S 8) ((4 * ((100 * m) + k)) + 1)) false := lkS_use hL (lkU_9 (by omega))
                    have hV : fltC (lkS S m (k + 1)) = nI (lkC S m ((S 8) ((4 * ((100 * m) + k)) + 1)) false) := by rw [hU, lk1]; by_cases z : lkC S m ((S 8) ((4 * ((100 * m) + k)) + 1)) false = 0; rw [if_pos z, z]; rfl; rw [if_neg z]; rfl
                    refine z_lvp (lv' := [(0, .ref (E 0)), (1, .int (nI m)), (2, .int (nI (lkC S m ((S 8) ((4 * ((100 * m) + k)) + 1)) false))), (3, .int (nI (k + 1)))]) [4, 5, 1, 0] rfl ?_
                    refine z_lv (lv' := [(0, .ref (E 0)), (1, .int (nI m)), (2, .int (fltC (lkS S m (k + 1)))), (3, .int (nI (k + 1)))]) (by intro x9 h9; rw [hV] at h9; exact h9) ?_
                    exact ih (k + 1, h6122) ⟨by omega, by rw [hU]; exact D4, i3.trans O4⟩ (by dsimp only; omega)
                  · refine z_iconst X (nI 1) dX7_lookAt_129 (by decide) ?_
                    refine z_goto X 134 dX7_lookAt_130 (by decide) ?_
                    have hus := F.us (m := m) (s := k) (by omega)
                    refine z_callV X (rest := []) (c_X7_look_1 i2 F hm (by omega) ht1 ht2) (cwV 4 (zXts X) (lw_V q1738 q1740 qs34 q65 q1741) rfl rfl rfl (by decide +kernel) ⟨Nat.le_of_ble_eq_true rfl, Nat.le_of_ble_eq_true rfl⟩) i2.1 (by decide) rfl rfl (Nat.le_of_ble_eq_true rfl) ⟨(by first | exact Nat.le_of_ble_eq_true rfl | (dsimp only [zRm]; omega)), (by first | exact Nat.le_of_ble_eq_true rfl | (dsimp only [zRm]; omega))⟩ dX7_lookAt_134 (fun v6124 h6125 p6126 => ?_)
                    obtain ⟨rfl, D4, O4⟩ := p6126
                    refine z_istore_n X (lv' := [(2, .int (nI (lkC S m ((S 8) ((4 * ((100 * m) + k)) + 1)) true))), (5, .int ((S 8) (4 * ((100 * m) + k)))), (4, .int (nI (4 * ((100 * m) + k)))), (0, .ref (E 0)), (1, .int (nI m)), (3, .int (nI k))]) dX7_lookAt_137 (by decide) rfl ?_
                    refine z_iinc X (lv' := [(3, .int (nI (k + 1))), (2, .int (nI (lkC S m ((S 8) ((4 * ((100 * m) + k)) + 1)) true))), (5, .int ((S 8) (4 * ((100 * m) + k)))), (4, .int (nI (4 * ((100 * m) + k)))), (0, .ref (E 0)), (1, .int (nI m))]) (nI (k + 1)) 5 dX7_lookAt_138 rfl (nI_1 _) (by decide) rfl ?_
                    refine z_goto X 30 dX7_lookAt_141 (by decide) ?_
                    have hU : lkS S m (k + 1) = lk1 S m (nI k) ((S 8) ((4 * ((100 * m) + k)) + 1)) true := lkS_use hL (lkU_7 (by omega))
                    have hV : fltC (lkS S m (k + 1)) = nI (lkC S m ((S 8) ((4 * ((100 * m) + k)) + 1)) true) := by rw [hU, lk1]; by_cases z : lkC S m ((S 8) ((4 * ((100 * m) + k)) + 1)) true = 0; rw [if_pos z, z]; rfl; rw [if_neg z]; rfl
                    refine z_lvp (lv' := [(0, .ref (E 0)), (1, .int (nI m)), (2, .int (nI (lkC S m ((S 8) ((4 * ((100 * m) + k)) + 1)) true))), (3, .int (nI (k + 1)))]) [4, 5, 1, 0] rfl ?_
                    refine z_lv (lv' := [(0, .ref (E 0)), (1, .int (nI m)), (2, .int (fltC (lkS S m (k + 1)))), (3, .int (nI (k + 1)))]) (by intro x9 h9; rw [hV] at h9; exact h9) ?_
                    exact ih (k + 1, h6125) ⟨by omega, by rw [hU]; exact D4, i3.trans O4⟩ (by dsimp only; omega)
              · refine z_iload X 0 dX7_lookAt_87 rfl ?_
                refine z_bipush X (nI 9) dX7_lookAt_89 (by decide) ?_
                refine z_icmpU_ne X (zn ((S 8) (4 * ((100 * m) + k)))) 9 106 dX7_lookAt_91 (by decide) (nI_zn _).symm rfl (zn_lt _) (by omega) (fun c6127 => ?_) (fun c6127 => ?_)
                · refine z_aload_n X 2 dX7_lookAt_106 zref.r rfl ?_
                  refine z_get X zP6 8 (by decide) q1571 (Or.inl rfl) i2.1 (by decide) rfl dX7_lookAt_107 ?_
                  refine z_iload X 1 dX7_lookAt_110 rfl ?_
                  refine z_iconst X (nI 2) dX7_lookAt_112 (by decide) ?_
                  refine z_iadd X (nI ((4 * ((100 * m) + k)) + 2)) dX7_lookAt_113 (zadd rfl rfl) ?_
                  refine z_iald X (v := .int ((S 8) ((4 * ((100 * m) + k)) + 2))) ((4 * ((100 * m) + k)) + 2) (i2.2.1 8 rfl) (by decide) rfl (by show _ < 4800; omega) (by decide) rfl dX7_lookAt_114 ?_
                  refine z_iload X 0 dX7_lookAt_115 rfl ?_
                  refine z_bipush X (nI 7) dX7_lookAt_117 (by decide) ?_
                  refine z_icmpU_eq X (zn ((S 8) (4 * ((100 * m) + k)))) 7 129 dX7_lookAt_119 (by decide) (nI_zn _).symm rfl (zn_lt _) (by omega) (fun c6128 => ?_) (fun c6128 => ?_)
                  · refine z_iconst X (nI 1) dX7_lookAt_129 (by decide) ?_
                    refine z_goto X 134 dX7_lookAt_130 (by decide) ?_
                    have hus := F.us (m := m) (s := k) (by omega)
                    refine z_callV X (rest := []) (c_X7_look_1 i2 F hm (by omega) ht1 ht2) (cwV 4 (zXts X) (lw_V q1738 q1740 qs34 q65 q1741) rfl rfl rfl (by decide +kernel) ⟨Nat.le_of_ble_eq_true rfl, Nat.le_of_ble_eq_true rfl⟩) i2.1 (by decide) rfl rfl (Nat.le_of_ble_eq_true rfl) ⟨(by first | exact Nat.le_of_ble_eq_true rfl | (dsimp only [zRm]; omega)), (by first | exact Nat.le_of_ble_eq_true rfl | (dsimp only [zRm]; omega))⟩ dX7_lookAt_134 (fun v6129 h6130 p6131 => ?_)
                    obtain ⟨rfl, D4, O4⟩ := p6131
                    refine z_istore_n X (lv' := [(2, .int (nI (lkC S m ((S 8) ((4 * ((100 * m) + k)) + 2)) true))), (5, .int ((S 8) (4 * ((100 * m) + k)))), (4, .int (nI (4 * ((100 * m) + k)))), (0, .ref (E 0)), (1, .int (nI m)), (3, .int (nI k))]) dX7_lookAt_137 (by decide) rfl ?_
                    refine z_iinc X (lv' := [(3, .int (nI (k + 1))), (2, .int (nI (lkC S m ((S 8) ((4 * ((100 * m) + k)) + 2)) true))), (5, .int ((S 8) (4 * ((100 * m) + k)))), (4, .int (nI (4 * ((100 * m) + k)))), (0, .ref (E 0)), (1, .int (nI m))]) (nI (k + 1)) 5 dX7_lookAt_138 rfl (nI_1 _) (by decide) rfl ?_
                    refine z_goto X 30 dX7_lookAt_141 (by decide) ?_
                    have hU : lkS S m (k + 1) = lk1 S m (nI k) ((S 8) ((4 * ((100 * m) + k)) + 2)) true := lkS_use hL (lkU_10 (by omega))
                    have hV : fltC (lkS S m (k + 1)) = nI (lkC S m ((S 8) ((4 * ((100 * m) + k)) + 2)) true) := by rw [hU, lk1]; by_cases z : lkC S m ((S 8) ((4 * ((100 * m) + k)) + 2)) true = 0; rw [if_pos z, z]; rfl; rw [if_neg z]; rfl
                    refine z_lvp (lv' := [(0, .ref (E 0)), (1, .int (nI m)), (2, .int (nI (lkC S m ((S 8) ((4 * ((100 * m) + k)) + 2)) true))), (3, .int (nI (k + 1)))]) [4, 5, 1, 0] rfl ?_
                    refine z_lv (lv' := [(0, .ref (E 0)), (1, .int (nI m)), (2, .int (fltC (lkS S m (k + 1)))), (3, .int (nI (k + 1)))]) (by intro x9 h9; rw [hV] at h9; exact h9) ?_
                    exact ih (k + 1, h6130) ⟨by omega, by rw [hU]; exact D4, i3.trans O4⟩ (by dsimp only; omega)
                  · refine z_iload X 0 dX7_lookAt_122 rfl ?_
                    refine z_bipush X (nI 10) dX7_lookAt_124 (by decide) ?_
                    refine z_icmpU_ne X (zn ((S 8) (4 * ((100 * m) + k)))) 10 133 dX7_lookAt_126 (by decide) (nI_zn _).symm rfl (zn_lt _) (by omega) (fun c6132 => ?_) (fun c6132 => ?_)
                    · refine z_iconst X (nI 0) dX7_lookAt_133 (by decide) ?_
                      have hus := F.us (m := m) (s := k) (by omega)
                      refine z_callV X (rest := []) (c_X7_look_0 i2 F hm (by omega) ht1 ht2) (cwV 4 (zXts X) (lw_V q1738 q1740 qs34 q65 q1741) rfl rfl rfl (by decide +kernel) ⟨Nat.le_of_ble_eq_true rfl, Nat.le_of_ble_eq_true rfl⟩) i2.1 (by decide) rfl rfl (Nat.le_of_ble_eq_true rfl) ⟨(by first | exact Nat.le_of_ble_eq_true rfl | (dsimp only [zRm]; omega)), (by first | exact Nat.le_of_ble_eq_true rfl | (dsimp only [zRm]; omega))⟩ dX7_lookAt_134 (fun v6133 h6134 p6135 => ?_)
                      obtain ⟨rfl, D4, O4⟩ := p6135
                      refine z_istore_n X (lv' := [(2, .int (nI (lkC S m ((S 8) ((4 * ((100 * m) + k)) + 2)) false))), (5, .int ((S 8) (4 * ((100 * m) + k)))), (4, .int (nI (4 * ((100 * m) + k)))), (0, .ref (E 0)), (1, .int (nI m)), (3, .int (nI k))]) dX7_lookAt_137 (by decide) rfl ?_
                      refine z_iinc X (lv' := [(3, .int (nI (k + 1))), (2, .int (nI (lkC S m ((S 8) ((4 * ((100 * m) + k)) + 2)) false))), (5, .int ((S 8) (4 * ((100 * m) + k)))), (4, .int (nI (4 * ((100 * m) + k)))), (0, .ref (E 0)), (1, .int (nI m))]) (nI (k + 1)) 5 dX7_lookAt_138 rfl (nI_1 _) (by decide) rfl ?_
                      refine z_goto X 30 dX7_lookAt_141 (by decide) ?_
                      have hU : lkS S m (k + 1) = lk1 S m (nI k) ((S 8) ((4 * ((100 * m) + k)) + 2)) false := lkS_use hL (lkU_8 (by omega))
                      have hV : fltC (lkS S m (k + 1)) = nI (lkC S m ((S 8) ((4 * ((100 * m) + k)) + 2)) false) := by rw [hU, lk1]; by_cases z : lkC S m ((S 8) ((4 * ((100 * m) + k)) + 2)) false = 0; rw [if_pos z, z]; rfl; rw [if_neg z]; rfl
                      refine z_lvp (lv' := [(0, .ref (E 0)), (1, .int (nI m)), (2, .int (nI (lkC S m ((S 8) ((4 * ((100 * m) + k)) + 2)) false))), (3, .int (nI (k + 1)))]) [4, 5, 1, 0] rfl ?_
                      refine z_lv (lv' := [(0, .ref (E 0)), (1, .int (nI m)), (2, .int (fltC (lkS S m (k + 1)))), (3, .int (nI (k + 1)))]) (by intro x9 h9; rw [hV] at h9; exact h9) ?_
                      exact ih (k + 1, h6134) ⟨by omega, by rw [hU]; exact D4, i3.trans O4⟩ (by dsimp only; omega)
                    · refine z_iconst X (nI 1) dX7_lookAt_129 (by decide) ?_
                      refine z_goto X 134 dX7_lookAt_130 (by decide) ?_
                      have hus := F.us (m := m) (s := k) (by omega)
                      refine z_callV X (rest := []) (c_X7_look_1 i2 F hm (by omega) ht1 ht2) (cwV 4 (zXts X) (lw_V q1738 q1740 qs34 q65 q1741) rfl rfl rfl (by decide +kernel) ⟨Nat.le_of_ble_eq_true rfl, Nat.le_of_ble_eq_true rfl⟩) i2.1 (by decide) rfl rfl (Nat.le_of_ble_eq_true rfl) ⟨(by first | exact Nat.le_of_ble_eq_true rfl | (dsimp only [zRm]; omega)), (by first | exact Nat.le_of_ble_eq_true rfl | (dsimp only [zRm]; omega))⟩ dX7_lookAt_134 (fun v6136 h6137 p6138 => ?_)
                      obtain ⟨rfl, D4, O4⟩ := p6138
                      refine z_istore_n X (lv' := [(2, .int (nI (lkC S m ((S 8) ((4 * ((100 * m) + k)) + 2)) true))), (5, .int ((S 8) (4 * ((100 * m) + k)))), (4, .int (nI (4 * ((100 * m) + k)))), (0, .ref (E 0)), (1, .int (nI m)), (3, .int (nI k))]) dX7_lookAt_137 (by decide) rfl ?_
                      refine z_iinc X (lv' := [(3, .int (nI (k + 1))), (2, .int (nI (lkC S m ((S 8) ((4 * ((100 * m) + k)) + 2)) true))), (5, .int ((S 8) (4 * ((100 * m) + k)))), (4, .int (nI (4 * ((100 * m) + k)))), (0, .ref (E 0)), (1, .int (nI m))]) (nI (k + 1)) 5 dX7_lookAt_138 rfl (nI_1 _) (by decide) rfl ?_
                      refine z_goto X 30 dX7_lookAt_141 (by decide) ?_
                      have hU : lkS S m (k + 1) = lk1 S m (nI k) ((S 8) ((4 * ((100 * m) + k)) + 2)) true := lkS_use hL (lkU_10 (by omega))
                      have hV : fltC (lkS S m (k + 1)) = nI (lkC S m ((S 8) ((4 * ((100 * m) + k)) + 2)) true) := by rw [hU, lk1]; by_cases z : lkC S m ((S 8) ((4 * ((100 * m) + k)) + 2)) true = 0; rw [if_pos z, z]; rfl; rw [if_neg z]; rfl
                      refine z_lvp (lv' := [(0, .ref (E 0)), (1, .int (nI m)), (2, .int (nI (lkC S m ((S 8) ((4 * ((100 * m) + k)) + 2)) true))), (3, .int (nI (k + 1)))]) [4, 5, 1, 0] rfl ?_
                      refine z_lv (lv' := [(0, .ref (E 0)), (1, .int (nI m)), (2, .int (fltC (lkS S m (k + 1)))), (3, .int (nI (k + 1)))]) (by intro x9 h9; rw [hV] at h9; exact h9) ?_
                      exact ih (k + 1, h6137) ⟨by omega, by rw [hU]; exact D4, i3.trans O4⟩ (by dsimp only; omega)
                · refine z_aload_n X 2 dX7_lookAt_94 zref.r rfl ?_
                  refine z_get X zP6 8 (by decide) q1571 (Or.inl rfl) i2.1 (by decide) rfl dX7_lookAt_95 ?_
                  refine z_iload X 1 dX7_lookAt_98 rfl ?_
                  refine z_iconst X (nI 1) dX7_lookAt_100 (by decide) ?_
                  refine z_iadd X (nI ((4 * ((100 * m) + k)) + 1)) dX7_lookAt_101 (zadd rfl rfl) ?_
                  refine z_iald X (v := .int ((S 8) ((4 * ((100 * m) + k)) + 1))) ((4 * ((100 * m) + k)) + 1) (i2.2.1 8 rfl) (by decide) rfl (by show _ < 4800; omega) (by decide) rfl dX7_lookAt_102 ?_
                  refine z_goto X 115 dX7_lookAt_103 (by decide) ?_
                  refine z_iload X 0 dX7_lookAt_115 rfl ?_
                  refine z_bipush X (nI 7) dX7_lookAt_117 (by decide) ?_
                  refine z_icmpU_eq X (zn ((S 8) (4 * ((100 * m) + k)))) 7 129 dX7_lookAt_119 (by decide) (nI_zn _).symm rfl (zn_lt _) (by omega) (fun c6139 => ?_) (fun c6139 => ?_)
                  · refine z_iconst X (nI 1) dX7_lookAt_129 (by decide) ?_
                    refine z_goto X 134 dX7_lookAt_130 (by decide) ?_
                    have hus := F.us (m := m) (s := k) (by omega)
                    refine z_callV X (rest := []) (c_X7_look_1 i2 F hm (by omega) ht1 ht2) (cwV 4 (zXts X) (lw_V q1738 q1740 qs34 q65 q1741) rfl rfl rfl (by decide +kernel) ⟨Nat.le_of_ble_eq_true rfl, Nat.le_of_ble_eq_true rfl⟩) i2.1 (by decide) rfl rfl (Nat.le_of_ble_eq_true rfl) ⟨(by first | exact Nat.le_of_ble_eq_true rfl | (dsimp only [zRm]; omega)), (by first | exact Nat.le_of_ble_eq_true rfl | (dsimp only [zRm]; omega))⟩ dX7_lookAt_134 (fun v6140 h6141 p6142 => ?_)
                    obtain ⟨rfl, D4, O4⟩ := p6142
                    refine z_istore_n X (lv' := [(2, .int (nI (lkC S m ((S 8) ((4 * ((100 * m) + k)) + 1)) true))), (5, .int ((S 8) (4 * ((100 * m) + k)))), (4, .int (nI (4 * ((100 * m) + k)))), (0, .ref (E 0)), (1, .int (nI m)), (3, .int (nI k))]) dX7_lookAt_137 (by decide) rfl ?_
                    refine z_iinc X (lv' := [(3, .int (nI (k + 1))), (2, .int (nI (lkC S m ((S 8) ((4 * ((100 * m) + k)) + 1)) true))), (5, .int ((S 8) (4 * ((100 * m) + k)))), (4, .int (nI (4 * ((100 * m) + k)))), (0, .ref (E 0)), (1, .int (nI m))]) (nI (k + 1)) 5 dX7_lookAt_138 rfl (nI_1 _) (by decide) rfl ?_
                    refine z_goto X 30 dX7_lookAt_141 (by decide) ?_
                    have hU : lkS S m (k + 1) = lk1 S m (nI k) ((S 8) ((4 * ((100 * m) + k)) + 1)) true := lkS_use hL (lkU_7 (by omega))
                    have hV : fltC (lkS S m (k + 1)) = nI (lkC S m ((S 8) ((4 * ((100 * m) + k)) + 1)) true) := by rw [hU, lk1]; by_cases z : lkC S m ((S 8) ((4 * ((100 * m) + k)) + 1)) true = 0; rw [if_pos z, z]; rfl; rw [if_neg z]; rfl
                    refine z_lvp (lv' := [(0, .ref (E 0)), (1, .int (nI m)), (2, .int (nI (lkC S m ((S 8) ((4 * ((100 * m) + k)) + 1)) true))), (3, .int (nI (k + 1)))]) [4, 5, 1, 0] rfl ?_
                    refine z_lv (lv' := [(0, .ref (E 0)), (1, .int (nI m)), (2, .int (fltC (lkS S m (k + 1)))), (3, .int (nI (k + 1)))]) (by intro x9 h9; rw [hV] at h9; exact h9) ?_
                    exact ih (k + 1, h6141) ⟨by omega, by rw [hU]; exact D4, i3.trans O4⟩ (by dsimp only; omega)
                  · refine z_iload X 0 dX7_lookAt_122 rfl ?_
                    refine z_bipush X (nI 10) dX7_lookAt_124 (by decide) ?_
                    refine z_icmpU_ne X (zn ((S 8) (4 * ((100 * m) + k)))) 10 133 dX7_lookAt_126 (by decide) (nI_zn _).symm rfl (zn_lt _) (by omega) (fun c6143 => ?_) (fun c6143 => ?_)
                    · refine z_iconst X (nI 0) dX7_lookAt_133 (by decide) ?_
                      have hus := F.us (m := m) (s := k) (by omega)
                      refine z_callV X (rest := []) (c_X7_look_0 i2 F hm (by omega) ht1 ht2) (cwV 4 (zXts X) (lw_V q1738 q1740 qs34 q65 q1741) rfl rfl rfl (by decide +kernel) ⟨Nat.le_of_ble_eq_true rfl, Nat.le_of_ble_eq_true rfl⟩) i2.1 (by decide) rfl rfl (Nat.le_of_ble_eq_true rfl) ⟨(by first | exact Nat.le_of_ble_eq_true rfl | (dsimp only [zRm]; omega)), (by first | exact Nat.le_of_ble_eq_true rfl | (dsimp only [zRm]; omega))⟩ dX7_lookAt_134 (fun v6144 h6145 p6146 => ?_)
                      obtain ⟨rfl, D4, O4⟩ := p6146
                      refine z_istore_n X (lv' := [(2, .int (nI (lkC S m ((S 8) ((4 * ((100 * m) + k)) + 1)) false))), (5, .int ((S 8) (4 * ((100 * m) + k)))), (4, .int (nI (4 * ((100 * m) + k)))), (0, .ref (E 0)), (1, .int (nI m)), (3, .int (nI k))]) dX7_lookAt_137 (by decide) rfl ?_
                      refine z_iinc X (lv' := [(3, .int (nI (k + 1))), (2, .int (nI (lkC S m ((S 8) ((4 * ((100 * m) + k)) + 1)) false))), (5, .int ((S 8) (4 * ((100 * m) + k)))), (4, .int (nI (4 * ((100 * m) + k)))), (0, .ref (E 0)), (1, .int (nI m))]) (nI (k + 1)) 5 dX7_lookAt_138 rfl (nI_1 _) (by decide) rfl ?_
                      refine z_goto X 30 dX7_lookAt_141 (by decide) ?_
                      have hU : lkS S m (k + 1) = lk1 S m (nI k) ((S 8) ((4 * ((100 * m) + k)) + 1)) false := lkS_use hL (lkU_9 (by omega))
                      have hV : fltC (lkS S m (k + 1)) = nI (lkC S m ((S 8) ((4 * ((100 * m) + k)) + 1)) false) := by rw [hU, lk1]; by_cases z : lkC S m ((S 8) ((4 * ((100 * m) + k)) + 1)) false = 0; rw [if_pos z, z]; rfl; rw [if_neg z]; rfl
                      refine z_lvp (lv' := [(0, .ref (E 0)), (1, .int (nI m)), (2, .int (nI (lkC S m ((S 8) ((4 * ((100 * m) + k)) + 1)) false))), (3, .int (nI (k + 1)))]) [4, 5, 1, 0] rfl ?_
                      refine z_lv (lv' := [(0, .ref (E 0)), (1, .int (nI m)), (2, .int (fltC (lkS S m (k + 1)))), (3, .int (nI (k + 1)))]) (by intro x9 h9; rw [hV] at h9; exact h9) ?_
                      exact ih (k + 1, h6145) ⟨by omega, by rw [hU]; exact D4, i3.trans O4⟩ (by dsimp only; omega)
                    · refine z_iconst X (nI 1) dX7_lookAt_129 (by decide) ?_
                      refine z_goto X 134 dX7_lookAt_130 (by decide) ?_
                      have hus := F.us (m := m) (s := k) (by omega)
                      refine z_callV X (rest := []) (c_X7_look_1 i2 F hm (by omega) ht1 ht2) (cwV 4 (zXts X) (lw_V q1738 q1740 qs34 q65 q1741) rfl rfl rfl (by decide +kernel) ⟨Nat.le_of_ble_eq_true rfl, Nat.le_of_ble_eq_true rfl⟩) i2.1 (by decide) rfl rfl (Nat.le_of_ble_eq_true rfl) ⟨(by first | exact Nat.le_of_ble_eq_true rfl | (dsimp only [zRm]; omega)), (by first | exact Nat.le_of_ble_eq_true rfl | (dsimp only [zRm]; omega))⟩ dX7_lookAt_134 (fun v6147 h6148 p6149 => ?_)
                      obtain ⟨rfl, D4, O4⟩ := p6149
                      refine z_istore_n X (lv' := [(2, .int (nI (lkC S m ((S 8) ((4 * ((100 * m) + k)) + 1)) true))), (5, .int ((S 8) (4 * ((100 * m) + k)))), (4, .int (nI (4 * ((100 * m) + k)))), (0, .ref (E 0)), (1, .int (nI m)), (3, .int (nI k))]) dX7_lookAt_137 (by decide) rfl ?_
                      refine z_iinc X (lv' := [(3, .int (nI (k + 1))), (2, .int (nI (lkC S m ((S 8) ((4 * ((100 * m) + k)) + 1)) true))), (5, .int ((S 8) (4 * ((100 * m) + k)))), (4, .int (nI (4 * ((100 * m) + k)))), (0, .ref (E 0)), (1, .int (nI m))]) (nI (k + 1)) 5 dX7_lookAt_138 rfl (nI_1 _) (by decide) rfl ?_
                      refine z_goto X 30 dX7_lookAt_141 (by decide) ?_
                      have hU : lkS S m (k + 1) = lk1 S m (nI k) ((S 8) ((4 * ((100 * m) + k)) + 1)) true := lkS_use hL (lkU_7 (by omega))
                      have hV : fltC (lkS S m (k + 1)) = nI (lkC S m ((S 8) ((4 * ((100 * m) + k)) + 1)) true) := by rw [hU, lk1]; by_cases z : lkC S m ((S 8) ((4 * ((100 * m) + k)) + 1)) true = 0; rw [if_pos z, z]; rfl; rw [if_neg z]; rfl
                      refine z_lvp (lv' := [(0, .ref (E 0)), (1, .int (nI m)), (2, .int (nI (lkC S m ((S 8) ((4 * ((100 * m) + k)) + 1)) true))), (3, .int (nI (k + 1)))]) [4, 5, 1, 0] rfl ?_
                      refine z_lv (lv' := [(0, .ref (E 0)), (1, .int (nI m)), (2, .int (fltC (lkS S m (k + 1)))), (3, .int (nI (k + 1)))]) (by intro x9 h9; rw [hV] at h9; exact h9) ?_
                      exact ih (k + 1, h6148) ⟨by omega, by rw [hU]; exact D4, i3.trans O4⟩ (by dsimp only; omega)
    · refine z_lv (lv' := [(0, .ref (E 0)), (1, .int (nI m)), (2, .int (nI r.1)), (3, .int (nI k))]) (by intro x9 h9; exact h9) ?_
      obtain ⟨r1, r2, r3⟩ := lkS_code hL
      have hfin : lkS S m (zn (S 9 m)) = some r := lkS_le hL i1
      refine z_iload_n X 3 dX7_lookAt_30 rfl ?_
      refine z_aload_n X 0 dX7_lookAt_31 zref.r rfl ?_
      refine z_get X zP6 9 (by decide) q1572 (Or.inl rfl) i2.1 (by decide) rfl dX7_lookAt_32 ?_
      refine z_iload_n X 1 dX7_lookAt_35 rfl ?_
      refine z_iald X (v := .int (((fltF S (some r)) 9) m)) m (i2.2.1 9 rfl) (by decide) rfl (by show _ < 12; omega) (by decide) rfl dX7_lookAt_36 ?_
      refine z_icmpU_ge X k (zn (((fltF S (some r)) 9) m)) 144 dX7_lookAt_37 (by decide) rfl (nI_zn _).symm (by omega) (zn_lt _) (fun c6150 => ?_) (fun c6150 => ?_)
      · refine z_iload_n X 2 dX7_lookAt_144 rfl ?_
        exact z_iret X hr hlk dX7_lookAt_145 (by first | exact Nat.le_of_ble_eq_true rfl | (dsimp only [zRm]; omega) | omega) (by first | exact Nat.le_of_ble_eq_true rfl | (dsimp only [zRm]; omega) | omega) ⟨by rw [hfin]; rfl, by rw [hfin]; exact i2, i3⟩
      · refine z_iload_n X 2 dX7_lookAt_40 rfl ?_
        refine z_ifU_ne X r.1 144 dX7_lookAt_41 (by decide) rfl (by omega) (fun c6151 => ?_) (fun c6151 => ?_)
        · refine z_iload_n X 2 dX7_lookAt_144 rfl ?_
          exact z_iret X hr hlk dX7_lookAt_145 (by first | exact Nat.le_of_ble_eq_true rfl | (dsimp only [zRm]; omega) | omega) (by first | exact Nat.le_of_ble_eq_true rfl | (dsimp only [zRm]; omega) | omega) ⟨by rw [hfin]; rfl, by rw [hfin]; exact i2, i3⟩
        · omega
  refine z_aload_n X 0 dX7_lookAt_0 zref.r rfl ?_
  refine z_get X zP6 11 (by decide) q1574 (Or.inl rfl) D.1 (by decide) rfl dX7_lookAt_1 ?_
  refine z_iload_n X 1 dX7_lookAt_4 rfl ?_
  refine z_iald X (v := .int ((S 11) m)) m (D.2.1 11 rfl) (by decide) rfl (by show _ < 12; omega) (by decide) rfl dX7_lookAt_5 ?_
  refine z_iconst X (-1) dX7_lookAt_6 (by decide) ?_
  refine z_icmpU_ne X (zn ((S 11) m)) 4294967295 14 dX7_lookAt_7 (by decide) (nI_zn _).symm (by decide) (zn_lt _) (by omega) (fun c6152 => ?_) (fun c6152 => ?_)
  · refine z_aload_n X 0 dX7_lookAt_14 zref.r rfl ?_
    refine z_iload_n X 1 dX7_lookAt_15 rfl ?_
    refine z_iconst X (-1) dX7_lookAt_16 (by decide) ?_
    refine z_aload_n X 0 dX7_lookAt_17 zref.r rfl ?_
    refine z_get X zP6 11 (by decide) q1574 (Or.inl rfl) D.1 (by decide) rfl dX7_lookAt_18 ?_
    refine z_iload_n X 1 dX7_lookAt_21 rfl ?_
    refine z_iald X (v := .int ((S 11) m)) m (D.2.1 11 rfl) (by decide) rfl (by show _ < 12; omega) (by decide) rfl dX7_lookAt_22 ?_
    refine z_iconst X (nI 1) dX7_lookAt_23 (by decide) ?_
    have hbx : zn (S 11 m) < 64 := hb.resolve_left (fun z => by rw [zeq_iff, zcm] at z; omega)
    refine z_callV X (rest := []) (c_X7_look_1 D F hm hbx ht1 ht2) (cwV 4 (zXts X) (lw_V q1738 q1740 qs34 q65 q1741) rfl rfl rfl (by decide +kernel) ⟨Nat.le_of_ble_eq_true rfl, Nat.le_of_ble_eq_true rfl⟩) D.1 (by decide) rfl rfl (Nat.le_of_ble_eq_true rfl) ⟨(by first | exact Nat.le_of_ble_eq_true rfl | (dsimp only [zRm]; omega)), (by first | exact Nat.le_of_ble_eq_true rfl | (dsimp only [zRm]; omega))⟩ dX7_lookAt_24 (fun v6153 h6154 p6155 => ?_)
    obtain ⟨rfl, D4, O4⟩ := p6155
    refine z_istore_n X (lv' := [(2, .int (nI (lkC S m (S 11 m) true))), (0, .ref (E 0)), (1, .int (nI m))]) dX7_lookAt_27 (by decide) rfl ?_
    refine z_iconst X (nI 0) dX7_lookAt_28 (by decide) ?_
    refine z_istore_n X (lv' := [(3, .int (nI 0)), (2, .int (nI (lkC S m (S 11 m) true))), (0, .ref (E 0)), (1, .int (nI m))]) dX7_lookAt_29 (by decide) rfl ?_
    have hU : lkS S m 0 = lk1 S m (-1) (S 11 m) true := if_neg (fun z => by rw [zeq_iff, zcm] at z; omega)
    have hV : fltC (lkS S m 0) = nI (lkC S m (S 11 m) true) := by rw [hU, lk1]; by_cases z : lkC S m (S 11 m) true = 0; rw [if_pos z, z]; rfl; rw [if_neg z]; rfl
    refine z_lvp (lv' := [(0, .ref (E 0)), (1, .int (nI m)), (2, .int (nI (lkC S m (S 11 m) true))), (3, .int (nI 0))]) [2, 3, 1, 0] rfl ?_
    refine z_lv (lv' := [(0, .ref (E 0)), (1, .int (nI m)), (2, .int (fltC (lkS S m 0))), (3, .int (nI 0))]) (by intro x9 h9; rw [hV] at h9; exact h9) ?_
    exact rest h6154 (by rw [hU]; exact D4) O4
  · refine z_iconst X (nI 0) dX7_lookAt_10 (by decide) ?_
    refine z_goto X 27 dX7_lookAt_11 (by decide) ?_
    refine z_istore_n X (lv' := [(2, .int (nI 0)), (0, .ref (E 0)), (1, .int (nI m))]) dX7_lookAt_27 (by decide) rfl ?_
    refine z_iconst X (nI 0) dX7_lookAt_28 (by decide) ?_
    refine z_istore_n X (lv' := [(3, .int (nI 0)), (2, .int (nI 0)), (0, .ref (E 0)), (1, .int (nI m))]) dX7_lookAt_29 (by decide) rfl ?_
    have hU : lkS S m 0 = none := if_pos (by rw [zeq_iff, zcm]; omega)
    refine z_lvp (lv' := [(0, .ref (E 0)), (1, .int (nI m)), (2, .int (nI 0)), (3, .int (nI 0))]) [2, 3, 1, 0] rfl ?_
    refine z_lv (lv' := [(0, .ref (E 0)), (1, .int (nI m)), (2, .int (fltC (lkS S m 0))), (3, .int (nI 0))]) (by intro x9 h9; rw [hU] at h9; exact h9) ?_
    exact rest h (by rw [hU]; exact D) zOn.rf
