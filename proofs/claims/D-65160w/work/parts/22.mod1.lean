set_option maxRecDepth 100000
theorem zadd {x y : Int32} {a b : Nat} (hx : x = nI a) (hy : y = nI b) : x + y = nI (a + b) := by rw [hx, hy]; exact nI_add a b
theorem zmul {x y : Int32} {a b : Nat} (hx : x = nI a) (hy : y = nI b) : x * y = nI (a * b) := by rw [hx, hy]; exact pk_mul a b
theorem zsub {x y : Int32} {a b : Nat} (hx : x = nI a) (hy : y = nI b) (h : b ≤ a) : x - y = nI (a - b) := by rw [hx, hy]; exact pk_sub h
theorem zand6 {y : Int32} (h : zn y < 6) : zn (y &&& nI 6) = 0 ↔ zn y < 2 := by
  have key : ∀ k, k < 6 → (zn (nI k &&& nI 6) = 0 ↔ k < 2) := by decide +kernel
  have := key _ h
  rwa [nI_zn] at this
theorem zand4 {y : Int32} (h : zn y < 6) : zn (y &&& nI 4) = 0 ↔ zn y < 4 := by
  have key : ∀ k, k < 6 → (zn (nI k &&& nI 4) = 0 ↔ k < 4) := by decide +kernel
  have := key _ h
  rwa [nI_zn] at this
theorem zand1 {y : Int32} (h : zn y < 6) : zn (y &&& nI 1) = 0 ↔ zn y % 2 = 0 := by
  have key : ∀ k, k < 6 → (zn (nI k &&& nI 1) = 0 ↔ k % 2 = 0) := by decide +kernel
  have := key _ h
  rwa [nI_zn] at this
theorem zgood_out {op a b c : Int32} (h : 15 ≤ zn op) : zgood op a b c = false := by
  have hn : ∀ j : Nat, j < 15 → op ≠ nI j := fun j hj z => by rw [z, zn_nI (by omega)] at h; omega
  have e0 : op ≠ 0 := hn 0 (by decide); have e1 : op ≠ 1 := hn 1 (by decide); have e2 : op ≠ 2 := hn 2 (by decide); have e3 : op ≠ 3 := hn 3 (by decide); have e4 : op ≠ 4 := hn 4 (by decide); have e5 : op ≠ 5 := hn 5 (by decide); have e6 : op ≠ 6 := hn 6 (by decide); have e7 : op ≠ 7 := hn 7 (by decide); have e8 : op ≠ 8 := hn 8 (by decide); have e9 : op ≠ 9 := hn 9 (by decide); have e10 : op ≠ 10 := hn 10 (by decide); have e11 : op ≠ 11 := hn 11 (by decide); have e12 : op ≠ 12 := hn 12 (by decide); have e13 : op ≠ 13 := hn 13 (by decide); have e14 : op ≠ 14 := hn 14 (by decide)
  unfold zgood
  rw [if_neg (by rintro (z | z | z); exact e0 z; exact e11 z; exact e13 z), if_neg e1, if_neg (by rintro (z | z | z); exact e2 z; exact e3 z; exact e4 z), if_neg e5, if_neg e6, if_neg e7, if_neg (by rintro (z | z); exact e8 z; exact e10 z), if_neg e9]
  exact decide_eq_false (by rintro (z | z); exact e12 z; exact e14 z)
theorem zop_is {x : Int32} {j : Nat} (h : zn x = j) : x = nI j := by rw [← h, nI_zn]
theorem zg_0 {a b c : Int32} : zgood (nI 0) a b c = true ↔ (zn a < 8) := by
  unfold zgood
  repeat (first | rw [if_pos (by decide)] | rw [if_neg (by decide)])
  exact decide_eq_true_iff
theorem zg_1 {a b c : Int32} : zgood (nI 1) a b c = true ↔ (zn a < 8 ∧ zn b < 8) := by
  unfold zgood
  repeat (first | rw [if_pos (by decide)] | rw [if_neg (by decide)])
  exact decide_eq_true_iff
theorem zg_2 {a b c : Int32} : zgood (nI 2) a b c = true ↔ (zn a < 8 ∧ zn b < 8 ∧ zn c < 8) := by
  unfold zgood
  repeat (first | rw [if_pos (by decide)] | rw [if_neg (by decide)])
  exact decide_eq_true_iff
theorem zg_3 {a b c : Int32} : zgood (nI 3) a b c = true ↔ (zn a < 8 ∧ zn b < 8 ∧ zn c < 8) := by
  unfold zgood
  repeat (first | rw [if_pos (by decide)] | rw [if_neg (by decide)])
  exact decide_eq_true_iff
theorem zg_4 {a b c : Int32} : zgood (nI 4) a b c = true ↔ (zn a < 8 ∧ zn b < 8 ∧ zn c < 8) := by
  unfold zgood
  repeat (first | rw [if_pos (by decide)] | rw [if_neg (by decide)])
  exact decide_eq_true_iff
theorem zg_5 {a b c : Int32} : zgood (nI 5) a b c = true ↔ (zn a < 8 ∧ zn b < 8 ∧ zn c < 100) := by
  unfold zgood
  repeat (first | rw [if_pos (by decide)] | rw [if_neg (by decide)])
  exact decide_eq_true_iff
theorem zg_6 {a b c : Int32} : zgood (nI 6) a b c = true ↔ (zn a < 100) := by
  unfold zgood
  repeat (first | rw [if_pos (by decide)] | rw [if_neg (by decide)])
  exact decide_eq_true_iff
theorem zg_7 {a b c : Int32} : zgood (nI 7) a b c = true ↔ (zn a < 64) := by
  unfold zgood
  repeat (first | rw [if_pos (by decide)] | rw [if_neg (by decide)])
  exact decide_eq_true_iff
theorem zg_8 {a b c : Int32} : zgood (nI 8) a b c = true ↔ (zn a < 8 ∧ zn b < 64) := by
  unfold zgood
  repeat (first | rw [if_pos (by decide)] | rw [if_neg (by decide)])
  exact decide_eq_true_iff
theorem zg_9 {a b c : Int32} : zgood (nI 9) a b c = true ↔ (zn a < 64 ∧ zn b < 8) := by
  unfold zgood
  repeat (first | rw [if_pos (by decide)] | rw [if_neg (by decide)])
  exact decide_eq_true_iff
theorem zg_10 {a b c : Int32} : zgood (nI 10) a b c = true ↔ (zn a < 8 ∧ zn b < 64) := by
  unfold zgood
  repeat (first | rw [if_pos (by decide)] | rw [if_neg (by decide)])
  exact decide_eq_true_iff
theorem zg_11 {a b c : Int32} : zgood (nI 11) a b c = true ↔ (zn a < 8) := by
  unfold zgood
  repeat (first | rw [if_pos (by decide)] | rw [if_neg (by decide)])
  exact decide_eq_true_iff
theorem zg_12 {a b c : Int32} : zgood (nI 12) a b c = true ↔ 0 = 0 := by
  unfold zgood
  repeat (first | rw [if_pos (by decide)] | rw [if_neg (by decide)])
  decide
theorem zg_13 {a b c : Int32} : zgood (nI 13) a b c = true ↔ (zn a < 8) := by
  unfold zgood
  repeat (first | rw [if_pos (by decide)] | rw [if_neg (by decide)])
  exact decide_eq_true_iff
theorem zg_14 {a b c : Int32} : zgood (nI 14) a b c = true ↔ 0 = 0 := by
  unfold zgood
  repeat (first | rw [if_pos (by decide)] | rw [if_neg (by decide)])
  decide
theorem ZWF.ds {S : ZS} (F : ZWF S) {m d : Nat} {x : Int32} (hO : ofN S m x = some d) : d < 20 * m + 20 ∧ 20 * m ≤ d ∧ zn (S 6 d) < 6 ∧ zn (S 4 d) < 2 ∧ (S 4 d = 0 → zn (S 5 d) < 100) ∧ d / 20 = m := by
  obtain ⟨k, h1, h2, h3⟩ := ofN_some hO
  have := F.dc m
  subst h2
  exact ⟨by omega, by omega, F.dh m k h1, F.dk m k h1, F.dv m k h1, by omega⟩
set_option maxHeartbeats 2000000 in
theorem c_X7_isModule {l : Launch} {G : ZG} {h : ZH} {E : Nat → Nat} {S : ZS} {x : Int32} (D : MD E S h) (F : ZWF S)  : ZM l G yX7_isModule (ws_ yX7_isModule cX7_isModule 2 (Option.some FieldType.boolean)) (zRm 0 0 0 0) [.ref (E 0), .int x] h (fun v h' => ((zn x < zn (S 0 0) ∧ v = some (.int 1)) ∨ (¬ (zn x < zn (S 0 0)) ∧ v = some (.int 0))) ∧ h = h') := by
  refine ZT.zm (ZT.of (by first | exact plainFor_of_name (by decide) | decide +kernel) (Nat.le_of_ble_eq_true rfl) (zcats.r zref.r (zcats.i zcats.nil)) ?_)
  intro p_ e_ s_ m_ args_ below_ meth_ c_ X hr hlk hin htab
  have X : ZX p_ m_ c_ cX7_isModule 2 s_ args_ "LinkStationModel" G := X
  refine z_lv (lv' := [(0, .ref (E 0)), (1, .int x)]) (fun _ hq => hq) ?_
  have hm := F.mods
  have hx := zn_lt x
  refine z_iload_n X 1 dX7_isModule_0 rfl ?_
  refine z_ifU_lt X (zn x) 16 dX7_isModule_1 (by decide) (nI_zn _).symm (zn_lt _) (fun c501 => ?_) (fun c501 => ?_)
  · refine z_iconst X (nI 0) dX7_isModule_16 (by decide) ?_
    exact z_zret X hr hlk (zfits.b0) dX7_isModule_17 (by first | exact Nat.le_of_ble_eq_true rfl | (dsimp only [zRm]; omega) | omega) (by first | exact Nat.le_of_ble_eq_true rfl | (dsimp only [zRm]; omega) | omega) ⟨Or.inr ⟨by omega, rfl⟩, rfl⟩
  · refine z_iload_n X 1 dX7_isModule_4 rfl ?_
    refine z_aload_n X 0 dX7_isModule_5 zref.r rfl ?_
    refine z_get X zP6 0 (by decide) q1563 (Or.inl rfl) (v := .int (S 0 0)) D.1 (by decide) rfl dX7_isModule_6 ?_
    refine z_icmpU_ge X (zn x) (zn (S 0 0)) 16 dX7_isModule_9 (by decide) (nI_zn _).symm (nI_zn _).symm (zn_lt _) (zn_lt _) (fun c502 => ?_) (fun c502 => ?_)
    · refine z_iconst X (nI 0) dX7_isModule_16 (by decide) ?_
      exact z_zret X hr hlk (zfits.b0) dX7_isModule_17 (by first | exact Nat.le_of_ble_eq_true rfl | (dsimp only [zRm]; omega) | omega) (by first | exact Nat.le_of_ble_eq_true rfl | (dsimp only [zRm]; omega) | omega) ⟨Or.inr ⟨by omega, rfl⟩, rfl⟩
    · refine z_iconst X (nI 1) dX7_isModule_12 (by decide) ?_
      refine z_goto X 17 dX7_isModule_13 (by decide) ?_
      exact z_zret X hr hlk (zfits.b1) dX7_isModule_17 (by first | exact Nat.le_of_ble_eq_true rfl | (dsimp only [zRm]; omega) | omega) (by first | exact Nat.le_of_ble_eq_true rfl | (dsimp only [zRm]; omega) | omega) ⟨Or.inl ⟨by omega, rfl⟩, rfl⟩
set_option maxHeartbeats 2000000 in
theorem c_X7_isName {l : Launch} {G : ZG} {h : ZH} {x : Int32}  : ZM l G yX7_isName (ws_ yX7_isName cX7_isName 1 (Option.some FieldType.boolean)) (zRm 0 0 0 0) [.int x] h (fun v h' => ((zn x < 64 ∧ v = some (.int 1)) ∨ (¬ (zn x < 64) ∧ v = some (.int 0))) ∧ h = h') := by
  refine ZT.zm (ZT.of (by first | exact plainFor_of_name (by decide) | decide +kernel) (Nat.le_of_ble_eq_true rfl) (zcats.i zcats.nil) ?_)
  intro p_ e_ s_ m_ args_ below_ meth_ c_ X hr hlk hin htab
  have X : ZX p_ m_ c_ cX7_isName 1 s_ args_ "LinkStationModel" G := X
  refine z_lv (lv' := [(0, .int x)]) (fun _ hq => hq) ?_
  have hx := zn_lt x
  refine z_iload_n X 0 dX7_isName_0 rfl ?_
  refine z_ifU_lt X (zn x) 14 dX7_isName_1 (by decide) (nI_zn _).symm (zn_lt _) (fun c503 => ?_) (fun c503 => ?_)
  · refine z_iconst X (nI 0) dX7_isName_14 (by decide) ?_
    exact z_zret X hr hlk (zfits.b0) dX7_isName_15 (by first | exact Nat.le_of_ble_eq_true rfl | (dsimp only [zRm]; omega) | omega) (by first | exact Nat.le_of_ble_eq_true rfl | (dsimp only [zRm]; omega) | omega) ⟨Or.inr ⟨by omega, rfl⟩, rfl⟩
  · refine z_iload_n X 0 dX7_isName_4 rfl ?_
    refine z_bipush X (nI 64) dX7_isName_5 (by decide) ?_
    refine z_icmpU_ge X (zn x) 64 14 dX7_isName_7 (by decide) (nI_zn _).symm rfl (zn_lt _) (by omega) (fun c504 => ?_) (fun c504 => ?_)
    · refine z_iconst X (nI 0) dX7_isName_14 (by decide) ?_
      exact z_zret X hr hlk (zfits.b0) dX7_isName_15 (by first | exact Nat.le_of_ble_eq_true rfl | (dsimp only [zRm]; omega) | omega) (by first | exact Nat.le_of_ble_eq_true rfl | (dsimp only [zRm]; omega) | omega) ⟨Or.inr ⟨by omega, rfl⟩, rfl⟩
    · refine z_iconst X (nI 1) dX7_isName_10 (by decide) ?_
      refine z_goto X 15 dX7_isName_11 (by decide) ?_
      exact z_zret X hr hlk (zfits.b1) dX7_isName_15 (by first | exact Nat.le_of_ble_eq_true rfl | (dsimp only [zRm]; omega) | omega) (by first | exact Nat.le_of_ble_eq_true rfl | (dsimp only [zRm]; omega) | omega) ⟨Or.inl ⟨by omega, rfl⟩, rfl⟩
set_option maxHeartbeats 2000000 in
theorem c_X7_isRegister {l : Launch} {G : ZG} {h : ZH} {x : Int32}  : ZM l G yX7_isRegister (ws_ yX7_isRegister cX7_isRegister 1 (Option.some FieldType.boolean)) (zRm 0 0 0 0) [.int x] h (fun v h' => ((zn x < 8 ∧ v = some (.int 1)) ∨ (¬ (zn x < 8) ∧ v = some (.int 0))) ∧ h = h') := by
  refine ZT.zm (ZT.of (by first | exact plainFor_of_name (by decide) | decide +kernel) (Nat.le_of_ble_eq_true rfl) (zcats.i zcats.nil) ?_)
  intro p_ e_ s_ m_ args_ below_ meth_ c_ X hr hlk hin htab
  have X : ZX p_ m_ c_ cX7_isRegister 1 s_ args_ "LinkStationModel" G := X
  refine z_lv (lv' := [(0, .int x)]) (fun _ hq => hq) ?_
  have hx := zn_lt x
  refine z_iload_n X 0 dX7_isRegister_0 rfl ?_
  refine z_ifU_lt X (zn x) 14 dX7_isRegister_1 (by decide) (nI_zn _).symm (zn_lt _) (fun c505 => ?_) (fun c505 => ?_)
  · refine z_iconst X (nI 0) dX7_isRegister_14 (by decide) ?_
    exact z_zret X hr hlk (zfits.b0) dX7_isRegister_15 (by first | exact Nat.le_of_ble_eq_true rfl | (dsimp only [zRm]; omega) | omega) (by first | exact Nat.le_of_ble_eq_true rfl | (dsimp only [zRm]; omega) | omega) ⟨Or.inr ⟨by omega, rfl⟩, rfl⟩
  · refine z_iload_n X 0 dX7_isRegister_4 rfl ?_
    refine z_bipush X (nI 8) dX7_isRegister_5 (by decide) ?_
    refine z_icmpU_ge X (zn x) 8 14 dX7_isRegister_7 (by decide) (nI_zn _).symm rfl (zn_lt _) (by omega) (fun c506 => ?_) (fun c506 => ?_)
    · refine z_iconst X (nI 0) dX7_isRegister_14 (by decide) ?_
      exact z_zret X hr hlk (zfits.b0) dX7_isRegister_15 (by first | exact Nat.le_of_ble_eq_true rfl | (dsimp only [zRm]; omega) | omega) (by first | exact Nat.le_of_ble_eq_true rfl | (dsimp only [zRm]; omega) | omega) ⟨Or.inr ⟨by omega, rfl⟩, rfl⟩
    · refine z_iconst X (nI 1) dX7_isRegister_10 (by decide) ?_
      refine z_goto X 15 dX7_isRegister_11 (by decide) ?_
      exact z_zret X hr hlk (zfits.b1) dX7_isRegister_15 (by first | exact Nat.le_of_ble_eq_true rfl | (dsimp only [zRm]; omega) | omega) (by first | exact Nat.le_of_ble_eq_true rfl | (dsimp only [zRm]; omega) | omega) ⟨Or.inl ⟨by omega, rfl⟩, rfl⟩
set_option maxHeartbeats 2000000 in
theorem c_X7_isStep {l : Launch} {G : ZG} {h : ZH} {x : Int32}  : ZM l G yX7_isStep (ws_ yX7_isStep cX7_isStep 1 (Option.some FieldType.boolean)) (zRm 0 0 0 0) [.int x] h (fun v h' => ((zn x < 100 ∧ v = some (.int 1)) ∨ (¬ (zn x < 100) ∧ v = some (.int 0))) ∧ h = h') := by
  refine ZT.zm (ZT.of (by first | exact plainFor_of_name (by decide) | decide +kernel) (Nat.le_of_ble_eq_true rfl) (zcats.i zcats.nil) ?_)
  intro p_ e_ s_ m_ args_ below_ meth_ c_ X hr hlk hin htab
  have X : ZX p_ m_ c_ cX7_isStep 1 s_ args_ "LinkStationModel" G := X
  refine z_lv (lv' := [(0, .int x)]) (fun _ hq => hq) ?_
  have hx := zn_lt x
  refine z_iload_n X 0 dX7_isStep_0 rfl ?_
  refine z_ifU_lt X (zn x) 14 dX7_isStep_1 (by decide) (nI_zn _).symm (zn_lt _) (fun c507 => ?_) (fun c507 => ?_)
  · refine z_iconst X (nI 0) dX7_isStep_14 (by decide) ?_
    exact z_zret X hr hlk (zfits.b0) dX7_isStep_15 (by first | exact Nat.le_of_ble_eq_true rfl | (dsimp only [zRm]; omega) | omega) (by first | exact Nat.le_of_ble_eq_true rfl | (dsimp only [zRm]; omega) | omega) ⟨Or.inr ⟨by omega, rfl⟩, rfl⟩
  · refine z_iload_n X 0 dX7_isStep_4 rfl ?_
    refine z_bipush X (nI 100) dX7_isStep_5 (by decide) ?_
    refine z_icmpU_ge X (zn x) 100 14 dX7_isStep_7 (by decide) (nI_zn _).symm rfl (zn_lt _) (by omega) (fun c508 => ?_) (fun c508 => ?_)
    · refine z_iconst X (nI 0) dX7_isStep_14 (by decide) ?_
      exact z_zret X hr hlk (zfits.b0) dX7_isStep_15 (by first | exact Nat.le_of_ble_eq_true rfl | (dsimp only [zRm]; omega) | omega) (by first | exact Nat.le_of_ble_eq_true rfl | (dsimp only [zRm]; omega) | omega) ⟨Or.inr ⟨by omega, rfl⟩, rfl⟩
    · refine z_iconst X (nI 1) dX7_isStep_10 (by decide) ?_
      refine z_goto X 15 dX7_isStep_11 (by decide) ?_
      exact z_zret X hr hlk (zfits.b1) dX7_isStep_15 (by first | exact Nat.le_of_ble_eq_true rfl | (dsimp only [zRm]; omega) | omega) (by first | exact Nat.le_of_ble_eq_true rfl | (dsimp only [zRm]; omega) | omega) ⟨Or.inl ⟨by omega, rfl⟩, rfl⟩
set_option maxHeartbeats 8000000 in
theorem c_X7_isGood {l : Launch} {G : ZG} {h : ZH} {op x y z : Int32}  : ZM l G yX7_isGood (ws_ yX7_isGood cX7_isGood 4 (Option.some FieldType.boolean)) (zRm 1 0 0 20) [.int op, .int x, .int y, .int z] h (fun v h' => ((zgood op x y z = true ∧ v = some (.int 1)) ∨ (¬ (zgood op x y z = true) ∧ v = some (.int 0))) ∧ h = h') := by
  refine ZT.zm (ZT.of (by first | exact plainFor_of_name (by decide) | decide +kernel) (Nat.le_of_ble_eq_true rfl) (zcats.i (zcats.i (zcats.i (zcats.i zcats.nil)))) ?_)
  intro p_ e_ s_ m_ args_ below_ meth_ c_ X hr hlk hin htab
  have X : ZX p_ m_ c_ cX7_isGood 4 s_ args_ "LinkStationModel" G := X
  refine z_lv (lv' := [(0, .int op), (1, .int x), (2, .int y), (3, .int z)]) (fun _ hq => hq) ?_
  have hop := zn_lt op
  refine z_iload_n X 0 dX7_isGood_0 rfl ?_
  have c509 : zn op = 0 ∨ zn op = 1 ∨ zn op = 2 ∨ zn op = 3 ∨ zn op = 4 ∨ zn op = 5 ∨ zn op = 6 ∨ zn op = 7 ∨ zn op = 8 ∨ zn op = 9 ∨ zn op = 10 ∨ zn op = 11 ∨ zn op = 12 ∨ zn op = 13 ∨ (zn op ≠ 0 ∧ zn op ≠ 1 ∧ zn op ≠ 2 ∧ zn op ≠ 3 ∧ zn op ≠ 4 ∧ zn op ≠ 5 ∧ zn op ≠ 6 ∧ zn op ≠ 7 ∧ zn op ≠ 8 ∧ zn op ≠ 9 ∧ zn op ≠ 10 ∧ zn op ≠ 11 ∧ zn op ≠ 12 ∧ zn op ≠ 13) := by omega
  rcases c509 with c509 | c509 | c509 | c509 | c509 | c509 | c509 | c509 | c509 | c509 | c509 | c509 | c509 | c509 | c509
  · refine z_tableIn X 72 dX7_isGood_1 (by rw [show op = nI 0 from by rw [← c509]; exact (nI_zn _).symm]; decide) (by rw [show op = nI 0 from by rw [← c509]; exact (nI_zn _).symm]; decide) (by rw [show op = nI 0 from by rw [← c509]; exact (nI_zn _).symm]; rfl) (by decide) ?_
    refine z_iload_n X 1 dX7_isGood_72 rfl ?_
    refine z_callS X (rest := []) c_X7_isRegister (va_cwS 1 (zXts X) (lw_S q1723 q1724 q65 q1725) rfl rfl rfl (by decide +kernel) ⟨Nat.le_of_ble_eq_true rfl, Nat.le_of_ble_eq_true rfl⟩) rfl (Nat.le_of_ble_eq_true rfl) ⟨(by first | exact Nat.le_of_ble_eq_true rfl | (dsimp only [zRm]; omega)), (by first | exact Nat.le_of_ble_eq_true rfl | (dsimp only [zRm]; omega))⟩ dX7_isGood_73 (fun v511 h512 p513 => ?_)
    obtain ⟨⟨c510, rfl⟩ | ⟨c510, rfl⟩, rfl⟩ := p513
    · refine z_st (st' := [.int (nI 1)]) rfl ?_
      exact z_zret X hr hlk (zfits.b1) dX7_isGood_76 (by first | exact Nat.le_of_ble_eq_true rfl | (dsimp only [zRm]; omega) | omega) (by first | exact Nat.le_of_ble_eq_true rfl | (dsimp only [zRm]; omega) | omega) ⟨Or.inl ⟨by first | (rw [zop_is c509, zg_0]; omega) | (rw [zop_is (show zn op = 12 by omega), zg_12]) | (rw [zop_is (show zn op = 14 by omega), zg_14]), rfl⟩, rfl⟩
    · refine z_st (st' := [.int (nI 0)]) rfl ?_
      exact z_zret X hr hlk (zfits.b0) dX7_isGood_76 (by first | exact Nat.le_of_ble_eq_true rfl | (dsimp only [zRm]; omega) | omega) (by first | exact Nat.le_of_ble_eq_true rfl | (dsimp only [zRm]; omega) | omega) ⟨Or.inr ⟨by first | (rw [zop_is c509, zg_0]; omega) | (rw [zgood_out (by omega)]; exact Bool.false_ne_true), rfl⟩, rfl⟩
  · refine z_tableIn X 77 dX7_isGood_1 (by rw [show op = nI 1 from by rw [← c509]; exact (nI_zn _).symm]; decide) (by rw [show op = nI 1 from by rw [← c509]; exact (nI_zn _).symm]; decide) (by rw [show op = nI 1 from by rw [← c509]; exact (nI_zn _).symm]; rfl) (by decide) ?_
    refine z_iload_n X 1 dX7_isGood_77 rfl ?_
    refine z_callS X (rest := []) c_X7_isRegister (va_cwS 1 (zXts X) (lw_S q1723 q1724 q65 q1725) rfl rfl rfl (by decide +kernel) ⟨Nat.le_of_ble_eq_true rfl, Nat.le_of_ble_eq_true rfl⟩) rfl (Nat.le_of_ble_eq_true rfl) ⟨(by first | exact Nat.le_of_ble_eq_true rfl | (dsimp only [zRm]; omega)), (by first | exact Nat.le_of_ble_eq_true rfl | (dsimp only [zRm]; omega))⟩ dX7_isGood_78 (fun v515 h516 p517 => ?_)
    obtain ⟨⟨c514, rfl⟩ | ⟨c514, rfl⟩, rfl⟩ := p517
    · refine z_st (st' := [.int (nI 1)]) rfl ?_
      refine z_ifU_eq X 1 95 dX7_isGood_81 (by decide) rfl (by omega) (fun c518 => ?_) (fun c518 => ?_)
      · omega
      · refine z_iload_n X 2 dX7_isGood_84 rfl ?_
        refine z_callS X (rest := []) c_X7_isRegister (va_cwS 1 (zXts X) (lw_S q1723 q1724 q65 q1725) rfl rfl rfl (by decide +kernel) ⟨Nat.le_of_ble_eq_true rfl, Nat.le_of_ble_eq_true rfl⟩) rfl (Nat.le_of_ble_eq_true rfl) ⟨(by first | exact Nat.le_of_ble_eq_true rfl | (dsimp only [zRm]; omega)), (by first | exact Nat.le_of_ble_eq_true rfl | (dsimp only [zRm]; omega))⟩ dX7_isGood_85 (fun v520 h521 p522 => ?_)
        obtain ⟨⟨c519, rfl⟩ | ⟨c519, rfl⟩, rfl⟩ := p522
        · refine z_st (st' := [.int (nI 1)]) rfl ?_
          refine z_ifU_eq X 1 95 dX7_isGood_88 (by decide) rfl (by omega) (fun c523 => ?_) (fun c523 => ?_)
          · omega
          · refine z_iconst X (nI 1) dX7_isGood_91 (by decide) ?_
            refine z_goto X 96 dX7_isGood_92 (by decide) ?_
            exact z_zret X hr hlk (zfits.b1) dX7_isGood_96 (by first | exact Nat.le_of_ble_eq_true rfl | (dsimp only [zRm]; omega) | omega) (by first | exact Nat.le_of_ble_eq_true rfl | (dsimp only [zRm]; omega) | omega) ⟨Or.inl ⟨by first | (rw [zop_is c509, zg_1]; omega) | (rw [zop_is (show zn op = 12 by omega), zg_12]) | (rw [zop_is (show zn op = 14 by omega), zg_14]), rfl⟩, rfl⟩
        · refine z_st (st' := [.int (nI 0)]) rfl ?_
          refine z_ifU_eq X 0 95 dX7_isGood_88 (by decide) rfl (by omega) (fun c524 => ?_) (fun c524 => ?_)
          · refine z_iconst X (nI 0) dX7_isGood_95 (by decide) ?_
            exact z_zret X hr hlk (zfits.b0) dX7_isGood_96 (by first | exact Nat.le_of_ble_eq_true rfl | (dsimp only [zRm]; omega) | omega) (by first | exact Nat.le_of_ble_eq_true rfl | (dsimp only [zRm]; omega) | omega) ⟨Or.inr ⟨by first | (rw [zop_is c509, zg_1]; omega) | (rw [zgood_out (by omega)]; exact Bool.false_ne_true), rfl⟩, rfl⟩
          · omega
    · refine z_st (st' := [.int (nI 0)]) rfl ?_
      refine z_ifU_eq X 0 95 dX7_isGood_81 (by decide) rfl (by omega) (fun c525 => ?_) (fun c525 => ?_)
      · refine z_iconst X (nI 0) dX7_isGood_95 (by decide) ?_
        exact z_zret X hr hlk (zfits.b0) dX7_isGood_96 (by first | exact Nat.le_of_ble_eq_true rfl | (dsimp only [zRm]; omega) | omega) (by first | exact Nat.le_of_ble_eq_true rfl | (dsimp only [zRm]; omega) | omega) ⟨Or.inr ⟨by first | (rw [zop_is c509, zg_1]; omega) | (rw [zgood_out (by omega)]; exact Bool.false_ne_true), rfl⟩, rfl⟩
      · omega
  · refine z_tableIn X 97 dX7_isGood_1 (by rw [show op = nI 2 from by rw [← c509]; exact (nI_zn _).symm]; decide) (by rw [show op = nI 2 from by rw [← c509]; exact (nI_zn _).symm]; decide) (by rw [show op = nI 2 from by rw [← c509]; exact (nI_zn _).symm]; rfl) (by decide) ?_
    refine z_iload_n X 1 dX7_isGood_97 rfl ?_
    refine z_callS X (rest := []) c_X7_isRegister (va_cwS 1 (zXts X) (lw_S q1723 q1724 q65 q1725) rfl rfl rfl (by decide +kernel) ⟨Nat.le_of_ble_eq_true rfl, Nat.le_of_ble_eq_true rfl⟩) rfl (Nat.le_of_ble_eq_true rfl) ⟨(by first | exact Nat.le_of_ble_eq_true rfl | (dsimp only [zRm]; omega)), (by first | exact Nat.le_of_ble_eq_true rfl | (dsimp only [zRm]; omega))⟩ dX7_isGood_98 (fun v527 h528 p529 => ?_)
    obtain ⟨⟨c526, rfl⟩ | ⟨c526, rfl⟩, rfl⟩ := p529
    · refine z_st (st' := [.int (nI 1)]) rfl ?_
      refine z_ifU_eq X 1 122 dX7_isGood_101 (by decide) rfl (by omega) (fun c530 => ?_) (fun c530 => ?_)
      · omega
      · refine z_iload_n X 2 dX7_isGood_104 rfl ?_
        refine z_callS X (rest := []) c_X7_isRegister (va_cwS 1 (zXts X) (lw_S q1723 q1724 q65 q1725) rfl rfl rfl (by decide +kernel) ⟨Nat.le_of_ble_eq_true rfl, Nat.le_of_ble_eq_true rfl⟩) rfl (Nat.le_of_ble_eq_true rfl) ⟨(by first | exact Nat.le_of_ble_eq_true rfl | (dsimp only [zRm]; omega)), (by first | exact Nat.le_of_ble_eq_true rfl | (dsimp only [zRm]; omega))⟩ dX7_isGood_105 (fun v532 h533 p534 => ?_)
        obtain ⟨⟨c531, rfl⟩ | ⟨c531, rfl⟩, rfl⟩ := p534
        · refine z_st (st' := [.int (nI 1)]) rfl ?_
          refine z_ifU_eq X 1 122 dX7_isGood_108 (by decide) rfl (by omega) (fun c535 => ?_) (fun c535 => ?_)
          · omega
          · refine z_iload_n X 3 dX7_isGood_111 rfl ?_
            refine z_callS X (rest := []) c_X7_isRegister (va_cwS 1 (zXts X) (lw_S q1723 q1724 q65 q1725) rfl rfl rfl (by decide +kernel) ⟨Nat.le_of_ble_eq_true rfl, Nat.le_of_ble_eq_true rfl⟩) rfl (Nat.le_of_ble_eq_true rfl) ⟨(by first | exact Nat.le_of_ble_eq_true rfl | (dsimp only [zRm]; omega)), (by first | exact Nat.le_of_ble_eq_true rfl | (dsimp only [zRm]; omega))⟩ dX7_isGood_112 (fun v537 h538 p539 => ?_)
            obtain ⟨⟨c536, rfl⟩ | ⟨c536, rfl⟩, rfl⟩ := p539
            · refine z_st (st' := [.int (nI 1)]) rfl ?_
              refine z_ifU_eq X 1 122 dX7_isGood_115 (by decide) rfl (by omega) (fun c540 => ?_) (fun c540 => ?_)
              · omega
              · refine z_iconst X (nI 1) dX7_isGood_118 (by decide) ?_
                refine z_goto X 123 dX7_isGood_119 (by decide) ?_
                exact z_zret X hr hlk (zfits.b1) dX7_isGood_123 (by first | exact Nat.le_of_ble_eq_true rfl | (dsimp only [zRm]; omega) | omega) (by first | exact Nat.le_of_ble_eq_true rfl | (dsimp only [zRm]; omega) | omega) ⟨Or.inl ⟨by first | (rw [zop_is c509, zg_2]; omega) | (rw [zop_is (show zn op = 12 by omega), zg_12]) | (rw [zop_is (show zn op = 14 by omega), zg_14]), rfl⟩, rfl⟩
            · refine z_st (st' := [.int (nI 0)]) rfl ?_
              refine z_ifU_eq X 0 122 dX7_isGood_115 (by decide) rfl (by omega) (fun c541 => ?_) (fun c541 => ?_)
              · refine z_iconst X (nI 0) dX7_isGood_122 (by decide) ?_
                exact z_zret X hr hlk (zfits.b0) dX7_isGood_123 (by first | exact Nat.le_of_ble_eq_true rfl | (dsimp only [zRm]; omega) | omega) (by first | exact Nat.le_of_ble_eq_true rfl | (dsimp only [zRm]; omega) | omega) ⟨Or.inr ⟨by first | (rw [zop_is c509, zg_2]; omega) | (rw [zgood_out (by omega)]; exact Bool.false_ne_true), rfl⟩, rfl⟩
              · omega
        · refine z_st (st' := [.int (nI 0)]) rfl ?_
          refine z_ifU_eq X 0 122 dX7_isGood_108 (by decide) rfl (by omega) (fun c542 => ?_) (fun c542 => ?_)
          · refine z_iconst X (nI 0) dX7_isGood_122 (by decide) ?_
            exact z_zret X hr hlk (zfits.b0) dX7_isGood_123 (by first | exact Nat.le_of_ble_eq_true rfl | (dsimp only [zRm]; omega) | omega) (by first | exact Nat.le_of_ble_eq_true rfl | (dsimp only [zRm]; omega) | omega) ⟨Or.inr ⟨by first | (rw [zop_is c509, zg_2]; omega) | (rw [zgood_out (by omega)]; exact Bool.false_ne_true), rfl⟩, rfl⟩
          · omega
    · refine z_st (st' := [.int (nI 0)]) rfl ?_
      refine z_ifU_eq X 0 122 dX7_isGood_101 (by decide) rfl (by omega) (fun c543 => ?_) (fun c543 => ?_)
      · refine z_iconst X (nI 0) dX7_isGood_122 (by decide) ?_
        exact z_zret X hr hlk (zfits.b0) dX7_isGood_123 (by first | exact Nat.le_of_ble_eq_true rfl | (dsimp only [zRm]; omega) | omega) (by first | exact Nat.le_of_ble_eq_true rfl | (dsimp only [zRm]; omega) | omega) ⟨Or.inr ⟨by first | (rw [zop_is c509, zg_2]; omega) | (rw [zgood_out (by omega)]; exact Bool.false_ne_true), rfl⟩, rfl⟩
      · omega
  · refine z_tableIn X 97 dX7_isGood_1 (by rw [show op = nI 3 from by rw [← c509]; exact (nI_zn _).symm]; decide) (by rw [show op = nI 3 from by rw [← c509]; exact (nI_zn _).symm]; decide) (by rw [show op = nI 3 from by rw [← c509]; exact (nI_zn _).symm]; rfl) (by decide) ?_
    refine z_iload_n X 1 dX7_isGood_97 rfl ?_
    refine z_callS X (rest := []) c_X7_isRegister (va_cwS 1 (zXts X) (lw_S q1723 q1724 q65 q1725) rfl rfl rfl (by decide +kernel) ⟨Nat.le_of_ble_eq_true rfl, Nat.le_of_ble_eq_true rfl⟩) rfl (Nat.le_of_ble_eq_true rfl) ⟨(by first | exact Nat.le_of_ble_eq_true rfl | (dsimp only [zRm]; omega)), (by first | exact Nat.le_of_ble_eq_true rfl | (dsimp only [zRm]; omega))⟩ dX7_isGood_98 (fun v545 h546 p547 => ?_)
    obtain ⟨⟨c544, rfl⟩ | ⟨c544, rfl⟩, rfl⟩ := p547
    · refine z_st (st' := [.int (nI 1)]) rfl ?_
      refine z_ifU_eq X 1 122 dX7_isGood_101 (by decide) rfl (by omega) (fun c548 => ?_) (fun c548 => ?_)
      · omega
      · refine z_iload_n X 2 dX7_isGood_104 rfl ?_
        refine z_callS X (rest := []) c_X7_isRegister (va_cwS 1 (zXts X) (lw_S q1723 q1724 q65 q1725) rfl rfl rfl (by decide +kernel) ⟨Nat.le_of_ble_eq_true rfl, Nat.le_of_ble_eq_true rfl⟩) rfl (Nat.le_of_ble_eq_true rfl) ⟨(by first | exact Nat.le_of_ble_eq_true rfl | (dsimp only [zRm]; omega)), (by first | exact Nat.le_of_ble_eq_true rfl | (dsimp only [zRm]; omega))⟩ dX7_isGood_105 (fun v550 h551 p552 => ?_)
        obtain ⟨⟨c549, rfl⟩ | ⟨c549, rfl⟩, rfl⟩ := p552
        · refine z_st (st' := [.int (nI 1)]) rfl ?_
          refine z_ifU_eq X 1 122 dX7_isGood_108 (by decide) rfl (by omega) (fun c553 => ?_) (fun c553 => ?_)
          · omega
          · refine z_iload_n X 3 dX7_isGood_111 rfl ?_
            refine z_callS X (rest := []) c_X7_isRegister (va_cwS 1 (zXts X) (lw_S q1723 q1724 q65 q1725) rfl rfl rfl (by decide +kernel) ⟨Nat.le_of_ble_eq_true rfl, Nat.le_of_ble_eq_true rfl⟩) rfl (Nat.le_of_ble_eq_true rfl) ⟨(by first | exact Nat.le_of_ble_eq_true rfl | (dsimp only [zRm]; omega)), (by first | exact Nat.le_of_ble_eq_true rfl | (dsimp only [zRm]; omega))⟩ dX7_isGood_112 (fun v555 h556 p557 => ?_)
            obtain ⟨⟨c554, rfl⟩ | ⟨c554, rfl⟩, rfl⟩ := p557
            · refine z_st (st' := [.int (nI 1)]) rfl ?_
              refine z_ifU_eq X 1 122 dX7_isGood_115 (by decide) rfl (by omega) (fun c558 => ?_) (fun c558 => ?_)
              · omega
              · refine z_iconst X (nI 1) dX7_isGood_118 (by decide) ?_
                refine z_goto X 123 dX7_isGood_119 (by decide) ?_
                exact z_zret X hr hlk (zfits.b1) dX7_isGood_123 (by first | exact Nat.le_of_ble_eq_true rfl | (dsimp only [zRm]; omega) | omega) (by first | exact Nat.le_of_ble_eq_true rfl | (dsimp only [zRm]; omega) | omega) ⟨Or.inl ⟨by first | (rw [zop_is c509, zg_3]; omega) | (rw [zop_is (show zn op = 12 by omega), zg_12]) | (rw [zop_is (show zn op = 14 by omega), zg_14]), rfl⟩, rfl⟩
            · refine z_st (st' := [.int (nI 0)]) rfl ?_
              refine z_ifU_eq X 0 122 dX7_isGood_115 (by decide) rfl (by omega) (fun c559 => ?_) (fun c559 => ?_)
              · refine z_iconst X (nI 0) dX7_isGood_122 (by decide) ?_
                exact z_zret X hr hlk (zfits.b0) dX7_isGood_123 (by first | exact Nat.le_of_ble_eq_true rfl | (dsimp only [zRm]; omega) | omega) (by first | exact Nat.le_of_ble_eq_true rfl | (dsimp only [zRm]; omega) | omega) ⟨Or.inr ⟨by first | (rw [zop_is c509, zg_3]; omega) | (rw [zgood_out (by omega)]; exact Bool.false_ne_true), rfl⟩, rfl⟩
              · omega
        · refine z_st (st' := [.int (nI 0)]) rfl ?_
          refine z_ifU_eq X 0 122 dX7_isGood_108 (by decide) rfl (by omega) (fun c560 => ?_) (fun c560 => ?_)
          · refine z_iconst X (nI 0) dX7_isGood_122 (by decide) ?_
            exact z_zret X hr hlk (zfits.b0) dX7_isGood_123 (by first | exact Nat.le_of_ble_eq_true rfl | (dsimp only [zRm]; omega) | omega) (by first | exact Nat.le_of_ble_eq_true rfl | (dsimp only [zRm]; omega) | omega) ⟨Or.inr ⟨by first | (rw [zop_is c509, zg_3]; omega) | (rw [zgood_out (by omega)]; exact Bool.false_ne_true), rfl⟩, rfl⟩
          · omega
    · refine z_st (st' := [.int (nI 0)]) rfl ?_
      refine z_ifU_eq X 0 122 dX7_isGood_101 (by decide) rfl (by omega) (fun c561 => ?_) (fun c561 => ?_)
      · refine z_iconst X (nI 0) dX7_isGood_122 (by decide) ?_
        exact z_zret X hr hlk (zfits.b0) dX7_isGood_123 (by first | exact Nat.le_of_ble_eq_true rfl | (dsimp only [zRm]; omega) | omega) (by first | exact Nat.le_of_ble_eq_true rfl | (dsimp only [zRm]; omega) | omega) ⟨Or.inr ⟨by first | (rw [zop_is c509, zg_3]; omega) | (rw [zgood_out (by omega)]; exact Bool.false_ne_true), rfl⟩, rfl⟩
      · omega
  · refine z_tableIn X 97 dX7_isGood_1 (by rw [show op = nI 4 from by rw [← c509]; exact (nI_zn _).symm]; decide) (by rw [show op = nI 4 from by rw [← c509]; exact (nI_zn _).symm]; decide) (by rw [show op = nI 4 from by rw [← c509]; exact (nI_zn _).symm]; rfl) (by decide) ?_
    refine z_iload_n X 1 dX7_isGood_97 rfl ?_
    refine z_callS X (rest := []) c_X7_isRegister (va_cwS 1 (zXts X) (lw_S q1723 q1724 q65 q1725) rfl rfl rfl (by decide +kernel) ⟨Nat.le_of_ble_eq_true rfl, Nat.le_of_ble_eq_true rfl⟩) rfl (Nat.le_of_ble_eq_true rfl) ⟨(by first | exact Nat.le_of_ble_eq_true rfl | (dsimp only [zRm]; omega)), (by first | exact Nat.le_of_ble_eq_true rfl | (dsimp only [zRm]; omega))⟩ dX7_isGood_98 (fun v563 h564 p565 => ?_)
    obtain ⟨⟨c562, rfl⟩ | ⟨c562, rfl⟩, rfl⟩ := p565
    · refine z_st (st' := [.int (nI 1)]) rfl ?_
      refine z_ifU_eq X 1 122 dX7_isGood_101 (by decide) rfl (by omega) (fun c566 => ?_) (fun c566 => ?_)
      · omega
      · refine z_iload_n X 2 dX7_isGood_104 rfl ?_
        refine z_callS X (rest := []) c_X7_isRegister (va_cwS 1 (zXts X) (lw_S q1723 q1724 q65 q1725) rfl rfl rfl (by decide +kernel) ⟨Nat.le_of_ble_eq_true rfl, Nat.le_of_ble_eq_true rfl⟩) rfl (Nat.le_of_ble_eq_true rfl) ⟨(by first | exact Nat.le_of_ble_eq_true rfl | (dsimp only [zRm]; omega)), (by first | exact Nat.le_of_ble_eq_true rfl | (dsimp only [zRm]; omega))⟩ dX7_isGood_105 (fun v568 h569 p570 => ?_)
        obtain ⟨⟨c567, rfl⟩ | ⟨c567, rfl⟩, rfl⟩ := p570
        · refine z_st (st' := [.int (nI 1)]) rfl ?_
          refine z_ifU_eq X 1 122 dX7_isGood_108 (by decide) rfl (by omega) (fun c571 => ?_) (fun c571 => ?_)
          · omega
          · refine z_iload_n X 3 dX7_isGood_111 rfl ?_
            refine z_callS X (rest := []) c_X7_isRegister (va_cwS 1 (zXts X) (lw_S q1723 q1724 q65 q1725) rfl rfl rfl (by decide +kernel) ⟨Nat.le_of_ble_eq_true rfl, Nat.le_of_ble_eq_true rfl⟩) rfl (Nat.le_of_ble_eq_true rfl) ⟨(by first | exact Nat.le_of_ble_eq_true rfl | (dsimp only [zRm]; omega)), (by first | exact Nat.le_of_ble_eq_true rfl | (dsimp only [zRm]; omega))⟩ dX7_isGood_112 (fun v573 h574 p575 => ?_)
            obtain ⟨⟨c572, rfl⟩ | ⟨c572, rfl⟩, rfl⟩ := p575
            · refine z_st (st' := [.int (nI 1)]) rfl ?_
              refine z_ifU_eq X 1 122 dX7_isGood_115 (by decide) rfl (by omega) (fun c576 => ?_) (fun c576 => ?_)
              · omega
              · refine z_iconst X (nI 1) dX7_isGood_118 (by decide) ?_
                refine z_goto X 123 dX7_isGood_119 (by decide) ?_
                exact z_zret X hr hlk (zfits.b1) dX7_isGood_123 (by first | exact Nat.le_of_ble_eq_true rfl | (dsimp only [zRm]; omega) | omega) (by first | exact Nat.le_of_ble_eq_true rfl | (dsimp only [zRm]; omega) | omega) ⟨Or.inl ⟨by first | (rw [zop_is c509, zg_4]; omega) | (rw [zop_is (show zn op = 12 by omega), zg_12]) | (rw [zop_is (show zn op = 14 by omega), zg_14]), rfl⟩, rfl⟩
            · refine z_st (st' := [.int (nI 0)]) rfl ?_
              refine z_ifU_eq X 0 122 dX7_isGood_115 (by decide) rfl (by omega) (fun c577 => ?_) (fun c577 => ?_)
              · refine z_iconst X (nI 0) dX7_isGood_122 (by decide) ?_
                exact z_zret X hr hlk (zfits.b0) dX7_isGood_123 (by first | exact Nat.le_of_ble_eq_true rfl | (dsimp only [zRm]; omega) | omega) (by first | exact Nat.le_of_ble_eq_true rfl | (dsimp only [zRm]; omega) | omega) ⟨Or.inr ⟨by first | (rw [zop_is c509, zg_4]; omega) | (rw [zgood_out (by omega)]; exact Bool.false_ne_true), rfl⟩, rfl⟩
              · omega
        · refine z_st (st' := [.int (nI 0)]) rfl ?_
          refine z_ifU_eq X 0 122 dX7_isGood_108 (by decide) rfl (by omega) (fun c578 => ?_) (fun c578 => ?_)
          · refine z_iconst X (nI 0) dX7_isGood_122 (by decide) ?_
            exact z_zret X hr hlk (zfits.b0) dX7_isGood_123 (by first | exact Nat.le_of_ble_eq_true rfl | (dsimp only [zRm]; omega) | omega) (by first | exact Nat.le_of_ble_eq_true rfl | (dsimp only [zRm]; omega) | omega) ⟨Or.inr ⟨by first | (rw [zop_is c509, zg_4]; omega) | (rw [zgood_out (by omega)]; exact Bool.false_ne_true), rfl⟩, rfl⟩
          · omega
    · refine z_st (st' := [.int (nI 0)]) rfl ?_
      refine z_ifU_eq X 0 122 dX7_isGood_101 (by decide) rfl (by omega) (fun c579 => ?_) (fun c579 => ?_)
      · refine z_iconst X (nI 0) dX7_isGood_122 (by decide) ?_
        exact z_zret X hr hlk (zfits.b0) dX7_isGood_123 (by first | exact Nat.le_of_ble_eq_true rfl | (dsimp only [zRm]; omega) | omega) (by first | exact Nat.le_of_ble_eq_true rfl | (dsimp only [zRm]; omega) | omega) ⟨Or.inr ⟨by first | (rw [zop_is c509, zg_4]; omega) | (rw [zgood_out (by omega)]; exact Bool.false_ne_true), rfl⟩, rfl⟩
      · omega
  · refine z_tableIn X 124 dX7_isGood_1 (by rw [show op = nI 5 from by rw [← c509]; exact (nI_zn _).symm]; decide) (by rw [show op = nI 5 from by rw [← c509]; exact (nI_zn _).symm]; decide) (by rw [show op = nI 5 from by rw [← c509]; exact (nI_zn _).symm]; rfl) (by decide) ?_
    refine z_iload_n X 1 dX7_isGood_124 rfl ?_
    refine z_callS X (rest := []) c_X7_isRegister (va_cwS 1 (zXts X) (lw_S q1723 q1724 q65 q1725) rfl rfl rfl (by decide +kernel) ⟨Nat.le_of_ble_eq_true rfl, Nat.le_of_ble_eq_true rfl⟩) rfl (Nat.le_of_ble_eq_true rfl) ⟨(by first | exact Nat.le_of_ble_eq_true rfl | (dsimp only [zRm]; omega)), (by first | exact Nat.le_of_ble_eq_true rfl | (dsimp only [zRm]; omega))⟩ dX7_isGood_125 (fun v581 h582 p583 => ?_)
    obtain ⟨⟨c580, rfl⟩ | ⟨c580, rfl⟩, rfl⟩ := p583
    · refine z_st (st' := [.int (nI 1)]) rfl ?_
      refine z_ifU_eq X 1 149 dX7_isGood_128 (by decide) rfl (by omega) (fun c584 => ?_) (fun c584 => ?_)
      · omega
      · refine z_iload_n X 2 dX7_isGood_131 rfl ?_
        refine z_callS X (rest := []) c_X7_isRegister (va_cwS 1 (zXts X) (lw_S q1723 q1724 q65 q1725) rfl rfl rfl (by decide +kernel) ⟨Nat.le_of_ble_eq_true rfl, Nat.le_of_ble_eq_true rfl⟩) rfl (Nat.le_of_ble_eq_true rfl) ⟨(by first | exact Nat.le_of_ble_eq_true rfl | (dsimp only [zRm]; omega)), (by first | exact Nat.le_of_ble_eq_true rfl | (dsimp only [zRm]; omega))⟩ dX7_isGood_132 (fun v586 h587 p588 => ?_)
        obtain ⟨⟨c585, rfl⟩ | ⟨c585, rfl⟩, rfl⟩ := p588
        · refine z_st (st' := [.int (nI 1)]) rfl ?_
          refine z_ifU_eq X 1 149 dX7_isGood_135 (by decide) rfl (by omega) (fun c589 => ?_) (fun c589 => ?_)
          · omega
          · refine z_iload_n X 3 dX7_isGood_138 rfl ?_
            refine z_callS X (rest := []) c_X7_isStep (va_cwS 1 (zXts X) (lw_S q1701 q1702 q65 q1703) rfl rfl rfl (by decide +kernel) ⟨Nat.le_of_ble_eq_true rfl, Nat.le_of_ble_eq_true rfl⟩) rfl (Nat.le_of_ble_eq_true rfl) ⟨(by first | exact Nat.le_of_ble_eq_true rfl | (dsimp only [zRm]; omega)), (by first | exact Nat.le_of_ble_eq_true rfl | (dsimp only [zRm]; omega))⟩ dX7_isGood_139 (fun v591 h592 p593 => ?_)
            obtain ⟨⟨c590, rfl⟩ | ⟨c590, rfl⟩, rfl⟩ := p593
            · refine z_st (st' := [.int (nI 1)]) rfl ?_
              refine z_ifU_eq X 1 149 dX7_isGood_142 (by decide) rfl (by omega) (fun c594 => ?_) (fun c594 => ?_)
              · omega
              · refine z_iconst X (nI 1) dX7_isGood_145 (by decide) ?_
                refine z_goto X 150 dX7_isGood_146 (by decide) ?_
                exact z_zret X hr hlk (zfits.b1) dX7_isGood_150 (by first | exact Nat.le_of_ble_eq_true rfl | (dsimp only [zRm]; omega) | omega) (by first | exact Nat.le_of_ble_eq_true rfl | (dsimp only [zRm]; omega) | omega) ⟨Or.inl ⟨by first | (rw [zop_is c509, zg_5]; omega) | (rw [zop_is (show zn op = 12 by omega), zg_12]) | (rw [zop_is (show zn op = 14 by omega), zg_14]), rfl⟩, rfl⟩
            · refine z_st (st' := [.int (nI 0)]) rfl ?_
              refine z_ifU_eq X 0 149 dX7_isGood_142 (by decide) rfl (by omega) (fun c595 => ?_) (fun c595 => ?_)
              · refine z_iconst X (nI 0) dX7_isGood_149 (by decide) ?_
                exact z_zret X hr hlk (zfits.b0) dX7_isGood_150 (by first | exact Nat.le_of_ble_eq_true rfl | (dsimp only [zRm]; omega) | omega) (by first | exact Nat.le_of_ble_eq_true rfl | (dsimp only [zRm]; omega) | omega) ⟨Or.inr ⟨by first | (rw [zop_is c509, zg_5]; omega) | (rw [zgood_out (by omega)]; exact Bool.false_ne_true), rfl⟩, rfl⟩
              · omega
        · refine z_st (st' := [.int (nI 0)]) rfl ?_
          refine z_ifU_eq X 0 149 dX7_isGood_135 (by decide) rfl (by omega) (fun c596 => ?_) (fun c596 => ?_)
          · refine z_iconst X (nI 0) dX7_isGood_149 (by decide) ?_
            exact z_zret X hr hlk (zfits.b0) dX7_isGood_150 (by first | exact Nat.le_of_ble_eq_true rfl | (dsimp only [zRm]; omega) | omega) (by first | exact Nat.le_of_ble_eq_true rfl | (dsimp only [zRm]; omega) | omega) ⟨Or.inr ⟨by first | (rw [zop_is c509, zg_5]; omega) | (rw [zgood_out (by omega)]; exact Bool.false_ne_true), rfl⟩, rfl⟩
          · omega
    · refine z_st (st' := [.int (nI 0)]) rfl ?_
      refine z_ifU_eq X 0 149 dX7_isGood_128 (by decide) rfl (by omega) (fun c597 => ?_) (fun c597 => ?_)
      · refine z_iconst X (nI 0) dX7_isGood_149 (by decide) ?_
        exact z_zret X hr hlk (zfits.b0) dX7_isGood_150 (by first | exact Nat.le_of_ble_eq_true rfl | (dsimp only [zRm]; omega) | omega) (by first | exact Nat.le_of_ble_eq_true rfl | (dsimp only [zRm]; omega) | omega) ⟨Or.inr ⟨by first | (rw [zop_is c509, zg_5]; omega) | (rw [zgood_out (by omega)]; exact Bool.false_ne_true), rfl⟩, rfl⟩
      · omega
  · refine z_tableIn X 151 dX7_isGood_1 (by rw [show op = nI 6 from by rw [← c509]; exact (nI_zn _).symm]; decide) (by rw [show op = nI 6 from by rw [← c509]; exact (nI_zn _).symm]; decide) (by rw [show op = nI 6 from by rw [← c509]; exact (nI_zn _).symm]; rfl) (by decide) ?_
    refine z_iload_n X 1 dX7_isGood_151 rfl ?_
    refine z_callS X (rest := []) c_X7_isStep (va_cwS 1 (zXts X) (lw_S q1701 q1702 q65 q1703) rfl rfl rfl (by decide +kernel) ⟨Nat.le_of_ble_eq_true rfl, Nat.le_of_ble_eq_true rfl⟩) rfl (Nat.le_of_ble_eq_true rfl) ⟨(by first | exact Nat.le_of_ble_eq_true rfl | (dsimp only [zRm]; omega)), (by first | exact Nat.le_of_ble_eq_true rfl | (dsimp only [zRm]; omega))⟩ dX7_isGood_152 (fun v599 h600 p601 => ?_)
    obtain ⟨⟨c598, rfl⟩ | ⟨c598, rfl⟩, rfl⟩ := p601
    · refine z_st (st' := [.int (nI 1)]) rfl ?_
      exact z_zret X hr hlk (zfits.b1) dX7_isGood_155 (by first | exact Nat.le_of_ble_eq_true rfl | (dsimp only [zRm]; omega) | omega) (by first | exact Nat.le_of_ble_eq_true rfl | (dsimp only [zRm]; omega) | omega) ⟨Or.inl ⟨by first | (rw [zop_is c509, zg_6]; omega) | (rw [zop_is (show zn op = 12 by omega), zg_12]) | (rw [zop_is (show zn op = 14 by omega), zg_14]), rfl⟩, rfl⟩
    · refine z_st (st' := [.int (nI 0)]) rfl ?_
      exact z_zret X hr hlk (zfits.b0) dX7_isGood_155 (by first | exact Nat.le_of_ble_eq_true rfl | (dsimp only [zRm]; omega) | omega) (by first | exact Nat.le_of_ble_eq_true rfl | (dsimp only [zRm]; omega) | omega) ⟨Or.inr ⟨by first | (rw [zop_is c509, zg_6]; omega) | (rw [zgood_out (by omega)]; exact Bool.false_ne_true), rfl⟩, rfl⟩
  · refine z_tableIn X 156 dX7_isGood_1 (by rw [show op = nI 7 from by rw [← c509]; exact (nI_zn _).symm]; decide) (by rw [show op = nI 7 from by rw [← c509]; exact (nI_zn _).symm]; decide) (by rw [show op = nI 7 from by rw [← c509]; exact (nI_zn _).symm]; rfl) (by decide) ?_
    refine z_iload_n X 1 dX7_isGood_156 rfl ?_
    refine z_callS X (rest := []) c_X7_isName (va_cwS 1 (zXts X) (lw_S q1698 q1699 q65 q1700) rfl rfl rfl (by decide +kernel) ⟨Nat.le_of_ble_eq_true rfl, Nat.le_of_ble_eq_true rfl⟩) rfl (Nat.le_of_ble_eq_true rfl) ⟨(by first | exact Nat.le_of_ble_eq_true rfl | (dsimp only [zRm]; omega)), (by first | exact Nat.le_of_ble_eq_true rfl | (dsimp only [zRm]; omega))⟩ dX7_isGood_157 (fun v603 h604 p605 => ?_)
    obtain ⟨⟨c602, rfl⟩ | ⟨c602, rfl⟩, rfl⟩ := p605
    · refine z_st (st' := [.int (nI 1)]) rfl ?_
      exact z_zret X hr hlk (zfits.b1) dX7_isGood_160 (by first | exact Nat.le_of_ble_eq_true rfl | (dsimp only [zRm]; omega) | omega) (by first | exact Nat.le_of_ble_eq_true rfl | (dsimp only [zRm]; omega) | omega) ⟨Or.inl ⟨by first | (rw [zop_is c509, zg_7]; omega) | (rw [zop_is (show zn op = 12 by omega), zg_12]) | (rw [zop_is (show zn op = 14 by omega), zg_14]), rfl⟩, rfl⟩
    · refine z_st (st' := [.int (nI 0)]) rfl ?_
      exact z_zret X hr hlk (zfits.b0) dX7_isGood_160 (by first | exact Nat.le_of_ble_eq_true rfl | (dsimp only [zRm]; omega) | omega) (by first | exact Nat.le_of_ble_eq_true rfl | (dsimp only [zRm]; omega) | omega) ⟨Or.inr ⟨by first | (rw [zop_is c509, zg_7]; omega) | (rw [zgood_out (by omega)]; exact Bool.false_ne_true), rfl⟩, rfl⟩
  · refine z_tableIn X 161 dX7_isGood_1 (by rw [show op = nI 8 from by rw [← c509]; exact (nI_zn _).symm]; decide) (by rw [show op = nI 8 from by rw [← c509]; exact (nI_zn _).symm]; decide) (by rw [show op = nI 8 from by rw [← c509]; exact (nI_zn _).symm]; rfl) (by decide) ?_
    refine z_iload_n X 1 dX7_isGood_161 rfl ?_
    refine z_callS X (rest := []) c_X7_isRegister (va_cwS 1 (zXts X) (lw_S q1723 q1724 q65 q1725) rfl rfl rfl (by decide +kernel) ⟨Nat.le_of_ble_eq_true rfl, Nat.le_of_ble_eq_true rfl⟩) rfl (Nat.le_of_ble_eq_true rfl) ⟨(by first | exact Nat.le_of_ble_eq_true rfl | (dsimp only [zRm]; omega)), (by first | exact Nat.le_of_ble_eq_true rfl | (dsimp only [zRm]; omega))⟩ dX7_isGood_162 (fun v607 h608 p609 => ?_)
    obtain ⟨⟨c606, rfl⟩ | ⟨c606, rfl⟩, rfl⟩ := p609
    · refine z_st (st' := [.int (nI 1)]) rfl ?_
      refine z_ifU_eq X 1 179 dX7_isGood_165 (by decide) rfl (by omega) (fun c610 => ?_) (fun c610 => ?_)
      · omega
      · refine z_iload_n X 2 dX7_isGood_168 rfl ?_
        refine z_callS X (rest := []) c_X7_isName (va_cwS 1 (zXts X) (lw_S q1698 q1699 q65 q1700) rfl rfl rfl (by decide +kernel) ⟨Nat.le_of_ble_eq_true rfl, Nat.le_of_ble_eq_true rfl⟩) rfl (Nat.le_of_ble_eq_true rfl) ⟨(by first | exact Nat.le_of_ble_eq_true rfl | (dsimp only [zRm]; omega)), (by first | exact Nat.le_of_ble_eq_true rfl | (dsimp only [zRm]; omega))⟩ dX7_isGood_169 (fun v612 h613 p614 => ?_)
        obtain ⟨⟨c611, rfl⟩ | ⟨c611, rfl⟩, rfl⟩ := p614
        · refine z_st (st' := [.int (nI 1)]) rfl ?_
          refine z_ifU_eq X 1 179 dX7_isGood_172 (by decide) rfl (by omega) (fun c615 => ?_) (fun c615 => ?_)
          · omega
          · refine z_iconst X (nI 1) dX7_isGood_175 (by decide) ?_
            refine z_goto X 180 dX7_isGood_176 (by decide) ?_
            exact z_zret X hr hlk (zfits.b1) dX7_isGood_180 (by first | exact Nat.le_of_ble_eq_true rfl | (dsimp only [zRm]; omega) | omega) (by first | exact Nat.le_of_ble_eq_true rfl | (dsimp only [zRm]; omega) | omega) ⟨Or.inl ⟨by first | (rw [zop_is c509, zg_8]; omega) | (rw [zop_is (show zn op = 12 by omega), zg_12]) | (rw [zop_is (show zn op = 14 by omega), zg_14]), rfl⟩, rfl⟩
        · refine z_st (st' := [.int (nI 0)]) rfl ?_
          refine z_ifU_eq X 0 179 dX7_isGood_172 (by decide) rfl (by omega) (fun c616 => ?_) (fun c616 => ?_)
          · refine z_iconst X (nI 0) dX7_isGood_179 (by decide) ?_
            exact z_zret X hr hlk (zfits.b0) dX7_isGood_180 (by first | exact Nat.le_of_ble_eq_true rfl | (dsimp only [zRm]; omega) | omega) (by first | exact Nat.le_of_ble_eq_true rfl | (dsimp only [zRm]; omega) | omega) ⟨Or.inr ⟨by first | (rw [zop_is c509, zg_8]; omega) | (rw [zgood_out (by omega)]; exact Bool.false_ne_true), rfl⟩, rfl⟩
          · omega
    · refine z_st (st' := [.int (nI 0)]) rfl ?_
      refine z_ifU_eq X 0 179 dX7_isGood_165 (by decide) rfl (by omega) (fun c617 => ?_) (fun c617 => ?_)
      · refine z_iconst X (nI 0) dX7_isGood_179 (by decide) ?_
        exact z_zret X hr hlk (zfits.b0) dX7_isGood_180 (by first | exact Nat.le_of_ble_eq_true rfl | (dsimp only [zRm]; omega) | omega) (by first | exact Nat.le_of_ble_eq_true rfl | (dsimp only [zRm]; omega) | omega) ⟨Or.inr ⟨by first | (rw [zop_is c509, zg_8]; omega) | (rw [zgood_out (by omega)]; exact Bool.false_ne_true), rfl⟩, rfl⟩
      · omega
  · refine z_tableIn X 181 dX7_isGood_1 (by rw [show op = nI 9 from by rw [← c509]; exact (nI_zn _).symm]; decide) (by rw [show op = nI 9 from by rw [← c509]; exact (nI_zn _).symm]; decide) (by rw [show op = nI 9 from by rw [← c509]; exact (nI_zn _).symm]; rfl) (by decide) ?_
    refine z_iload_n X 1 dX7_isGood_181 rfl ?_
    refine z_callS X (rest := []) c_X7_isName (va_cwS 1 (zXts X) (lw_S q1698 q1699 q65 q1700) rfl rfl rfl (by decide +kernel) ⟨Nat.le_of_ble_eq_true rfl, Nat.le_of_ble_eq_true rfl⟩) rfl (Nat.le_of_ble_eq_true rfl) ⟨(by first | exact Nat.le_of_ble_eq_true rfl | (dsimp only [zRm]; omega)), (by first | exact Nat.le_of_ble_eq_true rfl | (dsimp only [zRm]; omega))⟩ dX7_isGood_182 (fun v619 h620 p621 => ?_)
    obtain ⟨⟨c618, rfl⟩ | ⟨c618, rfl⟩, rfl⟩ := p621
    · refine z_st (st' := [.int (nI 1)]) rfl ?_
      refine z_ifU_eq X 1 199 dX7_isGood_185 (by decide) rfl (by omega) (fun c622 => ?_) (fun c622 => ?_)
      · omega
      · refine z_iload_n X 2 dX7_isGood_188 rfl ?_
        refine z_callS X (rest := []) c_X7_isRegister (va_cwS 1 (zXts X) (lw_S q1723 q1724 q65 q1725) rfl rfl rfl (by decide +kernel) ⟨Nat.le_of_ble_eq_true rfl, Nat.le_of_ble_eq_true rfl⟩) rfl (Nat.le_of_ble_eq_true rfl) ⟨(by first | exact Nat.le_of_ble_eq_true rfl | (dsimp only [zRm]; omega)), (by first | exact Nat.le_of_ble_eq_true rfl | (dsimp only [zRm]; omega))⟩ dX7_isGood_189 (fun v624 h625 p626 => ?_)
        obtain ⟨⟨c623, rfl⟩ | ⟨c623, rfl⟩, rfl⟩ := p626
        · refine z_st (st' := [.int (nI 1)]) rfl ?_
          refine z_ifU_eq X 1 199 dX7_isGood_192 (by decide) rfl (by omega) (fun c627 => ?_) (fun c627 => ?_)
          · omega
          · refine z_iconst X (nI 1) dX7_isGood_195 (by decide) ?_
            refine z_goto X 200 dX7_isGood_196 (by decide) ?_
            exact z_zret X hr hlk (zfits.b1) dX7_isGood_200 (by first | exact Nat.le_of_ble_eq_true rfl | (dsimp only [zRm]; omega) | omega) (by first | exact Nat.le_of_ble_eq_true rfl | (dsimp only [zRm]; omega) | omega) ⟨Or.inl ⟨by first | (rw [zop_is c509, zg_9]; omega) | (rw [zop_is (show zn op = 12 by omega), zg_12]) | (rw [zop_is (show zn op = 14 by omega), zg_14]), rfl⟩, rfl⟩
        · refine z_st (st' := [.int (nI 0)]) rfl ?_
          refine z_ifU_eq X 0 199 dX7_isGood_192 (by decide) rfl (by omega) (fun c628 => ?_) (fun c628 => ?_)
          · refine z_iconst X (nI 0) dX7_isGood_199 (by decide) ?_
            exact z_zret X hr hlk (zfits.b0) dX7_isGood_200 (by first | exact Nat.le_of_ble_eq_true rfl | (dsimp only [zRm]; omega) | omega) (by first | exact Nat.le_of_ble_eq_true rfl | (dsimp only [zRm]; omega) | omega) ⟨Or.inr ⟨by first | (rw [zop_is c509, zg_9]; omega) | (rw [zgood_out (by omega)]; exact Bool.false_ne_true), rfl⟩, rfl⟩
          · omega
    · refine z_st (st' := [.int (nI 0)]) rfl ?_
      refine z_ifU_eq X 0 199 dX7_isGood_185 (by decide) rfl (by omega) (fun c629 => ?_) (fun c629 => ?_)
      · refine z_iconst X (nI 0) dX7_isGood_199 (by decide) ?_
        exact z_zret X hr hlk (zfits.b0) dX7_isGood_200 (by first | exact Nat.le_of_ble_eq_true rfl | (dsimp only [zRm]; omega) | omega) (by first | exact Nat.le_of_ble_eq_true rfl | (dsimp only [zRm]; omega) | omega) ⟨Or.inr ⟨by first | (rw [zop_is c509, zg_9]; omega) | (rw [zgood_out (by omega)]; exact Bool.false_ne_true), rfl⟩, rfl⟩
      · omega
  · refine z_tableIn X 161 dX7_isGood_1 (by rw [show op = nI 10 from by rw [← c509]; exact (nI_zn _).symm]; decide) (by rw [show op = nI 10 from by rw [← c509]; exact (nI_zn _).symm]; decide) (by rw [show op = nI 10 from by rw [← c509]; exact (nI_zn _).symm]; rfl) (by decide) ?_
    refine z_iload_n X 1 dX7_isGood_161 rfl ?_
    refine z_callS X (rest := []) c_X7_isRegister (va_cwS 1 (zXts X) (lw_S q1723 q1724 q65 q1725) rfl rfl rfl (by decide +kernel) ⟨Nat.le_of_ble_eq_true rfl, Nat.le_of_ble_eq_true rfl⟩) rfl (Nat.le_of_ble_eq_true rfl) ⟨(by first | exact Nat.le_of_ble_eq_true rfl | (dsimp only [zRm]; omega)), (by first | exact Nat.le_of_ble_eq_true rfl | (dsimp only [zRm]; omega))⟩ dX7_isGood_162 (fun v631 h632 p633 => ?_)
    obtain ⟨⟨c630, rfl⟩ | ⟨c630, rfl⟩, rfl⟩ := p633
    · refine z_st (st' := [.int (nI 1)]) rfl ?_
      refine z_ifU_eq X 1 179 dX7_isGood_165 (by decide) rfl (by omega) (fun c634 => ?_) (fun c634 => ?_)
      · omega
      · refine z_iload_n X 2 dX7_isGood_168 rfl ?_
        refine z_callS X (rest := []) c_X7_isName (va_cwS 1 (zXts X) (lw_S q1698 q1699 q65 q1700) rfl rfl rfl (by decide +kernel) ⟨Nat.le_of_ble_eq_true rfl, Nat.le_of_ble_eq_true rfl⟩) rfl (Nat.le_of_ble_eq_true rfl) ⟨(by first | exact Nat.le_of_ble_eq_true rfl | (dsimp only [zRm]; omega)), (by first | exact Nat.le_of_ble_eq_true rfl | (dsimp only [zRm]; omega))⟩ dX7_isGood_169 (fun v636 h637 p638 => ?_)
        obtain ⟨⟨c635, rfl⟩ | ⟨c635, rfl⟩, rfl⟩ := p638
        · refine z_st (st' := [.int (nI 1)]) rfl ?_
          refine z_ifU_eq X 1 179 dX7_isGood_172 (by decide) rfl (by omega) (fun c639 => ?_) (fun c639 => ?_)
          · omega
          · refine z_iconst X (nI 1) dX7_isGood_175 (by decide) ?_
            refine z_goto X 180 dX7_isGood_176 (by decide) ?_
            exact z_zret X hr hlk (zfits.b1) dX7_isGood_180 (by first | exact Nat.le_of_ble_eq_true rfl | (dsimp only [zRm]; omega) | omega) (by first | exact Nat.le_of_ble_eq_true rfl | (dsimp only [zRm]; omega) | omega) ⟨Or.inl ⟨by first | (rw [zop_is c509, zg_10]; omega) | (rw [zop_is (show zn op = 12 by omega), zg_12]) | (rw [zop_is (show zn op = 14 by omega), zg_14]), rfl⟩, rfl⟩
        · refine z_st (st' := [.int (nI 0)]) rfl ?_
          refine z_ifU_eq X 0 179 dX7_isGood_172 (by decide) rfl (by omega) (fun c640 => ?_) (fun c640 => ?_)
          · refine z_iconst X (nI 0) dX7_isGood_179 (by decide) ?_
            exact z_zret X hr hlk (zfits.b0) dX7_isGood_180 (by first | exact Nat.le_of_ble_eq_true rfl | (dsimp only [zRm]; omega) | omega) (by first | exact Nat.le_of_ble_eq_true rfl | (dsimp only [zRm]; omega) | omega) ⟨Or.inr ⟨by first | (rw [zop_is c509, zg_10]; omega) | (rw [zgood_out (by omega)]; exact Bool.false_ne_true), rfl⟩, rfl⟩
          · omega
    · refine z_st (st' := [.int (nI 0)]) rfl ?_
      refine z_ifU_eq X 0 179 dX7_isGood_165 (by decide) rfl (by omega) (fun c641 => ?_) (fun c641 => ?_)
      · refine z_iconst X (nI 0) dX7_isGood_179 (by decide) ?_
        exact z_zret X hr hlk (zfits.b0) dX7_isGood_180 (by first | exact Nat.le_of_ble_eq_true rfl | (dsimp only [zRm]; omega) | omega) (by first | exact Nat.le_of_ble_eq_true rfl | (dsimp only [zRm]; omega) | omega) ⟨Or.inr ⟨by first | (rw [zop_is c509, zg_10]; omega) | (rw [zgood_out (by omega)]; exact Bool.false_ne_true), rfl⟩, rfl⟩
      · omega
  · refine z_tableIn X 72 dX7_isGood_1 (by rw [show op = nI 11 from by rw [← c509]; exact (nI_zn _).symm]; decide) (by rw [show op = nI 11 from by rw [← c509]; exact (nI_zn _).symm]; decide) (by rw [show op = nI 11 from by rw [← c509]; exact (nI_zn _).symm]; rfl) (by decide) ?_
    refine z_iload_n X 1 dX7_isGood_72 rfl ?_
    refine z_callS X (rest := []) c_X7_isRegister (va_cwS 1 (zXts X) (lw_S q1723 q1724 q65 q1725) rfl rfl rfl (by decide +kernel) ⟨Nat.le_of_ble_eq_true rfl, Nat.le_of_ble_eq_true rfl⟩) rfl (Nat.le_of_ble_eq_true rfl) ⟨(by first | exact Nat.le_of_ble_eq_true rfl | (dsimp only [zRm]; omega)), (by first | exact Nat.le_of_ble_eq_true rfl | (dsimp only [zRm]; omega))⟩ dX7_isGood_73 (fun v643 h644 p645 => ?_)
    obtain ⟨⟨c642, rfl⟩ | ⟨c642, rfl⟩, rfl⟩ := p645
    · refine z_st (st' := [.int (nI 1)]) rfl ?_
      exact z_zret X hr hlk (zfits.b1) dX7_isGood_76 (by first | exact Nat.le_of_ble_eq_true rfl | (dsimp only [zRm]; omega) | omega) (by first | exact Nat.le_of_ble_eq_true rfl | (dsimp only [zRm]; omega) | omega) ⟨Or.inl ⟨by first | (rw [zop_is c509, zg_11]; omega) | (rw [zop_is (show zn op = 12 by omega), zg_12]) | (rw [zop_is (show zn op = 14 by omega), zg_14]), rfl⟩, rfl⟩
    · refine z_st (st' := [.int (nI 0)]) rfl ?_
      exact z_zret X hr hlk (zfits.b0) dX7_isGood_76 (by first | exact Nat.le_of_ble_eq_true rfl | (dsimp only [zRm]; omega) | omega) (by first | exact Nat.le_of_ble_eq_true rfl | (dsimp only [zRm]; omega) | omega) ⟨Or.inr ⟨by first | (rw [zop_is c509, zg_11]; omega) | (rw [zgood_out (by omega)]; exact Bool.false_ne_true), rfl⟩, rfl⟩
  · refine z_tableIn X 201 dX7_isGood_1 (by rw [show op = nI 12 from by rw [← c509]; exact (nI_zn _).symm]; decide) (by rw [show op = nI 12 from by rw [← c509]; exact (nI_zn _).symm]; decide) (by rw [show op = nI 12 from by rw [← c509]; exact (nI_zn _).symm]; rfl) (by decide) ?_
    refine z_iload_n X 0 dX7_isGood_201 rfl ?_
    refine z_bipush X (nI 12) dX7_isGood_202 (by decide) ?_
    refine z_icmpU_eq X (zn op) 12 213 dX7_isGood_204 (by decide) (nI_zn _).symm rfl (zn_lt _) (by omega) (fun c646 => ?_) (fun c646 => ?_)
    · refine z_iconst X (nI 1) dX7_isGood_213 (by decide) ?_
      refine z_goto X 218 dX7_isGood_214 (by decide) ?_
      exact z_zret X hr hlk (zfits.b1) dX7_isGood_218 (by first | exact Nat.le_of_ble_eq_true rfl | (dsimp only [zRm]; omega) | omega) (by first | exact Nat.le_of_ble_eq_true rfl | (dsimp only [zRm]; omega) | omega) ⟨Or.inl ⟨by first | (rw [zop_is c509, zg_12]; omega) | (rw [zop_is (show zn op = 12 by omega), zg_12]) | (rw [zop_is (show zn op = 14 by omega), zg_14]), rfl⟩, rfl⟩
    · refine z_iload_n X 0 dX7_isGood_207 rfl ?_
      refine z_bipush X (nI 14) dX7_isGood_208 (by decide) ?_
      refine z_icmpU_ne X (zn op) 14 217 dX7_isGood_210 (by decide) (nI_zn _).symm rfl (zn_lt _) (by omega) (fun c647 => ?_) (fun c647 => ?_)
      · refine z_iconst X (nI 0) dX7_isGood_217 (by decide) ?_
        exact z_zret X hr hlk (zfits.b0) dX7_isGood_218 (by first | exact Nat.le_of_ble_eq_true rfl | (dsimp only [zRm]; omega) | omega) (by first | exact Nat.le_of_ble_eq_true rfl | (dsimp only [zRm]; omega) | omega) ⟨Or.inr ⟨by first | (rw [zop_is c509, zg_12]; omega) | (rw [zgood_out (by omega)]; exact Bool.false_ne_true), rfl⟩, rfl⟩
      · refine z_iconst X (nI 1) dX7_isGood_213 (by decide) ?_
        refine z_goto X 218 dX7_isGood_214 (by decide) ?_
        exact z_zret X hr hlk (zfits.b1) dX7_isGood_218 (by first | exact Nat.le_of_ble_eq_true rfl | (dsimp only [zRm]; omega) | omega) (by first | exact Nat.le_of_ble_eq_true rfl | (dsimp only [zRm]; omega) | omega) ⟨Or.inl ⟨by first | (rw [zop_is c509, zg_12]; omega) | (rw [zop_is (show zn op = 12 by omega), zg_12]) | (rw [zop_is (show zn op = 14 by omega), zg_14]), rfl⟩, rfl⟩
  · refine z_tableIn X 72 dX7_isGood_1 (by rw [show op = nI 13 from by rw [← c509]; exact (nI_zn _).symm]; decide) (by rw [show op = nI 13 from by rw [← c509]; exact (nI_zn _).symm]; decide) (by rw [show op = nI 13 from by rw [← c509]; exact (nI_zn _).symm]; rfl) (by decide) ?_
    refine z_iload_n X 1 dX7_isGood_72 rfl ?_
    refine z_callS X (rest := []) c_X7_isRegister (va_cwS 1 (zXts X) (lw_S q1723 q1724 q65 q1725) rfl rfl rfl (by decide +kernel) ⟨Nat.le_of_ble_eq_true rfl, Nat.le_of_ble_eq_true rfl⟩) rfl (Nat.le_of_ble_eq_true rfl) ⟨(by first | exact Nat.le_of_ble_eq_true rfl | (dsimp only [zRm]; omega)), (by first | exact Nat.le_of_ble_eq_true rfl | (dsimp only [zRm]; omega))⟩ dX7_isGood_73 (fun v649 h650 p651 => ?_)
    obtain ⟨⟨c648, rfl⟩ | ⟨c648, rfl⟩, rfl⟩ := p651
    · refine z_st (st' := [.int (nI 1)]) rfl ?_
      exact z_zret X hr hlk (zfits.b1) dX7_isGood_76 (by first | exact Nat.le_of_ble_eq_true rfl | (dsimp only [zRm]; omega) | omega) (by first | exact Nat.le_of_ble_eq_true rfl | (dsimp only [zRm]; omega) | omega) ⟨Or.inl ⟨by first | (rw [zop_is c509, zg_13]; omega) | (rw [zop_is (show zn op = 12 by omega), zg_12]) | (rw [zop_is (show zn op = 14 by omega), zg_14]), rfl⟩, rfl⟩
    · refine z_st (st' := [.int (nI 0)]) rfl ?_
      exact z_zret X hr hlk (zfits.b0) dX7_isGood_76 (by first | exact Nat.le_of_ble_eq_true rfl | (dsimp only [zRm]; omega) | omega) (by first | exact Nat.le_of_ble_eq_true rfl | (dsimp only [zRm]; omega) | omega) ⟨Or.inr ⟨by first | (rw [zop_is c509, zg_13]; omega) | (rw [zgood_out (by omega)]; exact Bool.false_ne_true), rfl⟩, rfl⟩
  · refine z_tableOut X 201 dX7_isGood_1 (by have z8 := zI_toInt (a := zn op) (zn_lt _); rw [show op = nI (zn op) from (nI_zn _).symm]; rw [z8]; split <;> omega) (by decide) ?_
    refine z_iload_n X 0 dX7_isGood_201 rfl ?_
    refine z_bipush X (nI 12) dX7_isGood_202 (by decide) ?_
    refine z_icmpU_eq X (zn op) 12 213 dX7_isGood_204 (by decide) (nI_zn _).symm rfl (zn_lt _) (by omega) (fun c652 => ?_) (fun c652 => ?_)
    · refine z_iconst X (nI 1) dX7_isGood_213 (by decide) ?_
      refine z_goto X 218 dX7_isGood_214 (by decide) ?_
      exact z_zret X hr hlk (zfits.b1) dX7_isGood_218 (by first | exact Nat.le_of_ble_eq_true rfl | (dsimp only [zRm]; omega) | omega) (by first | exact Nat.le_of_ble_eq_true rfl | (dsimp only [zRm]; omega) | omega) ⟨Or.inl ⟨by first | omega | (rw [zop_is (show zn op = 12 by omega), zg_12]) | (rw [zop_is (show zn op = 14 by omega), zg_14]), rfl⟩, rfl⟩
    · refine z_iload_n X 0 dX7_isGood_207 rfl ?_
      refine z_bipush X (nI 14) dX7_isGood_208 (by decide) ?_
      refine z_icmpU_ne X (zn op) 14 217 dX7_isGood_210 (by decide) (nI_zn _).symm rfl (zn_lt _) (by omega) (fun c653 => ?_) (fun c653 => ?_)
      · refine z_iconst X (nI 0) dX7_isGood_217 (by decide) ?_
        exact z_zret X hr hlk (zfits.b0) dX7_isGood_218 (by first | exact Nat.le_of_ble_eq_true rfl | (dsimp only [zRm]; omega) | omega) (by first | exact Nat.le_of_ble_eq_true rfl | (dsimp only [zRm]; omega) | omega) ⟨Or.inr ⟨by first | omega | (rw [zgood_out (by omega)]; exact Bool.false_ne_true), rfl⟩, rfl⟩
      · refine z_iconst X (nI 1) dX7_isGood_213 (by decide) ?_
        refine z_goto X 218 dX7_isGood_214 (by decide) ?_
        exact z_zret X hr hlk (zfits.b1) dX7_isGood_218 (by first | exact Nat.le_of_ble_eq_true rfl | (dsimp only [zRm]; omega) | omega) (by first | exact Nat.le_of_ble_eq_true rfl | (dsimp only [zRm]; omega) | omega) ⟨Or.inl ⟨by first | omega | (rw [zop_is (show zn op = 12 by omega), zg_12]) | (rw [zop_is (show zn op = 14 by omega), zg_14]), rfl⟩, rfl⟩
set_option maxHeartbeats 2000000 in
theorem c_X7_module {l : Launch} {G : ZG} {h : ZH} {E : Nat → Nat} {S : ZS}  (D : MD E S h) (F : ZWF S)  : ZM l G yX7_module (ws_ yX7_module cX7_module 1 (Option.some FieldType.int)) (zRm 0 0 0 0) [.ref (E 0)] h (fun v h' => v = some (.int (modF S).1) ∧ MD E (modF S).2 h' ∧ zOn zTM h h') := by
  refine ZT.zm (ZT.of (by first | exact plainFor_of_name (by decide) | decide +kernel) (Nat.le_of_ble_eq_true rfl) (zcats.r zref.r zcats.nil) ?_)
  intro p_ e_ s_ m_ args_ below_ meth_ c_ X hr hlk hin htab
  have X : ZX p_ m_ c_ cX7_module 1 s_ args_ "LinkStationModel" G := X
  refine z_lv (lv' := [(0, .ref (E 0))]) (fun _ hq => hq) ?_
  have hm := F.mods
  refine z_aload_n X 0 dX7_module_0 zref.r rfl ?_
  refine z_get X zP6 0 (by decide) q1563 (Or.inl rfl) (v := .int (S 0 0)) D.1 (by decide) rfl dX7_module_1 ?_
  refine z_bipush X (nI 12) dX7_module_4 (by decide) ?_
  refine z_icmpU_ne X (zn (S 0 0)) 12 11 dX7_module_6 (by decide) (nI_zn _).symm rfl (zn_lt _) (by omega) (fun c654 => ?_) (fun c654 => ?_)
  · refine z_aload_n X 0 dX7_module_11 zref.r rfl ?_
    refine z_get X zP6 11 (by decide) q1574 (Or.inl rfl) D.1 (by decide) rfl dX7_module_12 ?_
    refine z_aload_n X 0 dX7_module_15 zref.r rfl ?_
    refine z_get X zP6 0 (by decide) q1563 (Or.inl rfl) (v := .int (S 0 0)) D.1 (by decide) rfl dX7_module_16 ?_
    refine z_iconst X (-1) dX7_module_19 (by decide) ?_
    refine z_iast X (zn (S 0 0)) (D.2.1 11 rfl) (by decide) (by decide) (nI_zn _).symm (by show _ < 12; omega) (by decide) (f' := fun i => .int ((zu (S 11) (zn (S 0 0)) (-1)) i)) (fun _ => zu_v _) dX7_module_20 ?_
    refine z_nm fun h655 e656 => ?_
    have D657 : MD E (zsa S 11 (zu (S 11) (zn (S 0 0)) (-1))) h655 := D.sA 11 rfl e656
    have o658 := zOn.up (zOn.rf (T := zTM) (h := h)) e656 (D.2.1 11 rfl) (by decide)
    refine z_aload_n X 0 dX7_module_21 zref.r rfl ?_
    refine z_dup X dX7_module_22 rfl ?_
    refine z_get X zP6 0 (by decide) q1563 (Or.inl rfl) (v := .int (S 0 0)) D657.1 (by decide) rfl dX7_module_23 ?_
    refine z_iconst X (nI 1) dX7_module_26 (by decide) ?_
    refine z_iadd X (nI ((zn (S 0 0)) + 1)) dX7_module_27 (zadd (nI_zn _).symm rfl) ?_
    refine z_put X zP6 0 (by decide) q1563 (Or.inl rfl) rfl D657.1 (by decide) (by decide) (zfits.i _) (Nat.le_of_ble_eq_true rfl) rfl dX7_module_28 ?_
    refine z_nm fun h659 e660 => ?_
    have D661 : MD E (zs0 (zsa S 11 (zu (S 11) (zn (S 0 0)) (-1))) 0 (nI ((zn (S 0 0)) + 1))) h659 := D657.sF 0 (by decide) e660
    have o662 := zOn.up o658 e660 D657.1 (by decide)
    refine z_aload_n X 0 dX7_module_31 zref.r rfl ?_
    refine z_get X zP6 0 (by decide) q1563 (Or.inl rfl) (v := .int (nI ((zn (S 0 0)) + 1))) D661.1 (by decide) rfl dX7_module_32 ?_
    refine z_iconst X (nI 1) dX7_module_35 (by decide) ?_
    refine z_isub X (nI (((zn (S 0 0)) + 1) - 1)) dX7_module_36 (zsub rfl rfl (by omega)) ?_
    exact z_iret X hr hlk dX7_module_37 (by first | exact Nat.le_of_ble_eq_true rfl | (dsimp only [zRm]; omega) | omega) (by first | exact Nat.le_of_ble_eq_true rfl | (dsimp only [zRm]; omega) | omega) ⟨by rw [modF, if_neg (by omega)]; exact congrArg (fun z => some (Value.int z)) (by show nI _ = nI _; rw [Nat.add_sub_cancel]), by rw [modF, if_neg (by omega)]; exact D661, o662⟩
  · refine z_iconst X (-1) dX7_module_9 (by decide) ?_
    exact z_iret X hr hlk dX7_module_10 (by first | exact Nat.le_of_ble_eq_true rfl | (dsimp only [zRm]; omega) | omega) (by first | exact Nat.le_of_ble_eq_true rfl | (dsimp only [zRm]; omega) | omega) ⟨by rw [modF, if_pos (by omega)], by rw [modF, if_pos (by omega)]; exact D, (zOn.rf (T := zTM) (h := h))⟩
set_option maxHeartbeats 2000000 in
theorem c_X7_ofName {l : Launch} {G : ZG} {h : ZH} {E : Nat → Nat} {S : ZS} {m : Nat} {x : Int32} (D : MD E S h) (F : ZWF S) (hm : m < 12) : ZM l G yX7_ofName (ws_ yX7_ofName cX7_ofName 4 (Option.some FieldType.int)) (zRm 0 0 0 0) [.ref (E 0), .int (nI m), .int x] h (fun v h' => v = some (.int (oI (ofN S m x))) ∧ h = h') := by
  refine ZT.zm (ZT.of (by first | exact plainFor_of_name (by decide) | decide +kernel) (Nat.le_of_ble_eq_true rfl) (zcats.r zref.r (zcats.i (zcats.i zcats.nil))) ?_)
  intro p_ e_ s_ m_ args_ below_ meth_ c_ X hr hlk hin htab
  have X : ZX p_ m_ c_ cX7_ofName 4 s_ args_ "LinkStationModel" G := X
  refine z_lv (lv' := [(0, .ref (E 0)), (1, .int (nI m)), (2, .int x)]) (fun _ hq => hq) ?_
  have hd := F.dc m
  refine z_iconst X (nI 0) dX7_ofName_0 (by decide) ?_
  refine z_istore_n X (lv' := [(3, .int (nI 0)), (0, .ref (E 0)), (1, .int (nI m)), (2, .int x)]) dX7_ofName_1 (by decide) rfl ?_
  refine z_lvp (lv' := [(0, .ref (E 0)), (1, .int (nI m)), (2, .int x), (3, .int (nI 0))]) [1, 2, 3, 0] rfl ?_
  refine z_loop (σ := Nat) (fun k => k ≤ zn (S 7 m) ∧ ofL S m x k = none) (fun k => zn (S 7 m) - k) (fun k => [(0, .ref (E 0)), (1, .int (nI m)), (2, .int x), (3, .int (nI k))]) (fun k => []) (fun k => h) (fun k => 0) (fun k => 0) ?_ 0 (⟨Nat.zero_le _, rfl⟩)
  intro k hI ih
  try dsimp only at hI
  try dsimp only at ih
  try dsimp only
  refine z_iload_n X 3 dX7_ofName_2 rfl ?_
  refine z_aload_n X 0 dX7_ofName_3 zref.r rfl ?_
  refine z_get X zP6 7 (by decide) q1570 (Or.inl rfl) D.1 (by decide) rfl dX7_ofName_4 ?_
  refine z_iload_n X 1 dX7_ofName_7 rfl ?_
  refine z_iald X (v := .int ((S 7) m)) m (D.2.1 7 rfl) (by decide) rfl (by show _ < 12; omega) (by decide) rfl dX7_ofName_8 ?_
  refine z_icmpU_ge X k (zn ((S 7) m)) 40 dX7_ofName_9 (by decide) rfl (nI_zn _).symm (by omega) (zn_lt _) (fun c663 => ?_) (fun c663 => ?_)
  · refine z_iconst X (-1) dX7_ofName_40 (by decide) ?_
    exact z_iret X hr hlk dX7_ofName_41 (by first | exact Nat.le_of_ble_eq_true rfl | (dsimp only [zRm]; omega) | omega) (by first | exact Nat.le_of_ble_eq_true rfl | (dsimp only [zRm]; omega) | omega) ⟨by rw [ofN, show zn (S 7 m) = k from by omega, hI.2]; rfl, rfl⟩
  · refine z_aload_n X 0 dX7_ofName_12 zref.r rfl ?_
    refine z_get X zP6 3 (by decide) q1566 (Or.inl rfl) D.1 (by decide) rfl dX7_ofName_13 ?_
    refine z_bipush X (nI 20) dX7_ofName_16 (by decide) ?_
    refine z_iload_n X 1 dX7_ofName_18 rfl ?_
    refine z_imul X (nI (20 * m)) dX7_ofName_19 (zmul rfl rfl) ?_
    refine z_iload_n X 3 dX7_ofName_20 rfl ?_
    refine z_iadd X (nI ((20 * m) + k)) dX7_ofName_21 (zadd rfl rfl) ?_
    refine z_iald X (v := .int ((S 3) ((20 * m) + k))) ((20 * m) + k) (D.2.1 3 rfl) (by decide) rfl (by show _ < 240; omega) (by decide) rfl dX7_ofName_22 ?_
    refine z_iload_n X 2 dX7_ofName_23 rfl ?_
    refine z_icmpU_ne X (zn ((S 3) ((20 * m) + k))) (zn x) 34 dX7_ofName_24 (by decide) (nI_zn _).symm (nI_zn _).symm (zn_lt _) (zn_lt _) (fun c664 => ?_) (fun c664 => ?_)
    · refine z_iinc X (lv' := [(3, .int (nI (k + 1))), (0, .ref (E 0)), (1, .int (nI m)), (2, .int x)]) (nI (k + 1)) 3 dX7_ofName_34 rfl (nI_1 _) (by decide) rfl ?_
      refine z_goto X 2 dX7_ofName_37 (by decide) ?_
      refine z_lvp (lv' := [(0, .ref (E 0)), (1, .int (nI m)), (2, .int x), (3, .int (nI (k + 1)))]) [1, 2, 3, 0] rfl ?_
      exact ih (k + 1) ⟨by omega, ofL_miss hI.2 (fun z => c664 (by rw [z]))⟩ (by omega)
    · refine z_bipush X (nI 20) dX7_ofName_27 (by decide) ?_
      refine z_iload_n X 1 dX7_ofName_29 rfl ?_
      refine z_imul X (nI (20 * m)) dX7_ofName_30 (zmul rfl rfl) ?_
      refine z_iload_n X 3 dX7_ofName_31 rfl ?_
      refine z_iadd X (nI ((20 * m) + k)) dX7_ofName_32 (zadd rfl rfl) ?_
      exact z_iret X hr hlk dX7_ofName_33 (by first | exact Nat.le_of_ble_eq_true rfl | (dsimp only [zRm]; omega) | omega) (by first | exact Nat.le_of_ble_eq_true rfl | (dsimp only [zRm]; omega) | omega) ⟨by rw [ofN, ofL_le (ofL_hit hI.2 (zn_inj c664)) (by omega)]; rfl, rfl⟩
set_option maxHeartbeats 2000000 in
theorem c_X7_moduleOf {l : Launch} {G : ZG} {h : ZH} {E : Nat → Nat} {S : ZS} {d : Option Nat} (D : MD E S h) (hd : ∀ k, d = some k → k < 240) : ZM l G yX7_moduleOf (ws_ yX7_moduleOf cX7_moduleOf 2 (Option.some FieldType.int)) (zRm 0 0 0 0) [.ref (E 0), .int (oI d)] h (fun v h' => v = some (.int (zmo d)) ∧ h = h') := by
  refine ZT.zm (ZT.of (by first | exact plainFor_of_name (by decide) | decide +kernel) (Nat.le_of_ble_eq_true rfl) (zcats.r zref.r (zcats.i zcats.nil)) ?_)
  intro p_ e_ s_ m_ args_ below_ meth_ c_ X hr hlk hin htab
  have X : ZX p_ m_ c_ cX7_moduleOf 2 s_ args_ "LinkStationModel" G := X
  refine z_lv (lv' := [(0, .ref (E 0)), (1, .int (oI d))]) (fun _ hq => hq) ?_
  rcases d with _ | d
  · refine z_iload_n X 1 dX7_moduleOf_0 rfl ?_
    refine z_iconst X (-1) dX7_moduleOf_1 (by decide) ?_
    refine z_icmpU_ne X 4294967295 4294967295 10 dX7_moduleOf_2 (by decide) (by decide) (by decide) (by omega) (by omega) (fun c665 => ?_) (fun c665 => ?_)
    · omega
    · refine z_bipush X (nI 20) dX7_moduleOf_5 (by decide) ?_
      refine z_goto X 14 dX7_moduleOf_7 (by decide) ?_
      exact z_iret X hr hlk dX7_moduleOf_14 (by first | exact Nat.le_of_ble_eq_true rfl | (dsimp only [zRm]; omega) | omega) (by first | exact Nat.le_of_ble_eq_true rfl | (dsimp only [zRm]; omega) | omega) ⟨rfl, rfl⟩
  · have hd := hd d rfl
    refine z_iload_n X 1 dX7_moduleOf_0 rfl ?_
    refine z_iconst X (-1) dX7_moduleOf_1 (by decide) ?_
    refine z_icmpU_ne X d 4294967295 10 dX7_moduleOf_2 (by decide) rfl (by decide) (by omega) (by omega) (fun c666 => ?_) (fun c666 => ?_)
    · refine z_iload_n X 1 dX7_moduleOf_10 rfl ?_
      refine z_bipush X (nI 20) dX7_moduleOf_11 (by decide) ?_
      refine z_idiv X (nI (d / 20)) dX7_moduleOf_13 (by decide) (pk_div (by omega) (by decide) (by decide)) ?_
      exact z_iret X hr hlk dX7_moduleOf_14 (by first | exact Nat.le_of_ble_eq_true rfl | (dsimp only [zRm]; omega) | omega) (by first | exact Nat.le_of_ble_eq_true rfl | (dsimp only [zRm]; omega) | omega) ⟨rfl, rfl⟩
    · refine z_bipush X (nI 20) dX7_moduleOf_5 (by decide) ?_
      refine z_goto X 14 dX7_moduleOf_7 (by decide) ?_
      exact z_iret X hr hlk dX7_moduleOf_14 (by first | exact Nat.le_of_ble_eq_true rfl | (dsimp only [zRm]; omega) | omega) (by first | exact Nat.le_of_ble_eq_true rfl | (dsimp only [zRm]; omega) | omega) ⟨by exfalso; omega, rfl⟩
