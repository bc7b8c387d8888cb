set_option maxRecDepth 100000
theorem zld_lt {S : ZS} {x : Int32} (FL : ZWL S) (h : zld S x = true) : zn x < 12 := by
  obtain ⟨-, p, hp, e⟩ := zld_iff.mp h
  rw [← e]; exact FL.2.1 p hp
set_option maxHeartbeats 2000000 in
theorem c_X7_fault {l : Launch} {G : ZG} {h : ZH} {E : Nat → Nat} {S : ZS} {x : Int32} (D : MD E S h) (F : ZWF S)  : ZM l G yX7_fault (ws_ yX7_fault cX7_fault 2 (Option.some FieldType.int)) (zRm 0 0 0 0) [.ref (E 0), .int x] h (fun v h' => v = some (.int (fauF S x)) ∧ h = h') := by
  refine ZT.zm (ZT.of (by first | exact plainFor_of_name (by decide) | decide +kernel) (Nat.le_of_ble_eq_true rfl) (zcats.r zref.r (zcats.i zcats.nil)) ?_)
  intro p_ e_ s_ m_ args_ below_ meth_ c_ X hr hlk hin htab
  have X : ZX p_ m_ c_ cX7_fault 2 s_ args_ "LinkStationModel" G := X
  refine z_lv (lv' := [(0, .ref (E 0)), (1, .int x)]) (fun _ hq => hq) ?_
  have hx := zn_lt x
  refine z_iload_n X 1 dX7_fault_0 rfl ?_
  refine z_ifU_ne X (zn x) 11 dX7_fault_1 (by decide) (nI_zn _).symm (zn_lt _) (fun c12001 => ?_) (fun c12001 => ?_)
  · refine z_iload_n X 1 dX7_fault_11 rfl ?_
    refine z_iconst X (nI 1) dX7_fault_12 (by decide) ?_
    refine z_icmpU_ne X (zn x) 1 23 dX7_fault_13 (by decide) (nI_zn _).symm rfl (zn_lt _) (by omega) (fun c12002 => ?_) (fun c12002 => ?_)
    · refine z_iload_n X 1 dX7_fault_23 rfl ?_
      refine z_iconst X (nI 2) dX7_fault_24 (by decide) ?_
      refine z_icmpU_ne X (zn x) 2 35 dX7_fault_25 (by decide) (nI_zn _).symm rfl (zn_lt _) (by omega) (fun c12003 => ?_) (fun c12003 => ?_)
      · refine z_iconst X (-1) dX7_fault_35 (by decide) ?_
        exact z_iret X hr hlk dX7_fault_36 (by first | exact Nat.le_of_ble_eq_true rfl | (dsimp only [zRm]; omega) | omega) (by first | exact Nat.le_of_ble_eq_true rfl | (dsimp only [zRm]; omega) | omega) ⟨congrArg (fun z => some (Value.int z)) (Eq.symm (by unfold fauF; (repeat (first | rw [if_pos (by (first | omega | (simp only [zeq_iff, zc0, zc1, zc2, zc3, zc4, zc5, zc6, zc7, zc8, zc9, zc10, zc11, zc12, zc13, zc14, zc15, zc20, zc21, zcm, ne_eq]; omega) | (simp only [zeq_iff, zc0, zc1, zc2, zc3, zc4, zc5, zc6, zc7, zc8, zc9, zc10, zc11, zc12, zc13, zc14, zc15, zc20, zc21, zcm, ne_eq] at *; omega)))] | rw [if_neg (by (first | omega | (simp only [zeq_iff, zc0, zc1, zc2, zc3, zc4, zc5, zc6, zc7, zc8, zc9, zc10, zc11, zc12, zc13, zc14, zc15, zc20, zc21, zcm, ne_eq]; omega) | (simp only [zeq_iff, zc0, zc1, zc2, zc3, zc4, zc5, zc6, zc7, zc8, zc9, zc10, zc11, zc12, zc13, zc14, zc15, zc20, zc21, zcm, ne_eq] at *; omega)))])) <;> rfl)), rfl⟩
      · refine z_aload_n X 0 dX7_fault_28 zref.r rfl ?_
        refine z_get X zP6 27 (by decide) q1590 (Or.inl rfl) (v := .int (S 27 0)) D.1 (by decide) rfl dX7_fault_29 ?_
        refine z_goto X 36 dX7_fault_32 (by decide) ?_
        exact z_iret X hr hlk dX7_fault_36 (by first | exact Nat.le_of_ble_eq_true rfl | (dsimp only [zRm]; omega) | omega) (by first | exact Nat.le_of_ble_eq_true rfl | (dsimp only [zRm]; omega) | omega) ⟨congrArg (fun z => some (Value.int z)) (Eq.symm (by unfold fauF; (repeat (first | rw [if_pos (by (first | omega | (simp only [zeq_iff, zc0, zc1, zc2, zc3, zc4, zc5, zc6, zc7, zc8, zc9, zc10, zc11, zc12, zc13, zc14, zc15, zc20, zc21, zcm, ne_eq]; omega) | (simp only [zeq_iff, zc0, zc1, zc2, zc3, zc4, zc5, zc6, zc7, zc8, zc9, zc10, zc11, zc12, zc13, zc14, zc15, zc20, zc21, zcm, ne_eq] at *; omega)))] | rw [if_neg (by (first | omega | (simp only [zeq_iff, zc0, zc1, zc2, zc3, zc4, zc5, zc6, zc7, zc8, zc9, zc10, zc11, zc12, zc13, zc14, zc15, zc20, zc21, zcm, ne_eq]; omega) | (simp only [zeq_iff, zc0, zc1, zc2, zc3, zc4, zc5, zc6, zc7, zc8, zc9, zc10, zc11, zc12, zc13, zc14, zc15, zc20, zc21, zcm, ne_eq] at *; omega)))])) <;> rfl)), rfl⟩
    · refine z_aload_n X 0 dX7_fault_16 zref.r rfl ?_
      refine z_get X zP6 26 (by decide) q1589 (Or.inl rfl) (v := .int (S 26 0)) D.1 (by decide) rfl dX7_fault_17 ?_
      refine z_goto X 36 dX7_fault_20 (by decide) ?_
      exact z_iret X hr hlk dX7_fault_36 (by first | exact Nat.le_of_ble_eq_true rfl | (dsimp only [zRm]; omega) | omega) (by first | exact Nat.le_of_ble_eq_true rfl | (dsimp only [zRm]; omega) | omega) ⟨congrArg (fun z => some (Value.int z)) (Eq.symm (by unfold fauF; (repeat (first | rw [if_pos (by (first | omega | (simp only [zeq_iff, zc0, zc1, zc2, zc3, zc4, zc5, zc6, zc7, zc8, zc9, zc10, zc11, zc12, zc13, zc14, zc15, zc20, zc21, zcm, ne_eq]; omega) | (simp only [zeq_iff, zc0, zc1, zc2, zc3, zc4, zc5, zc6, zc7, zc8, zc9, zc10, zc11, zc12, zc13, zc14, zc15, zc20, zc21, zcm, ne_eq] at *; omega)))] | rw [if_neg (by (first | omega | (simp only [zeq_iff, zc0, zc1, zc2, zc3, zc4, zc5, zc6, zc7, zc8, zc9, zc10, zc11, zc12, zc13, zc14, zc15, zc20, zc21, zcm, ne_eq]; omega) | (simp only [zeq_iff, zc0, zc1, zc2, zc3, zc4, zc5, zc6, zc7, zc8, zc9, zc10, zc11, zc12, zc13, zc14, zc15, zc20, zc21, zcm, ne_eq] at *; omega)))])) <;> rfl)), rfl⟩
  · refine z_aload_n X 0 dX7_fault_4 zref.r rfl ?_
    refine z_get X zP6 25 (by decide) q1588 (Or.inl rfl) (v := .int (S 25 0)) D.1 (by decide) rfl dX7_fault_5 ?_
    refine z_goto X 36 dX7_fault_8 (by decide) ?_
    exact z_iret X hr hlk dX7_fault_36 (by first | exact Nat.le_of_ble_eq_true rfl | (dsimp only [zRm]; omega) | omega) (by first | exact Nat.le_of_ble_eq_true rfl | (dsimp only [zRm]; omega) | omega) ⟨congrArg (fun z => some (Value.int z)) (Eq.symm (by unfold fauF; (repeat (first | rw [if_pos (by (first | omega | (simp only [zeq_iff, zc0, zc1, zc2, zc3, zc4, zc5, zc6, zc7, zc8, zc9, zc10, zc11, zc12, zc13, zc14, zc15, zc20, zc21, zcm, ne_eq]; omega) | (simp only [zeq_iff, zc0, zc1, zc2, zc3, zc4, zc5, zc6, zc7, zc8, zc9, zc10, zc11, zc12, zc13, zc14, zc15, zc20, zc21, zcm, ne_eq] at *; omega)))] | rw [if_neg (by (first | omega | (simp only [zeq_iff, zc0, zc1, zc2, zc3, zc4, zc5, zc6, zc7, zc8, zc9, zc10, zc11, zc12, zc13, zc14, zc15, zc20, zc21, zcm, ne_eq]; omega) | (simp only [zeq_iff, zc0, zc1, zc2, zc3, zc4, zc5, zc6, zc7, zc8, zc9, zc10, zc11, zc12, zc13, zc14, zc15, zc20, zc21, zcm, ne_eq] at *; omega)))])) <;> rfl)), rfl⟩
set_option maxHeartbeats 2000000 in
theorem c_X7_count {l : Launch} {G : ZG} {h : ZH} {E : Nat → Nat} {S : ZS} {x : Int32} (D : MD E S h) (F : ZWF S)  : ZM l G yX7_count (ws_ yX7_count cX7_count 2 (Option.some FieldType.int)) (zRm 0 0 0 0) [.ref (E 0), .int x] h (fun v h' => v = some (.int (cntF S x)) ∧ h = h') := by
  refine ZT.zm (ZT.of (by first | exact plainFor_of_name (by decide) | decide +kernel) (Nat.le_of_ble_eq_true rfl) (zcats.r zref.r (zcats.i zcats.nil)) ?_)
  intro p_ e_ s_ m_ args_ below_ meth_ c_ X hr hlk hin htab
  have X : ZX p_ m_ c_ cX7_count 2 s_ args_ "LinkStationModel" G := X
  refine z_lv (lv' := [(0, .ref (E 0)), (1, .int x)]) (fun _ hq => hq) ?_
  have hx := zn_lt x
  refine z_iload_n X 1 dX7_count_0 rfl ?_
  have c12004 : zn x = 0 ∨ zn x = 1 ∨ zn x = 2 ∨ zn x = 3 ∨ zn x = 4 ∨ zn x = 5 ∨ (zn x ≠ 0 ∧ zn x ≠ 1 ∧ zn x ≠ 2 ∧ zn x ≠ 3 ∧ zn x ≠ 4 ∧ zn x ≠ 5) := by omega
  rcases c12004 with c12004 | c12004 | c12004 | c12004 | c12004 | c12004 | c12004
  · refine z_tableIn X 40 dX7_count_1 (by rw [show x = nI 0 from by rw [← c12004]; exact (nI_zn _).symm]; decide) (by rw [show x = nI 0 from by rw [← c12004]; exact (nI_zn _).symm]; decide) (by rw [show x = nI 0 from by rw [← c12004]; exact (nI_zn _).symm]; rfl) (by decide) ?_
    refine z_aload_n X 0 dX7_count_40 zref.r rfl ?_
    refine z_get X zP6 29 (by decide) q1592 (Or.inl rfl) (v := .int (S 29 0)) D.1 (by decide) rfl dX7_count_41 ?_
    exact z_iret X hr hlk dX7_count_44 (by first | exact Nat.le_of_ble_eq_true rfl | (dsimp only [zRm]; omega) | omega) (by first | exact Nat.le_of_ble_eq_true rfl | (dsimp only [zRm]; omega) | omega) ⟨congrArg (fun z => some (Value.int z)) (Eq.symm (by unfold cntF; (repeat (first | rw [if_pos (by (first | omega | (simp only [zeq_iff, zc0, zc1, zc2, zc3, zc4, zc5, zc6, zc7, zc8, zc9, zc10, zc11, zc12, zc13, zc14, zc15, zc20, zc21, zcm, ne_eq]; omega) | (simp only [zeq_iff, zc0, zc1, zc2, zc3, zc4, zc5, zc6, zc7, zc8, zc9, zc10, zc11, zc12, zc13, zc14, zc15, zc20, zc21, zcm, ne_eq] at *; omega)))] | rw [if_neg (by (first | omega | (simp only [zeq_iff, zc0, zc1, zc2, zc3, zc4, zc5, zc6, zc7, zc8, zc9, zc10, zc11, zc12, zc13, zc14, zc15, zc20, zc21, zcm, ne_eq]; omega) | (simp only [zeq_iff, zc0, zc1, zc2, zc3, zc4, zc5, zc6, zc7, zc8, zc9, zc10, zc11, zc12, zc13, zc14, zc15, zc20, zc21, zcm, ne_eq] at *; omega)))])) <;> rfl)), rfl⟩
  · refine z_tableIn X 45 dX7_count_1 (by rw [show x = nI 1 from by rw [← c12004]; exact (nI_zn _).symm]; decide) (by rw [show x = nI 1 from by rw [← c12004]; exact (nI_zn _).symm]; decide) (by rw [show x = nI 1 from by rw [← c12004]; exact (nI_zn _).symm]; rfl) (by decide) ?_
    refine z_aload_n X 0 dX7_count_45 zref.r rfl ?_
    refine z_get X zP6 30 (by decide) q1593 (Or.inl rfl) (v := .int (S 30 0)) D.1 (by decide) rfl dX7_count_46 ?_
    exact z_iret X hr hlk dX7_count_49 (by first | exact Nat.le_of_ble_eq_true rfl | (dsimp only [zRm]; omega) | omega) (by first | exact Nat.le_of_ble_eq_true rfl | (dsimp only [zRm]; omega) | omega) ⟨congrArg (fun z => some (Value.int z)) (Eq.symm (by unfold cntF; (repeat (first | rw [if_pos (by (first | omega | (simp only [zeq_iff, zc0, zc1, zc2, zc3, zc4, zc5, zc6, zc7, zc8, zc9, zc10, zc11, zc12, zc13, zc14, zc15, zc20, zc21, zcm, ne_eq]; omega) | (simp only [zeq_iff, zc0, zc1, zc2, zc3, zc4, zc5, zc6, zc7, zc8, zc9, zc10, zc11, zc12, zc13, zc14, zc15, zc20, zc21, zcm, ne_eq] at *; omega)))] | rw [if_neg (by (first | omega | (simp only [zeq_iff, zc0, zc1, zc2, zc3, zc4, zc5, zc6, zc7, zc8, zc9, zc10, zc11, zc12, zc13, zc14, zc15, zc20, zc21, zcm, ne_eq]; omega) | (simp only [zeq_iff, zc0, zc1, zc2, zc3, zc4, zc5, zc6, zc7, zc8, zc9, zc10, zc11, zc12, zc13, zc14, zc15, zc20, zc21, zcm, ne_eq] at *; omega)))])) <;> rfl)), rfl⟩
  · refine z_tableIn X 50 dX7_count_1 (by rw [show x = nI 2 from by rw [← c12004]; exact (nI_zn _).symm]; decide) (by rw [show x = nI 2 from by rw [← c12004]; exact (nI_zn _).symm]; decide) (by rw [show x = nI 2 from by rw [← c12004]; exact (nI_zn _).symm]; rfl) (by decide) ?_
    refine z_aload_n X 0 dX7_count_50 zref.r rfl ?_
    refine z_get X zP6 31 (by decide) q1594 (Or.inl rfl) (v := .int (S 31 0)) D.1 (by decide) rfl dX7_count_51 ?_
    exact z_iret X hr hlk dX7_count_54 (by first | exact Nat.le_of_ble_eq_true rfl | (dsimp only [zRm]; omega) | omega) (by first | exact Nat.le_of_ble_eq_true rfl | (dsimp only [zRm]; omega) | omega) ⟨congrArg (fun z => some (Value.int z)) (Eq.symm (by unfold cntF; (repeat (first | rw [if_pos (by (first | omega | (simp only [zeq_iff, zc0, zc1, zc2, zc3, zc4, zc5, zc6, zc7, zc8, zc9, zc10, zc11, zc12, zc13, zc14, zc15, zc20, zc21, zcm, ne_eq]; omega) | (simp only [zeq_iff, zc0, zc1, zc2, zc3, zc4, zc5, zc6, zc7, zc8, zc9, zc10, zc11, zc12, zc13, zc14, zc15, zc20, zc21, zcm, ne_eq] at *; omega)))] | rw [if_neg (by (first | omega | (simp only [zeq_iff, zc0, zc1, zc2, zc3, zc4, zc5, zc6, zc7, zc8, zc9, zc10, zc11, zc12, zc13, zc14, zc15, zc20, zc21, zcm, ne_eq]; omega) | (simp only [zeq_iff, zc0, zc1, zc2, zc3, zc4, zc5, zc6, zc7, zc8, zc9, zc10, zc11, zc12, zc13, zc14, zc15, zc20, zc21, zcm, ne_eq] at *; omega)))])) <;> rfl)), rfl⟩
  · refine z_tableIn X 55 dX7_count_1 (by rw [show x = nI 3 from by rw [← c12004]; exact (nI_zn _).symm]; decide) (by rw [show x = nI 3 from by rw [← c12004]; exact (nI_zn _).symm]; decide) (by rw [show x = nI 3 from by rw [← c12004]; exact (nI_zn _).symm]; rfl) (by decide) ?_
    refine z_aload_n X 0 dX7_count_55 zref.r rfl ?_
    refine z_get X zP6 32 (by decide) q1595 (Or.inl rfl) (v := .int (S 32 0)) D.1 (by decide) rfl dX7_count_56 ?_
    exact z_iret X hr hlk dX7_count_59 (by first | exact Nat.le_of_ble_eq_true rfl | (dsimp only [zRm]; omega) | omega) (by first | exact Nat.le_of_ble_eq_true rfl | (dsimp only [zRm]; omega) | omega) ⟨congrArg (fun z => some (Value.int z)) (Eq.symm (by unfold cntF; (repeat (first | rw [if_pos (by (first | omega | (simp only [zeq_iff, zc0, zc1, zc2, zc3, zc4, zc5, zc6, zc7, zc8, zc9, zc10, zc11, zc12, zc13, zc14, zc15, zc20, zc21, zcm, ne_eq]; omega) | (simp only [zeq_iff, zc0, zc1, zc2, zc3, zc4, zc5, zc6, zc7, zc8, zc9, zc10, zc11, zc12, zc13, zc14, zc15, zc20, zc21, zcm, ne_eq] at *; omega)))] | rw [if_neg (by (first | omega | (simp only [zeq_iff, zc0, zc1, zc2, zc3, zc4, zc5, zc6, zc7, zc8, zc9, zc10, zc11, zc12, zc13, zc14, zc15, zc20, zc21, zcm, ne_eq]; omega) | (simp only [zeq_iff, zc0, zc1, zc2, zc3, zc4, zc5, zc6, zc7, zc8, zc9, zc10, zc11, zc12, zc13, zc14, zc15, zc20, zc21, zcm, ne_eq] at *; omega)))])) <;> rfl)), rfl⟩
  · refine z_tableIn X 60 dX7_count_1 (by rw [show x = nI 4 from by rw [← c12004]; exact (nI_zn _).symm]; decide) (by rw [show x = nI 4 from by rw [← c12004]; exact (nI_zn _).symm]; decide) (by rw [show x = nI 4 from by rw [← c12004]; exact (nI_zn _).symm]; rfl) (by decide) ?_
    refine z_aload_n X 0 dX7_count_60 zref.r rfl ?_
    refine z_get X zP6 12 (by decide) q1575 (Or.inl rfl) (v := .int (S 12 0)) D.1 (by decide) rfl dX7_count_61 ?_
    refine z_ifU_eq X (zn (S 12 0)) 74 dX7_count_64 (by decide) (nI_zn _).symm (zn_lt _) (fun c12005 => ?_) (fun c12005 => ?_)
    · refine z_iconst X (nI 0) dX7_count_74 (by decide) ?_
      exact z_iret X hr hlk dX7_count_75 (by first | exact Nat.le_of_ble_eq_true rfl | (dsimp only [zRm]; omega) | omega) (by first | exact Nat.le_of_ble_eq_true rfl | (dsimp only [zRm]; omega) | omega) ⟨congrArg (fun z => some (Value.int z)) (Eq.symm (by unfold cntF; (repeat (first | rw [if_pos (by (first | omega | (simp only [zeq_iff, zc0, zc1, zc2, zc3, zc4, zc5, zc6, zc7, zc8, zc9, zc10, zc11, zc12, zc13, zc14, zc15, zc20, zc21, zcm, ne_eq]; omega) | (simp only [zeq_iff, zc0, zc1, zc2, zc3, zc4, zc5, zc6, zc7, zc8, zc9, zc10, zc11, zc12, zc13, zc14, zc15, zc20, zc21, zcm, ne_eq] at *; omega)))] | rw [if_neg (by (first | omega | (simp only [zeq_iff, zc0, zc1, zc2, zc3, zc4, zc5, zc6, zc7, zc8, zc9, zc10, zc11, zc12, zc13, zc14, zc15, zc20, zc21, zcm, ne_eq]; omega) | (simp only [zeq_iff, zc0, zc1, zc2, zc3, zc4, zc5, zc6, zc7, zc8, zc9, zc10, zc11, zc12, zc13, zc14, zc15, zc20, zc21, zcm, ne_eq] at *; omega)))])) <;> rfl)), rfl⟩
    · refine z_aload_n X 0 dX7_count_67 zref.r rfl ?_
      refine z_get X zP6 15 (by decide) q1578 (Or.inl rfl) (v := .int (S 15 0)) D.1 (by decide) rfl dX7_count_68 ?_
      refine z_goto X 75 dX7_count_71 (by decide) ?_
      exact z_iret X hr hlk dX7_count_75 (by first | exact Nat.le_of_ble_eq_true rfl | (dsimp only [zRm]; omega) | omega) (by first | exact Nat.le_of_ble_eq_true rfl | (dsimp only [zRm]; omega) | omega) ⟨congrArg (fun z => some (Value.int z)) (Eq.symm (by unfold cntF; (repeat (first | rw [if_pos (by (first | omega | (simp only [zeq_iff, zc0, zc1, zc2, zc3, zc4, zc5, zc6, zc7, zc8, zc9, zc10, zc11, zc12, zc13, zc14, zc15, zc20, zc21, zcm, ne_eq]; omega) | (simp only [zeq_iff, zc0, zc1, zc2, zc3, zc4, zc5, zc6, zc7, zc8, zc9, zc10, zc11, zc12, zc13, zc14, zc15, zc20, zc21, zcm, ne_eq] at *; omega)))] | rw [if_neg (by (first | omega | (simp only [zeq_iff, zc0, zc1, zc2, zc3, zc4, zc5, zc6, zc7, zc8, zc9, zc10, zc11, zc12, zc13, zc14, zc15, zc20, zc21, zcm, ne_eq]; omega) | (simp only [zeq_iff, zc0, zc1, zc2, zc3, zc4, zc5, zc6, zc7, zc8, zc9, zc10, zc11, zc12, zc13, zc14, zc15, zc20, zc21, zcm, ne_eq] at *; omega)))])) <;> rfl)), rfl⟩
  · refine z_tableIn X 76 dX7_count_1 (by rw [show x = nI 5 from by rw [← c12004]; exact (nI_zn _).symm]; decide) (by rw [show x = nI 5 from by rw [← c12004]; exact (nI_zn _).symm]; decide) (by rw [show x = nI 5 from by rw [← c12004]; exact (nI_zn _).symm]; rfl) (by decide) ?_
    refine z_aload_n X 0 dX7_count_76 zref.r rfl ?_
    refine z_get X zP6 0 (by decide) q1563 (Or.inl rfl) (v := .int (S 0 0)) D.1 (by decide) rfl dX7_count_77 ?_
    exact z_iret X hr hlk dX7_count_80 (by first | exact Nat.le_of_ble_eq_true rfl | (dsimp only [zRm]; omega) | omega) (by first | exact Nat.le_of_ble_eq_true rfl | (dsimp only [zRm]; omega) | omega) ⟨congrArg (fun z => some (Value.int z)) (Eq.symm (by unfold cntF; (repeat (first | rw [if_pos (by (first | omega | (simp only [zeq_iff, zc0, zc1, zc2, zc3, zc4, zc5, zc6, zc7, zc8, zc9, zc10, zc11, zc12, zc13, zc14, zc15, zc20, zc21, zcm, ne_eq]; omega) | (simp only [zeq_iff, zc0, zc1, zc2, zc3, zc4, zc5, zc6, zc7, zc8, zc9, zc10, zc11, zc12, zc13, zc14, zc15, zc20, zc21, zcm, ne_eq] at *; omega)))] | rw [if_neg (by (first | omega | (simp only [zeq_iff, zc0, zc1, zc2, zc3, zc4, zc5, zc6, zc7, zc8, zc9, zc10, zc11, zc12, zc13, zc14, zc15, zc20, zc21, zcm, ne_eq]; omega) | (simp only [zeq_iff, zc0, zc1, zc2, zc3, zc4, zc5, zc6, zc7, zc8, zc9, zc10, zc11, zc12, zc13, zc14, zc15, zc20, zc21, zcm, ne_eq] at *; omega)))])) <;> rfl)), rfl⟩
  · refine z_tableOut X 81 dX7_count_1 (by have z8 := zI_toInt (a := zn x) (zn_lt _); rw [show x = nI (zn x) from (nI_zn _).symm]; rw [z8]; split <;> omega) (by decide) ?_
    refine z_iconst X (-1) dX7_count_81 (by decide) ?_
    exact z_iret X hr hlk dX7_count_82 (by first | exact Nat.le_of_ble_eq_true rfl | (dsimp only [zRm]; omega) | omega) (by first | exact Nat.le_of_ble_eq_true rfl | (dsimp only [zRm]; omega) | omega) ⟨congrArg (fun z => some (Value.int z)) (Eq.symm (by unfold cntF; (repeat (first | rw [if_pos (by (first | omega | (simp only [zeq_iff, zc0, zc1, zc2, zc3, zc4, zc5, zc6, zc7, zc8, zc9, zc10, zc11, zc12, zc13, zc14, zc15, zc20, zc21, zcm, ne_eq]; omega) | (simp only [zeq_iff, zc0, zc1, zc2, zc3, zc4, zc5, zc6, zc7, zc8, zc9, zc10, zc11, zc12, zc13, zc14, zc15, zc20, zc21, zcm, ne_eq] at *; omega)))] | rw [if_neg (by (first | omega | (simp only [zeq_iff, zc0, zc1, zc2, zc3, zc4, zc5, zc6, zc7, zc8, zc9, zc10, zc11, zc12, zc13, zc14, zc15, zc20, zc21, zcm, ne_eq]; omega) | (simp only [zeq_iff, zc0, zc1, zc2, zc3, zc4, zc5, zc6, zc7, zc8, zc9, zc10, zc11, zc12, zc13, zc14, zc15, zc20, zc21, zcm, ne_eq] at *; omega)))])) <;> rfl)), rfl⟩
set_option maxHeartbeats 2000000 in
theorem c_X7_order {l : Launch} {G : ZG} {h : ZH} {E : Nat → Nat} {S : ZS} {x y : Int32} (D : MD E S h) (F : ZWF S) (FL : ZWL S) : ZM l G yX7_order (ws_ yX7_order cX7_order 3 (Option.some FieldType.int)) (zRm 0 0 0 0) [.ref (E 0), .int x, .int y] h (fun v h' => v = some (.int (ordQ S x y)) ∧ h = h') := by
  refine ZT.zm (ZT.of (by first | exact plainFor_of_name (by decide) | decide +kernel) (Nat.le_of_ble_eq_true rfl) (zcats.r zref.r (zcats.i (zcats.i zcats.nil))) ?_)
  intro p_ e_ s_ m_ args_ below_ meth_ c_ X hr hlk hin htab
  have X : ZX p_ m_ c_ cX7_order 3 s_ args_ "LinkStationModel" G := X
  refine z_lv (lv' := [(0, .ref (E 0)), (1, .int x), (2, .int y)]) (fun _ hq => hq) ?_
  have hM := F.mods
  have hL := FL.1
  have hx := zn_lt x
  have hy := zn_lt y
  refine z_aload_n X 0 dX7_order_0 zref.r rfl ?_
  refine z_get X zP6 12 (by decide) q1575 (Or.inl rfl) (v := .int (S 12 0)) D.1 (by decide) rfl dX7_order_1 ?_
  refine z_ifU_eq X (zn (S 12 0)) 28 dX7_order_4 (by decide) (nI_zn _).symm (zn_lt _) (fun c12006 => ?_) (fun c12006 => ?_)
  · refine z_iconst X (-1) dX7_order_28 (by decide) ?_
    exact z_iret X hr hlk dX7_order_29 (by first | exact Nat.le_of_ble_eq_true rfl | (dsimp only [zRm]; omega) | omega) (by first | exact Nat.le_of_ble_eq_true rfl | (dsimp only [zRm]; omega) | omega) ⟨congrArg (fun z => some (Value.int z)) (Eq.symm (by unfold ordQ; (repeat (first | rw [if_pos (by (first | omega | (simp only [zeq_iff, zc0, zc1, zc2, zc3, zc4, zc5, zc6, zc7, zc8, zc9, zc10, zc11, zc12, zc13, zc14, zc15, zc20, zc21, zcm, ne_eq]; omega) | (simp only [zeq_iff, zc0, zc1, zc2, zc3, zc4, zc5, zc6, zc7, zc8, zc9, zc10, zc11, zc12, zc13, zc14, zc15, zc20, zc21, zcm, ne_eq] at *; omega)))] | rw [if_neg (by (first | omega | (simp only [zeq_iff, zc0, zc1, zc2, zc3, zc4, zc5, zc6, zc7, zc8, zc9, zc10, zc11, zc12, zc13, zc14, zc15, zc20, zc21, zcm, ne_eq]; omega) | (simp only [zeq_iff, zc0, zc1, zc2, zc3, zc4, zc5, zc6, zc7, zc8, zc9, zc10, zc11, zc12, zc13, zc14, zc15, zc20, zc21, zcm, ne_eq] at *; omega)))])) <;> rfl)), rfl⟩
  · refine z_iload_n X 1 dX7_order_7 rfl ?_
    refine z_ifU_lt X (zn x) 28 dX7_order_8 (by decide) (nI_zn _).symm (zn_lt _) (fun c12007 => ?_) (fun c12007 => ?_)
    · refine z_iconst X (-1) dX7_order_28 (by decide) ?_
      exact z_iret X hr hlk dX7_order_29 (by first | exact Nat.le_of_ble_eq_true rfl | (dsimp only [zRm]; omega) | omega) (by first | exact Nat.le_of_ble_eq_true rfl | (dsimp only [zRm]; omega) | omega) ⟨congrArg (fun z => some (Value.int z)) (Eq.symm (by unfold ordQ; (repeat (first | rw [if_pos (by (first | omega | (simp only [zeq_iff, zc0, zc1, zc2, zc3, zc4, zc5, zc6, zc7, zc8, zc9, zc10, zc11, zc12, zc13, zc14, zc15, zc20, zc21, zcm, ne_eq]; omega) | (simp only [zeq_iff, zc0, zc1, zc2, zc3, zc4, zc5, zc6, zc7, zc8, zc9, zc10, zc11, zc12, zc13, zc14, zc15, zc20, zc21, zcm, ne_eq] at *; omega)))] | rw [if_neg (by (first | omega | (simp only [zeq_iff, zc0, zc1, zc2, zc3, zc4, zc5, zc6, zc7, zc8, zc9, zc10, zc11, zc12, zc13, zc14, zc15, zc20, zc21, zcm, ne_eq]; omega) | (simp only [zeq_iff, zc0, zc1, zc2, zc3, zc4, zc5, zc6, zc7, zc8, zc9, zc10, zc11, zc12, zc13, zc14, zc15, zc20, zc21, zcm, ne_eq] at *; omega)))])) <;> rfl)), rfl⟩
    · refine z_iload_n X 1 dX7_order_11 rfl ?_
      refine z_aload_n X 0 dX7_order_12 zref.r rfl ?_
      refine z_get X zP6 15 (by decide) q1578 (Or.inl rfl) (v := .int (S 15 0)) D.1 (by decide) rfl dX7_order_13 ?_
      refine z_icmpU_ge X (zn x) (zn (S 15 0)) 28 dX7_order_16 (by decide) (nI_zn _).symm (nI_zn _).symm (zn_lt _) (zn_lt _) (fun c12008 => ?_) (fun c12008 => ?_)
      · refine z_iconst X (-1) dX7_order_28 (by decide) ?_
        exact z_iret X hr hlk dX7_order_29 (by first | exact Nat.le_of_ble_eq_true rfl | (dsimp only [zRm]; omega) | omega) (by first | exact Nat.le_of_ble_eq_true rfl | (dsimp only [zRm]; omega) | omega) ⟨congrArg (fun z => some (Value.int z)) (Eq.symm (by unfold ordQ; (repeat (first | rw [if_pos (by (first | omega | (simp only [zeq_iff, zc0, zc1, zc2, zc3, zc4, zc5, zc6, zc7, zc8, zc9, zc10, zc11, zc12, zc13, zc14, zc15, zc20, zc21, zcm, ne_eq]; omega) | (simp only [zeq_iff, zc0, zc1, zc2, zc3, zc4, zc5, zc6, zc7, zc8, zc9, zc10, zc11, zc12, zc13, zc14, zc15, zc20, zc21, zcm, ne_eq] at *; omega)))] | rw [if_neg (by (first | omega | (simp only [zeq_iff, zc0, zc1, zc2, zc3, zc4, zc5, zc6, zc7, zc8, zc9, zc10, zc11, zc12, zc13, zc14, zc15, zc20, zc21, zcm, ne_eq]; omega) | (simp only [zeq_iff, zc0, zc1, zc2, zc3, zc4, zc5, zc6, zc7, zc8, zc9, zc10, zc11, zc12, zc13, zc14, zc15, zc20, zc21, zcm, ne_eq] at *; omega)))])) <;> rfl)), rfl⟩
      · refine z_iload_n X 2 dX7_order_19 rfl ?_
        refine z_ifU_lt X (zn y) 28 dX7_order_20 (by decide) (nI_zn _).symm (zn_lt _) (fun c12009 => ?_) (fun c12009 => ?_)
        · refine z_iconst X (-1) dX7_order_28 (by decide) ?_
          exact z_iret X hr hlk dX7_order_29 (by first | exact Nat.le_of_ble_eq_true rfl | (dsimp only [zRm]; omega) | omega) (by first | exact Nat.le_of_ble_eq_true rfl | (dsimp only [zRm]; omega) | omega) ⟨congrArg (fun z => some (Value.int z)) (Eq.symm (by unfold ordQ; (repeat (first | rw [if_pos (by (first | omega | (simp only [zeq_iff, zc0, zc1, zc2, zc3, zc4, zc5, zc6, zc7, zc8, zc9, zc10, zc11, zc12, zc13, zc14, zc15, zc20, zc21, zcm, ne_eq]; omega) | (simp only [zeq_iff, zc0, zc1, zc2, zc3, zc4, zc5, zc6, zc7, zc8, zc9, zc10, zc11, zc12, zc13, zc14, zc15, zc20, zc21, zcm, ne_eq] at *; omega)))] | rw [if_neg (by (first | omega | (simp only [zeq_iff, zc0, zc1, zc2, zc3, zc4, zc5, zc6, zc7, zc8, zc9, zc10, zc11, zc12, zc13, zc14, zc15, zc20, zc21, zcm, ne_eq]; omega) | (simp only [zeq_iff, zc0, zc1, zc2, zc3, zc4, zc5, zc6, zc7, zc8, zc9, zc10, zc11, zc12, zc13, zc14, zc15, zc20, zc21, zcm, ne_eq] at *; omega)))])) <;> rfl)), rfl⟩
        · refine z_iload_n X 2 dX7_order_23 rfl ?_
          refine z_iconst X (nI 1) dX7_order_24 (by decide) ?_
          refine z_icmpU_le X (zn y) 1 30 dX7_order_25 (by decide) (nI_zn _).symm rfl (zn_lt _) (by omega) (fun c12010 => ?_) (fun c12010 => ?_)
          · refine z_iload_n X 2 dX7_order_30 rfl ?_
            refine z_ifU_ne X (zn y) 43 dX7_order_31 (by decide) (nI_zn _).symm (zn_lt _) (fun c12011 => ?_) (fun c12011 => ?_)
            · refine z_aload_n X 0 dX7_order_43 zref.r rfl ?_
              refine z_get X zP6 17 (by decide) q1580 (Or.inl rfl) D.1 (by decide) rfl dX7_order_44 ?_
              refine z_iload_n X 1 dX7_order_47 rfl ?_
              refine z_iald X (v := .int ((S 17) (zn x))) (zn x) (D.2.1 17 rfl) (by decide) (nI_zn _).symm (by show _ < 12; omega) (by decide) rfl dX7_order_48 ?_
              exact z_iret X hr hlk dX7_order_49 (by first | exact Nat.le_of_ble_eq_true rfl | (dsimp only [zRm]; omega) | omega) (by first | exact Nat.le_of_ble_eq_true rfl | (dsimp only [zRm]; omega) | omega) ⟨congrArg (fun z => some (Value.int z)) (Eq.symm (by unfold ordQ; (repeat (first | rw [if_pos (by (first | omega | (simp only [zeq_iff, zc0, zc1, zc2, zc3, zc4, zc5, zc6, zc7, zc8, zc9, zc10, zc11, zc12, zc13, zc14, zc15, zc20, zc21, zcm, ne_eq]; omega) | (simp only [zeq_iff, zc0, zc1, zc2, zc3, zc4, zc5, zc6, zc7, zc8, zc9, zc10, zc11, zc12, zc13, zc14, zc15, zc20, zc21, zcm, ne_eq] at *; omega)))] | rw [if_neg (by (first | omega | (simp only [zeq_iff, zc0, zc1, zc2, zc3, zc4, zc5, zc6, zc7, zc8, zc9, zc10, zc11, zc12, zc13, zc14, zc15, zc20, zc21, zcm, ne_eq]; omega) | (simp only [zeq_iff, zc0, zc1, zc2, zc3, zc4, zc5, zc6, zc7, zc8, zc9, zc10, zc11, zc12, zc13, zc14, zc15, zc20, zc21, zcm, ne_eq] at *; omega)))])) <;> rfl)), rfl⟩
            · refine z_aload_n X 0 dX7_order_34 zref.r rfl ?_
              refine z_get X zP6 16 (by decide) q1579 (Or.inl rfl) D.1 (by decide) rfl dX7_order_35 ?_
              refine z_iload_n X 1 dX7_order_38 rfl ?_
              refine z_iald X (v := .int ((S 16) (zn x))) (zn x) (D.2.1 16 rfl) (by decide) (nI_zn _).symm (by show _ < 12; omega) (by decide) rfl dX7_order_39 ?_
              refine z_goto X 49 dX7_order_40 (by decide) ?_
              exact z_iret X hr hlk dX7_order_49 (by first | exact Nat.le_of_ble_eq_true rfl | (dsimp only [zRm]; omega) | omega) (by first | exact Nat.le_of_ble_eq_true rfl | (dsimp only [zRm]; omega) | omega) ⟨congrArg (fun z => some (Value.int z)) (Eq.symm (by unfold ordQ; (repeat (first | rw [if_pos (by (first | omega | (simp only [zeq_iff, zc0, zc1, zc2, zc3, zc4, zc5, zc6, zc7, zc8, zc9, zc10, zc11, zc12, zc13, zc14, zc15, zc20, zc21, zcm, ne_eq]; omega) | (simp only [zeq_iff, zc0, zc1, zc2, zc3, zc4, zc5, zc6, zc7, zc8, zc9, zc10, zc11, zc12, zc13, zc14, zc15, zc20, zc21, zcm, ne_eq] at *; omega)))] | rw [if_neg (by (first | omega | (simp only [zeq_iff, zc0, zc1, zc2, zc3, zc4, zc5, zc6, zc7, zc8, zc9, zc10, zc11, zc12, zc13, zc14, zc15, zc20, zc21, zcm, ne_eq]; omega) | (simp only [zeq_iff, zc0, zc1, zc2, zc3, zc4, zc5, zc6, zc7, zc8, zc9, zc10, zc11, zc12, zc13, zc14, zc15, zc20, zc21, zcm, ne_eq] at *; omega)))])) <;> rfl)), rfl⟩
          · refine z_iconst X (-1) dX7_order_28 (by decide) ?_
            exact z_iret X hr hlk dX7_order_29 (by first | exact Nat.le_of_ble_eq_true rfl | (dsimp only [zRm]; omega) | omega) (by first | exact Nat.le_of_ble_eq_true rfl | (dsimp only [zRm]; omega) | omega) ⟨congrArg (fun z => some (Value.int z)) (Eq.symm (by unfold ordQ; (repeat (first | rw [if_pos (by (first | omega | (simp only [zeq_iff, zc0, zc1, zc2, zc3, zc4, zc5, zc6, zc7, zc8, zc9, zc10, zc11, zc12, zc13, zc14, zc15, zc20, zc21, zcm, ne_eq]; omega) | (simp only [zeq_iff, zc0, zc1, zc2, zc3, zc4, zc5, zc6, zc7, zc8, zc9, zc10, zc11, zc12, zc13, zc14, zc15, zc20, zc21, zcm, ne_eq] at *; omega)))] | rw [if_neg (by (first | omega | (simp only [zeq_iff, zc0, zc1, zc2, zc3, zc4, zc5, zc6, zc7, zc8, zc9, zc10, zc11, zc12, zc13, zc14, zc15, zc20, zc21, zcm, ne_eq]; omega) | (simp only [zeq_iff, zc0, zc1, zc2, zc3, zc4, zc5, zc6, zc7, zc8, zc9, zc10, zc11, zc12, zc13, zc14, zc15, zc20, zc21, zcm, ne_eq] at *; omega)))])) <;> rfl)), rfl⟩
set_option maxHeartbeats 2000000 in
theorem c_X7_said {l : Launch} {G : ZG} {h : ZH} {E : Nat → Nat} {S : ZS} {x : Int32} (D : MD E S h) (F : ZWF S) (hs : zn (S 30 0) < 10000) : ZM l G yX7_said (ws_ yX7_said cX7_said 2 (Option.some FieldType.int)) (zRm 0 0 0 0) [.ref (E 0), .int x] h (fun v h' => v = some (.int (sdF S x)) ∧ h = h') := by
  refine ZT.zm (ZT.of (by first | exact plainFor_of_name (by decide) | decide +kernel) (Nat.le_of_ble_eq_true rfl) (zcats.r zref.r (zcats.i zcats.nil)) ?_)
  intro p_ e_ s_ m_ args_ below_ meth_ c_ X hr hlk hin htab
  have X : ZX p_ m_ c_ cX7_said 2 s_ args_ "LinkStationModel" G := X
  refine z_lv (lv' := [(0, .ref (E 0)), (1, .int x)]) (fun _ hq => hq) ?_
  have hx := zn_lt x
  refine z_iload_n X 1 dX7_said_0 rfl ?_
  refine z_ifU_lt X (zn x) 18 dX7_said_1 (by decide) (nI_zn _).symm (zn_lt _) (fun c12012 => ?_) (fun c12012 => ?_)
  · refine z_iconst X (nI 0) dX7_said_18 (by decide) ?_
    refine z_goto X 28 dX7_said_19 (by decide) ?_
    exact z_iret X hr hlk dX7_said_28 (by first | exact Nat.le_of_ble_eq_true rfl | (dsimp only [zRm]; omega) | omega) (by first | exact Nat.le_of_ble_eq_true rfl | (dsimp only [zRm]; omega) | omega) ⟨congrArg (fun z => some (Value.int z)) (Eq.symm (by unfold sdF; (repeat (first | rw [if_pos (by (first | omega | (simp only [zeq_iff, zc0, zc1, zc2, zc3, zc4, zc5, zc6, zc7, zc8, zc9, zc10, zc11, zc12, zc13, zc14, zc15, zc20, zc21, zcm, ne_eq]; omega) | (simp only [zeq_iff, zc0, zc1, zc2, zc3, zc4, zc5, zc6, zc7, zc8, zc9, zc10, zc11, zc12, zc13, zc14, zc15, zc20, zc21, zcm, ne_eq] at *; omega)))] | rw [if_neg (by (first | omega | (simp only [zeq_iff, zc0, zc1, zc2, zc3, zc4, zc5, zc6, zc7, zc8, zc9, zc10, zc11, zc12, zc13, zc14, zc15, zc20, zc21, zcm, ne_eq]; omega) | (simp only [zeq_iff, zc0, zc1, zc2, zc3, zc4, zc5, zc6, zc7, zc8, zc9, zc10, zc11, zc12, zc13, zc14, zc15, zc20, zc21, zcm, ne_eq] at *; omega)))])) <;> rfl)), rfl⟩
  · refine z_iload_n X 1 dX7_said_4 rfl ?_
    refine z_aload_n X 0 dX7_said_5 zref.r rfl ?_
    refine z_get X zP6 30 (by decide) q1593 (Or.inl rfl) (v := .int (S 30 0)) D.1 (by decide) rfl dX7_said_6 ?_
    refine z_icmpU_ge X (zn x) (zn (S 30 0)) 18 dX7_said_9 (by decide) (nI_zn _).symm (nI_zn _).symm (zn_lt _) (zn_lt _) (fun c12013 => ?_) (fun c12013 => ?_)
    · refine z_iconst X (nI 0) dX7_said_18 (by decide) ?_
      refine z_goto X 28 dX7_said_19 (by decide) ?_
      exact z_iret X hr hlk dX7_said_28 (by first | exact Nat.le_of_ble_eq_true rfl | (dsimp only [zRm]; omega) | omega) (by first | exact Nat.le_of_ble_eq_true rfl | (dsimp only [zRm]; omega) | omega) ⟨congrArg (fun z => some (Value.int z)) (Eq.symm (by unfold sdF; (repeat (first | rw [if_pos (by (first | omega | (simp only [zeq_iff, zc0, zc1, zc2, zc3, zc4, zc5, zc6, zc7, zc8, zc9, zc10, zc11, zc12, zc13, zc14, zc15, zc20, zc21, zcm, ne_eq]; omega) | (simp only [zeq_iff, zc0, zc1, zc2, zc3, zc4, zc5, zc6, zc7, zc8, zc9, zc10, zc11, zc12, zc13, zc14, zc15, zc20, zc21, zcm, ne_eq] at *; omega)))] | rw [if_neg (by (first | omega | (simp only [zeq_iff, zc0, zc1, zc2, zc3, zc4, zc5, zc6, zc7, zc8, zc9, zc10, zc11, zc12, zc13, zc14, zc15, zc20, zc21, zcm, ne_eq]; omega) | (simp only [zeq_iff, zc0, zc1, zc2, zc3, zc4, zc5, zc6, zc7, zc8, zc9, zc10, zc11, zc12, zc13, zc14, zc15, zc20, zc21, zcm, ne_eq] at *; omega)))])) <;> rfl)), rfl⟩
    · refine z_iload_n X 1 dX7_said_12 rfl ?_
      refine z_bipush X (nI 60) dX7_said_13 (by decide) ?_
      refine z_icmpU_lt X (zn x) 60 22 dX7_said_15 (by decide) (nI_zn _).symm rfl (zn_lt _) (by omega) (fun c12014 => ?_) (fun c12014 => ?_)
      · refine z_aload_n X 0 dX7_said_22 zref.r rfl ?_
        refine z_get X zP6 33 (by decide) q1596 (Or.inl rfl) D.1 (by decide) rfl dX7_said_23 ?_
        refine z_iload_n X 1 dX7_said_26 rfl ?_
        refine z_iald X (v := .int ((S 33) (zn x))) (zn x) (D.2.1 33 rfl) (by decide) (nI_zn _).symm (by show _ < 60; omega) (by decide) rfl dX7_said_27 ?_
        exact z_iret X hr hlk dX7_said_28 (by first | exact Nat.le_of_ble_eq_true rfl | (dsimp only [zRm]; omega) | omega) (by first | exact Nat.le_of_ble_eq_true rfl | (dsimp only [zRm]; omega) | omega) ⟨congrArg (fun z => some (Value.int z)) (Eq.symm (by unfold sdF; (repeat (first | rw [if_pos (by (first | omega | (simp only [zeq_iff, zc0, zc1, zc2, zc3, zc4, zc5, zc6, zc7, zc8, zc9, zc10, zc11, zc12, zc13, zc14, zc15, zc20, zc21, zcm, ne_eq]; omega) | (simp only [zeq_iff, zc0, zc1, zc2, zc3, zc4, zc5, zc6, zc7, zc8, zc9, zc10, zc11, zc12, zc13, zc14, zc15, zc20, zc21, zcm, ne_eq] at *; omega)))] | rw [if_neg (by (first | omega | (simp only [zeq_iff, zc0, zc1, zc2, zc3, zc4, zc5, zc6, zc7, zc8, zc9, zc10, zc11, zc12, zc13, zc14, zc15, zc20, zc21, zcm, ne_eq]; omega) | (simp only [zeq_iff, zc0, zc1, zc2, zc3, zc4, zc5, zc6, zc7, zc8, zc9, zc10, zc11, zc12, zc13, zc14, zc15, zc20, zc21, zcm, ne_eq] at *; omega)))])) <;> rfl)), rfl⟩
      · refine z_iconst X (nI 0) dX7_said_18 (by decide) ?_
        refine z_goto X 28 dX7_said_19 (by decide) ?_
        exact z_iret X hr hlk dX7_said_28 (by first | exact Nat.le_of_ble_eq_true rfl | (dsimp only [zRm]; omega) | omega) (by first | exact Nat.le_of_ble_eq_true rfl | (dsimp only [zRm]; omega) | omega) ⟨congrArg (fun z => some (Value.int z)) (Eq.symm (by unfold sdF; (repeat (first | rw [if_pos (by (first | omega | (simp only [zeq_iff, zc0, zc1, zc2, zc3, zc4, zc5, zc6, zc7, zc8, zc9, zc10, zc11, zc12, zc13, zc14, zc15, zc20, zc21, zcm, ne_eq]; omega) | (simp only [zeq_iff, zc0, zc1, zc2, zc3, zc4, zc5, zc6, zc7, zc8, zc9, zc10, zc11, zc12, zc13, zc14, zc15, zc20, zc21, zcm, ne_eq] at *; omega)))] | rw [if_neg (by (first | omega | (simp only [zeq_iff, zc0, zc1, zc2, zc3, zc4, zc5, zc6, zc7, zc8, zc9, zc10, zc11, zc12, zc13, zc14, zc15, zc20, zc21, zcm, ne_eq]; omega) | (simp only [zeq_iff, zc0, zc1, zc2, zc3, zc4, zc5, zc6, zc7, zc8, zc9, zc10, zc11, zc12, zc13, zc14, zc15, zc20, zc21, zcm, ne_eq] at *; omega)))])) <;> rfl)), rfl⟩
set_option maxHeartbeats 2000000 in
theorem c_X7_register {l : Launch} {G : ZG} {h : ZH} {E : Nat → Nat} {S : ZS} {x : Int32} (D : MD E S h) (F : ZWF S)  : ZM l G yX7_register (ws_ yX7_register cX7_register 2 (Option.some FieldType.int)) (zRm 1 0 0 20) [.ref (E 0), .int x] h (fun v h' => v = some (.int (regF S x)) ∧ h = h') := by
  refine ZT.zm (ZT.of (by first | exact plainFor_of_name (by decide) | decide +kernel) (Nat.le_of_ble_eq_true rfl) (zcats.r zref.r (zcats.i zcats.nil)) ?_)
  intro p_ e_ s_ m_ args_ below_ meth_ c_ X hr hlk hin htab
  have X : ZX p_ m_ c_ cX7_register 2 s_ args_ "LinkStationModel" G := X
  refine z_lv (lv' := [(0, .ref (E 0)), (1, .int x)]) (fun _ hq => hq) ?_
  have hx := zn_lt x
  refine z_iload_n X 1 dX7_register_0 rfl ?_
  refine z_callS X (rest := []) c_X7_isRegister (va_cwS 1 (zXts X) (lw_S q1723 q1724 q65 q1725) rfl rfl rfl (by decide +kernel) ⟨Nat.le_of_ble_eq_true rfl, Nat.le_of_ble_eq_true rfl⟩) rfl (Nat.le_of_ble_eq_true rfl) ⟨(by first | exact Nat.le_of_ble_eq_true rfl | (dsimp only [zRm]; omega)), (by first | exact Nat.le_of_ble_eq_true rfl | (dsimp only [zRm]; omega))⟩ dX7_register_1 (fun v12016 h12017 p12018 => ?_)
  obtain ⟨⟨c12015, rfl⟩ | ⟨c12015, rfl⟩, rfl⟩ := p12018
  · refine z_st (st' := [.int (nI 1)]) rfl ?_
    refine z_ifU_eq X 1 16 dX7_register_4 (by decide) rfl (by omega) (fun c12019 => ?_) (fun c12019 => ?_)
    · omega
    · refine z_aload_n X 0 dX7_register_7 zref.r rfl ?_
      refine z_get X zP6 28 (by decide) q1591 (Or.inl rfl) D.1 (by decide) rfl dX7_register_8 ?_
      refine z_iload_n X 1 dX7_register_11 rfl ?_
      refine z_iald X (v := .int ((S 28) (zn x))) (zn x) (D.2.1 28 rfl) (by decide) (nI_zn _).symm (by show _ < 8; omega) (by decide) rfl dX7_register_12 ?_
      refine z_goto X 17 dX7_register_13 (by decide) ?_
      exact z_iret X hr hlk dX7_register_17 (by first | exact Nat.le_of_ble_eq_true rfl | (dsimp only [zRm]; omega) | omega) (by first | exact Nat.le_of_ble_eq_true rfl | (dsimp only [zRm]; omega) | omega) ⟨congrArg (fun z => some (Value.int z)) (Eq.symm (by unfold regF; (repeat (first | rw [if_pos (by (first | omega | (simp only [zeq_iff, zc0, zc1, zc2, zc3, zc4, zc5, zc6, zc7, zc8, zc9, zc10, zc11, zc12, zc13, zc14, zc15, zc20, zc21, zcm, ne_eq]; omega) | (simp only [zeq_iff, zc0, zc1, zc2, zc3, zc4, zc5, zc6, zc7, zc8, zc9, zc10, zc11, zc12, zc13, zc14, zc15, zc20, zc21, zcm, ne_eq] at *; omega)))] | rw [if_neg (by (first | omega | (simp only [zeq_iff, zc0, zc1, zc2, zc3, zc4, zc5, zc6, zc7, zc8, zc9, zc10, zc11, zc12, zc13, zc14, zc15, zc20, zc21, zcm, ne_eq]; omega) | (simp only [zeq_iff, zc0, zc1, zc2, zc3, zc4, zc5, zc6, zc7, zc8, zc9, zc10, zc11, zc12, zc13, zc14, zc15, zc20, zc21, zcm, ne_eq] at *; omega)))])) <;> rfl)), rfl⟩
  · refine z_st (st' := [.int (nI 0)]) rfl ?_
    refine z_ifU_eq X 0 16 dX7_register_4 (by decide) rfl (by omega) (fun c12020 => ?_) (fun c12020 => ?_)
    · refine z_iconst X (nI 0) dX7_register_16 (by decide) ?_
      exact z_iret X hr hlk dX7_register_17 (by first | exact Nat.le_of_ble_eq_true rfl | (dsimp only [zRm]; omega) | omega) (by first | exact Nat.le_of_ble_eq_true rfl | (dsimp only [zRm]; omega) | omega) ⟨congrArg (fun z => some (Value.int z)) (Eq.symm (by unfold regF; (repeat (first | rw [if_pos (by (first | omega | (simp only [zeq_iff, zc0, zc1, zc2, zc3, zc4, zc5, zc6, zc7, zc8, zc9, zc10, zc11, zc12, zc13, zc14, zc15, zc20, zc21, zcm, ne_eq]; omega) | (simp only [zeq_iff, zc0, zc1, zc2, zc3, zc4, zc5, zc6, zc7, zc8, zc9, zc10, zc11, zc12, zc13, zc14, zc15, zc20, zc21, zcm, ne_eq] at *; omega)))] | rw [if_neg (by (first | omega | (simp only [zeq_iff, zc0, zc1, zc2, zc3, zc4, zc5, zc6, zc7, zc8, zc9, zc10, zc11, zc12, zc13, zc14, zc15, zc20, zc21, zcm, ne_eq]; omega) | (simp only [zeq_iff, zc0, zc1, zc2, zc3, zc4, zc5, zc6, zc7, zc8, zc9, zc10, zc11, zc12, zc13, zc14, zc15, zc20, zc21, zcm, ne_eq] at *; omega)))])) <;> rfl)), rfl⟩
    · omega
set_option maxHeartbeats 2000000 in
theorem c_X7_check {l : Launch} {G : ZG} {h : ZH} {E : Nat → Nat} {S : ZS}  (D : MD E S h)  : ZM l G yX7_check (ws_ yX7_check cX7_check 1 (Option.some FieldType.int)) (zRm 0 0 0 0) [.ref (E 0)] h (fun v h' => v = some (.int (1)) ∧ h = h') := by
  refine ZT.zm (ZT.of (by first | exact plainFor_of_name (by decide) | decide +kernel) (Nat.le_of_ble_eq_true rfl) (zcats.r zref.r zcats.nil) ?_)
  intro p_ e_ s_ m_ args_ below_ meth_ c_ X hr hlk hin htab
  have X : ZX p_ m_ c_ cX7_check 1 s_ args_ "LinkStationModel" G := X
  refine z_lv (lv' := [(0, .ref (E 0))]) (fun _ hq => hq) ?_
  refine z_iconst X (nI 1) dX7_check_0 (by decide) ?_
  exact z_iret X hr hlk dX7_check_1 (by first | exact Nat.le_of_ble_eq_true rfl | (dsimp only [zRm]; omega) | omega) (by first | exact Nat.le_of_ble_eq_true rfl | (dsimp only [zRm]; omega) | omega) ⟨rfl, rfl⟩
set_option maxHeartbeats 2000000 in
theorem c_X7_comes {l : Launch} {G : ZG} {h : ZH} {E : Nat → Nat} {S : ZS} {x y : Int32} (D : MD E S h) (F : ZWF S) (FL : ZWL S) : ZM l G yX7_comes (ws_ yX7_comes cX7_comes 3 (Option.some FieldType.int)) (zRm 2 0 0 60) [.ref (E 0), .int x, .int y] h (fun v h' => v = some (.int (comF S x y)) ∧ h = h') := by
  refine ZT.zm (ZT.of (by first | exact plainFor_of_name (by decide) | decide +kernel) (Nat.le_of_ble_eq_true rfl) (zcats.r zref.r (zcats.i (zcats.i zcats.nil))) ?_)
  intro p_ e_ s_ m_ args_ below_ meth_ c_ X hr hlk hin htab
  have X : ZX p_ m_ c_ cX7_comes 3 s_ args_ "LinkStationModel" G := X
  refine z_lv (lv' := [(0, .ref (E 0)), (1, .int x), (2, .int y)]) (fun _ hq => hq) ?_
  have hM := F.mods
  have hL := FL.1
  refine z_aload_n X 0 dX7_comes_0 zref.r rfl ?_
  refine z_iload_n X 1 dX7_comes_1 rfl ?_
  refine z_callV X (rest := []) (c_X7_placeOf D F (x := x) FL) (cwV 1 (zXts X) (lw_V q1774 q1776 qs40 q65 q1777) rfl rfl rfl (by decide +kernel) ⟨Nat.le_of_ble_eq_true rfl, Nat.le_of_ble_eq_true rfl⟩) D.1 (by decide) rfl rfl (Nat.le_of_ble_eq_true rfl) ⟨(by first | exact Nat.le_of_ble_eq_true rfl | (dsimp only [zRm]; omega)), (by first | exact Nat.le_of_ble_eq_true rfl | (dsimp only [zRm]; omega))⟩ dX7_comes_2 (fun v12022 h12023 p12024 => ?_)
  obtain ⟨⟨c12021, p0, c12021a, c12021b, c12021c, rfl⟩ | ⟨c12021, rfl⟩, rfl⟩ := p12024
  · refine z_st (st' := [.int (nI p0)]) rfl ?_
    have hx12 := zld_lt FL c12021
    refine z_iconst X (-1) dX7_comes_5 (by decide) ?_
    refine z_icmpU_eq X p0 4294967295 16 dX7_comes_6 (by decide) rfl (by decide) (by omega) (by omega) (fun c12025 => ?_) (fun c12025 => ?_)
    · refine z_iconst X (-1) dX7_comes_16 (by decide) ?_
      refine z_goto X 38 dX7_comes_17 (by decide) ?_
      exact z_iret X hr hlk dX7_comes_38 (by first | exact Nat.le_of_ble_eq_true rfl | (dsimp only [zRm]; omega) | omega) (by first | exact Nat.le_of_ble_eq_true rfl | (dsimp only [zRm]; omega) | omega) ⟨congrArg (fun z => some (Value.int z)) (Eq.symm (if_neg (by rintro ⟨h1, h2⟩; first | omega | (rw [c12021] at h1; cases h1)))), rfl⟩
    · refine z_iload_n X 2 dX7_comes_9 rfl ?_
      refine z_callS X (rest := []) c_X7_isName (va_cwS 1 (zXts X) (lw_S q1698 q1699 q65 q1700) rfl rfl rfl (by decide +kernel) ⟨Nat.le_of_ble_eq_true rfl, Nat.le_of_ble_eq_true rfl⟩) rfl (Nat.le_of_ble_eq_true rfl) ⟨(by first | exact Nat.le_of_ble_eq_true rfl | (dsimp only [zRm]; omega)), (by first | exact Nat.le_of_ble_eq_true rfl | (dsimp only [zRm]; omega))⟩ dX7_comes_10 (fun v12027 h12028 p12029 => ?_)
      obtain ⟨⟨c12026, rfl⟩ | ⟨c12026, rfl⟩, rfl⟩ := p12029
      · refine z_st (st' := [.int (nI 1)]) rfl ?_
        refine z_ifU_ne X 1 20 dX7_comes_13 (by decide) rfl (by omega) (fun c12030 => ?_) (fun c12030 => ?_)
        · refine z_aload_n X 0 dX7_comes_20 zref.r rfl ?_
          refine z_aload_n X 0 dX7_comes_21 zref.r rfl ?_
          refine z_aload_n X 0 dX7_comes_22 zref.r rfl ?_
          refine z_get X zP6 16 (by decide) q1579 (Or.inl rfl) D.1 (by decide) rfl dX7_comes_23 ?_
          refine z_aload_n X 0 dX7_comes_26 zref.r rfl ?_
          refine z_get X zP6 15 (by decide) q1578 (Or.inl rfl) (v := .int (S 15 0)) D.1 (by decide) rfl dX7_comes_27 ?_
          refine z_iload_n X 1 dX7_comes_30 rfl ?_
          refine z_iload_n X 2 dX7_comes_31 rfl ?_
          refine z_st (st' := [.int y, .int x, .int (nI (zn (S 15 0))), .ref (E 16), .ref (E 0), .ref (E 0)]) (by simp only [nI_zn]) ?_
          refine z_st (st' := [.int y, .int (nI (zn x)), .int (nI (zn (S 15 0))), .ref (E 16), .ref (E 0), .ref (E 0)]) (by simp only [nI_zn]) ?_
          refine z_callV X (rest := [.ref (E 0)]) (c_X7_find_16 D F (n := zn (S 15 0)) (m := zn x) (x := y) hx12 hL FL.2.1) (cwV 4 (zXts X) (lw_V q1742 q1744 qs35 q65 q1745) rfl rfl rfl (by decide +kernel) ⟨Nat.le_of_ble_eq_true rfl, Nat.le_of_ble_eq_true rfl⟩) D.1 (by decide) rfl rfl (Nat.le_of_ble_eq_true rfl) ⟨(by first | exact Nat.le_of_ble_eq_true rfl | (dsimp only [zRm]; omega)), (by first | exact Nat.le_of_ble_eq_true rfl | (dsimp only [zRm]; omega))⟩ dX7_comes_32 (fun v12031 h12032 p12033 => ?_)
          obtain ⟨rfl, rfl⟩ := p12033
          refine z_callV X (rest := []) (c_X7_moduleOf D (d := fnd S (S 16) (zn (S 15 0)) (zn x) y) (fun d hd => (F.df hd hx12 FL.2.1).1)) (cwV 1 (zXts X) (lw_V q1758 q1760 qs39 q65 q1761) rfl rfl rfl (by decide +kernel) ⟨Nat.le_of_ble_eq_true rfl, Nat.le_of_ble_eq_true rfl⟩) D.1 (by decide) rfl rfl (Nat.le_of_ble_eq_true rfl) ⟨(by first | exact Nat.le_of_ble_eq_true rfl | (dsimp only [zRm]; omega)), (by first | exact Nat.le_of_ble_eq_true rfl | (dsimp only [zRm]; omega))⟩ dX7_comes_35 (fun v12034 h12035 p12036 => ?_)
          obtain ⟨rfl, rfl⟩ := p12036
          exact z_iret X hr hlk dX7_comes_38 (by first | exact Nat.le_of_ble_eq_true rfl | (dsimp only [zRm]; omega) | omega) (by first | exact Nat.le_of_ble_eq_true rfl | (dsimp only [zRm]; omega) | omega) ⟨congrArg (fun z => some (Value.int z)) (Eq.symm (if_pos ⟨c12021, by omega⟩)), rfl⟩
        · omega
      · refine z_st (st' := [.int (nI 0)]) rfl ?_
        refine z_ifU_ne X 0 20 dX7_comes_13 (by decide) rfl (by omega) (fun c12037 => ?_) (fun c12037 => ?_)
        · omega
        · refine z_iconst X (-1) dX7_comes_16 (by decide) ?_
          refine z_goto X 38 dX7_comes_17 (by decide) ?_
          exact z_iret X hr hlk dX7_comes_38 (by first | exact Nat.le_of_ble_eq_true rfl | (dsimp only [zRm]; omega) | omega) (by first | exact Nat.le_of_ble_eq_true rfl | (dsimp only [zRm]; omega) | omega) ⟨congrArg (fun z => some (Value.int z)) (Eq.symm (if_neg (by rintro ⟨h1, h2⟩; first | omega | (rw [c12021] at h1; cases h1)))), rfl⟩
  · refine z_st (st' := [.int (-1)]) rfl ?_
    refine z_iconst X (-1) dX7_comes_5 (by decide) ?_
    refine z_icmpU_eq X 4294967295 4294967295 16 dX7_comes_6 (by decide) (by decide) (by decide) (by omega) (by omega) (fun c12038 => ?_) (fun c12038 => ?_)
    · refine z_iconst X (-1) dX7_comes_16 (by decide) ?_
      refine z_goto X 38 dX7_comes_17 (by decide) ?_
      exact z_iret X hr hlk dX7_comes_38 (by first | exact Nat.le_of_ble_eq_true rfl | (dsimp only [zRm]; omega) | omega) (by first | exact Nat.le_of_ble_eq_true rfl | (dsimp only [zRm]; omega) | omega) ⟨congrArg (fun z => some (Value.int z)) (Eq.symm (if_neg (by rintro ⟨h1, h2⟩; first | omega | (rw [c12021] at h1; cases h1)))), rfl⟩
    · omega
set_option maxHeartbeats 2000000 in
theorem c_X7_bound {l : Launch} {G : ZG} {h : ZH} {E : Nat → Nat} {S : ZS} {x y : Int32} (D : MD E S h) (F : ZWF S) (FL : ZWL S) : ZM l G yX7_bound (ws_ yX7_bound cX7_bound 3 (Option.some FieldType.int)) (zRm 1 0 0 40) [.ref (E 0), .int x, .int y] h (fun v h' => v = some (.int (bndF S x y)) ∧ h = h') := by
  refine ZT.zm (ZT.of (by first | exact plainFor_of_name (by decide) | decide +kernel) (Nat.le_of_ble_eq_true rfl) (zcats.r zref.r (zcats.i (zcats.i zcats.nil))) ?_)
  intro p_ e_ s_ m_ args_ below_ meth_ c_ X hr hlk hin htab
  have X : ZX p_ m_ c_ cX7_bound 3 s_ args_ "LinkStationModel" G := X
  refine z_lv (lv' := [(0, .ref (E 0)), (1, .int x), (2, .int y)]) (fun _ hq => hq) ?_
  have hM := F.mods
  have hL := FL.1
  refine z_aload_n X 0 dX7_bound_0 zref.r rfl ?_
  refine z_iload_n X 1 dX7_bound_1 rfl ?_
  refine z_callV X (rest := []) (c_X7_placeOf D F (x := x) FL) (cwV 1 (zXts X) (lw_V q1774 q1776 qs40 q65 q1777) rfl rfl rfl (by decide +kernel) ⟨Nat.le_of_ble_eq_true rfl, Nat.le_of_ble_eq_true rfl⟩) D.1 (by decide) rfl rfl (Nat.le_of_ble_eq_true rfl) ⟨(by first | exact Nat.le_of_ble_eq_true rfl | (dsimp only [zRm]; omega)), (by first | exact Nat.le_of_ble_eq_true rfl | (dsimp only [zRm]; omega))⟩ dX7_bound_2 (fun v12040 h12041 p12042 => ?_)
  obtain ⟨⟨c12039, p0, c12039a, c12039b, c12039c, rfl⟩ | ⟨c12039, rfl⟩, rfl⟩ := p12042
  · refine z_st (st' := [.int (nI p0)]) rfl ?_
    have hx12 := zld_lt FL c12039
    refine z_iconst X (-1) dX7_bound_5 (by decide) ?_
    refine z_icmpU_eq X p0 4294967295 16 dX7_bound_6 (by decide) rfl (by decide) (by omega) (by omega) (fun c12043 => ?_) (fun c12043 => ?_)
    · refine z_iconst X (-1) dX7_bound_16 (by decide) ?_
      refine z_goto X 31 dX7_bound_17 (by decide) ?_
      exact z_iret X hr hlk dX7_bound_31 (by first | exact Nat.le_of_ble_eq_true rfl | (dsimp only [zRm]; omega) | omega) (by first | exact Nat.le_of_ble_eq_true rfl | (dsimp only [zRm]; omega) | omega) ⟨congrArg (fun z => some (Value.int z)) (Eq.symm (if_neg (by rintro ⟨h1, h2⟩; first | omega | (rw [c12039] at h1; cases h1)))), rfl⟩
    · refine z_iload_n X 2 dX7_bound_9 rfl ?_
      refine z_callS X (rest := []) c_X7_isName (va_cwS 1 (zXts X) (lw_S q1698 q1699 q65 q1700) rfl rfl rfl (by decide +kernel) ⟨Nat.le_of_ble_eq_true rfl, Nat.le_of_ble_eq_true rfl⟩) rfl (Nat.le_of_ble_eq_true rfl) ⟨(by first | exact Nat.le_of_ble_eq_true rfl | (dsimp only [zRm]; omega)), (by first | exact Nat.le_of_ble_eq_true rfl | (dsimp only [zRm]; omega))⟩ dX7_bound_10 (fun v12045 h12046 p12047 => ?_)
      obtain ⟨⟨c12044, rfl⟩ | ⟨c12044, rfl⟩, rfl⟩ := p12047
      · refine z_st (st' := [.int (nI 1)]) rfl ?_
        refine z_ifU_ne X 1 20 dX7_bound_13 (by decide) rfl (by omega) (fun c12048 => ?_) (fun c12048 => ?_)
        · refine z_aload_n X 0 dX7_bound_20 zref.r rfl ?_
          refine z_get X zP6 18 (by decide) q1581 (Or.inl rfl) D.1 (by decide) rfl dX7_bound_21 ?_
          refine z_bipush X (nI 64) dX7_bound_24 (by decide) ?_
          refine z_iload_n X 1 dX7_bound_26 rfl ?_
          refine z_imul X (nI (64 * (zn x))) dX7_bound_27 (zmul rfl (nI_zn _).symm) ?_
          refine z_iload_n X 2 dX7_bound_28 rfl ?_
          refine z_iadd X (nI ((64 * (zn x)) + (zn y))) dX7_bound_29 (zadd rfl (nI_zn _).symm) ?_
          refine z_iald X (v := .int ((S 18) ((64 * (zn x)) + (zn y)))) ((64 * (zn x)) + (zn y)) (D.2.1 18 rfl) (by decide) rfl (by show _ < 768; omega) (by decide) rfl dX7_bound_30 ?_
          exact z_iret X hr hlk dX7_bound_31 (by first | exact Nat.le_of_ble_eq_true rfl | (dsimp only [zRm]; omega) | omega) (by first | exact Nat.le_of_ble_eq_true rfl | (dsimp only [zRm]; omega) | omega) ⟨congrArg (fun z => some (Value.int z)) (Eq.symm (if_pos ⟨c12039, by omega⟩)), rfl⟩
        · omega
      · refine z_st (st' := [.int (nI 0)]) rfl ?_
        refine z_ifU_ne X 0 20 dX7_bound_13 (by decide) rfl (by omega) (fun c12049 => ?_) (fun c12049 => ?_)
        · omega
        · refine z_iconst X (-1) dX7_bound_16 (by decide) ?_
          refine z_goto X 31 dX7_bound_17 (by decide) ?_
          exact z_iret X hr hlk dX7_bound_31 (by first | exact Nat.le_of_ble_eq_true rfl | (dsimp only [zRm]; omega) | omega) (by first | exact Nat.le_of_ble_eq_true rfl | (dsimp only [zRm]; omega) | omega) ⟨congrArg (fun z => some (Value.int z)) (Eq.symm (if_neg (by rintro ⟨h1, h2⟩; first | omega | (rw [c12039] at h1; cases h1)))), rfl⟩
  · refine z_st (st' := [.int (-1)]) rfl ?_
    refine z_iconst X (-1) dX7_bound_5 (by decide) ?_
    refine z_icmpU_eq X 4294967295 4294967295 16 dX7_bound_6 (by decide) (by decide) (by decide) (by omega) (by omega) (fun c12050 => ?_) (fun c12050 => ?_)
    · refine z_iconst X (-1) dX7_bound_16 (by decide) ?_
      refine z_goto X 31 dX7_bound_17 (by decide) ?_
      exact z_iret X hr hlk dX7_bound_31 (by first | exact Nat.le_of_ble_eq_true rfl | (dsimp only [zRm]; omega) | omega) (by first | exact Nat.le_of_ble_eq_true rfl | (dsimp only [zRm]; omega) | omega) ⟨congrArg (fun z => some (Value.int z)) (Eq.symm (if_neg (by rintro ⟨h1, h2⟩; first | omega | (rw [c12039] at h1; cases h1)))), rfl⟩
    · omega
set_option maxHeartbeats 2000000 in
theorem c_X7_datum {l : Launch} {G : ZG} {h : ZH} {E : Nat → Nat} {S : ZS} {x y : Int32} (D : MD E S h) (F : ZWF S) (FL : ZWL S) : ZM l G yX7_datum (ws_ yX7_datum cX7_datum 4 (Option.some FieldType.int)) (zRm 1 0 0 40) [.ref (E 0), .int x, .int y] h (fun v h' => v = some (.int (datF S x y)) ∧ h = h') := by
  refine ZT.zm (ZT.of (by first | exact plainFor_of_name (by decide) | decide +kernel) (Nat.le_of_ble_eq_true rfl) (zcats.r zref.r (zcats.i (zcats.i zcats.nil))) ?_)
  intro p_ e_ s_ m_ args_ below_ meth_ c_ X hr hlk hin htab
  have X : ZX p_ m_ c_ cX7_datum 4 s_ args_ "LinkStationModel" G := X
  refine z_lv (lv' := [(0, .ref (E 0)), (1, .int x), (2, .int y)]) (fun _ hq => hq) ?_
  have hM := F.mods
  have hL := FL.1
  refine z_aload_n X 0 dX7_datum_0 zref.r rfl ?_
  refine z_iload_n X 1 dX7_datum_1 rfl ?_
  refine z_callV X (rest := []) (c_X7_placeOf D F (x := x) FL) (cwV 1 (zXts X) (lw_V q1774 q1776 qs40 q65 q1777) rfl rfl rfl (by decide +kernel) ⟨Nat.le_of_ble_eq_true rfl, Nat.le_of_ble_eq_true rfl⟩) D.1 (by decide) rfl rfl (Nat.le_of_ble_eq_true rfl) ⟨(by first | exact Nat.le_of_ble_eq_true rfl | (dsimp only [zRm]; omega)), (by first | exact Nat.le_of_ble_eq_true rfl | (dsimp only [zRm]; omega))⟩ dX7_datum_2 (fun v12052 h12053 p12054 => ?_)
  obtain ⟨⟨c12051, p0, c12051a, c12051b, c12051c, rfl⟩ | ⟨c12051, rfl⟩, rfl⟩ := p12054
  · refine z_st (st' := [.int (nI p0)]) rfl ?_
    have hx12 := zld_lt FL c12051
    refine z_iconst X (-1) dX7_datum_5 (by decide) ?_
    refine z_icmpU_ne X p0 4294967295 11 dX7_datum_6 (by decide) rfl (by decide) (by omega) (by omega) (fun c12055 => ?_) (fun c12055 => ?_)
    · refine z_aload_n X 0 dX7_datum_11 zref.r rfl ?_
      refine z_iload_n X 1 dX7_datum_12 rfl ?_
      refine z_iload_n X 2 dX7_datum_13 rfl ?_
      refine z_st (st' := [.int y, .int (nI (zn x)), .ref (E 0)]) (by simp only [nI_zn]) ?_
      refine z_callV X (rest := []) (c_X7_ofName D F (m := zn x) (x := y) hx12) (cwV 2 (zXts X) (lw_V q1704 q1706 qs31 q65 q1707) rfl rfl rfl (by decide +kernel) ⟨Nat.le_of_ble_eq_true rfl, Nat.le_of_ble_eq_true rfl⟩) D.1 (by decide) rfl rfl (Nat.le_of_ble_eq_true rfl) ⟨(by first | exact Nat.le_of_ble_eq_true rfl | (dsimp only [zRm]; omega)), (by first | exact Nat.le_of_ble_eq_true rfl | (dsimp only [zRm]; omega))⟩ dX7_datum_14 (fun v12056 h12057 p12058 => ?_)
      obtain ⟨rfl, rfl⟩ := p12058
      rcases hO12059 : ofN S (zn x) y with _ | d
      · refine z_st (st' := [.int (-1)]) rfl ?_
        refine z_istore_n X (lv' := [(3, .int (-1)), (0, .ref (E 0)), (1, .int x), (2, .int y)]) dX7_datum_17 (by decide) rfl ?_
        refine z_iload_n X 0 dX7_datum_18 rfl ?_
        refine z_iconst X (-1) dX7_datum_19 (by decide) ?_
        refine z_icmpU_eq X 4294967295 4294967295 33 dX7_datum_20 (by decide) (by decide) (by decide) (by omega) (by omega) (fun c12060 => ?_) (fun c12060 => ?_)
        · refine z_iconst X (-1) dX7_datum_33 (by decide) ?_
          refine z_goto X 43 dX7_datum_34 (by decide) ?_
          exact z_iret X hr hlk dX7_datum_43 (by first | exact Nat.le_of_ble_eq_true rfl | (dsimp only [zRm]; omega) | omega) (by first | exact Nat.le_of_ble_eq_true rfl | (dsimp only [zRm]; omega) | omega) ⟨congrArg (fun z => some (Value.int z)) (Eq.symm ((if_pos c12051).trans (by rw [hO12059]))), rfl⟩
        · omega
      · refine z_st (st' := [.int (nI d)]) rfl ?_
        obtain ⟨hO12059a, hO12059b, hO12059c, hO12059d, hO12059e, hO12059f⟩ := F.ds hO12059
        refine z_istore_n X (lv' := [(3, .int (nI d)), (0, .ref (E 0)), (1, .int x), (2, .int y)]) dX7_datum_17 (by decide) rfl ?_
        refine z_iload_n X 0 dX7_datum_18 rfl ?_
        refine z_iconst X (-1) dX7_datum_19 (by decide) ?_
        refine z_icmpU_eq X d 4294967295 33 dX7_datum_20 (by decide) rfl (by decide) (by omega) (by omega) (fun c12061 => ?_) (fun c12061 => ?_)
        · refine z_iconst X (-1) dX7_datum_33 (by decide) ?_
          refine z_goto X 43 dX7_datum_34 (by decide) ?_
          exact z_iret X hr hlk dX7_datum_43 (by first | exact Nat.le_of_ble_eq_true rfl | (dsimp only [zRm]; omega) | omega) (by first | exact Nat.le_of_ble_eq_true rfl | (dsimp only [zRm]; omega) | omega) ⟨congrArg (fun z => some (Value.int z)) (Eq.symm ((if_pos c12051).trans (by rw [hO12059]; exact if_neg (by rw [zeq_iff, zc1]; omega)))), rfl⟩
        · refine z_aload_n X 1 dX7_datum_23 zref.r rfl ?_
          refine z_get X zP6 4 (by decide) q1567 (Or.inl rfl) D.1 (by decide) rfl dX7_datum_24 ?_
          refine z_iload_n X 0 dX7_datum_27 rfl ?_
          refine z_iald X (v := .int ((S 4) d)) d (D.2.1 4 rfl) (by decide) rfl (by show _ < 240; omega) (by decide) rfl dX7_datum_28 ?_
          refine z_iconst X (nI 1) dX7_datum_29 (by decide) ?_
          refine z_icmpU_eq X (zn ((S 4) d)) 1 37 dX7_datum_30 (by decide) (nI_zn _).symm rfl (zn_lt _) (by omega) (fun c12062 => ?_) (fun c12062 => ?_)
          · refine z_aload_n X 1 dX7_datum_37 zref.r rfl ?_
            refine z_get X zP6 19 (by decide) q1582 (Or.inl rfl) D.1 (by decide) rfl dX7_datum_38 ?_
            refine z_iload_n X 0 dX7_datum_41 rfl ?_
            refine z_iald X (v := .int ((S 19) d)) d (D.2.1 19 rfl) (by decide) rfl (by show _ < 240; omega) (by decide) rfl dX7_datum_42 ?_
            exact z_iret X hr hlk dX7_datum_43 (by first | exact Nat.le_of_ble_eq_true rfl | (dsimp only [zRm]; omega) | omega) (by first | exact Nat.le_of_ble_eq_true rfl | (dsimp only [zRm]; omega) | omega) ⟨congrArg (fun z => some (Value.int z)) (Eq.symm ((if_pos c12051).trans (by rw [hO12059]; exact if_pos (by rw [zeq_iff, zc1]; omega)))), rfl⟩
          · refine z_iconst X (-1) dX7_datum_33 (by decide) ?_
            refine z_goto X 43 dX7_datum_34 (by decide) ?_
            exact z_iret X hr hlk dX7_datum_43 (by first | exact Nat.le_of_ble_eq_true rfl | (dsimp only [zRm]; omega) | omega) (by first | exact Nat.le_of_ble_eq_true rfl | (dsimp only [zRm]; omega) | omega) ⟨congrArg (fun z => some (Value.int z)) (Eq.symm ((if_pos c12051).trans (by rw [hO12059]; exact if_neg (by rw [zeq_iff, zc1]; omega)))), rfl⟩
    · refine z_iconst X (-1) dX7_datum_9 (by decide) ?_
      exact z_iret X hr hlk dX7_datum_10 (by first | exact Nat.le_of_ble_eq_true rfl | (dsimp only [zRm]; omega) | omega) (by first | exact Nat.le_of_ble_eq_true rfl | (dsimp only [zRm]; omega) | omega) ⟨congrArg (fun z => some (Value.int z)) (Eq.symm (if_neg (by first | (rw [c12051]; exact Bool.false_ne_true) | (exfalso; omega)))), rfl⟩
  · refine z_st (st' := [.int (-1)]) rfl ?_
    refine z_iconst X (-1) dX7_datum_5 (by decide) ?_
    refine z_icmpU_ne X 4294967295 4294967295 11 dX7_datum_6 (by decide) (by decide) (by decide) (by omega) (by omega) (fun c12063 => ?_) (fun c12063 => ?_)
    · omega
    · refine z_iconst X (-1) dX7_datum_9 (by decide) ?_
      exact z_iret X hr hlk dX7_datum_10 (by first | exact Nat.le_of_ble_eq_true rfl | (dsimp only [zRm]; omega) | omega) (by first | exact Nat.le_of_ble_eq_true rfl | (dsimp only [zRm]; omega) | omega) ⟨congrArg (fun z => some (Value.int z)) (Eq.symm (if_neg (by first | (rw [c12051]; exact Bool.false_ne_true) | (exfalso; omega)))), rfl⟩
