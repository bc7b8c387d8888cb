set_option maxRecDepth 100000
theorem zeq_iff {x y : Int32} : x = y ↔ zn x = zn y := ⟨fun h => by rw [h], zn_inj⟩
theorem zc0 : zn 0 = 0 := by decide
theorem zc1 : zn 1 = 1 := by decide
theorem zc2 : zn 2 = 2 := by decide
theorem zc3 : zn 3 = 3 := by decide
theorem zc4 : zn 4 = 4 := by decide
theorem zc5 : zn 5 = 5 := by decide
theorem zc6 : zn 6 = 6 := by decide
theorem zc7 : zn 7 = 7 := by decide
theorem zc8 : zn 8 = 8 := by decide
theorem zc9 : zn 9 = 9 := by decide
theorem zc10 : zn 10 = 10 := by decide
theorem zc11 : zn 11 = 11 := by decide
theorem zc12 : zn 12 = 12 := by decide
theorem zc13 : zn 13 = 13 := by decide
theorem zc14 : zn 14 = 14 := by decide
theorem zc15 : zn 15 = 15 := by decide
theorem zc20 : zn 20 = 20 := by decide
theorem zc21 : zn 21 = 21 := by decide
theorem zcm : zn (-1) = 4294967295 := by decide
/-- what never fails of what is loaded -/
def ZWL (S : ZS) : Prop := zn (S 15 0) ≤ 12 ∧ (∀ p, p < zn (S 15 0) → zn (S 16 p) < 12) ∧ (∀ p, p < zn (S 15 0) → zn (S 17 p) < 12) ∧ zn (S 14 0) < 12
theorem plL_none {S : ZS} {m : Nat} : ∀ {n : Nat}, (∀ p, p < n → zn (S 16 p) ≠ m) → plL S m n = none
  | 0, _ => rfl
  | n + 1, h => by
    simp only [plL]
    rw [plL_none (n := n) (fun p hp => h p (by omega))]
    exact if_neg (h n (by omega))
theorem plL_some {S : ZS} {m p n : Nat} (h : ∀ j, j < p → zn (S 16 j) ≠ m) (hp : zn (S 16 p) = m) (hn : p < n) : plL S m n = some p := by
  have key : ∀ j, plL S m (p + 1 + j) = some p := fun j => by
    induction j with
    | zero => simp only [plL]; rw [plL_none h]; exact if_pos hp
    | succ j ih => show plL S m (p + 1 + j + 1) = some p; simp only [plL]; rw [show p + 1 + j = p + 1 + j from rfl, ih]
  have := key (n - (p + 1))
  rwa [show p + 1 + (n - (p + 1)) = n from by omega] at this
theorem fnd_own {S : ZS} {l : Nat → Int32} {n m d : Nat} {x : Int32} (h : ofN S m x = some d) (hd : 2 ≤ zn (S 6 d)) : fnd S l n m x = some d := by
  unfold fnd; rw [h]; exact if_pos hd
theorem fnd_opn {S : ZS} {l : Nat → Int32} {n m : Nat} {x : Int32} (h : ∀ d, ofN S m x = some d → zn (S 6 d) < 2) : fnd S l n m x = opn S l x n := by
  unfold fnd
  split
  · rename_i d hd; rw [if_neg (by have := h d hd; omega)]
  · rfl
theorem opn_no {S : ZS} {l : Nat → Int32} {p : Nat} {x : Int32} (h : ofN S (zn (l p)) x = none) : opn S l x (p + 1) = opn S l x p := by simp only [opn]; rw [h]
theorem opn_hid {S : ZS} {l : Nat → Int32} {p d : Nat} {x : Int32} (h : ofN S (zn (l p)) x = some d) (hd : 4 ≤ zn (S 6 d)) : opn S l x (p + 1) = opn S l x p := by simp only [opn]; rw [h]; exact if_pos hd
theorem opn_new {S : ZS} {l : Nat → Int32} {p d : Nat} {x : Int32} (h : ofN S (zn (l p)) x = some d) (hd : ¬ 4 ≤ zn (S 6 d)) (h0 : opn S l x p = none) : opn S l x (p + 1) = some d := by
  simp only [opn]; rw [h]; simp only; rw [if_neg hd, h0]
theorem opn_old {S : ZS} {l : Nat → Int32} {p d e : Nat} {x : Int32} (h : ofN S (zn (l p)) x = some d) (hd : ¬ 4 ≤ zn (S 6 d)) (h0 : opn S l x p = some e) : opn S l x (p + 1) = if zn (S 6 e) % 2 = 1 ∧ zn (S 6 d) % 2 = 0 then some d else some e := by
  simp only [opn]; rw [h]; simp only; rw [if_neg hd, h0]
theorem opn_hit {S : ZS} {l : Nat → Int32} {p d n : Nat} {x : Int32} (h : ofN S (zn (l p)) x = some d) (hd : ¬ 4 ≤ zn (S 6 d)) (ho : zn (S 6 d) % 2 = 0) (hI : ∀ e, opn S l x p = some e → zn (S 6 e) % 2 = 1) (hp : p < n) : opn S l x n = some d := by
  have h1 : opn S l x (p + 1) = some d := by
    cases h0 : opn S l x p with
    | none => exact opn_new h hd h0
    | some e => rw [opn_old h hd h0]; exact if_pos ⟨hI e h0, ho⟩
  have := opn_stay h1 ho (n - (p + 1))
  rwa [show p + 1 + (n - (p + 1)) = n from by omega] at this
theorem opn_is {S : ZS} {l : Nat → Int32} {x : Int32} : ∀ {n d : Nat}, opn S l x n = some d → ∃ p, p < n ∧ ofN S (zn (l p)) x = some d
  | 0, d, h => by cases h
  | n + 1, d, h => by
    have key : opn S l x n = some d → ∃ p, p < n + 1 ∧ ofN S (zn (l p)) x = some d := fun g => by
      obtain ⟨p, h1, h2⟩ := opn_is g; exact ⟨p, by omega, h2⟩
    cases hO : ofN S (zn (l n)) x with
    | none => rw [opn_no hO] at h; exact key h
    | some e =>
      by_cases hh : 4 ≤ zn (S 6 e)
      · rw [opn_hid hO hh] at h; exact key h
      · cases h0 : opn S l x n with
        | none => rw [opn_new hO hh h0] at h; cases h; exact ⟨n, by omega, hO⟩
        | some f =>
          rw [opn_old hO hh h0] at h
          split at h
          · cases h; exact ⟨n, by omega, hO⟩
          · cases h; exact key h0
theorem fnd_is {S : ZS} {l : Nat → Int32} {x : Int32} {n m d : Nat} (h : fnd S l n m x = some d) : ∃ m', (m' = m ∨ ∃ p, p < n ∧ zn (l p) = m') ∧ ofN S m' x = some d := by
  cases hO : ofN S m x with
  | none =>
    rw [fnd_opn (fun d hd => by rw [hO] at hd; cases hd)] at h
    obtain ⟨p, h1, h2⟩ := opn_is h
    exact ⟨_, Or.inr ⟨p, h1, rfl⟩, h2⟩
  | some e =>
    by_cases hh : 2 ≤ zn (S 6 e)
    · rw [fnd_own hO hh] at h; cases h; exact ⟨m, Or.inl rfl, hO⟩
    · rw [fnd_opn (fun d hd => by rw [hO] at hd; cases hd; omega)] at h
      obtain ⟨p, h1, h2⟩ := opn_is h
      exact ⟨_, Or.inr ⟨p, h1, rfl⟩, h2⟩
set_option maxHeartbeats 2000000 in
theorem c_X7_placeOf {l : Launch} {G : ZG} {h : ZH} {E : Nat → Nat} {S : ZS} {x : Int32} (D : MD E S h) (F : ZWF S) (FL : ZWL S) : ZM l G yX7_placeOf (ws_ yX7_placeOf cX7_placeOf 3 (Option.some FieldType.int)) (zRm 0 0 0 0) [.ref (E 0), .int x] h (fun v h' => ((zld S x = true ∧ ∃ p, plL S (zn x) (zn (S 15 0)) = some p ∧ p < zn (S 15 0) ∧ zn (S 16 p) = zn x ∧ v = some (.int (nI p))) ∨ (zld S x = false ∧ v = some (.int (-1)))) ∧ h = h') := by
  refine ZT.zm (ZT.of (by first | exact plainFor_of_name (by decide) | decide +kernel) (Nat.le_of_ble_eq_true rfl) (zcats.r zref.r (zcats.i zcats.nil)) ?_)
  intro p_ e_ s_ m_ args_ below_ meth_ c_ X hr hlk hin htab
  have X : ZX p_ m_ c_ cX7_placeOf 3 s_ args_ "LinkStationModel" G := X
  refine z_lv (lv' := [(0, .ref (E 0)), (1, .int x)]) (fun _ hq => hq) ?_
  have hM := FL.1
  refine z_iconst X (nI 0) dX7_placeOf_0 (by decide) ?_
  refine z_istore_n X (lv' := [(2, .int (nI 0)), (0, .ref (E 0)), (1, .int x)]) dX7_placeOf_1 (by decide) rfl ?_
  refine z_lvp (lv' := [(0, .ref (E 0)), (1, .int x), (2, .int (nI 0))]) [1, 2, 0] rfl ?_
  refine z_loop (σ := Nat) (fun p => p ≤ zn (S 15 0) ∧ (∀ j, j < p → zn (S 16 j) ≠ zn x) ∧ (p = 0 ∨ S 12 0 ≠ 0)) (fun p => zn (S 15 0) - p) (fun p => [(0, .ref (E 0)), (1, .int x), (2, .int (nI p))]) (fun p => []) (fun p => h) (fun p => 0) (fun p => 0) ?_ 0 (⟨Nat.zero_le _, fun j hj => absurd hj (Nat.not_lt_zero _), Or.inl rfl⟩)
  intro p hI ih
  try dsimp only at hI
  try dsimp only at ih
  try dsimp only
  refine z_iload_n X 2 dX7_placeOf_2 rfl ?_
  refine z_aload_n X 0 dX7_placeOf_3 zref.r rfl ?_
  refine z_get X zP6 15 (by decide) q1578 (Or.inl rfl) (v := .int (S 15 0)) D.1 (by decide) rfl dX7_placeOf_4 ?_
  refine z_icmpU_ge X p (zn (S 15 0)) 35 dX7_placeOf_7 (by decide) rfl (nI_zn _).symm (by omega) (zn_lt _) (fun c4001 => ?_) (fun c4001 => ?_)
  · refine z_iconst X (-1) dX7_placeOf_35 (by decide) ?_
    exact z_iret X hr hlk dX7_placeOf_36 (by first | exact Nat.le_of_ble_eq_true rfl | (dsimp only [zRm]; omega) | omega) (by first | exact Nat.le_of_ble_eq_true rfl | (dsimp only [zRm]; omega) | omega) ⟨Or.inr ⟨Bool.eq_false_iff.mpr (fun z => by obtain ⟨z1, j, z2, z3⟩ := zld_iff.mp z; simp only [zeq_iff, zc0, zc1, zc2, zc3, zc4, zc5, zc6, zc7, zc8, zc9, zc10, zc11, zc12, zc13, zc14, zc15, zc20, zc21, zcm, ne_eq] at z1 z3; first | exact z1 (by omega) | exact hI.2.1 j (by omega) z3), rfl⟩, rfl⟩
  · refine z_aload_n X 0 dX7_placeOf_10 zref.r rfl ?_
    refine z_get X zP6 12 (by decide) q1575 (Or.inl rfl) (v := .int (S 12 0)) D.1 (by decide) rfl dX7_placeOf_11 ?_
    refine z_ifU_eq X (zn (S 12 0)) 35 dX7_placeOf_14 (by decide) (nI_zn _).symm (zn_lt _) (fun c4002 => ?_) (fun c4002 => ?_)
    · refine z_iconst X (-1) dX7_placeOf_35 (by decide) ?_
      exact z_iret X hr hlk dX7_placeOf_36 (by first | exact Nat.le_of_ble_eq_true rfl | (dsimp only [zRm]; omega) | omega) (by first | exact Nat.le_of_ble_eq_true rfl | (dsimp only [zRm]; omega) | omega) ⟨Or.inr ⟨Bool.eq_false_iff.mpr (fun z => by obtain ⟨z1, j, z2, z3⟩ := zld_iff.mp z; simp only [zeq_iff, zc0, zc1, zc2, zc3, zc4, zc5, zc6, zc7, zc8, zc9, zc10, zc11, zc12, zc13, zc14, zc15, zc20, zc21, zcm, ne_eq] at z1 z3; first | exact z1 (by omega) | exact hI.2.1 j (by omega) z3), rfl⟩, rfl⟩
    · refine z_aload_n X 0 dX7_placeOf_17 zref.r rfl ?_
      refine z_get X zP6 16 (by decide) q1579 (Or.inl rfl) D.1 (by decide) rfl dX7_placeOf_18 ?_
      refine z_iload_n X 2 dX7_placeOf_21 rfl ?_
      refine z_iald X (v := .int ((S 16) p)) p (D.2.1 16 rfl) (by decide) rfl (by show _ < 12; omega) (by decide) rfl dX7_placeOf_22 ?_
      refine z_iload_n X 1 dX7_placeOf_23 rfl ?_
      refine z_icmpU_ne X (zn ((S 16) p)) (zn x) 29 dX7_placeOf_24 (by decide) (nI_zn _).symm (nI_zn _).symm (zn_lt _) (zn_lt _) (fun c4003 => ?_) (fun c4003 => ?_)
      · refine z_iinc X (lv' := [(2, .int (nI (p + 1))), (0, .ref (E 0)), (1, .int x)]) (nI (p + 1)) 2 dX7_placeOf_29 rfl (nI_1 _) (by decide) rfl ?_
        refine z_goto X 2 dX7_placeOf_32 (by decide) ?_
        refine z_lvp (lv' := [(0, .ref (E 0)), (1, .int x), (2, .int (nI (p + 1)))]) [1, 2, 0] rfl ?_
        exact ih (p + 1) ⟨by omega, fun j hj => (by by_cases z : j = p; subst z; exact c4003; exact hI.2.1 j (by omega)), Or.inr (by simp only [zeq_iff, zc0, zc1, zc2, zc3, zc4, zc5, zc6, zc7, zc8, zc9, zc10, zc11, zc12, zc13, zc14, zc15, zc20, zc21, zcm, ne_eq]; omega)⟩ (by omega)
      · refine z_iload_n X 2 dX7_placeOf_27 rfl ?_
        exact z_iret X hr hlk dX7_placeOf_28 (by first | exact Nat.le_of_ble_eq_true rfl | (dsimp only [zRm]; omega) | omega) (by first | exact Nat.le_of_ble_eq_true rfl | (dsimp only [zRm]; omega) | omega) ⟨Or.inl ⟨zld_iff.mpr ⟨by simp only [zeq_iff, zc0, zc1, zc2, zc3, zc4, zc5, zc6, zc7, zc8, zc9, zc10, zc11, zc12, zc13, zc14, zc15, zc20, zc21, zcm, ne_eq]; omega, p, by omega, zn_inj c4003⟩, p, plL_some hI.2.1 c4003 (by omega), by omega, c4003, rfl⟩, rfl⟩
set_option maxHeartbeats 4000000 in
theorem c_X7_find_16 {l : Launch} {G : ZG} {h : ZH} {E : Nat → Nat} {S : ZS} {n m : Nat} {x : Int32} (D : MD E S h) (F : ZWF S) (hm : m < 12) (hn : n ≤ 12) (hl : ∀ p, p < n → zn (S 16 p) < 12) : ZM l G yX7_find (ws_ yX7_find cX7_find 9 (Option.some FieldType.int)) (zRm 1 0 0 30) [.ref (E 0), .ref (E 16), .int (nI n), .int (nI m), .int x] h (fun v h' => v = some (.int (oI (fnd S (S 16) n m x))) ∧ h = h') := by
  refine ZT.zm (ZT.of (by first | exact plainFor_of_name (by decide) | decide +kernel) (Nat.le_of_ble_eq_true rfl) (zcats.r zref.r (zcats.r zref.r (zcats.i (zcats.i (zcats.i zcats.nil))))) ?_)
  intro p_ e_ s_ m_ args_ below_ meth_ c_ X hr hlk hin htab
  have X : ZX p_ m_ c_ cX7_find 9 s_ args_ "LinkStationModel" G := X
  refine z_lv (lv' := [(0, .ref (E 0)), (1, .ref (E 16)), (2, .int (nI n)), (3, .int (nI m)), (4, .int x)]) (fun _ hq => hq) ?_
  have rest : (∀ d, ofN S m x = some d → zn (S 6 d) < 2) → Zw p_ l e_ (zRm 1 0 0 30) s_ m_ args_ below_ meth_ c_ G 9 (zEnd G (zRm 1 0 0 30) (fun v h' => v = some (.int (oI (fnd S (S 16) n m x))) ∧ h = h') (fun _ _ _ => False) below_ args_ s_) 31 [(0, .ref (E 0)), (1, .ref (E 16)), (2, .int (nI n)), (3, .int (nI m)), (4, .int x)] [] h 0 0 := by
    intro hown
    have hf : fnd S (S 16) n m x = opn S (S 16) x n := fnd_opn hown
    refine z_iconst X (-1) dX7_find_31 (by decide) ?_
    refine z_istore X (lv' := [(6, .int (-1)), (0, .ref (E 0)), (1, .ref (E 16)), (2, .int (nI n)), (3, .int (nI m)), (4, .int x)]) dX7_find_32 (by decide) rfl ?_
    refine z_iconst X (nI 0) dX7_find_34 (by decide) ?_
    refine z_istore X (lv' := [(7, .int (nI 0)), (6, .int (-1)), (0, .ref (E 0)), (1, .ref (E 16)), (2, .int (nI n)), (3, .int (nI m)), (4, .int x)]) dX7_find_35 (by decide) rfl ?_
    refine z_lvp (lv' := [(0, .ref (E 0)), (1, .ref (E 16)), (2, .int (nI n)), (3, .int (nI m)), (4, .int x), (6, .int (-1)), (7, .int (nI 0))]) [2, 3, 4, 5, 6, 1, 0] rfl ?_
    refine z_loop (σ := Nat) (fun p => p ≤ n ∧ ∀ e, opn S (S 16) x p = some e → zn (S 6 e) % 2 = 1 ∧ e < 240) (fun p => n - p) (fun p => [(0, .ref (E 0)), (1, .ref (E 16)), (2, .int (nI n)), (3, .int (nI m)), (4, .int x), (6, .int (oI (opn S (S 16) x p))), (7, .int (nI p))]) (fun p => []) (fun p => h) (fun p => 0) (fun p => 0) ?_ 0 (⟨Nat.zero_le _, fun e he => (by cases he)⟩)
    intro p hI ih
    try dsimp only at hI
    try dsimp only at ih
    try dsimp only
    refine z_iload X 6 dX7_find_37 rfl ?_
    refine z_iload_n X 2 dX7_find_39 rfl ?_
    refine z_icmpU_ge X p n 109 dX7_find_40 (by decide) rfl rfl (by omega) (by omega) (fun c4004 => ?_) (fun c4004 => ?_)
    · refine z_iload X 5 dX7_find_109 rfl ?_
      exact z_iret X hr hlk dX7_find_111 (by first | exact Nat.le_of_ble_eq_true rfl | (dsimp only [zRm]; omega) | omega) (by first | exact Nat.le_of_ble_eq_true rfl | (dsimp only [zRm]; omega) | omega) ⟨by rw [hf, show n = p from by omega], rfl⟩
    · refine z_aload_n X 0 dX7_find_43 zref.r rfl ?_
      refine z_aload_n X 1 dX7_find_44 zref.r rfl ?_
      refine z_iload X 6 dX7_find_45 rfl ?_
      refine z_iald X (v := .int ((S 16) p)) p (D.2.1 16 rfl) (by decide) rfl (by show _ < 12; omega) (by decide) rfl dX7_find_47 ?_
      refine z_iload X 4 dX7_find_48 rfl ?_
      have hlp := hl p (by omega)
      refine z_st (st' := [.int x, .int (nI (zn (S 16 p))), .ref (E 0)]) (by simp only [nI_zn]) ?_
      refine z_callV X (rest := []) (c_X7_ofName D F (m := zn (S 16 p)) (x := x) hlp) (cwV 2 (zXts X) (lw_V q1704 q1706 qs31 q65 q1707) rfl rfl rfl (by decide +kernel) ⟨Nat.le_of_ble_eq_true rfl, Nat.le_of_ble_eq_true rfl⟩) D.1 (by decide) rfl rfl (Nat.le_of_ble_eq_true rfl) ⟨(by first | exact Nat.le_of_ble_eq_true rfl | (dsimp only [zRm]; omega)), (by first | exact Nat.le_of_ble_eq_true rfl | (dsimp only [zRm]; omega))⟩ dX7_find_50 (fun v4005 h4006 p4007 => ?_)
      obtain ⟨rfl, rfl⟩ := p4007
      rcases hO4008 : ofN S (zn (S 16 p)) x with _ | d
      · refine z_st (st' := [.int (-1)]) rfl ?_
        refine z_istore X (lv' := [(8, .int (-1)), (0, .ref (E 0)), (1, .ref (E 16)), (2, .int (nI n)), (3, .int (nI m)), (4, .int x), (6, .int (oI (opn S (S 16) x p))), (7, .int (nI p))]) dX7_find_53 (by decide) rfl ?_
        refine z_iload X 0 dX7_find_55 rfl ?_
        refine z_iconst X (-1) dX7_find_57 (by decide) ?_
        refine z_icmpU_eq X 4294967295 4294967295 103 dX7_find_58 (by decide) (by decide) (by decide) (by omega) (by omega) (fun c4009 => ?_) (fun c4009 => ?_)
        · refine z_iinc X (lv' := [(7, .int (nI (p + 1))), (8, .int (-1)), (0, .ref (E 0)), (1, .ref (E 16)), (2, .int (nI n)), (3, .int (nI m)), (4, .int x), (6, .int (oI (opn S (S 16) x p)))]) (nI (p + 1)) 7 dX7_find_103 rfl (nI_1 _) (by decide) rfl ?_
          refine z_goto X 37 dX7_find_106 (by decide) ?_
          have hq : opn S (S 16) x (p + 1) = opn S (S 16) x p := opn_no hO4008
          refine z_lvp (lv' := [(0, .ref (E 0)), (1, .ref (E 16)), (2, .int (nI n)), (3, .int (nI m)), (4, .int x), (6, .int (oI (opn S (S 16) x p))), (7, .int (nI (p + 1)))]) [2, 3, 4, 5, 6, 7, 0] rfl ?_
          refine z_lv (lv' := [(0, .ref (E 0)), (1, .ref (E 16)), (2, .int (nI n)), (3, .int (nI m)), (4, .int x), (6, .int (oI (opn S (S 16) x (p + 1)))), (7, .int (nI (p + 1)))]) (by intro x9 h9; rw [hq] at h9; exact h9) ?_
          exact ih (p + 1) ⟨by omega, fun e he => by rw [hq] at he; exact hI.2 e he⟩ (by omega)
        · omega
      · refine z_st (st' := [.int (nI d)]) rfl ?_
        obtain ⟨hO4008a, hO4008b, hO4008c, hO4008d, hO4008e, hO4008f⟩ := F.ds hO4008
        refine z_istore X (lv' := [(8, .int (nI d)), (0, .ref (E 0)), (1, .ref (E 16)), (2, .int (nI n)), (3, .int (nI m)), (4, .int x), (6, .int (oI (opn S (S 16) x p))), (7, .int (nI p))]) dX7_find_53 (by decide) rfl ?_
        refine z_iload X 0 dX7_find_55 rfl ?_
        refine z_iconst X (-1) dX7_find_57 (by decide) ?_
        refine z_icmpU_eq X d 4294967295 103 dX7_find_58 (by decide) rfl (by decide) (by omega) (by omega) (fun c4010 => ?_) (fun c4010 => ?_)
        · refine z_iinc X (lv' := [(7, .int (nI (p + 1))), (8, .int (nI d)), (0, .ref (E 0)), (1, .ref (E 16)), (2, .int (nI n)), (3, .int (nI m)), (4, .int x), (6, .int (oI (opn S (S 16) x p)))]) (nI (p + 1)) 7 dX7_find_103 rfl (nI_1 _) (by decide) rfl ?_
          refine z_goto X 37 dX7_find_106 (by decide) ?_
          exfalso; omega
        · refine z_aload_n X 1 dX7_find_61 zref.r rfl ?_
          refine z_get X zP6 6 (by decide) q1569 (Or.inl rfl) D.1 (by decide) rfl dX7_find_62 ?_
          refine z_iload X 0 dX7_find_65 rfl ?_
          refine z_iald X (v := .int ((S 6) d)) d (D.2.1 6 rfl) (by decide) rfl (by show _ < 240; omega) (by decide) rfl dX7_find_67 ?_
          refine z_iconst X (nI 4) dX7_find_68 (by decide) ?_
          refine z_iand X (((S 6) d) &&& (nI 4)) dX7_find_69 rfl ?_
          have hz4 := zand4 (y := S 6 d) (by omega)
          refine z_ifU_ne X (zn (((S 6) d) &&& (nI 4))) 103 dX7_find_70 (by decide) (nI_zn _).symm (zn_lt _) (fun c4011 => ?_) (fun c4011 => ?_)
          · refine z_iinc X (lv' := [(7, .int (nI (p + 1))), (8, .int (nI d)), (0, .ref (E 0)), (1, .ref (E 16)), (2, .int (nI n)), (3, .int (nI m)), (4, .int x), (6, .int (oI (opn S (S 16) x p)))]) (nI (p + 1)) 7 dX7_find_103 rfl (nI_1 _) (by decide) rfl ?_
            refine z_goto X 37 dX7_find_106 (by decide) ?_
            have hq : opn S (S 16) x (p + 1) = opn S (S 16) x p := opn_hid hO4008 (by omega)
            refine z_lvp (lv' := [(0, .ref (E 0)), (1, .ref (E 16)), (2, .int (nI n)), (3, .int (nI m)), (4, .int x), (6, .int (oI (opn S (S 16) x p))), (7, .int (nI (p + 1)))]) [2, 3, 4, 5, 6, 7, 0] rfl ?_
            refine z_lv (lv' := [(0, .ref (E 0)), (1, .ref (E 16)), (2, .int (nI n)), (3, .int (nI m)), (4, .int x), (6, .int (oI (opn S (S 16) x (p + 1)))), (7, .int (nI (p + 1)))]) (by intro x9 h9; rw [hq] at h9; exact h9) ?_
            exact ih (p + 1) ⟨by omega, fun e he => by rw [hq] at he; exact hI.2 e he⟩ (by omega)
          · refine z_aload_n X 1 dX7_find_73 zref.r rfl ?_
            refine z_get X zP6 6 (by decide) q1569 (Or.inl rfl) D.1 (by decide) rfl dX7_find_74 ?_
            refine z_iload X 0 dX7_find_77 rfl ?_
            refine z_iald X (v := .int ((S 6) d)) d (D.2.1 6 rfl) (by decide) rfl (by show _ < 240; omega) (by decide) rfl dX7_find_79 ?_
            refine z_iconst X (nI 1) dX7_find_80 (by decide) ?_
            refine z_iand X (((S 6) d) &&& (nI 1)) dX7_find_81 rfl ?_
            have hz1 := zand1 (y := S 6 d) (by omega)
            refine z_ifU_ne X (zn (((S 6) d) &&& (nI 1))) 88 dX7_find_82 (by decide) (nI_zn _).symm (zn_lt _) (fun c4012 => ?_) (fun c4012 => ?_)
            · rcases h0 : opn S (S 16) x p with _ | e0
              · refine z_lv (lv' := [(8, .int (nI d)), (0, .ref (E 0)), (1, .ref (E 16)), (2, .int (nI n)), (3, .int (nI m)), (4, .int x), (6, .int (-1)), (7, .int (nI p))]) (by intro x9 h9; exact h9) ?_
                refine z_iload X 6 dX7_find_88 rfl ?_
                refine z_iconst X (-1) dX7_find_90 (by decide) ?_
                refine z_icmpU_ne X 4294967295 4294967295 99 dX7_find_91 (by decide) (by decide) (by decide) (by omega) (by omega) (fun c4013 => ?_) (fun c4013 => ?_)
                · omega
                · refine z_iload X 0 dX7_find_94 rfl ?_
                  refine z_goto X 101 dX7_find_96 (by decide) ?_
                  refine z_istore X (lv' := [(6, .int (nI d)), (8, .int (nI d)), (0, .ref (E 0)), (1, .ref (E 16)), (2, .int (nI n)), (3, .int (nI m)), (4, .int x), (7, .int (nI p))]) dX7_find_101 (by decide) rfl ?_
                  refine z_iinc X (lv' := [(7, .int (nI (p + 1))), (6, .int (nI d)), (8, .int (nI d)), (0, .ref (E 0)), (1, .ref (E 16)), (2, .int (nI n)), (3, .int (nI m)), (4, .int x)]) (nI (p + 1)) 7 dX7_find_103 rfl (nI_1 _) (by decide) rfl ?_
                  refine z_goto X 37 dX7_find_106 (by decide) ?_
                  have hq : opn S (S 16) x (p + 1) = some d := opn_new hO4008 (by omega) h0
                  refine z_lvp (lv' := [(0, .ref (E 0)), (1, .ref (E 16)), (2, .int (nI n)), (3, .int (nI m)), (4, .int x), (6, .int (nI d)), (7, .int (nI (p + 1)))]) [3, 4, 5, 6, 7, 1, 0] rfl ?_
                  refine z_lv (lv' := [(0, .ref (E 0)), (1, .ref (E 16)), (2, .int (nI n)), (3, .int (nI m)), (4, .int x), (6, .int (oI (opn S (S 16) x (p + 1)))), (7, .int (nI (p + 1)))]) (by intro x9 h9; rw [hq] at h9; exact h9) ?_
                  exact ih (p + 1) ⟨by omega, fun e he => by rw [hq] at he; cases he; exact ⟨by omega, by omega⟩⟩ (by omega)
              · refine z_lv (lv' := [(8, .int (nI d)), (0, .ref (E 0)), (1, .ref (E 16)), (2, .int (nI n)), (3, .int (nI m)), (4, .int x), (6, .int (nI e0)), (7, .int (nI p))]) (by intro x9 h9; exact h9) ?_
                have he0 := hI.2 _ h0
                refine z_iload X 6 dX7_find_88 rfl ?_
                refine z_iconst X (-1) dX7_find_90 (by decide) ?_
                refine z_icmpU_ne X e0 4294967295 99 dX7_find_91 (by decide) rfl (by decide) (by omega) (by omega) (fun c4014 => ?_) (fun c4014 => ?_)
                · refine z_iload X 6 dX7_find_99 rfl ?_
                  refine z_istore X (lv' := [(6, .int (nI e0)), (8, .int (nI d)), (0, .ref (E 0)), (1, .ref (E 16)), (2, .int (nI n)), (3, .int (nI m)), (4, .int x), (7, .int (nI p))]) dX7_find_101 (by decide) rfl ?_
                  refine z_iinc X (lv' := [(7, .int (nI (p + 1))), (6, .int (nI e0)), (8, .int (nI d)), (0, .ref (E 0)), (1, .ref (E 16)), (2, .int (nI n)), (3, .int (nI m)), (4, .int x)]) (nI (p + 1)) 7 dX7_find_103 rfl (nI_1 _) (by decide) rfl ?_
                  refine z_goto X 37 dX7_find_106 (by decide) ?_
                  have hq : opn S (S 16) x (p + 1) = some e0 := by rw [opn_old hO4008 (by omega) h0]; exact if_neg (by omega)
                  refine z_lvp (lv' := [(0, .ref (E 0)), (1, .ref (E 16)), (2, .int (nI n)), (3, .int (nI m)), (4, .int x), (6, .int (nI e0)), (7, .int (nI (p + 1)))]) [3, 4, 5, 6, 7, 1, 0] rfl ?_
                  refine z_lv (lv' := [(0, .ref (E 0)), (1, .ref (E 16)), (2, .int (nI n)), (3, .int (nI m)), (4, .int x), (6, .int (oI (opn S (S 16) x (p + 1)))), (7, .int (nI (p + 1)))]) (by intro x9 h9; rw [hq] at h9; exact h9) ?_
                  exact ih (p + 1) ⟨by omega, fun e he => by rw [hq] at he; cases he; exact hI.2 _ h0⟩ (by omega)
                · refine z_iload X 0 dX7_find_94 rfl ?_
                  refine z_goto X 101 dX7_find_96 (by decide) ?_
                  refine z_istore X (lv' := [(6, .int (nI d)), (8, .int (nI d)), (0, .ref (E 0)), (1, .ref (E 16)), (2, .int (nI n)), (3, .int (nI m)), (4, .int x), (7, .int (nI p))]) dX7_find_101 (by decide) rfl ?_
                  refine z_iinc X (lv' := [(7, .int (nI (p + 1))), (6, .int (nI d)), (8, .int (nI d)), (0, .ref (E 0)), (1, .ref (E 16)), (2, .int (nI n)), (3, .int (nI m)), (4, .int x)]) (nI (p + 1)) 7 dX7_find_103 rfl (nI_1 _) (by decide) rfl ?_
                  refine z_goto X 37 dX7_find_106 (by decide) ?_
                  exfalso; omega
            · refine z_iload X 0 dX7_find_85 rfl ?_
              exact z_iret X hr hlk dX7_find_87 (by first | exact Nat.le_of_ble_eq_true rfl | (dsimp only [zRm]; omega) | omega) (by first | exact Nat.le_of_ble_eq_true rfl | (dsimp only [zRm]; omega) | omega) ⟨by rw [hf, opn_hit (n := n) hO4008 (by omega) (by omega) (fun e he => (hI.2 e he).1) (by omega)]; rfl, rfl⟩
  refine z_aload_n X 0 dX7_find_0 zref.r rfl ?_
  refine z_iload_n X 3 dX7_find_1 rfl ?_
  refine z_iload X 4 dX7_find_2 rfl ?_
  refine z_callV X (rest := []) (c_X7_ofName D F (m := m) (x := x) hm) (cwV 2 (zXts X) (lw_V q1704 q1706 qs31 q65 q1707) rfl rfl rfl (by decide +kernel) ⟨Nat.le_of_ble_eq_true rfl, Nat.le_of_ble_eq_true rfl⟩) D.1 (by decide) rfl rfl (Nat.le_of_ble_eq_true rfl) ⟨(by first | exact Nat.le_of_ble_eq_true rfl | (dsimp only [zRm]; omega)), (by first | exact Nat.le_of_ble_eq_true rfl | (dsimp only [zRm]; omega))⟩ dX7_find_4 (fun v4015 h4016 p4017 => ?_)
  obtain ⟨rfl, rfl⟩ := p4017
  rcases hO4018 : ofN S m x with _ | d0
  · refine z_st (st' := [.int (-1)]) rfl ?_
    refine z_istore X (lv' := [(5, .int (-1)), (0, .ref (E 0)), (1, .ref (E 16)), (2, .int (nI n)), (3, .int (nI m)), (4, .int x)]) dX7_find_7 (by decide) rfl ?_
    refine z_iload X 0 dX7_find_9 rfl ?_
    refine z_iconst X (-1) dX7_find_11 (by decide) ?_
    refine z_icmpU_eq X 4294967295 4294967295 31 dX7_find_12 (by decide) (by decide) (by decide) (by omega) (by omega) (fun c4019 => ?_) (fun c4019 => ?_)
    · refine z_lvp (lv' := [(0, .ref (E 0)), (1, .ref (E 16)), (2, .int (nI n)), (3, .int (nI m)), (4, .int x)]) [1, 2, 3, 4, 5] rfl ?_
      exact rest (fun d hd => by rw [hO4018] at hd; cases hd)
    · omega
  · refine z_st (st' := [.int (nI d0)]) rfl ?_
    obtain ⟨hO4018a, hO4018b, hO4018c, hO4018d, hO4018e, hO4018f⟩ := F.ds hO4018
    refine z_istore X (lv' := [(5, .int (nI d0)), (0, .ref (E 0)), (1, .ref (E 16)), (2, .int (nI n)), (3, .int (nI m)), (4, .int x)]) dX7_find_7 (by decide) rfl ?_
    refine z_iload X 0 dX7_find_9 rfl ?_
    refine z_iconst X (-1) dX7_find_11 (by decide) ?_
    refine z_icmpU_eq X d0 4294967295 31 dX7_find_12 (by decide) rfl (by decide) (by omega) (by omega) (fun c4020 => ?_) (fun c4020 => ?_)
    · refine z_lvp (lv' := [(0, .ref (E 0)), (1, .ref (E 16)), (2, .int (nI n)), (3, .int (nI m)), (4, .int x)]) [1, 2, 3, 4, 5] rfl ?_
      exact rest (fun d hd => by rw [hO4018] at hd; cases hd; omega)
    · refine z_aload_n X 1 dX7_find_15 zref.r rfl ?_
      refine z_get X zP6 6 (by decide) q1569 (Or.inl rfl) D.1 (by decide) rfl dX7_find_16 ?_
      refine z_iload X 0 dX7_find_19 rfl ?_
      refine z_iald X (v := .int ((S 6) d0)) d0 (D.2.1 6 rfl) (by decide) rfl (by show _ < 240; omega) (by decide) rfl dX7_find_21 ?_
      refine z_bipush X (nI 6) dX7_find_22 (by decide) ?_
      refine z_iand X (((S 6) d0) &&& (nI 6)) dX7_find_24 rfl ?_
      have hz6 := zand6 (y := S 6 d0) (by omega)
      refine z_ifU_eq X (zn (((S 6) d0) &&& (nI 6))) 31 dX7_find_25 (by decide) (nI_zn _).symm (zn_lt _) (fun c4021 => ?_) (fun c4021 => ?_)
      · refine z_lvp (lv' := [(0, .ref (E 0)), (1, .ref (E 16)), (2, .int (nI n)), (3, .int (nI m)), (4, .int x)]) [1, 2, 3, 4, 5] rfl ?_
        exact rest (fun d hd => by rw [hO4018] at hd; cases hd; omega)
      · refine z_iload X 0 dX7_find_28 rfl ?_
        exact z_iret X hr hlk dX7_find_30 (by first | exact Nat.le_of_ble_eq_true rfl | (dsimp only [zRm]; omega) | omega) (by first | exact Nat.le_of_ble_eq_true rfl | (dsimp only [zRm]; omega) | omega) ⟨by rw [fnd_own hO4018 (by omega)]; rfl, rfl⟩
set_option maxHeartbeats 4000000 in
theorem c_X7_find_21 {l : Launch} {G : ZG} {h : ZH} {E : Nat → Nat} {S : ZS} {n m : Nat} {x : Int32} (D : MD E S h) (F : ZWF S) (hm : m < 12) (hn : n ≤ 12) (hl : ∀ p, p < n → zn (S 21 p) < 12) : ZM l G yX7_find (ws_ yX7_find cX7_find 9 (Option.some FieldType.int)) (zRm 1 0 0 30) [.ref (E 0), .ref (E 21), .int (nI n), .int (nI m), .int x] h (fun v h' => v = some (.int (oI (fnd S (S 21) n m x))) ∧ h = h') := by
  refine ZT.zm (ZT.of (by first | exact plainFor_of_name (by decide) | decide +kernel) (Nat.le_of_ble_eq_true rfl) (zcats.r zref.r (zcats.r zref.r (zcats.i (zcats.i (zcats.i zcats.nil))))) ?_)
  intro p_ e_ s_ m_ args_ below_ meth_ c_ X hr hlk hin htab
  have X : ZX p_ m_ c_ cX7_find 9 s_ args_ "LinkStationModel" G := X
  refine z_lv (lv' := [(0, .ref (E 0)), (1, .ref (E 21)), (2, .int (nI n)), (3, .int (nI m)), (4, .int x)]) (fun _ hq => hq) ?_
  have rest : (∀ d, ofN S m x = some d → zn (S 6 d) < 2) → Zw p_ l e_ (zRm 1 0 0 30) s_ m_ args_ below_ meth_ c_ G 9 (zEnd G (zRm 1 0 0 30) (fun v h' => v = some (.int (oI (fnd S (S 21) n m x))) ∧ h = h') (fun _ _ _ => False) below_ args_ s_) 31 [(0, .ref (E 0)), (1, .ref (E 21)), (2, .int (nI n)), (3, .int (nI m)), (4, .int x)] [] h 0 0 := by
    intro hown
    have hf : fnd S (S 21) n m x = opn S (S 21) x n := fnd_opn hown
    refine z_iconst X (-1) dX7_find_31 (by decide) ?_
    refine z_istore X (lv' := [(6, .int (-1)), (0, .ref (E 0)), (1, .ref (E 21)), (2, .int (nI n)), (3, .int (nI m)), (4, .int x)]) dX7_find_32 (by decide) rfl ?_
    refine z_iconst X (nI 0) dX7_find_34 (by decide) ?_
    refine z_istore X (lv' := [(7, .int (nI 0)), (6, .int (-1)), (0, .ref (E 0)), (1, .ref (E 21)), (2, .int (nI n)), (3, .int (nI m)), (4, .int x)]) dX7_find_35 (by decide) rfl ?_
    refine z_lvp (lv' := [(0, .ref (E 0)), (1, .ref (E 21)), (2, .int (nI n)), (3, .int (nI m)), (4, .int x), (6, .int (-1)), (7, .int (nI 0))]) [2, 3, 4, 5, 6, 1, 0] rfl ?_
    refine z_loop (σ := Nat) (fun p => p ≤ n ∧ ∀ e, opn S (S 21) x p = some e → zn (S 6 e) % 2 = 1 ∧ e < 240) (fun p => n - p) (fun p => [(0, .ref (E 0)), (1, .ref (E 21)), (2, .int (nI n)), (3, .int (nI m)), (4, .int x), (6, .int (oI (opn S (S 21) x p))), (7, .int (nI p))]) (fun p => []) (fun p => h) (fun p => 0) (fun p => 0) ?_ 0 (⟨Nat.zero_le _, fun e he => (by cases he)⟩)
    intro p hI ih
    try dsimp only at hI
    try dsimp only at ih
    try dsimp only
    refine z_iload X 6 dX7_find_37 rfl ?_
    refine z_iload_n X 2 dX7_find_39 rfl ?_
    refine z_icmpU_ge X p n 109 dX7_find_40 (by decide) rfl rfl (by omega) (by omega) (fun c4022 => ?_) (fun c4022 => ?_)
    · refine z_iload X 5 dX7_find_109 rfl ?_
      exact z_iret X hr hlk dX7_find_111 (by first | exact Nat.le_of_ble_eq_true rfl | (dsimp only [zRm]; omega) | omega) (by first | exact Nat.le_of_ble_eq_true rfl | (dsimp only [zRm]; omega) | omega) ⟨by rw [hf, show n = p from by omega], rfl⟩
    · refine z_aload_n X 0 dX7_find_43 zref.r rfl ?_
      refine z_aload_n X 1 dX7_find_44 zref.r rfl ?_
      refine z_iload X 6 dX7_find_45 rfl ?_
      refine z_iald X (v := .int ((S 21) p)) p (D.2.1 21 rfl) (by decide) rfl (by show _ < 12; omega) (by decide) rfl dX7_find_47 ?_
      refine z_iload X 4 dX7_find_48 rfl ?_
      have hlp := hl p (by omega)
      refine z_st (st' := [.int x, .int (nI (zn (S 21 p))), .ref (E 0)]) (by simp only [nI_zn]) ?_
      refine z_callV X (rest := []) (c_X7_ofName D F (m := zn (S 21 p)) (x := x) hlp) (cwV 2 (zXts X) (lw_V q1704 q1706 qs31 q65 q1707) rfl rfl rfl (by decide +kernel) ⟨Nat.le_of_ble_eq_true rfl, Nat.le_of_ble_eq_true rfl⟩) D.1 (by decide) rfl rfl (Nat.le_of_ble_eq_true rfl) ⟨(by first | exact Nat.le_of_ble_eq_true rfl | (dsimp only [zRm]; omega)), (by first | exact Nat.le_of_ble_eq_true rfl | (dsimp only [zRm]; omega))⟩ dX7_find_50 (fun v4023 h4024 p4025 => ?_)
      obtain ⟨rfl, rfl⟩ := p4025
      rcases hO4026 : ofN S (zn (S 21 p)) x with _ | d
      · refine z_st (st' := [.int (-1)]) rfl ?_
        refine z_istore X (lv' := [(8, .int (-1)), (0, .ref (E 0)), (1, .ref (E 21)), (2, .int (nI n)), (3, .int (nI m)), (4, .int x), (6, .int (oI (opn S (S 21) x p))), (7, .int (nI p))]) dX7_find_53 (by decide) rfl ?_
        refine z_iload X 0 dX7_find_55 rfl ?_
        refine z_iconst X (-1) dX7_find_57 (by decide) ?_
        refine z_icmpU_eq X 4294967295 4294967295 103 dX7_find_58 (by decide) (by decide) (by decide) (by omega) (by omega) (fun c4027 => ?_) (fun c4027 => ?_)
        · refine z_iinc X (lv' := [(7, .int (nI (p + 1))), (8, .int (-1)), (0, .ref (E 0)), (1, .ref (E 21)), (2, .int (nI n)), (3, .int (nI m)), (4, .int x), (6, .int (oI (opn S (S 21) x p)))]) (nI (p + 1)) 7 dX7_find_103 rfl (nI_1 _) (by decide) rfl ?_
          refine z_goto X 37 dX7_find_106 (by decide) ?_
          have hq : opn S (S 21) x (p + 1) = opn S (S 21) x p := opn_no hO4026
          refine z_lvp (lv' := [(0, .ref (E 0)), (1, .ref (E 21)), (2, .int (nI n)), (3, .int (nI m)), (4, .int x), (6, .int (oI (opn S (S 21) x p))), (7, .int (nI (p + 1)))]) [2, 3, 4, 5, 6, 7, 0] rfl ?_
          refine z_lv (lv' := [(0, .ref (E 0)), (1, .ref (E 21)), (2, .int (nI n)), (3, .int (nI m)), (4, .int x), (6, .int (oI (opn S (S 21) x (p + 1)))), (7, .int (nI (p + 1)))]) (by intro x9 h9; rw [hq] at h9; exact h9) ?_
          exact ih (p + 1) ⟨by omega, fun e he => by rw [hq] at he; exact hI.2 e he⟩ (by omega)
        · omega
      · refine z_st (st' := [.int (nI d)]) rfl ?_
        obtain ⟨hO4026a, hO4026b, hO4026c, hO4026d, hO4026e, hO4026f⟩ := F.ds hO4026
        refine z_istore X (lv' := [(8, .int (nI d)), (0, .ref (E 0)), (1, .ref (E 21)), (2, .int (nI n)), (3, .int (nI m)), (4, .int x), (6, .int (oI (opn S (S 21) x p))), (7, .int (nI p))]) dX7_find_53 (by decide) rfl ?_
        refine z_iload X 0 dX7_find_55 rfl ?_
        refine z_iconst X (-1) dX7_find_57 (by decide) ?_
        refine z_icmpU_eq X d 4294967295 103 dX7_find_58 (by decide) rfl (by decide) (by omega) (by omega) (fun c4028 => ?_) (fun c4028 => ?_)
        · refine z_iinc X (lv' := [(7, .int (nI (p + 1))), (8, .int (nI d)), (0, .ref (E 0)), (1, .ref (E 21)), (2, .int (nI n)), (3, .int (nI m)), (4, .int x), (6, .int (oI (opn S (S 21) x p)))]) (nI (p + 1)) 7 dX7_find_103 rfl (nI_1 _) (by decide) rfl ?_
          refine z_goto X 37 dX7_find_106 (by decide) ?_
          exfalso; omega
        · refine z_aload_n X 1 dX7_find_61 zref.r rfl ?_
          refine z_get X zP6 6 (by decide) q1569 (Or.inl rfl) D.1 (by decide) rfl dX7_find_62 ?_
          refine z_iload X 0 dX7_find_65 rfl ?_
          refine z_iald X (v := .int ((S 6) d)) d (D.2.1 6 rfl) (by decide) rfl (by show _ < 240; omega) (by decide) rfl dX7_find_67 ?_
          refine z_iconst X (nI 4) dX7_find_68 (by decide) ?_
          refine z_iand X (((S 6) d) &&& (nI 4)) dX7_find_69 rfl ?_
          have hz4 := zand4 (y := S 6 d) (by omega)
          refine z_ifU_ne X (zn (((S 6) d) &&& (nI 4))) 103 dX7_find_70 (by decide) (nI_zn _).symm (zn_lt _) (fun c4029 => ?_) (fun c4029 => ?_)
          · refine z_iinc X (lv' := [(7, .int (nI (p + 1))), (8, .int (nI d)), (0, .ref (E 0)), (1, .ref (E 21)), (2, .int (nI n)), (3, .int (nI m)), (4, .int x), (6, .int (oI (opn S (S 21) x p)))]) (nI (p + 1)) 7 dX7_find_103 rfl (nI_1 _) (by decide) rfl ?_
            refine z_goto X 37 dX7_find_106 (by decide) ?_
            have hq : opn S (S 21) x (p + 1) = opn S (S 21) x p := opn_hid hO4026 (by omega)
            refine z_lvp (lv' := [(0, .ref (E 0)), (1, .ref (E 21)), (2, .int (nI n)), (3, .int (nI m)), (4, .int x), (6, .int (oI (opn S (S 21) x p))), (7, .int (nI (p + 1)))]) [2, 3, 4, 5, 6, 7, 0] rfl ?_
            refine z_lv (lv' := [(0, .ref (E 0)), (1, .ref (E 21)), (2, .int (nI n)), (3, .int (nI m)), (4, .int x), (6, .int (oI (opn S (S 21) x (p + 1)))), (7, .int (nI (p + 1)))]) (by intro x9 h9; rw [hq] at h9; exact h9) ?_
            exact ih (p + 1) ⟨by omega, fun e he => by rw [hq] at he; exact hI.2 e he⟩ (by omega)
          · refine z_aload_n X 1 dX7_find_73 zref.r rfl ?_
            refine z_get X zP6 6 (by decide) q1569 (Or.inl rfl) D.1 (by decide) rfl dX7_find_74 ?_
            refine z_iload X 0 dX7_find_77 rfl ?_
            refine z_iald X (v := .int ((S 6) d)) d (D.2.1 6 rfl) (by decide) rfl (by show _ < 240; omega) (by decide) rfl dX7_find_79 ?_
            refine z_iconst X (nI 1) dX7_find_80 (by decide) ?_
            refine z_iand X (((S 6) d) &&& (nI 1)) dX7_find_81 rfl ?_
            have hz1 := zand1 (y := S 6 d) (by omega)
            refine z_ifU_ne X (zn (((S 6) d) &&& (nI 1))) 88 dX7_find_82 (by decide) (nI_zn _).symm (zn_lt _) (fun c4030 => ?_) (fun c4030 => ?_)
            · rcases h0 : opn S (S 21) x p with _ | e0
              · refine z_lv (lv' := [(8, .int (nI d)), (0, .ref (E 0)), (1, .ref (E 21)), (2, .int (nI n)), (3, .int (nI m)), (4, .int x), (6, .int (-1)), (7, .int (nI p))]) (by intro x9 h9; exact h9) ?_
                refine z_iload X 6 dX7_find_88 rfl ?_
                refine z_iconst X (-1) dX7_find_90 (by decide) ?_
                refine z_icmpU_ne X 4294967295 4294967295 99 dX7_find_91 (by decide) (by decide) (by decide) (by omega) (by omega) (fun c4031 => ?_) (fun c4031 => ?_)
                · omega
                · refine z_iload X 0 dX7_find_94 rfl ?_
                  refine z_goto X 101 dX7_find_96 (by decide) ?_
                  refine z_istore X (lv' := [(6, .int (nI d)), (8, .int (nI d)), (0, .ref (E 0)), (1, .ref (E 21)), (2, .int (nI n)), (3, .int (nI m)), (4, .int x), (7, .int (nI p))]) dX7_find_101 (by decide) rfl ?_
                  refine z_iinc X (lv' := [(7, .int (nI (p + 1))), (6, .int (nI d)), (8, .int (nI d)), (0, .ref (E 0)), (1, .ref (E 21)), (2, .int (nI n)), (3, .int (nI m)), (4, .int x)]) (nI (p + 1)) 7 dX7_find_103 rfl (nI_1 _) (by decide) rfl ?_
                  refine z_goto X 37 dX7_find_106 (by decide) ?_
                  have hq : opn S (S 21) x (p + 1) = some d := opn_new hO4026 (by omega) h0
                  refine z_lvp (lv' := [(0, .ref (E 0)), (1, .ref (E 21)), (2, .int (nI n)), (3, .int (nI m)), (4, .int x), (6, .int (nI d)), (7, .int (nI (p + 1)))]) [3, 4, 5, 6, 7, 1, 0] rfl ?_
                  refine z_lv (lv' := [(0, .ref (E 0)), (1, .ref (E 21)), (2, .int (nI n)), (3, .int (nI m)), (4, .int x), (6, .int (oI (opn S (S 21) x (p + 1)))), (7, .int (nI (p + 1)))]) (by intro x9 h9; rw [hq] at h9; exact h9) ?_
                  exact ih (p + 1) ⟨by omega, fun e he => by rw [hq] at he; cases he; exact ⟨by omega, by omega⟩⟩ (by omega)
              · refine z_lv (lv' := [(8, .int (nI d)), (0, .ref (E 0)), (1, .ref (E 21)), (2, .int (nI n)), (3, .int (nI m)), (4, .int x), (6, .int (nI e0)), (7, .int (nI p))]) (by intro x9 h9; exact h9) ?_
                have he0 := hI.2 _ h0
                refine z_iload X 6 dX7_find_88 rfl ?_
                refine z_iconst X (-1) dX7_find_90 (by decide) ?_
                refine z_icmpU_ne X e0 4294967295 99 dX7_find_91 (by decide) rfl (by decide) (by omega) (by omega) (fun c4032 => ?_) (fun c4032 => ?_)
                · refine z_iload X 6 dX7_find_99 rfl ?_
                  refine z_istore X (lv' := [(6, .int (nI e0)), (8, .int (nI d)), (0, .ref (E 0)), (1, .ref (E 21)), (2, .int (nI n)), (3, .int (nI m)), (4, .int x), (7, .int (nI p))]) dX7_find_101 (by decide) rfl ?_
                  refine z_iinc X (lv' := [(7, .int (nI (p + 1))), (6, .int (nI e0)), (8, .int (nI d)), (0, .ref (E 0)), (1, .ref (E 21)), (2, .int (nI n)), (3, .int (nI m)), (4, .int x)]) (nI (p + 1)) 7 dX7_find_103 rfl (nI_1 _) (by decide) rfl ?_
                  refine z_goto X 37 dX7_find_106 (by decide) ?_
                  have hq : opn S (S 21) x (p + 1) = some e0 := by rw [opn_old hO4026 (by omega) h0]; exact if_neg (by omega)
                  refine z_lvp (lv' := [(0, .ref (E 0)), (1, .ref (E 21)), (2, .int (nI n)), (3, .int (nI m)), (4, .int x), (6, .int (nI e0)), (7, .int (nI (p + 1)))]) [3, 4, 5, 6, 7, 1, 0] rfl ?_
                  refine z_lv (lv' := [(0, .ref (E 0)), (1, .ref (E 21)), (2, .int (nI n)), (3, .int (nI m)), (4, .int x), (6, .int (oI (opn S (S 21) x (p + 1)))), (7, .int (nI (p + 1)))]) (by intro x9 h9; rw [hq] at h9; exact h9) ?_
                  exact ih (p + 1) ⟨by omega, fun e he => by rw [hq] at he; cases he; exact hI.2 _ h0⟩ (by omega)
                · refine z_iload X 0 dX7_find_94 rfl ?_
                  refine z_goto X 101 dX7_find_96 (by decide) ?_
                  refine z_istore X (lv' := [(6, .int (nI d)), (8, .int (nI d)), (0, .ref (E 0)), (1, .ref (E 21)), (2, .int (nI n)), (3, .int (nI m)), (4, .int x), (7, .int (nI p))]) dX7_find_101 (by decide) rfl ?_
                  refine z_iinc X (lv' := [(7, .int (nI (p + 1))), (6, .int (nI d)), (8, .int (nI d)), (0, .ref (E 0)), (1, .ref (E 21)), (2, .int (nI n)), (3, .int (nI m)), (4, .int x)]) (nI (p + 1)) 7 dX7_find_103 rfl (nI_1 _) (by decide) rfl ?_
                  refine z_goto X 37 dX7_find_106 (by decide) ?_
                  exfalso; omega
            · refine z_iload X 0 dX7_find_85 rfl ?_
              exact z_iret X hr hlk dX7_find_87 (by first | exact Nat.le_of_ble_eq_true rfl | (dsimp only [zRm]; omega) | omega) (by first | exact Nat.le_of_ble_eq_true rfl | (dsimp only [zRm]; omega) | omega) ⟨by rw [hf, opn_hit (n := n) hO4026 (by omega) (by omega) (fun e he => (hI.2 e he).1) (by omega)]; rfl, rfl⟩
  refine z_aload_n X 0 dX7_find_0 zref.r rfl ?_
  refine z_iload_n X 3 dX7_find_1 rfl ?_
  refine z_iload X 4 dX7_find_2 rfl ?_
  refine z_callV X (rest := []) (c_X7_ofName D F (m := m) (x := x) hm) (cwV 2 (zXts X) (lw_V q1704 q1706 qs31 q65 q1707) rfl rfl rfl (by decide +kernel) ⟨Nat.le_of_ble_eq_true rfl, Nat.le_of_ble_eq_true rfl⟩) D.1 (by decide) rfl rfl (Nat.le_of_ble_eq_true rfl) ⟨(by first | exact Nat.le_of_ble_eq_true rfl | (dsimp only [zRm]; omega)), (by first | exact Nat.le_of_ble_eq_true rfl | (dsimp only [zRm]; omega))⟩ dX7_find_4 (fun v4033 h4034 p4035 => ?_)
  obtain ⟨rfl, rfl⟩ := p4035
  rcases hO4036 : ofN S m x with _ | d0
  · refine z_st (st' := [.int (-1)]) rfl ?_
    refine z_istore X (lv' := [(5, .int (-1)), (0, .ref (E 0)), (1, .ref (E 21)), (2, .int (nI n)), (3, .int (nI m)), (4, .int x)]) dX7_find_7 (by decide) rfl ?_
    refine z_iload X 0 dX7_find_9 rfl ?_
    refine z_iconst X (-1) dX7_find_11 (by decide) ?_
    refine z_icmpU_eq X 4294967295 4294967295 31 dX7_find_12 (by decide) (by decide) (by decide) (by omega) (by omega) (fun c4037 => ?_) (fun c4037 => ?_)
    · refine z_lvp (lv' := [(0, .ref (E 0)), (1, .ref (E 21)), (2, .int (nI n)), (3, .int (nI m)), (4, .int x)]) [1, 2, 3, 4, 5] rfl ?_
      exact rest (fun d hd => by rw [hO4036] at hd; cases hd)
    · omega
  · refine z_st (st' := [.int (nI d0)]) rfl ?_
    obtain ⟨hO4036a, hO4036b, hO4036c, hO4036d, hO4036e, hO4036f⟩ := F.ds hO4036
    refine z_istore X (lv' := [(5, .int (nI d0)), (0, .ref (E 0)), (1, .ref (E 21)), (2, .int (nI n)), (3, .int (nI m)), (4, .int x)]) dX7_find_7 (by decide) rfl ?_
    refine z_iload X 0 dX7_find_9 rfl ?_
    refine z_iconst X (-1) dX7_find_11 (by decide) ?_
    refine z_icmpU_eq X d0 4294967295 31 dX7_find_12 (by decide) rfl (by decide) (by omega) (by omega) (fun c4038 => ?_) (fun c4038 => ?_)
    · refine z_lvp (lv' := [(0, .ref (E 0)), (1, .ref (E 21)), (2, .int (nI n)), (3, .int (nI m)), (4, .int x)]) [1, 2, 3, 4, 5] rfl ?_
      exact rest (fun d hd => by rw [hO4036] at hd; cases hd; omega)
    · refine z_aload_n X 1 dX7_find_15 zref.r rfl ?_
      refine z_get X zP6 6 (by decide) q1569 (Or.inl rfl) D.1 (by decide) rfl dX7_find_16 ?_
      refine z_iload X 0 dX7_find_19 rfl ?_
      refine z_iald X (v := .int ((S 6) d0)) d0 (D.2.1 6 rfl) (by decide) rfl (by show _ < 240; omega) (by decide) rfl dX7_find_21 ?_
      refine z_bipush X (nI 6) dX7_find_22 (by decide) ?_
      refine z_iand X (((S 6) d0) &&& (nI 6)) dX7_find_24 rfl ?_
      have hz6 := zand6 (y := S 6 d0) (by omega)
      refine z_ifU_eq X (zn (((S 6) d0) &&& (nI 6))) 31 dX7_find_25 (by decide) (nI_zn _).symm (zn_lt _) (fun c4039 => ?_) (fun c4039 => ?_)
      · refine z_lvp (lv' := [(0, .ref (E 0)), (1, .ref (E 21)), (2, .int (nI n)), (3, .int (nI m)), (4, .int x)]) [1, 2, 3, 4, 5] rfl ?_
        exact rest (fun d hd => by rw [hO4036] at hd; cases hd; omega)
      · refine z_iload X 0 dX7_find_28 rfl ?_
        exact z_iret X hr hlk dX7_find_30 (by first | exact Nat.le_of_ble_eq_true rfl | (dsimp only [zRm]; omega) | omega) (by first | exact Nat.le_of_ble_eq_true rfl | (dsimp only [zRm]; omega) | omega) ⟨by rw [fnd_own hO4036 (by omega)]; rfl, rfl⟩
