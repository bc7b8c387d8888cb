set_option maxRecDepth 100000
theorem goL_4 {f : Nat} {T : ZS} (h : zn (T 9 (zn (T 37 0))) ≤ zn (T 38 0)) : goL f T = (4, T) := by
  cases f with
  | zero => exact if_pos h
  | succ f => exact if_pos h
theorem goL_1 {T : ZS} (h : ¬ zn (T 9 (zn (T 37 0))) ≤ zn (T 38 0)) : goL 0 T = (1, T) := if_neg h
abbrev goR (T : ZS) : Int32 × ZS := stpF (zs0 T 29 (nI (zn (T 29 0) + 1)))
theorem goL_s {f : Nat} {T : ZS} (h : ¬ zn (T 9 (zn (T 37 0))) ≤ zn (T 38 0)) : goL (f + 1) T = if (goR T).1 = -1 then (if zn ((goR T).2 36 0) = 0 then goR T else goL f (goR T).2) else goR T := if_neg h
theorem goR_keep {T : ZS} (F : ZWF T) (FL : ZWL T) (C : ZCK T) (R : ZRN T) (hd : 0 < zn (T 36 0)) (hm : zn (T 29 0) < 5000) (hn : zn (T 38 0) < zn (T 9 (zn (T 37 0)))) : ZRN (goR T).2 ∧ (∀ k, k < 18 → (goR T).2 k = T k) ∧ zn ((goR T).2 29 0) = zn (T 29 0) + 1 := by
  have hlo : ∀ k, k ≠ 29 → zs0 T 29 (nI (zn (T 29 0) + 1)) k = T k := fun k hk => zsa_n hk
  have e29 : zn (nI (zn (T 29 0) + 1)) = zn (T 29 0) + 1 := zn_nI (by omega)
  have R1 : ZRN (zs0 T 29 (nI (zn (T 29 0) + 1))) := by
    obtain ⟨r1, r2, r3, r4, r5, r6, r7, r8, r9⟩ := R
    refine ⟨r1, r2, r3, r4, r5, r6, r7, ?_, ?_⟩
    · show zn (T 30 0) ≤ zn (nI (zn (T 29 0) + 1)); omega
    · show zn (nI (zn (T 29 0) + 1)) ≤ 5000; omega
  have := stp_keep (F.cg (fun k hk => hlo k (by omega))) (FL.cg (fun k hk hk2 => hlo k (by omega))) (C.cg (fun k hk => hlo k (by omega))) R1 hd (by show zn (T 30 0) < zn (nI (zn (T 29 0) + 1)); have := R.2.2.2.2.2.2.2.1; omega) hn
  exact ⟨this.1, fun k hk => (this.2 k (Or.inl hk)).trans (hlo k (by omega)), by rw [this.2 29 (Or.inr rfl)]; exact e29⟩
theorem goL_keep : ∀ (f : Nat) {T : ZS}, ZWF T → ZWL T → ZCK T → ZRN T → 0 < zn (T 36 0) → zn (T 29 0) + f ≤ 5000 → ZRN (goL f T).2 ∧ (∀ k, k < 18 → (goL f T).2 k = T k) ∧ zn ((goL f T).2 29 0) ≤ zn (T 29 0) + f
  | 0, T, F, FL, C, R, hd, hm => by
    by_cases h : zn (T 9 (zn (T 37 0))) ≤ zn (T 38 0)
    · rw [goL_4 h]; exact ⟨R, fun k hk => rfl, Nat.le_add_right _ _⟩
    · rw [goL_1 h]; exact ⟨R, fun k hk => rfl, Nat.le_add_right _ _⟩
  | f + 1, T, F, FL, C, R, hd, hm => by
    by_cases h : zn (T 9 (zn (T 37 0))) ≤ zn (T 38 0)
    · rw [goL_4 h]; exact ⟨R, fun k hk => rfl, Nat.le_add_right _ _⟩
    · obtain ⟨k1, k2, k3⟩ := goR_keep F FL C R hd (by omega) (by omega)
      rw [goL_s h]
      split
      · split
        · exact ⟨k1, k2, by omega⟩
        · obtain ⟨g1, g2, g3⟩ := goL_keep f (F.cg (fun k hk => k2 k (by omega))) (FL.cg (fun k hk hk2 => k2 k (by omega))) (C.cg k2) k1 (by omega) (by omega)
          exact ⟨g1, fun k hk => (g2 k hk).trans (k2 k hk), by omega⟩
      · exact ⟨k1, k2, by omega⟩
theorem ZRN.d0 {S : ZS} (R : ZRN S) : ZRN (zs0 S 36 0) := by
  obtain ⟨r1, r2, r3, r4, r5, r6, r7, r8, r9⟩ := R
  exact ⟨r1, r2, r3, fun z => absurd z (by show ¬ 0 < zn 0; decide), fun i h0 hi => absurd hi (by show ¬ i < zn 0; rw [zc0]; omega), by show zn 0 ≤ 101; decide, r7, r8, r9⟩
theorem go0 {S : ZS} {d : Nat} (R : ZRN (zs0 S 36 0)) (hd : zOK S d) : ZRN (callF (zs0 S 36 0) (some d)).2 ∧ (∀ k, k < 18 ∨ k = 29 → (callF (zs0 S 36 0) (some d)).2 k = S k) ∧ (callF (zs0 S 36 0) (some d)).1 = -1 ∧ zn ((callF (zs0 S 36 0) (some d)).2 36 0) = 1 := by
  refine ⟨callF_keep R (fun k hk => by cases hk; exact hd.cg rfl rfl rfl), fun k hk => (callF_lo (by omega)).trans (zsa_n (by omega)), ?_, ?_⟩
  · rw [callF_ok (by show ¬ zn 0 = 101; decide)]
  · rw [callF_ok (by show ¬ zn 0 = 101; decide)]; show zn (nI (zn 0 + 1)) = 1; decide
theorem goF_keep {S : ZS} {d g : Nat} (F : ZWF S) (FL : ZWL S) (C : ZCK S) (R : ZRN (zs0 S 36 0)) (hd : zOK S d) (hg : zn (S 29 0) ≤ g) (hg2 : g ≤ 5000) : ZRN (goF S d g).2 ∧ (∀ k, k < 18 → (goF S d g).2 k = S k) ∧ zn ((goF S d g).2 29 0) ≤ g := by
  obtain ⟨a1, a2, a3, a4⟩ := go0 R hd
  obtain ⟨b1, b2, b3⟩ := goL_keep (g - zn (S 29 0)) (F.cg (fun k hk => a2 k (by omega))) (FL.cg (fun k hk hk2 => a2 k (by omega))) (C.cg (fun k hk => a2 k (Or.inl hk))) a1 (by omega) (by rw [a2 29 (Or.inr rfl)]; omega)
  rw [a2 29 (Or.inr rfl)] at b3
  exact ⟨b1, fun k hk => (b2 k hk).trans (a2 k (Or.inl hk)), by unfold goF; omega⟩
set_option maxHeartbeats 8000000 in
theorem c_X7_go {l : Launch} {G : ZG} {h : ZH} {E : Nat → Nat} {S : ZS} {d g : Nat} (D : MD E S h) (F : ZWF S) (FL : ZWL S) (C : ZCK S) (R : ZRN (zs0 S 36 0)) (hok : zOK S d) (hg : zn (S 29 0) ≤ g) (hg2 : g ≤ 5000) : ZM l G yX7_go (ws_ yX7_go cX7_go 4 (Option.some FieldType.int)) (zRm 4 0 0 160) [.ref (E 0), .int (nI d), .int (nI g)] h (fun v h' => v = some (.int (goF S d g).1) ∧ MD E (goF S d g).2 h' ∧ zOn zTM h h') := by
  refine ZT.zm (ZT.of (by first | exact plainFor_of_name (by decide) | decide +kernel) (Nat.le_of_ble_eq_true rfl) (zcats.r zref.r (zcats.i (zcats.i zcats.nil))) ?_)
  intro p_ e_ s_ m_ args_ below_ meth_ c_ X hr hlk hin htab
  have X : ZX p_ m_ c_ cX7_go 4 s_ args_ "LinkStationModel" G := X
  refine z_lv (lv' := [(0, .ref (E 0)), (1, .int (nI d)), (2, .int (nI g))]) (fun _ hq => hq) ?_
  obtain ⟨a1, a2, a3, a4⟩ := go0 R hok
  refine z_aload_n X 0 dX7_go_0 zref.r rfl ?_
  refine z_iconst X (nI 0) dX7_go_1 (by decide) ?_
  refine z_put X zP6 36 (by decide) q1599 (Or.inl rfl) rfl D.1 (by decide) (by decide) (zfits.i _) (Nat.le_of_ble_eq_true rfl) rfl dX7_go_2 ?_
  refine z_nm fun h18001 e18002 => ?_
  have D18003 : MD E (zsa S 36 (fun _ => nI 0)) h18001 := D.sF 36 (by decide) e18002
  have o18004 := zOn.up (zOn.rf (T := zTM) (h := h)) e18002 D.1 (by decide)
  refine z_aload_n X 0 dX7_go_5 zref.r rfl ?_
  refine z_iload_n X 1 dX7_go_6 rfl ?_
  refine z_callV X (rest := []) (c_X7_call D18003 (d := some d) (by show zn 0 ≤ 101; decide) R.2.2.2.2.2.2.1 (fun k hk => by cases hk; exact hok.1)) (cwV 1 (zXts X) (lw_V q1790 q1792 qs42 q65 q1793) rfl rfl rfl (by decide +kernel) ⟨Nat.le_of_ble_eq_true rfl, Nat.le_of_ble_eq_true rfl⟩) D18003.1 (by decide) rfl rfl (Nat.le_of_ble_eq_true rfl) ⟨(by first | exact Nat.le_of_ble_eq_true rfl | (dsimp only [zRm]; omega)), (by first | exact Nat.le_of_ble_eq_true rfl | (dsimp only [zRm]; omega))⟩ dX7_go_7 (fun v18005 h18006 p18007 => ?_)
  obtain ⟨rfl, D9, O9⟩ := p18007
  refine z_st (st' := [.int (-1)]) (congrArg (fun z => [Value.int z]) a3) ?_
  refine z_istore_n X (lv' := [(3, .int (-1)), (0, .ref (E 0)), (1, .int (nI d)), (2, .int (nI g))]) dX7_go_10 (by decide) rfl ?_
  have hA : ∀ k, k < 18 → (callF (zs0 S 36 0) (some d)).2 k = S k := fun k hk => a2 k (Or.inl hk)
  have hB : goL (g - zn ((callF (zs0 S 36 0) (some d)).2 29 0)) (callF (zs0 S 36 0) (some d)).2 = goF S d g := by rw [a2 29 (Or.inr rfl)]; rfl
  have hB2 : zn ((callF (zs0 S 36 0) (some d)).2 29 0) ≤ g := by rw [a2 29 (Or.inr rfl)]; exact hg
  refine z_lvp (lv' := [(0, .ref (E 0)), (2, .int (nI g)), (3, .int (-1))]) [1, 3, 0] rfl ?_
  refine z_loop (σ := ZS × Int32 × ZH) (fun y => (∀ k, k < 18 → y.1 k = S k) ∧ MD E y.1 y.2.2 ∧ zOn zTM h y.2.2 ∧ ((y.2.1 = -1 ∧ 0 < zn (y.1 36 0) ∧ ZRN y.1 ∧ zn (y.1 29 0) ≤ g ∧ goL (g - zn (y.1 29 0)) y.1 = goF S d g) ∨ (¬ (y.2.1 = -1 ∧ 0 < zn (y.1 36 0)) ∧ zn (y.1 36 0) ≤ 101 ∧ (y.2.1, y.1) = goF S d g))) (fun y => (@ite _ (y.2.1 = -1 ∧ 0 < zn (y.1 36 0)) (Classical.propDecidable _) (g - zn (y.1 29 0) + 1) 0)) (fun y => [(0, .ref (E 0)), (2, .int (nI g)), (3, .int y.2.1)]) (fun y => []) (fun y => y.2.2) (fun y => 0 + 0) (fun y => 0 + 0) ?_ ((callF (zs0 S 36 0) (some d)).2, -1, h18006) (⟨hA, D9, (o18004).trans O9, Or.inl ⟨rfl, show 0 < zn ((callF (zs0 S 36 0) (some d)).2 36 0) by omega, a1, hB2, hB⟩⟩)
  intro ⟨T, e, h1⟩ hI ih
  try dsimp only at hI
  try dsimp only at ih
  try dsimp only
  obtain ⟨i1, i2, i3, i4⟩ := hI
  have F1 : ZWF T := F.cg (fun k hk => i1 k (by omega))
  have FL1 : ZWL T := FL.cg (fun k hk hk2 => i1 k (by omega))
  have C1 : ZCK T := C.cg i1
  have he := zn_lt e
  rcases i4 with ⟨j1, j2, j3, j4, j5⟩ | ⟨j1, j2, j3⟩
  · have hsc := F1.sc (zn (T 37 0))
    have j12 := j3.2.1
    have j36 := j3.2.2.2.2.2.1
    have j38 := (j3.2.2.2.1 j2).2
    have j1z : zn e = 4294967295 := by rw [j1]; rfl
    refine z_iload_n X 2 dX7_go_11 rfl ?_
    refine z_iconst X (-1) dX7_go_12 (by decide) ?_
    refine z_icmpU_ne X (zn e) 4294967295 69 dX7_go_13 (by decide) (nI_zn _).symm (by decide) (zn_lt _) (by omega) (fun c18008 => ?_) (fun c18008 => ?_)
    · refine z_iload_n X 2 dX7_go_69 rfl ?_
      exfalso; omega
    · refine z_aload_n X 0 dX7_go_16 zref.r rfl ?_
      refine z_get X zP6 36 (by decide) q1599 (Or.inl rfl) (v := .int (T 36 0)) i2.1 (by decide) rfl dX7_go_17 ?_
      refine z_ifU_le X (zn (T 36 0)) 69 dX7_go_20 (by decide) (nI_zn _).symm (zn_lt _) (fun c18009 => ?_) (fun c18009 => ?_)
      · refine z_iload_n X 2 dX7_go_69 rfl ?_
        exfalso; omega
      · refine z_aload_n X 0 dX7_go_23 zref.r rfl ?_
        refine z_get X zP6 38 (by decide) q1601 (Or.inl rfl) (v := .int (T 38 0)) i2.1 (by decide) rfl dX7_go_24 ?_
        refine z_aload_n X 0 dX7_go_27 zref.r rfl ?_
        refine z_get X zP6 9 (by decide) q1572 (Or.inl rfl) i2.1 (by decide) rfl dX7_go_28 ?_
        refine z_aload_n X 0 dX7_go_31 zref.r rfl ?_
        refine z_get X zP6 37 (by decide) q1600 (Or.inl rfl) (v := .int (T 37 0)) i2.1 (by decide) rfl dX7_go_32 ?_
        refine z_iald X (v := .int ((T 9) (zn (T 37 0)))) (zn (T 37 0)) (i2.2.1 9 rfl) (by decide) (nI_zn _).symm (by show _ < 12; omega) (by decide) rfl dX7_go_35 ?_
        refine z_icmpU_lt X (zn (T 38 0)) (zn ((T 9) (zn (T 37 0)))) 41 dX7_go_36 (by decide) (nI_zn _).symm (nI_zn _).symm (zn_lt _) (zn_lt _) (fun c18010 => ?_) (fun c18010 => ?_)
        · refine z_aload_n X 0 dX7_go_41 zref.r rfl ?_
          refine z_get X zP6 29 (by decide) q1592 (Or.inl rfl) (v := .int (T 29 0)) i2.1 (by decide) rfl dX7_go_42 ?_
          refine z_iload_n X 1 dX7_go_45 rfl ?_
          refine z_icmpU_ne X (zn (T 29 0)) g 51 dX7_go_46 (by decide) (nI_zn _).symm rfl (zn_lt _) (by omega) (fun c18011 => ?_) (fun c18011 => ?_)
          · have hn : ¬ zn (T 9 (zn (T 37 0))) ≤ zn (T 38 0) := by omega
            have hmg : zn (T 29 0) < g := by omega
            have hfu : g - zn (T 29 0) = g - (zn (T 29 0) + 1) + 1 := by omega
            obtain ⟨k1, k2, k3⟩ := goR_keep F1 FL1 C1 j3 j2 (by omega) (by omega)
            refine z_aload_n X 0 dX7_go_51 zref.r rfl ?_
            refine z_dup X dX7_go_52 rfl ?_
            refine z_get X zP6 29 (by decide) q1592 (Or.inl rfl) (v := .int (T 29 0)) i2.1 (by decide) rfl dX7_go_53 ?_
            refine z_iconst X (nI 1) dX7_go_56 (by decide) ?_
            refine z_iadd X (nI ((zn (T 29 0)) + 1)) dX7_go_57 (zadd (nI_zn _).symm rfl) ?_
            refine z_put X zP6 29 (by decide) q1592 (Or.inl rfl) rfl i2.1 (by decide) (by decide) (zfits.i _) (Nat.le_of_ble_eq_true rfl) rfl dX7_go_58 ?_
            refine z_nm fun h18012 e18013 => ?_
            have D18014 : MD E (zsa T 29 (fun _ => nI ((zn (T 29 0)) + 1))) h18012 := i2.sF 29 (by decide) e18013
            have o18015 := zOn.up i3 e18013 i2.1 (by decide)
            refine z_aload_n X 0 dX7_go_61 zref.r rfl ?_
            refine z_callV X (rest := []) (c_X7_make D18014 (F1.cg (by intro k hk; exact zsa_n (by omega))) (FL1.cg (by intro k hk hk2; exact zsa_n (by omega))) j3.1 j12 (by show zn (T 38 0) < zn (T 9 (zn (T 37 0))); omega) j36 j2 j3.2.2.2.2.2.2.1 (by show zn (T 30 0) < 10000; have := j3.2.2.2.2.2.2.2.1; omega)) (cwV 0 (zXts X) (lw_V q1794 q1796 qs43 q65 q1797) rfl rfl rfl (by decide +kernel) ⟨Nat.le_of_ble_eq_true rfl, Nat.le_of_ble_eq_true rfl⟩) D18014.1 (by decide) rfl rfl (Nat.le_of_ble_eq_true rfl) ⟨(by first | exact Nat.le_of_ble_eq_true rfl | (dsimp only [zRm]; omega)), (by first | exact Nat.le_of_ble_eq_true rfl | (dsimp only [zRm]; omega))⟩ dX7_go_62 (fun v18016 h18017 p18018 => ?_)
            obtain ⟨rfl, D8, O8⟩ := p18018
            refine z_st (st' := [.int ((goR T).1)]) rfl ?_
            refine z_istore_n X (lv' := [(3, .int ((goR T).1)), (0, .ref (E 0)), (2, .int (nI g))]) dX7_go_65 (by decide) rfl ?_
            refine z_goto X 11 dX7_go_66 (by decide) ?_
            refine z_lvp (lv' := [(0, .ref (E 0)), (2, .int (nI g)), (3, .int ((goR T).1))]) [1, 2, 0] rfl ?_
            have hmu : ∀ P : Prop, @ite _ P (Classical.propDecidable _) (g - zn ((goR T).2 29 0) + 1) 0 < @ite _ (e = -1 ∧ 0 < zn (T 36 0)) (Classical.propDecidable _) (g - zn (T 29 0) + 1) 0 := fun P => by rw [if_pos (show e = -1 ∧ 0 < zn (T 36 0) from ⟨j1, j2⟩)]; split <;> omega
            refine ih ((goR T).2, (goR T).1, h18017) ⟨fun k hk => (k2 k hk).trans (i1 k hk), D8, o18015.trans O8, ?_⟩ (hmu _)
            by_cases q1 : (goR T).1 = -1
            · by_cases q2 : zn ((goR T).2 36 0) = 0
              · exact Or.inr ⟨fun z => absurd z.2 (by dsimp only; omega), by dsimp only; omega, by rw [← j5, hfu, goL_s hn, if_pos q1, if_pos q2]⟩
              · exact Or.inl ⟨q1, by dsimp only; omega, k1, by dsimp only; omega, by rw [← j5, hfu, goL_s hn, if_pos q1, if_neg q2, show g - zn ((goR T).2 29 0) = g - (zn (T 29 0) + 1) from by rw [k3]]⟩
            · exact Or.inr ⟨fun z => q1 z.1, k1.2.2.2.2.2.1, by rw [← j5, hfu, goL_s hn, if_neg q1]⟩
          · refine z_iconst X (nI 1) dX7_go_49 (by decide) ?_
            exact z_iret X hr hlk dX7_go_50 (by first | exact Nat.le_of_ble_eq_true rfl | (dsimp only [zRm]; omega) | omega) (by first | exact Nat.le_of_ble_eq_true rfl | (dsimp only [zRm]; omega) | omega) ⟨by rw [← j5, show g - zn (T 29 0) = 0 from by omega, goL_1 (by omega)] <;> rfl, by rw [← j5, show g - zn (T 29 0) = 0 from by omega, goL_1 (by omega)]; exact i2, i3⟩
        · refine z_iconst X (nI 4) dX7_go_39 (by decide) ?_
          exact z_iret X hr hlk dX7_go_40 (by first | exact Nat.le_of_ble_eq_true rfl | (dsimp only [zRm]; omega) | omega) (by first | exact Nat.le_of_ble_eq_true rfl | (dsimp only [zRm]; omega) | omega) ⟨by rw [← j5, goL_4 (by omega)] <;> rfl, by rw [← j5, goL_4 (by omega)]; exact i2, i3⟩
  · have j1z : ¬ (zn e = 4294967295 ∧ 0 < zn (T 36 0)) := fun z => j1 ⟨zn_inj z.1, z.2⟩
    refine z_iload_n X 2 dX7_go_11 rfl ?_
    refine z_iconst X (-1) dX7_go_12 (by decide) ?_
    refine z_icmpU_ne X (zn e) 4294967295 69 dX7_go_13 (by decide) (nI_zn _).symm (by decide) (zn_lt _) (by omega) (fun c18019 => ?_) (fun c18019 => ?_)
    · refine z_iload_n X 2 dX7_go_69 rfl ?_
      exact z_iret X hr hlk dX7_go_70 (by first | exact Nat.le_of_ble_eq_true rfl | (dsimp only [zRm]; omega) | omega) (by first | exact Nat.le_of_ble_eq_true rfl | (dsimp only [zRm]; omega) | omega) ⟨by rw [← j3], by rw [← j3]; exact i2, i3⟩
    · refine z_aload_n X 0 dX7_go_16 zref.r rfl ?_
      refine z_get X zP6 36 (by decide) q1599 (Or.inl rfl) (v := .int (T 36 0)) i2.1 (by decide) rfl dX7_go_17 ?_
      refine z_ifU_le X (zn (T 36 0)) 69 dX7_go_20 (by decide) (nI_zn _).symm (zn_lt _) (fun c18020 => ?_) (fun c18020 => ?_)
      · refine z_iload_n X 2 dX7_go_69 rfl ?_
        exact z_iret X hr hlk dX7_go_70 (by first | exact Nat.le_of_ble_eq_true rfl | (dsimp only [zRm]; omega) | omega) (by first | exact Nat.le_of_ble_eq_true rfl | (dsimp only [zRm]; omega) | omega) ⟨by rw [← j3], by rw [← j3]; exact i2, i3⟩
      · exfalso; omega
