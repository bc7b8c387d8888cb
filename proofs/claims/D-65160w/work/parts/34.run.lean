set_option maxRecDepth 100000
set_option maxHeartbeats 8000000 in
theorem c_X7_run {l : Launch} {G : ZG} {h : ZH} {E : Nat → Nat} {S : ZS} {x y : Int32} (D : MD E S h) (F : ZWF S) (FL : ZWL S) (RB : ZRB S) (C : S 12 0 ≠ 0 → ZCK S ∧ zBG S) (hroot : S 12 0 ≠ 0 → zIO S (zn (S 14 0))) : ZM l G yX7_run (ws_ yX7_run cX7_run 8 (Option.some FieldType.int)) (zRm 5 0 0 200) [.ref (E 0), .int x, .int y] h (fun v h' => v = some (.int (runF S x y).1) ∧ MD E (runF S x y).2 h' ∧ zOn zTM h h') := by
  refine ZT.zm (ZT.of (by first | exact plainFor_of_name (by decide) | decide +kernel) (Nat.le_of_ble_eq_true rfl) (zcats.r zref.r (zcats.i (zcats.i zcats.nil))) ?_)
  intro p_ e_ s_ m_ args_ below_ meth_ c_ X hr hlk hin htab
  have X : ZX p_ m_ c_ cX7_run 8 s_ args_ "LinkStationModel" G := X
  refine z_lv (lv' := [(0, .ref (E 0)), (1, .int x), (2, .int y)]) (fun _ hq => hq) ?_
  have hL := FL.1
  have hx := zn_lt x
  have hy := zn_lt y
  refine z_aload_n X 0 dX7_run_0 zref.r rfl ?_
  refine z_get X zP6 12 (by decide) q1575 (Or.inl rfl) (v := .int (S 12 0)) D.1 (by decide) rfl dX7_run_1 ?_
  refine z_ifU_eq X (zn (S 12 0)) 25 dX7_run_4 (by decide) (nI_zn _).symm (zn_lt _) (fun c22001 => ?_) (fun c22001 => ?_)
  · refine z_iconst X (-1) dX7_run_25 (by decide) ?_
    exact z_iret X hr hlk dX7_run_26 (by first | exact Nat.le_of_ble_eq_true rfl | (dsimp only [zRm]; omega) | omega) (by first | exact Nat.le_of_ble_eq_true rfl | (dsimp only [zRm]; omega) | omega) ⟨by rw [(show runF S x y = (-1, S) from by unfold runF; exact if_pos (by simp only [zeq_iff, zc0]; omega))], by rw [(show runF S x y = (-1, S) from by unfold runF; exact if_pos (by simp only [zeq_iff, zc0]; omega))]; exact D, zOn.rf⟩
  · refine z_iload_n X 1 dX7_run_7 rfl ?_
    refine z_callS X (rest := []) c_X7_isName (va_cwS 1 (zXts X) (lw_S q1698 q1699 q65 q1700) rfl rfl rfl (by decide +kernel) ⟨Nat.le_of_ble_eq_true rfl, Nat.le_of_ble_eq_true rfl⟩) rfl (Nat.le_of_ble_eq_true rfl) ⟨(by first | exact Nat.le_of_ble_eq_true rfl | (dsimp only [zRm]; omega)), (by first | exact Nat.le_of_ble_eq_true rfl | (dsimp only [zRm]; omega))⟩ dX7_run_8 (fun v22003 h22004 p22005 => ?_)
    obtain ⟨⟨c22002, rfl⟩ | ⟨c22002, rfl⟩, rfl⟩ := p22005
    · refine z_st (st' := [.int (nI 1)]) rfl ?_
      refine z_ifU_eq X 1 25 dX7_run_11 (by decide) rfl (by omega) (fun c22006 => ?_) (fun c22006 => ?_)
      · omega
      · refine z_iload_n X 2 dX7_run_14 rfl ?_
        refine z_ifU_lt X (zn y) 25 dX7_run_15 (by decide) (nI_zn _).symm (zn_lt _) (fun c22007 => ?_) (fun c22007 => ?_)
        · refine z_iconst X (-1) dX7_run_25 (by decide) ?_
          exact z_iret X hr hlk dX7_run_26 (by first | exact Nat.le_of_ble_eq_true rfl | (dsimp only [zRm]; omega) | omega) (by first | exact Nat.le_of_ble_eq_true rfl | (dsimp only [zRm]; omega) | omega) ⟨by rw [(show runF S x y = (-1, S) from by unfold runF; exact if_pos (by simp only [zeq_iff, zc0]; omega))], by rw [(show runF S x y = (-1, S) from by unfold runF; exact if_pos (by simp only [zeq_iff, zc0]; omega))]; exact D, zOn.rf⟩
        · refine z_iload_n X 2 dX7_run_18 rfl ?_
          refine z_sipush X (nI 5000) dX7_run_19 (by decide) ?_
          refine z_icmpU_le X (zn y) 5000 27 dX7_run_22 (by decide) (nI_zn _).symm rfl (zn_lt _) (by omega) (fun c22008 => ?_) (fun c22008 => ?_)
          · refine z_aload_n X 0 dX7_run_27 zref.r rfl ?_
            refine z_aload_n X 0 dX7_run_28 zref.r rfl ?_
            refine z_get X zP6 16 (by decide) q1579 (Or.inl rfl) D.1 (by decide) rfl dX7_run_29 ?_
            refine z_aload_n X 0 dX7_run_32 zref.r rfl ?_
            refine z_get X zP6 15 (by decide) q1578 (Or.inl rfl) (v := .int (S 15 0)) D.1 (by decide) rfl dX7_run_33 ?_
            refine z_aload_n X 0 dX7_run_36 zref.r rfl ?_
            refine z_get X zP6 14 (by decide) q1577 (Or.inl rfl) (v := .int (S 14 0)) D.1 (by decide) rfl dX7_run_37 ?_
            refine z_iload_n X 1 dX7_run_40 rfl ?_
            have hpre : ¬ (S 12 0 = 0 ∨ 64 ≤ zn x ∨ 5001 ≤ zn y) := by simp only [zeq_iff, zc0]; omega
            have hload : S 12 0 ≠ 0 := fun z => hpre (Or.inl z)
            obtain ⟨CK, BG⟩ := C hload
            refine z_st (st' := [.int x, .int (S 14 0), .int (nI (zn (S 15 0))), .ref (E 16), .ref (E 0)]) (by simp only [nI_zn]) ?_
            refine z_st (st' := [.int x, .int (nI (zn (S 14 0))), .int (nI (zn (S 15 0))), .ref (E 16), .ref (E 0)]) (by simp only [nI_zn]) ?_
            refine z_callV X (rest := []) (c_X7_find_16 D F (n := zn (S 15 0)) (m := zn (S 14 0)) (x := x) FL.2.2.2 hL FL.2.1) (cwV 4 (zXts X) (lw_V q1742 q1744 qs35 q65 q1745) rfl rfl rfl (by decide +kernel) ⟨Nat.le_of_ble_eq_true rfl, Nat.le_of_ble_eq_true rfl⟩) D.1 (by decide) rfl rfl (Nat.le_of_ble_eq_true rfl) ⟨(by first | exact Nat.le_of_ble_eq_true rfl | (dsimp only [zRm]; omega)), (by first | exact Nat.le_of_ble_eq_true rfl | (dsimp only [zRm]; omega))⟩ dX7_run_41 (fun v22009 h22010 p22011 => ?_)
            obtain ⟨rfl, rfl⟩ := p22011
            rcases hF22012 : fnd S (S 16) (zn (S 15 0)) (zn (S 14 0)) x with _ | d
            · refine z_st (st' := [.int (-1)]) rfl ?_
              refine z_istore_n X (lv' := [(3, .int (-1)), (0, .ref (E 0)), (1, .int x), (2, .int y)]) dX7_run_44 (by decide) rfl ?_
              refine z_iload_n X 0 dX7_run_45 rfl ?_
              refine z_iconst X (-1) dX7_run_46 (by decide) ?_
              refine z_icmpU_eq X 4294967295 4294967295 59 dX7_run_47 (by decide) (by decide) (by decide) (by omega) (by omega) (fun c22013 => ?_) (fun c22013 => ?_)
              · refine z_iconst X (-1) dX7_run_59 (by decide) ?_
                exact z_iret X hr hlk dX7_run_60 (by first | exact Nat.le_of_ble_eq_true rfl | (dsimp only [zRm]; omega) | omega) (by first | exact Nat.le_of_ble_eq_true rfl | (dsimp only [zRm]; omega) | omega) ⟨by rw [(show runF S x y = (-1, S) from by unfold runF; rw [if_neg hpre, hF22012])], by rw [(show runF S x y = (-1, S) from by unfold runF; rw [if_neg hpre, hF22012])]; exact D, zOn.rf⟩
              · omega
            · refine z_st (st' := [.int (nI d)]) rfl ?_
              have hdf := F.df hF22012 FL.2.2.2 FL.2.1
              refine z_istore_n X (lv' := [(3, .int (nI d)), (0, .ref (E 0)), (1, .int x), (2, .int y)]) dX7_run_44 (by decide) rfl ?_
              refine z_iload_n X 0 dX7_run_45 rfl ?_
              refine z_iconst X (-1) dX7_run_46 (by decide) ?_
              refine z_icmpU_eq X d 4294967295 59 dX7_run_47 (by decide) rfl (by decide) (by omega) (by omega) (fun c22014 => ?_) (fun c22014 => ?_)
              · refine z_iconst X (-1) dX7_run_59 (by decide) ?_
                exact z_iret X hr hlk dX7_run_60 (by first | exact Nat.le_of_ble_eq_true rfl | (dsimp only [zRm]; omega) | omega) (by first | exact Nat.le_of_ble_eq_true rfl | (dsimp only [zRm]; omega) | omega) ⟨by rw [(show runF S x y = (-1, S) from by unfold runF; rw [if_neg hpre, hF22012]; exact if_neg (by rw [zeq_iff, zc0]; omega))], by rw [(show runF S x y = (-1, S) from by unfold runF; rw [if_neg hpre, hF22012]; exact if_neg (by rw [zeq_iff, zc0]; omega))]; exact D, zOn.rf⟩
              · refine z_aload_n X 1 dX7_run_50 zref.r rfl ?_
                refine z_get X zP6 4 (by decide) q1567 (Or.inl rfl) D.1 (by decide) rfl dX7_run_51 ?_
                refine z_iload_n X 0 dX7_run_54 rfl ?_
                refine z_iald X (v := .int ((S 4) d)) d (D.2.1 4 rfl) (by decide) rfl (by show _ < 240; omega) (by decide) rfl dX7_run_55 ?_
                refine z_ifU_eq X (zn ((S 4) d)) 61 dX7_run_56 (by decide) (nI_zn _).symm (zn_lt _) (fun c22015 => ?_) (fun c22015 => ?_)
                · have hk0 : S 4 d = 0 := by rw [zeq_iff, zc0]; omega
                  refine z_aload_n X 1 dX7_run_61 zref.r rfl ?_
                  refine z_callV X (rest := []) (c_X7_setAll D F FL) (cwV 0 (zXts X) (lw_V q1750 q1752 qs37 q65 q1753) rfl rfl rfl (by decide +kernel) ⟨Nat.le_of_ble_eq_true rfl, Nat.le_of_ble_eq_true rfl⟩) D.1 (by decide) rfl rfl (Nat.le_of_ble_eq_true rfl) ⟨(by first | exact Nat.le_of_ble_eq_true rfl | (dsimp only [zRm]; omega)), (by first | exact Nat.le_of_ble_eq_true rfl | (dsimp only [zRm]; omega))⟩ dX7_run_62 (fun v22016 h22017 p22018 => ?_)
                  obtain ⟨rfl, D2, O2⟩ := p22018
                  refine z_st (st' := []) rfl ?_
                  refine z_iconst X (nI 0) dX7_run_65 (by decide) ?_
                  refine z_istore X (lv' := [(4, .int (nI 0)), (3, .int (nI d)), (0, .ref (E 0)), (1, .int x), (2, .int y)]) dX7_run_66 (by decide) rfl ?_
                  refine z_lvp (lv' := [(0, .ref (E 0)), (1, .int x), (2, .int y), (3, .int (nI d)), (4, .int (nI 0))]) [2, 3, 4, 1, 0] rfl ?_
                  refine z_loop (σ := Nat × ZH) (fun y9 => y9.1 ≤ 8 ∧ MD E (zsa (allF S) 28 (zfil (fun _ => 0) (S 28) y9.1)) y9.2 ∧ zOn zTM h y9.2) (fun y9 => 8 - y9.1) (fun y9 => [(0, .ref (E 0)), (1, .int x), (2, .int y), (3, .int (nI d)), (4, .int (nI y9.1))]) (fun y9 => []) (fun y9 => y9.2) (fun y9 => 0 + 0 + 0 + 0) (fun y9 => 0 + 0 + 0 + 0) ?_ (0, h22017) (⟨by omega, by rw [zfil_0, show S 28 = allF S 28 from rfl, zsa_id]; exact D2, O2⟩)
                  intro ⟨k, h3⟩ hI ih
                  try dsimp only at hI
                  try dsimp only at ih
                  try dsimp only
                  obtain ⟨i1, i2, i3⟩ := hI
                  refine z_iload X 4 dX7_run_68 rfl ?_
                  refine z_bipush X (nI 8) dX7_run_70 (by decide) ?_
                  refine z_icmpU_ge X k 8 89 dX7_run_72 (by decide) rfl rfl (by omega) (by omega) (fun c22019 => ?_) (fun c22019 => ?_)
                  · have hk8 : k = 8 := by omega
                    subst hk8
                    refine z_aload_n X 0 dX7_run_89 zref.r rfl ?_
                    refine z_iconst X (nI 0) dX7_run_90 (by decide) ?_
                    refine z_put X zP6 29 (by decide) q1592 (Or.inl rfl) rfl i2.1 (by decide) (by decide) (zfits.i _) (Nat.le_of_ble_eq_true rfl) rfl dX7_run_91 ?_
                    refine z_nm fun h22020 e22021 => ?_
                    have D22022 : MD E (zsa (zsa (allF S) 28 (zfil (fun _ => 0) (S 28) 8)) 29 (fun _ => nI 0)) h22020 := i2.sF 29 (by decide) e22021
                    have o22023 := zOn.up i3 e22021 i2.1 (by decide)
                    refine z_aload_n X 0 dX7_run_94 zref.r rfl ?_
                    refine z_iconst X (nI 0) dX7_run_95 (by decide) ?_
                    refine z_put X zP6 30 (by decide) q1593 (Or.inl rfl) rfl D22022.1 (by decide) (by decide) (zfits.i _) (Nat.le_of_ble_eq_true rfl) rfl dX7_run_96 ?_
                    refine z_nm fun h22024 e22025 => ?_
                    have D22026 : MD E (zsa (zsa (zsa (allF S) 28 (zfil (fun _ => 0) (S 28) 8)) 29 (fun _ => nI 0)) 30 (fun _ => nI 0)) h22024 := D22022.sF 30 (by decide) e22025
                    have o22027 := zOn.up o22023 e22025 D22022.1 (by decide)
                    refine z_aload_n X 0 dX7_run_99 zref.r rfl ?_
                    refine z_iconst X (nI 0) dX7_run_100 (by decide) ?_
                    refine z_put X zP6 31 (by decide) q1594 (Or.inl rfl) rfl D22026.1 (by decide) (by decide) (zfits.i _) (Nat.le_of_ble_eq_true rfl) rfl dX7_run_101 ?_
                    refine z_nm fun h22028 e22029 => ?_
                    have D22030 : MD E (zsa (zsa (zsa (zsa (allF S) 28 (zfil (fun _ => 0) (S 28) 8)) 29 (fun _ => nI 0)) 30 (fun _ => nI 0)) 31 (fun _ => nI 0)) h22028 := D22026.sF 31 (by decide) e22029
                    have o22031 := zOn.up o22027 e22029 D22026.1 (by decide)
                    refine z_aload_n X 0 dX7_run_104 zref.r rfl ?_
                    refine z_iconst X (nI 0) dX7_run_105 (by decide) ?_
                    refine z_put X zP6 32 (by decide) q1595 (Or.inl rfl) rfl D22030.1 (by decide) (by decide) (zfits.i _) (Nat.le_of_ble_eq_true rfl) rfl dX7_run_106 ?_
                    refine z_nm fun h22032 e22033 => ?_
                    have D22034 : MD E (zsa (zsa (zsa (zsa (zsa (allF S) 28 (zfil (fun _ => 0) (S 28) 8)) 29 (fun _ => nI 0)) 30 (fun _ => nI 0)) 31 (fun _ => nI 0)) 32 (fun _ => nI 0)) h22032 := D22030.sF 32 (by decide) e22033
                    have o22035 := zOn.up o22031 e22033 D22030.1 (by decide)
                    have DB : MD E (rnA S) h22032 := D22034
                    have hRB := rnA_ok hload RB
                    have hlo : ∀ k, k < 18 → rnA S k = S k := fun k hk => rnA_lo hk
                    have hm0 : zn (rnA S 29 0) ≤ zn y := by show zn 0 ≤ zn y; rw [zc0]; omega
                    have hrun : runF S x y = (if (rnB (rnA S) d (zn y)).1 = -1 then 0 else (rnB (rnA S) d (zn y)).1, (rnB (rnA S) d (zn y)).2) := by unfold runF; rw [if_neg hpre, hF22012]; exact if_pos hk0
                    have hokS : zOK S d := ⟨hdf.1, by rcases hdf.2.2.2.2.2 with z | z; exact z ▸ hroot hload; exact z, hdf.2.2.2.1 hk0⟩
                    generalize rnA S = B at *
                    have FB : ZWF B := F.cg (fun k hk => hlo k (by omega))
                    have FLB : ZWL B := FL.cg (fun k hk hk2 => hlo k (by omega))
                    have CB : ZCK B := CK.cg hlo
                    have BGB : zBG B := by unfold zBG zIO; rw [hlo 15 (by decide), hlo 16 (by decide), hlo 17 (by decide)]; exact BG
                    have hok : zOK B d := hokS.cg (hlo 5 (by decide)) (hlo 15 (by decide)) (hlo 16 (by decide))
                    have hmB := FLB.1
                    have hall : ∀ p, p ≤ zn (B 15 0) → zbI B (zn y) (bgL B (zn y) p) := bgL_ok FB FLB CB BGB hRB (by omega) hm0
                    refine z_iconst X (-1) dX7_run_109 (by decide) ?_
                    refine z_istore X (lv' := [(4, .int (-1)), (0, .ref (E 0)), (1, .int x), (2, .int y), (3, .int (nI d))]) dX7_run_110 (by decide) rfl ?_
                    refine z_iconst X (nI 0) dX7_run_112 (by decide) ?_
                    refine z_istore X (lv' := [(5, .int (nI 0)), (4, .int (-1)), (0, .ref (E 0)), (1, .int x), (2, .int y), (3, .int (nI d))]) dX7_run_113 (by decide) rfl ?_
                    refine z_lvp (lv' := [(0, .ref (E 0)), (2, .int y), (3, .int (nI d)), (4, .int (-1)), (5, .int (nI 0))]) [2, 4, 5, 1, 0] rfl ?_
                    refine z_loop (σ := Nat × ZH) (fun y9 => y9.1 ≤ zn (B 15 0) ∧ MD E (bgL B (zn y) y9.1).2 y9.2 ∧ zOn zTM h y9.2) (fun y9 => zn (B 15 0) - y9.1) (fun y9 => [(0, .ref (E 0)), (2, .int y), (3, .int (nI d)), (4, .int ((bgL B (zn y) y9.1).1)), (5, .int (nI y9.1))]) (fun y9 => []) (fun y9 => y9.2) (fun y9 => 0 + 0 + 0 + 0) (fun y9 => 0 + 0 + 0 + 0) ?_ (0, h22032) (⟨Nat.zero_le _, DB, o22035⟩)
                    intro ⟨p, h4⟩ hI ih
                    try dsimp only at hI
                    try dsimp only at ih
                    try dsimp only
                    obtain ⟨q1, q2, q3⟩ := hI
                    obtain ⟨hz1, hz2, hz3⟩ := hall p q1
                    have e1 := zn_lt (bgL B (zn y) p).1
                    refine z_iload X 4 dX7_run_115 rfl ?_
                    refine z_aload_n X 0 dX7_run_117 zref.r rfl ?_
                    refine z_get X zP6 15 (by decide) q1578 (Or.inl rfl) (v := .int (B 15 0)) q2.1 (by decide) (by show some (Value.int (((bgL B (zn y) p).2) 15 0)) = _; rw [hz1 15 (by decide)]) dX7_run_118 ?_
                    refine z_icmpU_ge X p (zn (B 15 0)) 198 dX7_run_121 (by decide) rfl (nI_zn _).symm (by omega) (zn_lt _) (fun c22036 => ?_) (fun c22036 => ?_)
                    · have hfin : bgL B (zn y) (zn (B 15 0)) = bgL B (zn y) p := by by_cases z : (bgL B (zn y) p).1 = -1; rw [show zn (B 15 0) = p from by rw [zeq_iff, zcm] at z; omega]; have z2 := bgL_stay z (zn (B 15 0) - p); rwa [show p + (zn (B 15 0) - p) = zn (B 15 0) from by omega] at z2
                      refine z_iload X 3 dX7_run_198 rfl ?_
                      refine z_iconst X (-1) dX7_run_200 (by decide) ?_
                      refine z_icmpU_ne X (zn ((bgL B (zn y) p).1)) 4294967295 213 dX7_run_201 (by decide) (nI_zn _).symm (by decide) (zn_lt _) (by omega) (fun c22037 => ?_) (fun c22037 => ?_)
                      · refine z_iload X 3 dX7_run_213 rfl ?_
                        refine z_istore X (lv' := [(4, .int ((bgL B (zn y) p).1)), (0, .ref (E 0)), (2, .int y), (3, .int (nI d)), (5, .int (nI p))]) dX7_run_215 (by decide) rfl ?_
                        refine z_iload X 0 dX7_run_217 rfl ?_
                        refine z_iconst X (-1) dX7_run_219 (by decide) ?_
                        refine z_icmpU_ne X (zn ((bgL B (zn y) p).1)) 4294967295 227 dX7_run_220 (by decide) (nI_zn _).symm (by decide) (zn_lt _) (by omega) (fun c22038 => ?_) (fun c22038 => ?_)
                        · refine z_iload X 0 dX7_run_227 rfl ?_
                          have hr9 : rnB B d (zn y) = bgL B (zn y) p := by unfold rnB; rw [hfin]; exact if_neg (by rw [zeq_iff, zcm]; omega)
                          rw [hr9] at hrun
                          rw [if_neg (by rw [zeq_iff, zcm]; omega)] at hrun
                          exact z_iret X hr hlk dX7_run_229 (by first | exact Nat.le_of_ble_eq_true rfl | (dsimp only [zRm]; omega) | omega) (by first | exact Nat.le_of_ble_eq_true rfl | (dsimp only [zRm]; omega) | omega) ⟨by rw [hrun] <;> rfl, by rw [hrun]; exact q2, q3⟩
                        · refine z_iconst X (nI 0) dX7_run_223 (by decide) ?_
                          refine z_goto X 229 dX7_run_224 (by decide) ?_
                          have hr9 : rnB B d (zn y) = bgL B (zn y) p := by unfold rnB; rw [hfin]; exact if_neg (by rw [zeq_iff, zcm]; omega)
                          rw [hr9] at hrun
                          rw [if_pos (by rw [zeq_iff, zcm]; omega)] at hrun
                          exact z_iret X hr hlk dX7_run_229 (by first | exact Nat.le_of_ble_eq_true rfl | (dsimp only [zRm]; omega) | omega) (by first | exact Nat.le_of_ble_eq_true rfl | (dsimp only [zRm]; omega) | omega) ⟨by rw [hrun] <;> rfl, by rw [hrun]; exact q2, q3⟩
                      · refine z_aload_n X 0 dX7_run_204 zref.r rfl ?_
                        refine z_iload_n X 2 dX7_run_205 rfl ?_
                        refine z_iload_n X 1 dX7_run_206 rfl ?_
                        refine z_st (st' := [.int (nI (zn y)), .int (nI d), .ref (E 0)]) (by simp only [nI_zn]) ?_
                        refine z_callV X (rest := []) (c_X7_go q2 (FB.cg (fun k hk => hz1 k (by omega))) (d := d) (g := zn y) (FLB.cg (fun k hk hk2 => hz1 k (by omega))) (CB.cg hz1) hz2 (hok.cg (hz1 5 (by decide)) (hz1 15 (by decide)) (hz1 16 (by decide))) hz3 (by omega)) (cwV 2 (zXts X) (lw_V q1786 q1788 qs41 q65 q1789) rfl rfl rfl (by decide +kernel) ⟨Nat.le_of_ble_eq_true rfl, Nat.le_of_ble_eq_true rfl⟩) q2.1 (by decide) rfl rfl (Nat.le_of_ble_eq_true rfl) ⟨(by first | exact Nat.le_of_ble_eq_true rfl | (dsimp only [zRm]; omega)), (by first | exact Nat.le_of_ble_eq_true rfl | (dsimp only [zRm]; omega))⟩ dX7_run_207 (fun v22039 h22040 p22041 => ?_)
                        obtain ⟨rfl, D7, O7⟩ := p22041
                        refine z_st (st' := [.int ((goF (bgL B (zn y) p).2 d (zn y)).1)]) rfl ?_
                        refine z_goto X 215 dX7_run_210 (by decide) ?_
                        refine z_istore X (lv' := [(4, .int ((goF (bgL B (zn y) p).2 d (zn y)).1)), (0, .ref (E 0)), (2, .int y), (3, .int (nI d)), (5, .int (nI p))]) dX7_run_215 (by decide) rfl ?_
                        refine z_iload X 0 dX7_run_217 rfl ?_
                        refine z_iconst X (-1) dX7_run_219 (by decide) ?_
                        refine z_icmpU_ne X (zn ((goF (bgL B (zn y) p).2 d (zn y)).1)) 4294967295 227 dX7_run_220 (by decide) (nI_zn _).symm (by decide) (zn_lt _) (by omega) (fun c22042 => ?_) (fun c22042 => ?_)
                        · refine z_iload X 0 dX7_run_227 rfl ?_
                          have hr9 : rnB B d (zn y) = goF (bgL B (zn y) p).2 d (zn y) := by unfold rnB; rw [hfin]; exact if_pos (by rw [zeq_iff, zcm]; omega)
                          rw [hr9] at hrun
                          rw [if_neg (by rw [zeq_iff, zcm]; omega)] at hrun
                          exact z_iret X hr hlk dX7_run_229 (by first | exact Nat.le_of_ble_eq_true rfl | (dsimp only [zRm]; omega) | omega) (by first | exact Nat.le_of_ble_eq_true rfl | (dsimp only [zRm]; omega) | omega) ⟨by rw [hrun] <;> rfl, by rw [hrun]; exact D7, (q3).trans O7⟩
                        · refine z_iconst X (nI 0) dX7_run_223 (by decide) ?_
                          refine z_goto X 229 dX7_run_224 (by decide) ?_
                          have hr9 : rnB B d (zn y) = goF (bgL B (zn y) p).2 d (zn y) := by unfold rnB; rw [hfin]; exact if_pos (by rw [zeq_iff, zcm]; omega)
                          rw [hr9] at hrun
                          rw [if_pos (by rw [zeq_iff, zcm]; omega)] at hrun
                          exact z_iret X hr hlk dX7_run_229 (by first | exact Nat.le_of_ble_eq_true rfl | (dsimp only [zRm]; omega) | omega) (by first | exact Nat.le_of_ble_eq_true rfl | (dsimp only [zRm]; omega) | omega) ⟨by rw [hrun] <;> rfl, by rw [hrun]; exact D7, (q3).trans O7⟩
                    · refine z_iload X 3 dX7_run_124 rfl ?_
                      refine z_iconst X (-1) dX7_run_126 (by decide) ?_
                      refine z_icmpU_ne X (zn ((bgL B (zn y) p).1)) 4294967295 198 dX7_run_127 (by decide) (nI_zn _).symm (by decide) (zn_lt _) (by omega) (fun c22043 => ?_) (fun c22043 => ?_)
                      · have hfin : bgL B (zn y) (zn (B 15 0)) = bgL B (zn y) p := by by_cases z : (bgL B (zn y) p).1 = -1; rw [show zn (B 15 0) = p from by rw [zeq_iff, zcm] at z; omega]; have z2 := bgL_stay z (zn (B 15 0) - p); rwa [show p + (zn (B 15 0) - p) = zn (B 15 0) from by omega] at z2
                        refine z_iload X 3 dX7_run_198 rfl ?_
                        refine z_iconst X (-1) dX7_run_200 (by decide) ?_
                        refine z_icmpU_ne X (zn ((bgL B (zn y) p).1)) 4294967295 213 dX7_run_201 (by decide) (nI_zn _).symm (by decide) (zn_lt _) (by omega) (fun c22044 => ?_) (fun c22044 => ?_)
                        · refine z_iload X 3 dX7_run_213 rfl ?_
                          refine z_istore X (lv' := [(4, .int ((bgL B (zn y) p).1)), (0, .ref (E 0)), (2, .int y), (3, .int (nI d)), (5, .int (nI p))]) dX7_run_215 (by decide) rfl ?_
                          refine z_iload X 0 dX7_run_217 rfl ?_
                          refine z_iconst X (-1) dX7_run_219 (by decide) ?_
                          refine z_icmpU_ne X (zn ((bgL B (zn y) p).1)) 4294967295 227 dX7_run_220 (by decide) (nI_zn _).symm (by decide) (zn_lt _) (by omega) (fun c22045 => ?_) (fun c22045 => ?_)
                          · refine z_iload X 0 dX7_run_227 rfl ?_
                            have hr9 : rnB B d (zn y) = bgL B (zn y) p := by unfold rnB; rw [hfin]; exact if_neg (by rw [zeq_iff, zcm]; omega)
                            rw [hr9] at hrun
                            rw [if_neg (by rw [zeq_iff, zcm]; omega)] at hrun
                            exact z_iret X hr hlk dX7_run_229 (by first | exact Nat.le_of_ble_eq_true rfl | (dsimp only [zRm]; omega) | omega) (by first | exact Nat.le_of_ble_eq_true rfl | (dsimp only [zRm]; omega) | omega) ⟨by rw [hrun] <;> rfl, by rw [hrun]; exact q2, q3⟩
                          · refine z_iconst X (nI 0) dX7_run_223 (by decide) ?_
                            refine z_goto X 229 dX7_run_224 (by decide) ?_
                            have hr9 : rnB B d (zn y) = bgL B (zn y) p := by unfold rnB; rw [hfin]; exact if_neg (by rw [zeq_iff, zcm]; omega)
                            rw [hr9] at hrun
                            rw [if_pos (by rw [zeq_iff, zcm]; omega)] at hrun
                            exact z_iret X hr hlk dX7_run_229 (by first | exact Nat.le_of_ble_eq_true rfl | (dsimp only [zRm]; omega) | omega) (by first | exact Nat.le_of_ble_eq_true rfl | (dsimp only [zRm]; omega) | omega) ⟨by rw [hrun] <;> rfl, by rw [hrun]; exact q2, q3⟩
                        · refine z_aload_n X 0 dX7_run_204 zref.r rfl ?_
                          refine z_iload_n X 2 dX7_run_205 rfl ?_
                          refine z_iload_n X 1 dX7_run_206 rfl ?_
                          refine z_st (st' := [.int (nI (zn y)), .int (nI d), .ref (E 0)]) (by simp only [nI_zn]) ?_
                          refine z_callV X (rest := []) (c_X7_go q2 (FB.cg (fun k hk => hz1 k (by omega))) (d := d) (g := zn y) (FLB.cg (fun k hk hk2 => hz1 k (by omega))) (CB.cg hz1) hz2 (hok.cg (hz1 5 (by decide)) (hz1 15 (by decide)) (hz1 16 (by decide))) hz3 (by omega)) (cwV 2 (zXts X) (lw_V q1786 q1788 qs41 q65 q1789) rfl rfl rfl (by decide +kernel) ⟨Nat.le_of_ble_eq_true rfl, Nat.le_of_ble_eq_true rfl⟩) q2.1 (by decide) rfl rfl (Nat.le_of_ble_eq_true rfl) ⟨(by first | exact Nat.le_of_ble_eq_true rfl | (dsimp only [zRm]; omega)), (by first | exact Nat.le_of_ble_eq_true rfl | (dsimp only [zRm]; omega))⟩ dX7_run_207 (fun v22046 h22047 p22048 => ?_)
                          obtain ⟨rfl, D7, O7⟩ := p22048
                          refine z_st (st' := [.int ((goF (bgL B (zn y) p).2 d (zn y)).1)]) rfl ?_
                          refine z_goto X 215 dX7_run_210 (by decide) ?_
                          refine z_istore X (lv' := [(4, .int ((goF (bgL B (zn y) p).2 d (zn y)).1)), (0, .ref (E 0)), (2, .int y), (3, .int (nI d)), (5, .int (nI p))]) dX7_run_215 (by decide) rfl ?_
                          refine z_iload X 0 dX7_run_217 rfl ?_
                          refine z_iconst X (-1) dX7_run_219 (by decide) ?_
                          refine z_icmpU_ne X (zn ((goF (bgL B (zn y) p).2 d (zn y)).1)) 4294967295 227 dX7_run_220 (by decide) (nI_zn _).symm (by decide) (zn_lt _) (by omega) (fun c22049 => ?_) (fun c22049 => ?_)
                          · refine z_iload X 0 dX7_run_227 rfl ?_
                            have hr9 : rnB B d (zn y) = goF (bgL B (zn y) p).2 d (zn y) := by unfold rnB; rw [hfin]; exact if_pos (by rw [zeq_iff, zcm]; omega)
                            rw [hr9] at hrun
                            rw [if_neg (by rw [zeq_iff, zcm]; omega)] at hrun
                            exact z_iret X hr hlk dX7_run_229 (by first | exact Nat.le_of_ble_eq_true rfl | (dsimp only [zRm]; omega) | omega) (by first | exact Nat.le_of_ble_eq_true rfl | (dsimp only [zRm]; omega) | omega) ⟨by rw [hrun] <;> rfl, by rw [hrun]; exact D7, (q3).trans O7⟩
                          · refine z_iconst X (nI 0) dX7_run_223 (by decide) ?_
                            refine z_goto X 229 dX7_run_224 (by decide) ?_
                            have hr9 : rnB B d (zn y) = goF (bgL B (zn y) p).2 d (zn y) := by unfold rnB; rw [hfin]; exact if_pos (by rw [zeq_iff, zcm]; omega)
                            rw [hr9] at hrun
                            rw [if_pos (by rw [zeq_iff, zcm]; omega)] at hrun
                            exact z_iret X hr hlk dX7_run_229 (by first | exact Nat.le_of_ble_eq_true rfl | (dsimp only [zRm]; omega) | omega) (by first | exact Nat.le_of_ble_eq_true rfl | (dsimp only [zRm]; omega) | omega) ⟨by rw [hrun] <;> rfl, by rw [hrun]; exact D7, (q3).trans O7⟩
                      · refine z_aload_n X 0 dX7_run_130 zref.r rfl ?_
                        refine z_get X zP6 17 (by decide) q1580 (Or.inl rfl) q2.1 (by decide) rfl dX7_run_131 ?_
                        refine z_iload X 4 dX7_run_134 rfl ?_
                        refine z_iald X (v := .int (B 17 p)) p (q2.2.1 17 rfl) (by decide) rfl (by show _ < 12; omega) (by decide) (congrArg Value.int (congrFun (hz1 17 (by decide)) _)) dX7_run_136 ?_
                        refine z_istore X (lv' := [(6, .int (B 17 p)), (0, .ref (E 0)), (2, .int y), (3, .int (nI d)), (4, .int ((bgL B (zn y) p).1)), (5, .int (nI p))]) dX7_run_137 (by decide) rfl ?_
                        have hbp := FLB.2.2.1 p (by omega)
                        have hr1 : (bgL B (zn y) p).1 = -1 := by rw [zeq_iff, zcm]; omega
                        refine z_aload_n X 1 dX7_run_139 zref.r rfl ?_
                        refine z_get X zP6 11 (by decide) q1574 (Or.inl rfl) q2.1 (by decide) rfl dX7_run_140 ?_
                        refine z_iload X 0 dX7_run_143 rfl ?_
                        refine z_iald X (v := .int (B 11 (zn (B 17 p)))) (zn (B 17 p)) (q2.2.1 11 rfl) (by decide) (nI_zn _).symm (by show _ < 12; omega) (by decide) (congrArg Value.int (congrFun (hz1 11 (by decide)) _)) dX7_run_145 ?_
                        refine z_iconst X (-1) dX7_run_146 (by decide) ?_
                        refine z_icmpU_ne X (zn (B 11 (zn (B 17 p)))) 4294967295 154 dX7_run_147 (by decide) (nI_zn _).symm (by decide) (zn_lt _) (by omega) (fun c22050 => ?_) (fun c22050 => ?_)
                        · refine z_aload_n X 1 dX7_run_154 zref.r rfl ?_
                          refine z_aload_n X 1 dX7_run_155 zref.r rfl ?_
                          refine z_get X zP6 16 (by decide) q1579 (Or.inl rfl) q2.1 (by decide) rfl dX7_run_156 ?_
                          refine z_aload_n X 1 dX7_run_159 zref.r rfl ?_
                          refine z_get X zP6 15 (by decide) q1578 (Or.inl rfl) (v := .int (B 15 0)) q2.1 (by decide) (by show some (Value.int (((bgL B (zn y) p).2) 15 0)) = _; rw [hz1 15 (by decide)]) dX7_run_160 ?_
                          refine z_iload X 0 dX7_run_163 rfl ?_
                          refine z_aload_n X 1 dX7_run_165 zref.r rfl ?_
                          refine z_get X zP6 11 (by decide) q1574 (Or.inl rfl) q2.1 (by decide) rfl dX7_run_166 ?_
                          refine z_iload X 0 dX7_run_169 rfl ?_
                          refine z_iald X (v := .int (B 11 (zn (B 17 p)))) (zn (B 17 p)) (q2.2.1 11 rfl) (by decide) (nI_zn _).symm (by show _ < 12; omega) (by decide) (congrArg Value.int (congrFun (hz1 11 (by decide)) _)) dX7_run_171 ?_
                          have hne : ¬ B 11 (zn (B 17 p)) = -1 := by rw [zeq_iff, zcm]; omega
                          refine z_st (st' := [.int (B 11 (zn (B 17 p))), .int (B 17 p), .int (nI (zn (B 15 0))), .ref (E 16), .ref (E 0)]) (by simp only [nI_zn]) ?_
                          refine z_st (st' := [.int (B 11 (zn (B 17 p))), .int (nI (zn (B 17 p))), .int (nI (zn (B 15 0))), .ref (E 16), .ref (E 0)]) (by simp only [nI_zn]) ?_
                          refine z_callV X (rest := []) (ZM.post (Post' := fun v h' => v = some (.int (oI (fnd B (B 16) (zn (B 15 0)) (zn (B 17 p)) (B 11 (zn (B 17 p)))))) ∧ h4 = h') (c_X7_find_16 q2 (FB.cg (fun k hk => hz1 k (by omega))) (n := zn (B 15 0)) (m := zn (B 17 p)) (x := B 11 (zn (B 17 p))) hbp hmB (fun q hq => by rw [hz1 16 (by decide)]; exact FLB.2.1 q hq)) (fun v h9 hp => ⟨hp.1.trans (by rw [fnd_cg (S := B) (hz1 3 (by decide)) (hz1 6 (by decide)) (hz1 7 (by decide)), hz1 16 (by decide)]), hp.2⟩)) (cwV 4 (zXts X) (lw_V q1742 q1744 qs35 q65 q1745) rfl rfl rfl (by decide +kernel) ⟨Nat.le_of_ble_eq_true rfl, Nat.le_of_ble_eq_true rfl⟩) q2.1 (by decide) rfl rfl (Nat.le_of_ble_eq_true rfl) ⟨(by first | exact Nat.le_of_ble_eq_true rfl | (dsimp only [zRm]; omega)), (by first | exact Nat.le_of_ble_eq_true rfl | (dsimp only [zRm]; omega))⟩ dX7_run_172 (fun v22051 h22052 p22053 => ?_)
                          obtain ⟨rfl, rfl⟩ := p22053
                          rcases hF22054 : fnd B (B 16) (zn (B 15 0)) (zn (B 17 p)) (B 11 (zn (B 17 p))) with _ | e
                          · refine z_st (st' := [.int (-1)]) rfl ?_
                            have hbd : zbD B p = none := by unfold zbD; rw [if_neg hne]; exact hF22054
                            refine z_istore X (lv' := [(7, .int (-1)), (6, .int (B 17 p)), (0, .ref (E 0)), (2, .int y), (3, .int (nI d)), (4, .int ((bgL B (zn y) p).1)), (5, .int (nI p))]) dX7_run_175 (by decide) rfl ?_
                            refine z_iload X 0 dX7_run_177 rfl ?_
                            refine z_iconst X (-1) dX7_run_179 (by decide) ?_
                            refine z_icmpU_eq X 4294967295 4294967295 192 dX7_run_180 (by decide) (by decide) (by decide) (by omega) (by omega) (fun c22055 => ?_) (fun c22055 => ?_)
                            · refine z_iinc X (lv' := [(5, .int (nI (p + 1))), (7, .int (-1)), (6, .int (B 17 p)), (0, .ref (E 0)), (2, .int y), (3, .int (nI d)), (4, .int ((bgL B (zn y) p).1))]) (nI (p + 1)) 6 dX7_run_192 rfl (nI_1 _) (by decide) rfl ?_
                              refine z_goto X 115 dX7_run_195 (by decide) ?_
                              have hs9 : bgL B (zn y) (p + 1) = bgL B (zn y) p := bgL_no hr1 hbd
                              refine z_lvp (lv' := [(0, .ref (E 0)), (2, .int y), (3, .int (nI d)), (4, .int ((bgL B (zn y) p).1)), (5, .int (nI (p + 1)))]) [3, 4, 5, 6, 0] rfl ?_
                              refine z_lv (lv' := [(0, .ref (E 0)), (2, .int y), (3, .int (nI d)), (4, .int ((bgL B (zn y) (p + 1)).1)), (5, .int (nI (p + 1)))]) (by intro x9 h9; rw [hs9] at h9; exact h9) ?_
                              exact ih (p + 1, h4) ⟨by omega, by dsimp only; rw [hs9]; exact q2, q3⟩ (by dsimp only; omega)
                            · omega
                          · refine z_st (st' := [.int (nI e)]) rfl ?_
                            have hbd : zbD B p = some e := by unfold zbD; rw [if_neg hne]; exact hF22054
                            have hoke := zbD_ok FB FLB CB BGB (by omega) hbd
                            have he240 := hoke.1
                            refine z_istore X (lv' := [(7, .int (nI e)), (6, .int (B 17 p)), (0, .ref (E 0)), (2, .int y), (3, .int (nI d)), (4, .int ((bgL B (zn y) p).1)), (5, .int (nI p))]) dX7_run_175 (by decide) rfl ?_
                            refine z_iload X 0 dX7_run_177 rfl ?_
                            refine z_iconst X (-1) dX7_run_179 (by decide) ?_
                            refine z_icmpU_eq X e 4294967295 192 dX7_run_180 (by decide) rfl (by decide) (by omega) (by omega) (fun c22056 => ?_) (fun c22056 => ?_)
                            · refine z_iinc X (lv' := [(5, .int (nI (p + 1))), (7, .int (nI e)), (6, .int (B 17 p)), (0, .ref (E 0)), (2, .int y), (3, .int (nI d)), (4, .int ((bgL B (zn y) p).1))]) (nI (p + 1)) 6 dX7_run_192 rfl (nI_1 _) (by decide) rfl ?_
                              refine z_goto X 115 dX7_run_195 (by decide) ?_
                              exfalso; omega
                            · refine z_aload_n X 2 dX7_run_183 zref.r rfl ?_
                              refine z_iload X 0 dX7_run_184 rfl ?_
                              refine z_iload_n X 3 dX7_run_186 rfl ?_
                              refine z_st (st' := [.int (nI (zn y)), .int (nI e), .ref (E 0)]) (by simp only [nI_zn]) ?_
                              refine z_callV X (rest := []) (c_X7_go q2 (FB.cg (fun k hk => hz1 k (by omega))) (d := e) (g := zn y) (FLB.cg (fun k hk hk2 => hz1 k (by omega))) (CB.cg hz1) hz2 (hoke.cg (hz1 5 (by decide)) (hz1 15 (by decide)) (hz1 16 (by decide))) hz3 (by omega)) (cwV 2 (zXts X) (lw_V q1786 q1788 qs41 q65 q1789) rfl rfl rfl (by decide +kernel) ⟨Nat.le_of_ble_eq_true rfl, Nat.le_of_ble_eq_true rfl⟩) q2.1 (by decide) rfl rfl (Nat.le_of_ble_eq_true rfl) ⟨(by first | exact Nat.le_of_ble_eq_true rfl | (dsimp only [zRm]; omega)), (by first | exact Nat.le_of_ble_eq_true rfl | (dsimp only [zRm]; omega))⟩ dX7_run_187 (fun v22057 h22058 p22059 => ?_)
                              obtain ⟨rfl, D7, O7⟩ := p22059
                              refine z_st (st' := [.int ((goF (bgL B (zn y) p).2 e (zn y)).1)]) rfl ?_
                              refine z_istore X (lv' := [(4, .int ((goF (bgL B (zn y) p).2 e (zn y)).1)), (7, .int (nI e)), (6, .int (B 17 p)), (0, .ref (E 0)), (2, .int y), (3, .int (nI d)), (5, .int (nI p))]) dX7_run_190 (by decide) rfl ?_
                              refine z_iinc X (lv' := [(5, .int (nI (p + 1))), (4, .int ((goF (bgL B (zn y) p).2 e (zn y)).1)), (7, .int (nI e)), (6, .int (B 17 p)), (0, .ref (E 0)), (2, .int y), (3, .int (nI d))]) (nI (p + 1)) 6 dX7_run_192 rfl (nI_1 _) (by decide) rfl ?_
                              refine z_goto X 115 dX7_run_195 (by decide) ?_
                              have hs9 : bgL B (zn y) (p + 1) = goF (bgL B (zn y) p).2 e (zn y) := bgL_go hr1 hbd
                              refine z_lvp (lv' := [(0, .ref (E 0)), (2, .int y), (3, .int (nI d)), (4, .int ((goF (bgL B (zn y) p).2 e (zn y)).1)), (5, .int (nI (p + 1)))]) [4, 5, 6, 1, 0] rfl ?_
                              refine z_lv (lv' := [(0, .ref (E 0)), (2, .int y), (3, .int (nI d)), (4, .int ((bgL B (zn y) (p + 1)).1)), (5, .int (nI (p + 1)))]) (by intro x9 h9; rw [hs9] at h9; exact h9) ?_
                              exact ih (p + 1, h22058) ⟨by omega, by dsimp only; rw [hs9]; exact D7, (q3).trans O7⟩ (by dsimp only; omega)
                        · refine z_iconst X (-1) dX7_run_150 (by decide) ?_
                          refine z_goto X 175 dX7_run_151 (by decide) ?_
                          refine z_istore X (lv' := [(7, .int (-1)), (6, .int (B 17 p)), (0, .ref (E 0)), (2, .int y), (3, .int (nI d)), (4, .int ((bgL B (zn y) p).1)), (5, .int (nI p))]) dX7_run_175 (by decide) rfl ?_
                          refine z_iload X 0 dX7_run_177 rfl ?_
                          refine z_iconst X (-1) dX7_run_179 (by decide) ?_
                          refine z_icmpU_eq X 4294967295 4294967295 192 dX7_run_180 (by decide) (by decide) (by decide) (by omega) (by omega) (fun c22060 => ?_) (fun c22060 => ?_)
                          · refine z_iinc X (lv' := [(5, .int (nI (p + 1))), (7, .int (-1)), (6, .int (B 17 p)), (0, .ref (E 0)), (2, .int y), (3, .int (nI d)), (4, .int ((bgL B (zn y) p).1))]) (nI (p + 1)) 6 dX7_run_192 rfl (nI_1 _) (by decide) rfl ?_
                            refine z_goto X 115 dX7_run_195 (by decide) ?_
                            have hbd : zbD B p = none := if_pos (by rw [zeq_iff, zcm]; omega)
                            have hs9 : bgL B (zn y) (p + 1) = bgL B (zn y) p := bgL_no hr1 hbd
                            refine z_lvp (lv' := [(0, .ref (E 0)), (2, .int y), (3, .int (nI d)), (4, .int ((bgL B (zn y) p).1)), (5, .int (nI (p + 1)))]) [3, 4, 5, 6, 0] rfl ?_
                            refine z_lv (lv' := [(0, .ref (E 0)), (2, .int y), (3, .int (nI d)), (4, .int ((bgL B (zn y) (p + 1)).1)), (5, .int (nI (p + 1)))]) (by intro x9 h9; rw [hs9] at h9; exact h9) ?_
                            exact ih (p + 1, h4) ⟨by omega, by dsimp only; rw [hs9]; exact q2, q3⟩ (by dsimp only; omega)
                          · omega
                  · refine z_aload_n X 0 dX7_run_75 zref.r rfl ?_
                    refine z_get X zP6 28 (by decide) q1591 (Or.inl rfl) i2.1 (by decide) rfl dX7_run_76 ?_
                    refine z_iload X 4 dX7_run_79 rfl ?_
                    refine z_iconst X (nI 0) dX7_run_81 (by decide) ?_
                    refine z_iast X k (i2.2.1 28 rfl) (by decide) (by decide) rfl (by show _ < 8; omega) (by decide) (f' := fun i => .int ((zu (zfil (fun _ => 0) (S 28) k) k (nI 0)) i)) (fun _ => zu_v _) dX7_run_82 ?_
                    refine z_nm fun h22061 e22062 => ?_
                    have D22063 : MD E (zsa (zsa (allF S) 28 (zfil (fun _ => 0) (S 28) k)) 28 (zu (zfil (fun _ => 0) (S 28) k) k (nI 0))) h22061 := i2.sA 28 rfl e22062
                    have o22064 := zOn.up i3 e22062 (i2.2.1 28 rfl) (by decide)
                    refine z_iinc X (lv' := [(4, .int (nI (k + 1))), (0, .ref (E 0)), (1, .int x), (2, .int y), (3, .int (nI d))]) (nI (k + 1)) 4 dX7_run_83 rfl (nI_1 _) (by decide) rfl ?_
                    refine z_goto X 68 dX7_run_86 (by decide) ?_
                    refine z_lvp (lv' := [(0, .ref (E 0)), (1, .int x), (2, .int y), (3, .int (nI d)), (4, .int (nI (k + 1)))]) [1, 2, 3, 4, 0] rfl ?_
                    exact ih (k + 1, h22061) ⟨by omega, by have z9 := D22063; rw [zsa_zsa, zfil_s (g := fun _ => 0) (v := nI 0) rfl] at z9; exact z9, o22064⟩ (by dsimp only; omega)
                · refine z_iconst X (-1) dX7_run_59 (by decide) ?_
                  exact z_iret X hr hlk dX7_run_60 (by first | exact Nat.le_of_ble_eq_true rfl | (dsimp only [zRm]; omega) | omega) (by first | exact Nat.le_of_ble_eq_true rfl | (dsimp only [zRm]; omega) | omega) ⟨by rw [(show runF S x y = (-1, S) from by unfold runF; rw [if_neg hpre, hF22012]; exact if_neg (by rw [zeq_iff, zc0]; omega))], by rw [(show runF S x y = (-1, S) from by unfold runF; rw [if_neg hpre, hF22012]; exact if_neg (by rw [zeq_iff, zc0]; omega))]; exact D, zOn.rf⟩
          · refine z_iconst X (-1) dX7_run_25 (by decide) ?_
            exact z_iret X hr hlk dX7_run_26 (by first | exact Nat.le_of_ble_eq_true rfl | (dsimp only [zRm]; omega) | omega) (by first | exact Nat.le_of_ble_eq_true rfl | (dsimp only [zRm]; omega) | omega) ⟨by rw [(show runF S x y = (-1, S) from by unfold runF; exact if_pos (by simp only [zeq_iff, zc0]; omega))], by rw [(show runF S x y = (-1, S) from by unfold runF; exact if_pos (by simp only [zeq_iff, zc0]; omega))]; exact D, zOn.rf⟩
    · refine z_st (st' := [.int (nI 0)]) rfl ?_
      refine z_ifU_eq X 0 25 dX7_run_11 (by decide) rfl (by omega) (fun c22065 => ?_) (fun c22065 => ?_)
      · refine z_iconst X (-1) dX7_run_25 (by decide) ?_
        exact z_iret X hr hlk dX7_run_26 (by first | exact Nat.le_of_ble_eq_true rfl | (dsimp only [zRm]; omega) | omega) (by first | exact Nat.le_of_ble_eq_true rfl | (dsimp only [zRm]; omega) | omega) ⟨by rw [(show runF S x y = (-1, S) from by unfold runF; exact if_pos (by simp only [zeq_iff, zc0]; omega))], by rw [(show runF S x y = (-1, S) from by unfold runF; exact if_pos (by simp only [zeq_iff, zc0]; omega))]; exact D, zOn.rf⟩
      · omega
