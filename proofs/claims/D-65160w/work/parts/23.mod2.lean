set_option maxRecDepth 100000
set_option maxHeartbeats 4000000 in
theorem c_X7_need {l : Launch} {G : ZG} {h : ZH} {E : Nat → Nat} {S : ZS} {x y : Int32} (D : MD E S h) (F : ZWF S)  : ZM l G yX7_need (ws_ yX7_need cX7_need 4 (Option.some FieldType.int)) (zRm 1 0 0 40) [.ref (E 0), .int x, .int y] h (fun v h' => v = some (.int (needF S x y).1) ∧ MD E (needF S x y).2 h' ∧ zOn zTM h h') := by
  refine ZT.zm (ZT.of (by first | exact plainFor_of_name (by decide) | decide +kernel) (Nat.le_of_ble_eq_true rfl) (zcats.r zref.r (zcats.i (zcats.i zcats.nil))) ?_)
  intro p_ e_ s_ m_ args_ below_ meth_ c_ X hr hlk hin htab
  have X : ZX p_ m_ c_ cX7_need 4 s_ args_ "LinkStationModel" G := X
  refine z_lv (lv' := [(0, .ref (E 0)), (1, .int x), (2, .int y)]) (fun _ hq => hq) ?_
  have hM := F.mods
  have hN := F.nc (zn x)
  refine z_aload_n X 0 dX7_need_0 zref.r rfl ?_
  refine z_iload_n X 1 dX7_need_1 rfl ?_
  refine z_callV X (rest := []) (c_X7_isModule D F) (cwV 1 (zXts X) (lw_V q1690 q1692 qs30 q65 q1693) rfl rfl rfl (by decide +kernel) ⟨Nat.le_of_ble_eq_true rfl, Nat.le_of_ble_eq_true rfl⟩) D.1 (by decide) rfl rfl (Nat.le_of_ble_eq_true rfl) ⟨(by first | exact Nat.le_of_ble_eq_true rfl | (dsimp only [zRm]; omega)), (by first | exact Nat.le_of_ble_eq_true rfl | (dsimp only [zRm]; omega))⟩ dX7_need_2 (fun v2002 h2003 p2004 => ?_)
  obtain ⟨⟨c2001, rfl⟩ | ⟨c2001, rfl⟩, rfl⟩ := p2004
  · refine z_st (st' := [.int (nI 1)]) rfl ?_
    refine z_ifU_eq X 1 27 dX7_need_5 (by decide) rfl (by omega) (fun c2005 => ?_) (fun c2005 => ?_)
    · omega
    · refine z_aload_n X 0 dX7_need_8 zref.r rfl ?_
      refine z_iload_n X 2 dX7_need_9 rfl ?_
      refine z_callV X (rest := []) (c_X7_isModule D F) (cwV 1 (zXts X) (lw_V q1690 q1692 qs30 q65 q1693) rfl rfl rfl (by decide +kernel) ⟨Nat.le_of_ble_eq_true rfl, Nat.le_of_ble_eq_true rfl⟩) D.1 (by decide) rfl rfl (Nat.le_of_ble_eq_true rfl) ⟨(by first | exact Nat.le_of_ble_eq_true rfl | (dsimp only [zRm]; omega)), (by first | exact Nat.le_of_ble_eq_true rfl | (dsimp only [zRm]; omega))⟩ dX7_need_10 (fun v2007 h2008 p2009 => ?_)
      obtain ⟨⟨c2006, rfl⟩ | ⟨c2006, rfl⟩, rfl⟩ := p2009
      · refine z_st (st' := [.int (nI 1)]) rfl ?_
        refine z_ifU_eq X 1 27 dX7_need_13 (by decide) rfl (by omega) (fun c2010 => ?_) (fun c2010 => ?_)
        · omega
        · refine z_aload_n X 0 dX7_need_16 zref.r rfl ?_
          refine z_get X zP6 2 (by decide) q1565 (Or.inl rfl) D.1 (by decide) rfl dX7_need_17 ?_
          refine z_iload_n X 1 dX7_need_20 rfl ?_
          refine z_iald X (v := .int ((S 2) (zn x))) (zn x) (D.2.1 2 rfl) (by decide) (nI_zn _).symm (by show _ < 12; omega) (by decide) rfl dX7_need_21 ?_
          refine z_bipush X (nI 6) dX7_need_22 (by decide) ?_
          refine z_icmpU_ne X (zn ((S 2) (zn x))) 6 29 dX7_need_24 (by decide) (nI_zn _).symm rfl (zn_lt _) (by omega) (fun c2011 => ?_) (fun c2011 => ?_)
          · refine z_iconst X (nI 0) dX7_need_29 (by decide) ?_
            refine z_istore_n X (lv' := [(3, .int (nI 0)), (0, .ref (E 0)), (1, .int x), (2, .int y)]) dX7_need_30 (by decide) rfl ?_
            have hxm : zn x < 12 := by omega
            refine z_lvp (lv' := [(0, .ref (E 0)), (1, .int x), (2, .int y), (3, .int (nI 0))]) [1, 2, 3, 0] rfl ?_
            refine z_loop (σ := Nat) (fun k => k ≤ zn (S 2 (zn x)) ∧ ∀ j, j < k → zn (S 1 (6 * zn x + j)) ≠ zn y) (fun k => zn (S 2 (zn x)) - k) (fun k => [(0, .ref (E 0)), (1, .int x), (2, .int y), (3, .int (nI k))]) (fun k => []) (fun k => h) (fun k => 0 + 0 + 0) (fun k => 0 + 0 + 0) ?_ 0 (⟨Nat.zero_le _, fun j hj => absurd hj (Nat.not_lt_zero _)⟩)
            intro k hI ih
            try dsimp only at hI
            try dsimp only at ih
            try dsimp only
            refine z_iload_n X 3 dX7_need_31 rfl ?_
            refine z_aload_n X 0 dX7_need_32 zref.r rfl ?_
            refine z_get X zP6 2 (by decide) q1565 (Or.inl rfl) D.1 (by decide) rfl dX7_need_33 ?_
            refine z_iload_n X 1 dX7_need_36 rfl ?_
            refine z_iald X (v := .int ((S 2) (zn x))) (zn x) (D.2.1 2 rfl) (by decide) (nI_zn _).symm (by show _ < 12; omega) (by decide) rfl dX7_need_37 ?_
            refine z_icmpU_ge X k (zn ((S 2) (zn x))) 64 dX7_need_38 (by decide) rfl (nI_zn _).symm (by omega) (zn_lt _) (fun c2012 => ?_) (fun c2012 => ?_)
            · refine z_aload_n X 0 dX7_need_64 zref.r rfl ?_
              refine z_get X zP6 1 (by decide) q1564 (Or.inl rfl) D.1 (by decide) rfl dX7_need_65 ?_
              refine z_bipush X (nI 6) dX7_need_68 (by decide) ?_
              refine z_iload_n X 1 dX7_need_70 rfl ?_
              refine z_imul X (nI (6 * (zn x))) dX7_need_71 (zmul rfl (nI_zn _).symm) ?_
              refine z_aload_n X 0 dX7_need_72 zref.r rfl ?_
              refine z_get X zP6 2 (by decide) q1565 (Or.inl rfl) D.1 (by decide) rfl dX7_need_73 ?_
              refine z_iload_n X 1 dX7_need_76 rfl ?_
              refine z_iald X (v := .int ((S 2) (zn x))) (zn x) (D.2.1 2 rfl) (by decide) (nI_zn _).symm (by show _ < 12; omega) (by decide) rfl dX7_need_77 ?_
              refine z_iadd X (nI ((6 * (zn x)) + (zn ((S 2) (zn x))))) dX7_need_78 (zadd rfl (nI_zn _).symm) ?_
              refine z_iload_n X 2 dX7_need_79 rfl ?_
              refine z_iast X ((6 * (zn x)) + (zn ((S 2) (zn x)))) (D.2.1 1 rfl) (by decide) (by decide) rfl (by show _ < 72; omega) (by decide) (f' := fun i => .int ((zu (S 1) ((6 * (zn x)) + (zn ((S 2) (zn x)))) y) i)) (fun _ => zu_v _) dX7_need_80 ?_
              refine z_nm fun h2013 e2014 => ?_
              have D2015 : MD E (zsa S 1 (zu (S 1) ((6 * (zn x)) + (zn ((S 2) (zn x)))) y)) h2013 := D.sA 1 rfl e2014
              have o2016 := zOn.up (zOn.rf (T := zTM) (h := h)) e2014 (D.2.1 1 rfl) (by decide)
              refine z_aload_n X 0 dX7_need_81 zref.r rfl ?_
              refine z_get X zP6 2 (by decide) q1565 (Or.inl rfl) D2015.1 (by decide) rfl dX7_need_82 ?_
              refine z_iload_n X 1 dX7_need_85 rfl ?_
              refine z_dup2 X dX7_need_86 rfl rfl ?_
              refine z_iald X (v := .int ((S 2) (zn x))) (zn x) (D2015.2.1 2 rfl) (by decide) (nI_zn _).symm (by show _ < 12; omega) (by decide) rfl dX7_need_87 ?_
              refine z_iconst X (nI 1) dX7_need_88 (by decide) ?_
              refine z_iadd X (nI ((zn ((S 2) (zn x))) + 1)) dX7_need_89 (zadd (nI_zn _).symm rfl) ?_
              refine z_iast X (zn x) (D2015.2.1 2 rfl) (by decide) (by decide) (nI_zn _).symm (by show _ < 12; omega) (by decide) (f' := fun i => .int ((zu (S 2) (zn x) (nI ((zn ((S 2) (zn x))) + 1))) i)) (fun _ => zu_v _) dX7_need_90 ?_
              refine z_nm fun h2017 e2018 => ?_
              have D2019 : MD E (zsa (zsa S 1 (zu (S 1) ((6 * (zn x)) + (zn ((S 2) (zn x)))) y)) 2 (zu (S 2) (zn x) (nI ((zn ((S 2) (zn x))) + 1)))) h2017 := D2015.sA 2 rfl e2018
              have o2020 := zOn.up o2016 e2018 (D2015.2.1 2 rfl) (by decide)
              refine z_aload_n X 0 dX7_need_91 zref.r rfl ?_
              refine z_iconst X (nI 0) dX7_need_92 (by decide) ?_
              refine z_put X zP6 12 (by decide) q1575 (Or.inl rfl) rfl D2019.1 (by decide) (by decide) (zfits.b0) (Nat.le_of_ble_eq_true rfl) rfl dX7_need_93 ?_
              refine z_nm fun h2021 e2022 => ?_
              have D2023 : MD E (zs0 (zsa (zsa S 1 (zu (S 1) ((6 * (zn x)) + (zn ((S 2) (zn x)))) y)) 2 (zu (S 2) (zn x) (nI ((zn ((S 2) (zn x))) + 1)))) 12 (nI 0)) h2021 := D2019.sF 12 (by decide) e2022
              have o2024 := zOn.up o2020 e2022 D2019.1 (by decide)
              refine z_aload_n X 0 dX7_need_96 zref.r rfl ?_
              refine z_get X zP6 2 (by decide) q1565 (Or.inl rfl) D2023.1 (by decide) rfl dX7_need_97 ?_
              refine z_iload_n X 1 dX7_need_100 rfl ?_
              refine z_iald X (v := .int (nI ((zn ((S 2) (zn x))) + 1))) (zn x) (D2023.2.1 2 rfl) (by decide) (nI_zn _).symm (by show _ < 12; omega) (by decide) (congrArg Value.int zu_s) dX7_need_101 ?_
              exact z_iret X hr hlk dX7_need_102 (by first | exact Nat.le_of_ble_eq_true rfl | (dsimp only [zRm]; omega) | omega) (by first | exact Nat.le_of_ble_eq_true rfl | (dsimp only [zRm]; omega) | omega) ⟨(by rw [needF, if_pos ⟨by omega, by omega, by omega, Bool.eq_false_iff.mpr (fun z => by obtain ⟨j, h1, h2⟩ := zhas_iff.mp z; exact hI.2 j (by omega) h2)⟩] <;> rfl), by rw [needF, if_pos ⟨by omega, by omega, by omega, Bool.eq_false_iff.mpr (fun z => by obtain ⟨j, h1, h2⟩ := zhas_iff.mp z; exact hI.2 j (by omega) h2)⟩]; exact D2023, o2024⟩
            · refine z_aload_n X 0 dX7_need_41 zref.r rfl ?_
              refine z_get X zP6 1 (by decide) q1564 (Or.inl rfl) D.1 (by decide) rfl dX7_need_42 ?_
              refine z_bipush X (nI 6) dX7_need_45 (by decide) ?_
              refine z_iload_n X 1 dX7_need_47 rfl ?_
              refine z_imul X (nI (6 * (zn x))) dX7_need_48 (zmul rfl (nI_zn _).symm) ?_
              refine z_iload_n X 3 dX7_need_49 rfl ?_
              refine z_iadd X (nI ((6 * (zn x)) + k)) dX7_need_50 (zadd rfl rfl) ?_
              refine z_iald X (v := .int ((S 1) ((6 * (zn x)) + k))) ((6 * (zn x)) + k) (D.2.1 1 rfl) (by decide) rfl (by show _ < 72; omega) (by decide) rfl dX7_need_51 ?_
              refine z_iload_n X 2 dX7_need_52 rfl ?_
              refine z_icmpU_ne X (zn ((S 1) ((6 * (zn x)) + k))) (zn y) 58 dX7_need_53 (by decide) (nI_zn _).symm (nI_zn _).symm (zn_lt _) (zn_lt _) (fun c2025 => ?_) (fun c2025 => ?_)
              · refine z_iinc X (lv' := [(3, .int (nI (k + 1))), (0, .ref (E 0)), (1, .int x), (2, .int y)]) (nI (k + 1)) 3 dX7_need_58 rfl (nI_1 _) (by decide) rfl ?_
                refine z_goto X 31 dX7_need_61 (by decide) ?_
                refine z_lvp (lv' := [(0, .ref (E 0)), (1, .int x), (2, .int y), (3, .int (nI (k + 1)))]) [1, 2, 3, 0] rfl ?_
                exact ih (k + 1) ⟨by omega, fun j hj => (by by_cases z : j = k; subst z; exact c2025; exact hI.2 j (by omega))⟩ (by omega)
              · refine z_iconst X (-1) dX7_need_56 (by decide) ?_
                exact z_iret X hr hlk dX7_need_57 (by first | exact Nat.le_of_ble_eq_true rfl | (dsimp only [zRm]; omega) | omega) (by first | exact Nat.le_of_ble_eq_true rfl | (dsimp only [zRm]; omega) | omega) ⟨(by rw [needF, if_neg (by rintro ⟨h1, h2, h3, h4⟩; first | omega | exact Bool.eq_false_iff.mp h4 (zhas_iff.mpr ⟨k, by omega, by omega⟩))] <;> rfl), by rw [needF, if_neg (by rintro ⟨h1, h2, h3, h4⟩; first | omega | exact Bool.eq_false_iff.mp h4 (zhas_iff.mpr ⟨k, by omega, by omega⟩))]; exact D, (zOn.rf (T := zTM) (h := h))⟩
          · refine z_iconst X (-1) dX7_need_27 (by decide) ?_
            exact z_iret X hr hlk dX7_need_28 (by first | exact Nat.le_of_ble_eq_true rfl | (dsimp only [zRm]; omega) | omega) (by first | exact Nat.le_of_ble_eq_true rfl | (dsimp only [zRm]; omega) | omega) ⟨(by rw [needF, if_neg (by rintro ⟨h1, h2, h3, h4⟩; first | omega | exact Bool.eq_false_iff.mp h4 (zhas_iff.mpr ⟨k, by omega, by omega⟩))] <;> rfl), by rw [needF, if_neg (by rintro ⟨h1, h2, h3, h4⟩; first | omega | exact Bool.eq_false_iff.mp h4 (zhas_iff.mpr ⟨k, by omega, by omega⟩))]; exact D, (zOn.rf (T := zTM) (h := h))⟩
      · refine z_st (st' := [.int (nI 0)]) rfl ?_
        refine z_ifU_eq X 0 27 dX7_need_13 (by decide) rfl (by omega) (fun c2026 => ?_) (fun c2026 => ?_)
        · refine z_iconst X (-1) dX7_need_27 (by decide) ?_
          exact z_iret X hr hlk dX7_need_28 (by first | exact Nat.le_of_ble_eq_true rfl | (dsimp only [zRm]; omega) | omega) (by first | exact Nat.le_of_ble_eq_true rfl | (dsimp only [zRm]; omega) | omega) ⟨(by rw [needF, if_neg (by rintro ⟨h1, h2, h3, h4⟩; first | omega | exact Bool.eq_false_iff.mp h4 (zhas_iff.mpr ⟨k, by omega, by omega⟩))] <;> rfl), by rw [needF, if_neg (by rintro ⟨h1, h2, h3, h4⟩; first | omega | exact Bool.eq_false_iff.mp h4 (zhas_iff.mpr ⟨k, by omega, by omega⟩))]; exact D, (zOn.rf (T := zTM) (h := h))⟩
        · omega
  · refine z_st (st' := [.int (nI 0)]) rfl ?_
    refine z_ifU_eq X 0 27 dX7_need_5 (by decide) rfl (by omega) (fun c2027 => ?_) (fun c2027 => ?_)
    · refine z_iconst X (-1) dX7_need_27 (by decide) ?_
      exact z_iret X hr hlk dX7_need_28 (by first | exact Nat.le_of_ble_eq_true rfl | (dsimp only [zRm]; omega) | omega) (by first | exact Nat.le_of_ble_eq_true rfl | (dsimp only [zRm]; omega) | omega) ⟨(by rw [needF, if_neg (by rintro ⟨h1, h2, h3, h4⟩; first | omega | exact Bool.eq_false_iff.mp h4 (zhas_iff.mpr ⟨k, by omega, by omega⟩))] <;> rfl), by rw [needF, if_neg (by rintro ⟨h1, h2, h3, h4⟩; first | omega | exact Bool.eq_false_iff.mp h4 (zhas_iff.mpr ⟨k, by omega, by omega⟩))]; exact D, (zOn.rf (T := zTM) (h := h))⟩
    · omega
set_option maxHeartbeats 4000000 in
theorem c_X7_define {l : Launch} {G : ZG} {h : ZH} {E : Nat → Nat} {S : ZS} {x nm kd v0 how : Int32} (D : MD E S h) (F : ZWF S)  : ZM l G yX7_define (ws_ yX7_define cX7_define 7 (Option.some FieldType.int)) (zRm 1 0 0 40) [.ref (E 0), .int x, .int nm, .int kd, .int v0, .int how] h (fun v h' => v = some (.int (defF S x nm kd v0 how).1) ∧ MD E (defF S x nm kd v0 how).2 h' ∧ zOn zTM h h') := by
  refine ZT.zm (ZT.of (by first | exact plainFor_of_name (by decide) | decide +kernel) (Nat.le_of_ble_eq_true rfl) (zcats.r zref.r (zcats.i (zcats.i (zcats.i (zcats.i (zcats.i zcats.nil)))))) ?_)
  intro p_ e_ s_ m_ args_ below_ meth_ c_ X hr hlk hin htab
  have X : ZX p_ m_ c_ cX7_define 7 s_ args_ "LinkStationModel" G := X
  refine z_lv (lv' := [(0, .ref (E 0)), (1, .int x), (2, .int nm), (3, .int kd), (4, .int v0), (5, .int how)]) (fun _ hq => hq) ?_
  have hM := F.mods
  have hN := F.dc (zn x)
  have h1 := zn_lt kd
  have h2 := zn_lt how
  refine z_aload_n X 0 dX7_define_0 zref.r rfl ?_
  refine z_iload_n X 1 dX7_define_1 rfl ?_
  refine z_callV X (rest := []) (c_X7_isModule D F) (cwV 1 (zXts X) (lw_V q1690 q1692 qs30 q65 q1693) rfl rfl rfl (by decide +kernel) ⟨Nat.le_of_ble_eq_true rfl, Nat.le_of_ble_eq_true rfl⟩) D.1 (by decide) rfl rfl (Nat.le_of_ble_eq_true rfl) ⟨(by first | exact Nat.le_of_ble_eq_true rfl | (dsimp only [zRm]; omega)), (by first | exact Nat.le_of_ble_eq_true rfl | (dsimp only [zRm]; omega))⟩ dX7_define_2 (fun v2029 h2030 p2031 => ?_)
  obtain ⟨⟨c2028, rfl⟩ | ⟨c2028, rfl⟩, rfl⟩ := p2031
  · refine z_st (st' := [.int (nI 1)]) rfl ?_
    refine z_ifU_eq X 1 68 dX7_define_5 (by decide) rfl (by omega) (fun c2032 => ?_) (fun c2032 => ?_)
    · omega
    · refine z_iload_n X 2 dX7_define_8 rfl ?_
      refine z_callS X (rest := []) c_X7_isName (va_cwS 1 (zXts X) (lw_S q1698 q1699 q65 q1700) rfl rfl rfl (by decide +kernel) ⟨Nat.le_of_ble_eq_true rfl, Nat.le_of_ble_eq_true rfl⟩) rfl (Nat.le_of_ble_eq_true rfl) ⟨(by first | exact Nat.le_of_ble_eq_true rfl | (dsimp only [zRm]; omega)), (by first | exact Nat.le_of_ble_eq_true rfl | (dsimp only [zRm]; omega))⟩ dX7_define_9 (fun v2034 h2035 p2036 => ?_)
      obtain ⟨⟨c2033, rfl⟩ | ⟨c2033, rfl⟩, rfl⟩ := p2036
      · refine z_st (st' := [.int (nI 1)]) rfl ?_
        refine z_ifU_eq X 1 68 dX7_define_12 (by decide) rfl (by omega) (fun c2037 => ?_) (fun c2037 => ?_)
        · omega
        · refine z_iload_n X 3 dX7_define_15 rfl ?_
          refine z_ifU_lt X (zn kd) 68 dX7_define_16 (by decide) (nI_zn _).symm (zn_lt _) (fun c2038 => ?_) (fun c2038 => ?_)
          · refine z_iconst X (-1) dX7_define_68 (by decide) ?_
            exact z_iret X hr hlk dX7_define_69 (by first | exact Nat.le_of_ble_eq_true rfl | (dsimp only [zRm]; omega) | omega) (by first | exact Nat.le_of_ble_eq_true rfl | (dsimp only [zRm]; omega) | omega) ⟨(by rw [defF, if_neg (by rintro ⟨h1, h2, h3, h4, h5, h6, h7⟩; first | omega)] <;> rfl), by rw [defF, if_neg (by rintro ⟨h1, h2, h3, h4, h5, h6, h7⟩; first | omega)]; exact D, (zOn.rf (T := zTM) (h := h))⟩
          · refine z_iload_n X 3 dX7_define_19 rfl ?_
            refine z_iconst X (nI 1) dX7_define_20 (by decide) ?_
            refine z_icmpU_gt X (zn kd) 1 68 dX7_define_21 (by decide) (nI_zn _).symm rfl (zn_lt _) (by omega) (fun c2039 => ?_) (fun c2039 => ?_)
            · refine z_iconst X (-1) dX7_define_68 (by decide) ?_
              exact z_iret X hr hlk dX7_define_69 (by first | exact Nat.le_of_ble_eq_true rfl | (dsimp only [zRm]; omega) | omega) (by first | exact Nat.le_of_ble_eq_true rfl | (dsimp only [zRm]; omega) | omega) ⟨(by rw [defF, if_neg (by rintro ⟨h1, h2, h3, h4, h5, h6, h7⟩; first | omega)] <;> rfl), by rw [defF, if_neg (by rintro ⟨h1, h2, h3, h4, h5, h6, h7⟩; first | omega)]; exact D, (zOn.rf (T := zTM) (h := h))⟩
            · refine z_iload X 5 dX7_define_24 rfl ?_
              refine z_ifU_lt X (zn how) 68 dX7_define_26 (by decide) (nI_zn _).symm (zn_lt _) (fun c2040 => ?_) (fun c2040 => ?_)
              · refine z_iconst X (-1) dX7_define_68 (by decide) ?_
                exact z_iret X hr hlk dX7_define_69 (by first | exact Nat.le_of_ble_eq_true rfl | (dsimp only [zRm]; omega) | omega) (by first | exact Nat.le_of_ble_eq_true rfl | (dsimp only [zRm]; omega) | omega) ⟨(by rw [defF, if_neg (by rintro ⟨h1, h2, h3, h4, h5, h6, h7⟩; first | omega)] <;> rfl), by rw [defF, if_neg (by rintro ⟨h1, h2, h3, h4, h5, h6, h7⟩; first | omega)]; exact D, (zOn.rf (T := zTM) (h := h))⟩
              · refine z_iload X 5 dX7_define_29 rfl ?_
                refine z_iconst X (nI 5) dX7_define_31 (by decide) ?_
                refine z_icmpU_gt X (zn how) 5 68 dX7_define_32 (by decide) (nI_zn _).symm rfl (zn_lt _) (by omega) (fun c2041 => ?_) (fun c2041 => ?_)
                · refine z_iconst X (-1) dX7_define_68 (by decide) ?_
                  exact z_iret X hr hlk dX7_define_69 (by first | exact Nat.le_of_ble_eq_true rfl | (dsimp only [zRm]; omega) | omega) (by first | exact Nat.le_of_ble_eq_true rfl | (dsimp only [zRm]; omega) | omega) ⟨(by rw [defF, if_neg (by rintro ⟨h1, h2, h3, h4, h5, h6, h7⟩; first | omega)] <;> rfl), by rw [defF, if_neg (by rintro ⟨h1, h2, h3, h4, h5, h6, h7⟩; first | omega)]; exact D, (zOn.rf (T := zTM) (h := h))⟩
                · refine z_iload_n X 3 dX7_define_35 rfl ?_
                  refine z_ifU_ne X (zn kd) 47 dX7_define_36 (by decide) (nI_zn _).symm (zn_lt _) (fun c2042 => ?_) (fun c2042 => ?_)
                  · refine z_aload_n X 0 dX7_define_47 zref.r rfl ?_
                    refine z_iload_n X 1 dX7_define_48 rfl ?_
                    refine z_iload_n X 2 dX7_define_49 rfl ?_
                    have hxm : zn x < 12 := by omega
                    refine z_st (st' := [.int nm, .int (nI (zn x)), .ref (E 0)]) (by simp only [nI_zn]) ?_
                    refine z_callV X (rest := []) (c_X7_ofName D F (m := zn x) (x := nm) hxm) (cwV 2 (zXts X) (lw_V q1704 q1706 qs31 q65 q1707) rfl rfl rfl (by decide +kernel) ⟨Nat.le_of_ble_eq_true rfl, Nat.le_of_ble_eq_true rfl⟩) D.1 (by decide) rfl rfl (Nat.le_of_ble_eq_true rfl) ⟨(by first | exact Nat.le_of_ble_eq_true rfl | (dsimp only [zRm]; omega)), (by first | exact Nat.le_of_ble_eq_true rfl | (dsimp only [zRm]; omega))⟩ dX7_define_50 (fun v2043 h2044 p2045 => ?_)
                    obtain ⟨rfl, rfl⟩ := p2045
                    rcases hO2046 : ofN S (zn x) nm with _ | d
                    · refine z_st (st' := [.int (-1)]) rfl ?_
                      refine z_iconst X (-1) dX7_define_53 (by decide) ?_
                      refine z_icmpU_ne X 4294967295 4294967295 68 dX7_define_54 (by decide) (by decide) (by decide) (by omega) (by omega) (fun c2047 => ?_) (fun c2047 => ?_)
                      · omega
                      · refine z_aload_n X 0 dX7_define_57 zref.r rfl ?_
                        refine z_get X zP6 7 (by decide) q1570 (Or.inl rfl) D.1 (by decide) rfl dX7_define_58 ?_
                        refine z_iload_n X 1 dX7_define_61 rfl ?_
                        refine z_iald X (v := .int ((S 7) (zn x))) (zn x) (D.2.1 7 rfl) (by decide) (nI_zn _).symm (by show _ < 12; omega) (by decide) rfl dX7_define_62 ?_
                        refine z_bipush X (nI 20) dX7_define_63 (by decide) ?_
                        refine z_icmpU_ne X (zn ((S 7) (zn x))) 20 70 dX7_define_65 (by decide) (nI_zn _).symm rfl (zn_lt _) (by omega) (fun c2048 => ?_) (fun c2048 => ?_)
                        · refine z_bipush X (nI 20) dX7_define_70 (by decide) ?_
                          refine z_iload_n X 1 dX7_define_72 rfl ?_
                          refine z_imul X (nI (20 * (zn x))) dX7_define_73 (zmul rfl (nI_zn _).symm) ?_
                          refine z_aload_n X 0 dX7_define_74 zref.r rfl ?_
                          refine z_get X zP6 7 (by decide) q1570 (Or.inl rfl) D.1 (by decide) rfl dX7_define_75 ?_
                          refine z_iload_n X 1 dX7_define_78 rfl ?_
                          refine z_iald X (v := .int ((S 7) (zn x))) (zn x) (D.2.1 7 rfl) (by decide) (nI_zn _).symm (by show _ < 12; omega) (by decide) rfl dX7_define_79 ?_
                          refine z_iadd X (nI ((20 * (zn x)) + (zn ((S 7) (zn x))))) dX7_define_80 (zadd rfl (nI_zn _).symm) ?_
                          refine z_istore X (lv' := [(6, .int (nI ((20 * (zn x)) + (zn ((S 7) (zn x)))))), (0, .ref (E 0)), (1, .int x), (2, .int nm), (3, .int kd), (4, .int v0), (5, .int how)]) dX7_define_81 (by decide) rfl ?_
                          refine z_aload_n X 1 dX7_define_83 zref.r rfl ?_
                          refine z_get X zP6 3 (by decide) q1566 (Or.inl rfl) D.1 (by decide) rfl dX7_define_84 ?_
                          refine z_iload X 0 dX7_define_87 rfl ?_
                          refine z_iload_n X 3 dX7_define_89 rfl ?_
                          refine z_iast X ((20 * (zn x)) + (zn ((S 7) (zn x)))) (D.2.1 3 rfl) (by decide) (by decide) rfl (by show _ < 240; omega) (by decide) (f' := fun i => .int ((zu (S 3) ((20 * (zn x)) + (zn ((S 7) (zn x)))) nm) i)) (fun _ => zu_v _) dX7_define_90 ?_
                          refine z_nm fun h2049 e2050 => ?_
                          have D2051 : MD E (zsa S 3 (zu (S 3) ((20 * (zn x)) + (zn ((S 7) (zn x)))) nm)) h2049 := D.sA 3 rfl e2050
                          have o2052 := zOn.up (zOn.rf (T := zTM) (h := h)) e2050 (D.2.1 3 rfl) (by decide)
                          refine z_aload_n X 1 dX7_define_91 zref.r rfl ?_
                          refine z_get X zP6 4 (by decide) q1567 (Or.inl rfl) D2051.1 (by decide) rfl dX7_define_92 ?_
                          refine z_iload X 0 dX7_define_95 rfl ?_
                          refine z_iload_n X 4 dX7_define_97 rfl ?_
                          refine z_iast X ((20 * (zn x)) + (zn ((S 7) (zn x)))) (D2051.2.1 4 rfl) (by decide) (by decide) rfl (by show _ < 240; omega) (by decide) (f' := fun i => .int ((zu (S 4) ((20 * (zn x)) + (zn ((S 7) (zn x)))) kd) i)) (fun _ => zu_v _) dX7_define_98 ?_
                          refine z_nm fun h2053 e2054 => ?_
                          have D2055 : MD E (zsa (zsa S 3 (zu (S 3) ((20 * (zn x)) + (zn ((S 7) (zn x)))) nm)) 4 (zu (S 4) ((20 * (zn x)) + (zn ((S 7) (zn x)))) kd)) h2053 := D2051.sA 4 rfl e2054
                          have o2056 := zOn.up o2052 e2054 (D2051.2.1 4 rfl) (by decide)
                          refine z_aload_n X 1 dX7_define_99 zref.r rfl ?_
                          refine z_get X zP6 5 (by decide) q1568 (Or.inl rfl) D2055.1 (by decide) rfl dX7_define_100 ?_
                          refine z_iload X 0 dX7_define_103 rfl ?_
                          refine z_iload X 5 dX7_define_105 rfl ?_
                          refine z_iast X ((20 * (zn x)) + (zn ((S 7) (zn x)))) (D2055.2.1 5 rfl) (by decide) (by decide) rfl (by show _ < 240; omega) (by decide) (f' := fun i => .int ((zu (S 5) ((20 * (zn x)) + (zn ((S 7) (zn x)))) v0) i)) (fun _ => zu_v _) dX7_define_107 ?_
                          refine z_nm fun h2057 e2058 => ?_
                          have D2059 : MD E (zsa (zsa (zsa S 3 (zu (S 3) ((20 * (zn x)) + (zn ((S 7) (zn x)))) nm)) 4 (zu (S 4) ((20 * (zn x)) + (zn ((S 7) (zn x)))) kd)) 5 (zu (S 5) ((20 * (zn x)) + (zn ((S 7) (zn x)))) v0)) h2057 := D2055.sA 5 rfl e2058
                          have o2060 := zOn.up o2056 e2058 (D2055.2.1 5 rfl) (by decide)
                          refine z_aload_n X 1 dX7_define_108 zref.r rfl ?_
                          refine z_get X zP6 6 (by decide) q1569 (Or.inl rfl) D2059.1 (by decide) rfl dX7_define_109 ?_
                          refine z_iload X 0 dX7_define_112 rfl ?_
                          refine z_iload X 6 dX7_define_114 rfl ?_
                          refine z_iast X ((20 * (zn x)) + (zn ((S 7) (zn x)))) (D2059.2.1 6 rfl) (by decide) (by decide) rfl (by show _ < 240; omega) (by decide) (f' := fun i => .int ((zu (S 6) ((20 * (zn x)) + (zn ((S 7) (zn x)))) how) i)) (fun _ => zu_v _) dX7_define_116 ?_
                          refine z_nm fun h2061 e2062 => ?_
                          have D2063 : MD E (zsa (zsa (zsa (zsa S 3 (zu (S 3) ((20 * (zn x)) + (zn ((S 7) (zn x)))) nm)) 4 (zu (S 4) ((20 * (zn x)) + (zn ((S 7) (zn x)))) kd)) 5 (zu (S 5) ((20 * (zn x)) + (zn ((S 7) (zn x)))) v0)) 6 (zu (S 6) ((20 * (zn x)) + (zn ((S 7) (zn x)))) how)) h2061 := D2059.sA 6 rfl e2062
                          have o2064 := zOn.up o2060 e2062 (D2059.2.1 6 rfl) (by decide)
                          refine z_aload_n X 1 dX7_define_117 zref.r rfl ?_
                          refine z_get X zP6 7 (by decide) q1570 (Or.inl rfl) D2063.1 (by decide) rfl dX7_define_118 ?_
                          refine z_iload_n X 2 dX7_define_121 rfl ?_
                          refine z_dup2 X dX7_define_122 rfl rfl ?_
                          refine z_iald X (v := .int ((S 7) (zn x))) (zn x) (D2063.2.1 7 rfl) (by decide) (nI_zn _).symm (by show _ < 12; omega) (by decide) rfl dX7_define_123 ?_
                          refine z_iconst X (nI 1) dX7_define_124 (by decide) ?_
                          refine z_iadd X (nI ((zn ((S 7) (zn x))) + 1)) dX7_define_125 (zadd (nI_zn _).symm rfl) ?_
                          refine z_iast X (zn x) (D2063.2.1 7 rfl) (by decide) (by decide) (nI_zn _).symm (by show _ < 12; omega) (by decide) (f' := fun i => .int ((zu (S 7) (zn x) (nI ((zn ((S 7) (zn x))) + 1))) i)) (fun _ => zu_v _) dX7_define_126 ?_
                          refine z_nm fun h2065 e2066 => ?_
                          have D2067 : MD E (zsa (zsa (zsa (zsa (zsa S 3 (zu (S 3) ((20 * (zn x)) + (zn ((S 7) (zn x)))) nm)) 4 (zu (S 4) ((20 * (zn x)) + (zn ((S 7) (zn x)))) kd)) 5 (zu (S 5) ((20 * (zn x)) + (zn ((S 7) (zn x)))) v0)) 6 (zu (S 6) ((20 * (zn x)) + (zn ((S 7) (zn x)))) how)) 7 (zu (S 7) (zn x) (nI ((zn ((S 7) (zn x))) + 1)))) h2065 := D2063.sA 7 rfl e2066
                          have o2068 := zOn.up o2064 e2066 (D2063.2.1 7 rfl) (by decide)
                          refine z_aload_n X 1 dX7_define_127 zref.r rfl ?_
                          refine z_iconst X (nI 0) dX7_define_128 (by decide) ?_
                          refine z_put X zP6 12 (by decide) q1575 (Or.inl rfl) rfl D2067.1 (by decide) (by decide) (zfits.b0) (Nat.le_of_ble_eq_true rfl) rfl dX7_define_129 ?_
                          refine z_nm fun h2069 e2070 => ?_
                          have D2071 : MD E (zs0 (zsa (zsa (zsa (zsa (zsa S 3 (zu (S 3) ((20 * (zn x)) + (zn ((S 7) (zn x)))) nm)) 4 (zu (S 4) ((20 * (zn x)) + (zn ((S 7) (zn x)))) kd)) 5 (zu (S 5) ((20 * (zn x)) + (zn ((S 7) (zn x)))) v0)) 6 (zu (S 6) ((20 * (zn x)) + (zn ((S 7) (zn x)))) how)) 7 (zu (S 7) (zn x) (nI ((zn ((S 7) (zn x))) + 1)))) 12 (nI 0)) h2069 := D2067.sF 12 (by decide) e2070
                          have o2072 := zOn.up o2068 e2070 D2067.1 (by decide)
                          refine z_aload_n X 1 dX7_define_132 zref.r rfl ?_
                          refine z_get X zP6 7 (by decide) q1570 (Or.inl rfl) D2071.1 (by decide) rfl dX7_define_133 ?_
                          refine z_iload_n X 2 dX7_define_136 rfl ?_
                          refine z_iald X (v := .int (nI ((zn ((S 7) (zn x))) + 1))) (zn x) (D2071.2.1 7 rfl) (by decide) (nI_zn _).symm (by show _ < 12; omega) (by decide) (congrArg Value.int zu_s) dX7_define_137 ?_
                          exact z_iret X hr hlk dX7_define_138 (by first | exact Nat.le_of_ble_eq_true rfl | (dsimp only [zRm]; omega) | omega) (by first | exact Nat.le_of_ble_eq_true rfl | (dsimp only [zRm]; omega) | omega) ⟨(by rw [defF, if_pos ⟨by omega, by omega, by omega, by omega, by omega, (by first | exact hO2046 | (exfalso; omega)), by omega⟩] <;> rfl), by rw [defF, if_pos ⟨by omega, by omega, by omega, by omega, by omega, (by first | exact hO2046 | (exfalso; omega)), by omega⟩]; exact D2071, o2072⟩
                        · refine z_iconst X (-1) dX7_define_68 (by decide) ?_
                          exact z_iret X hr hlk dX7_define_69 (by first | exact Nat.le_of_ble_eq_true rfl | (dsimp only [zRm]; omega) | omega) (by first | exact Nat.le_of_ble_eq_true rfl | (dsimp only [zRm]; omega) | omega) ⟨(by rw [defF, if_neg (by rintro ⟨h1, h2, h3, h4, h5, h6, h7⟩; first | omega | (rw [hO2046] at h6; cases h6))] <;> rfl), by rw [defF, if_neg (by rintro ⟨h1, h2, h3, h4, h5, h6, h7⟩; first | omega | (rw [hO2046] at h6; cases h6))]; exact D, (zOn.rf (T := zTM) (h := h))⟩
                    · refine z_st (st' := [.int (nI d)]) rfl ?_
                      obtain ⟨hO2046a, hO2046b, hO2046c, hO2046d, hO2046e, hO2046f⟩ := F.ds hO2046
                      refine z_iconst X (-1) dX7_define_53 (by decide) ?_
                      refine z_icmpU_ne X d 4294967295 68 dX7_define_54 (by decide) rfl (by decide) (by omega) (by omega) (fun c2073 => ?_) (fun c2073 => ?_)
                      · refine z_iconst X (-1) dX7_define_68 (by decide) ?_
                        exact z_iret X hr hlk dX7_define_69 (by first | exact Nat.le_of_ble_eq_true rfl | (dsimp only [zRm]; omega) | omega) (by first | exact Nat.le_of_ble_eq_true rfl | (dsimp only [zRm]; omega) | omega) ⟨(by rw [defF, if_neg (by rintro ⟨h1, h2, h3, h4, h5, h6, h7⟩; first | omega | (rw [hO2046] at h6; cases h6))] <;> rfl), by rw [defF, if_neg (by rintro ⟨h1, h2, h3, h4, h5, h6, h7⟩; first | omega | (rw [hO2046] at h6; cases h6))]; exact D, (zOn.rf (T := zTM) (h := h))⟩
                      · refine z_aload_n X 0 dX7_define_57 zref.r rfl ?_
                        refine z_get X zP6 7 (by decide) q1570 (Or.inl rfl) D.1 (by decide) rfl dX7_define_58 ?_
                        refine z_iload_n X 1 dX7_define_61 rfl ?_
                        refine z_iald X (v := .int ((S 7) (zn x))) (zn x) (D.2.1 7 rfl) (by decide) (nI_zn _).symm (by show _ < 12; omega) (by decide) rfl dX7_define_62 ?_
                        refine z_bipush X (nI 20) dX7_define_63 (by decide) ?_
                        refine z_icmpU_ne X (zn ((S 7) (zn x))) 20 70 dX7_define_65 (by decide) (nI_zn _).symm rfl (zn_lt _) (by omega) (fun c2074 => ?_) (fun c2074 => ?_)
                        · refine z_bipush X (nI 20) dX7_define_70 (by decide) ?_
                          refine z_iload_n X 1 dX7_define_72 rfl ?_
                          refine z_imul X (nI (20 * (zn x))) dX7_define_73 (zmul rfl (nI_zn _).symm) ?_
                          refine z_aload_n X 0 dX7_define_74 zref.r rfl ?_
                          refine z_get X zP6 7 (by decide) q1570 (Or.inl rfl) D.1 (by decide) rfl dX7_define_75 ?_
                          refine z_iload_n X 1 dX7_define_78 rfl ?_
                          refine z_iald X (v := .int ((S 7) (zn x))) (zn x) (D.2.1 7 rfl) (by decide) (nI_zn _).symm (by show _ < 12; omega) (by decide) rfl dX7_define_79 ?_
                          refine z_iadd X (nI ((20 * (zn x)) + (zn ((S 7) (zn x))))) dX7_define_80 (zadd rfl (nI_zn _).symm) ?_
                          refine z_istore X (lv' := [(6, .int (nI ((20 * (zn x)) + (zn ((S 7) (zn x)))))), (0, .ref (E 0)), (1, .int x), (2, .int nm), (3, .int kd), (4, .int v0), (5, .int how)]) dX7_define_81 (by decide) rfl ?_
                          refine z_aload_n X 1 dX7_define_83 zref.r rfl ?_
                          refine z_get X zP6 3 (by decide) q1566 (Or.inl rfl) D.1 (by decide) rfl dX7_define_84 ?_
                          refine z_iload X 0 dX7_define_87 rfl ?_
                          refine z_iload_n X 3 dX7_define_89 rfl ?_
                          refine z_iast X ((20 * (zn x)) + (zn ((S 7) (zn x)))) (D.2.1 3 rfl) (by decide) (by decide) rfl (by show _ < 240; omega) (by decide) (f' := fun i => .int ((zu (S 3) ((20 * (zn x)) + (zn ((S 7) (zn x)))) nm) i)) (fun _ => zu_v _) dX7_define_90 ?_
                          refine z_nm fun h2075 e2076 => ?_
                          have D2077 : MD E (zsa S 3 (zu (S 3) ((20 * (zn x)) + (zn ((S 7) (zn x)))) nm)) h2075 := D.sA 3 rfl e2076
                          have o2078 := zOn.up (zOn.rf (T := zTM) (h := h)) e2076 (D.2.1 3 rfl) (by decide)
                          refine z_aload_n X 1 dX7_define_91 zref.r rfl ?_
                          refine z_get X zP6 4 (by decide) q1567 (Or.inl rfl) D2077.1 (by decide) rfl dX7_define_92 ?_
                          refine z_iload X 0 dX7_define_95 rfl ?_
                          refine z_iload_n X 4 dX7_define_97 rfl ?_
                          refine z_iast X ((20 * (zn x)) + (zn ((S 7) (zn x)))) (D2077.2.1 4 rfl) (by decide) (by decide) rfl (by show _ < 240; omega) (by decide) (f' := fun i => .int ((zu (S 4) ((20 * (zn x)) + (zn ((S 7) (zn x)))) kd) i)) (fun _ => zu_v _) dX7_define_98 ?_
                          refine z_nm fun h2079 e2080 => ?_
                          have D2081 : MD E (zsa (zsa S 3 (zu (S 3) ((20 * (zn x)) + (zn ((S 7) (zn x)))) nm)) 4 (zu (S 4) ((20 * (zn x)) + (zn ((S 7) (zn x)))) kd)) h2079 := D2077.sA 4 rfl e2080
                          have o2082 := zOn.up o2078 e2080 (D2077.2.1 4 rfl) (by decide)
                          refine z_aload_n X 1 dX7_define_99 zref.r rfl ?_
                          refine z_get X zP6 5 (by decide) q1568 (Or.inl rfl) D2081.1 (by decide) rfl dX7_define_100 ?_
                          refine z_iload X 0 dX7_define_103 rfl ?_
                          refine z_iload X 5 dX7_define_105 rfl ?_
                          refine z_iast X ((20 * (zn x)) + (zn ((S 7) (zn x)))) (D2081.2.1 5 rfl) (by decide) (by decide) rfl (by show _ < 240; omega) (by decide) (f' := fun i => .int ((zu (S 5) ((20 * (zn x)) + (zn ((S 7) (zn x)))) v0) i)) (fun _ => zu_v _) dX7_define_107 ?_
                          refine z_nm fun h2083 e2084 => ?_
                          have D2085 : MD E (zsa (zsa (zsa S 3 (zu (S 3) ((20 * (zn x)) + (zn ((S 7) (zn x)))) nm)) 4 (zu (S 4) ((20 * (zn x)) + (zn ((S 7) (zn x)))) kd)) 5 (zu (S 5) ((20 * (zn x)) + (zn ((S 7) (zn x)))) v0)) h2083 := D2081.sA 5 rfl e2084
                          have o2086 := zOn.up o2082 e2084 (D2081.2.1 5 rfl) (by decide)
                          refine z_aload_n X 1 dX7_define_108 zref.r rfl ?_
                          refine z_get X zP6 6 (by decide) q1569 (Or.inl rfl) D2085.1 (by decide) rfl dX7_define_109 ?_
                          refine z_iload X 0 dX7_define_112 rfl ?_
                          refine z_iload X 6 dX7_define_114 rfl ?_
                          refine z_iast X ((20 * (zn x)) + (zn ((S 7) (zn x)))) (D2085.2.1 6 rfl) (by decide) (by decide) rfl (by show _ < 240; omega) (by decide) (f' := fun i => .int ((zu (S 6) ((20 * (zn x)) + (zn ((S 7) (zn x)))) how) i)) (fun _ => zu_v _) dX7_define_116 ?_
                          refine z_nm fun h2087 e2088 => ?_
                          have D2089 : MD E (zsa (zsa (zsa (zsa S 3 (zu (S 3) ((20 * (zn x)) + (zn ((S 7) (zn x)))) nm)) 4 (zu (S 4) ((20 * (zn x)) + (zn ((S 7) (zn x)))) kd)) 5 (zu (S 5) ((20 * (zn x)) + (zn ((S 7) (zn x)))) v0)) 6 (zu (S 6) ((20 * (zn x)) + (zn ((S 7) (zn x)))) how)) h2087 := D2085.sA 6 rfl e2088
                          have o2090 := zOn.up o2086 e2088 (D2085.2.1 6 rfl) (by decide)
                          refine z_aload_n X 1 dX7_define_117 zref.r rfl ?_
                          refine z_get X zP6 7 (by decide) q1570 (Or.inl rfl) D2089.1 (by decide) rfl dX7_define_118 ?_
                          refine z_iload_n X 2 dX7_define_121 rfl ?_
                          refine z_dup2 X dX7_define_122 rfl rfl ?_
                          refine z_iald X (v := .int ((S 7) (zn x))) (zn x) (D2089.2.1 7 rfl) (by decide) (nI_zn _).symm (by show _ < 12; omega) (by decide) rfl dX7_define_123 ?_
                          refine z_iconst X (nI 1) dX7_define_124 (by decide) ?_
                          refine z_iadd X (nI ((zn ((S 7) (zn x))) + 1)) dX7_define_125 (zadd (nI_zn _).symm rfl) ?_
                          refine z_iast X (zn x) (D2089.2.1 7 rfl) (by decide) (by decide) (nI_zn _).symm (by show _ < 12; omega) (by decide) (f' := fun i => .int ((zu (S 7) (zn x) (nI ((zn ((S 7) (zn x))) + 1))) i)) (fun _ => zu_v _) dX7_define_126 ?_
                          refine z_nm fun h2091 e2092 => ?_
                          have D2093 : MD E (zsa (zsa (zsa (zsa (zsa S 3 (zu (S 3) ((20 * (zn x)) + (zn ((S 7) (zn x)))) nm)) 4 (zu (S 4) ((20 * (zn x)) + (zn ((S 7) (zn x)))) kd)) 5 (zu (S 5) ((20 * (zn x)) + (zn ((S 7) (zn x)))) v0)) 6 (zu (S 6) ((20 * (zn x)) + (zn ((S 7) (zn x)))) how)) 7 (zu (S 7) (zn x) (nI ((zn ((S 7) (zn x))) + 1)))) h2091 := D2089.sA 7 rfl e2092
                          have o2094 := zOn.up o2090 e2092 (D2089.2.1 7 rfl) (by decide)
                          refine z_aload_n X 1 dX7_define_127 zref.r rfl ?_
                          refine z_iconst X (nI 0) dX7_define_128 (by decide) ?_
                          refine z_put X zP6 12 (by decide) q1575 (Or.inl rfl) rfl D2093.1 (by decide) (by decide) (zfits.b0) (Nat.le_of_ble_eq_true rfl) rfl dX7_define_129 ?_
                          refine z_nm fun h2095 e2096 => ?_
                          have D2097 : MD E (zs0 (zsa (zsa (zsa (zsa (zsa S 3 (zu (S 3) ((20 * (zn x)) + (zn ((S 7) (zn x)))) nm)) 4 (zu (S 4) ((20 * (zn x)) + (zn ((S 7) (zn x)))) kd)) 5 (zu (S 5) ((20 * (zn x)) + (zn ((S 7) (zn x)))) v0)) 6 (zu (S 6) ((20 * (zn x)) + (zn ((S 7) (zn x)))) how)) 7 (zu (S 7) (zn x) (nI ((zn ((S 7) (zn x))) + 1)))) 12 (nI 0)) h2095 := D2093.sF 12 (by decide) e2096
                          have o2098 := zOn.up o2094 e2096 D2093.1 (by decide)
                          refine z_aload_n X 1 dX7_define_132 zref.r rfl ?_
                          refine z_get X zP6 7 (by decide) q1570 (Or.inl rfl) D2097.1 (by decide) rfl dX7_define_133 ?_
                          refine z_iload_n X 2 dX7_define_136 rfl ?_
                          refine z_iald X (v := .int (nI ((zn ((S 7) (zn x))) + 1))) (zn x) (D2097.2.1 7 rfl) (by decide) (nI_zn _).symm (by show _ < 12; omega) (by decide) (congrArg Value.int zu_s) dX7_define_137 ?_
                          exact z_iret X hr hlk dX7_define_138 (by first | exact Nat.le_of_ble_eq_true rfl | (dsimp only [zRm]; omega) | omega) (by first | exact Nat.le_of_ble_eq_true rfl | (dsimp only [zRm]; omega) | omega) ⟨(by rw [defF, if_pos ⟨by omega, by omega, by omega, by omega, by omega, (by first | exact hO2046 | (exfalso; omega)), by omega⟩] <;> rfl), by rw [defF, if_pos ⟨by omega, by omega, by omega, by omega, by omega, (by first | exact hO2046 | (exfalso; omega)), by omega⟩]; exact D2097, o2098⟩
                        · refine z_iconst X (-1) dX7_define_68 (by decide) ?_
                          exact z_iret X hr hlk dX7_define_69 (by first | exact Nat.le_of_ble_eq_true rfl | (dsimp only [zRm]; omega) | omega) (by first | exact Nat.le_of_ble_eq_true rfl | (dsimp only [zRm]; omega) | omega) ⟨(by rw [defF, if_neg (by rintro ⟨h1, h2, h3, h4, h5, h6, h7⟩; first | omega | (rw [hO2046] at h6; cases h6))] <;> rfl), by rw [defF, if_neg (by rintro ⟨h1, h2, h3, h4, h5, h6, h7⟩; first | omega | (rw [hO2046] at h6; cases h6))]; exact D, (zOn.rf (T := zTM) (h := h))⟩
                  · refine z_iload X 4 dX7_define_39 rfl ?_
                    refine z_callS X (rest := []) c_X7_isStep (va_cwS 1 (zXts X) (lw_S q1701 q1702 q65 q1703) rfl rfl rfl (by decide +kernel) ⟨Nat.le_of_ble_eq_true rfl, Nat.le_of_ble_eq_true rfl⟩) rfl (Nat.le_of_ble_eq_true rfl) ⟨(by first | exact Nat.le_of_ble_eq_true rfl | (dsimp only [zRm]; omega)), (by first | exact Nat.le_of_ble_eq_true rfl | (dsimp only [zRm]; omega))⟩ dX7_define_41 (fun v2100 h2101 p2102 => ?_)
                    obtain ⟨⟨c2099, rfl⟩ | ⟨c2099, rfl⟩, rfl⟩ := p2102
                    · refine z_st (st' := [.int (nI 1)]) rfl ?_
                      refine z_ifU_eq X 1 68 dX7_define_44 (by decide) rfl (by omega) (fun c2103 => ?_) (fun c2103 => ?_)
                      · omega
                      · refine z_aload_n X 0 dX7_define_47 zref.r rfl ?_
                        refine z_iload_n X 1 dX7_define_48 rfl ?_
                        refine z_iload_n X 2 dX7_define_49 rfl ?_
                        have hxm : zn x < 12 := by omega
                        refine z_st (st' := [.int nm, .int (nI (zn x)), .ref (E 0)]) (by simp only [nI_zn]) ?_
                        refine z_callV X (rest := []) (c_X7_ofName D F (m := zn x) (x := nm) hxm) (cwV 2 (zXts X) (lw_V q1704 q1706 qs31 q65 q1707) rfl rfl rfl (by decide +kernel) ⟨Nat.le_of_ble_eq_true rfl, Nat.le_of_ble_eq_true rfl⟩) D.1 (by decide) rfl rfl (Nat.le_of_ble_eq_true rfl) ⟨(by first | exact Nat.le_of_ble_eq_true rfl | (dsimp only [zRm]; omega)), (by first | exact Nat.le_of_ble_eq_true rfl | (dsimp only [zRm]; omega))⟩ dX7_define_50 (fun v2104 h2105 p2106 => ?_)
                        obtain ⟨rfl, rfl⟩ := p2106
                        rcases hO2107 : ofN S (zn x) nm with _ | d
                        · refine z_st (st' := [.int (-1)]) rfl ?_
                          refine z_iconst X (-1) dX7_define_53 (by decide) ?_
                          refine z_icmpU_ne X 4294967295 4294967295 68 dX7_define_54 (by decide) (by decide) (by decide) (by omega) (by omega) (fun c2108 => ?_) (fun c2108 => ?_)
                          · omega
                          · refine z_aload_n X 0 dX7_define_57 zref.r rfl ?_
                            refine z_get X zP6 7 (by decide) q1570 (Or.inl rfl) D.1 (by decide) rfl dX7_define_58 ?_
                            refine z_iload_n X 1 dX7_define_61 rfl ?_
                            refine z_iald X (v := .int ((S 7) (zn x))) (zn x) (D.2.1 7 rfl) (by decide) (nI_zn _).symm (by show _ < 12; omega) (by decide) rfl dX7_define_62 ?_
                            refine z_bipush X (nI 20) dX7_define_63 (by decide) ?_
                            refine z_icmpU_ne X (zn ((S 7) (zn x))) 20 70 dX7_define_65 (by decide) (nI_zn _).symm rfl (zn_lt _) (by omega) (fun c2109 => ?_) (fun c2109 => ?_)
                            · refine z_bipush X (nI 20) dX7_define_70 (by decide) ?_
                              refine z_iload_n X 1 dX7_define_72 rfl ?_
                              refine z_imul X (nI (20 * (zn x))) dX7_define_73 (zmul rfl (nI_zn _).symm) ?_
                              refine z_aload_n X 0 dX7_define_74 zref.r rfl ?_
                              refine z_get X zP6 7 (by decide) q1570 (Or.inl rfl) D.1 (by decide) rfl dX7_define_75 ?_
                              refine z_iload_n X 1 dX7_define_78 rfl ?_
                              refine z_iald X (v := .int ((S 7) (zn x))) (zn x) (D.2.1 7 rfl) (by decide) (nI_zn _).symm (by show _ < 12; omega) (by decide) rfl dX7_define_79 ?_
                              refine z_iadd X (nI ((20 * (zn x)) + (zn ((S 7) (zn x))))) dX7_define_80 (zadd rfl (nI_zn _).symm) ?_
                              refine z_istore X (lv' := [(6, .int (nI ((20 * (zn x)) + (zn ((S 7) (zn x)))))), (0, .ref (E 0)), (1, .int x), (2, .int nm), (3, .int kd), (4, .int v0), (5, .int how)]) dX7_define_81 (by decide) rfl ?_
                              refine z_aload_n X 1 dX7_define_83 zref.r rfl ?_
                              refine z_get X zP6 3 (by decide) q1566 (Or.inl rfl) D.1 (by decide) rfl dX7_define_84 ?_
                              refine z_iload X 0 dX7_define_87 rfl ?_
                              refine z_iload_n X 3 dX7_define_89 rfl ?_
                              refine z_iast X ((20 * (zn x)) + (zn ((S 7) (zn x)))) (D.2.1 3 rfl) (by decide) (by decide) rfl (by show _ < 240; omega) (by decide) (f' := fun i => .int ((zu (S 3) ((20 * (zn x)) + (zn ((S 7) (zn x)))) nm) i)) (fun _ => zu_v _) dX7_define_90 ?_
                              refine z_nm fun h2110 e2111 => ?_
                              have D2112 : MD E (zsa S 3 (zu (S 3) ((20 * (zn x)) + (zn ((S 7) (zn x)))) nm)) h2110 := D.sA 3 rfl e2111
                              have o2113 := zOn.up (zOn.rf (T := zTM) (h := h)) e2111 (D.2.1 3 rfl) (by decide)
                              refine z_aload_n X 1 dX7_define_91 zref.r rfl ?_
                              refine z_get X zP6 4 (by decide) q1567 (Or.inl rfl) D2112.1 (by decide) rfl dX7_define_92 ?_
                              refine z_iload X 0 dX7_define_95 rfl ?_
                              refine z_iload_n X 4 dX7_define_97 rfl ?_
                              refine z_iast X ((20 * (zn x)) + (zn ((S 7) (zn x)))) (D2112.2.1 4 rfl) (by decide) (by decide) rfl (by show _ < 240; omega) (by decide) (f' := fun i => .int ((zu (S 4) ((20 * (zn x)) + (zn ((S 7) (zn x)))) kd) i)) (fun _ => zu_v _) dX7_define_98 ?_
                              refine z_nm fun h2114 e2115 => ?_
                              have D2116 : MD E (zsa (zsa S 3 (zu (S 3) ((20 * (zn x)) + (zn ((S 7) (zn x)))) nm)) 4 (zu (S 4) ((20 * (zn x)) + (zn ((S 7) (zn x)))) kd)) h2114 := D2112.sA 4 rfl e2115
                              have o2117 := zOn.up o2113 e2115 (D2112.2.1 4 rfl) (by decide)
                              refine z_aload_n X 1 dX7_define_99 zref.r rfl ?_
                              refine z_get X zP6 5 (by decide) q1568 (Or.inl rfl) D2116.1 (by decide) rfl dX7_define_100 ?_
                              refine z_iload X 0 dX7_define_103 rfl ?_
                              refine z_iload X 5 dX7_define_105 rfl ?_
                              refine z_iast X ((20 * (zn x)) + (zn ((S 7) (zn x)))) (D2116.2.1 5 rfl) (by decide) (by decide) rfl (by show _ < 240; omega) (by decide) (f' := fun i => .int ((zu (S 5) ((20 * (zn x)) + (zn ((S 7) (zn x)))) v0) i)) (fun _ => zu_v _) dX7_define_107 ?_
                              refine z_nm fun h2118 e2119 => ?_
                              have D2120 : MD E (zsa (zsa (zsa S 3 (zu (S 3) ((20 * (zn x)) + (zn ((S 7) (zn x)))) nm)) 4 (zu (S 4) ((20 * (zn x)) + (zn ((S 7) (zn x)))) kd)) 5 (zu (S 5) ((20 * (zn x)) + (zn ((S 7) (zn x)))) v0)) h2118 := D2116.sA 5 rfl e2119
                              have o2121 := zOn.up o2117 e2119 (D2116.2.1 5 rfl) (by decide)
                              refine z_aload_n X 1 dX7_define_108 zref.r rfl ?_
                              refine z_get X zP6 6 (by decide) q1569 (Or.inl rfl) D2120.1 (by decide) rfl dX7_define_109 ?_
                              refine z_iload X 0 dX7_define_112 rfl ?_
                              refine z_iload X 6 dX7_define_114 rfl ?_
                              refine z_iast X ((20 * (zn x)) + (zn ((S 7) (zn x)))) (D2120.2.1 6 rfl) (by decide) (by decide) rfl (by show _ < 240; omega) (by decide) (f' := fun i => .int ((zu (S 6) ((20 * (zn x)) + (zn ((S 7) (zn x)))) how) i)) (fun _ => zu_v _) dX7_define_116 ?_
                              refine z_nm fun h2122 e2123 => ?_
                              have D2124 : MD E (zsa (zsa (zsa (zsa S 3 (zu (S 3) ((20 * (zn x)) + (zn ((S 7) (zn x)))) nm)) 4 (zu (S 4) ((20 * (zn x)) + (zn ((S 7) (zn x)))) kd)) 5 (zu (S 5) ((20 * (zn x)) + (zn ((S 7) (zn x)))) v0)) 6 (zu (S 6) ((20 * (zn x)) + (zn ((S 7) (zn x)))) how)) h2122 := D2120.sA 6 rfl e2123
                              have o2125 := zOn.up o2121 e2123 (D2120.2.1 6 rfl) (by decide)
                              refine z_aload_n X 1 dX7_define_117 zref.r rfl ?_
                              refine z_get X zP6 7 (by decide) q1570 (Or.inl rfl) D2124.1 (by decide) rfl dX7_define_118 ?_
                              refine z_iload_n X 2 dX7_define_121 rfl ?_
                              refine z_dup2 X dX7_define_122 rfl rfl ?_
                              refine z_iald X (v := .int ((S 7) (zn x))) (zn x) (D2124.2.1 7 rfl) (by decide) (nI_zn _).symm (by show _ < 12; omega) (by decide) rfl dX7_define_123 ?_
                              refine z_iconst X (nI 1) dX7_define_124 (by decide) ?_
                              refine z_iadd X (nI ((zn ((S 7) (zn x))) + 1)) dX7_define_125 (zadd (nI_zn _).symm rfl) ?_
                              refine z_iast X (zn x) (D2124.2.1 7 rfl) (by decide) (by decide) (nI_zn _).symm (by show _ < 12; omega) (by decide) (f' := fun i => .int ((zu (S 7) (zn x) (nI ((zn ((S 7) (zn x))) + 1))) i)) (fun _ => zu_v _) dX7_define_126 ?_
                              refine z_nm fun h2126 e2127 => ?_
                              have D2128 : MD E (zsa (zsa (zsa (zsa (zsa S 3 (zu (S 3) ((20 * (zn x)) + (zn ((S 7) (zn x)))) nm)) 4 (zu (S 4) ((20 * (zn x)) + (zn ((S 7) (zn x)))) kd)) 5 (zu (S 5) ((20 * (zn x)) + (zn ((S 7) (zn x)))) v0)) 6 (zu (S 6) ((20 * (zn x)) + (zn ((S 7) (zn x)))) how)) 7 (zu (S 7) (zn x) (nI ((zn ((S 7) (zn x))) + 1)))) h2126 := D2124.sA 7 rfl e2127
                              have o2129 := zOn.up o2125 e2127 (D2124.2.1 7 rfl) (by decide)
                              refine z_aload_n X 1 dX7_define_127 zref.r rfl ?_
                              refine z_iconst X (nI 0) dX7_define_128 (by decide) ?_
                              refine z_put X zP6 12 (by decide) q1575 (Or.inl rfl) rfl D2128.1 (by decide) (by decide) (zfits.b0) (Nat.le_of_ble_eq_true rfl) rfl dX7_define_129 ?_
                              refine z_nm fun h2130 e2131 => ?_
                              have D2132 : MD E (zs0 (zsa (zsa (zsa (zsa (zsa S 3 (zu (S 3) ((20 * (zn x)) + (zn ((S 7) (zn x)))) nm)) 4 (zu (S 4) ((20 * (zn x)) + (zn ((S 7) (zn x)))) kd)) 5 (zu (S 5) ((20 * (zn x)) + (zn ((S 7) (zn x)))) v0)) 6 (zu (S 6) ((20 * (zn x)) + (zn ((S 7) (zn x)))) how)) 7 (zu (S 7) (zn x) (nI ((zn ((S 7) (zn x))) + 1)))) 12 (nI 0)) h2130 := D2128.sF 12 (by decide) e2131
                              have o2133 := zOn.up o2129 e2131 D2128.1 (by decide)
                              refine z_aload_n X 1 dX7_define_132 zref.r rfl ?_
                              refine z_get X zP6 7 (by decide) q1570 (Or.inl rfl) D2132.1 (by decide) rfl dX7_define_133 ?_
                              refine z_iload_n X 2 dX7_define_136 rfl ?_
                              refine z_iald X (v := .int (nI ((zn ((S 7) (zn x))) + 1))) (zn x) (D2132.2.1 7 rfl) (by decide) (nI_zn _).symm (by show _ < 12; omega) (by decide) (congrArg Value.int zu_s) dX7_define_137 ?_
                              exact z_iret X hr hlk dX7_define_138 (by first | exact Nat.le_of_ble_eq_true rfl | (dsimp only [zRm]; omega) | omega) (by first | exact Nat.le_of_ble_eq_true rfl | (dsimp only [zRm]; omega) | omega) ⟨(by rw [defF, if_pos ⟨by omega, by omega, by omega, by omega, by omega, (by first | exact hO2107 | (exfalso; omega)), by omega⟩] <;> rfl), by rw [defF, if_pos ⟨by omega, by omega, by omega, by omega, by omega, (by first | exact hO2107 | (exfalso; omega)), by omega⟩]; exact D2132, o2133⟩
                            · refine z_iconst X (-1) dX7_define_68 (by decide) ?_
                              exact z_iret X hr hlk dX7_define_69 (by first | exact Nat.le_of_ble_eq_true rfl | (dsimp only [zRm]; omega) | omega) (by first | exact Nat.le_of_ble_eq_true rfl | (dsimp only [zRm]; omega) | omega) ⟨(by rw [defF, if_neg (by rintro ⟨h1, h2, h3, h4, h5, h6, h7⟩; first | omega | (rw [hO2107] at h6; cases h6))] <;> rfl), by rw [defF, if_neg (by rintro ⟨h1, h2, h3, h4, h5, h6, h7⟩; first | omega | (rw [hO2107] at h6; cases h6))]; exact D, (zOn.rf (T := zTM) (h := h))⟩
                        · refine z_st (st' := [.int (nI d)]) rfl ?_
                          obtain ⟨hO2107a, hO2107b, hO2107c, hO2107d, hO2107e, hO2107f⟩ := F.ds hO2107
                          refine z_iconst X (-1) dX7_define_53 (by decide) ?_
                          refine z_icmpU_ne X d 4294967295 68 dX7_define_54 (by decide) rfl (by decide) (by omega) (by omega) (fun c2134 => ?_) (fun c2134 => ?_)
                          · refine z_iconst X (-1) dX7_define_68 (by decide) ?_
                            exact z_iret X hr hlk dX7_define_69 (by first | exact Nat.le_of_ble_eq_true rfl | (dsimp only [zRm]; omega) | omega) (by first | exact Nat.le_of_ble_eq_true rfl | (dsimp only [zRm]; omega) | omega) ⟨(by rw [defF, if_neg (by rintro ⟨h1, h2, h3, h4, h5, h6, h7⟩; first | omega | (rw [hO2107] at h6; cases h6))] <;> rfl), by rw [defF, if_neg (by rintro ⟨h1, h2, h3, h4, h5, h6, h7⟩; first | omega | (rw [hO2107] at h6; cases h6))]; exact D, (zOn.rf (T := zTM) (h := h))⟩
                          · refine z_aload_n X 0 dX7_define_57 zref.r rfl ?_
                            refine z_get X zP6 7 (by decide) q1570 (Or.inl rfl) D.1 (by decide) rfl dX7_define_58 ?_
                            refine z_iload_n X 1 dX7_define_61 rfl ?_
                            refine z_iald X (v := .int ((S 7) (zn x))) (zn x) (D.2.1 7 rfl) (by decide) (nI_zn _).symm (by show _ < 12; omega) (by decide) rfl dX7_define_62 ?_
                            refine z_bipush X (nI 20) dX7_define_63 (by decide) ?_
                            refine z_icmpU_ne X (zn ((S 7) (zn x))) 20 70 dX7_define_65 (by decide) (nI_zn _).symm rfl (zn_lt _) (by omega) (fun c2135 => ?_) (fun c2135 => ?_)
                            · refine z_bipush X (nI 20) dX7_define_70 (by decide) ?_
                              refine z_iload_n X 1 dX7_define_72 rfl ?_
                              refine z_imul X (nI (20 * (zn x))) dX7_define_73 (zmul rfl (nI_zn _).symm) ?_
                              refine z_aload_n X 0 dX7_define_74 zref.r rfl ?_
                              refine z_get X zP6 7 (by decide) q1570 (Or.inl rfl) D.1 (by decide) rfl dX7_define_75 ?_
                              refine z_iload_n X 1 dX7_define_78 rfl ?_
                              refine z_iald X (v := .int ((S 7) (zn x))) (zn x) (D.2.1 7 rfl) (by decide) (nI_zn _).symm (by show _ < 12; omega) (by decide) rfl dX7_define_79 ?_
                              refine z_iadd X (nI ((20 * (zn x)) + (zn ((S 7) (zn x))))) dX7_define_80 (zadd rfl (nI_zn _).symm) ?_
                              refine z_istore X (lv' := [(6, .int (nI ((20 * (zn x)) + (zn ((S 7) (zn x)))))), (0, .ref (E 0)), (1, .int x), (2, .int nm), (3, .int kd), (4, .int v0), (5, .int how)]) dX7_define_81 (by decide) rfl ?_
                              refine z_aload_n X 1 dX7_define_83 zref.r rfl ?_
                              refine z_get X zP6 3 (by decide) q1566 (Or.inl rfl) D.1 (by decide) rfl dX7_define_84 ?_
                              refine z_iload X 0 dX7_define_87 rfl ?_
                              refine z_iload_n X 3 dX7_define_89 rfl ?_
                              refine z_iast X ((20 * (zn x)) + (zn ((S 7) (zn x)))) (D.2.1 3 rfl) (by decide) (by decide) rfl (by show _ < 240; omega) (by decide) (f' := fun i => .int ((zu (S 3) ((20 * (zn x)) + (zn ((S 7) (zn x)))) nm) i)) (fun _ => zu_v _) dX7_define_90 ?_
                              refine z_nm fun h2136 e2137 => ?_
                              have D2138 : MD E (zsa S 3 (zu (S 3) ((20 * (zn x)) + (zn ((S 7) (zn x)))) nm)) h2136 := D.sA 3 rfl e2137
                              have o2139 := zOn.up (zOn.rf (T := zTM) (h := h)) e2137 (D.2.1 3 rfl) (by decide)
                              refine z_aload_n X 1 dX7_define_91 zref.r rfl ?_
                              refine z_get X zP6 4 (by decide) q1567 (Or.inl rfl) D2138.1 (by decide) rfl dX7_define_92 ?_
                              refine z_iload X 0 dX7_define_95 rfl ?_
                              refine z_iload_n X 4 dX7_define_97 rfl ?_
                              refine z_iast X ((20 * (zn x)) + (zn ((S 7) (zn x)))) (D2138.2.1 4 rfl) (by decide) (by decide) rfl (by show _ < 240; omega) (by decide) (f' := fun i => .int ((zu (S 4) ((20 * (zn x)) + (zn ((S 7) (zn x)))) kd) i)) (fun _ => zu_v _) dX7_define_98 ?_
                              refine z_nm fun h2140 e2141 => ?_
                              have D2142 : MD E (zsa (zsa S 3 (zu (S 3) ((20 * (zn x)) + (zn ((S 7) (zn x)))) nm)) 4 (zu (S 4) ((20 * (zn x)) + (zn ((S 7) (zn x)))) kd)) h2140 := D2138.sA 4 rfl e2141
                              have o2143 := zOn.up o2139 e2141 (D2138.2.1 4 rfl) (by decide)
                              refine z_aload_n X 1 dX7_define_99 zref.r rfl ?_
                              refine z_get X zP6 5 (by decide) q1568 (Or.inl rfl) D2142.1 (by decide) rfl dX7_define_100 ?_
                              refine z_iload X 0 dX7_define_103 rfl ?_
                              refine z_iload X 5 dX7_define_105 rfl ?_
                              refine z_iast X ((20 * (zn x)) + (zn ((S 7) (zn x)))) (D2142.2.1 5 rfl) (by decide) (by decide) rfl (by show _ < 240; omega) (by decide) (f' := fun i => .int ((zu (S 5) ((20 * (zn x)) + (zn ((S 7) (zn x)))) v0) i)) (fun _ => zu_v _) dX7_define_107 ?_
                              refine z_nm fun h2144 e2145 => ?_
                              have D2146 : MD E (zsa (zsa (zsa S 3 (zu (S 3) ((20 * (zn x)) + (zn ((S 7) (zn x)))) nm)) 4 (zu (S 4) ((20 * (zn x)) + (zn ((S 7) (zn x)))) kd)) 5 (zu (S 5) ((20 * (zn x)) + (zn ((S 7) (zn x)))) v0)) h2144 := D2142.sA 5 rfl e2145
                              have o2147 := zOn.up o2143 e2145 (D2142.2.1 5 rfl) (by decide)
                              refine z_aload_n X 1 dX7_define_108 zref.r rfl ?_
                              refine z_get X zP6 6 (by decide) q1569 (Or.inl rfl) D2146.1 (by decide) rfl dX7_define_109 ?_
                              refine z_iload X 0 dX7_define_112 rfl ?_
                              refine z_iload X 6 dX7_define_114 rfl ?_
                              refine z_iast X ((20 * (zn x)) + (zn ((S 7) (zn x)))) (D2146.2.1 6 rfl) (by decide) (by decide) rfl (by show _ < 240; omega) (by decide) (f' := fun i => .int ((zu (S 6) ((20 * (zn x)) + (zn ((S 7) (zn x)))) how) i)) (fun _ => zu_v _) dX7_define_116 ?_
                              refine z_nm fun h2148 e2149 => ?_
                              have D2150 : MD E (zsa (zsa (zsa (zsa S 3 (zu (S 3) ((20 * (zn x)) + (zn ((S 7) (zn x)))) nm)) 4 (zu (S 4) ((20 * (zn x)) + (zn ((S 7) (zn x)))) kd)) 5 (zu (S 5) ((20 * (zn x)) + (zn ((S 7) (zn x)))) v0)) 6 (zu (S 6) ((20 * (zn x)) + (zn ((S 7) (zn x)))) how)) h2148 := D2146.sA 6 rfl e2149
                              have o2151 := zOn.up o2147 e2149 (D2146.2.1 6 rfl) (by decide)
                              refine z_aload_n X 1 dX7_define_117 zref.r rfl ?_
                              refine z_get X zP6 7 (by decide) q1570 (Or.inl rfl) D2150.1 (by decide) rfl dX7_define_118 ?_
                              refine z_iload_n X 2 dX7_define_121 rfl ?_
                              refine z_dup2 X dX7_define_122 rfl rfl ?_
                              refine z_iald X (v := .int ((S 7) (zn x))) (zn x) (D2150.2.1 7 rfl) (by decide) (nI_zn _).symm (by show _ < 12; omega) (by decide) rfl dX7_define_123 ?_
                              refine z_iconst X (nI 1) dX7_define_124 (by decide) ?_
                              refine z_iadd X (nI ((zn ((S 7) (zn x))) + 1)) dX7_define_125 (zadd (nI_zn _).symm rfl) ?_
                              refine z_iast X (zn x) (D2150.2.1 7 rfl) (by decide) (by decide) (nI_zn _).symm (by show _ < 12; omega) (by decide) (f' := fun i => .int ((zu (S 7) (zn x) (nI ((zn ((S 7) (zn x))) + 1))) i)) (fun _ => zu_v _) dX7_define_126 ?_
                              refine z_nm fun h2152 e2153 => ?_
                              have D2154 : MD E (zsa (zsa (zsa (zsa (zsa S 3 (zu (S 3) ((20 * (zn x)) + (zn ((S 7) (zn x)))) nm)) 4 (zu (S 4) ((20 * (zn x)) + (zn ((S 7) (zn x)))) kd)) 5 (zu (S 5) ((20 * (zn x)) + (zn ((S 7) (zn x)))) v0)) 6 (zu (S 6) ((20 * (zn x)) + (zn ((S 7) (zn x)))) how)) 7 (zu (S 7) (zn x) (nI ((zn ((S 7) (zn x))) + 1)))) h2152 := D2150.sA 7 rfl e2153
                              have o2155 := zOn.up o2151 e2153 (D2150.2.1 7 rfl) (by decide)
                              refine z_aload_n X 1 dX7_define_127 zref.r rfl ?_
                              refine z_iconst X (nI 0) dX7_define_128 (by decide) ?_
                              refine z_put X zP6 12 (by decide) q1575 (Or.inl rfl) rfl D2154.1 (by decide) (by decide) (zfits.b0) (Nat.le_of_ble_eq_true rfl) rfl dX7_define_129 ?_
                              refine z_nm fun h2156 e2157 => ?_
                              have D2158 : MD E (zs0 (zsa (zsa (zsa (zsa (zsa S 3 (zu (S 3) ((20 * (zn x)) + (zn ((S 7) (zn x)))) nm)) 4 (zu (S 4) ((20 * (zn x)) + (zn ((S 7) (zn x)))) kd)) 5 (zu (S 5) ((20 * (zn x)) + (zn ((S 7) (zn x)))) v0)) 6 (zu (S 6) ((20 * (zn x)) + (zn ((S 7) (zn x)))) how)) 7 (zu (S 7) (zn x) (nI ((zn ((S 7) (zn x))) + 1)))) 12 (nI 0)) h2156 := D2154.sF 12 (by decide) e2157
                              have o2159 := zOn.up o2155 e2157 D2154.1 (by decide)
                              refine z_aload_n X 1 dX7_define_132 zref.r rfl ?_
                              refine z_get X zP6 7 (by decide) q1570 (Or.inl rfl) D2158.1 (by decide) rfl dX7_define_133 ?_
                              refine z_iload_n X 2 dX7_define_136 rfl ?_
                              refine z_iald X (v := .int (nI ((zn ((S 7) (zn x))) + 1))) (zn x) (D2158.2.1 7 rfl) (by decide) (nI_zn _).symm (by show _ < 12; omega) (by decide) (congrArg Value.int zu_s) dX7_define_137 ?_
                              exact z_iret X hr hlk dX7_define_138 (by first | exact Nat.le_of_ble_eq_true rfl | (dsimp only [zRm]; omega) | omega) (by first | exact Nat.le_of_ble_eq_true rfl | (dsimp only [zRm]; omega) | omega) ⟨(by rw [defF, if_pos ⟨by omega, by omega, by omega, by omega, by omega, (by first | exact hO2107 | (exfalso; omega)), by omega⟩] <;> rfl), by rw [defF, if_pos ⟨by omega, by omega, by omega, by omega, by omega, (by first | exact hO2107 | (exfalso; omega)), by omega⟩]; exact D2158, o2159⟩
                            · refine z_iconst X (-1) dX7_define_68 (by decide) ?_
                              exact z_iret X hr hlk dX7_define_69 (by first | exact Nat.le_of_ble_eq_true rfl | (dsimp only [zRm]; omega) | omega) (by first | exact Nat.le_of_ble_eq_true rfl | (dsimp only [zRm]; omega) | omega) ⟨(by rw [defF, if_neg (by rintro ⟨h1, h2, h3, h4, h5, h6, h7⟩; first | omega | (rw [hO2107] at h6; cases h6))] <;> rfl), by rw [defF, if_neg (by rintro ⟨h1, h2, h3, h4, h5, h6, h7⟩; first | omega | (rw [hO2107] at h6; cases h6))]; exact D, (zOn.rf (T := zTM) (h := h))⟩
                    · refine z_st (st' := [.int (nI 0)]) rfl ?_
                      refine z_ifU_eq X 0 68 dX7_define_44 (by decide) rfl (by omega) (fun c2160 => ?_) (fun c2160 => ?_)
                      · refine z_iconst X (-1) dX7_define_68 (by decide) ?_
                        exact z_iret X hr hlk dX7_define_69 (by first | exact Nat.le_of_ble_eq_true rfl | (dsimp only [zRm]; omega) | omega) (by first | exact Nat.le_of_ble_eq_true rfl | (dsimp only [zRm]; omega) | omega) ⟨(by rw [defF, if_neg (by rintro ⟨h1, h2, h3, h4, h5, h6, h7⟩; first | omega)] <;> rfl), by rw [defF, if_neg (by rintro ⟨h1, h2, h3, h4, h5, h6, h7⟩; first | omega)]; exact D, (zOn.rf (T := zTM) (h := h))⟩
                      · omega
      · refine z_st (st' := [.int (nI 0)]) rfl ?_
        refine z_ifU_eq X 0 68 dX7_define_12 (by decide) rfl (by omega) (fun c2161 => ?_) (fun c2161 => ?_)
        · refine z_iconst X (-1) dX7_define_68 (by decide) ?_
          exact z_iret X hr hlk dX7_define_69 (by first | exact Nat.le_of_ble_eq_true rfl | (dsimp only [zRm]; omega) | omega) (by first | exact Nat.le_of_ble_eq_true rfl | (dsimp only [zRm]; omega) | omega) ⟨(by rw [defF, if_neg (by rintro ⟨h1, h2, h3, h4, h5, h6, h7⟩; first | omega)] <;> rfl), by rw [defF, if_neg (by rintro ⟨h1, h2, h3, h4, h5, h6, h7⟩; first | omega)]; exact D, (zOn.rf (T := zTM) (h := h))⟩
        · omega
  · refine z_st (st' := [.int (nI 0)]) rfl ?_
    refine z_ifU_eq X 0 68 dX7_define_5 (by decide) rfl (by omega) (fun c2162 => ?_) (fun c2162 => ?_)
    · refine z_iconst X (-1) dX7_define_68 (by decide) ?_
      exact z_iret X hr hlk dX7_define_69 (by first | exact Nat.le_of_ble_eq_true rfl | (dsimp only [zRm]; omega) | omega) (by first | exact Nat.le_of_ble_eq_true rfl | (dsimp only [zRm]; omega) | omega) ⟨(by rw [defF, if_neg (by rintro ⟨h1, h2, h3, h4, h5, h6, h7⟩; first | omega)] <;> rfl), by rw [defF, if_neg (by rintro ⟨h1, h2, h3, h4, h5, h6, h7⟩; first | omega)]; exact D, (zOn.rf (T := zTM) (h := h))⟩
    · omega
set_option maxHeartbeats 2000000 in
theorem c_X7_optional {l : Launch} {G : ZG} {h : ZH} {E : Nat → Nat} {S : ZS} {x nm : Int32} (D : MD E S h) (F : ZWF S)  : ZM l G yX7_optional (ws_ yX7_optional cX7_optional 3 (Option.some FieldType.int)) (zRm 1 0 0 40) [.ref (E 0), .int x, .int nm] h (fun v h' => v = some (.int (optF S x nm).1) ∧ MD E (optF S x nm).2 h' ∧ zOn zTM h h') := by
  refine ZT.zm (ZT.of (by first | exact plainFor_of_name (by decide) | decide +kernel) (Nat.le_of_ble_eq_true rfl) (zcats.r zref.r (zcats.i (zcats.i zcats.nil))) ?_)
  intro p_ e_ s_ m_ args_ below_ meth_ c_ X hr hlk hin htab
  have X : ZX p_ m_ c_ cX7_optional 3 s_ args_ "LinkStationModel" G := X
  refine z_lv (lv' := [(0, .ref (E 0)), (1, .int x), (2, .int nm)]) (fun _ hq => hq) ?_
  have hM := F.mods
  refine z_aload_n X 0 dX7_optional_0 zref.r rfl ?_
  refine z_iload_n X 1 dX7_optional_1 rfl ?_
  refine z_callV X (rest := []) (c_X7_isModule D F) (cwV 1 (zXts X) (lw_V q1690 q1692 qs30 q65 q1693) rfl rfl rfl (by decide +kernel) ⟨Nat.le_of_ble_eq_true rfl, Nat.le_of_ble_eq_true rfl⟩) D.1 (by decide) rfl rfl (Nat.le_of_ble_eq_true rfl) ⟨(by first | exact Nat.le_of_ble_eq_true rfl | (dsimp only [zRm]; omega)), (by first | exact Nat.le_of_ble_eq_true rfl | (dsimp only [zRm]; omega))⟩ dX7_optional_2 (fun v2164 h2165 p2166 => ?_)
  obtain ⟨⟨c2163, rfl⟩ | ⟨c2163, rfl⟩, rfl⟩ := p2166
  · refine z_st (st' := [.int (nI 1)]) rfl ?_
    refine z_ifU_eq X 1 29 dX7_optional_5 (by decide) rfl (by omega) (fun c2167 => ?_) (fun c2167 => ?_)
    · omega
    · refine z_iload_n X 2 dX7_optional_8 rfl ?_
      refine z_callS X (rest := []) c_X7_isName (va_cwS 1 (zXts X) (lw_S q1698 q1699 q65 q1700) rfl rfl rfl (by decide +kernel) ⟨Nat.le_of_ble_eq_true rfl, Nat.le_of_ble_eq_true rfl⟩) rfl (Nat.le_of_ble_eq_true rfl) ⟨(by first | exact Nat.le_of_ble_eq_true rfl | (dsimp only [zRm]; omega)), (by first | exact Nat.le_of_ble_eq_true rfl | (dsimp only [zRm]; omega))⟩ dX7_optional_9 (fun v2169 h2170 p2171 => ?_)
      obtain ⟨⟨c2168, rfl⟩ | ⟨c2168, rfl⟩, rfl⟩ := p2171
      · refine z_st (st' := [.int (nI 1)]) rfl ?_
        refine z_ifU_eq X 1 29 dX7_optional_12 (by decide) rfl (by omega) (fun c2172 => ?_) (fun c2172 => ?_)
        · omega
        · refine z_aload_n X 0 dX7_optional_15 zref.r rfl ?_
          refine z_get X zP6 10 (by decide) q1573 (Or.inl rfl) D.1 (by decide) rfl dX7_optional_16 ?_
          refine z_bipush X (nI 64) dX7_optional_19 (by decide) ?_
          refine z_iload_n X 1 dX7_optional_21 rfl ?_
          refine z_imul X (nI (64 * (zn x))) dX7_optional_22 (zmul rfl (nI_zn _).symm) ?_
          refine z_iload_n X 2 dX7_optional_23 rfl ?_
          refine z_iadd X (nI ((64 * (zn x)) + (zn nm))) dX7_optional_24 (zadd rfl (nI_zn _).symm) ?_
          refine z_zald X (v := .int ((S 10) ((64 * (zn x)) + (zn nm)))) ((64 * (zn x)) + (zn nm)) (D.2.1 10 rfl) (by decide) rfl (by show _ < 768; omega) (by decide) rfl dX7_optional_25 ?_
          refine z_ifU_eq X (zn ((S 10) ((64 * (zn x)) + (zn nm)))) 31 dX7_optional_26 (by decide) (nI_zn _).symm (zn_lt _) (fun c2173 => ?_) (fun c2173 => ?_)
          · refine z_aload_n X 0 dX7_optional_31 zref.r rfl ?_
            refine z_get X zP6 10 (by decide) q1573 (Or.inl rfl) D.1 (by decide) rfl dX7_optional_32 ?_
            refine z_bipush X (nI 64) dX7_optional_35 (by decide) ?_
            refine z_iload_n X 1 dX7_optional_37 rfl ?_
            refine z_imul X (nI (64 * (zn x))) dX7_optional_38 (zmul rfl (nI_zn _).symm) ?_
            refine z_iload_n X 2 dX7_optional_39 rfl ?_
            refine z_iadd X (nI ((64 * (zn x)) + (zn nm))) dX7_optional_40 (zadd rfl (nI_zn _).symm) ?_
            refine z_iconst X (nI 1) dX7_optional_41 (by decide) ?_
            refine z_zast X ((64 * (zn x)) + (zn nm)) (D.2.1 10 rfl) (by decide) (by decide) rfl (by show _ < 768; omega) (by decide) (zfits.b1) (f' := fun i => .int ((zu (S 10) ((64 * (zn x)) + (zn nm)) (nI 1)) i)) (fun _ => zu_v _) dX7_optional_42 ?_
            refine z_nm fun h2174 e2175 => ?_
            have D2176 : MD E (zsa S 10 (zu (S 10) ((64 * (zn x)) + (zn nm)) (nI 1))) h2174 := D.sA 10 rfl e2175
            have o2177 := zOn.up (zOn.rf (T := zTM) (h := h)) e2175 (D.2.1 10 rfl) (by decide)
            refine z_aload_n X 0 dX7_optional_43 zref.r rfl ?_
            refine z_iconst X (nI 0) dX7_optional_44 (by decide) ?_
            refine z_put X zP6 12 (by decide) q1575 (Or.inl rfl) rfl D2176.1 (by decide) (by decide) (zfits.b0) (Nat.le_of_ble_eq_true rfl) rfl dX7_optional_45 ?_
            refine z_nm fun h2178 e2179 => ?_
            have D2180 : MD E (zs0 (zsa S 10 (zu (S 10) ((64 * (zn x)) + (zn nm)) (nI 1))) 12 (nI 0)) h2178 := D2176.sF 12 (by decide) e2179
            have o2181 := zOn.up o2177 e2179 D2176.1 (by decide)
            refine z_iconst X (nI 1) dX7_optional_48 (by decide) ?_
            exact z_iret X hr hlk dX7_optional_49 (by first | exact Nat.le_of_ble_eq_true rfl | (dsimp only [zRm]; omega) | omega) (by first | exact Nat.le_of_ble_eq_true rfl | (dsimp only [zRm]; omega) | omega) ⟨(by rw [optF, if_pos (⟨by omega, by omega, zn_inj (by first | assumption | (show _ = 0; omega))⟩)] <;> rfl), by rw [optF, if_pos (⟨by omega, by omega, zn_inj (by first | assumption | (show _ = 0; omega))⟩)]; exact D2180, o2181⟩
          · refine z_iconst X (nI 0) dX7_optional_29 (by decide) ?_
            exact z_iret X hr hlk dX7_optional_30 (by first | exact Nat.le_of_ble_eq_true rfl | (dsimp only [zRm]; omega) | omega) (by first | exact Nat.le_of_ble_eq_true rfl | (dsimp only [zRm]; omega) | omega) ⟨(by rw [optF, if_neg (by rintro ⟨h1, h2, h3⟩; first | omega | (have h4 : zn (S 10 (64 * zn x + zn nm)) = 0 := by rw [h3]; rfl); omega)] <;> rfl), by rw [optF, if_neg (by rintro ⟨h1, h2, h3⟩; first | omega | (have h4 : zn (S 10 (64 * zn x + zn nm)) = 0 := by rw [h3]; rfl); omega)]; exact D, (zOn.rf (T := zTM) (h := h))⟩
      · refine z_st (st' := [.int (nI 0)]) rfl ?_
        refine z_ifU_eq X 0 29 dX7_optional_12 (by decide) rfl (by omega) (fun c2182 => ?_) (fun c2182 => ?_)
        · refine z_iconst X (nI 0) dX7_optional_29 (by decide) ?_
          exact z_iret X hr hlk dX7_optional_30 (by first | exact Nat.le_of_ble_eq_true rfl | (dsimp only [zRm]; omega) | omega) (by first | exact Nat.le_of_ble_eq_true rfl | (dsimp only [zRm]; omega) | omega) ⟨(by rw [optF, if_neg (by rintro ⟨h1, h2, h3⟩; first | omega | (have h4 : zn (S 10 (64 * zn x + zn nm)) = 0 := by rw [h3]; rfl); omega)] <;> rfl), by rw [optF, if_neg (by rintro ⟨h1, h2, h3⟩; first | omega | (have h4 : zn (S 10 (64 * zn x + zn nm)) = 0 := by rw [h3]; rfl); omega)]; exact D, (zOn.rf (T := zTM) (h := h))⟩
        · omega
  · refine z_st (st' := [.int (nI 0)]) rfl ?_
    refine z_ifU_eq X 0 29 dX7_optional_5 (by decide) rfl (by omega) (fun c2183 => ?_) (fun c2183 => ?_)
    · refine z_iconst X (nI 0) dX7_optional_29 (by decide) ?_
      exact z_iret X hr hlk dX7_optional_30 (by first | exact Nat.le_of_ble_eq_true rfl | (dsimp only [zRm]; omega) | omega) (by first | exact Nat.le_of_ble_eq_true rfl | (dsimp only [zRm]; omega) | omega) ⟨(by rw [optF, if_neg (by rintro ⟨h1, h2, h3⟩; first | omega | (have h4 : zn (S 10 (64 * zn x + zn nm)) = 0 := by rw [h3]; rfl); omega)] <;> rfl), by rw [optF, if_neg (by rintro ⟨h1, h2, h3⟩; first | omega | (have h4 : zn (S 10 (64 * zn x + zn nm)) = 0 := by rw [h3]; rfl); omega)]; exact D, (zOn.rf (T := zTM) (h := h))⟩
    · omega
set_option maxHeartbeats 2000000 in
theorem c_X7_beginner {l : Launch} {G : ZG} {h : ZH} {E : Nat → Nat} {S : ZS} {x nm : Int32} (D : MD E S h) (F : ZWF S)  : ZM l G yX7_beginner (ws_ yX7_beginner cX7_beginner 3 (Option.some FieldType.int)) (zRm 1 0 0 40) [.ref (E 0), .int x, .int nm] h (fun v h' => v = some (.int (begF S x nm).1) ∧ MD E (begF S x nm).2 h' ∧ zOn zTM h h') := by
  refine ZT.zm (ZT.of (by first | exact plainFor_of_name (by decide) | decide +kernel) (Nat.le_of_ble_eq_true rfl) (zcats.r zref.r (zcats.i (zcats.i zcats.nil))) ?_)
  intro p_ e_ s_ m_ args_ below_ meth_ c_ X hr hlk hin htab
  have X : ZX p_ m_ c_ cX7_beginner 3 s_ args_ "LinkStationModel" G := X
  refine z_lv (lv' := [(0, .ref (E 0)), (1, .int x), (2, .int nm)]) (fun _ hq => hq) ?_
  have hM := F.mods
  refine z_aload_n X 0 dX7_beginner_0 zref.r rfl ?_
  refine z_iload_n X 1 dX7_beginner_1 rfl ?_
  refine z_callV X (rest := []) (c_X7_isModule D F) (cwV 1 (zXts X) (lw_V q1690 q1692 qs30 q65 q1693) rfl rfl rfl (by decide +kernel) ⟨Nat.le_of_ble_eq_true rfl, Nat.le_of_ble_eq_true rfl⟩) D.1 (by decide) rfl rfl (Nat.le_of_ble_eq_true rfl) ⟨(by first | exact Nat.le_of_ble_eq_true rfl | (dsimp only [zRm]; omega)), (by first | exact Nat.le_of_ble_eq_true rfl | (dsimp only [zRm]; omega))⟩ dX7_beginner_2 (fun v2185 h2186 p2187 => ?_)
  obtain ⟨⟨c2184, rfl⟩ | ⟨c2184, rfl⟩, rfl⟩ := p2187
  · refine z_st (st' := [.int (nI 1)]) rfl ?_
    refine z_ifU_eq X 1 20 dX7_beginner_5 (by decide) rfl (by omega) (fun c2188 => ?_) (fun c2188 => ?_)
    · omega
    · refine z_iload_n X 2 dX7_beginner_8 rfl ?_
      refine z_iconst X (-1) dX7_beginner_9 (by decide) ?_
      refine z_icmpU_eq X (zn nm) 4294967295 22 dX7_beginner_10 (by decide) (nI_zn _).symm (by decide) (zn_lt _) (by omega) (fun c2189 => ?_) (fun c2189 => ?_)
      · refine z_aload_n X 0 dX7_beginner_22 zref.r rfl ?_
        refine z_get X zP6 11 (by decide) q1574 (Or.inl rfl) D.1 (by decide) rfl dX7_beginner_23 ?_
        refine z_iload_n X 1 dX7_beginner_26 rfl ?_
        refine z_iload_n X 2 dX7_beginner_27 rfl ?_
        refine z_iast X (zn x) (D.2.1 11 rfl) (by decide) (by decide) (nI_zn _).symm (by show _ < 12; omega) (by decide) (f' := fun i => .int ((zu (S 11) (zn x) nm) i)) (fun _ => zu_v _) dX7_beginner_28 ?_
        refine z_nm fun h2190 e2191 => ?_
        have D2192 : MD E (zsa S 11 (zu (S 11) (zn x) nm)) h2190 := D.sA 11 rfl e2191
        have o2193 := zOn.up (zOn.rf (T := zTM) (h := h)) e2191 (D.2.1 11 rfl) (by decide)
        refine z_aload_n X 0 dX7_beginner_29 zref.r rfl ?_
        refine z_iconst X (nI 0) dX7_beginner_30 (by decide) ?_
        refine z_put X zP6 12 (by decide) q1575 (Or.inl rfl) rfl D2192.1 (by decide) (by decide) (zfits.b0) (Nat.le_of_ble_eq_true rfl) rfl dX7_beginner_31 ?_
        refine z_nm fun h2194 e2195 => ?_
        have D2196 : MD E (zs0 (zsa S 11 (zu (S 11) (zn x) nm)) 12 (nI 0)) h2194 := D2192.sF 12 (by decide) e2195
        have o2197 := zOn.up o2193 e2195 D2192.1 (by decide)
        refine z_iconst X (nI 1) dX7_beginner_34 (by decide) ?_
        exact z_iret X hr hlk dX7_beginner_35 (by first | exact Nat.le_of_ble_eq_true rfl | (dsimp only [zRm]; omega) | omega) (by first | exact Nat.le_of_ble_eq_true rfl | (dsimp only [zRm]; omega) | omega) ⟨(by rw [begF, if_pos (⟨by omega, by first | exact Or.inr (by omega) | exact Or.inl (zn_inj (by show _ = 4294967295; omega))⟩)] <;> rfl), by rw [begF, if_pos (⟨by omega, by first | exact Or.inr (by omega) | exact Or.inl (zn_inj (by show _ = 4294967295; omega))⟩)]; exact D2196, o2197⟩
      · refine z_iload_n X 2 dX7_beginner_13 rfl ?_
        refine z_callS X (rest := []) c_X7_isName (va_cwS 1 (zXts X) (lw_S q1698 q1699 q65 q1700) rfl rfl rfl (by decide +kernel) ⟨Nat.le_of_ble_eq_true rfl, Nat.le_of_ble_eq_true rfl⟩) rfl (Nat.le_of_ble_eq_true rfl) ⟨(by first | exact Nat.le_of_ble_eq_true rfl | (dsimp only [zRm]; omega)), (by first | exact Nat.le_of_ble_eq_true rfl | (dsimp only [zRm]; omega))⟩ dX7_beginner_14 (fun v2199 h2200 p2201 => ?_)
        obtain ⟨⟨c2198, rfl⟩ | ⟨c2198, rfl⟩, rfl⟩ := p2201
        · refine z_st (st' := [.int (nI 1)]) rfl ?_
          refine z_ifU_ne X 1 22 dX7_beginner_17 (by decide) rfl (by omega) (fun c2202 => ?_) (fun c2202 => ?_)
          · refine z_aload_n X 0 dX7_beginner_22 zref.r rfl ?_
            refine z_get X zP6 11 (by decide) q1574 (Or.inl rfl) D.1 (by decide) rfl dX7_beginner_23 ?_
            refine z_iload_n X 1 dX7_beginner_26 rfl ?_
            refine z_iload_n X 2 dX7_beginner_27 rfl ?_
            refine z_iast X (zn x) (D.2.1 11 rfl) (by decide) (by decide) (nI_zn _).symm (by show _ < 12; omega) (by decide) (f' := fun i => .int ((zu (S 11) (zn x) nm) i)) (fun _ => zu_v _) dX7_beginner_28 ?_
            refine z_nm fun h2203 e2204 => ?_
            have D2205 : MD E (zsa S 11 (zu (S 11) (zn x) nm)) h2203 := D.sA 11 rfl e2204
            have o2206 := zOn.up (zOn.rf (T := zTM) (h := h)) e2204 (D.2.1 11 rfl) (by decide)
            refine z_aload_n X 0 dX7_beginner_29 zref.r rfl ?_
            refine z_iconst X (nI 0) dX7_beginner_30 (by decide) ?_
            refine z_put X zP6 12 (by decide) q1575 (Or.inl rfl) rfl D2205.1 (by decide) (by decide) (zfits.b0) (Nat.le_of_ble_eq_true rfl) rfl dX7_beginner_31 ?_
            refine z_nm fun h2207 e2208 => ?_
            have D2209 : MD E (zs0 (zsa S 11 (zu (S 11) (zn x) nm)) 12 (nI 0)) h2207 := D2205.sF 12 (by decide) e2208
            have o2210 := zOn.up o2206 e2208 D2205.1 (by decide)
            refine z_iconst X (nI 1) dX7_beginner_34 (by decide) ?_
            exact z_iret X hr hlk dX7_beginner_35 (by first | exact Nat.le_of_ble_eq_true rfl | (dsimp only [zRm]; omega) | omega) (by first | exact Nat.le_of_ble_eq_true rfl | (dsimp only [zRm]; omega) | omega) ⟨(by rw [begF, if_pos (⟨by omega, by first | exact Or.inr (by omega) | exact Or.inl (zn_inj (by show _ = 4294967295; omega))⟩)] <;> rfl), by rw [begF, if_pos (⟨by omega, by first | exact Or.inr (by omega) | exact Or.inl (zn_inj (by show _ = 4294967295; omega))⟩)]; exact D2209, o2210⟩
          · omega
        · refine z_st (st' := [.int (nI 0)]) rfl ?_
          refine z_ifU_ne X 0 22 dX7_beginner_17 (by decide) rfl (by omega) (fun c2211 => ?_) (fun c2211 => ?_)
          · omega
          · refine z_iconst X (nI 0) dX7_beginner_20 (by decide) ?_
            exact z_iret X hr hlk dX7_beginner_21 (by first | exact Nat.le_of_ble_eq_true rfl | (dsimp only [zRm]; omega) | omega) (by first | exact Nat.le_of_ble_eq_true rfl | (dsimp only [zRm]; omega) | omega) ⟨(by rw [begF, if_neg (by rintro ⟨h1, h2 | h2⟩; all_goals first | omega | (have h4 : zn nm = 4294967295 := by rw [h2]; rfl); omega)] <;> rfl), by rw [begF, if_neg (by rintro ⟨h1, h2 | h2⟩; all_goals first | omega | (have h4 : zn nm = 4294967295 := by rw [h2]; rfl); omega)]; exact D, (zOn.rf (T := zTM) (h := h))⟩
  · refine z_st (st' := [.int (nI 0)]) rfl ?_
    refine z_ifU_eq X 0 20 dX7_beginner_5 (by decide) rfl (by omega) (fun c2212 => ?_) (fun c2212 => ?_)
    · refine z_iconst X (nI 0) dX7_beginner_20 (by decide) ?_
      exact z_iret X hr hlk dX7_beginner_21 (by first | exact Nat.le_of_ble_eq_true rfl | (dsimp only [zRm]; omega) | omega) (by first | exact Nat.le_of_ble_eq_true rfl | (dsimp only [zRm]; omega) | omega) ⟨(by rw [begF, if_neg (by rintro ⟨h1, h2 | h2⟩; all_goals first | omega | (have h4 : zn nm = 4294967295 := by rw [h2]; rfl); omega)] <;> rfl), by rw [begF, if_neg (by rintro ⟨h1, h2 | h2⟩; all_goals first | omega | (have h4 : zn nm = 4294967295 := by rw [h2]; rfl); omega)]; exact D, (zOn.rf (T := zTM) (h := h))⟩
    · omega
set_option maxHeartbeats 4000000 in
theorem c_X7_put {l : Launch} {G : ZG} {h : ZH} {E : Nat → Nat} {S : ZS} {x op y z u : Int32} (D : MD E S h) (F : ZWF S)  : ZM l G yX7_put (ws_ yX7_put cX7_put 7 (Option.some FieldType.int)) (zRm 2 0 0 80) [.ref (E 0), .int x, .int op, .int y, .int z, .int u] h (fun v h' => v = some (.int (putF S x op y z u).1) ∧ MD E (putF S x op y z u).2 h' ∧ zOn zTM h h') := by
  refine ZT.zm (ZT.of (by first | exact plainFor_of_name (by decide) | decide +kernel) (Nat.le_of_ble_eq_true rfl) (zcats.r zref.r (zcats.i (zcats.i (zcats.i (zcats.i (zcats.i zcats.nil)))))) ?_)
  intro p_ e_ s_ m_ args_ below_ meth_ c_ X hr hlk hin htab
  have X : ZX p_ m_ c_ cX7_put 7 s_ args_ "LinkStationModel" G := X
  refine z_lv (lv' := [(0, .ref (E 0)), (1, .int x), (2, .int op), (3, .int y), (4, .int z), (5, .int u)]) (fun _ hq => hq) ?_
  have hM := F.mods
  have hN := F.sc (zn x)
  refine z_aload_n X 0 dX7_put_0 zref.r rfl ?_
  refine z_iload_n X 1 dX7_put_1 rfl ?_
  refine z_callV X (rest := []) (c_X7_isModule D F) (cwV 1 (zXts X) (lw_V q1690 q1692 qs30 q65 q1693) rfl rfl rfl (by decide +kernel) ⟨Nat.le_of_ble_eq_true rfl, Nat.le_of_ble_eq_true rfl⟩) D.1 (by decide) rfl rfl (Nat.le_of_ble_eq_true rfl) ⟨(by first | exact Nat.le_of_ble_eq_true rfl | (dsimp only [zRm]; omega)), (by first | exact Nat.le_of_ble_eq_true rfl | (dsimp only [zRm]; omega))⟩ dX7_put_2 (fun v2214 h2215 p2216 => ?_)
  obtain ⟨⟨c2213, rfl⟩ | ⟨c2213, rfl⟩, rfl⟩ := p2216
  · refine z_st (st' := [.int (nI 1)]) rfl ?_
    refine z_ifU_eq X 1 31 dX7_put_5 (by decide) rfl (by omega) (fun c2217 => ?_) (fun c2217 => ?_)
    · omega
    · refine z_iload_n X 2 dX7_put_8 rfl ?_
      refine z_iload_n X 3 dX7_put_9 rfl ?_
      refine z_iload X 4 dX7_put_10 rfl ?_
      refine z_iload X 5 dX7_put_12 rfl ?_
      refine z_callS X (rest := []) c_X7_isGood (va_cwS 4 (zXts X) (lw_S q1720 q1721 q65 q1722) rfl rfl rfl (by decide +kernel) ⟨Nat.le_of_ble_eq_true rfl, Nat.le_of_ble_eq_true rfl⟩) rfl (Nat.le_of_ble_eq_true rfl) ⟨(by first | exact Nat.le_of_ble_eq_true rfl | (dsimp only [zRm]; omega)), (by first | exact Nat.le_of_ble_eq_true rfl | (dsimp only [zRm]; omega))⟩ dX7_put_14 (fun v2219 h2220 p2221 => ?_)
      obtain ⟨⟨c2218, rfl⟩ | ⟨c2218, rfl⟩, rfl⟩ := p2221
      · refine z_st (st' := [.int (nI 1)]) rfl ?_
        refine z_ifU_eq X 1 31 dX7_put_17 (by decide) rfl (by omega) (fun c2222 => ?_) (fun c2222 => ?_)
        · omega
        · refine z_aload_n X 0 dX7_put_20 zref.r rfl ?_
          refine z_get X zP6 9 (by decide) q1572 (Or.inl rfl) D.1 (by decide) rfl dX7_put_21 ?_
          refine z_iload_n X 1 dX7_put_24 rfl ?_
          refine z_iald X (v := .int ((S 9) (zn x))) (zn x) (D.2.1 9 rfl) (by decide) (nI_zn _).symm (by show _ < 12; omega) (by decide) rfl dX7_put_25 ?_
          refine z_bipush X (nI 100) dX7_put_26 (by decide) ?_
          refine z_icmpU_ne X (zn ((S 9) (zn x))) 100 33 dX7_put_28 (by decide) (nI_zn _).symm rfl (zn_lt _) (by omega) (fun c2223 => ?_) (fun c2223 => ?_)
          · refine z_iconst X (nI 4) dX7_put_33 (by decide) ?_
            refine z_bipush X (nI 100) dX7_put_34 (by decide) ?_
            refine z_iload_n X 1 dX7_put_36 rfl ?_
            refine z_imul X (nI (100 * (zn x))) dX7_put_37 (zmul rfl (nI_zn _).symm) ?_
            refine z_aload_n X 0 dX7_put_38 zref.r rfl ?_
            refine z_get X zP6 9 (by decide) q1572 (Or.inl rfl) D.1 (by decide) rfl dX7_put_39 ?_
            refine z_iload_n X 1 dX7_put_42 rfl ?_
            refine z_iald X (v := .int ((S 9) (zn x))) (zn x) (D.2.1 9 rfl) (by decide) (nI_zn _).symm (by show _ < 12; omega) (by decide) rfl dX7_put_43 ?_
            refine z_iadd X (nI ((100 * (zn x)) + (zn ((S 9) (zn x))))) dX7_put_44 (zadd rfl (nI_zn _).symm) ?_
            refine z_imul X (nI (4 * ((100 * (zn x)) + (zn ((S 9) (zn x)))))) dX7_put_45 (zmul rfl rfl) ?_
            refine z_istore X (lv' := [(6, .int (nI (4 * ((100 * (zn x)) + (zn ((S 9) (zn x))))))), (0, .ref (E 0)), (1, .int x), (2, .int op), (3, .int y), (4, .int z), (5, .int u)]) dX7_put_46 (by decide) rfl ?_
            refine z_aload_n X 1 dX7_put_48 zref.r rfl ?_
            refine z_get X zP6 8 (by decide) q1571 (Or.inl rfl) D.1 (by decide) rfl dX7_put_49 ?_
            refine z_iload X 0 dX7_put_52 rfl ?_
            refine z_iload_n X 3 dX7_put_54 rfl ?_
            refine z_iast X (4 * ((100 * (zn x)) + (zn ((S 9) (zn x))))) (D.2.1 8 rfl) (by decide) (by decide) rfl (by show _ < 4800; omega) (by decide) (f' := fun i => .int ((zu (S 8) (4 * ((100 * (zn x)) + (zn ((S 9) (zn x))))) op) i)) (fun _ => zu_v _) dX7_put_55 ?_
            refine z_nm fun h2224 e2225 => ?_
            have D2226 : MD E (zsa S 8 (zu (S 8) (4 * ((100 * (zn x)) + (zn ((S 9) (zn x))))) op)) h2224 := D.sA 8 rfl e2225
            have o2227 := zOn.up (zOn.rf (T := zTM) (h := h)) e2225 (D.2.1 8 rfl) (by decide)
            refine z_aload_n X 1 dX7_put_56 zref.r rfl ?_
            refine z_get X zP6 8 (by decide) q1571 (Or.inl rfl) D2226.1 (by decide) rfl dX7_put_57 ?_
            refine z_iload X 0 dX7_put_60 rfl ?_
            refine z_iconst X (nI 1) dX7_put_62 (by decide) ?_
            refine z_iadd X (nI ((4 * ((100 * (zn x)) + (zn ((S 9) (zn x))))) + 1)) dX7_put_63 (zadd rfl rfl) ?_
            refine z_iload_n X 4 dX7_put_64 rfl ?_
            refine z_iast X ((4 * ((100 * (zn x)) + (zn ((S 9) (zn x))))) + 1) (D2226.2.1 8 rfl) (by decide) (by decide) rfl (by show _ < 4800; omega) (by decide) (f' := fun i => .int ((zu (zu (S 8) (4 * ((100 * (zn x)) + (zn ((S 9) (zn x))))) op) ((4 * ((100 * (zn x)) + (zn ((S 9) (zn x))))) + 1) y) i)) (fun _ => zu_v _) dX7_put_65 ?_
            refine z_nm fun h2228 e2229 => ?_
            have D2230 : MD E (zsa (zsa S 8 (zu (S 8) (4 * ((100 * (zn x)) + (zn ((S 9) (zn x))))) op)) 8 (zu (zu (S 8) (4 * ((100 * (zn x)) + (zn ((S 9) (zn x))))) op) ((4 * ((100 * (zn x)) + (zn ((S 9) (zn x))))) + 1) y)) h2228 := D2226.sA 8 rfl e2229
            have o2231 := zOn.up o2227 e2229 (D2226.2.1 8 rfl) (by decide)
            refine z_aload_n X 1 dX7_put_66 zref.r rfl ?_
            refine z_get X zP6 8 (by decide) q1571 (Or.inl rfl) D2230.1 (by decide) rfl dX7_put_67 ?_
            refine z_iload X 0 dX7_put_70 rfl ?_
            refine z_iconst X (nI 2) dX7_put_72 (by decide) ?_
            refine z_iadd X (nI ((4 * ((100 * (zn x)) + (zn ((S 9) (zn x))))) + 2)) dX7_put_73 (zadd rfl rfl) ?_
            refine z_iload X 5 dX7_put_74 rfl ?_
            refine z_iast X ((4 * ((100 * (zn x)) + (zn ((S 9) (zn x))))) + 2) (D2230.2.1 8 rfl) (by decide) (by decide) rfl (by show _ < 4800; omega) (by decide) (f' := fun i => .int ((zu (zu (zu (S 8) (4 * ((100 * (zn x)) + (zn ((S 9) (zn x))))) op) ((4 * ((100 * (zn x)) + (zn ((S 9) (zn x))))) + 1) y) ((4 * ((100 * (zn x)) + (zn ((S 9) (zn x))))) + 2) z) i)) (fun _ => zu_v _) dX7_put_76 ?_
            refine z_nm fun h2232 e2233 => ?_
            have D2234 : MD E (zsa (zsa (zsa S 8 (zu (S 8) (4 * ((100 * (zn x)) + (zn ((S 9) (zn x))))) op)) 8 (zu (zu (S 8) (4 * ((100 * (zn x)) + (zn ((S 9) (zn x))))) op) ((4 * ((100 * (zn x)) + (zn ((S 9) (zn x))))) + 1) y)) 8 (zu (zu (zu (S 8) (4 * ((100 * (zn x)) + (zn ((S 9) (zn x))))) op) ((4 * ((100 * (zn x)) + (zn ((S 9) (zn x))))) + 1) y) ((4 * ((100 * (zn x)) + (zn ((S 9) (zn x))))) + 2) z)) h2232 := D2230.sA 8 rfl e2233
            have o2235 := zOn.up o2231 e2233 (D2230.2.1 8 rfl) (by decide)
            refine z_aload_n X 1 dX7_put_77 zref.r rfl ?_
            refine z_get X zP6 8 (by decide) q1571 (Or.inl rfl) D2234.1 (by decide) rfl dX7_put_78 ?_
            refine z_iload X 0 dX7_put_81 rfl ?_
            refine z_iconst X (nI 3) dX7_put_83 (by decide) ?_
            refine z_iadd X (nI ((4 * ((100 * (zn x)) + (zn ((S 9) (zn x))))) + 3)) dX7_put_84 (zadd rfl rfl) ?_
            refine z_iload X 6 dX7_put_85 rfl ?_
            refine z_iast X ((4 * ((100 * (zn x)) + (zn ((S 9) (zn x))))) + 3) (D2234.2.1 8 rfl) (by decide) (by decide) rfl (by show _ < 4800; omega) (by decide) (f' := fun i => .int ((zu (zu (zu (zu (S 8) (4 * ((100 * (zn x)) + (zn ((S 9) (zn x))))) op) ((4 * ((100 * (zn x)) + (zn ((S 9) (zn x))))) + 1) y) ((4 * ((100 * (zn x)) + (zn ((S 9) (zn x))))) + 2) z) ((4 * ((100 * (zn x)) + (zn ((S 9) (zn x))))) + 3) u) i)) (fun _ => zu_v _) dX7_put_87 ?_
            refine z_nm fun h2236 e2237 => ?_
            have D2238 : MD E (zsa (zsa (zsa (zsa S 8 (zu (S 8) (4 * ((100 * (zn x)) + (zn ((S 9) (zn x))))) op)) 8 (zu (zu (S 8) (4 * ((100 * (zn x)) + (zn ((S 9) (zn x))))) op) ((4 * ((100 * (zn x)) + (zn ((S 9) (zn x))))) + 1) y)) 8 (zu (zu (zu (S 8) (4 * ((100 * (zn x)) + (zn ((S 9) (zn x))))) op) ((4 * ((100 * (zn x)) + (zn ((S 9) (zn x))))) + 1) y) ((4 * ((100 * (zn x)) + (zn ((S 9) (zn x))))) + 2) z)) 8 (zu (zu (zu (zu (S 8) (4 * ((100 * (zn x)) + (zn ((S 9) (zn x))))) op) ((4 * ((100 * (zn x)) + (zn ((S 9) (zn x))))) + 1) y) ((4 * ((100 * (zn x)) + (zn ((S 9) (zn x))))) + 2) z) ((4 * ((100 * (zn x)) + (zn ((S 9) (zn x))))) + 3) u)) h2236 := D2234.sA 8 rfl e2237
            have o2239 := zOn.up o2235 e2237 (D2234.2.1 8 rfl) (by decide)
            refine z_aload_n X 1 dX7_put_88 zref.r rfl ?_
            refine z_get X zP6 9 (by decide) q1572 (Or.inl rfl) D2238.1 (by decide) rfl dX7_put_89 ?_
            refine z_iload_n X 2 dX7_put_92 rfl ?_
            refine z_dup2 X dX7_put_93 rfl rfl ?_
            refine z_iald X (v := .int ((S 9) (zn x))) (zn x) (D2238.2.1 9 rfl) (by decide) (nI_zn _).symm (by show _ < 12; omega) (by decide) rfl dX7_put_94 ?_
            refine z_iconst X (nI 1) dX7_put_95 (by decide) ?_
            refine z_iadd X (nI ((zn ((S 9) (zn x))) + 1)) dX7_put_96 (zadd (nI_zn _).symm rfl) ?_
            refine z_iast X (zn x) (D2238.2.1 9 rfl) (by decide) (by decide) (nI_zn _).symm (by show _ < 12; omega) (by decide) (f' := fun i => .int ((zu (S 9) (zn x) (nI ((zn ((S 9) (zn x))) + 1))) i)) (fun _ => zu_v _) dX7_put_97 ?_
            refine z_nm fun h2240 e2241 => ?_
            have D2242 : MD E (zsa (zsa (zsa (zsa (zsa S 8 (zu (S 8) (4 * ((100 * (zn x)) + (zn ((S 9) (zn x))))) op)) 8 (zu (zu (S 8) (4 * ((100 * (zn x)) + (zn ((S 9) (zn x))))) op) ((4 * ((100 * (zn x)) + (zn ((S 9) (zn x))))) + 1) y)) 8 (zu (zu (zu (S 8) (4 * ((100 * (zn x)) + (zn ((S 9) (zn x))))) op) ((4 * ((100 * (zn x)) + (zn ((S 9) (zn x))))) + 1) y) ((4 * ((100 * (zn x)) + (zn ((S 9) (zn x))))) + 2) z)) 8 (zu (zu (zu (zu (S 8) (4 * ((100 * (zn x)) + (zn ((S 9) (zn x))))) op) ((4 * ((100 * (zn x)) + (zn ((S 9) (zn x))))) + 1) y) ((4 * ((100 * (zn x)) + (zn ((S 9) (zn x))))) + 2) z) ((4 * ((100 * (zn x)) + (zn ((S 9) (zn x))))) + 3) u)) 9 (zu (S 9) (zn x) (nI ((zn ((S 9) (zn x))) + 1)))) h2240 := D2238.sA 9 rfl e2241
            have o2243 := zOn.up o2239 e2241 (D2238.2.1 9 rfl) (by decide)
            refine z_aload_n X 1 dX7_put_98 zref.r rfl ?_
            refine z_iconst X (nI 0) dX7_put_99 (by decide) ?_
            refine z_put X zP6 12 (by decide) q1575 (Or.inl rfl) rfl D2242.1 (by decide) (by decide) (zfits.b0) (Nat.le_of_ble_eq_true rfl) rfl dX7_put_100 ?_
            refine z_nm fun h2244 e2245 => ?_
            have D2246 : MD E (zs0 (zsa (zsa (zsa (zsa (zsa S 8 (zu (S 8) (4 * ((100 * (zn x)) + (zn ((S 9) (zn x))))) op)) 8 (zu (zu (S 8) (4 * ((100 * (zn x)) + (zn ((S 9) (zn x))))) op) ((4 * ((100 * (zn x)) + (zn ((S 9) (zn x))))) + 1) y)) 8 (zu (zu (zu (S 8) (4 * ((100 * (zn x)) + (zn ((S 9) (zn x))))) op) ((4 * ((100 * (zn x)) + (zn ((S 9) (zn x))))) + 1) y) ((4 * ((100 * (zn x)) + (zn ((S 9) (zn x))))) + 2) z)) 8 (zu (zu (zu (zu (S 8) (4 * ((100 * (zn x)) + (zn ((S 9) (zn x))))) op) ((4 * ((100 * (zn x)) + (zn ((S 9) (zn x))))) + 1) y) ((4 * ((100 * (zn x)) + (zn ((S 9) (zn x))))) + 2) z) ((4 * ((100 * (zn x)) + (zn ((S 9) (zn x))))) + 3) u)) 9 (zu (S 9) (zn x) (nI ((zn ((S 9) (zn x))) + 1)))) 12 (nI 0)) h2244 := D2242.sF 12 (by decide) e2245
            have o2247 := zOn.up o2243 e2245 D2242.1 (by decide)
            refine z_aload_n X 1 dX7_put_103 zref.r rfl ?_
            refine z_get X zP6 9 (by decide) q1572 (Or.inl rfl) D2246.1 (by decide) rfl dX7_put_104 ?_
            refine z_iload_n X 2 dX7_put_107 rfl ?_
            refine z_iald X (v := .int (nI ((zn ((S 9) (zn x))) + 1))) (zn x) (D2246.2.1 9 rfl) (by decide) (nI_zn _).symm (by show _ < 12; omega) (by decide) (congrArg Value.int zu_s) dX7_put_108 ?_
            refine z_iconst X (nI 1) dX7_put_109 (by decide) ?_
            refine z_isub X (nI (((zn ((S 9) (zn x))) + 1) - 1)) dX7_put_110 (zsub rfl rfl (by omega)) ?_
            exact z_iret X hr hlk dX7_put_111 (by first | exact Nat.le_of_ble_eq_true rfl | (dsimp only [zRm]; omega) | omega) (by first | exact Nat.le_of_ble_eq_true rfl | (dsimp only [zRm]; omega) | omega) ⟨(by rw [putF, if_pos (⟨by omega, by assumption, by omega⟩)] <;> rfl), by rw [putF, if_pos (⟨by omega, by assumption, by omega⟩)]; exact D2246, o2247⟩
          · refine z_iconst X (-1) dX7_put_31 (by decide) ?_
            exact z_iret X hr hlk dX7_put_32 (by first | exact Nat.le_of_ble_eq_true rfl | (dsimp only [zRm]; omega) | omega) (by first | exact Nat.le_of_ble_eq_true rfl | (dsimp only [zRm]; omega) | omega) ⟨(by rw [putF, if_neg (by rintro ⟨h1, h2, h3⟩; first | omega | contradiction)] <;> rfl), by rw [putF, if_neg (by rintro ⟨h1, h2, h3⟩; first | omega | contradiction)]; exact D, (zOn.rf (T := zTM) (h := h))⟩
      · refine z_st (st' := [.int (nI 0)]) rfl ?_
        refine z_ifU_eq X 0 31 dX7_put_17 (by decide) rfl (by omega) (fun c2248 => ?_) (fun c2248 => ?_)
        · refine z_iconst X (-1) dX7_put_31 (by decide) ?_
          exact z_iret X hr hlk dX7_put_32 (by first | exact Nat.le_of_ble_eq_true rfl | (dsimp only [zRm]; omega) | omega) (by first | exact Nat.le_of_ble_eq_true rfl | (dsimp only [zRm]; omega) | omega) ⟨(by rw [putF, if_neg (by rintro ⟨h1, h2, h3⟩; first | omega | contradiction)] <;> rfl), by rw [putF, if_neg (by rintro ⟨h1, h2, h3⟩; first | omega | contradiction)]; exact D, (zOn.rf (T := zTM) (h := h))⟩
        · omega
  · refine z_st (st' := [.int (nI 0)]) rfl ?_
    refine z_ifU_eq X 0 31 dX7_put_5 (by decide) rfl (by omega) (fun c2249 => ?_) (fun c2249 => ?_)
    · refine z_iconst X (-1) dX7_put_31 (by decide) ?_
      exact z_iret X hr hlk dX7_put_32 (by first | exact Nat.le_of_ble_eq_true rfl | (dsimp only [zRm]; omega) | omega) (by first | exact Nat.le_of_ble_eq_true rfl | (dsimp only [zRm]; omega) | omega) ⟨(by rw [putF, if_neg (by rintro ⟨h1, h2, h3⟩; first | omega | contradiction)] <;> rfl), by rw [putF, if_neg (by rintro ⟨h1, h2, h3⟩; first | omega | contradiction)]; exact D, (zOn.rf (T := zTM) (h := h))⟩
    · omega
