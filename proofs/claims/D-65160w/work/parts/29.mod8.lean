set_option maxRecDepth 100000
section ZI
variable {p : Program} {l : Launch} {e : Env} {R : Room} {s : State} {m : MethodId} {args : Array Value} {below : List Frame} {meth : Method} {c : Code} {G : ZG} {nL : Nat} {Q : State → Prop} {cc : ByteArray} {own : String} {pc : Nat} {lv : List (Nat × Value)} {st : List Value} {h : ZH} {cells slots : Nat}
theorem z_irem (X : ZX p m c cc nL s args own G) {x y : Int32} (v : Int32) (hd : decode cc pc = .ok (.irem, 1)) (hn : ¬ y = 0) (hv : x - x / y * y = v) (kk : Zw p l e R s m args below meth c G nL Q (pc + 1) lv (.int v :: st) h cells slots) : Zw p l e R s m args below meth c G nL Q pc lv (.int y :: .int x :: st) h cells slots := by
  subst hv
  exact fun H locs ls hl hc hR hS => lv_irem X.1.1 X.1.2.1 hd hn (kk H locs ls hl hc hR hS)
end ZI
theorem zdv1000 {x : Int32} (h1 : 1000 ≤ zn x) (h2 : zn x < 2 ^ 31) : x / nI 1000 - nI 1 = nI (zn x / 1000 - 1) := by
  have h : nI (zn x) / nI 1000 - nI 1 = nI (zn x / 1000 - 1) := by rw [pk_div h2 (by decide) (by decide)]; exact pk_sub (by omega)
  rwa [nI_zn] at h
theorem zrm1000 {x : Int32} (h2 : zn x < 2 ^ 31) : x - x / nI 1000 * nI 1000 = nI (zn x % 1000) := by
  have h : nI (zn x) - nI (zn x) / nI 1000 * nI 1000 = nI (zn x % 1000) := pk_rem h2 (by decide) (by decide)
  rwa [nI_zn] at h
theorem callF_ok {S : ZS} {d : Nat} (h : ¬ zn (S 36 0) = 101) : callF S (some d) = (-1, zs0 (zs0 (zs0 (zs0 (zs1 (zs1 S 34 (zn (S 36 0)) (S 37 0)) 35 (zn (S 36 0)) (S 38 0)) 36 (nI (zn (S 36 0) + 1))) 32 (if zn (S 32 0) < zn (S 36 0) then nI (zn (S 36 0)) else S 32 0)) 37 (nI (d / 20))) 38 (S 5 d)) := if_neg h
theorem adL_hit {S : ZS} {m v n : Nat} (h : adL S m v n = none) (e : S 4 (20 * m + n) = 0 ∧ S 5 (20 * m + n) = nI v) : adL S m v (n + 1) = some (20 * m + n) := by simp only [adL]; rw [h]; exact if_pos e
theorem adL_miss {S : ZS} {m v n : Nat} (h : adL S m v n = none) (e : ¬ (S 4 (20 * m + n) = 0 ∧ S 5 (20 * m + n) = nI v)) : adL S m v (n + 1) = none := by simp only [adL]; rw [h]; exact if_neg e
theorem adL_mono {S : ZS} {m v d n : Nat} (h : adL S m v n = some d) : ∀ j, adL S m v (n + j) = some d
  | 0 => h
  | j + 1 => by show adL S m v (n + j + 1) = some d; simp only [adL]; rw [adL_mono h j]
theorem adL_le {S : ZS} {m v d n n' : Nat} (h : adL S m v n = some d) (hl : n ≤ n') : adL S m v n' = some d := by
  have := adL_mono h (n' - n)
  rwa [show n + (n' - n) = n' from by omega] at this
set_option maxHeartbeats 4000000 in
theorem c_X7_atAddress {l : Launch} {G : ZG} {h : ZH} {E : Nat → Nat} {S : ZS} {x : Int32} (D : MD E S h) (F : ZWF S) (FL : ZWL S) : ZM l G yX7_atAddress (ws_ yX7_atAddress cX7_atAddress 6 (Option.some FieldType.int)) (zRm 0 0 0 0) [.ref (E 0), .int x] h (fun v h' => v = some (.int (oI (atF S x))) ∧ h = h') := by
  refine ZT.zm (ZT.of (by first | exact plainFor_of_name (by decide) | decide +kernel) (Nat.le_of_ble_eq_true rfl) (zcats.r zref.r (zcats.i zcats.nil)) ?_)
  intro p_ e_ s_ m_ args_ below_ meth_ c_ X hr hlk hin htab
  have X : ZX p_ m_ c_ cX7_atAddress 6 s_ args_ "LinkStationModel" G := X
  refine z_lv (lv' := [(0, .ref (E 0)), (1, .int x)]) (fun _ hq => hq) ?_
  have hL := FL.1
  have hx := zn_lt x
  refine z_iload_n X 1 dX7_atAddress_0 rfl ?_
  refine z_sipush X (nI 1000) dX7_atAddress_1 (by decide) ?_
  refine z_idiv X (x / nI 1000) dX7_atAddress_4 (by decide) rfl ?_
  refine z_iconst X (nI 1) dX7_atAddress_5 (by decide) ?_
  refine z_isub X (x / nI 1000 - nI 1) dX7_atAddress_6 rfl ?_
  refine z_istore_n X (lv' := [(2, .int (x / nI 1000 - nI 1)), (0, .ref (E 0)), (1, .int x)]) dX7_atAddress_7 (by decide) rfl ?_
  refine z_iload_n X 2 dX7_atAddress_8 rfl ?_
  refine z_sipush X (nI 1000) dX7_atAddress_9 (by decide) ?_
  refine z_icmpU_lt X (zn x) 1000 23 dX7_atAddress_12 (by decide) (nI_zn _).symm rfl (zn_lt _) (by omega) (fun c14001 => ?_) (fun c14001 => ?_)
  · refine z_iconst X (-1) dX7_atAddress_23 (by decide) ?_
    exact z_iret X hr hlk dX7_atAddress_24 (by first | exact Nat.le_of_ble_eq_true rfl | (dsimp only [zRm]; omega) | omega) (by first | exact Nat.le_of_ble_eq_true rfl | (dsimp only [zRm]; omega) | omega) ⟨by rw [show atF S x = none from if_pos (by omega)]; rfl, rfl⟩
  · have hx31 : zn x < 2147483648 := by omega
    have hdv : x / nI 1000 - nI 1 = nI (zn x / 1000 - 1) := zdv1000 (by omega) hx31
    refine z_lv (lv' := [(2, .int (nI (zn x / 1000 - 1))), (0, .ref (E 0)), (1, .int x)]) (by intro x9 h9; rw [hdv]; exact h9) ?_
    refine z_iload_n X 0 dX7_atAddress_15 rfl ?_
    refine z_aload_n X 1 dX7_atAddress_16 zref.r rfl ?_
    refine z_get X zP6 15 (by decide) q1578 (Or.inl rfl) (v := .int (S 15 0)) D.1 (by decide) rfl dX7_atAddress_17 ?_
    refine z_icmpU_lt X (zn x / 1000 - 1) (zn (S 15 0)) 25 dX7_atAddress_20 (by decide) rfl (nI_zn _).symm (by omega) (zn_lt _) (fun c14002 => ?_) (fun c14002 => ?_)
    · have hpl : zn x / 1000 - 1 < zn (S 15 0) := by omega
      have hat : atF S x = adL S (zn (S 16 (zn x / 1000 - 1))) (zn x % 1000) (zn (S 7 (zn (S 16 (zn x / 1000 - 1))))) := if_neg (by omega)
      have hm12 := FL.2.1 _ hpl
      refine z_aload_n X 1 dX7_atAddress_25 zref.r rfl ?_
      refine z_get X zP6 16 (by decide) q1579 (Or.inl rfl) D.1 (by decide) rfl dX7_atAddress_26 ?_
      refine z_iload_n X 0 dX7_atAddress_29 rfl ?_
      refine z_iald X (v := .int ((S 16) (zn x / 1000 - 1))) (zn x / 1000 - 1) (D.2.1 16 rfl) (by decide) rfl (by show _ < 12; omega) (by decide) rfl dX7_atAddress_30 ?_
      refine z_istore_n X (lv' := [(3, .int ((S 16) (zn x / 1000 - 1))), (2, .int (nI (zn x / 1000 - 1))), (0, .ref (E 0)), (1, .int x)]) dX7_atAddress_31 (by decide) rfl ?_
      refine z_iconst X (nI 0) dX7_atAddress_32 (by decide) ?_
      refine z_istore X (lv' := [(4, .int (nI 0)), (3, .int ((S 16) (zn x / 1000 - 1))), (2, .int (nI (zn x / 1000 - 1))), (0, .ref (E 0)), (1, .int x)]) dX7_atAddress_33 (by decide) rfl ?_
      have hdc := F.dc (zn (S 16 (zn x / 1000 - 1)))
      generalize S 16 (zn x / 1000 - 1) = mm at *
      refine z_lvp (lv' := [(0, .ref (E 0)), (1, .int x), (3, .int mm), (4, .int (nI 0))]) [3, 4, 1, 0] rfl ?_
      refine z_loop (σ := Nat) (fun k => k ≤ zn (S 7 (zn mm)) ∧ adL S (zn mm) (zn x % 1000) k = none) (fun k => zn (S 7 (zn mm)) - k) (fun k => [(0, .ref (E 0)), (1, .int x), (3, .int mm), (4, .int (nI k))]) (fun k => []) (fun k => h) (fun k => 0) (fun k => 0) ?_ 0 (⟨Nat.zero_le _, rfl⟩)
      intro k hI ih
      try dsimp only at hI
      try dsimp only at ih
      try dsimp only
      refine z_iload X 3 dX7_atAddress_35 rfl ?_
      refine z_aload_n X 0 dX7_atAddress_37 zref.r rfl ?_
      refine z_get X zP6 7 (by decide) q1570 (Or.inl rfl) D.1 (by decide) rfl dX7_atAddress_38 ?_
      refine z_iload_n X 2 dX7_atAddress_41 rfl ?_
      refine z_iald X (v := .int ((S 7) (zn mm))) (zn mm) (D.2.1 7 rfl) (by decide) (nI_zn _).symm (by show _ < 12; omega) (by decide) rfl dX7_atAddress_42 ?_
      refine z_icmpU_ge X k (zn ((S 7) (zn mm))) 89 dX7_atAddress_43 (by decide) rfl (nI_zn _).symm (by omega) (zn_lt _) (fun c14003 => ?_) (fun c14003 => ?_)
      · refine z_iconst X (-1) dX7_atAddress_89 (by decide) ?_
        exact z_iret X hr hlk dX7_atAddress_90 (by first | exact Nat.le_of_ble_eq_true rfl | (dsimp only [zRm]; omega) | omega) (by first | exact Nat.le_of_ble_eq_true rfl | (dsimp only [zRm]; omega) | omega) ⟨by rw [hat, show zn (S 7 (zn mm)) = k from by omega, hI.2]; rfl, rfl⟩
      · refine z_bipush X (nI 20) dX7_atAddress_46 (by decide) ?_
        refine z_iload_n X 2 dX7_atAddress_48 rfl ?_
        refine z_imul X (nI (20 * (zn mm))) dX7_atAddress_49 (zmul rfl (nI_zn _).symm) ?_
        refine z_iload X 3 dX7_atAddress_50 rfl ?_
        refine z_iadd X (nI ((20 * (zn mm)) + k)) dX7_atAddress_52 (zadd rfl rfl) ?_
        refine z_istore X (lv' := [(5, .int (nI ((20 * (zn mm)) + k))), (0, .ref (E 0)), (1, .int x), (3, .int mm), (4, .int (nI k))]) dX7_atAddress_53 (by decide) rfl ?_
        refine z_aload_n X 1 dX7_atAddress_55 zref.r rfl ?_
        refine z_get X zP6 4 (by decide) q1567 (Or.inl rfl) D.1 (by decide) rfl dX7_atAddress_56 ?_
        refine z_iload X 0 dX7_atAddress_59 rfl ?_
        refine z_iald X (v := .int ((S 4) ((20 * (zn mm)) + k))) ((20 * (zn mm)) + k) (D.2.1 4 rfl) (by decide) rfl (by show _ < 240; omega) (by decide) rfl dX7_atAddress_61 ?_
        refine z_ifU_ne X (zn ((S 4) ((20 * (zn mm)) + k))) 83 dX7_atAddress_62 (by decide) (nI_zn _).symm (zn_lt _) (fun c14004 => ?_) (fun c14004 => ?_)
        · refine z_iinc X (lv' := [(4, .int (nI (k + 1))), (5, .int (nI ((20 * (zn mm)) + k))), (0, .ref (E 0)), (1, .int x), (3, .int mm)]) (nI (k + 1)) 4 dX7_atAddress_83 rfl (nI_1 _) (by decide) rfl ?_
          refine z_goto X 35 dX7_atAddress_86 (by decide) ?_
          refine z_lvp (lv' := [(0, .ref (E 0)), (1, .int x), (3, .int mm), (4, .int (nI (k + 1)))]) [2, 3, 4, 0] rfl ?_
          exact ih (k + 1) ⟨by omega, adL_miss hI.2 (by rw [zeq_iff, zeq_iff, zc0, zn_nI (by omega)]; omega)⟩ (by omega)
        · refine z_aload_n X 1 dX7_atAddress_65 zref.r rfl ?_
          refine z_get X zP6 5 (by decide) q1568 (Or.inl rfl) D.1 (by decide) rfl dX7_atAddress_66 ?_
          refine z_iload X 0 dX7_atAddress_69 rfl ?_
          refine z_iald X (v := .int ((S 5) ((20 * (zn mm)) + k))) ((20 * (zn mm)) + k) (D.2.1 5 rfl) (by decide) rfl (by show _ < 240; omega) (by decide) rfl dX7_atAddress_71 ?_
          refine z_iload_n X 2 dX7_atAddress_72 rfl ?_
          refine z_sipush X (nI 1000) dX7_atAddress_73 (by decide) ?_
          refine z_irem X (nI (zn x % 1000)) dX7_atAddress_76 (by decide) (zrm1000 hx31) ?_
          refine z_icmpU_ne X (zn ((S 5) ((20 * (zn mm)) + k))) (zn x % 1000) 83 dX7_atAddress_77 (by decide) (nI_zn _).symm rfl (zn_lt _) (by omega) (fun c14005 => ?_) (fun c14005 => ?_)
          · refine z_iinc X (lv' := [(4, .int (nI (k + 1))), (5, .int (nI ((20 * (zn mm)) + k))), (0, .ref (E 0)), (1, .int x), (3, .int mm)]) (nI (k + 1)) 4 dX7_atAddress_83 rfl (nI_1 _) (by decide) rfl ?_
            refine z_goto X 35 dX7_atAddress_86 (by decide) ?_
            refine z_lvp (lv' := [(0, .ref (E 0)), (1, .int x), (3, .int mm), (4, .int (nI (k + 1)))]) [2, 3, 4, 0] rfl ?_
            exact ih (k + 1) ⟨by omega, adL_miss hI.2 (by rw [zeq_iff, zeq_iff, zc0, zn_nI (by omega)]; omega)⟩ (by omega)
          · refine z_iload X 0 dX7_atAddress_80 rfl ?_
            exact z_iret X hr hlk dX7_atAddress_82 (by first | exact Nat.le_of_ble_eq_true rfl | (dsimp only [zRm]; omega) | omega) (by first | exact Nat.le_of_ble_eq_true rfl | (dsimp only [zRm]; omega) | omega) ⟨by rw [hat, adL_le (adL_hit hI.2 (by rw [zeq_iff, zeq_iff, zc0, zn_nI (by omega)]; omega)) (by omega)]; rfl, rfl⟩
    · refine z_iconst X (-1) dX7_atAddress_23 (by decide) ?_
      exact z_iret X hr hlk dX7_atAddress_24 (by first | exact Nat.le_of_ble_eq_true rfl | (dsimp only [zRm]; omega) | omega) (by first | exact Nat.le_of_ble_eq_true rfl | (dsimp only [zRm]; omega) | omega) ⟨by rw [show atF S x = none from if_pos (by omega)]; rfl, rfl⟩
set_option maxHeartbeats 2000000 in
theorem c_X7_addressOf {l : Launch} {G : ZG} {h : ZH} {E : Nat → Nat} {S : ZS} {d : Option Nat} (D : MD E S h) (F : ZWF S) (FL : ZWL S) (hL : S 12 0 ≠ 0) (hd : ∀ k, d = some k → k < 240) : ZM l G yX7_addressOf (ws_ yX7_addressOf cX7_addressOf 2 (Option.some FieldType.int)) (zRm 1 0 0 30) [.ref (E 0), .int (oI d)] h (fun v h' => v = some (.int (adF S d)) ∧ h = h') := by
  refine ZT.zm (ZT.of (by first | exact plainFor_of_name (by decide) | decide +kernel) (Nat.le_of_ble_eq_true rfl) (zcats.r zref.r (zcats.i zcats.nil)) ?_)
  intro p_ e_ s_ m_ args_ below_ meth_ c_ X hr hlk hin htab
  have X : ZX p_ m_ c_ cX7_addressOf 2 s_ args_ "LinkStationModel" G := X
  refine z_lv (lv' := [(0, .ref (E 0)), (1, .int (oI d))]) (fun _ hq => hq) ?_
  have hM := FL.1
  rcases d with _ | d
  · refine z_iload_n X 1 dX7_addressOf_0 rfl ?_
    refine z_iconst X (-1) dX7_addressOf_1 (by decide) ?_
    refine z_icmpU_ne X 4294967295 4294967295 9 dX7_addressOf_2 (by decide) (by decide) (by decide) (by omega) (by omega) (fun c14006 => ?_) (fun c14006 => ?_)
    · omega
    · refine z_iconst X (nI 0) dX7_addressOf_5 (by decide) ?_
      refine z_goto X 30 dX7_addressOf_6 (by decide) ?_
      exact z_iret X hr hlk dX7_addressOf_30 (by first | exact Nat.le_of_ble_eq_true rfl | (dsimp only [zRm]; omega) | omega) (by first | exact Nat.le_of_ble_eq_true rfl | (dsimp only [zRm]; omega) | omega) ⟨rfl, rfl⟩
  · have hd := hd d rfl
    refine z_iload_n X 1 dX7_addressOf_0 rfl ?_
    refine z_iconst X (-1) dX7_addressOf_1 (by decide) ?_
    refine z_icmpU_ne X d 4294967295 9 dX7_addressOf_2 (by decide) rfl (by decide) (by omega) (by omega) (fun c14007 => ?_) (fun c14007 => ?_)
    · refine z_sipush X (nI 1000) dX7_addressOf_9 (by decide) ?_
      refine z_aload_n X 0 dX7_addressOf_12 zref.r rfl ?_
      refine z_iload_n X 1 dX7_addressOf_13 rfl ?_
      refine z_bipush X (nI 20) dX7_addressOf_14 (by decide) ?_
      refine z_idiv X (nI (d / 20)) dX7_addressOf_16 (by decide) (pk_div (by omega) (by decide) (by decide)) ?_
      refine z_callV X (rest := [.int (nI 1000)]) (c_X7_placeOf D F (x := nI (d / 20)) FL) (cwV 1 (zXts X) (lw_V q1774 q1776 qs40 q65 q1777) rfl rfl rfl (by decide +kernel) ⟨Nat.le_of_ble_eq_true rfl, Nat.le_of_ble_eq_true rfl⟩) D.1 (by decide) rfl rfl (Nat.le_of_ble_eq_true rfl) ⟨(by first | exact Nat.le_of_ble_eq_true rfl | (dsimp only [zRm]; omega)), (by first | exact Nat.le_of_ble_eq_true rfl | (dsimp only [zRm]; omega))⟩ dX7_addressOf_17 (fun v14009 h14010 p14011 => ?_)
      obtain ⟨⟨c14008, p0, c14008a, c14008b, c14008c, rfl⟩ | ⟨c14008, rfl⟩, rfl⟩ := p14011
      · refine z_st (st' := [.int (nI p0), .int (nI 1000)]) rfl ?_
        rw [zn_nI (by omega)] at c14008a
        refine z_iconst X (nI 1) dX7_addressOf_20 (by decide) ?_
        refine z_iadd X ((nI p0) + (nI 1)) dX7_addressOf_21 rfl ?_
        refine z_imul X ((nI 1000) * ((nI p0) + (nI 1))) dX7_addressOf_22 rfl ?_
        refine z_aload_n X 0 dX7_addressOf_23 zref.r rfl ?_
        refine z_get X zP6 5 (by decide) q1568 (Or.inl rfl) D.1 (by decide) rfl dX7_addressOf_24 ?_
        refine z_iload_n X 1 dX7_addressOf_27 rfl ?_
        refine z_iald X (v := .int ((S 5) d)) d (D.2.1 5 rfl) (by decide) rfl (by show _ < 240; omega) (by decide) rfl dX7_addressOf_28 ?_
        refine z_iadd X (((nI 1000) * ((nI p0) + (nI 1))) + ((S 5) d)) dX7_addressOf_29 rfl ?_
        exact z_iret X hr hlk dX7_addressOf_30 (by first | exact Nat.le_of_ble_eq_true rfl | (dsimp only [zRm]; omega) | omega) (by first | exact Nat.le_of_ble_eq_true rfl | (dsimp only [zRm]; omega) | omega) ⟨by show _ = some (Value.int (nI 1000 * (oI (plL S (d / 20) (zn (S 15 0))) + 1) + S 5 d)); rw [c14008a]; rfl, rfl⟩
      · refine z_st (st' := [.int (-1), .int (nI 1000)]) rfl ?_
        have hno := zld_no c14008 hL
        rw [zn_nI (by omega)] at hno
        refine z_iconst X (nI 1) dX7_addressOf_20 (by decide) ?_
        refine z_iadd X ((-1) + (nI 1)) dX7_addressOf_21 rfl ?_
        refine z_imul X ((nI 1000) * ((-1) + (nI 1))) dX7_addressOf_22 rfl ?_
        refine z_aload_n X 0 dX7_addressOf_23 zref.r rfl ?_
        refine z_get X zP6 5 (by decide) q1568 (Or.inl rfl) D.1 (by decide) rfl dX7_addressOf_24 ?_
        refine z_iload_n X 1 dX7_addressOf_27 rfl ?_
        refine z_iald X (v := .int ((S 5) d)) d (D.2.1 5 rfl) (by decide) rfl (by show _ < 240; omega) (by decide) rfl dX7_addressOf_28 ?_
        refine z_iadd X (((nI 1000) * ((-1) + (nI 1))) + ((S 5) d)) dX7_addressOf_29 rfl ?_
        exact z_iret X hr hlk dX7_addressOf_30 (by first | exact Nat.le_of_ble_eq_true rfl | (dsimp only [zRm]; omega) | omega) (by first | exact Nat.le_of_ble_eq_true rfl | (dsimp only [zRm]; omega) | omega) ⟨by show _ = some (Value.int (nI 1000 * (oI (plL S (d / 20) (zn (S 15 0))) + 1) + S 5 d)); rw [hno]; rfl, rfl⟩
    · refine z_iconst X (nI 0) dX7_addressOf_5 (by decide) ?_
      refine z_goto X 30 dX7_addressOf_6 (by decide) ?_
      exfalso; omega
set_option maxHeartbeats 4000000 in
theorem c_X7_call {l : Launch} {G : ZG} {h : ZH} {E : Nat → Nat} {S : ZS} {d : Option Nat} (D : MD E S h) (hdp : zn (S 36 0) ≤ 101) (hds : zn (S 32 0) ≤ 101) (hd : ∀ k, d = some k → k < 240) : ZM l G yX7_call (ws_ yX7_call cX7_call 2 (Option.some FieldType.int)) (zRm 0 0 0 0) [.ref (E 0), .int (oI d)] h (fun v h' => v = some (.int (callF S d).1) ∧ MD E (callF S d).2 h' ∧ zOn zTM h h') := by
  refine ZT.zm (ZT.of (by first | exact plainFor_of_name (by decide) | decide +kernel) (Nat.le_of_ble_eq_true rfl) (zcats.r zref.r (zcats.i zcats.nil)) ?_)
  intro p_ e_ s_ m_ args_ below_ meth_ c_ X hr hlk hin htab
  have X : ZX p_ m_ c_ cX7_call 2 s_ args_ "LinkStationModel" G := X
  refine z_lv (lv' := [(0, .ref (E 0)), (1, .int (oI d))]) (fun _ hq => hq) ?_
  rcases d with _ | d
  · refine z_iload_n X 1 dX7_call_0 rfl ?_
    refine z_iconst X (-1) dX7_call_1 (by decide) ?_
    refine z_icmpU_ne X 4294967295 4294967295 7 dX7_call_2 (by decide) (by decide) (by decide) (by omega) (by omega) (fun c14012 => ?_) (fun c14012 => ?_)
    · omega
    · refine z_iconst X (nI 3) dX7_call_5 (by decide) ?_
      exact z_iret X hr hlk dX7_call_6 (by first | exact Nat.le_of_ble_eq_true rfl | (dsimp only [zRm]; omega) | omega) (by first | exact Nat.le_of_ble_eq_true rfl | (dsimp only [zRm]; omega) | omega) ⟨rfl, D, zOn.rf⟩
  · have hd := hd d rfl
    refine z_iload_n X 1 dX7_call_0 rfl ?_
    refine z_iconst X (-1) dX7_call_1 (by decide) ?_
    refine z_icmpU_ne X d 4294967295 7 dX7_call_2 (by decide) rfl (by decide) (by omega) (by omega) (fun c14013 => ?_) (fun c14013 => ?_)
    · refine z_aload_n X 0 dX7_call_7 zref.r rfl ?_
      refine z_get X zP6 36 (by decide) q1599 (Or.inl rfl) (v := .int (S 36 0)) D.1 (by decide) rfl dX7_call_8 ?_
      refine z_bipush X (nI 101) dX7_call_11 (by decide) ?_
      refine z_icmpU_ne X (zn (S 36 0)) 101 18 dX7_call_13 (by decide) (nI_zn _).symm rfl (zn_lt _) (by omega) (fun c14014 => ?_) (fun c14014 => ?_)
      · refine z_aload_n X 0 dX7_call_18 zref.r rfl ?_
        refine z_get X zP6 34 (by decide) q1597 (Or.inl rfl) D.1 (by decide) rfl dX7_call_19 ?_
        refine z_aload_n X 0 dX7_call_22 zref.r rfl ?_
        refine z_get X zP6 36 (by decide) q1599 (Or.inl rfl) (v := .int (S 36 0)) D.1 (by decide) rfl dX7_call_23 ?_
        refine z_aload_n X 0 dX7_call_26 zref.r rfl ?_
        refine z_get X zP6 37 (by decide) q1600 (Or.inl rfl) (v := .int (S 37 0)) D.1 (by decide) rfl dX7_call_27 ?_
        refine z_iast X (zn (S 36 0)) (D.2.1 34 rfl) (by decide) (by decide) (nI_zn _).symm (by show _ < 101; omega) (by decide) (f' := fun i => .int ((zu (S 34) (zn (S 36 0)) (S 37 0)) i)) (fun _ => zu_v _) dX7_call_30 ?_
        refine z_nm fun h14015 e14016 => ?_
        have D14017 : MD E (zsa S 34 (zu (S 34) (zn (S 36 0)) (S 37 0))) h14015 := D.sA 34 rfl e14016
        have o14018 := zOn.up (zOn.rf (T := zTM) (h := h)) e14016 (D.2.1 34 rfl) (by decide)
        refine z_aload_n X 0 dX7_call_31 zref.r rfl ?_
        refine z_get X zP6 35 (by decide) q1598 (Or.inl rfl) D14017.1 (by decide) rfl dX7_call_32 ?_
        refine z_aload_n X 0 dX7_call_35 zref.r rfl ?_
        refine z_get X zP6 36 (by decide) q1599 (Or.inl rfl) (v := .int (S 36 0)) D14017.1 (by decide) rfl dX7_call_36 ?_
        refine z_aload_n X 0 dX7_call_39 zref.r rfl ?_
        refine z_get X zP6 38 (by decide) q1601 (Or.inl rfl) (v := .int (S 38 0)) D14017.1 (by decide) rfl dX7_call_40 ?_
        refine z_iast X (zn (S 36 0)) (D14017.2.1 35 rfl) (by decide) (by decide) (nI_zn _).symm (by show _ < 101; omega) (by decide) (f' := fun i => .int ((zu (S 35) (zn (S 36 0)) (S 38 0)) i)) (fun _ => zu_v _) dX7_call_43 ?_
        refine z_nm fun h14019 e14020 => ?_
        have D14021 : MD E (zsa (zsa S 34 (zu (S 34) (zn (S 36 0)) (S 37 0))) 35 (zu (S 35) (zn (S 36 0)) (S 38 0))) h14019 := D14017.sA 35 rfl e14020
        have o14022 := zOn.up o14018 e14020 (D14017.2.1 35 rfl) (by decide)
        refine z_aload_n X 0 dX7_call_44 zref.r rfl ?_
        refine z_dup X dX7_call_45 rfl ?_
        refine z_get X zP6 36 (by decide) q1599 (Or.inl rfl) (v := .int (S 36 0)) D14021.1 (by decide) rfl dX7_call_46 ?_
        refine z_iconst X (nI 1) dX7_call_49 (by decide) ?_
        refine z_iadd X (nI ((zn (S 36 0)) + 1)) dX7_call_50 (zadd (nI_zn _).symm rfl) ?_
        refine z_put X zP6 36 (by decide) q1599 (Or.inl rfl) rfl D14021.1 (by decide) (by decide) (zfits.i _) (Nat.le_of_ble_eq_true rfl) rfl dX7_call_51 ?_
        refine z_nm fun h14023 e14024 => ?_
        have D14025 : MD E (zsa (zsa (zsa S 34 (zu (S 34) (zn (S 36 0)) (S 37 0))) 35 (zu (S 35) (zn (S 36 0)) (S 38 0))) 36 (fun _ => nI ((zn (S 36 0)) + 1))) h14023 := D14021.sF 36 (by decide) e14024
        have o14026 := zOn.up o14022 e14024 D14021.1 (by decide)
        refine z_aload_n X 0 dX7_call_54 zref.r rfl ?_
        refine z_aload_n X 0 dX7_call_55 zref.r rfl ?_
        refine z_get X zP6 36 (by decide) q1599 (Or.inl rfl) (v := .int (nI ((zn (S 36 0)) + 1))) D14025.1 (by decide) rfl dX7_call_56 ?_
        refine z_iconst X (nI 1) dX7_call_59 (by decide) ?_
        refine z_isub X (nI (((zn (S 36 0)) + 1) - 1)) dX7_call_60 (zsub rfl rfl (by omega)) ?_
        refine z_aload_n X 0 dX7_call_61 zref.r rfl ?_
        refine z_get X zP6 32 (by decide) q1595 (Or.inl rfl) (v := .int (S 32 0)) D14025.1 (by decide) rfl dX7_call_62 ?_
        refine z_icmpU_le X (((zn (S 36 0)) + 1) - 1) (zn (S 32 0)) 77 dX7_call_65 (by decide) rfl (nI_zn _).symm (by omega) (zn_lt _) (fun c14027 => ?_) (fun c14027 => ?_)
        · refine z_aload_n X 0 dX7_call_77 zref.r rfl ?_
          refine z_get X zP6 32 (by decide) q1595 (Or.inl rfl) (v := .int (S 32 0)) D14025.1 (by decide) rfl dX7_call_78 ?_
          have hif : (if zn (S 32 0) < zn (S 36 0) then nI (zn (S 36 0)) else S 32 0) = (S 32 0) := if_neg (by omega)
          refine z_put X zP6 32 (by decide) q1595 (Or.inl rfl) rfl D14025.1 (by decide) (by decide) (zfits.i _) (Nat.le_of_ble_eq_true rfl) rfl dX7_call_81 ?_
          refine z_nm fun h14028 e14029 => ?_
          have D14030 : MD E (zsa (zsa (zsa (zsa S 34 (zu (S 34) (zn (S 36 0)) (S 37 0))) 35 (zu (S 35) (zn (S 36 0)) (S 38 0))) 36 (fun _ => nI ((zn (S 36 0)) + 1))) 32 (fun _ => S 32 0)) h14028 := D14025.sF 32 (by decide) e14029
          have o14031 := zOn.up o14026 e14029 D14025.1 (by decide)
          refine z_aload_n X 0 dX7_call_84 zref.r rfl ?_
          refine z_iload_n X 1 dX7_call_85 rfl ?_
          refine z_bipush X (nI 20) dX7_call_86 (by decide) ?_
          refine z_idiv X (nI (d / 20)) dX7_call_88 (by decide) (pk_div (by omega) (by decide) (by decide)) ?_
          refine z_put X zP6 37 (by decide) q1600 (Or.inl rfl) rfl D14030.1 (by decide) (by decide) (zfits.i _) (Nat.le_of_ble_eq_true rfl) rfl dX7_call_89 ?_
          refine z_nm fun h14032 e14033 => ?_
          have D14034 : MD E (zsa (zsa (zsa (zsa (zsa S 34 (zu (S 34) (zn (S 36 0)) (S 37 0))) 35 (zu (S 35) (zn (S 36 0)) (S 38 0))) 36 (fun _ => nI ((zn (S 36 0)) + 1))) 32 (fun _ => S 32 0)) 37 (fun _ => nI (d / 20))) h14032 := D14030.sF 37 (by decide) e14033
          have o14035 := zOn.up o14031 e14033 D14030.1 (by decide)
          refine z_aload_n X 0 dX7_call_92 zref.r rfl ?_
          refine z_aload_n X 0 dX7_call_93 zref.r rfl ?_
          refine z_get X zP6 5 (by decide) q1568 (Or.inl rfl) D14034.1 (by decide) rfl dX7_call_94 ?_
          refine z_iload_n X 1 dX7_call_97 rfl ?_
          refine z_iald X (v := .int ((S 5) d)) d (D14034.2.1 5 rfl) (by decide) rfl (by show _ < 240; omega) (by decide) rfl dX7_call_98 ?_
          refine z_put X zP6 38 (by decide) q1601 (Or.inl rfl) rfl D14034.1 (by decide) (by decide) (zfits.i _) (Nat.le_of_ble_eq_true rfl) rfl dX7_call_99 ?_
          refine z_nm fun h14036 e14037 => ?_
          have D14038 : MD E (zsa (zsa (zsa (zsa (zsa (zsa S 34 (zu (S 34) (zn (S 36 0)) (S 37 0))) 35 (zu (S 35) (zn (S 36 0)) (S 38 0))) 36 (fun _ => nI ((zn (S 36 0)) + 1))) 32 (fun _ => S 32 0)) 37 (fun _ => nI (d / 20))) 38 (fun _ => (S 5) d)) h14036 := D14034.sF 38 (by decide) e14037
          have o14039 := zOn.up o14035 e14037 D14034.1 (by decide)
          refine z_iconst X (-1) dX7_call_102 (by decide) ?_
          exact z_iret X hr hlk dX7_call_103 (by first | exact Nat.le_of_ble_eq_true rfl | (dsimp only [zRm]; omega) | omega) (by first | exact Nat.le_of_ble_eq_true rfl | (dsimp only [zRm]; omega) | omega) ⟨by rw [callF_ok (by omega)] <;> rfl, by rw [callF_ok (by omega), hif]; exact D14038, o14039⟩
        · refine z_aload_n X 0 dX7_call_68 zref.r rfl ?_
          refine z_get X zP6 36 (by decide) q1599 (Or.inl rfl) (v := .int (nI ((zn (S 36 0)) + 1))) D14025.1 (by decide) rfl dX7_call_69 ?_
          refine z_iconst X (nI 1) dX7_call_72 (by decide) ?_
          refine z_isub X (nI (((zn (S 36 0)) + 1) - 1)) dX7_call_73 (zsub rfl rfl (by omega)) ?_
          refine z_goto X 81 dX7_call_74 (by decide) ?_
          have hif : (if zn (S 32 0) < zn (S 36 0) then nI (zn (S 36 0)) else S 32 0) = (nI (((zn (S 36 0)) + 1) - 1)) := (if_pos (by omega)).trans (by rw [Nat.add_sub_cancel])
          refine z_put X zP6 32 (by decide) q1595 (Or.inl rfl) rfl D14025.1 (by decide) (by decide) (zfits.i _) (Nat.le_of_ble_eq_true rfl) rfl dX7_call_81 ?_
          refine z_nm fun h14040 e14041 => ?_
          have D14042 : MD E (zsa (zsa (zsa (zsa S 34 (zu (S 34) (zn (S 36 0)) (S 37 0))) 35 (zu (S 35) (zn (S 36 0)) (S 38 0))) 36 (fun _ => nI ((zn (S 36 0)) + 1))) 32 (fun _ => nI (((zn (S 36 0)) + 1) - 1))) h14040 := D14025.sF 32 (by decide) e14041
          have o14043 := zOn.up o14026 e14041 D14025.1 (by decide)
          refine z_aload_n X 0 dX7_call_84 zref.r rfl ?_
          refine z_iload_n X 1 dX7_call_85 rfl ?_
          refine z_bipush X (nI 20) dX7_call_86 (by decide) ?_
          refine z_idiv X (nI (d / 20)) dX7_call_88 (by decide) (pk_div (by omega) (by decide) (by decide)) ?_
          refine z_put X zP6 37 (by decide) q1600 (Or.inl rfl) rfl D14042.1 (by decide) (by decide) (zfits.i _) (Nat.le_of_ble_eq_true rfl) rfl dX7_call_89 ?_
          refine z_nm fun h14044 e14045 => ?_
          have D14046 : MD E (zsa (zsa (zsa (zsa (zsa S 34 (zu (S 34) (zn (S 36 0)) (S 37 0))) 35 (zu (S 35) (zn (S 36 0)) (S 38 0))) 36 (fun _ => nI ((zn (S 36 0)) + 1))) 32 (fun _ => nI (((zn (S 36 0)) + 1) - 1))) 37 (fun _ => nI (d / 20))) h14044 := D14042.sF 37 (by decide) e14045
          have o14047 := zOn.up o14043 e14045 D14042.1 (by decide)
          refine z_aload_n X 0 dX7_call_92 zref.r rfl ?_
          refine z_aload_n X 0 dX7_call_93 zref.r rfl ?_
          refine z_get X zP6 5 (by decide) q1568 (Or.inl rfl) D14046.1 (by decide) rfl dX7_call_94 ?_
          refine z_iload_n X 1 dX7_call_97 rfl ?_
          refine z_iald X (v := .int ((S 5) d)) d (D14046.2.1 5 rfl) (by decide) rfl (by show _ < 240; omega) (by decide) rfl dX7_call_98 ?_
          refine z_put X zP6 38 (by decide) q1601 (Or.inl rfl) rfl D14046.1 (by decide) (by decide) (zfits.i _) (Nat.le_of_ble_eq_true rfl) rfl dX7_call_99 ?_
          refine z_nm fun h14048 e14049 => ?_
          have D14050 : MD E (zsa (zsa (zsa (zsa (zsa (zsa S 34 (zu (S 34) (zn (S 36 0)) (S 37 0))) 35 (zu (S 35) (zn (S 36 0)) (S 38 0))) 36 (fun _ => nI ((zn (S 36 0)) + 1))) 32 (fun _ => nI (((zn (S 36 0)) + 1) - 1))) 37 (fun _ => nI (d / 20))) 38 (fun _ => (S 5) d)) h14048 := D14046.sF 38 (by decide) e14049
          have o14051 := zOn.up o14047 e14049 D14046.1 (by decide)
          refine z_iconst X (-1) dX7_call_102 (by decide) ?_
          exact z_iret X hr hlk dX7_call_103 (by first | exact Nat.le_of_ble_eq_true rfl | (dsimp only [zRm]; omega) | omega) (by first | exact Nat.le_of_ble_eq_true rfl | (dsimp only [zRm]; omega) | omega) ⟨by rw [callF_ok (by omega)] <;> rfl, by rw [callF_ok (by omega), hif]; exact D14050, o14051⟩
      · refine z_iconst X (nI 2) dX7_call_16 (by decide) ?_
        exact z_iret X hr hlk dX7_call_17 (by first | exact Nat.le_of_ble_eq_true rfl | (dsimp only [zRm]; omega) | omega) (by first | exact Nat.le_of_ble_eq_true rfl | (dsimp only [zRm]; omega) | omega) ⟨by rw [show callF S (some d) = (2, S) from if_pos (by omega)] <;> rfl, by rw [show callF S (some d) = (2, S) from if_pos (by omega)]; exact D, zOn.rf⟩
    · refine z_iconst X (nI 3) dX7_call_5 (by decide) ?_
      exfalso; omega
