set_option maxRecDepth 100000
theorem mk_0 {S0 S : ZS} {a b c : Int32} : mkF S0 (nI 0) a b c S = (-1, zs1 S 28 (zn a) b) := by
  unfold mkF
  repeat (first | rw [if_pos (by decide)] | rw [if_neg (by decide)])
  all_goals rfl
theorem mk_1 {S0 S : ZS} {a b c : Int32} : mkF S0 (nI 1) a b c S = (-1, zs1 S 28 (zn a) (S 28 (zn b))) := by
  unfold mkF
  repeat (first | rw [if_pos (by decide)] | rw [if_neg (by decide)])
  all_goals rfl
theorem mk_2 {S0 S : ZS} {a b c : Int32} : mkF S0 (nI 2) a b c S = (-1, zs1 S 28 (zn a) (S 28 (zn b) + S 28 (zn c))) := by
  unfold mkF
  repeat (first | rw [if_pos (by decide)] | rw [if_neg (by decide)])
  all_goals rfl
theorem mk_3 {S0 S : ZS} {a b c : Int32} : mkF S0 (nI 3) a b c S = (-1, zs1 S 28 (zn a) (S 28 (zn b) - S 28 (zn c))) := by
  unfold mkF
  repeat (first | rw [if_pos (by decide)] | rw [if_neg (by decide)])
  all_goals rfl
theorem mk_4 {S0 S : ZS} {a b c : Int32} : mkF S0 (nI 4) a b c S = (-1, zs1 S 28 (zn a) (S 28 (zn b) * S 28 (zn c))) := by
  unfold mkF
  repeat (first | rw [if_pos (by decide)] | rw [if_neg (by decide)])
  all_goals rfl
theorem mk_5 {S0 S : ZS} {a b c : Int32} : mkF S0 (nI 5) a b c S = (-1, zs0 S 38 (if S 28 (zn a) < S 28 (zn b) then c else S 38 0)) := by
  unfold mkF
  repeat (first | rw [if_pos (by decide)] | rw [if_neg (by decide)])
  all_goals rfl
theorem mk_6 {S0 S : ZS} {a b c : Int32} : mkF S0 (nI 6) a b c S = (-1, zs0 S 38 a) := by
  unfold mkF
  repeat (first | rw [if_pos (by decide)] | rw [if_neg (by decide)])
  all_goals rfl
theorem mk_7 {S0 S : ZS} {a b c : Int32} : mkF S0 (nI 7) a b c S = clnF S a := by
  unfold mkF
  repeat (first | rw [if_pos (by decide)] | rw [if_neg (by decide)])
  all_goals rfl
theorem mk_8 {S0 S : ZS} {a b c : Int32} : mkF S0 (nI 8) a b c S = ((-1 : Int32), zs1 S 28 (zn a) (match zfd S b with
    | none => (0 : Int32)
    | some d => S 19 d)) := by
  unfold mkF
  repeat (first | rw [if_pos (by decide)] | rw [if_neg (by decide)])
  all_goals rfl
theorem mk_9 {S0 S : ZS} {a b c : Int32} : mkF S0 (nI 9) a b c S = ((-1 : Int32), match zfd S a with
    | none => S
    | some d => zs1 S 19 d (S 28 (zn b))) := by
  unfold mkF
  repeat (first | rw [if_pos (by decide)] | rw [if_neg (by decide)])
  all_goals rfl
theorem mk_10 {S0 S : ZS} {a b c : Int32} : mkF S0 (nI 10) a b c S = (-1, zs1 S 28 (zn a) (adF S (zfd S b))) := by
  unfold mkF
  repeat (first | rw [if_pos (by decide)] | rw [if_neg (by decide)])
  all_goals rfl
theorem mk_11 {S0 S : ZS} {a b c : Int32} : mkF S0 (nI 11) a b c S = callF S (atF S (S 28 (zn a))) := by
  unfold mkF
  repeat (first | rw [if_pos (by decide)] | rw [if_neg (by decide)])
  all_goals rfl
theorem mk_12 {S0 S : ZS} {a b c : Int32} : mkF S0 (nI 12) a b c S = (-1, zs0 (zs0 (zs0 S 36 (nI (zn (S 36 0) - 1))) 37 (S 34 (zn (S 36 0) - 1))) 38 (S 35 (zn (S 36 0) - 1))) := by
  unfold mkF
  repeat (first | rw [if_pos (by decide)] | rw [if_neg (by decide)])
  all_goals rfl
theorem mk_13 {S0 S : ZS} {a b c : Int32} : mkF S0 (nI 13) a b c S = (-1, zs0 (if zn (S 30 0) < 60 then zs1 S 33 (zn (S 30 0)) (S 28 (zn a)) else S) 30 (nI (zn (S 30 0) + 1))) := by
  unfold mkF
  repeat (first | rw [if_pos (by decide)] | rw [if_neg (by decide)])
  all_goals rfl
theorem mk_14 {S0 S : ZS} {a b c : Int32} : mkF S0 (nI 14) a b c S = (0, S) := by
  unfold mkF
  repeat (first | rw [if_pos (by decide)] | rw [if_neg (by decide)])
  all_goals rfl
theorem zlt_iff {x y : Int32} : x < y ↔ (zn x + 2147483648) % 4294967296 < (zn y + 2147483648) % 4294967296 := by
  have := zI_lt (zn_lt x) (zn_lt y)
  rwa [nI_zn, nI_zn] at this
theorem adL_is {S : ZS} {m v : Nat} : ∀ {n d : Nat}, adL S m v n = some d → ∃ k, k < n ∧ d = 20 * m + k ∧ S 4 d = 0 ∧ S 5 d = nI v
  | 0, d, h => by cases h
  | n + 1, d, h => by
    simp only [adL] at h
    split at h
    · rename_i e he
      cases h
      obtain ⟨k, h1, h2⟩ := adL_is he
      exact ⟨k, by omega, h2⟩
    · split at h
      · rename_i he
        cases h
        exact ⟨n, by omega, rfl, he⟩
      · cases h
theorem atF_lt {S : ZS} {x : Int32} (F : ZWF S) (FL : ZWL S) : ∀ d, atF S x = some d → d < 240 ∧ d / 20 < 12 ∧ zn (S 5 d) < 100 := fun d h => by
  unfold atF at h
  split at h
  · cases h
  · rename_i hn
    obtain ⟨k, h1, h2, h3, h4⟩ := adL_is h
    have hm := FL.2.1 (zn x / 1000 - 1) (by omega)
    have hd := F.dc (zn (S 16 (zn x / 1000 - 1)))
    have := F.dv _ k h1 (by rw [← h2]; exact h3)
    rw [← h2] at this
    exact ⟨by omega, by omega, this⟩
set_option maxHeartbeats 4000000 in
theorem c_X7_callName {l : Launch} {G : ZG} {h : ZH} {E : Nat → Nat} {S : ZS} {x : Int32} (D : MD E S h) (F : ZWF S) (FL : ZWL S) (hx : zn x < 64) (hnm : zn (S 37 0) < 12) (hdp : zn (S 36 0) ≤ 101) (hds : zn (S 32 0) ≤ 101) : ZM l G yX7_callName (ws_ yX7_callName cX7_callName 4 (Option.some FieldType.int)) (zRm 2 0 0 70) [.ref (E 0), .int x] h (fun v h' => v = some (.int (clnF S x).1) ∧ MD E (clnF S x).2 h' ∧ zOn zTM h h') := by
  refine ZT.zm (ZT.of (by first | exact plainFor_of_name (by decide) | decide +kernel) (Nat.le_of_ble_eq_true rfl) (zcats.r zref.r (zcats.i zcats.nil)) ?_)
  intro p_ e_ s_ m_ args_ below_ meth_ c_ X hr hlk hin htab
  have X : ZX p_ m_ c_ cX7_callName 4 s_ args_ "LinkStationModel" G := X
  refine z_lv (lv' := [(0, .ref (E 0)), (1, .int x)]) (fun _ hq => hq) ?_
  have hL := FL.1
  have hfd : ∀ k, fnd S (S 16) (zn (S 15 0)) (zn (S 37 0)) x = some k → k < 240 := fun k hk => (F.df hk hnm FL.2.1).1
  refine z_bipush X (nI 64) dX7_callName_0 (by decide) ?_
  refine z_aload_n X 0 dX7_callName_2 zref.r rfl ?_
  refine z_get X zP6 37 (by decide) q1600 (Or.inl rfl) (v := .int (S 37 0)) D.1 (by decide) rfl dX7_callName_3 ?_
  refine z_imul X (nI (64 * (zn (S 37 0)))) dX7_callName_6 (zmul rfl (nI_zn _).symm) ?_
  refine z_iload_n X 1 dX7_callName_7 rfl ?_
  refine z_iadd X (nI ((64 * (zn (S 37 0))) + (zn x))) dX7_callName_8 (zadd rfl (nI_zn _).symm) ?_
  refine z_istore_n X (lv' := [(2, .int (nI ((64 * (zn (S 37 0))) + (zn x)))), (0, .ref (E 0)), (1, .int x)]) dX7_callName_9 (by decide) rfl ?_
  refine z_aload_n X 1 dX7_callName_10 zref.r rfl ?_
  refine z_aload_n X 1 dX7_callName_11 zref.r rfl ?_
  refine z_get X zP6 16 (by decide) q1579 (Or.inl rfl) D.1 (by decide) rfl dX7_callName_12 ?_
  refine z_aload_n X 1 dX7_callName_15 zref.r rfl ?_
  refine z_get X zP6 15 (by decide) q1578 (Or.inl rfl) (v := .int (S 15 0)) D.1 (by decide) rfl dX7_callName_16 ?_
  refine z_aload_n X 1 dX7_callName_19 zref.r rfl ?_
  refine z_get X zP6 37 (by decide) q1600 (Or.inl rfl) (v := .int (S 37 0)) D.1 (by decide) rfl dX7_callName_20 ?_
  refine z_iload_n X 2 dX7_callName_23 rfl ?_
  refine z_st (st' := [.int x, .int (S 37 0), .int (nI (zn (S 15 0))), .ref (E 16), .ref (E 0)]) (by simp only [nI_zn]) ?_
  refine z_st (st' := [.int x, .int (nI (zn (S 37 0))), .int (nI (zn (S 15 0))), .ref (E 16), .ref (E 0)]) (by simp only [nI_zn]) ?_
  refine z_callV X (rest := []) (c_X7_find_16 D F (n := zn (S 15 0)) (m := zn (S 37 0)) (x := x) hnm hL FL.2.1) (cwV 4 (zXts X) (lw_V q1742 q1744 qs35 q65 q1745) rfl rfl rfl (by decide +kernel) ⟨Nat.le_of_ble_eq_true rfl, Nat.le_of_ble_eq_true rfl⟩) D.1 (by decide) rfl rfl (Nat.le_of_ble_eq_true rfl) ⟨(by first | exact Nat.le_of_ble_eq_true rfl | (dsimp only [zRm]; omega)), (by first | exact Nat.le_of_ble_eq_true rfl | (dsimp only [zRm]; omega))⟩ dX7_callName_24 (fun v16001 h16002 p16003 => ?_)
  obtain ⟨rfl, rfl⟩ := p16003
  refine z_st (st' := [.int (oI (fnd S (S 16) (zn (S 15 0)) (zn (S 37 0)) x))]) rfl ?_
  refine z_istore_n X (lv' := [(3, .int (oI (fnd S (S 16) (zn (S 15 0)) (zn (S 37 0)) x))), (2, .int (nI ((64 * (zn (S 37 0))) + (zn x)))), (0, .ref (E 0)), (1, .int x)]) dX7_callName_27 (by decide) rfl ?_
  refine z_aload_n X 2 dX7_callName_28 zref.r rfl ?_
  refine z_get X zP6 18 (by decide) q1581 (Or.inl rfl) D.1 (by decide) rfl dX7_callName_29 ?_
  refine z_iload_n X 1 dX7_callName_32 rfl ?_
  refine z_iald X (v := .int ((S 18) ((64 * (zn (S 37 0))) + (zn x)))) ((64 * (zn (S 37 0))) + (zn x)) (D.2.1 18 rfl) (by decide) rfl (by show _ < 768; omega) (by decide) rfl dX7_callName_33 ?_
  refine z_bipush X (nI 21) dX7_callName_34 (by decide) ?_
  refine z_icmpU_ne X (zn ((S 18) ((64 * (zn (S 37 0))) + (zn x)))) 21 60 dX7_callName_36 (by decide) (nI_zn _).symm rfl (zn_lt _) (by omega) (fun c16004 => ?_) (fun c16004 => ?_)
  · refine z_aload_n X 2 dX7_callName_60 zref.r rfl ?_
    refine z_iload_n X 0 dX7_callName_61 rfl ?_
    refine z_callV X (rest := []) (c_X7_call D (d := fnd S (S 16) (zn (S 15 0)) (zn (S 37 0)) x) hdp hds hfd) (cwV 1 (zXts X) (lw_V q1790 q1792 qs42 q65 q1793) rfl rfl rfl (by decide +kernel) ⟨Nat.le_of_ble_eq_true rfl, Nat.le_of_ble_eq_true rfl⟩) D.1 (by decide) rfl rfl (Nat.le_of_ble_eq_true rfl) ⟨(by first | exact Nat.le_of_ble_eq_true rfl | (dsimp only [zRm]; omega)), (by first | exact Nat.le_of_ble_eq_true rfl | (dsimp only [zRm]; omega))⟩ dX7_callName_62 (fun v16005 h16006 p16007 => ?_)
    obtain ⟨rfl, D9, O9⟩ := p16007
    refine z_st (st' := [.int ((callF S (fnd S (S 16) (zn (S 15 0)) (zn (S 37 0)) x)).1)]) rfl ?_
    exact z_iret X hr hlk dX7_callName_65 (by first | exact Nat.le_of_ble_eq_true rfl | (dsimp only [zRm]; omega) | omega) (by first | exact Nat.le_of_ble_eq_true rfl | (dsimp only [zRm]; omega) | omega) ⟨congrArg (fun z : Int32 × ZS => some (Value.int z.1)) (show callF S (fnd S (S 16) (zn (S 15 0)) (zn (S 37 0)) x) = clnF S x from (by unfold clnF; rw [if_neg (by rw [zeq_iff, zc21]; omega)]; rfl)), by rw [← show callF S (fnd S (S 16) (zn (S 15 0)) (zn (S 37 0)) x) = clnF S x from (by unfold clnF; rw [if_neg (by rw [zeq_iff, zc21]; omega)]; rfl)]; exact D9, (zOn.rf (T := zTM) (h := h)).trans O9⟩
  · refine z_aload_n X 2 dX7_callName_39 zref.r rfl ?_
    refine z_get X zP6 18 (by decide) q1581 (Or.inl rfl) D.1 (by decide) rfl dX7_callName_40 ?_
    refine z_iload_n X 1 dX7_callName_43 rfl ?_
    refine z_aload_n X 2 dX7_callName_44 zref.r rfl ?_
    refine z_iload_n X 0 dX7_callName_45 rfl ?_
    refine z_callV X (rest := [.int (nI ((64 * (zn (S 37 0))) + (zn x))), .ref (E 18)]) (c_X7_moduleOf D (d := fnd S (S 16) (zn (S 15 0)) (zn (S 37 0)) x) hfd) (cwV 1 (zXts X) (lw_V q1758 q1760 qs39 q65 q1761) rfl rfl rfl (by decide +kernel) ⟨Nat.le_of_ble_eq_true rfl, Nat.le_of_ble_eq_true rfl⟩) D.1 (by decide) rfl rfl (Nat.le_of_ble_eq_true rfl) ⟨(by first | exact Nat.le_of_ble_eq_true rfl | (dsimp only [zRm]; omega)), (by first | exact Nat.le_of_ble_eq_true rfl | (dsimp only [zRm]; omega))⟩ dX7_callName_46 (fun v16008 h16009 p16010 => ?_)
    obtain ⟨rfl, rfl⟩ := p16010
    refine z_st (st' := [.int (zmo (fnd S (S 16) (zn (S 15 0)) (zn (S 37 0)) x)), .int (nI ((64 * (zn (S 37 0))) + (zn x))), .ref (E 18)]) rfl ?_
    refine z_iast X ((64 * (zn (S 37 0))) + (zn x)) (D.2.1 18 rfl) (by decide) (by decide) rfl (by show _ < 768; omega) (by decide) (f' := fun i => .int ((zu (S 18) ((64 * (zn (S 37 0))) + (zn x)) (zmo (fnd S (S 16) (zn (S 15 0)) (zn (S 37 0)) x))) i)) (fun _ => zu_v _) dX7_callName_49 ?_
    refine z_nm fun h16011 e16012 => ?_
    have D16013 : MD E (zsa S 18 (zu (S 18) ((64 * (zn (S 37 0))) + (zn x)) (zmo (fnd S (S 16) (zn (S 15 0)) (zn (S 37 0)) x)))) h16011 := D.sA 18 rfl e16012
    have o16014 := zOn.up (zOn.rf (T := zTM) (h := h)) e16012 (D.2.1 18 rfl) (by decide)
    refine z_aload_n X 2 dX7_callName_50 zref.r rfl ?_
    refine z_dup X dX7_callName_51 rfl ?_
    refine z_get X zP6 31 (by decide) q1594 (Or.inl rfl) (v := .int (S 31 0)) D16013.1 (by decide) rfl dX7_callName_52 ?_
    refine z_iconst X (nI 1) dX7_callName_55 (by decide) ?_
    refine z_iadd X (nI ((zn (S 31 0)) + 1)) dX7_callName_56 (zadd (nI_zn _).symm rfl) ?_
    refine z_put X zP6 31 (by decide) q1594 (Or.inl rfl) rfl D16013.1 (by decide) (by decide) (zfits.i _) (Nat.le_of_ble_eq_true rfl) rfl dX7_callName_57 ?_
    refine z_nm fun h16015 e16016 => ?_
    have D16017 : MD E (zsa (zsa S 18 (zu (S 18) ((64 * (zn (S 37 0))) + (zn x)) (zmo (fnd S (S 16) (zn (S 15 0)) (zn (S 37 0)) x)))) 31 (fun _ => nI ((zn (S 31 0)) + 1))) h16015 := D16013.sF 31 (by decide) e16016
    have o16018 := zOn.up o16014 e16016 D16013.1 (by decide)
    refine z_aload_n X 2 dX7_callName_60 zref.r rfl ?_
    refine z_iload_n X 0 dX7_callName_61 rfl ?_
    refine z_callV X (rest := []) (c_X7_call D16017 (d := fnd S (S 16) (zn (S 15 0)) (zn (S 37 0)) x) hdp hds hfd) (cwV 1 (zXts X) (lw_V q1790 q1792 qs42 q65 q1793) rfl rfl rfl (by decide +kernel) ⟨Nat.le_of_ble_eq_true rfl, Nat.le_of_ble_eq_true rfl⟩) D16017.1 (by decide) rfl rfl (Nat.le_of_ble_eq_true rfl) ⟨(by first | exact Nat.le_of_ble_eq_true rfl | (dsimp only [zRm]; omega)), (by first | exact Nat.le_of_ble_eq_true rfl | (dsimp only [zRm]; omega))⟩ dX7_callName_62 (fun v16019 h16020 p16021 => ?_)
    obtain ⟨rfl, D9, O9⟩ := p16021
    refine z_st (st' := [.int ((callF (zsa (zsa S 18 (zu (S 18) ((64 * (zn (S 37 0))) + (zn x)) (zmo (fnd S (S 16) (zn (S 15 0)) (zn (S 37 0)) x)))) 31 (fun _ => nI ((zn (S 31 0)) + 1))) (fnd S (S 16) (zn (S 15 0)) (zn (S 37 0)) x)).1)]) rfl ?_
    exact z_iret X hr hlk dX7_callName_65 (by first | exact Nat.le_of_ble_eq_true rfl | (dsimp only [zRm]; omega) | omega) (by first | exact Nat.le_of_ble_eq_true rfl | (dsimp only [zRm]; omega) | omega) ⟨congrArg (fun z : Int32 × ZS => some (Value.int z.1)) (show callF (zsa (zsa S 18 (zu (S 18) ((64 * (zn (S 37 0))) + (zn x)) (zmo (fnd S (S 16) (zn (S 15 0)) (zn (S 37 0)) x)))) 31 (fun _ => nI ((zn (S 31 0)) + 1))) (fnd S (S 16) (zn (S 15 0)) (zn (S 37 0)) x) = clnF S x from (by unfold clnF; rw [if_pos (by rw [zeq_iff, zc21]; omega)]; rfl)), by rw [← show callF (zsa (zsa S 18 (zu (S 18) ((64 * (zn (S 37 0))) + (zn x)) (zmo (fnd S (S 16) (zn (S 15 0)) (zn (S 37 0)) x)))) 31 (fun _ => nI ((zn (S 31 0)) + 1))) (fnd S (S 16) (zn (S 15 0)) (zn (S 37 0)) x) = clnF S x from (by unfold clnF; rw [if_pos (by rw [zeq_iff, zc21]; omega)]; rfl)]; exact D9, o16018.trans O9⟩
set_option maxHeartbeats 16000000 in
theorem c_X7_make {l : Launch} {G : ZG} {h : ZH} {E : Nat → Nat} {S : ZS}  (D : MD E S h) (F : ZWF S) (FL : ZWL S) (hL : S 12 0 ≠ 0) (hnm : zn (S 37 0) < 12) (hns : zn (S 38 0) < zn (S 9 (zn (S 37 0)))) (hdp : zn (S 36 0) ≤ 101) (hd0 : 0 < zn (S 36 0)) (hds : zn (S 32 0) ≤ 101) (hsd : zn (S 30 0) < 10000) : ZM l G yX7_make (ws_ yX7_make cX7_make 7 (Option.some FieldType.int)) (zRm 3 0 0 120) [.ref (E 0)] h (fun v h' => v = some (.int (stpF S).1) ∧ MD E (stpF S).2 h' ∧ zOn zTM h h') := by
  refine ZT.zm (ZT.of (by first | exact plainFor_of_name (by decide) | decide +kernel) (Nat.le_of_ble_eq_true rfl) (zcats.r zref.r zcats.nil) ?_)
  intro p_ e_ s_ m_ args_ below_ meth_ c_ X hr hlk hin htab
  have X : ZX p_ m_ c_ cX7_make 7 s_ args_ "LinkStationModel" G := X
  refine z_lv (lv' := [(0, .ref (E 0))]) (fun _ hq => hq) ?_
  have hsc := F.sc (zn (S 37 0))
  have hgd := F.so _ _ hns
  have body : ∀ (op a b c : Int32) (S1 : ZS) (h1 : ZH), zgood op a b c = true → MD E S1 h1 → ZWF S1 → ZWL S1 → S1 12 0 ≠ 0 → zn (S1 37 0) < 12 → zn (S1 36 0) ≤ 101 → 0 < zn (S1 36 0) → zn (S1 32 0) ≤ 101 → zn (S1 30 0) < 10000 → zOn zTM h h1 → mkF S op a b c S1 = stpF S → Zw p_ l e_ (zRm 3 0 0 120) s_ m_ args_ below_ meth_ c_ G 7 (zEnd G (zRm 3 0 0 120) (fun v h' => v = some (.int (stpF S).1) ∧ MD E (stpF S).2 h' ∧ zOn zTM h h') (fun _ _ _ => False) below_ args_ s_) 59 [(0, .ref (E 0)), (2, .int a), (3, .int b), (4, .int c)] [.int op] h1 0 0 := by
    clear D F FL hL hnm hns hdp hd0 hds hsd hsc hgd
    intro op a b c S1 h1 hg D1 F1 FL1 hL1 hnm1 hdp1 hd01 hds1 hsd1 O1 hmk
    have hop := zn_lt op
    have hmany := FL1.1
    have c16022 : zn op = 0 ∨ zn op = 1 ∨ zn op = 2 ∨ zn op = 3 ∨ zn op = 4 ∨ zn op = 5 ∨ zn op = 6 ∨ zn op = 7 ∨ zn op = 8 ∨ zn op = 9 ∨ zn op = 10 ∨ zn op = 11 ∨ zn op = 12 ∨ zn op = 13 ∨ (zn op ≠ 0 ∧ zn op ≠ 1 ∧ zn op ≠ 2 ∧ zn op ≠ 3 ∧ zn op ≠ 4 ∧ zn op ≠ 5 ∧ zn op ≠ 6 ∧ zn op ≠ 7 ∧ zn op ≠ 8 ∧ zn op ≠ 9 ∧ zn op ≠ 10 ∧ zn op ≠ 11 ∧ zn op ≠ 12 ∧ zn op ≠ 13) := by omega
    rcases c16022 with c16022 | c16022 | c16022 | c16022 | c16022 | c16022 | c16022 | c16022 | c16022 | c16022 | c16022 | c16022 | c16022 | c16022 | c16022
    · refine z_tableIn X 128 dX7_make_59 (by rw [show op = nI 0 from by rw [← c16022]; exact (nI_zn _).symm]; decide) (by rw [show op = nI 0 from by rw [← c16022]; exact (nI_zn _).symm]; decide) (by rw [show op = nI 0 from by rw [← c16022]; exact (nI_zn _).symm]; rfl) (by decide) ?_
      rw [zop_is c16022] at hg
      have hg9 := zg_0.mp hg
      rw [zop_is c16022, mk_0] at hmk
      refine z_aload_n X 0 dX7_make_128 zref.r rfl ?_
      refine z_get X zP6 28 (by decide) q1591 (Or.inl rfl) D1.1 (by decide) rfl dX7_make_129 ?_
      refine z_iload_n X 1 dX7_make_132 rfl ?_
      refine z_iload_n X 2 dX7_make_133 rfl ?_
      refine z_iast X (zn a) (D1.2.1 28 rfl) (by decide) (by decide) (nI_zn _).symm (by show _ < 8; omega) (by decide) (f' := fun i => .int ((zu (S1 28) (zn a) b) i)) (fun _ => zu_v _) dX7_make_134 ?_
      refine z_nm fun h16023 e16024 => ?_
      have D16025 : MD E (zsa S1 28 (zu (S1 28) (zn a) b)) h16023 := D1.sA 28 rfl e16024
      have o16026 := zOn.up O1 e16024 (D1.2.1 28 rfl) (by decide)
      refine z_iconst X (-1) dX7_make_135 (by decide) ?_
      exact z_iret X hr hlk dX7_make_136 (by first | exact Nat.le_of_ble_eq_true rfl | (dsimp only [zRm]; omega) | omega) (by first | exact Nat.le_of_ble_eq_true rfl | (dsimp only [zRm]; omega) | omega) ⟨by rw [← hmk] <;> rfl, by rw [← hmk]; exact D16025, o16026⟩
    · refine z_tableIn X 137 dX7_make_59 (by rw [show op = nI 1 from by rw [← c16022]; exact (nI_zn _).symm]; decide) (by rw [show op = nI 1 from by rw [← c16022]; exact (nI_zn _).symm]; decide) (by rw [show op = nI 1 from by rw [← c16022]; exact (nI_zn _).symm]; rfl) (by decide) ?_
      rw [zop_is c16022] at hg
      have hg9 := zg_1.mp hg
      rw [zop_is c16022, mk_1] at hmk
      refine z_aload_n X 0 dX7_make_137 zref.r rfl ?_
      refine z_get X zP6 28 (by decide) q1591 (Or.inl rfl) D1.1 (by decide) rfl dX7_make_138 ?_
      refine z_iload_n X 1 dX7_make_141 rfl ?_
      refine z_aload_n X 0 dX7_make_142 zref.r rfl ?_
      refine z_get X zP6 28 (by decide) q1591 (Or.inl rfl) D1.1 (by decide) rfl dX7_make_143 ?_
      refine z_iload_n X 2 dX7_make_146 rfl ?_
      refine z_iald X (v := .int ((S1 28) (zn b))) (zn b) (D1.2.1 28 rfl) (by decide) (nI_zn _).symm (by show _ < 8; omega) (by decide) rfl dX7_make_147 ?_
      refine z_iast X (zn a) (D1.2.1 28 rfl) (by decide) (by decide) (nI_zn _).symm (by show _ < 8; omega) (by decide) (f' := fun i => .int ((zu (S1 28) (zn a) ((S1 28) (zn b))) i)) (fun _ => zu_v _) dX7_make_148 ?_
      refine z_nm fun h16027 e16028 => ?_
      have D16029 : MD E (zsa S1 28 (zu (S1 28) (zn a) ((S1 28) (zn b)))) h16027 := D1.sA 28 rfl e16028
      have o16030 := zOn.up O1 e16028 (D1.2.1 28 rfl) (by decide)
      refine z_iconst X (-1) dX7_make_149 (by decide) ?_
      exact z_iret X hr hlk dX7_make_150 (by first | exact Nat.le_of_ble_eq_true rfl | (dsimp only [zRm]; omega) | omega) (by first | exact Nat.le_of_ble_eq_true rfl | (dsimp only [zRm]; omega) | omega) ⟨by rw [← hmk] <;> rfl, by rw [← hmk]; exact D16029, o16030⟩
    · refine z_tableIn X 151 dX7_make_59 (by rw [show op = nI 2 from by rw [← c16022]; exact (nI_zn _).symm]; decide) (by rw [show op = nI 2 from by rw [← c16022]; exact (nI_zn _).symm]; decide) (by rw [show op = nI 2 from by rw [← c16022]; exact (nI_zn _).symm]; rfl) (by decide) ?_
      rw [zop_is c16022] at hg
      have hg9 := zg_2.mp hg
      rw [zop_is c16022, mk_2] at hmk
      refine z_aload_n X 0 dX7_make_151 zref.r rfl ?_
      refine z_get X zP6 28 (by decide) q1591 (Or.inl rfl) D1.1 (by decide) rfl dX7_make_152 ?_
      refine z_iload_n X 1 dX7_make_155 rfl ?_
      refine z_aload_n X 0 dX7_make_156 zref.r rfl ?_
      refine z_get X zP6 28 (by decide) q1591 (Or.inl rfl) D1.1 (by decide) rfl dX7_make_157 ?_
      refine z_iload_n X 2 dX7_make_160 rfl ?_
      refine z_iald X (v := .int ((S1 28) (zn b))) (zn b) (D1.2.1 28 rfl) (by decide) (nI_zn _).symm (by show _ < 8; omega) (by decide) rfl dX7_make_161 ?_
      refine z_aload_n X 0 dX7_make_162 zref.r rfl ?_
      refine z_get X zP6 28 (by decide) q1591 (Or.inl rfl) D1.1 (by decide) rfl dX7_make_163 ?_
      refine z_iload X 3 dX7_make_166 rfl ?_
      refine z_iald X (v := .int ((S1 28) (zn c))) (zn c) (D1.2.1 28 rfl) (by decide) (nI_zn _).symm (by show _ < 8; omega) (by decide) rfl dX7_make_168 ?_
      refine z_iadd X (((S1 28) (zn b)) + ((S1 28) (zn c))) dX7_make_169 rfl ?_
      refine z_iast X (zn a) (D1.2.1 28 rfl) (by decide) (by decide) (nI_zn _).symm (by show _ < 8; omega) (by decide) (f' := fun i => .int ((zu (S1 28) (zn a) (((S1 28) (zn b)) + ((S1 28) (zn c)))) i)) (fun _ => zu_v _) dX7_make_170 ?_
      refine z_nm fun h16031 e16032 => ?_
      have D16033 : MD E (zsa S1 28 (zu (S1 28) (zn a) (((S1 28) (zn b)) + ((S1 28) (zn c))))) h16031 := D1.sA 28 rfl e16032
      have o16034 := zOn.up O1 e16032 (D1.2.1 28 rfl) (by decide)
      refine z_iconst X (-1) dX7_make_171 (by decide) ?_
      exact z_iret X hr hlk dX7_make_172 (by first | exact Nat.le_of_ble_eq_true rfl | (dsimp only [zRm]; omega) | omega) (by first | exact Nat.le_of_ble_eq_true rfl | (dsimp only [zRm]; omega) | omega) ⟨by rw [← hmk] <;> rfl, by rw [← hmk]; exact D16033, o16034⟩
    · refine z_tableIn X 173 dX7_make_59 (by rw [show op = nI 3 from by rw [← c16022]; exact (nI_zn _).symm]; decide) (by rw [show op = nI 3 from by rw [← c16022]; exact (nI_zn _).symm]; decide) (by rw [show op = nI 3 from by rw [← c16022]; exact (nI_zn _).symm]; rfl) (by decide) ?_
      rw [zop_is c16022] at hg
      have hg9 := zg_3.mp hg
      rw [zop_is c16022, mk_3] at hmk
      refine z_aload_n X 0 dX7_make_173 zref.r rfl ?_
      refine z_get X zP6 28 (by decide) q1591 (Or.inl rfl) D1.1 (by decide) rfl dX7_make_174 ?_
      refine z_iload_n X 1 dX7_make_177 rfl ?_
      refine z_aload_n X 0 dX7_make_178 zref.r rfl ?_
      refine z_get X zP6 28 (by decide) q1591 (Or.inl rfl) D1.1 (by decide) rfl dX7_make_179 ?_
      refine z_iload_n X 2 dX7_make_182 rfl ?_
      refine z_iald X (v := .int ((S1 28) (zn b))) (zn b) (D1.2.1 28 rfl) (by decide) (nI_zn _).symm (by show _ < 8; omega) (by decide) rfl dX7_make_183 ?_
      refine z_aload_n X 0 dX7_make_184 zref.r rfl ?_
      refine z_get X zP6 28 (by decide) q1591 (Or.inl rfl) D1.1 (by decide) rfl dX7_make_185 ?_
      refine z_iload X 3 dX7_make_188 rfl ?_
      refine z_iald X (v := .int ((S1 28) (zn c))) (zn c) (D1.2.1 28 rfl) (by decide) (nI_zn _).symm (by show _ < 8; omega) (by decide) rfl dX7_make_190 ?_
      refine z_isub X (((S1 28) (zn b)) - ((S1 28) (zn c))) dX7_make_191 rfl ?_
      refine z_iast X (zn a) (D1.2.1 28 rfl) (by decide) (by decide) (nI_zn _).symm (by show _ < 8; omega) (by decide) (f' := fun i => .int ((zu (S1 28) (zn a) (((S1 28) (zn b)) - ((S1 28) (zn c)))) i)) (fun _ => zu_v _) dX7_make_192 ?_
      refine z_nm fun h16035 e16036 => ?_
      have D16037 : MD E (zsa S1 28 (zu (S1 28) (zn a) (((S1 28) (zn b)) - ((S1 28) (zn c))))) h16035 := D1.sA 28 rfl e16036
      have o16038 := zOn.up O1 e16036 (D1.2.1 28 rfl) (by decide)
      refine z_iconst X (-1) dX7_make_193 (by decide) ?_
      exact z_iret X hr hlk dX7_make_194 (by first | exact Nat.le_of_ble_eq_true rfl | (dsimp only [zRm]; omega) | omega) (by first | exact Nat.le_of_ble_eq_true rfl | (dsimp only [zRm]; omega) | omega) ⟨by rw [← hmk] <;> rfl, by rw [← hmk]; exact D16037, o16038⟩
    · refine z_tableIn X 195 dX7_make_59 (by rw [show op = nI 4 from by rw [← c16022]; exact (nI_zn _).symm]; decide) (by rw [show op = nI 4 from by rw [← c16022]; exact (nI_zn _).symm]; decide) (by rw [show op = nI 4 from by rw [← c16022]; exact (nI_zn _).symm]; rfl) (by decide) ?_
      rw [zop_is c16022] at hg
      have hg9 := zg_4.mp hg
      rw [zop_is c16022, mk_4] at hmk
      refine z_aload_n X 0 dX7_make_195 zref.r rfl ?_
      refine z_get X zP6 28 (by decide) q1591 (Or.inl rfl) D1.1 (by decide) rfl dX7_make_196 ?_
      refine z_iload_n X 1 dX7_make_199 rfl ?_
      refine z_aload_n X 0 dX7_make_200 zref.r rfl ?_
      refine z_get X zP6 28 (by decide) q1591 (Or.inl rfl) D1.1 (by decide) rfl dX7_make_201 ?_
      refine z_iload_n X 2 dX7_make_204 rfl ?_
      refine z_iald X (v := .int ((S1 28) (zn b))) (zn b) (D1.2.1 28 rfl) (by decide) (nI_zn _).symm (by show _ < 8; omega) (by decide) rfl dX7_make_205 ?_
      refine z_aload_n X 0 dX7_make_206 zref.r rfl ?_
      refine z_get X zP6 28 (by decide) q1591 (Or.inl rfl) D1.1 (by decide) rfl dX7_make_207 ?_
      refine z_iload X 3 dX7_make_210 rfl ?_
      refine z_iald X (v := .int ((S1 28) (zn c))) (zn c) (D1.2.1 28 rfl) (by decide) (nI_zn _).symm (by show _ < 8; omega) (by decide) rfl dX7_make_212 ?_
      refine z_imul X (((S1 28) (zn b)) * ((S1 28) (zn c))) dX7_make_213 rfl ?_
      refine z_iast X (zn a) (D1.2.1 28 rfl) (by decide) (by decide) (nI_zn _).symm (by show _ < 8; omega) (by decide) (f' := fun i => .int ((zu (S1 28) (zn a) (((S1 28) (zn b)) * ((S1 28) (zn c)))) i)) (fun _ => zu_v _) dX7_make_214 ?_
      refine z_nm fun h16039 e16040 => ?_
      have D16041 : MD E (zsa S1 28 (zu (S1 28) (zn a) (((S1 28) (zn b)) * ((S1 28) (zn c))))) h16039 := D1.sA 28 rfl e16040
      have o16042 := zOn.up O1 e16040 (D1.2.1 28 rfl) (by decide)
      refine z_iconst X (-1) dX7_make_215 (by decide) ?_
      exact z_iret X hr hlk dX7_make_216 (by first | exact Nat.le_of_ble_eq_true rfl | (dsimp only [zRm]; omega) | omega) (by first | exact Nat.le_of_ble_eq_true rfl | (dsimp only [zRm]; omega) | omega) ⟨by rw [← hmk] <;> rfl, by rw [← hmk]; exact D16041, o16042⟩
    · refine z_tableIn X 217 dX7_make_59 (by rw [show op = nI 5 from by rw [← c16022]; exact (nI_zn _).symm]; decide) (by rw [show op = nI 5 from by rw [← c16022]; exact (nI_zn _).symm]; decide) (by rw [show op = nI 5 from by rw [← c16022]; exact (nI_zn _).symm]; rfl) (by decide) ?_
      rw [zop_is c16022] at hg
      have hg9 := zg_5.mp hg
      rw [zop_is c16022, mk_5] at hmk
      refine z_aload_n X 0 dX7_make_217 zref.r rfl ?_
      refine z_aload_n X 0 dX7_make_218 zref.r rfl ?_
      refine z_get X zP6 28 (by decide) q1591 (Or.inl rfl) D1.1 (by decide) rfl dX7_make_219 ?_
      refine z_iload_n X 1 dX7_make_222 rfl ?_
      refine z_iald X (v := .int ((S1 28) (zn a))) (zn a) (D1.2.1 28 rfl) (by decide) (nI_zn _).symm (by show _ < 8; omega) (by decide) rfl dX7_make_223 ?_
      refine z_aload_n X 0 dX7_make_224 zref.r rfl ?_
      refine z_get X zP6 28 (by decide) q1591 (Or.inl rfl) D1.1 (by decide) rfl dX7_make_225 ?_
      refine z_iload_n X 2 dX7_make_228 rfl ?_
      refine z_iald X (v := .int ((S1 28) (zn b))) (zn b) (D1.2.1 28 rfl) (by decide) (nI_zn _).symm (by show _ < 8; omega) (by decide) rfl dX7_make_229 ?_
      refine z_icmpU_ge X (zn ((S1 28) (zn a))) (zn ((S1 28) (zn b))) 238 dX7_make_230 (by decide) (nI_zn _).symm (nI_zn _).symm (zn_lt _) (zn_lt _) (fun c16043 => ?_) (fun c16043 => ?_)
      · refine z_aload_n X 0 dX7_make_238 zref.r rfl ?_
        refine z_get X zP6 38 (by decide) q1601 (Or.inl rfl) (v := .int (S1 38 0)) D1.1 (by decide) rfl dX7_make_239 ?_
        refine z_put X zP6 38 (by decide) q1601 (Or.inl rfl) rfl D1.1 (by decide) (by decide) (zfits.i _) (Nat.le_of_ble_eq_true rfl) rfl dX7_make_242 ?_
        refine z_nm fun h16044 e16045 => ?_
        have D16046 : MD E (zsa S1 38 (fun _ => S1 38 0)) h16044 := D1.sF 38 (by decide) e16045
        have o16047 := zOn.up O1 e16045 D1.1 (by decide)
        refine z_iconst X (-1) dX7_make_245 (by decide) ?_
        rw [if_neg (by rw [zlt_iff]; omega)] at hmk
        exact z_iret X hr hlk dX7_make_246 (by first | exact Nat.le_of_ble_eq_true rfl | (dsimp only [zRm]; omega) | omega) (by first | exact Nat.le_of_ble_eq_true rfl | (dsimp only [zRm]; omega) | omega) ⟨by rw [← hmk] <;> rfl, by rw [← hmk]; exact D16046, o16047⟩
      · refine z_iload X 3 dX7_make_233 rfl ?_
        refine z_goto X 242 dX7_make_235 (by decide) ?_
        refine z_put X zP6 38 (by decide) q1601 (Or.inl rfl) rfl D1.1 (by decide) (by decide) (zfits.i _) (Nat.le_of_ble_eq_true rfl) rfl dX7_make_242 ?_
        refine z_nm fun h16048 e16049 => ?_
        have D16050 : MD E (zsa S1 38 (fun _ => c)) h16048 := D1.sF 38 (by decide) e16049
        have o16051 := zOn.up O1 e16049 D1.1 (by decide)
        refine z_iconst X (-1) dX7_make_245 (by decide) ?_
        rw [if_pos (by rw [zlt_iff]; omega)] at hmk
        exact z_iret X hr hlk dX7_make_246 (by first | exact Nat.le_of_ble_eq_true rfl | (dsimp only [zRm]; omega) | omega) (by first | exact Nat.le_of_ble_eq_true rfl | (dsimp only [zRm]; omega) | omega) ⟨by rw [← hmk] <;> rfl, by rw [← hmk]; exact D16050, o16051⟩
    · refine z_tableIn X 247 dX7_make_59 (by rw [show op = nI 6 from by rw [← c16022]; exact (nI_zn _).symm]; decide) (by rw [show op = nI 6 from by rw [← c16022]; exact (nI_zn _).symm]; decide) (by rw [show op = nI 6 from by rw [← c16022]; exact (nI_zn _).symm]; rfl) (by decide) ?_
      rw [zop_is c16022] at hg
      have hg9 := zg_6.mp hg
      rw [zop_is c16022, mk_6] at hmk
      refine z_aload_n X 0 dX7_make_247 zref.r rfl ?_
      refine z_iload_n X 1 dX7_make_248 rfl ?_
      refine z_put X zP6 38 (by decide) q1601 (Or.inl rfl) rfl D1.1 (by decide) (by decide) (zfits.i _) (Nat.le_of_ble_eq_true rfl) rfl dX7_make_249 ?_
      refine z_nm fun h16052 e16053 => ?_
      have D16054 : MD E (zsa S1 38 (fun _ => a)) h16052 := D1.sF 38 (by decide) e16053
      have o16055 := zOn.up O1 e16053 D1.1 (by decide)
      refine z_iconst X (-1) dX7_make_252 (by decide) ?_
      exact z_iret X hr hlk dX7_make_253 (by first | exact Nat.le_of_ble_eq_true rfl | (dsimp only [zRm]; omega) | omega) (by first | exact Nat.le_of_ble_eq_true rfl | (dsimp only [zRm]; omega) | omega) ⟨by rw [← hmk] <;> rfl, by rw [← hmk]; exact D16054, o16055⟩
    · refine z_tableIn X 254 dX7_make_59 (by rw [show op = nI 7 from by rw [← c16022]; exact (nI_zn _).symm]; decide) (by rw [show op = nI 7 from by rw [← c16022]; exact (nI_zn _).symm]; decide) (by rw [show op = nI 7 from by rw [← c16022]; exact (nI_zn _).symm]; rfl) (by decide) ?_
      rw [zop_is c16022] at hg
      have hg9 := zg_7.mp hg
      rw [zop_is c16022, mk_7] at hmk
      refine z_aload_n X 0 dX7_make_254 zref.r rfl ?_
      refine z_iload_n X 1 dX7_make_255 rfl ?_
      refine z_callV X (rest := []) (c_X7_callName D1 F1 (x := a) FL1 (by omega) hnm1 hdp1 hds1) (cwV 1 (zXts X) (lw_V q1798 q1800 qs44 q65 q1801) rfl rfl rfl (by decide +kernel) ⟨Nat.le_of_ble_eq_true rfl, Nat.le_of_ble_eq_true rfl⟩) D1.1 (by decide) rfl rfl (Nat.le_of_ble_eq_true rfl) ⟨(by first | exact Nat.le_of_ble_eq_true rfl | (dsimp only [zRm]; omega)), (by first | exact Nat.le_of_ble_eq_true rfl | (dsimp only [zRm]; omega))⟩ dX7_make_256 (fun v16056 h16057 p16058 => ?_)
      obtain ⟨rfl, D9, O9⟩ := p16058
      refine z_st (st' := [.int ((clnF S1 a).1)]) rfl ?_
      exact z_iret X hr hlk dX7_make_259 (by first | exact Nat.le_of_ble_eq_true rfl | (dsimp only [zRm]; omega) | omega) (by first | exact Nat.le_of_ble_eq_true rfl | (dsimp only [zRm]; omega) | omega) ⟨by rw [← hmk] <;> rfl, by rw [← hmk]; exact D9, O1.trans O9⟩
    · refine z_tableIn X 260 dX7_make_59 (by rw [show op = nI 8 from by rw [← c16022]; exact (nI_zn _).symm]; decide) (by rw [show op = nI 8 from by rw [← c16022]; exact (nI_zn _).symm]; decide) (by rw [show op = nI 8 from by rw [← c16022]; exact (nI_zn _).symm]; rfl) (by decide) ?_
      rw [zop_is c16022] at hg
      have hg9 := zg_8.mp hg
      rw [zop_is c16022, mk_8] at hmk
      refine z_aload_n X 0 dX7_make_260 zref.r rfl ?_
      refine z_aload_n X 0 dX7_make_261 zref.r rfl ?_
      refine z_get X zP6 16 (by decide) q1579 (Or.inl rfl) D1.1 (by decide) rfl dX7_make_262 ?_
      refine z_aload_n X 0 dX7_make_265 zref.r rfl ?_
      refine z_get X zP6 15 (by decide) q1578 (Or.inl rfl) (v := .int (S1 15 0)) D1.1 (by decide) rfl dX7_make_266 ?_
      refine z_aload_n X 0 dX7_make_269 zref.r rfl ?_
      refine z_get X zP6 37 (by decide) q1600 (Or.inl rfl) (v := .int (S1 37 0)) D1.1 (by decide) rfl dX7_make_270 ?_
      refine z_iload_n X 2 dX7_make_273 rfl ?_
      refine z_st (st' := [.int b, .int (S1 37 0), .int (nI (zn (S1 15 0))), .ref (E 16), .ref (E 0)]) (by simp only [nI_zn]) ?_
      refine z_st (st' := [.int b, .int (nI (zn (S1 37 0))), .int (nI (zn (S1 15 0))), .ref (E 16), .ref (E 0)]) (by simp only [nI_zn]) ?_
      refine z_callV X (rest := []) (c_X7_find_16 D1 F1 (n := zn (S1 15 0)) (m := zn (S1 37 0)) (x := b) hnm1 hmany FL1.2.1) (cwV 4 (zXts X) (lw_V q1742 q1744 qs35 q65 q1745) rfl rfl rfl (by decide +kernel) ⟨Nat.le_of_ble_eq_true rfl, Nat.le_of_ble_eq_true rfl⟩) D1.1 (by decide) rfl rfl (Nat.le_of_ble_eq_true rfl) ⟨(by first | exact Nat.le_of_ble_eq_true rfl | (dsimp only [zRm]; omega)), (by first | exact Nat.le_of_ble_eq_true rfl | (dsimp only [zRm]; omega))⟩ dX7_make_274 (fun v16059 h16060 p16061 => ?_)
      obtain ⟨rfl, rfl⟩ := p16061
      rcases hF16062 : fnd S1 (S1 16) (zn (S1 15 0)) (zn (S1 37 0)) b with _ | d
      · refine z_st (st' := [.int (-1)]) rfl ?_
        have hz9 : zfd S1 b = none := hF16062
        refine z_istore X (lv' := [(5, .int (-1)), (0, .ref (E 0)), (2, .int a), (3, .int b), (4, .int c)]) dX7_make_277 (by decide) rfl ?_
        refine z_aload_n X 1 dX7_make_279 zref.r rfl ?_
        refine z_get X zP6 28 (by decide) q1591 (Or.inl rfl) D1.1 (by decide) rfl dX7_make_280 ?_
        refine z_iload_n X 2 dX7_make_283 rfl ?_
        refine z_iload X 0 dX7_make_284 rfl ?_
        refine z_iconst X (-1) dX7_make_286 (by decide) ?_
        refine z_icmpU_ne X 4294967295 4294967295 294 dX7_make_287 (by decide) (by decide) (by decide) (by omega) (by omega) (fun c16063 => ?_) (fun c16063 => ?_)
        · omega
        · refine z_iconst X (nI 0) dX7_make_290 (by decide) ?_
          refine z_goto X 301 dX7_make_291 (by decide) ?_
          refine z_iast X (zn a) (D1.2.1 28 rfl) (by decide) (by decide) (nI_zn _).symm (by show _ < 8; omega) (by decide) (f' := fun i => .int ((zu (S1 28) (zn a) (nI 0)) i)) (fun _ => zu_v _) dX7_make_301 ?_
          refine z_nm fun h16064 e16065 => ?_
          have D16066 : MD E (zsa S1 28 (zu (S1 28) (zn a) (nI 0))) h16064 := D1.sA 28 rfl e16065
          have o16067 := zOn.up O1 e16065 (D1.2.1 28 rfl) (by decide)
          refine z_iconst X (-1) dX7_make_302 (by decide) ?_
          rw [hz9] at hmk
          exact z_iret X hr hlk dX7_make_303 (by first | exact Nat.le_of_ble_eq_true rfl | (dsimp only [zRm]; omega) | omega) (by first | exact Nat.le_of_ble_eq_true rfl | (dsimp only [zRm]; omega) | omega) ⟨by rw [← hmk] <;> rfl, by rw [← hmk]; exact D16066, o16067⟩
      · refine z_st (st' := [.int (nI d)]) rfl ?_
        have hz9 : zfd S1 b = some d := hF16062
        have hd240 := (F1.df hF16062 hnm1 FL1.2.1).1
        refine z_istore X (lv' := [(5, .int (nI d)), (0, .ref (E 0)), (2, .int a), (3, .int b), (4, .int c)]) dX7_make_277 (by decide) rfl ?_
        refine z_aload_n X 1 dX7_make_279 zref.r rfl ?_
        refine z_get X zP6 28 (by decide) q1591 (Or.inl rfl) D1.1 (by decide) rfl dX7_make_280 ?_
        refine z_iload_n X 2 dX7_make_283 rfl ?_
        refine z_iload X 0 dX7_make_284 rfl ?_
        refine z_iconst X (-1) dX7_make_286 (by decide) ?_
        refine z_icmpU_ne X d 4294967295 294 dX7_make_287 (by decide) rfl (by decide) (by omega) (by omega) (fun c16068 => ?_) (fun c16068 => ?_)
        · refine z_aload_n X 1 dX7_make_294 zref.r rfl ?_
          refine z_get X zP6 19 (by decide) q1582 (Or.inl rfl) D1.1 (by decide) rfl dX7_make_295 ?_
          refine z_iload X 0 dX7_make_298 rfl ?_
          refine z_iald X (v := .int ((S1 19) d)) d (D1.2.1 19 rfl) (by decide) rfl (by show _ < 240; omega) (by decide) rfl dX7_make_300 ?_
          refine z_iast X (zn a) (D1.2.1 28 rfl) (by decide) (by decide) (nI_zn _).symm (by show _ < 8; omega) (by decide) (f' := fun i => .int ((zu (S1 28) (zn a) ((S1 19) d)) i)) (fun _ => zu_v _) dX7_make_301 ?_
          refine z_nm fun h16069 e16070 => ?_
          have D16071 : MD E (zsa S1 28 (zu (S1 28) (zn a) ((S1 19) d))) h16069 := D1.sA 28 rfl e16070
          have o16072 := zOn.up O1 e16070 (D1.2.1 28 rfl) (by decide)
          refine z_iconst X (-1) dX7_make_302 (by decide) ?_
          rw [hz9] at hmk
          exact z_iret X hr hlk dX7_make_303 (by first | exact Nat.le_of_ble_eq_true rfl | (dsimp only [zRm]; omega) | omega) (by first | exact Nat.le_of_ble_eq_true rfl | (dsimp only [zRm]; omega) | omega) ⟨by rw [← hmk] <;> rfl, by rw [← hmk]; exact D16071, o16072⟩
        · refine z_iconst X (nI 0) dX7_make_290 (by decide) ?_
          refine z_goto X 301 dX7_make_291 (by decide) ?_
          refine z_iast X (zn a) (D1.2.1 28 rfl) (by decide) (by decide) (nI_zn _).symm (by show _ < 8; omega) (by decide) (f' := fun i => .int ((zu (S1 28) (zn a) (nI 0)) i)) (fun _ => zu_v _) dX7_make_301 ?_
          refine z_nm fun h16073 e16074 => ?_
          have D16075 : MD E (zsa S1 28 (zu (S1 28) (zn a) (nI 0))) h16073 := D1.sA 28 rfl e16074
          have o16076 := zOn.up O1 e16074 (D1.2.1 28 rfl) (by decide)
          refine z_iconst X (-1) dX7_make_302 (by decide) ?_
          exfalso; omega
    · refine z_tableIn X 304 dX7_make_59 (by rw [show op = nI 9 from by rw [← c16022]; exact (nI_zn _).symm]; decide) (by rw [show op = nI 9 from by rw [← c16022]; exact (nI_zn _).symm]; decide) (by rw [show op = nI 9 from by rw [← c16022]; exact (nI_zn _).symm]; rfl) (by decide) ?_
      rw [zop_is c16022] at hg
      have hg9 := zg_9.mp hg
      rw [zop_is c16022, mk_9] at hmk
      refine z_aload_n X 0 dX7_make_304 zref.r rfl ?_
      refine z_aload_n X 0 dX7_make_305 zref.r rfl ?_
      refine z_get X zP6 16 (by decide) q1579 (Or.inl rfl) D1.1 (by decide) rfl dX7_make_306 ?_
      refine z_aload_n X 0 dX7_make_309 zref.r rfl ?_
      refine z_get X zP6 15 (by decide) q1578 (Or.inl rfl) (v := .int (S1 15 0)) D1.1 (by decide) rfl dX7_make_310 ?_
      refine z_aload_n X 0 dX7_make_313 zref.r rfl ?_
      refine z_get X zP6 37 (by decide) q1600 (Or.inl rfl) (v := .int (S1 37 0)) D1.1 (by decide) rfl dX7_make_314 ?_
      refine z_iload_n X 1 dX7_make_317 rfl ?_
      refine z_st (st' := [.int a, .int (S1 37 0), .int (nI (zn (S1 15 0))), .ref (E 16), .ref (E 0)]) (by simp only [nI_zn]) ?_
      refine z_st (st' := [.int a, .int (nI (zn (S1 37 0))), .int (nI (zn (S1 15 0))), .ref (E 16), .ref (E 0)]) (by simp only [nI_zn]) ?_
      refine z_callV X (rest := []) (c_X7_find_16 D1 F1 (n := zn (S1 15 0)) (m := zn (S1 37 0)) (x := a) hnm1 hmany FL1.2.1) (cwV 4 (zXts X) (lw_V q1742 q1744 qs35 q65 q1745) rfl rfl rfl (by decide +kernel) ⟨Nat.le_of_ble_eq_true rfl, Nat.le_of_ble_eq_true rfl⟩) D1.1 (by decide) rfl rfl (Nat.le_of_ble_eq_true rfl) ⟨(by first | exact Nat.le_of_ble_eq_true rfl | (dsimp only [zRm]; omega)), (by first | exact Nat.le_of_ble_eq_true rfl | (dsimp only [zRm]; omega))⟩ dX7_make_318 (fun v16077 h16078 p16079 => ?_)
      obtain ⟨rfl, rfl⟩ := p16079
      rcases hF16080 : fnd S1 (S1 16) (zn (S1 15 0)) (zn (S1 37 0)) a with _ | d
      · refine z_st (st' := [.int (-1)]) rfl ?_
        have hz9 : zfd S1 a = none := hF16080
        refine z_istore X (lv' := [(6, .int (-1)), (0, .ref (E 0)), (2, .int a), (3, .int b), (4, .int c)]) dX7_make_321 (by decide) rfl ?_
        refine z_iload X 0 dX7_make_323 rfl ?_
        refine z_iconst X (-1) dX7_make_325 (by decide) ?_
        refine z_icmpU_eq X 4294967295 4294967295 342 dX7_make_326 (by decide) (by decide) (by decide) (by omega) (by omega) (fun c16081 => ?_) (fun c16081 => ?_)
        · refine z_iconst X (-1) dX7_make_342 (by decide) ?_
          rw [hz9] at hmk
          exact z_iret X hr hlk dX7_make_343 (by first | exact Nat.le_of_ble_eq_true rfl | (dsimp only [zRm]; omega) | omega) (by first | exact Nat.le_of_ble_eq_true rfl | (dsimp only [zRm]; omega) | omega) ⟨by rw [← hmk] <;> rfl, by rw [← hmk]; exact D1, O1⟩
        · omega
      · refine z_st (st' := [.int (nI d)]) rfl ?_
        have hz9 : zfd S1 a = some d := hF16080
        have hd240 := (F1.df hF16080 hnm1 FL1.2.1).1
        refine z_istore X (lv' := [(6, .int (nI d)), (0, .ref (E 0)), (2, .int a), (3, .int b), (4, .int c)]) dX7_make_321 (by decide) rfl ?_
        refine z_iload X 0 dX7_make_323 rfl ?_
        refine z_iconst X (-1) dX7_make_325 (by decide) ?_
        refine z_icmpU_eq X d 4294967295 342 dX7_make_326 (by decide) rfl (by decide) (by omega) (by omega) (fun c16082 => ?_) (fun c16082 => ?_)
        · refine z_iconst X (-1) dX7_make_342 (by decide) ?_
          exfalso; omega
        · refine z_aload_n X 1 dX7_make_329 zref.r rfl ?_
          refine z_get X zP6 19 (by decide) q1582 (Or.inl rfl) D1.1 (by decide) rfl dX7_make_330 ?_
          refine z_iload X 0 dX7_make_333 rfl ?_
          refine z_aload_n X 1 dX7_make_335 zref.r rfl ?_
          refine z_get X zP6 28 (by decide) q1591 (Or.inl rfl) D1.1 (by decide) rfl dX7_make_336 ?_
          refine z_iload_n X 3 dX7_make_339 rfl ?_
          refine z_iald X (v := .int ((S1 28) (zn b))) (zn b) (D1.2.1 28 rfl) (by decide) (nI_zn _).symm (by show _ < 8; omega) (by decide) rfl dX7_make_340 ?_
          refine z_iast X d (D1.2.1 19 rfl) (by decide) (by decide) rfl (by show _ < 240; omega) (by decide) (f' := fun i => .int ((zu (S1 19) d ((S1 28) (zn b))) i)) (fun _ => zu_v _) dX7_make_341 ?_
          refine z_nm fun h16083 e16084 => ?_
          have D16085 : MD E (zsa S1 19 (zu (S1 19) d ((S1 28) (zn b)))) h16083 := D1.sA 19 rfl e16084
          have o16086 := zOn.up O1 e16084 (D1.2.1 19 rfl) (by decide)
          refine z_iconst X (-1) dX7_make_342 (by decide) ?_
          rw [hz9] at hmk
          exact z_iret X hr hlk dX7_make_343 (by first | exact Nat.le_of_ble_eq_true rfl | (dsimp only [zRm]; omega) | omega) (by first | exact Nat.le_of_ble_eq_true rfl | (dsimp only [zRm]; omega) | omega) ⟨by rw [← hmk] <;> rfl, by rw [← hmk]; exact D16085, o16086⟩
    · refine z_tableIn X 344 dX7_make_59 (by rw [show op = nI 10 from by rw [← c16022]; exact (nI_zn _).symm]; decide) (by rw [show op = nI 10 from by rw [← c16022]; exact (nI_zn _).symm]; decide) (by rw [show op = nI 10 from by rw [← c16022]; exact (nI_zn _).symm]; rfl) (by decide) ?_
      rw [zop_is c16022] at hg
      have hg9 := zg_10.mp hg
      rw [zop_is c16022, mk_10] at hmk
      refine z_aload_n X 0 dX7_make_344 zref.r rfl ?_
      refine z_get X zP6 28 (by decide) q1591 (Or.inl rfl) D1.1 (by decide) rfl dX7_make_345 ?_
      refine z_iload_n X 1 dX7_make_348 rfl ?_
      refine z_aload_n X 0 dX7_make_349 zref.r rfl ?_
      refine z_aload_n X 0 dX7_make_350 zref.r rfl ?_
      refine z_aload_n X 0 dX7_make_351 zref.r rfl ?_
      refine z_get X zP6 16 (by decide) q1579 (Or.inl rfl) D1.1 (by decide) rfl dX7_make_352 ?_
      refine z_aload_n X 0 dX7_make_355 zref.r rfl ?_
      refine z_get X zP6 15 (by decide) q1578 (Or.inl rfl) (v := .int (S1 15 0)) D1.1 (by decide) rfl dX7_make_356 ?_
      refine z_aload_n X 0 dX7_make_359 zref.r rfl ?_
      refine z_get X zP6 37 (by decide) q1600 (Or.inl rfl) (v := .int (S1 37 0)) D1.1 (by decide) rfl dX7_make_360 ?_
      refine z_iload_n X 2 dX7_make_363 rfl ?_
      refine z_st (st' := [.int b, .int (S1 37 0), .int (nI (zn (S1 15 0))), .ref (E 16), .ref (E 0), .ref (E 0), .int a, .ref (E 28)]) (by simp only [nI_zn]) ?_
      refine z_st (st' := [.int b, .int (nI (zn (S1 37 0))), .int (nI (zn (S1 15 0))), .ref (E 16), .ref (E 0), .ref (E 0), .int a, .ref (E 28)]) (by simp only [nI_zn]) ?_
      refine z_callV X (rest := [.ref (E 0), .int a, .ref (E 28)]) (c_X7_find_16 D1 F1 (n := zn (S1 15 0)) (m := zn (S1 37 0)) (x := b) hnm1 hmany FL1.2.1) (cwV 4 (zXts X) (lw_V q1742 q1744 qs35 q65 q1745) rfl rfl rfl (by decide +kernel) ⟨Nat.le_of_ble_eq_true rfl, Nat.le_of_ble_eq_true rfl⟩) D1.1 (by decide) rfl rfl (Nat.le_of_ble_eq_true rfl) ⟨(by first | exact Nat.le_of_ble_eq_true rfl | (dsimp only [zRm]; omega)), (by first | exact Nat.le_of_ble_eq_true rfl | (dsimp only [zRm]; omega))⟩ dX7_make_364 (fun v16087 h16088 p16089 => ?_)
      obtain ⟨rfl, rfl⟩ := p16089
      refine z_st (st' := [.int (oI (fnd S1 (S1 16) (zn (S1 15 0)) (zn (S1 37 0)) b)), .ref (E 0), .int a, .ref (E 28)]) rfl ?_
      have hfd : ∀ k, fnd S1 (S1 16) (zn (S1 15 0)) (zn (S1 37 0)) b = some k → k < 240 := fun k hk => (F1.df hk hnm1 FL1.2.1).1
      refine z_callV X (rest := [.int a, .ref (E 28)]) (c_X7_addressOf D1 F1 (d := fnd S1 (S1 16) (zn (S1 15 0)) (zn (S1 37 0)) b) FL1 hL1 hfd) (cwV 1 (zXts X) (lw_V q1802 q1804 qs45 q65 q1805) rfl rfl rfl (by decide +kernel) ⟨Nat.le_of_ble_eq_true rfl, Nat.le_of_ble_eq_true rfl⟩) D1.1 (by decide) rfl rfl (Nat.le_of_ble_eq_true rfl) ⟨(by first | exact Nat.le_of_ble_eq_true rfl | (dsimp only [zRm]; omega)), (by first | exact Nat.le_of_ble_eq_true rfl | (dsimp only [zRm]; omega))⟩ dX7_make_367 (fun v16090 h16091 p16092 => ?_)
      obtain ⟨rfl, rfl⟩ := p16092
      refine z_st (st' := [.int (adF S1 (fnd S1 (S1 16) (zn (S1 15 0)) (zn (S1 37 0)) b)), .int a, .ref (E 28)]) rfl ?_
      refine z_iast X (zn a) (D1.2.1 28 rfl) (by decide) (by decide) (nI_zn _).symm (by show _ < 8; omega) (by decide) (f' := fun i => .int ((zu (S1 28) (zn a) (adF S1 (fnd S1 (S1 16) (zn (S1 15 0)) (zn (S1 37 0)) b))) i)) (fun _ => zu_v _) dX7_make_370 ?_
      refine z_nm fun h16093 e16094 => ?_
      have D16095 : MD E (zsa S1 28 (zu (S1 28) (zn a) (adF S1 (fnd S1 (S1 16) (zn (S1 15 0)) (zn (S1 37 0)) b)))) h16093 := D1.sA 28 rfl e16094
      have o16096 := zOn.up O1 e16094 (D1.2.1 28 rfl) (by decide)
      refine z_iconst X (-1) dX7_make_371 (by decide) ?_
      exact z_iret X hr hlk dX7_make_372 (by first | exact Nat.le_of_ble_eq_true rfl | (dsimp only [zRm]; omega) | omega) (by first | exact Nat.le_of_ble_eq_true rfl | (dsimp only [zRm]; omega) | omega) ⟨by rw [← hmk] <;> rfl, by rw [← hmk]; exact D16095, o16096⟩
    · refine z_tableIn X 373 dX7_make_59 (by rw [show op = nI 11 from by rw [← c16022]; exact (nI_zn _).symm]; decide) (by rw [show op = nI 11 from by rw [← c16022]; exact (nI_zn _).symm]; decide) (by rw [show op = nI 11 from by rw [← c16022]; exact (nI_zn _).symm]; rfl) (by decide) ?_
      rw [zop_is c16022] at hg
      have hg9 := zg_11.mp hg
      rw [zop_is c16022, mk_11] at hmk
      refine z_aload_n X 0 dX7_make_373 zref.r rfl ?_
      refine z_aload_n X 0 dX7_make_374 zref.r rfl ?_
      refine z_aload_n X 0 dX7_make_375 zref.r rfl ?_
      refine z_get X zP6 28 (by decide) q1591 (Or.inl rfl) D1.1 (by decide) rfl dX7_make_376 ?_
      refine z_iload_n X 1 dX7_make_379 rfl ?_
      refine z_iald X (v := .int ((S1 28) (zn a))) (zn a) (D1.2.1 28 rfl) (by decide) (nI_zn _).symm (by show _ < 8; omega) (by decide) rfl dX7_make_380 ?_
      refine z_callV X (rest := [.ref (E 0)]) (c_X7_atAddress D1 F1 (x := (S1 28) (zn a)) FL1) (cwV 1 (zXts X) (lw_V q1806 q1808 qs46 q65 q1809) rfl rfl rfl (by decide +kernel) ⟨Nat.le_of_ble_eq_true rfl, Nat.le_of_ble_eq_true rfl⟩) D1.1 (by decide) rfl rfl (Nat.le_of_ble_eq_true rfl) ⟨(by first | exact Nat.le_of_ble_eq_true rfl | (dsimp only [zRm]; omega)), (by first | exact Nat.le_of_ble_eq_true rfl | (dsimp only [zRm]; omega))⟩ dX7_make_381 (fun v16097 h16098 p16099 => ?_)
      obtain ⟨rfl, rfl⟩ := p16099
      refine z_st (st' := [.int (oI (atF S1 ((S1 28) (zn a)))), .ref (E 0)]) rfl ?_
      refine z_callV X (rest := []) (c_X7_call D1 (d := atF S1 ((S1 28) (zn a))) hdp1 hds1 (fun k hk => (atF_lt F1 FL1 k hk).1)) (cwV 1 (zXts X) (lw_V q1790 q1792 qs42 q65 q1793) rfl rfl rfl (by decide +kernel) ⟨Nat.le_of_ble_eq_true rfl, Nat.le_of_ble_eq_true rfl⟩) D1.1 (by decide) rfl rfl (Nat.le_of_ble_eq_true rfl) ⟨(by first | exact Nat.le_of_ble_eq_true rfl | (dsimp only [zRm]; omega)), (by first | exact Nat.le_of_ble_eq_true rfl | (dsimp only [zRm]; omega))⟩ dX7_make_384 (fun v16100 h16101 p16102 => ?_)
      obtain ⟨rfl, D9, O9⟩ := p16102
      refine z_st (st' := [.int ((callF S1 (atF S1 ((S1 28) (zn a)))).1)]) rfl ?_
      exact z_iret X hr hlk dX7_make_387 (by first | exact Nat.le_of_ble_eq_true rfl | (dsimp only [zRm]; omega) | omega) (by first | exact Nat.le_of_ble_eq_true rfl | (dsimp only [zRm]; omega) | omega) ⟨by rw [← hmk] <;> rfl, by rw [← hmk]; exact D9, O1.trans O9⟩
    · refine z_tableIn X 388 dX7_make_59 (by rw [show op = nI 12 from by rw [← c16022]; exact (nI_zn _).symm]; decide) (by rw [show op = nI 12 from by rw [← c16022]; exact (nI_zn _).symm]; decide) (by rw [show op = nI 12 from by rw [← c16022]; exact (nI_zn _).symm]; rfl) (by decide) ?_
      rw [zop_is c16022] at hg
      have hg9 := zg_12.mp hg
      rw [zop_is c16022, mk_12] at hmk
      refine z_aload_n X 0 dX7_make_388 zref.r rfl ?_
      refine z_dup X dX7_make_389 rfl ?_
      refine z_get X zP6 36 (by decide) q1599 (Or.inl rfl) (v := .int (S1 36 0)) D1.1 (by decide) rfl dX7_make_390 ?_
      refine z_iconst X (nI 1) dX7_make_393 (by decide) ?_
      refine z_isub X (nI ((zn (S1 36 0)) - 1)) dX7_make_394 (zsub (nI_zn _).symm rfl (by omega)) ?_
      refine z_put X zP6 36 (by decide) q1599 (Or.inl rfl) rfl D1.1 (by decide) (by decide) (zfits.i _) (Nat.le_of_ble_eq_true rfl) rfl dX7_make_395 ?_
      refine z_nm fun h16103 e16104 => ?_
      have D16105 : MD E (zsa S1 36 (fun _ => nI ((zn (S1 36 0)) - 1))) h16103 := D1.sF 36 (by decide) e16104
      have o16106 := zOn.up O1 e16104 D1.1 (by decide)
      refine z_aload_n X 0 dX7_make_398 zref.r rfl ?_
      refine z_aload_n X 0 dX7_make_399 zref.r rfl ?_
      refine z_get X zP6 34 (by decide) q1597 (Or.inl rfl) D16105.1 (by decide) rfl dX7_make_400 ?_
      refine z_aload_n X 0 dX7_make_403 zref.r rfl ?_
      refine z_get X zP6 36 (by decide) q1599 (Or.inl rfl) (v := .int (nI ((zn (S1 36 0)) - 1))) D16105.1 (by decide) rfl dX7_make_404 ?_
      refine z_iald X (v := .int ((S1 34) ((zn (S1 36 0)) - 1))) ((zn (S1 36 0)) - 1) (D16105.2.1 34 rfl) (by decide) rfl (by show _ < 101; omega) (by decide) rfl dX7_make_407 ?_
      refine z_put X zP6 37 (by decide) q1600 (Or.inl rfl) rfl D16105.1 (by decide) (by decide) (zfits.i _) (Nat.le_of_ble_eq_true rfl) rfl dX7_make_408 ?_
      refine z_nm fun h16107 e16108 => ?_
      have D16109 : MD E (zsa (zsa S1 36 (fun _ => nI ((zn (S1 36 0)) - 1))) 37 (fun _ => (S1 34) ((zn (S1 36 0)) - 1))) h16107 := D16105.sF 37 (by decide) e16108
      have o16110 := zOn.up o16106 e16108 D16105.1 (by decide)
      refine z_aload_n X 0 dX7_make_411 zref.r rfl ?_
      refine z_aload_n X 0 dX7_make_412 zref.r rfl ?_
      refine z_get X zP6 35 (by decide) q1598 (Or.inl rfl) D16109.1 (by decide) rfl dX7_make_413 ?_
      refine z_aload_n X 0 dX7_make_416 zref.r rfl ?_
      refine z_get X zP6 36 (by decide) q1599 (Or.inl rfl) (v := .int (nI ((zn (S1 36 0)) - 1))) D16109.1 (by decide) rfl dX7_make_417 ?_
      refine z_iald X (v := .int ((S1 35) ((zn (S1 36 0)) - 1))) ((zn (S1 36 0)) - 1) (D16109.2.1 35 rfl) (by decide) rfl (by show _ < 101; omega) (by decide) rfl dX7_make_420 ?_
      refine z_put X zP6 38 (by decide) q1601 (Or.inl rfl) rfl D16109.1 (by decide) (by decide) (zfits.i _) (Nat.le_of_ble_eq_true rfl) rfl dX7_make_421 ?_
      refine z_nm fun h16111 e16112 => ?_
      have D16113 : MD E (zsa (zsa (zsa S1 36 (fun _ => nI ((zn (S1 36 0)) - 1))) 37 (fun _ => (S1 34) ((zn (S1 36 0)) - 1))) 38 (fun _ => (S1 35) ((zn (S1 36 0)) - 1))) h16111 := D16109.sF 38 (by decide) e16112
      have o16114 := zOn.up o16110 e16112 D16109.1 (by decide)
      refine z_iconst X (-1) dX7_make_424 (by decide) ?_
      exact z_iret X hr hlk dX7_make_425 (by first | exact Nat.le_of_ble_eq_true rfl | (dsimp only [zRm]; omega) | omega) (by first | exact Nat.le_of_ble_eq_true rfl | (dsimp only [zRm]; omega) | omega) ⟨by rw [← hmk] <;> rfl, by rw [← hmk]; exact D16113, o16114⟩
    · refine z_tableIn X 426 dX7_make_59 (by rw [show op = nI 13 from by rw [← c16022]; exact (nI_zn _).symm]; decide) (by rw [show op = nI 13 from by rw [← c16022]; exact (nI_zn _).symm]; decide) (by rw [show op = nI 13 from by rw [← c16022]; exact (nI_zn _).symm]; rfl) (by decide) ?_
      rw [zop_is c16022] at hg
      have hg9 := zg_13.mp hg
      rw [zop_is c16022, mk_13] at hmk
      refine z_aload_n X 0 dX7_make_426 zref.r rfl ?_
      refine z_get X zP6 30 (by decide) q1593 (Or.inl rfl) (v := .int (S1 30 0)) D1.1 (by decide) rfl dX7_make_427 ?_
      refine z_bipush X (nI 60) dX7_make_430 (by decide) ?_
      refine z_icmpU_ge X (zn (S1 30 0)) 60 450 dX7_make_432 (by decide) (nI_zn _).symm rfl (zn_lt _) (by omega) (fun c16115 => ?_) (fun c16115 => ?_)
      · refine z_aload_n X 0 dX7_make_450 zref.r rfl ?_
        refine z_dup X dX7_make_451 rfl ?_
        refine z_get X zP6 30 (by decide) q1593 (Or.inl rfl) (v := .int (S1 30 0)) D1.1 (by decide) rfl dX7_make_452 ?_
        refine z_iconst X (nI 1) dX7_make_455 (by decide) ?_
        refine z_iadd X (nI ((zn (S1 30 0)) + 1)) dX7_make_456 (zadd (nI_zn _).symm rfl) ?_
        refine z_put X zP6 30 (by decide) q1593 (Or.inl rfl) rfl D1.1 (by decide) (by decide) (zfits.i _) (Nat.le_of_ble_eq_true rfl) rfl dX7_make_457 ?_
        refine z_nm fun h16116 e16117 => ?_
        have D16118 : MD E (zsa S1 30 (fun _ => nI ((zn (S1 30 0)) + 1))) h16116 := D1.sF 30 (by decide) e16117
        have o16119 := zOn.up O1 e16117 D1.1 (by decide)
        refine z_iconst X (-1) dX7_make_460 (by decide) ?_
        rw [if_neg (by omega)] at hmk
        exact z_iret X hr hlk dX7_make_461 (by first | exact Nat.le_of_ble_eq_true rfl | (dsimp only [zRm]; omega) | omega) (by first | exact Nat.le_of_ble_eq_true rfl | (dsimp only [zRm]; omega) | omega) ⟨by rw [← hmk] <;> rfl, by rw [← hmk]; exact D16118, o16119⟩
      · refine z_aload_n X 0 dX7_make_435 zref.r rfl ?_
        refine z_get X zP6 33 (by decide) q1596 (Or.inl rfl) D1.1 (by decide) rfl dX7_make_436 ?_
        refine z_aload_n X 0 dX7_make_439 zref.r rfl ?_
        refine z_get X zP6 30 (by decide) q1593 (Or.inl rfl) (v := .int (S1 30 0)) D1.1 (by decide) rfl dX7_make_440 ?_
        refine z_aload_n X 0 dX7_make_443 zref.r rfl ?_
        refine z_get X zP6 28 (by decide) q1591 (Or.inl rfl) D1.1 (by decide) rfl dX7_make_444 ?_
        refine z_iload_n X 1 dX7_make_447 rfl ?_
        refine z_iald X (v := .int ((S1 28) (zn a))) (zn a) (D1.2.1 28 rfl) (by decide) (nI_zn _).symm (by show _ < 8; omega) (by decide) rfl dX7_make_448 ?_
        refine z_iast X (zn (S1 30 0)) (D1.2.1 33 rfl) (by decide) (by decide) (nI_zn _).symm (by show _ < 60; omega) (by decide) (f' := fun i => .int ((zu (S1 33) (zn (S1 30 0)) ((S1 28) (zn a))) i)) (fun _ => zu_v _) dX7_make_449 ?_
        refine z_nm fun h16120 e16121 => ?_
        have D16122 : MD E (zsa S1 33 (zu (S1 33) (zn (S1 30 0)) ((S1 28) (zn a)))) h16120 := D1.sA 33 rfl e16121
        have o16123 := zOn.up O1 e16121 (D1.2.1 33 rfl) (by decide)
        refine z_aload_n X 0 dX7_make_450 zref.r rfl ?_
        refine z_dup X dX7_make_451 rfl ?_
        refine z_get X zP6 30 (by decide) q1593 (Or.inl rfl) (v := .int (S1 30 0)) D16122.1 (by decide) rfl dX7_make_452 ?_
        refine z_iconst X (nI 1) dX7_make_455 (by decide) ?_
        refine z_iadd X (nI ((zn (S1 30 0)) + 1)) dX7_make_456 (zadd (nI_zn _).symm rfl) ?_
        refine z_put X zP6 30 (by decide) q1593 (Or.inl rfl) rfl D16122.1 (by decide) (by decide) (zfits.i _) (Nat.le_of_ble_eq_true rfl) rfl dX7_make_457 ?_
        refine z_nm fun h16124 e16125 => ?_
        have D16126 : MD E (zsa (zsa S1 33 (zu (S1 33) (zn (S1 30 0)) ((S1 28) (zn a)))) 30 (fun _ => nI ((zn (S1 30 0)) + 1))) h16124 := D16122.sF 30 (by decide) e16125
        have o16127 := zOn.up o16123 e16125 D16122.1 (by decide)
        refine z_iconst X (-1) dX7_make_460 (by decide) ?_
        rw [if_pos (by omega)] at hmk
        exact z_iret X hr hlk dX7_make_461 (by first | exact Nat.le_of_ble_eq_true rfl | (dsimp only [zRm]; omega) | omega) (by first | exact Nat.le_of_ble_eq_true rfl | (dsimp only [zRm]; omega) | omega) ⟨by rw [← hmk] <;> rfl, by rw [← hmk]; exact D16126, o16127⟩
    · refine z_tableOut X 462 dX7_make_59 (by have z8 := zI_toInt (a := zn op) (zn_lt _); rw [show op = nI (zn op) from (nI_zn _).symm]; rw [z8]; split <;> omega) (by decide) ?_
      have h14 : zn op = 14 := Classical.byContradiction fun z => by rw [zgood_out (by omega)] at hg; cases hg
      rw [zop_is h14, mk_14] at hmk
      refine z_iconst X (nI 0) dX7_make_462 (by decide) ?_
      exact z_iret X hr hlk dX7_make_463 (by first | exact Nat.le_of_ble_eq_true rfl | (dsimp only [zRm]; omega) | omega) (by first | exact Nat.le_of_ble_eq_true rfl | (dsimp only [zRm]; omega) | omega) ⟨by rw [← hmk] <;> rfl, by rw [← hmk]; exact D1, O1⟩
  refine z_iconst X (nI 4) dX7_make_0 (by decide) ?_
  refine z_bipush X (nI 100) dX7_make_1 (by decide) ?_
  refine z_aload_n X 0 dX7_make_3 zref.r rfl ?_
  refine z_get X zP6 37 (by decide) q1600 (Or.inl rfl) (v := .int (S 37 0)) D.1 (by decide) rfl dX7_make_4 ?_
  refine z_imul X (nI (100 * (zn (S 37 0)))) dX7_make_7 (zmul rfl (nI_zn _).symm) ?_
  refine z_aload_n X 0 dX7_make_8 zref.r rfl ?_
  refine z_get X zP6 38 (by decide) q1601 (Or.inl rfl) (v := .int (S 38 0)) D.1 (by decide) rfl dX7_make_9 ?_
  refine z_iadd X (nI ((100 * (zn (S 37 0))) + (zn (S 38 0)))) dX7_make_12 (zadd rfl (nI_zn _).symm) ?_
  refine z_imul X (nI (4 * ((100 * (zn (S 37 0))) + (zn (S 38 0))))) dX7_make_13 (zmul rfl rfl) ?_
  refine z_istore_n X (lv' := [(1, .int (nI (4 * ((100 * (zn (S 37 0))) + (zn (S 38 0)))))), (0, .ref (E 0))]) dX7_make_14 (by decide) rfl ?_
  refine z_aload_n X 1 dX7_make_15 zref.r rfl ?_
  refine z_get X zP6 8 (by decide) q1571 (Or.inl rfl) D.1 (by decide) rfl dX7_make_16 ?_
  refine z_iload_n X 0 dX7_make_19 rfl ?_
  refine z_iconst X (nI 1) dX7_make_20 (by decide) ?_
  refine z_iadd X (nI ((4 * ((100 * (zn (S 37 0))) + (zn (S 38 0)))) + 1)) dX7_make_21 (zadd rfl rfl) ?_
  refine z_iald X (v := .int ((S 8) ((4 * ((100 * (zn (S 37 0))) + (zn (S 38 0)))) + 1))) ((4 * ((100 * (zn (S 37 0))) + (zn (S 38 0)))) + 1) (D.2.1 8 rfl) (by decide) rfl (by show _ < 4800; omega) (by decide) rfl dX7_make_22 ?_
  refine z_istore_n X (lv' := [(2, .int ((S 8) ((4 * ((100 * (zn (S 37 0))) + (zn (S 38 0)))) + 1))), (1, .int (nI (4 * ((100 * (zn (S 37 0))) + (zn (S 38 0)))))), (0, .ref (E 0))]) dX7_make_23 (by decide) rfl ?_
  refine z_aload_n X 2 dX7_make_24 zref.r rfl ?_
  refine z_get X zP6 8 (by decide) q1571 (Or.inl rfl) D.1 (by decide) rfl dX7_make_25 ?_
  refine z_iload_n X 1 dX7_make_28 rfl ?_
  refine z_iconst X (nI 2) dX7_make_29 (by decide) ?_
  refine z_iadd X (nI ((4 * ((100 * (zn (S 37 0))) + (zn (S 38 0)))) + 2)) dX7_make_30 (zadd rfl rfl) ?_
  refine z_iald X (v := .int ((S 8) ((4 * ((100 * (zn (S 37 0))) + (zn (S 38 0)))) + 2))) ((4 * ((100 * (zn (S 37 0))) + (zn (S 38 0)))) + 2) (D.2.1 8 rfl) (by decide) rfl (by show _ < 4800; omega) (by decide) rfl dX7_make_31 ?_
  refine z_istore_n X (lv' := [(3, .int ((S 8) ((4 * ((100 * (zn (S 37 0))) + (zn (S 38 0)))) + 2))), (2, .int ((S 8) ((4 * ((100 * (zn (S 37 0))) + (zn (S 38 0)))) + 1))), (1, .int (nI (4 * ((100 * (zn (S 37 0))) + (zn (S 38 0)))))), (0, .ref (E 0))]) dX7_make_32 (by decide) rfl ?_
  refine z_aload_n X 3 dX7_make_33 zref.r rfl ?_
  refine z_get X zP6 8 (by decide) q1571 (Or.inl rfl) D.1 (by decide) rfl dX7_make_34 ?_
  refine z_iload_n X 2 dX7_make_37 rfl ?_
  refine z_iconst X (nI 3) dX7_make_38 (by decide) ?_
  refine z_iadd X (nI ((4 * ((100 * (zn (S 37 0))) + (zn (S 38 0)))) + 3)) dX7_make_39 (zadd rfl rfl) ?_
  refine z_iald X (v := .int ((S 8) ((4 * ((100 * (zn (S 37 0))) + (zn (S 38 0)))) + 3))) ((4 * ((100 * (zn (S 37 0))) + (zn (S 38 0)))) + 3) (D.2.1 8 rfl) (by decide) rfl (by show _ < 4800; omega) (by decide) rfl dX7_make_40 ?_
  refine z_istore X (lv' := [(4, .int ((S 8) ((4 * ((100 * (zn (S 37 0))) + (zn (S 38 0)))) + 3))), (3, .int ((S 8) ((4 * ((100 * (zn (S 37 0))) + (zn (S 38 0)))) + 2))), (2, .int ((S 8) ((4 * ((100 * (zn (S 37 0))) + (zn (S 38 0)))) + 1))), (1, .int (nI (4 * ((100 * (zn (S 37 0))) + (zn (S 38 0)))))), (0, .ref (E 0))]) dX7_make_41 (by decide) rfl ?_
  refine z_aload_n X 4 dX7_make_43 zref.r rfl ?_
  refine z_dup X dX7_make_44 rfl ?_
  refine z_get X zP6 38 (by decide) q1601 (Or.inl rfl) (v := .int (S 38 0)) D.1 (by decide) rfl dX7_make_45 ?_
  refine z_iconst X (nI 1) dX7_make_48 (by decide) ?_
  refine z_iadd X (nI ((zn (S 38 0)) + 1)) dX7_make_49 (zadd (nI_zn _).symm rfl) ?_
  refine z_put X zP6 38 (by decide) q1601 (Or.inl rfl) rfl D.1 (by decide) (by decide) (zfits.i _) (Nat.le_of_ble_eq_true rfl) rfl dX7_make_50 ?_
  refine z_nm fun h16128 e16129 => ?_
  have D16130 : MD E (zsa S 38 (fun _ => nI ((zn (S 38 0)) + 1))) h16128 := D.sF 38 (by decide) e16129
  have o16131 := zOn.up (zOn.rf (T := zTM) (h := h)) e16129 D.1 (by decide)
  refine z_aload_n X 4 dX7_make_53 zref.r rfl ?_
  refine z_get X zP6 8 (by decide) q1571 (Or.inl rfl) D16130.1 (by decide) rfl dX7_make_54 ?_
  refine z_iload_n X 3 dX7_make_57 rfl ?_
  refine z_iald X (v := .int ((S 8) (4 * ((100 * (zn (S 37 0))) + (zn (S 38 0)))))) (4 * ((100 * (zn (S 37 0))) + (zn (S 38 0)))) (D16130.2.1 8 rfl) (by decide) rfl (by show _ < 4800; omega) (by decide) rfl dX7_make_58 ?_
  refine z_lvp (lv' := [(0, .ref (E 0)), (2, .int ((S 8) ((4 * ((100 * (zn (S 37 0))) + (zn (S 38 0)))) + 1))), (3, .int ((S 8) ((4 * ((100 * (zn (S 37 0))) + (zn (S 38 0)))) + 2))), (4, .int ((S 8) ((4 * ((100 * (zn (S 37 0))) + (zn (S 38 0)))) + 3)))]) [4, 2, 1, 0] rfl ?_
  exact body _ _ _ _ _ _ hgd D16130 (F.cg (by intro k hk; simp only [zsa]; rw [if_neg (by omega)])) (FL.cg (by intro k hk hk2; simp only [zsa]; rw [if_neg (by omega)])) hL hnm hdp hd0 hds hsd o16131 rfl
