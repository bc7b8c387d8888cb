set_option maxRecDepth 100000
theorem zsa_o3 {S : ZS} {f g u f' g' u' : Nat → Int32} : zsa (zsa (zsa (zsa (zsa (zsa S 22 f) 21 g) 20 u) 22 f') 21 g') 20 u' = zsa (zsa (zsa S 22 f') 21 g') 20 u' := by
  funext j
  unfold zsa
  by_cases h1 : j = 20
  · simp [h1]
  · by_cases h2 : j = 21
    · simp [h2]
    · by_cases h3 : j = 22
      · simp [h3]
      · simp [h1, h2, h3]
/-- what never fails of a search in breadth -/
def zBI (S : ZS) (st : BfS) : Prop := (∀ p, p < st.2.2 → zn (st.2.1 p) < zn (S 0 0)) ∧ (∀ p q, p < st.2.2 → q < st.2.2 → zn (st.2.1 p) = zn (st.2.1 q) → p = q) ∧ (∀ p, p < st.2.2 → st.1 (zn (st.2.1 p)) ≠ 0) ∧ (∀ i, i < 12 → st.1 i ≠ 0 → ∃ p, p < st.2.2 ∧ zn (st.2.1 p) = i) ∧ (∀ i, i < 12 → st.1 i = 0 ∨ st.1 i = 1)
theorem zinj_le {n b : Nat} {f : Nat → Nat} (h1 : ∀ p, p < n → f p < b) (h2 : ∀ p q, p < n → q < n → f p = f q → p = q) : n ≤ b := by
  have := zlen_le b ((List.range n).map f) (znd_map _ List.nodup_range (fun x hx y hy => h2 x y (List.mem_range.mp hx) (List.mem_range.mp hy))) (fun x hx => by
    obtain ⟨p, hp, rfl⟩ := List.mem_map.mp hx
    exact h1 p (List.mem_range.mp hp))
  simpa using this
theorem zBI.le {S : ZS} {st : BfS} (F : ZWF S) (H : zBI S st) : st.2.2 ≤ 12 := Nat.le_trans (zinj_le H.1 H.2.1) F.mods
theorem zBI.step {S : ZS} {st : BfS} {m k : Nat} (F : ZWF S) (H : zBI S st) (hk : k < zn (S 2 m)) : zBI S (bStep S m k st) ∧ st.2.2 ≤ (bStep S m k st).2.2 := by
  have ho := F.nd m k hk
  have hm := F.mods
  unfold bStep
  split
  · rename_i h0
    obtain ⟨h1, h2, h3, h4, h5⟩ := H
    have hno : ∀ p, p < st.2.2 → zn (st.2.1 p) ≠ zn (S 1 (6 * m + k)) := fun p hp z => h3 p hp (by rw [z]; exact h0)
    refine ⟨⟨fun p hp => ?_, fun p q hp hq hpq => ?_, fun p hp => ?_, fun i hi hm1 => ?_, fun i hi => ?_⟩, Nat.le_succ _⟩
    all_goals dsimp only at *
    · by_cases e : p = st.2.2
      · subst e; rw [zu_s]; exact ho
      · rw [zu_n e]; exact h1 p (by omega)
    · by_cases e : p = st.2.2
      · by_cases e2 : q = st.2.2
        · rw [e, e2]
        · rw [e, zu_s, zu_n e2] at hpq; exact absurd hpq.symm (hno q (by omega))
      · by_cases e2 : q = st.2.2
        · rw [e2, zu_s, zu_n e] at hpq; exact absurd hpq (hno p (by omega))
        · rw [zu_n e, zu_n e2] at hpq; exact h2 p q (by omega) (by omega) hpq
    · by_cases e : p = st.2.2
      · subst e; rw [zu_s, zu_s]; decide
      · rw [zu_n e, zu_n (hno p (by omega))]; exact h3 p (by omega)
    · by_cases e : i = zn (S 1 (6 * m + k))
      · exact ⟨st.2.2, by omega, by rw [zu_s]; exact e.symm⟩
      · rw [zu_n e] at hm1
        obtain ⟨p, hp, hp2⟩ := h4 i hi hm1
        exact ⟨p, by omega, by rw [zu_n (by omega)]; exact hp2⟩
    · by_cases e : i = zn (S 1 (6 * m + k))
      · rw [e, zu_s]; exact Or.inr rfl
      · rw [zu_n e]; exact h5 i hi
  · exact ⟨H, Nat.le_refl _⟩
theorem zBI.bin {S : ZS} {st : BfS} {m : Nat} (F : ZWF S) (H : zBI S st) : ∀ k, k ≤ zn (S 2 m) → zBI S (bIn S m st k) ∧ st.2.2 ≤ (bIn S m st k).2.2
  | 0, _ => ⟨H, Nat.le_refl _⟩
  | k + 1, hk => by
    obtain ⟨h1, h2⟩ := zBI.bin (m := m) F H k (by omega)
    obtain ⟨h3, h4⟩ := h1.step F (m := m) (k := k) (by omega)
    exact ⟨h3, Nat.le_trans h2 h4⟩
theorem zBI.out {S : ZS} {st : BfS} (F : ZWF S) (H : zBI S st) : ∀ p, zBI S (bOut S st p)
  | 0 => H
  | p + 1 => by
    have ih := zBI.out F H p
    simp only [bOut]
    split
    · exact (zBI.bin F ih _ (Nat.le_refl _)).1
    · exact ih
theorem zBI.st {S : ZS} {r : Nat} (F : ZWF S) (hr : r < zn (S 0 0)) : zBI S (bSt S r) := by
  have hm := F.mods
  have hr2 : zn (nI r) = r := zn_nI (by omega)
  unfold bSt
  refine ⟨fun p hp => ?_, fun p q hp hq _ => ?_, fun p hp => ?_, fun i hi h => ?_, fun i hi => ?_⟩
  all_goals dsimp only at *
  · have : p = 0 := by omega
    subst this; rw [zu_s, hr2]; exact hr
  · omega
  · have : p = 0 := by omega
    subst this; rw [zu_s, hr2]
    unfold zmet
    rw [if_pos (by omega), if_pos rfl]; decide
  · unfold zmet at h
    rw [if_pos hi] at h
    by_cases e : i = r
    · subst e; exact ⟨0, by decide, by rw [zu_s, hr2]⟩
    · rw [if_neg e] at h; exact absurd rfl h
  · unfold zmet
    rw [if_pos hi]
    by_cases e : i = r
    · exact Or.inr (if_pos e)
    · exact Or.inl (if_neg e)
theorem bOut_stop {S : ZS} {st : BfS} {p : Nat} (h : (bOut S st p).2.2 ≤ p) : ∀ j, bOut S st (p + j) = bOut S st p
  | 0 => rfl
  | j + 1 => by
    show bOut S st (p + j + 1) = _
    simp only [bOut]
    rw [bOut_stop h j, if_neg (by omega)]
theorem bEnd_is {S : ZS} {r p : Nat} (F : ZWF S) (hr : r < zn (S 0 0)) (h : (bOut S (bSt S r) p).2.2 ≤ p) (hp : p ≤ 12) : bEnd S r = bOut S (bSt S r) p := by
  have := bOut_stop h (12 - p)
  rwa [show p + (12 - p) = 12 from by omega] at this
theorem bEnd_ok {S : ZS} {r : Nat} (F : ZWF S) (hr : r < zn (S 0 0)) : zBI S (bEnd S r) := (zBI.st F hr).out F 12
theorem zmet_s {S : ZS} {r k : Nat} : zmet S r k = zfil (fun i => if i = r then 1 else 0) (S 22) k := rfl
set_option maxHeartbeats 8000000 in
theorem c_X7_findOrder {l : Launch} {G : ZG} {h : ZH} {E : Nat → Nat} {S : ZS} {r : Nat} (D : MD E S h) (F : ZWF S) (hrm : r < zn (S 0 0)) : ZM l G yX7_findOrder (ws_ yX7_findOrder cX7_findOrder 6 (Option.none : Option FieldType)) (zRm 0 0 0 0) [.ref (E 0), .int (nI r)] h (fun v h' => v = none ∧ MD E (ordF S r) h' ∧ zOn zTM h h') := by
  refine ZT.zm (ZT.of (by first | exact plainFor_of_name (by decide) | decide +kernel) (Nat.le_of_ble_eq_true rfl) (zcats.r zref.r (zcats.i zcats.nil)) ?_)
  intro p_ e_ s_ m_ args_ below_ meth_ c_ X hr hlk hin htab
  have X : ZX p_ m_ c_ cX7_findOrder 6 s_ args_ "LinkStationModel" G := X
  refine z_lv (lv' := [(0, .ref (E 0)), (1, .int (nI r))]) (fun _ hq => hq) ?_
  have hM := F.mods
  refine z_iconst X (nI 0) dX7_findOrder_0 (by decide) ?_
  refine z_istore_n X (lv' := [(2, .int (nI 0)), (0, .ref (E 0)), (1, .int (nI r))]) dX7_findOrder_1 (by decide) rfl ?_
  refine z_lvp (lv' := [(0, .ref (E 0)), (1, .int (nI r)), (2, .int (nI 0))]) [1, 2, 0] rfl ?_
  refine z_loop (σ := Nat × ZH) (fun y => y.1 ≤ 12 ∧ MD E (zsa S 22 (zfil (fun i => if i = r then 1 else 0) (S 22) y.1)) y.2 ∧ zOn zTM h y.2) (fun y => 12 - y.1) (fun y => [(0, .ref (E 0)), (1, .int (nI r)), (2, .int (nI y.1))]) (fun y => []) (fun y => y.2) (fun y => 0) (fun y => 0) ?_ (0, h) (⟨by omega, by rw [zfil_0, zsa_id]; exact D, zOn.rf⟩)
  intro ⟨k, h1⟩ hI ih
  try dsimp only at hI
  try dsimp only at ih
  try dsimp only
  obtain ⟨i1, i2, i3⟩ := hI
  refine z_iload_n X 2 dX7_findOrder_2 rfl ?_
  refine z_bipush X (nI 12) dX7_findOrder_3 (by decide) ?_
  refine z_icmpU_ge X k 12 30 dX7_findOrder_5 (by decide) rfl rfl (by omega) (by omega) (fun c10001 => ?_) (fun c10001 => ?_)
  · refine z_aload_n X 0 dX7_findOrder_30 zref.r rfl ?_
    refine z_get X zP6 21 (by decide) q1584 (Or.inl rfl) i2.1 (by decide) rfl dX7_findOrder_31 ?_
    refine z_iconst X (nI 0) dX7_findOrder_34 (by decide) ?_
    refine z_iload_n X 1 dX7_findOrder_35 rfl ?_
    refine z_iast X 0 (i2.2.1 21 rfl) (by decide) (by decide) rfl (by show _ < 12; omega) (by decide) (f' := fun i => .int ((zu (S 21) 0 (nI r)) i)) (fun _ => zu_v _) dX7_findOrder_36 ?_
    refine z_nm fun h10002 e10003 => ?_
    have D10004 : MD E (zsa (zsa S 22 (zfil (fun i => if i = r then 1 else 0) (S 22) k)) 21 (zu (S 21) 0 (nI r))) h10002 := i2.sA 21 rfl e10003
    have o10005 := zOn.up i3 e10003 (i2.2.1 21 rfl) (by decide)
    refine z_aload_n X 0 dX7_findOrder_37 zref.r rfl ?_
    refine z_iconst X (nI 1) dX7_findOrder_38 (by decide) ?_
    refine z_put X zP6 20 (by decide) q1583 (Or.inl rfl) rfl D10004.1 (by decide) (by decide) (zfits.i _) (Nat.le_of_ble_eq_true rfl) rfl dX7_findOrder_39 ?_
    refine z_nm fun h10006 e10007 => ?_
    have D10008 : MD E (zsa (zsa (zsa S 22 (zfil (fun i => if i = r then 1 else 0) (S 22) k)) 21 (zu (S 21) 0 (nI r))) 20 (fun _ => nI 1)) h10006 := D10004.sF 20 (by decide) e10007
    have o10009 := zOn.up o10005 e10007 D10004.1 (by decide)
    refine z_iconst X (nI 0) dX7_findOrder_42 (by decide) ?_
    refine z_istore_n X (lv' := [(2, .int (nI 0)), (0, .ref (E 0)), (1, .int (nI r))]) dX7_findOrder_43 (by decide) rfl ?_
    have hk : k = 12 := by omega
    subst hk
    refine z_lvp (lv' := [(0, .ref (E 0)), (2, .int (nI 0))]) [1, 0] rfl ?_
    refine z_loop (σ := Nat × ZH) (fun y => y.1 ≤ (bOut S (bSt S r) y.1).2.2 ∧ MD E (zsa (zsa (zsa S 22 (bOut S (bSt S r) y.1).1) 21 (bOut S (bSt S r) y.1).2.1) 20 (fun _ => nI (bOut S (bSt S r) y.1).2.2)) y.2 ∧ zOn zTM h y.2) (fun y => 12 - y.1) (fun y => [(0, .ref (E 0)), (2, .int (nI y.1))]) (fun y => []) (fun y => y.2) (fun y => 0) (fun y => 0) ?_ (0, h10006) (⟨Nat.zero_le _, D10008, o10009⟩)
    intro ⟨p, h2⟩ hI ihO
    try dsimp only at hI
    try dsimp only at ihO
    try dsimp only
    obtain ⟨j1, j2, j3⟩ := hI
    have hB : zBI S (bOut S (bSt S r) p) := (zBI.st F hrm).out F p
    have hB12 := hB.le F
    have hstep : p < (bOut S (bSt S r) p).2.2 → bOut S (bSt S r) (p + 1) = bIn S (zn ((bOut S (bSt S r) p).2.1 p)) (bOut S (bSt S r) p) (zn (S 2 (zn ((bOut S (bSt S r) p).2.1 p)))) := fun z => if_pos z
    have hend : (bOut S (bSt S r) p).2.2 ≤ p → bEnd S r = bOut S (bSt S r) p := fun z => bEnd_is F hrm z (by omega)
    generalize bOut S (bSt S r) p = q at *
    refine z_iload_n X 1 dX7_findOrder_44 rfl ?_
    refine z_aload_n X 0 dX7_findOrder_45 zref.r rfl ?_
    refine z_get X zP6 20 (by decide) q1583 (Or.inl rfl) (v := .int (nI q.2.2)) j2.1 (by decide) rfl dX7_findOrder_46 ?_
    refine z_icmpU_ge X p q.2.2 138 dX7_findOrder_49 (by decide) rfl rfl (by omega) (by omega) (fun c10010 => ?_) (fun c10010 => ?_)
    · exact z_vret X hr hlk dX7_findOrder_138 (by first | exact Nat.le_of_ble_eq_true rfl | (dsimp only [zRm]; omega) | omega) (by first | exact Nat.le_of_ble_eq_true rfl | (dsimp only [zRm]; omega) | omega) ⟨rfl, by unfold ordF; rw [hend (by omega)]; exact j2, j3⟩
    · refine z_aload_n X 0 dX7_findOrder_52 zref.r rfl ?_
      refine z_get X zP6 21 (by decide) q1584 (Or.inl rfl) j2.1 (by decide) rfl dX7_findOrder_53 ?_
      refine z_iload_n X 1 dX7_findOrder_56 rfl ?_
      refine z_iald X (v := .int (q.2.1 p)) p (j2.2.1 21 rfl) (by decide) rfl (by show _ < 12; omega) (by decide) rfl dX7_findOrder_57 ?_
      refine z_istore_n X (lv' := [(3, .int (q.2.1 p)), (0, .ref (E 0)), (2, .int (nI p))]) dX7_findOrder_58 (by decide) rfl ?_
      refine z_iconst X (nI 0) dX7_findOrder_59 (by decide) ?_
      refine z_istore X (lv' := [(4, .int (nI 0)), (3, .int (q.2.1 p)), (0, .ref (E 0)), (2, .int (nI p))]) dX7_findOrder_60 (by decide) rfl ?_
      have hqm := hB.1 p (by omega)
      have hcn := F.nc (zn (q.2.1 p))
      refine z_lvp (lv' := [(0, .ref (E 0)), (2, .int (nI p)), (3, .int (q.2.1 p)), (4, .int (nI 0))]) [2, 3, 1, 0] rfl ?_
      refine z_loop (σ := Nat × ZH) (fun y => y.1 ≤ zn (S 2 (zn (q.2.1 p))) ∧ MD E (zsa (zsa (zsa S 22 (bIn S (zn (q.2.1 p)) q y.1).1) 21 (bIn S (zn (q.2.1 p)) q y.1).2.1) 20 (fun _ => nI (bIn S (zn (q.2.1 p)) q y.1).2.2)) y.2 ∧ zOn zTM h y.2) (fun y => zn (S 2 (zn (q.2.1 p))) - y.1) (fun y => [(0, .ref (E 0)), (2, .int (nI p)), (3, .int (q.2.1 p)), (4, .int (nI y.1))]) (fun y => []) (fun y => y.2) (fun y => 0) (fun y => 0) ?_ (0, h2) (⟨Nat.zero_le _, j2, j3⟩)
      intro ⟨k, h3⟩ hI ih
      try dsimp only at hI
      try dsimp only at ih
      try dsimp only
      obtain ⟨l1, l2, l3⟩ := hI
      obtain ⟨hC, hCn⟩ := zBI.bin F hB (m := zn (q.2.1 p)) k l1
      have hC12 := hC.le F
      have hsame : ∀ w0 : BfS, bStep S (zn (q.2.1 p)) k (bIn S (zn (q.2.1 p)) q k) = w0 → bIn S (zn (q.2.1 p)) q (k + 1) = w0 := fun w0 z => z
      have hCs : k < zn (S 2 (zn (q.2.1 p))) → (bStep S (zn (q.2.1 p)) k (bIn S (zn (q.2.1 p)) q k)).2.2 ≤ 12 := fun z => (hC.step F z).1.le F
      have hkk : zn (S 2 (zn (q.2.1 p))) ≤ k → bIn S (zn (q.2.1 p)) q k = bIn S (zn (q.2.1 p)) q (zn (S 2 (zn (q.2.1 p)))) := fun z => by rw [show k = zn (S 2 (zn (q.2.1 p))) from by omega]
      generalize bIn S (zn (q.2.1 p)) q k = c at *
      refine z_iload X 3 dX7_findOrder_62 rfl ?_
      refine z_aload_n X 0 dX7_findOrder_64 zref.r rfl ?_
      refine z_get X zP6 2 (by decide) q1565 (Or.inl rfl) l2.1 (by decide) rfl dX7_findOrder_65 ?_
      refine z_iload_n X 2 dX7_findOrder_68 rfl ?_
      refine z_iald X (v := .int ((S 2) (zn (q.2.1 p)))) (zn (q.2.1 p)) (l2.2.1 2 rfl) (by decide) (nI_zn _).symm (by show _ < 12; omega) (by decide) rfl dX7_findOrder_69 ?_
      refine z_icmpU_ge X k (zn ((S 2) (zn (q.2.1 p)))) 132 dX7_findOrder_70 (by decide) rfl (nI_zn _).symm (by omega) (zn_lt _) (fun c10011 => ?_) (fun c10011 => ?_)
      · have hkk := hkk (by omega)
        refine z_iinc X (lv' := [(2, .int (nI (p + 1))), (0, .ref (E 0)), (3, .int (q.2.1 p)), (4, .int (nI k))]) (nI (p + 1)) 1 dX7_findOrder_132 rfl (nI_1 _) (by decide) rfl ?_
        refine z_goto X 44 dX7_findOrder_135 (by decide) ?_
        refine z_lvp (lv' := [(0, .ref (E 0)), (2, .int (nI (p + 1)))]) [1, 0] rfl ?_
        exact ihO (p + 1, h3) ⟨by dsimp only; rw [hstep (by omega), ← hkk]; omega, by dsimp only; rw [hstep (by omega), ← hkk]; exact l2, l3⟩ (by dsimp only; omega)
      · refine z_aload_n X 0 dX7_findOrder_73 zref.r rfl ?_
        refine z_get X zP6 1 (by decide) q1564 (Or.inl rfl) l2.1 (by decide) rfl dX7_findOrder_74 ?_
        refine z_bipush X (nI 6) dX7_findOrder_77 (by decide) ?_
        refine z_iload_n X 2 dX7_findOrder_79 rfl ?_
        refine z_imul X (nI (6 * (zn (q.2.1 p)))) dX7_findOrder_80 (zmul rfl (nI_zn _).symm) ?_
        refine z_iload X 3 dX7_findOrder_81 rfl ?_
        refine z_iadd X (nI ((6 * (zn (q.2.1 p))) + k)) dX7_findOrder_83 (zadd rfl rfl) ?_
        refine z_iald X (v := .int ((S 1) ((6 * (zn (q.2.1 p))) + k))) ((6 * (zn (q.2.1 p))) + k) (l2.2.1 1 rfl) (by decide) rfl (by show _ < 72; omega) (by decide) rfl dX7_findOrder_84 ?_
        refine z_istore X (lv' := [(5, .int ((S 1) ((6 * (zn (q.2.1 p))) + k))), (0, .ref (E 0)), (2, .int (nI p)), (3, .int (q.2.1 p)), (4, .int (nI k))]) dX7_findOrder_85 (by decide) rfl ?_
        have hnd := F.nd (zn (q.2.1 p)) k (by omega)
        refine z_aload_n X 1 dX7_findOrder_87 zref.r rfl ?_
        refine z_get X zP6 22 (by decide) q1585 (Or.inl rfl) l2.1 (by decide) rfl dX7_findOrder_88 ?_
        refine z_iload X 0 dX7_findOrder_91 rfl ?_
        refine z_zald X (v := .int (c.1 (zn ((S 1) ((6 * (zn (q.2.1 p))) + k))))) (zn ((S 1) ((6 * (zn (q.2.1 p))) + k))) (l2.2.1 22 rfl) (by decide) (nI_zn _).symm (by show _ < 12; omega) (by decide) rfl dX7_findOrder_93 ?_
        refine z_ifU_ne X (zn (c.1 (zn ((S 1) ((6 * (zn (q.2.1 p))) + k))))) 126 dX7_findOrder_94 (by decide) (nI_zn _).symm (zn_lt _) (fun c10012 => ?_) (fun c10012 => ?_)
        · refine z_iinc X (lv' := [(4, .int (nI (k + 1))), (5, .int ((S 1) ((6 * (zn (q.2.1 p))) + k))), (0, .ref (E 0)), (2, .int (nI p)), (3, .int (q.2.1 p))]) (nI (k + 1)) 4 dX7_findOrder_126 rfl (nI_1 _) (by decide) rfl ?_
          refine z_goto X 62 dX7_findOrder_129 (by decide) ?_
          refine z_lvp (lv' := [(0, .ref (E 0)), (2, .int (nI p)), (3, .int (q.2.1 p)), (4, .int (nI (k + 1)))]) [2, 3, 4, 0] rfl ?_
          exact ih (k + 1, h3) ⟨by dsimp only; omega, by dsimp only; rw [hsame c (if_neg (fun z => by rw [zeq_iff, zc0] at z; omega))]; exact l2, l3⟩ (by dsimp only; omega)
        · have hbs : bStep S (zn (q.2.1 p)) k c = (zu c.1 (zn (S 1 (6 * zn (q.2.1 p) + k))) 1, zu c.2.1 c.2.2 (S 1 (6 * zn (q.2.1 p) + k)), c.2.2 + 1) := if_pos (zn_inj (by show _ = 0; omega))
          have hc11 := hCs (by omega)
          rw [hbs] at hc11
          dsimp only at hc11
          refine z_aload_n X 1 dX7_findOrder_97 zref.r rfl ?_
          refine z_get X zP6 22 (by decide) q1585 (Or.inl rfl) l2.1 (by decide) rfl dX7_findOrder_98 ?_
          refine z_iload X 0 dX7_findOrder_101 rfl ?_
          refine z_iconst X (nI 1) dX7_findOrder_103 (by decide) ?_
          refine z_zast X (zn ((S 1) ((6 * (zn (q.2.1 p))) + k))) (l2.2.1 22 rfl) (by decide) (by decide) (nI_zn _).symm (by show _ < 12; omega) (by decide) (zfits.b1) (f' := fun i => .int ((zu c.1 (zn ((S 1) ((6 * (zn (q.2.1 p))) + k))) (nI 1)) i)) (fun _ => zu_v _) dX7_findOrder_104 ?_
          refine z_nm fun h10013 e10014 => ?_
          have D10015 : MD E (zsa (zsa (zsa (zsa S 22 c.1) 21 c.2.1) 20 (fun _ => nI c.2.2)) 22 (zu c.1 (zn ((S 1) ((6 * (zn (q.2.1 p))) + k))) (nI 1))) h10013 := l2.sA 22 rfl e10014
          have o10016 := zOn.up l3 e10014 (l2.2.1 22 rfl) (by decide)
          refine z_aload_n X 1 dX7_findOrder_105 zref.r rfl ?_
          refine z_get X zP6 21 (by decide) q1584 (Or.inl rfl) D10015.1 (by decide) rfl dX7_findOrder_106 ?_
          refine z_aload_n X 1 dX7_findOrder_109 zref.r rfl ?_
          refine z_get X zP6 20 (by decide) q1583 (Or.inl rfl) (v := .int (nI c.2.2)) D10015.1 (by decide) rfl dX7_findOrder_110 ?_
          refine z_iload X 0 dX7_findOrder_113 rfl ?_
          refine z_iast X c.2.2 (D10015.2.1 21 rfl) (by decide) (by decide) rfl (by show _ < 12; omega) (by decide) (f' := fun i => .int ((zu c.2.1 c.2.2 ((S 1) ((6 * (zn (q.2.1 p))) + k))) i)) (fun _ => zu_v _) dX7_findOrder_115 ?_
          refine z_nm fun h10017 e10018 => ?_
          have D10019 : MD E (zsa (zsa (zsa (zsa (zsa S 22 c.1) 21 c.2.1) 20 (fun _ => nI c.2.2)) 22 (zu c.1 (zn ((S 1) ((6 * (zn (q.2.1 p))) + k))) (nI 1))) 21 (zu c.2.1 c.2.2 ((S 1) ((6 * (zn (q.2.1 p))) + k)))) h10017 := D10015.sA 21 rfl e10018
          have o10020 := zOn.up o10016 e10018 (D10015.2.1 21 rfl) (by decide)
          refine z_aload_n X 1 dX7_findOrder_116 zref.r rfl ?_
          refine z_dup X dX7_findOrder_117 rfl ?_
          refine z_get X zP6 20 (by decide) q1583 (Or.inl rfl) (v := .int (nI c.2.2)) D10019.1 (by decide) rfl dX7_findOrder_118 ?_
          refine z_iconst X (nI 1) dX7_findOrder_121 (by decide) ?_
          refine z_iadd X (nI (c.2.2 + 1)) dX7_findOrder_122 (zadd rfl rfl) ?_
          refine z_put X zP6 20 (by decide) q1583 (Or.inl rfl) rfl D10019.1 (by decide) (by decide) (zfits.i _) (Nat.le_of_ble_eq_true rfl) rfl dX7_findOrder_123 ?_
          refine z_nm fun h10021 e10022 => ?_
          have D10023 : MD E (zsa (zsa (zsa (zsa (zsa (zsa S 22 c.1) 21 c.2.1) 20 (fun _ => nI c.2.2)) 22 (zu c.1 (zn ((S 1) ((6 * (zn (q.2.1 p))) + k))) (nI 1))) 21 (zu c.2.1 c.2.2 ((S 1) ((6 * (zn (q.2.1 p))) + k)))) 20 (fun _ => nI (c.2.2 + 1))) h10021 := D10019.sF 20 (by decide) e10022
          have o10024 := zOn.up o10020 e10022 D10019.1 (by decide)
          refine z_iinc X (lv' := [(4, .int (nI (k + 1))), (5, .int ((S 1) ((6 * (zn (q.2.1 p))) + k))), (0, .ref (E 0)), (2, .int (nI p)), (3, .int (q.2.1 p))]) (nI (k + 1)) 4 dX7_findOrder_126 rfl (nI_1 _) (by decide) rfl ?_
          refine z_goto X 62 dX7_findOrder_129 (by decide) ?_
          refine z_lvp (lv' := [(0, .ref (E 0)), (2, .int (nI p)), (3, .int (q.2.1 p)), (4, .int (nI (k + 1)))]) [2, 3, 4, 0] rfl ?_
          exact ih (k + 1, h10021) ⟨by dsimp only; omega, by dsimp only; rw [hsame _ hbs]; have z9 := D10023; rw [zsa_o3] at z9; exact z9, o10024⟩ (by dsimp only; omega)
  · refine z_aload_n X 0 dX7_findOrder_8 zref.r rfl ?_
    refine z_get X zP6 22 (by decide) q1585 (Or.inl rfl) i2.1 (by decide) rfl dX7_findOrder_9 ?_
    refine z_iload_n X 2 dX7_findOrder_12 rfl ?_
    refine z_iload_n X 2 dX7_findOrder_13 rfl ?_
    refine z_iload_n X 1 dX7_findOrder_14 rfl ?_
    refine z_icmpU_ne X k r 22 dX7_findOrder_15 (by decide) rfl rfl (by omega) (by omega) (fun c10025 => ?_) (fun c10025 => ?_)
    · refine z_iconst X (nI 0) dX7_findOrder_22 (by decide) ?_
      refine z_zast X k (i2.2.1 22 rfl) (by decide) (by decide) rfl (by show _ < 12; omega) (by decide) (zfits.b0) (f' := fun i => .int ((zu (zfil (fun i => if i = r then 1 else 0) (S 22) k) k (nI 0)) i)) (fun _ => zu_v _) dX7_findOrder_23 ?_
      refine z_nm fun h10026 e10027 => ?_
      have D10028 : MD E (zsa (zsa S 22 (zfil (fun i => if i = r then 1 else 0) (S 22) k)) 22 (zu (zfil (fun i => if i = r then 1 else 0) (S 22) k) k (nI 0))) h10026 := i2.sA 22 rfl e10027
      have o10029 := zOn.up i3 e10027 (i2.2.1 22 rfl) (by decide)
      refine z_iinc X (lv' := [(2, .int (nI (k + 1))), (0, .ref (E 0)), (1, .int (nI r))]) (nI (k + 1)) 2 dX7_findOrder_24 rfl (nI_1 _) (by decide) rfl ?_
      refine z_goto X 2 dX7_findOrder_27 (by decide) ?_
      refine z_lvp (lv' := [(0, .ref (E 0)), (1, .int (nI r)), (2, .int (nI (k + 1)))]) [1, 2, 0] rfl ?_
      exact ih (k + 1, h10026) ⟨by omega, by have z9 := D10028; rw [zsa_zsa, zfil_s (by first | exact if_pos (by omega) | exact if_neg (by omega))] at z9; exact z9, o10029⟩ (by dsimp only; omega)
    · refine z_iconst X (nI 1) dX7_findOrder_18 (by decide) ?_
      refine z_goto X 23 dX7_findOrder_19 (by decide) ?_
      refine z_zast X k (i2.2.1 22 rfl) (by decide) (by decide) rfl (by show _ < 12; omega) (by decide) (zfits.b1) (f' := fun i => .int ((zu (zfil (fun i => if i = r then 1 else 0) (S 22) k) k (nI 1)) i)) (fun _ => zu_v _) dX7_findOrder_23 ?_
      refine z_nm fun h10030 e10031 => ?_
      have D10032 : MD E (zsa (zsa S 22 (zfil (fun i => if i = r then 1 else 0) (S 22) k)) 22 (zu (zfil (fun i => if i = r then 1 else 0) (S 22) k) k (nI 1))) h10030 := i2.sA 22 rfl e10031
      have o10033 := zOn.up i3 e10031 (i2.2.1 22 rfl) (by decide)
      refine z_iinc X (lv' := [(2, .int (nI (k + 1))), (0, .ref (E 0)), (1, .int (nI r))]) (nI (k + 1)) 2 dX7_findOrder_24 rfl (nI_1 _) (by decide) rfl ?_
      refine z_goto X 2 dX7_findOrder_27 (by decide) ?_
      refine z_lvp (lv' := [(0, .ref (E 0)), (1, .int (nI r)), (2, .int (nI (k + 1)))]) [1, 2, 0] rfl ?_
      exact ih (k + 1, h10030) ⟨by omega, by have z9 := D10032; rw [zsa_zsa, zfil_s (by first | exact if_pos (by omega) | exact if_neg (by omega))] at z9; exact z9, o10033⟩ (by dsimp only; omega)
