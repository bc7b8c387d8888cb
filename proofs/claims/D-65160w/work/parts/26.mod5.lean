set_option maxRecDepth 100000
theorem zsa_id {S : ZS} {k : Nat} : zsa S k (S k) = S := by
  funext j
  by_cases h : j = k
  · subst h; exact zsa_s
  · exact zsa_n h
theorem zsa_zsa {S : ZS} {k : Nat} {f g : Nat → Int32} : zsa (zsa S k f) k g = zsa S k g := by
  funext j
  by_cases h : j = k
  · subst h; rw [zsa_s, zsa_s]
  · rw [zsa_n h, zsa_n h, zsa_n h]
theorem zsa_cm {S : ZS} {k j : Nat} {f g : Nat → Int32} (h : k ≠ j) : zsa (zsa S k f) j g = zsa (zsa S j g) k f := by
  funext i
  by_cases h1 : i = k
  · subst h1; rw [zsa_n h, zsa_s, zsa_s]
  · by_cases h2 : i = j
    · subst h2; rw [zsa_s, zsa_n h1, zsa_s]
    · rw [zsa_n h2, zsa_n h1, zsa_n h1, zsa_n h2]
def zfil (g f : Nat → Int32) (k : Nat) : Nat → Int32 := fun i => if i < k then g i else f i
theorem zfil_0 {g f : Nat → Int32} : zfil g f 0 = f := by funext i; exact if_neg (Nat.not_lt_zero _)
theorem zfil_s {g f : Nat → Int32} {k : Nat} {v : Int32} (h : g k = v) : zu (zfil g f k) k v = zfil g f (k + 1) := by
  funext i
  unfold zu zfil
  by_cases h1 : i = k
  · subst h1; rw [if_pos rfl, if_pos (by omega), h]
  · rw [if_neg h1]
    by_cases h2 : i < k
    · rw [if_pos h2, if_pos (by omega)]
    · rw [if_neg h2, if_neg (by omega)]
theorem ofL_cg {S S' : ZS} (h3 : S' 3 = S 3) {m : Nat} {x : Int32} : ∀ n, ofL S' m x n = ofL S m x n
  | 0 => rfl
  | n + 1 => by simp only [ofL]; rw [ofL_cg h3 n, h3]
theorem ofN_cg {S S' : ZS} (h3 : S' 3 = S 3) (h7 : S' 7 = S 7) {m : Nat} {x : Int32} : ofN S' m x = ofN S m x := by unfold ofN; rw [h7, ofL_cg h3]
theorem opn_cg {S S' : ZS} (h3 : S' 3 = S 3) (h6 : S' 6 = S 6) (h7 : S' 7 = S 7) {l : Nat → Int32} {x : Int32} : ∀ p, opn S' l x p = opn S l x p
  | 0 => rfl
  | p + 1 => by simp only [opn]; rw [ofN_cg h3 h7, opn_cg h3 h6 h7 p, h6]
theorem fnd_cg {S S' : ZS} (h3 : S' 3 = S 3) (h6 : S' 6 = S 6) (h7 : S' 7 = S 7) {l : Nat → Int32} {n m : Nat} {x : Int32} : fnd S' l n m x = fnd S l n m x := by
  unfold fnd; rw [ofN_cg h3 h7, opn_cg h3 h6 h7, h6]
theorem ZWF.cg {S S' : ZS} (F : ZWF S) (h : ∀ k, k < 12 → S' k = S k) : ZWF S' := by
  unfold ZWF
  rw [h 0 (by decide), h 1 (by decide), h 2 (by decide), h 3 (by decide), h 4 (by decide), h 5 (by decide), h 6 (by decide), h 7 (by decide), h 8 (by decide), h 9 (by decide), h 10 (by decide), h 11 (by decide)]
  exact F
theorem ZWL.cg {S S' : ZS} (F : ZWL S) (h : ∀ k, 14 ≤ k → k < 18 → S' k = S k) : ZWL S' := by
  unfold ZWL
  rw [h 14 (by decide) (by decide), h 15 (by decide) (by decide), h 16 (by decide) (by decide), h 17 (by decide) (by decide)]
  exact F
def slG (S : ZS) (p n : Nat) : Nat → Int32 := fun i => if i < 768 then (if (zinO S p (i / 64) = true ∨ (i / 64 = zn (S 16 p) ∧ i % 64 < n)) ∧ zuse S (i / 64) (i % 64) = true then slV S (i / 64) (i % 64) else -1) else S 18 i
theorem slG_0 {S : ZS} : slG S 0 0 = zfil (fun _ => -1) (S 18) 768 := by
  funext i
  unfold slG zfil
  by_cases h : i < 768
  · rw [if_pos h, if_pos h, if_neg]
    rintro ⟨h1 | h1, -⟩
    · obtain ⟨p, hp, -⟩ := zinO_iff.mp h1; omega
    · omega
  · rw [if_neg h, if_neg h]
theorem slG_end {S : ZS} {p : Nat} : slG S p 0 = slF S p := by
  funext i
  unfold slG slF
  have h1 : (zinO S p (i / 64) = true ∨ (i / 64 = zn (S 16 p) ∧ i % 64 < 0)) ↔ zinO S p (i / 64) = true := ⟨fun z => z.elim id (fun z => absurd z.2 (Nat.not_lt_zero _)), Or.inl⟩
  simp only [h1]
theorem slG_next {S : ZS} {p : Nat} : slG S p 64 = slG S (p + 1) 0 := by
  funext i
  unfold slG
  have h1 : (zinO S p (i / 64) = true ∨ (i / 64 = zn (S 16 p) ∧ i % 64 < 64)) ↔ (zinO S (p + 1) (i / 64) = true ∨ (i / 64 = zn (S 16 (p + 1)) ∧ i % 64 < 0)) := by
    rw [zinO_iff, zinO_iff]
    constructor
    · rintro (⟨q, h1, h2⟩ | ⟨h1, h2⟩)
      · exact Or.inl ⟨q, by omega, h2⟩
      · exact Or.inl ⟨p, by omega, h1.symm⟩
    · rintro (⟨q, h1, h2⟩ | ⟨h1, h2⟩)
      · by_cases z : q = p
        · subst z; exact Or.inr ⟨h2.symm, by omega⟩
        · exact Or.inl ⟨q, by omega, h2⟩
      · omega
  simp only [h1]
theorem slG_use {S : ZS} {p n : Nat} (hm : zn (S 16 p) < 12) (hn : n < 64) (hu : zuse S (zn (S 16 p)) n = true) : zu (slG S p n) (64 * zn (S 16 p) + n) (slV S (zn (S 16 p)) n) = slG S p (n + 1) := by
  funext i
  unfold zu
  by_cases h : i = 64 * zn (S 16 p) + n
  · rw [if_pos h]
    unfold slG
    have e1 : i / 64 = zn (S 16 p) := by omega
    have e2 : i % 64 = n := by omega
    rw [if_pos (by omega), if_pos ⟨Or.inr ⟨e1, by omega⟩, by rw [e1, e2]; exact hu⟩, e1, e2]
  · rw [if_neg h]
    unfold slG
    have h1 : (zinO S p (i / 64) = true ∨ (i / 64 = zn (S 16 p) ∧ i % 64 < n)) ↔ (zinO S p (i / 64) = true ∨ (i / 64 = zn (S 16 p) ∧ i % 64 < n + 1)) := by
      constructor
      · rintro (z | z)
        · exact Or.inl z
        · exact Or.inr ⟨z.1, by omega⟩
      · rintro (z | z)
        · exact Or.inl z
        · exact Or.inr ⟨z.1, by omega⟩
    simp only [h1]
theorem slG_no {S : ZS} {p n : Nat} (hu : ¬ zuse S (zn (S 16 p)) n = true) : slG S p n = slG S p (n + 1) := by
  funext i
  unfold slG
  have h1 : ((zinO S p (i / 64) = true ∨ (i / 64 = zn (S 16 p) ∧ i % 64 < n)) ∧ zuse S (i / 64) (i % 64) = true) ↔ ((zinO S p (i / 64) = true ∨ (i / 64 = zn (S 16 p) ∧ i % 64 < n + 1)) ∧ zuse S (i / 64) (i % 64) = true) := by
    constructor
    · rintro ⟨z | z, w⟩
      · exact ⟨Or.inl z, w⟩
      · exact ⟨Or.inr ⟨z.1, by omega⟩, w⟩
    · rintro ⟨z | z, w⟩
      · exact ⟨Or.inl z, w⟩
      · by_cases e : i % 64 = n
        · rw [z.1, e] at w; exact absurd w hu
        · exact ⟨Or.inr ⟨z.1, by omega⟩, w⟩
  simp only [h1]
set_option maxHeartbeats 8000000 in
theorem c_X7_setAll {l : Launch} {G : ZG} {h : ZH} {E : Nat → Nat} {S : ZS}  (D : MD E S h) (F : ZWF S) (FL : ZWL S) : ZM l G yX7_setAll (ws_ yX7_setAll cX7_setAll 4 (Option.none : Option FieldType)) (zRm 2 0 0 70) [.ref (E 0)] h (fun v h' => v = none ∧ MD E (allF S) h' ∧ zOn zTM h h') := by
  refine ZT.zm (ZT.of (by first | exact plainFor_of_name (by decide) | decide +kernel) (Nat.le_of_ble_eq_true rfl) (zcats.r zref.r zcats.nil) ?_)
  intro p_ e_ s_ m_ args_ below_ meth_ c_ X hr hlk hin htab
  have X : ZX p_ m_ c_ cX7_setAll 4 s_ args_ "LinkStationModel" G := X
  refine z_lv (lv' := [(0, .ref (E 0))]) (fun _ hq => hq) ?_
  have hM := FL.1
  have hO := FL.2.1
  refine z_iconst X (nI 0) dX7_setAll_0 (by decide) ?_
  refine z_istore_n X (lv' := [(1, .int (nI 0)), (0, .ref (E 0))]) dX7_setAll_1 (by decide) rfl ?_
  refine z_lvp (lv' := [(0, .ref (E 0)), (1, .int (nI 0))]) [1, 0] rfl ?_
  refine z_loop (σ := Nat × ZH) (fun y => y.1 ≤ 768 ∧ MD E (zsa S 18 (zfil (fun _ => -1) (S 18) y.1)) y.2 ∧ zOn zTM h y.2) (fun y => 768 - y.1) (fun y => [(0, .ref (E 0)), (1, .int (nI y.1))]) (fun y => []) (fun y => y.2) (fun y => 0) (fun y => 0) ?_ (0, h) (⟨by omega, by rw [zfil_0, zsa_id]; exact D, zOn.rf⟩)
  intro ⟨k, h1⟩ hI ih
  try dsimp only at hI
  try dsimp only at ih
  try dsimp only
  obtain ⟨i1, i2, i3⟩ := hI
  refine z_iload_n X 1 dX7_setAll_2 rfl ?_
  refine z_sipush X (nI 768) dX7_setAll_3 (by decide) ?_
  refine z_icmpU_ge X k 768 22 dX7_setAll_6 (by decide) rfl rfl (by omega) (by omega) (fun c8001 => ?_) (fun c8001 => ?_)
  · refine z_iconst X (nI 0) dX7_setAll_22 (by decide) ?_
    refine z_istore_n X (lv' := [(1, .int (nI 0)), (0, .ref (E 0))]) dX7_setAll_23 (by decide) rfl ?_
    have hk : k = 768 := by omega
    subst hk
    refine z_lvp (lv' := [(0, .ref (E 0)), (1, .int (nI 0))]) [1, 0] rfl ?_
    refine z_loop (σ := Nat × ZH) (fun y => y.1 ≤ zn (S 15 0) ∧ MD E (zsa S 18 (slG S y.1 0)) y.2 ∧ zOn zTM h y.2) (fun y => zn (S 15 0) - y.1) (fun y => [(0, .ref (E 0)), (1, .int (nI y.1))]) (fun y => []) (fun y => y.2) (fun y => 0) (fun y => 0) ?_ (0, h1) (⟨Nat.zero_le _, by rw [slG_0]; exact i2, i3⟩)
    intro ⟨p, h2⟩ hI ih24
    try dsimp only at hI
    try dsimp only at ih24
    try dsimp only
    obtain ⟨j1, j2, j3⟩ := hI
    refine z_iload_n X 1 dX7_setAll_24 rfl ?_
    refine z_aload_n X 0 dX7_setAll_25 zref.r rfl ?_
    refine z_get X zP6 15 (by decide) q1578 (Or.inl rfl) (v := .int (S 15 0)) j2.1 (by decide) rfl dX7_setAll_26 ?_
    refine z_icmpU_ge X p (zn (S 15 0)) 109 dX7_setAll_29 (by decide) rfl (nI_zn _).symm (by omega) (zn_lt _) (fun c8002 => ?_) (fun c8002 => ?_)
    · refine z_iconst X (nI 0) dX7_setAll_109 (by decide) ?_
      refine z_istore_n X (lv' := [(1, .int (nI 0)), (0, .ref (E 0))]) dX7_setAll_110 (by decide) rfl ?_
      have hp : p = zn (S 15 0) := by omega
      have hD2 : MD E (zsa (zsa S 18 (slF S (zn (S 15 0)))) 19 (zfil (S 5) (S 19) 0)) h2 := by rw [zfil_0, ← slG_end, ← hp, show S 19 = (zsa S 18 (slG S p 0)) 19 from rfl, zsa_id]; exact j2
      refine z_lvp (lv' := [(0, .ref (E 0)), (1, .int (nI 0))]) [1, 0] rfl ?_
      refine z_loop (σ := Nat × ZH) (fun y => y.1 ≤ 240 ∧ MD E (zsa (zsa S 18 (slF S (zn (S 15 0)))) 19 (zfil (S 5) (S 19) y.1)) y.2 ∧ zOn zTM h y.2) (fun y => 240 - y.1) (fun y => [(0, .ref (E 0)), (1, .int (nI y.1))]) (fun y => []) (fun y => y.2) (fun y => 0) (fun y => 0) ?_ (0, h2) (⟨by omega, hD2, j3⟩)
      intro ⟨k, h4⟩ hI ih
      try dsimp only at hI
      try dsimp only at ih
      try dsimp only
      obtain ⟨q1, q2, q3⟩ := hI
      refine z_iload_n X 1 dX7_setAll_111 rfl ?_
      refine z_sipush X (nI 240) dX7_setAll_112 (by decide) ?_
      refine z_icmpU_ge X k 240 136 dX7_setAll_115 (by decide) rfl rfl (by omega) (by omega) (fun c8003 => ?_) (fun c8003 => ?_)
      · exact z_vret X hr hlk dX7_setAll_136 (by first | exact Nat.le_of_ble_eq_true rfl | (dsimp only [zRm]; omega) | omega) (by first | exact Nat.le_of_ble_eq_true rfl | (dsimp only [zRm]; omega) | omega) ⟨rfl, by rw [show k = 240 from by omega] at q2; exact q2, q3⟩
      · refine z_aload_n X 0 dX7_setAll_118 zref.r rfl ?_
        refine z_get X zP6 19 (by decide) q1582 (Or.inl rfl) q2.1 (by decide) rfl dX7_setAll_119 ?_
        refine z_iload_n X 1 dX7_setAll_122 rfl ?_
        refine z_aload_n X 0 dX7_setAll_123 zref.r rfl ?_
        refine z_get X zP6 5 (by decide) q1568 (Or.inl rfl) q2.1 (by decide) rfl dX7_setAll_124 ?_
        refine z_iload_n X 1 dX7_setAll_127 rfl ?_
        refine z_iald X (v := .int ((S 5) k)) k (q2.2.1 5 rfl) (by decide) rfl (by show _ < 240; omega) (by decide) rfl dX7_setAll_128 ?_
        refine z_iast X k (q2.2.1 19 rfl) (by decide) (by decide) rfl (by show _ < 240; omega) (by decide) (f' := fun i => .int ((zu (zfil (S 5) (S 19) k) k ((S 5) k)) i)) (fun _ => zu_v _) dX7_setAll_129 ?_
        refine z_nm fun h8004 e8005 => ?_
        have D8006 : MD E (zsa (zsa (zsa S 18 (slF S (zn (S 15 0)))) 19 (zfil (S 5) (S 19) k)) 19 (zu (zfil (S 5) (S 19) k) k ((S 5) k))) h8004 := q2.sA 19 rfl e8005
        have o8007 := zOn.up q3 e8005 (q2.2.1 19 rfl) (by decide)
        refine z_iinc X (lv' := [(1, .int (nI (k + 1))), (0, .ref (E 0))]) (nI (k + 1)) 1 dX7_setAll_130 rfl (nI_1 _) (by decide) rfl ?_
        refine z_goto X 111 dX7_setAll_133 (by decide) ?_
        refine z_lvp (lv' := [(0, .ref (E 0)), (1, .int (nI (k + 1)))]) [1, 0] rfl ?_
        exact ih (k + 1, h8004) ⟨by omega, by have z9 := D8006; rw [zsa_zsa, zfil_s rfl] at z9; exact z9, o8007⟩ (by dsimp only; omega)
    · refine z_aload_n X 0 dX7_setAll_32 zref.r rfl ?_
      refine z_get X zP6 16 (by decide) q1579 (Or.inl rfl) j2.1 (by decide) rfl dX7_setAll_33 ?_
      refine z_iload_n X 1 dX7_setAll_36 rfl ?_
      refine z_iald X (v := .int ((S 16) p)) p (j2.2.1 16 rfl) (by decide) rfl (by show _ < 12; omega) (by decide) rfl dX7_setAll_37 ?_
      refine z_istore_n X (lv' := [(2, .int ((S 16) p)), (0, .ref (E 0)), (1, .int (nI p))]) dX7_setAll_38 (by decide) rfl ?_
      refine z_iconst X (nI 0) dX7_setAll_39 (by decide) ?_
      refine z_istore_n X (lv' := [(3, .int (nI 0)), (2, .int ((S 16) p)), (0, .ref (E 0)), (1, .int (nI p))]) dX7_setAll_40 (by decide) rfl ?_
      have hpm := hO p (by omega)
      refine z_lvp (lv' := [(0, .ref (E 0)), (1, .int (nI p)), (2, .int ((S 16) p)), (3, .int (nI 0))]) [2, 3, 1, 0] rfl ?_
      refine z_loop (σ := Nat × ZH) (fun y => y.1 ≤ 64 ∧ MD E (zsa S 18 (slG S p y.1)) y.2 ∧ zOn zTM h y.2) (fun y => 64 - y.1) (fun y => [(0, .ref (E 0)), (1, .int (nI p)), (2, .int (S 16 p)), (3, .int (nI y.1))]) (fun y => []) (fun y => y.2) (fun y => 0) (fun y => 0) ?_ (0, h2) (⟨by omega, j2, j3⟩)
      intro ⟨n, h3⟩ hI ih
      try dsimp only at hI
      try dsimp only at ih
      try dsimp only
      obtain ⟨l1, l2, l3⟩ := hI
      refine z_iload_n X 3 dX7_setAll_41 rfl ?_
      refine z_bipush X (nI 64) dX7_setAll_42 (by decide) ?_
      refine z_icmpU_ge X n 64 103 dX7_setAll_44 (by decide) rfl rfl (by omega) (by omega) (fun c8008 => ?_) (fun c8008 => ?_)
      · refine z_iinc X (lv' := [(1, .int (nI (p + 1))), (0, .ref (E 0)), (2, .int (S 16 p)), (3, .int (nI n))]) (nI (p + 1)) 1 dX7_setAll_103 rfl (nI_1 _) (by decide) rfl ?_
        refine z_goto X 24 dX7_setAll_106 (by decide) ?_
        refine z_lvp (lv' := [(0, .ref (E 0)), (1, .int (nI (p + 1)))]) [1, 0] rfl ?_
        exact ih24 (p + 1, h3) ⟨by omega, by show MD E (zsa S 18 (slG S (p + 1) 0)) _; rw [← slG_next, show 64 = n from by omega]; exact l2, l3⟩ (by dsimp only; omega)
      · refine z_aload_n X 0 dX7_setAll_47 zref.r rfl ?_
        refine z_iload_n X 2 dX7_setAll_48 rfl ?_
        refine z_iload_n X 3 dX7_setAll_49 rfl ?_
        refine z_st (st' := [.int (nI n), .int (nI (zn (S 16 p))), .ref (E 0)]) (by simp only [nI_zn]) ?_
        refine z_callV X (rest := []) (c_X7_usesCall l2 (F.cg (by intro k hk; simp only [zsa]; repeat rw [if_neg (by omega)])) (m := zn (S 16 p)) (x := n) hpm (by omega)) (cwV 2 (zXts X) (lw_V q1754 q1756 qs38 q65 q1757) rfl rfl rfl (by decide +kernel) ⟨Nat.le_of_ble_eq_true rfl, Nat.le_of_ble_eq_true rfl⟩) l2.1 (by decide) rfl rfl (Nat.le_of_ble_eq_true rfl) ⟨(by first | exact Nat.le_of_ble_eq_true rfl | (dsimp only [zRm]; omega)), (by first | exact Nat.le_of_ble_eq_true rfl | (dsimp only [zRm]; omega))⟩ dX7_setAll_50 (fun v8010 h8011 p8012 => ?_)
        obtain ⟨⟨c8009, rfl⟩ | ⟨c8009, rfl⟩, rfl⟩ := p8012
        · refine z_st (st' := [.int (nI 1)]) rfl ?_
          have hus : zuse S (zn (S 16 p)) n = true := c8009
          refine z_ifU_eq X 1 97 dX7_setAll_53 (by decide) rfl (by omega) (fun c8013 => ?_) (fun c8013 => ?_)
          · omega
          · refine z_aload_n X 0 dX7_setAll_56 zref.r rfl ?_
            refine z_get X zP6 18 (by decide) q1581 (Or.inl rfl) l2.1 (by decide) rfl dX7_setAll_57 ?_
            refine z_bipush X (nI 64) dX7_setAll_60 (by decide) ?_
            refine z_iload_n X 2 dX7_setAll_62 rfl ?_
            refine z_imul X (nI (64 * (zn (S 16 p)))) dX7_setAll_63 (zmul rfl (nI_zn _).symm) ?_
            refine z_iload_n X 3 dX7_setAll_64 rfl ?_
            refine z_iadd X (nI ((64 * (zn (S 16 p))) + n)) dX7_setAll_65 (zadd rfl rfl) ?_
            refine z_aload_n X 0 dX7_setAll_66 zref.r rfl ?_
            refine z_get X zP6 13 (by decide) q1576 (Or.inl rfl) (v := .int (S 13 0)) l2.1 (by decide) rfl dX7_setAll_67 ?_
            refine z_ifU_eq X (zn (S 13 0)) 78 dX7_setAll_70 (by decide) (nI_zn _).symm (zn_lt _) (fun c8014 => ?_) (fun c8014 => ?_)
            · refine z_aload_n X 0 dX7_setAll_78 zref.r rfl ?_
              refine z_aload_n X 0 dX7_setAll_79 zref.r rfl ?_
              refine z_aload_n X 0 dX7_setAll_80 zref.r rfl ?_
              refine z_get X zP6 16 (by decide) q1579 (Or.inl rfl) l2.1 (by decide) rfl dX7_setAll_81 ?_
              refine z_aload_n X 0 dX7_setAll_84 zref.r rfl ?_
              refine z_get X zP6 15 (by decide) q1578 (Or.inl rfl) (v := .int (S 15 0)) l2.1 (by decide) rfl dX7_setAll_85 ?_
              refine z_iload_n X 2 dX7_setAll_88 rfl ?_
              refine z_iload_n X 3 dX7_setAll_89 rfl ?_
              refine z_st (st' := [.int (nI n), .int (S 16 p), .int (nI (zn (S 15 0))), .ref (E 16), .ref (E 0), .ref (E 0), .int (nI ((64 * (zn (S 16 p))) + n)), .ref (E 18)]) (by simp only [nI_zn]) ?_
              refine z_st (st' := [.int (nI n), .int (nI (zn (S 16 p))), .int (nI (zn (S 15 0))), .ref (E 16), .ref (E 0), .ref (E 0), .int (nI ((64 * (zn (S 16 p))) + n)), .ref (E 18)]) (by simp only [nI_zn]) ?_
              refine z_callV X (rest := [.ref (E 0), .int (nI ((64 * (zn (S 16 p))) + n)), .ref (E 18)]) (ZM.post (Post' := fun v h' => v = some (.int (oI (fnd S (S 16) (zn (S 15 0)) (zn (S 16 p)) (nI n)))) ∧ h3 = h') (c_X7_find_16 l2 (F.cg (by intro k hk; simp only [zsa]; repeat rw [if_neg (by omega)])) (n := zn (S 15 0)) (m := zn (S 16 p)) (x := nI n) hpm hM hO) (fun v h9 hp => ⟨hp.1.trans (by rw [fnd_cg (S := S) (S' := (zsa S 18 (slG S p n))) rfl rfl rfl] <;> rfl), hp.2⟩)) (cwV 4 (zXts X) (lw_V q1742 q1744 qs35 q65 q1745) rfl rfl rfl (by decide +kernel) ⟨Nat.le_of_ble_eq_true rfl, Nat.le_of_ble_eq_true rfl⟩) l2.1 (by decide) rfl rfl (Nat.le_of_ble_eq_true rfl) ⟨(by first | exact Nat.le_of_ble_eq_true rfl | (dsimp only [zRm]; omega)), (by first | exact Nat.le_of_ble_eq_true rfl | (dsimp only [zRm]; omega))⟩ dX7_setAll_90 (fun v8015 h8016 p8017 => ?_)
              obtain ⟨rfl, rfl⟩ := p8017
              refine z_callV X (rest := [.int (nI ((64 * (zn (S 16 p))) + n)), .ref (E 18)]) (c_X7_moduleOf l2 (d := fnd S (S 16) (zn (S 15 0)) (zn (S 16 p)) (nI n)) (fun d hd => (F.df hd hpm hO).1)) (cwV 1 (zXts X) (lw_V q1758 q1760 qs39 q65 q1761) rfl rfl rfl (by decide +kernel) ⟨Nat.le_of_ble_eq_true rfl, Nat.le_of_ble_eq_true rfl⟩) l2.1 (by decide) rfl rfl (Nat.le_of_ble_eq_true rfl) ⟨(by first | exact Nat.le_of_ble_eq_true rfl | (dsimp only [zRm]; omega)), (by first | exact Nat.le_of_ble_eq_true rfl | (dsimp only [zRm]; omega))⟩ dX7_setAll_93 (fun v8018 h8019 p8020 => ?_)
              obtain ⟨rfl, rfl⟩ := p8020
              refine z_st (st' := [.int (slV S (zn (S 16 p)) n), .int (nI ((64 * (zn (S 16 p))) + n)), .ref (E 18)]) (by rw [show slV S (zn (S 16 p)) n = zmo (fnd S (S 16) (zn (S 15 0)) (zn (S 16 p)) (nI n)) from by unfold slV; first | exact if_pos (by simp only [zeq_iff, zc0]; omega) | exact if_neg (by simp only [zeq_iff, zc0]; omega)] <;> rfl) ?_
              refine z_iast X ((64 * (zn (S 16 p))) + n) (l2.2.1 18 rfl) (by decide) (by decide) rfl (by show _ < 768; omega) (by decide) (f' := fun i => .int ((zu (slG S p n) ((64 * (zn (S 16 p))) + n) (slV S (zn (S 16 p)) n)) i)) (fun _ => zu_v _) dX7_setAll_96 ?_
              refine z_nm fun h8021 e8022 => ?_
              have D8023 : MD E (zsa (zsa S 18 (slG S p n)) 18 (zu (slG S p n) ((64 * (zn (S 16 p))) + n) (slV S (zn (S 16 p)) n))) h8021 := l2.sA 18 rfl e8022
              have o8024 := zOn.up l3 e8022 (l2.2.1 18 rfl) (by decide)
              refine z_iinc X (lv' := [(3, .int (nI (n + 1))), (0, .ref (E 0)), (1, .int (nI p)), (2, .int (S 16 p))]) (nI (n + 1)) 3 dX7_setAll_97 rfl (nI_1 _) (by decide) rfl ?_
              refine z_goto X 41 dX7_setAll_100 (by decide) ?_
              refine z_lvp (lv' := [(0, .ref (E 0)), (1, .int (nI p)), (2, .int (S 16 p)), (3, .int (nI (n + 1)))]) [1, 2, 3, 0] rfl ?_
              exact ih (n + 1, h8021) ⟨by omega, by have z9 := D8023; rw [zsa_zsa, slG_use hpm (by omega) hus] at z9; exact z9, o8024⟩ (by dsimp only; omega)
            · refine z_bipush X (nI 21) dX7_setAll_73 (by decide) ?_
              refine z_goto X 96 dX7_setAll_75 (by decide) ?_
              refine z_st (st' := [.int (slV S (zn (S 16 p)) n), .int (nI ((64 * (zn (S 16 p))) + n)), .ref (E 18)]) (by rw [show slV S (zn (S 16 p)) n = nI 21 from by unfold slV; first | exact if_pos (by simp only [zeq_iff, zc0]; omega) | exact if_neg (by simp only [zeq_iff, zc0]; omega)] <;> rfl) ?_
              refine z_iast X ((64 * (zn (S 16 p))) + n) (l2.2.1 18 rfl) (by decide) (by decide) rfl (by show _ < 768; omega) (by decide) (f' := fun i => .int ((zu (slG S p n) ((64 * (zn (S 16 p))) + n) (slV S (zn (S 16 p)) n)) i)) (fun _ => zu_v _) dX7_setAll_96 ?_
              refine z_nm fun h8025 e8026 => ?_
              have D8027 : MD E (zsa (zsa S 18 (slG S p n)) 18 (zu (slG S p n) ((64 * (zn (S 16 p))) + n) (slV S (zn (S 16 p)) n))) h8025 := l2.sA 18 rfl e8026
              have o8028 := zOn.up l3 e8026 (l2.2.1 18 rfl) (by decide)
              refine z_iinc X (lv' := [(3, .int (nI (n + 1))), (0, .ref (E 0)), (1, .int (nI p)), (2, .int (S 16 p))]) (nI (n + 1)) 3 dX7_setAll_97 rfl (nI_1 _) (by decide) rfl ?_
              refine z_goto X 41 dX7_setAll_100 (by decide) ?_
              refine z_lvp (lv' := [(0, .ref (E 0)), (1, .int (nI p)), (2, .int (S 16 p)), (3, .int (nI (n + 1)))]) [1, 2, 3, 0] rfl ?_
              exact ih (n + 1, h8025) ⟨by omega, by have z9 := D8027; rw [zsa_zsa, slG_use hpm (by omega) hus] at z9; exact z9, o8028⟩ (by dsimp only; omega)
        · refine z_st (st' := [.int (nI 0)]) rfl ?_
          have hus : ¬ zuse S (zn (S 16 p)) n = true := c8009
          refine z_ifU_eq X 0 97 dX7_setAll_53 (by decide) rfl (by omega) (fun c8029 => ?_) (fun c8029 => ?_)
          · refine z_iinc X (lv' := [(3, .int (nI (n + 1))), (0, .ref (E 0)), (1, .int (nI p)), (2, .int (S 16 p))]) (nI (n + 1)) 3 dX7_setAll_97 rfl (nI_1 _) (by decide) rfl ?_
            refine z_goto X 41 dX7_setAll_100 (by decide) ?_
            refine z_lvp (lv' := [(0, .ref (E 0)), (1, .int (nI p)), (2, .int (S 16 p)), (3, .int (nI (n + 1)))]) [1, 2, 3, 0] rfl ?_
            exact ih (n + 1, h3) ⟨by omega, by have z9 := l2; rw [slG_no hus] at z9; exact z9, l3⟩ (by dsimp only; omega)
          · omega
  · refine z_aload_n X 0 dX7_setAll_9 zref.r rfl ?_
    refine z_get X zP6 18 (by decide) q1581 (Or.inl rfl) i2.1 (by decide) rfl dX7_setAll_10 ?_
    refine z_iload_n X 1 dX7_setAll_13 rfl ?_
    refine z_iconst X (-1) dX7_setAll_14 (by decide) ?_
    refine z_iast X k (i2.2.1 18 rfl) (by decide) (by decide) rfl (by show _ < 768; omega) (by decide) (f' := fun i => .int ((zu (zfil (fun _ => -1) (S 18) k) k (-1)) i)) (fun _ => zu_v _) dX7_setAll_15 ?_
    refine z_nm fun h8030 e8031 => ?_
    have D8032 : MD E (zsa (zsa S 18 (zfil (fun _ => -1) (S 18) k)) 18 (zu (zfil (fun _ => -1) (S 18) k) k (-1))) h8030 := i2.sA 18 rfl e8031
    have o8033 := zOn.up i3 e8031 (i2.2.1 18 rfl) (by decide)
    refine z_iinc X (lv' := [(1, .int (nI (k + 1))), (0, .ref (E 0))]) (nI (k + 1)) 1 dX7_setAll_16 rfl (nI_1 _) (by decide) rfl ?_
    refine z_goto X 2 dX7_setAll_19 (by decide) ?_
    refine z_lvp (lv' := [(0, .ref (E 0)), (1, .int (nI (k + 1)))]) [1, 0] rfl ?_
    exact ih (k + 1, h8030) ⟨by omega, by have z9 := D8032; rw [zsa_zsa, zfil_s rfl] at z9; exact z9, o8033⟩ (by dsimp only; omega)
