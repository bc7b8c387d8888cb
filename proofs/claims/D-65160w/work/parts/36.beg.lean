set_option maxRecDepth 100000
def MD2 (E : Nat → Nat) (S : ZS) (f g : Nat → Int32) (h : ZH) : Prop := h (E 0) = (100, .inr (6, zml E S)) ∧ (∀ k, kar k = true → h (E k) = (100 + k, .inl (kkd k, kln k, fun i => .int (S k i)))) ∧ h (E 23) = (123, .inl (0, 12, fun i => .int (f i))) ∧ h (E 24) = (124, .inl (0, 12, fun i => .int (g i)))
theorem MD2.md {E : Nat → Nat} {S : ZS} {f g : Nat → Int32} {h : ZH} (D : MD2 E S f g h) : MD E S h := ⟨D.1, D.2.1, f, g, D.2.2⟩
theorem MD2.sA {E : Nat → Nat} {S : ZS} {f3 f4 : Nat → Int32} {h h1 : ZH} {f : Nat → Int32} (D : MD2 E S f3 f4 h) (k : Nat) (hk : kar k = true) (e : h1 = zup h (E k) (100 + k, .inl (kkd k, kln k, fun i => .int (f i)))) : MD2 E (zsa S k f) f3 f4 h1 := by
  have hl := kar_lt hk
  have D1 := D.md.sA k hk e
  exact ⟨D1.1, D1.2.1, zup_ot e (D.2.1 k hk) D.2.2.1 (by omega), zup_ot e (D.2.1 k hk) D.2.2.2 (by omega)⟩
theorem MD2.s3 {E : Nat → Nat} {S : ZS} {f3 f4 : Nat → Int32} {h h1 : ZH} {f : Nat → Int32} (D : MD2 E S f3 f4 h) (e : h1 = zup h (E 23) (123, .inl (0, 12, fun i => .int (f i)))) : MD2 E S f f4 h1 :=
  ⟨zup_ot e D.2.2.1 D.1 (by decide), fun k hk => zup_ot e D.2.2.1 (D.2.1 k hk) (by have := kar_lt hk; omega), zup_is e, zup_ot e D.2.2.1 D.2.2.2 (by decide)⟩
theorem MD2.s4 {E : Nat → Nat} {S : ZS} {f3 f4 : Nat → Int32} {h h1 : ZH} {f : Nat → Int32} (D : MD2 E S f3 f4 h) (e : h1 = zup h (E 24) (124, .inl (0, 12, fun i => .int (f i)))) : MD2 E S f3 f h1 :=
  ⟨zup_ot e D.2.2.2 D.1 (by decide), fun k hk => zup_ot e D.2.2.2 (D.2.1 k hk) (by have := kar_lt hk; omega), zup_ot e D.2.2.2 D.2.2.1 (by decide), zup_is e⟩
theorem zmc_root {S : ZS} {r : Nat} (hr : r < 12) : zmc (zmet S r 12) 12 = 1 := by
  have h0 : ∀ n, n ≤ r → zmc (zmet S r 12) n = 0 := fun n => by
    induction n with
    | zero => intro _; rfl
    | succ n ih => intro h; simp only [zmc]; rw [ih (by omega), show zmet S r 12 n = 0 from by unfold zmet; rw [if_pos (by omega), if_neg (by omega)]]; rfl
  have h1 : ∀ j, r + 1 + j ≤ 12 → zmc (zmet S r 12) (r + 1 + j) = 1 := fun j => by
    induction j with
    | zero => intro _; show zmc _ (r + 1) = 1; simp only [zmc]; rw [h0 r (Nat.le_refl _), show zmet S r 12 r = 1 from by unfold zmet; rw [if_pos (by omega), if_pos rfl]]; rfl
    | succ j ih => intro h; show zmc _ (r + 1 + j + 1) = 1; simp only [zmc]; rw [ih (by omega), show zmet S r 12 (r + 1 + j) = 0 from by unfold zmet; rw [if_pos (by omega), if_neg (by omega)]]; rfl
  have := h1 (11 - r) (by omega)
  rwa [show r + 1 + (11 - r) = 12 from by omega] at this
theorem zdec {n : Nat} : nI (n + 1) + (-1) = nI n := by
  rw [← nI_1, Int32.add_assoc, show (1 : Int32) + (-1) = 0 from by decide, Int32.add_zero]
theorem z2217 {S : ZS} {a b c : Nat → Int32} : zsa (zsa (zsa S 22 a) 17 b) 22 c = zsa (zsa S 22 c) 17 b := by
  rw [zsa_cm (k := 17) (j := 22) (by decide), zsa_zsa]
set_option maxHeartbeats 16000000 in
theorem c_X7_findBegun {l : Launch} {G : ZG} {h : ZH} {E : Nat → Nat} {S : ZS}  (D : MD E S h) (F : ZWF S) (hroot : zn (S 14 0) < zn (S 0 0)) : ZM l G yX7_findBegun (ws_ yX7_findBegun cX7_findBegun 6 (Option.none : Option FieldType)) (zRm 0 0 0 0) [.ref (E 0)] h (fun v h' => v = none ∧ MD E (zsa (zsa S 22 (dEnd S (zn (S 14 0))).1) 17 (dEnd S (zn (S 14 0))).2.1) h' ∧ zOn zTM h h') := by
  refine ZT.zm (ZT.of (by first | exact plainFor_of_name (by decide) | decide +kernel) (Nat.le_of_ble_eq_true rfl) (zcats.r zref.r zcats.nil) ?_)
  intro p_ e_ s_ m_ args_ below_ meth_ c_ X hr hlk hin htab
  have X : ZX p_ m_ c_ cX7_findBegun 6 s_ args_ "LinkStationModel" G := X
  refine z_lv (lv' := [(0, .ref (E 0))]) (fun _ hq => hq) ?_
  have hM := F.mods
  have main : ∀ (fu m k : Nat) (st st' : DfS) (hi : Nat) (f g : Nat → Int32) (h1 : ZH), dfs S fu m k st = some st' → m < zn (S 0 0) → k ≤ zn (S 2 m) → MD2 E (zsa (zsa S 22 st.1) 17 st.2.1) f g h1 → zOn zTM h h1 → f hi = nI m → g hi = nI k → st.2.2 + (hi + 1) ≤ zmc st.1 12 → (∀ (f' g' : Nat → Int32) (h2 : ZH), MD2 E (zsa (zsa S 22 st'.1) 17 st'.2.1) f' g' h2 → zOn zTM h h2 → (∀ i, i < hi → f' i = f i ∧ g' i = g i) → st'.2.2 + hi ≤ zmc st'.1 12 → Zw p_ l e_ (zRm 0 0 0 0) s_ m_ args_ below_ meth_ c_ G 6 (zEnd G (zRm 0 0 0 0) (fun v h' => v = none ∧ MD E (zsa (zsa S 22 (dEnd S (zn (S 14 0))).1) 17 (dEnd S (zn (S 14 0))).2.1) h' ∧ zOn zTM h h') (fun _ _ _ => False) below_ args_ s_) 54 [(0, .ref (E 0)), (1, .int (nI st'.2.2)), (2, .int (nI hi))] [] h2 0 0) → Zw p_ l e_ (zRm 0 0 0 0) s_ m_ args_ below_ meth_ c_ G 6 (zEnd G (zRm 0 0 0 0) (fun v h' => v = none ∧ MD E (zsa (zsa S 22 (dEnd S (zn (S 14 0))).1) 17 (dEnd S (zn (S 14 0))).2.1) h' ∧ zOn zTM h h') (fun _ _ _ => False) below_ args_ s_) 54 [(0, .ref (E 0)), (1, .int (nI st.2.2)), (2, .int (nI (hi + 1)))] [] h1 0 0 := by
    intro fu
    induction fu with
    | zero => intro m k st st' hi f g h1 hdf; cases hdf
    | succ fu ihf =>
      intro m k st st' hi f g h1 hdf hm hk D2 O2 hf hg hcnt cont
      simp only [dfs] at hdf
      have hmc := zmc_le (f := st.1) 12
      have hnc := F.nc m
      refine z_iload_n X 2 dX7_findBegun_54 rfl ?_
      refine z_ifU_le X (hi + 1) 179 dX7_findBegun_55 (by decide) rfl (by omega) (fun c26001 => ?_) (fun c26001 => ?_)
      · exfalso; omega
      · refine z_aload_n X 0 dX7_findBegun_58 zref.r rfl ?_
        refine z_get X zP6 23 (by decide) q1586 (Or.inl rfl) D2.1 (by decide) rfl dX7_findBegun_59 ?_
        refine z_iload_n X 2 dX7_findBegun_62 rfl ?_
        refine z_iconst X (nI 1) dX7_findBegun_63 (by decide) ?_
        refine z_isub X (nI ((hi + 1) - 1)) dX7_findBegun_64 (zsub rfl rfl (by omega)) ?_
        refine z_iald X (v := .int (nI m)) ((hi + 1) - 1) D2.2.2.1 (by decide) rfl (by omega) (by decide) (congrArg Value.int hf) dX7_findBegun_65 ?_
        refine z_istore_n X (lv' := [(3, .int (nI m)), (0, .ref (E 0)), (1, .int (nI st.2.2)), (2, .int (nI (hi + 1)))]) dX7_findBegun_66 (by decide) rfl ?_
        refine z_aload_n X 1 dX7_findBegun_67 zref.r rfl ?_
        refine z_get X zP6 24 (by decide) q1587 (Or.inl rfl) D2.1 (by decide) rfl dX7_findBegun_68 ?_
        refine z_iload_n X 3 dX7_findBegun_71 rfl ?_
        refine z_iconst X (nI 1) dX7_findBegun_72 (by decide) ?_
        refine z_isub X (nI ((hi + 1) - 1)) dX7_findBegun_73 (zsub rfl rfl (by omega)) ?_
        refine z_iald X (v := .int (nI k)) ((hi + 1) - 1) D2.2.2.2 (by decide) rfl (by omega) (by decide) (congrArg Value.int hg) dX7_findBegun_74 ?_
        refine z_istore X (lv' := [(4, .int (nI k)), (3, .int (nI m)), (0, .ref (E 0)), (1, .int (nI st.2.2)), (2, .int (nI (hi + 1)))]) dX7_findBegun_75 (by decide) rfl ?_
        refine z_aload_n X 2 dX7_findBegun_77 zref.r rfl ?_
        refine z_get X zP6 24 (by decide) q1587 (Or.inl rfl) D2.1 (by decide) rfl dX7_findBegun_78 ?_
        refine z_iload_n X 4 dX7_findBegun_81 rfl ?_
        refine z_iconst X (nI 1) dX7_findBegun_82 (by decide) ?_
        refine z_isub X (nI ((hi + 1) - 1)) dX7_findBegun_83 (zsub rfl rfl (by omega)) ?_
        refine z_dup2 X dX7_findBegun_84 rfl rfl ?_
        refine z_iald X (v := .int (nI k)) ((hi + 1) - 1) D2.2.2.2 (by decide) rfl (by omega) (by decide) (congrArg Value.int hg) dX7_findBegun_85 ?_
        refine z_iconst X (nI 1) dX7_findBegun_86 (by decide) ?_
        refine z_iadd X (nI (k + 1)) dX7_findBegun_87 (zadd rfl rfl) ?_
        refine z_iast X ((hi + 1) - 1) D2.2.2.2 (by decide) (by decide) rfl (by omega) (by decide) (f' := fun i => .int ((zu g ((hi + 1) - 1) (nI (k + 1))) i)) (fun _ => zu_v _) dX7_findBegun_88 ?_
        refine z_nm fun h26002 e26003 => ?_
        have D26004 : MD2 E (zsa (zsa S 22 st.1) 17 st.2.1) f (zu g ((hi + 1) - 1) (nI (k + 1))) h26002 := D2.s4 e26003
        have o26005 := zOn.up O2 e26003 D2.2.2.2 (by decide)
        refine z_iload X 0 dX7_findBegun_89 rfl ?_
        refine z_aload_n X 2 dX7_findBegun_91 zref.r rfl ?_
        refine z_get X zP6 2 (by decide) q1565 (Or.inl rfl) D26004.1 (by decide) rfl dX7_findBegun_92 ?_
        refine z_iload_n X 1 dX7_findBegun_95 rfl ?_
        refine z_iald X (v := .int ((S 2) m)) m (D26004.2.1 2 rfl) (by decide) rfl (by show _ < 12; omega) (by decide) rfl dX7_findBegun_96 ?_
        refine z_icmpU_ne X k (zn ((S 2) m)) 116 dX7_findBegun_97 (by decide) rfl (nI_zn _).symm (by omega) (zn_lt _) (fun c26006 => ?_) (fun c26006 => ?_)
        · have hklt : k < zn (S 2 m) := by omega
          have hnd := F.nd m k hklt
          refine z_aload_n X 2 dX7_findBegun_116 zref.r rfl ?_
          refine z_get X zP6 22 (by decide) q1585 (Or.inl rfl) D26004.1 (by decide) rfl dX7_findBegun_117 ?_
          refine z_aload_n X 2 dX7_findBegun_120 zref.r rfl ?_
          refine z_get X zP6 1 (by decide) q1564 (Or.inl rfl) D26004.1 (by decide) rfl dX7_findBegun_121 ?_
          refine z_bipush X (nI 6) dX7_findBegun_124 (by decide) ?_
          refine z_iload_n X 1 dX7_findBegun_126 rfl ?_
          refine z_imul X (nI (6 * m)) dX7_findBegun_127 (zmul rfl rfl) ?_
          refine z_iload X 0 dX7_findBegun_128 rfl ?_
          refine z_iadd X (nI ((6 * m) + k)) dX7_findBegun_130 (zadd rfl rfl) ?_
          refine z_iald X (v := .int ((S 1) ((6 * m) + k))) ((6 * m) + k) (D26004.2.1 1 rfl) (by decide) rfl (by show _ < 72; omega) (by decide) rfl dX7_findBegun_131 ?_
          refine z_zald X (v := .int (st.1 (zn ((S 1) ((6 * m) + k))))) (zn ((S 1) ((6 * m) + k))) (D26004.2.1 22 rfl) (by decide) (nI_zn _).symm (by show _ < 12; omega) (by decide) rfl dX7_findBegun_132 ?_
          refine z_ifU_ne X (zn (st.1 (zn ((S 1) ((6 * m) + k))))) 176 dX7_findBegun_133 (by decide) (nI_zn _).symm (zn_lt _) (fun c26007 => ?_) (fun c26007 => ?_)
          · refine z_goto X 54 dX7_findBegun_176 (by decide) ?_
            refine z_lvp (lv' := [(0, .ref (E 0)), (1, .int (nI st.2.2)), (2, .int (nI (hi + 1)))]) [2, 3, 4] rfl ?_
            rw [if_pos hklt, if_neg (fun z => by rw [zeq_iff, zc0] at z; omega)] at hdf
            exact ihf m (k + 1) st st' hi _ _ _ hdf hm (by omega) D26004 o26005 hf (by show zu g (hi + 1 - 1) (nI (k + 1)) hi = _; exact zu_s) hcnt (fun f' g' h2 a1 a2 a3 a4 => cont f' g' h2 a1 a2 (fun i hi9 => ⟨(a3 i hi9).1, (a3 i hi9).2.trans (zu_n (by omega))⟩) a4)
          · have hset := zmc_set (f := st.1) (zn_inj (show zn (st.1 (zn (S 1 (6 * m + k)))) = zn 0 by rw [zc0]; omega)) 12 (Nat.lt_of_lt_of_le hnd hM)
            have hmc2 := zmc_le (f := zu st.1 (zn (S 1 (6 * m + k))) 1) 12
            refine z_aload_n X 2 dX7_findBegun_136 zref.r rfl ?_
            refine z_get X zP6 1 (by decide) q1564 (Or.inl rfl) D26004.1 (by decide) rfl dX7_findBegun_137 ?_
            refine z_bipush X (nI 6) dX7_findBegun_140 (by decide) ?_
            refine z_iload_n X 1 dX7_findBegun_142 rfl ?_
            refine z_imul X (nI (6 * m)) dX7_findBegun_143 (zmul rfl rfl) ?_
            refine z_iload X 0 dX7_findBegun_144 rfl ?_
            refine z_iadd X (nI ((6 * m) + k)) dX7_findBegun_146 (zadd rfl rfl) ?_
            refine z_iald X (v := .int ((S 1) ((6 * m) + k))) ((6 * m) + k) (D26004.2.1 1 rfl) (by decide) rfl (by show _ < 72; omega) (by decide) rfl dX7_findBegun_147 ?_
            refine z_istore X (lv' := [(5, .int ((S 1) ((6 * m) + k))), (4, .int (nI k)), (3, .int (nI m)), (0, .ref (E 0)), (1, .int (nI st.2.2)), (2, .int (nI (hi + 1)))]) dX7_findBegun_148 (by decide) rfl ?_
            refine z_aload_n X 3 dX7_findBegun_150 zref.r rfl ?_
            refine z_get X zP6 22 (by decide) q1585 (Or.inl rfl) D26004.1 (by decide) rfl dX7_findBegun_151 ?_
            refine z_iload X 0 dX7_findBegun_154 rfl ?_
            refine z_iconst X (nI 1) dX7_findBegun_156 (by decide) ?_
            refine z_zast X (zn ((S 1) ((6 * m) + k))) (D26004.2.1 22 rfl) (by decide) (by decide) (nI_zn _).symm (by show _ < 12; omega) (by decide) (zfits.b1) (f' := fun i => .int ((zu st.1 (zn ((S 1) ((6 * m) + k))) (nI 1)) i)) (fun _ => zu_v _) dX7_findBegun_157 ?_
            refine z_nm fun h26008 e26009 => ?_
            have D26010 : MD2 E (zsa (zsa (zsa S 22 st.1) 17 st.2.1) 22 (zu st.1 (zn ((S 1) ((6 * m) + k))) (nI 1))) f (zu g ((hi + 1) - 1) (nI (k + 1))) h26008 := D26004.sA 22 rfl e26009
            have o26011 := zOn.up o26005 e26009 (D26004.2.1 22 rfl) (by decide)
            refine z_aload_n X 3 dX7_findBegun_158 zref.r rfl ?_
            refine z_get X zP6 23 (by decide) q1586 (Or.inl rfl) D26010.1 (by decide) rfl dX7_findBegun_159 ?_
            refine z_iload_n X 5 dX7_findBegun_162 rfl ?_
            refine z_iload X 0 dX7_findBegun_163 rfl ?_
            refine z_iast X (hi + 1) D26010.2.2.1 (by decide) (by decide) rfl (by omega) (by decide) (f' := fun i => .int ((zu f (hi + 1) ((S 1) ((6 * m) + k))) i)) (fun _ => zu_v _) dX7_findBegun_165 ?_
            refine z_nm fun h26012 e26013 => ?_
            have D26014 : MD2 E (zsa (zsa (zsa S 22 st.1) 17 st.2.1) 22 (zu st.1 (zn ((S 1) ((6 * m) + k))) (nI 1))) (zu f (hi + 1) ((S 1) ((6 * m) + k))) (zu g ((hi + 1) - 1) (nI (k + 1))) h26012 := D26010.s3 e26013
            have o26015 := zOn.up o26011 e26013 D26010.2.2.1 (by decide)
            refine z_aload_n X 3 dX7_findBegun_166 zref.r rfl ?_
            refine z_get X zP6 24 (by decide) q1587 (Or.inl rfl) D26014.1 (by decide) rfl dX7_findBegun_167 ?_
            refine z_iload_n X 5 dX7_findBegun_170 rfl ?_
            refine z_iconst X (nI 0) dX7_findBegun_171 (by decide) ?_
            refine z_iast X (hi + 1) D26014.2.2.2 (by decide) (by decide) rfl (by omega) (by decide) (f' := fun i => .int ((zu (zu g ((hi + 1) - 1) (nI (k + 1))) (hi + 1) (nI 0)) i)) (fun _ => zu_v _) dX7_findBegun_172 ?_
            refine z_nm fun h26016 e26017 => ?_
            have D26018 : MD2 E (zsa (zsa (zsa S 22 st.1) 17 st.2.1) 22 (zu st.1 (zn ((S 1) ((6 * m) + k))) (nI 1))) (zu f (hi + 1) ((S 1) ((6 * m) + k))) (zu (zu g ((hi + 1) - 1) (nI (k + 1))) (hi + 1) (nI 0)) h26016 := D26014.s4 e26017
            have o26019 := zOn.up o26015 e26017 D26014.2.2.2 (by decide)
            refine z_iinc X (lv' := [(2, .int (nI (hi + 1 + 1))), (5, .int ((S 1) ((6 * m) + k))), (4, .int (nI k)), (3, .int (nI m)), (0, .ref (E 0)), (1, .int (nI st.2.2))]) (nI (hi + 1 + 1)) 5 dX7_findBegun_173 rfl (nI_1 _) (by decide) rfl ?_
            refine z_goto X 54 dX7_findBegun_176 (by decide) ?_
            refine z_lvp (lv' := [(0, .ref (E 0)), (1, .int (nI st.2.2)), (2, .int (nI (hi + 1 + 1)))]) [4, 5, 0] rfl ?_
            rw [if_pos hklt, if_pos (zn_inj (by show _ = 0; omega))] at hdf
            cases hd1 : dfs S fu (zn (S 1 (6 * m + k))) 0 (zu st.1 (zn (S 1 (6 * m + k))) 1, st.2) with
            | none => rw [hd1] at hdf; cases hdf
            | some st1 =>
              rw [hd1] at hdf
              dsimp only at hdf
              exact ihf _ 0 _ st1 (hi + 1) _ _ _ hd1 hnd (Nat.zero_le _) (by have z9 := D26018; rw [z2217] at z9; exact z9) o26019 (by rw [zu_s, nI_zn]) zu_s (by dsimp only; omega) (fun f' g' h2 a1 a2 a3 a4 => ihf m (k + 1) st1 st' hi f' g' h2 hdf hm (by omega) a1 a2 ((a3 hi (by omega)).1.trans ((zu_n (by omega)).trans hf)) ((a3 hi (by omega)).2.trans ((zu_n (by omega)).trans (by show zu g (hi + 1 - 1) (nI (k + 1)) hi = _; exact zu_s))) (by omega) (fun f2 g2 h3 b1 b2 b3 b4 => cont f2 g2 h3 b1 b2 (fun i hi9 => ⟨(b3 i hi9).1.trans ((a3 i (by omega)).1.trans (zu_n (by omega))), (b3 i hi9).2.trans ((a3 i (by omega)).2.trans ((zu_n (by omega)).trans (zu_n (by omega))))⟩) b4))
        · have hkc : ¬ k < zn (S 2 m) := by omega
          refine z_aload_n X 2 dX7_findBegun_100 zref.r rfl ?_
          refine z_get X zP6 17 (by decide) q1580 (Or.inl rfl) D26004.1 (by decide) rfl dX7_findBegun_101 ?_
          refine z_iload_n X 3 dX7_findBegun_104 rfl ?_
          refine z_iload_n X 1 dX7_findBegun_105 rfl ?_
          refine z_iast X st.2.2 (D26004.2.1 17 rfl) (by decide) (by decide) rfl (by show _ < 12; omega) (by decide) (f' := fun i => .int ((zu st.2.1 st.2.2 (nI m)) i)) (fun _ => zu_v _) dX7_findBegun_106 ?_
          refine z_nm fun h26020 e26021 => ?_
          have D26022 : MD2 E (zsa (zsa (zsa S 22 st.1) 17 st.2.1) 17 (zu st.2.1 st.2.2 (nI m))) f (zu g ((hi + 1) - 1) (nI (k + 1))) h26020 := D26004.sA 17 rfl e26021
          have o26023 := zOn.up o26005 e26021 (D26004.2.1 17 rfl) (by decide)
          refine z_iinc X (lv' := [(1, .int (nI (st.2.2 + 1))), (4, .int (nI k)), (3, .int (nI m)), (0, .ref (E 0)), (2, .int (nI (hi + 1)))]) (nI (st.2.2 + 1)) 3 dX7_findBegun_107 rfl (nI_1 _) (by decide) rfl ?_
          refine z_iinc X (lv' := [(2, .int (nI hi)), (1, .int (nI (st.2.2 + 1))), (4, .int (nI k)), (3, .int (nI m)), (0, .ref (E 0))]) (nI hi) 4 dX7_findBegun_110 rfl zdec (by decide) rfl ?_
          refine z_goto X 176 dX7_findBegun_113 (by decide) ?_
          refine z_goto X 54 dX7_findBegun_176 (by decide) ?_
          refine z_lvp (lv' := [(0, .ref (E 0)), (1, .int (nI (st.2.2 + 1))), (2, .int (nI hi))]) [4, 1, 0] rfl ?_
          rw [if_neg (by omega)] at hdf
          cases hdf
          exact cont _ _ _ (by have z9 := D26022; rw [zsa_zsa] at z9; exact z9) o26023 (fun i hi9 => ⟨rfl, zu_n (by omega)⟩) (by dsimp only; omega)
