set_option maxRecDepth 100000
/-! runs: what stays true -/
def zIO (S : ZS) (m : Nat) : Prop := ∃ p, p < zn (S 15 0) ∧ zn (S 16 p) = m
def ZRN (S : ZS) : Prop := S 12 0 ≠ 0 ∧ zn (S 37 0) < 12 ∧ (∀ i, zn (S 34 i) < 12) ∧ (0 < zn (S 36 0) → zIO S (zn (S 37 0)) ∧ zn (S 38 0) ≤ 100) ∧ (∀ i, 0 < i → i < zn (S 36 0) → zIO S (zn (S 34 i)) ∧ zn (S 35 i) ≤ 100) ∧ zn (S 36 0) ≤ 101 ∧ zn (S 32 0) ≤ 101 ∧ zn (S 30 0) ≤ zn (S 29 0) ∧ zn (S 29 0) ≤ 5000
theorem ZRN.cg {S S' : ZS} (R : ZRN S) (h : ∀ k, k = 12 ∨ k = 15 ∨ k = 16 ∨ k = 29 ∨ k = 30 ∨ k = 32 ∨ (34 ≤ k ∧ k ≤ 38) → S' k = S k) : ZRN S' := by
  unfold ZRN zIO
  rw [h 12 (by omega), h 15 (by omega), h 16 (by omega), h 29 (by omega), h 30 (by omega), h 32 (by omega), h 34 (by omega), h 35 (by omega), h 36 (by omega), h 37 (by omega), h 38 (by omega)]
  exact R
/-- what a load has looked at: what a call's name and a beginner come to are functions -/
def ZCK (S : ZS) : Prop := ∀ p, p < zn (S 15 0) → (∀ s, s < zn (S 9 (zn (S 16 p))) → S 8 (4 * (100 * zn (S 16 p) + s)) = 7 → ∀ d, fnd S (S 16) (zn (S 15 0)) (zn (S 16 p)) (S 8 (4 * (100 * zn (S 16 p) + s) + 1)) = some d → S 4 d = 0) ∧ (S 11 (zn (S 16 p)) ≠ -1 → ∀ d, fnd S (S 16) (zn (S 15 0)) (zn (S 16 p)) (S 11 (zn (S 16 p))) = some d → S 4 d = 0)
theorem ZCK.cg {S S' : ZS} (C : ZCK S) (h : ∀ k, k < 18 → S' k = S k) : ZCK S' := by
  unfold ZCK
  rw [h 15 (by omega), h 16 (by omega), h 9 (by omega), h 8 (by omega), h 4 (by omega), h 11 (by omega)]
  intro p hp
  have hc := C p hp
  refine ⟨fun s hs h7 d hd => hc.1 s hs h7 d ?_, fun hb d hd => hc.2 hb d ?_⟩
  · rwa [fnd_cg (h 3 (by omega)) (h 6 (by omega)) (h 7 (by omega))] at hd
  · rwa [fnd_cg (h 3 (by omega)) (h 6 (by omega)) (h 7 (by omega))] at hd
/-- a definition that may be called -/
def zOK (S : ZS) (d : Nat) : Prop := d < 240 ∧ zIO S (d / 20) ∧ zn (S 5 d) < 100
theorem zOK.cg {S S' : ZS} {d : Nat} (C : zOK S d) (h5 : S' 5 = S 5) (h15 : S' 15 = S 15) (h16 : S' 16 = S 16) : zOK S' d := by
  unfold zOK zIO; rw [h5, h15, h16]; exact C
theorem fnd_zOK {S : ZS} {m d : Nat} {x : Int32} (F : ZWF S) (FL : ZWL S) (h : fnd S (S 16) (zn (S 15 0)) m x = some d) (hm : m < 12) (hio : zIO S m) (hk : S 4 d = 0) : zOK S d := by
  obtain ⟨h1, h2, h3, h4, h5, h6⟩ := F.df h hm FL.2.1
  refine ⟨h1, ?_, h4 hk⟩
  rcases h6 with z | z
  · rw [z]; exact hio
  · exact z
theorem atF_zOK {S : ZS} {x : Int32} {d : Nat} (F : ZWF S) (FL : ZWL S) (h : atF S x = some d) : zOK S d := by
  obtain ⟨h1, h2, h3⟩ := atF_lt F FL d h
  refine ⟨h1, ?_, h3⟩
  unfold atF at h
  split at h
  · cases h
  · obtain ⟨k, g1, g2, -, -⟩ := adL_is h
    have := F.dc (zn (S 16 (zn x / 1000 - 1)))
    exact ⟨zn x / 1000 - 1, by omega, by omega⟩
theorem callF_lo {S : ZS} {d : Option Nat} {k : Nat} (hk : k < 32 ∨ k = 33) : (callF S d).2 k = S k := by
  unfold callF
  split
  · rfl
  · split
    · rfl
    · dsimp only
      exact (zsa_n (by omega)).trans ((zsa_n (by omega)).trans ((zsa_n (by omega)).trans ((zsa_n (by omega)).trans ((zsa_n (by omega)).trans (zsa_n (by omega))))))
theorem callF_keep {S : ZS} {d : Option Nat} (R : ZRN S) (h : ∀ k, d = some k → zOK S k) : ZRN (callF S d).2 := by
  cases d with
  | none => exact R
  | some d =>
    obtain ⟨d1, d2, d3⟩ := h d rfl
    by_cases hd : zn (S 36 0) = 101
    · rw [show callF S (some d) = (2, S) from if_pos hd]; exact R
    · rw [callF_ok hd]
      obtain ⟨r1, r2, r3, r4, r5, r6, r7, r8, r9⟩ := R
      have e36 : zn (nI (zn (S 36 0) + 1)) = zn (S 36 0) + 1 := zn_nI (by omega)
      have e37 : zn (nI (d / 20)) = d / 20 := zn_nI (by omega)
      refine ⟨r1, ?_, fun i => ?_, fun _ => ⟨?_, ?_⟩, fun i h0 hi => ?_, ?_, ?_, r8, r9⟩
      · show zn (nI (d / 20)) < 12
        omega
      · show zn (zu (S 34) (zn (S 36 0)) (S 37 0) i) < 12
        by_cases e : i = zn (S 36 0)
        · rw [e, zu_s]; exact r2
        · rw [zu_n e]; exact r3 i
      · show zIO S (zn (nI (d / 20)))
        rw [e37]; exact d2
      · show zn (S 5 d) ≤ 100
        omega
      · have hi : i < zn (nI (zn (S 36 0) + 1)) := hi
        show zIO S (zn (zu (S 34) (zn (S 36 0)) (S 37 0) i)) ∧ zn (zu (S 35) (zn (S 36 0)) (S 38 0) i) ≤ 100
        by_cases e : i = zn (S 36 0)
        · rw [e, zu_s, zu_s]; exact r4 (by omega)
        · rw [zu_n e, zu_n e]; exact r5 i h0 (by omega)
      · show zn (nI (zn (S 36 0) + 1)) ≤ 101
        omega
      · show zn (if zn (S 32 0) < zn (S 36 0) then nI (zn (S 36 0)) else S 32 0) ≤ 101
        split
        · rw [nI_zn]; omega
        · exact r7
theorem mk_keep {S0 S : ZS} {op a b c : Int32} (F : ZWF S) (FL : ZWL S) (R : ZRN S) (hg : zgood op a b c = true) (h7 : op = 7 → ∀ d, zfd S a = some d → S 4 d = 0) (hd : 0 < zn (S 36 0)) (hs : zn (S 30 0) < zn (S 29 0)) : ZRN (mkF S0 op a b c S).2 ∧ ∀ k, k < 18 ∨ k = 29 → (mkF S0 op a b c S).2 k = S k := by
  have h15 : zn op < 15 := Classical.byContradiction fun z => by rw [zgood_out (by omega)] at hg; cases hg
  have hcs : zn op = 0 ∨ zn op = 1 ∨ zn op = 2 ∨ zn op = 3 ∨ zn op = 4 ∨ zn op = 5 ∨ zn op = 6 ∨ zn op = 7 ∨ zn op = 8 ∨ zn op = 9 ∨ zn op = 10 ∨ zn op = 11 ∨ zn op = 12 ∨ zn op = 13 ∨ zn op = 14 := by omega
  have set1 : ∀ (j i : Nat) (v : Int32), j = 19 ∨ j = 28 ∨ j = 33 → ZRN (zs1 S j i v) ∧ ∀ k, k < 18 ∨ k = 29 → zs1 S j i v k = S k := fun j i v hj => ⟨R.cg (fun k hk => zsa_n (by omega)), fun k hk => zsa_n (by omega)⟩
  have step : ∀ v : Int32, zn v ≤ 100 → ZRN (zs0 S 38 v) ∧ ∀ k, k < 18 ∨ k = 29 → zs0 S 38 v k = S k := fun v hv => by
    obtain ⟨r1, r2, r3, r4, r5, r6, r7, r8, r9⟩ := R
    exact ⟨⟨r1, r2, r3, fun z => ⟨(r4 z).1, hv⟩, r5, r6, r7, r8, r9⟩, fun k hk => zsa_n (by omega)⟩
  rcases hcs with h | h | h | h | h | h | h | h | h | h | h | h | h | h | h <;> rw [zop_is h] at hg h7 ⊢
  · rw [mk_0]; exact set1 _ _ _ (by omega)
  · rw [mk_1]; exact set1 _ _ _ (by omega)
  · rw [mk_2]; exact set1 _ _ _ (by omega)
  · rw [mk_3]; exact set1 _ _ _ (by omega)
  · rw [mk_4]; exact set1 _ _ _ (by omega)
  · rw [mk_5]
    have hc := (zg_5.mp hg).2.2
    have h38 := (R.2.2.2.1 hd).2
    refine step _ ?_
    split <;> omega
  · rw [mk_6]
    have hc := zg_6.mp hg
    exact step _ (by omega)
  · rw [mk_7]
    have hz := h7 rfl
    unfold clnF
    have key : ∀ S2 : ZS, ZRN S2 → (∀ k, k < 18 ∨ k = 29 → S2 k = S k) → ZRN (callF S2 (zfd S a)).2 ∧ ∀ k, k < 18 ∨ k = 29 → (callF S2 (zfd S a)).2 k = S k := fun S2 R2 h2 => by
      refine ⟨callF_keep R2 (fun d hdd => ?_), fun k hk => (callF_lo (by omega)).trans (h2 k hk)⟩
      exact (fnd_zOK F FL hdd R.2.1 (R.2.2.2.1 hd).1 (hz d hdd)).cg (h2 5 (by omega)) (h2 15 (by omega)) (h2 16 (by omega))
    split
    · exact key _ (R.cg (fun k hk => (zsa_n (by omega)).trans (zsa_n (by omega)))) (fun k hk => (zsa_n (by omega)).trans (zsa_n (by omega)))
    · exact key _ R (fun k hk => rfl)
  · rw [mk_8]; exact set1 _ _ _ (by omega)
  · rw [mk_9]
    dsimp only
    split
    · exact ⟨R, fun k hk => rfl⟩
    · exact set1 _ _ _ (by omega)
  · rw [mk_10]; exact set1 _ _ _ (by omega)
  · rw [mk_11]
    exact ⟨callF_keep R (fun d hdd => atF_zOK F FL hdd), fun k hk => callF_lo (by omega)⟩
  · rw [mk_12]
    obtain ⟨r1, r2, r3, r4, r5, r6, r7, r8, r9⟩ := R
    have e36 : zn (nI (zn (S 36 0) - 1)) = zn (S 36 0) - 1 := zn_nI (by omega)
    refine ⟨⟨r1, r3 _, r3, fun z => ?_, fun i h0 hi => ?_, ?_, r7, r8, r9⟩, fun k hk => (zsa_n (by omega)).trans ((zsa_n (by omega)).trans (zsa_n (by omega)))⟩
    · have z : 0 < zn (nI (zn (S 36 0) - 1)) := z
      exact r5 (zn (S 36 0) - 1) (by omega) (by omega)
    · have hi : i < zn (nI (zn (S 36 0) - 1)) := hi
      exact r5 i h0 (by omega)
    · show zn (nI (zn (S 36 0) - 1)) ≤ 101
      omega
  · rw [mk_13]
    have key : ∀ S2 : ZS, ZRN S2 → S2 29 = S 29 → (∀ k, k < 18 ∨ k = 29 → S2 k = S k) → ZRN (zs0 S2 30 (nI (zn (S 30 0) + 1))) ∧ ∀ k, k < 18 ∨ k = 29 → zs0 S2 30 (nI (zn (S 30 0) + 1)) k = S k := fun S2 R2 h29 h2 => by
      obtain ⟨r1, r2, r3, r4, r5, r6, r7, r8, r9⟩ := R2
      refine ⟨⟨r1, r2, r3, r4, r5, r6, r7, ?_, r9⟩, fun k hk => (zsa_n (by omega)).trans (h2 k hk)⟩
      show zn (nI (zn (S 30 0) + 1)) ≤ zn (S2 29 0)
      have := zn_lt (S 29 0)
      rw [zn_nI (by omega), h29]; omega
    split
    · obtain ⟨a1, a2⟩ := set1 33 (zn (S 30 0)) (S 28 (zn a)) (by omega)
      exact key _ a1 rfl a2
    · exact key _ R rfl (fun k hk => rfl)
  · rw [mk_14]; exact ⟨R, fun k hk => rfl⟩
theorem stp_keep {S : ZS} (F : ZWF S) (FL : ZWL S) (C : ZCK S) (R : ZRN S) (hd : 0 < zn (S 36 0)) (hs : zn (S 30 0) < zn (S 29 0)) (hn : zn (S 38 0) < zn (S 9 (zn (S 37 0)))) : ZRN (stpF S).2 ∧ ∀ k, k < 18 ∨ k = 29 → (stpF S).2 k = S k := by
  have hsc := F.sc (zn (S 37 0))
  have hlo : ∀ k, k ≠ 38 → zs0 S 38 (nI (zn (S 38 0) + 1)) k = S k := fun k hk => zsa_n hk
  have R1 : ZRN (zs0 S 38 (nI (zn (S 38 0) + 1))) := by
    obtain ⟨r1, r2, r3, r4, r5, r6, r7, r8, r9⟩ := R
    refine ⟨r1, r2, r3, fun z => ⟨(r4 z).1, ?_⟩, r5, r6, r7, r8, r9⟩
    show zn (nI (zn (S 38 0) + 1)) ≤ 100
    rw [zn_nI (by omega)]; omega
  obtain ⟨p, hp, hpm⟩ := (R.2.2.2.1 hd).1
  have := mk_keep (S0 := S) (op := zop S 0) (a := zop S 1) (b := zop S 2) (c := zop S 3) (F.cg (fun k hk => hlo k (by omega))) (FL.cg (fun k hk hk2 => hlo k (by omega))) R1 (F.so _ _ hn) (fun h7 d hdd => by
    refine (C p hp).1 (zn (S 38 0)) (by rw [hpm]; exact hn) (by rw [hpm]; exact h7) d ?_
    rw [hpm]
    have hdd : fnd (zs0 S 38 (nI (zn (S 38 0) + 1))) (S 16) (zn (S 15 0)) (zn (S 37 0)) (zop S 1) = some d := hdd
    rwa [fnd_cg (S := S) (hlo 3 (by decide)) (hlo 6 (by decide)) (hlo 7 (by decide))] at hdd) hd hs
  exact ⟨this.1, fun k hk => (this.2 k hk).trans (hlo k (by omega))⟩
