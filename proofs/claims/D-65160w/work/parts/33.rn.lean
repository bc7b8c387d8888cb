set_option maxRecDepth 100000
def ZRB (S : ZS) : Prop := zn (S 37 0) < 12 ∧ ∀ i, zn (S 34 i) < 12
theorem rnA_lo {S : ZS} {k : Nat} (hk : k < 18) : rnA S k = S k := (zsa_n (by omega)).trans ((zsa_n (by omega)).trans ((zsa_n (by omega)).trans ((zsa_n (by omega)).trans ((zsa_n (by omega)).trans ((zsa_n (by omega)).trans (zsa_n (by omega)))))))
theorem rnA_ok {S : ZS} (hL : S 12 0 ≠ 0) (B : ZRB S) : ZRN (zs0 (rnA S) 36 0) :=
  ⟨hL, B.1, B.2, fun z => absurd z (by show ¬ 0 < zn 0; decide), fun i h0 hi => absurd hi (by show ¬ i < zn 0; rw [zc0]; omega), by show zn 0 ≤ 101; decide, by show zn 0 ≤ 101; decide, Nat.le_refl _, by show zn 0 ≤ 5000; decide⟩
theorem ZRN.d1 {S : ZS} (R : ZRN S) : ZRN (zs0 S 36 0) := R.d0
def zbI (B : ZS) (g : Nat) (r : Int32 × ZS) : Prop := (∀ k, k < 18 → r.2 k = B k) ∧ ZRN (zs0 r.2 36 0) ∧ zn (r.2 29 0) ≤ g
theorem zbI.go {B : ZS} {g d : Nat} {r : Int32 × ZS} (F : ZWF B) (FL : ZWL B) (C : ZCK B) (H : zbI B g r) (hg : g ≤ 5000) (hd : zOK B d) : zbI B g (goF r.2 d g) := by
  obtain ⟨h1, h2, h3⟩ := H
  obtain ⟨a1, a2, a3⟩ := goF_keep (F.cg (fun k hk => h1 k (by omega))) (FL.cg (fun k hk hk2 => h1 k (by omega))) (C.cg h1) h2 (hd.cg (h1 5 (by omega)) (h1 15 (by omega)) (h1 16 (by omega))) h3 hg
  exact ⟨fun k hk => (a2 k hk).trans (h1 k hk), a1.d1, a3⟩
/-- the beginner of the module at a place of the list of those that begin -/
def zbD (B : ZS) (p : Nat) : Option Nat := if B 11 (zn (B 17 p)) = -1 then none else fnd B (B 16) (zn (B 15 0)) (zn (B 17 p)) (B 11 (zn (B 17 p)))
theorem bgL_end {B : ZS} {g p : Nat} (h : (bgL B g p).1 ≠ -1) : bgL B g (p + 1) = bgL B g p := if_neg h
theorem bgL_no {B : ZS} {g p : Nat} (h : (bgL B g p).1 = -1) (hd : zbD B p = none) : bgL B g (p + 1) = bgL B g p := by
  refine (if_pos h).trans ?_
  unfold zbD at hd
  split at hd
  · rename_i h2; rw [if_pos h2]
  · rename_i h2; rw [if_neg h2, hd]
theorem bgL_go {B : ZS} {g p d : Nat} (h : (bgL B g p).1 = -1) (hd : zbD B p = some d) : bgL B g (p + 1) = goF (bgL B g p).2 d g := by
  refine (if_pos h).trans ?_
  unfold zbD at hd
  split at hd
  · cases hd
  · rename_i h2; rw [if_neg h2, hd]
theorem bgL_stay {B : ZS} {g p : Nat} (h : (bgL B g p).1 ≠ -1) : ∀ j, bgL B g (p + j) = bgL B g p
  | 0 => rfl
  | j + 1 => by show bgL B g (p + j + 1) = _; rw [bgL_end (by rw [bgL_stay h j]; exact h), bgL_stay h j]
/-- those that begin are in the order -/
def zBG (S : ZS) : Prop := ∀ p, p < zn (S 15 0) → zIO S (zn (S 17 p))
theorem zbD_ok {B : ZS} {p d : Nat} (F : ZWF B) (FL : ZWL B) (C : ZCK B) (HB : zBG B) (hp : p < zn (B 15 0)) (hd : zbD B p = some d) : zOK B d := by
  unfold zbD at hd
  split at hd
  · cases hd
  · rename_i h2
    obtain ⟨q, hq, hqm⟩ := HB p hp
    exact fnd_zOK F FL hd (FL.2.2.1 p hp) (HB p hp) ((C q hq).2 (by rw [hqm]; exact h2) d (by rw [hqm]; exact hd))
theorem bgL_ok {B : ZS} {g : Nat} (F : ZWF B) (FL : ZWL B) (C : ZCK B) (HB : zBG B) (R : ZRN (zs0 B 36 0)) (hg : g ≤ 5000) (hm : zn (B 29 0) ≤ g) : ∀ p, p ≤ zn (B 15 0) → zbI B g (bgL B g p)
  | 0, _ => ⟨fun k hk => rfl, R, hm⟩
  | p + 1, hp => by
    have ih := bgL_ok F FL C HB R hg hm p (by omega)
    by_cases h : (bgL B g p).1 = -1
    · cases hd : zbD B p with
      | none => rw [bgL_no h hd]; exact ih
      | some d => rw [bgL_go h hd]; exact ih.go F FL C hg (zbD_ok F FL C HB (by omega) hd)
    · rw [bgL_end h]; exact ih
