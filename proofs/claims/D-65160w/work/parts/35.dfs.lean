set_option maxRecDepth 100000
/-! the search in depth: it comes to an end -/
def zmc (f : Nat → Int32) : Nat → Nat
  | 0 => 0
  | n + 1 => zmc f n + (if f n = 0 then 0 else 1)
theorem zmc_le {f : Nat → Int32} : ∀ n, zmc f n ≤ n
  | 0 => Nat.le_refl _
  | n + 1 => by have := zmc_le (f := f) n; simp only [zmc]; split <;> omega
theorem zmc_off {f : Nat → Int32} {o : Nat} {v : Int32} : ∀ n, n ≤ o → zmc (zu f o v) n = zmc f n
  | 0, _ => rfl
  | n + 1, h => by simp only [zmc]; rw [zmc_off n (by omega), zu_n (by omega)]
theorem zmc_set {f : Nat → Int32} {o : Nat} (h0 : f o = 0) : ∀ n, o < n → zmc (zu f o 1) n = zmc f n + 1
  | 0, h => absurd h (Nat.not_lt_zero _)
  | n + 1, h => by
    simp only [zmc]
    by_cases e : o = n
    · subst e; rw [zmc_off o (Nat.le_refl _), zu_s, h0]; rfl
    · rw [zmc_set h0 n (by omega), zu_n (by omega)]; omega
theorem dfs_tot {S : ZS} (F : ZWF S) : ∀ (f m k : Nat) (st : DfS), 7 * (12 - zmc st.1 12) + (zn (S 2 m) - k) + 1 ≤ f → ∃ r, dfs S f m k st = some r ∧ zmc st.1 12 ≤ zmc r.1 12
  | 0, m, k, st, h => absurd h (by omega)
  | f + 1, m, k, st, h => by
    have hnc := F.nc m
    simp only [dfs]
    by_cases hk : k < zn (S 2 m)
    · rw [if_pos hk]
      have ho : zn (S 1 (6 * m + k)) < 12 := Nat.lt_of_lt_of_le (F.nd m k hk) F.mods
      by_cases h0 : st.1 (zn (S 1 (6 * m + k))) = 0
      · rw [if_pos h0]
        have hc := zmc_set h0 12 ho
        have hle := zmc_le (f := zu st.1 (zn (S 1 (6 * m + k))) 1) 12
        have hnc2 := F.nc (zn (S 1 (6 * m + k)))
        obtain ⟨r1, e1, g1⟩ := dfs_tot F f (zn (S 1 (6 * m + k))) 0 (zu st.1 (zn (S 1 (6 * m + k))) 1, st.2) (by dsimp only; omega)
        rw [e1]
        dsimp only at g1 ⊢
        obtain ⟨r2, e2, g2⟩ := dfs_tot F f m (k + 1) r1 (by omega)
        exact ⟨r2, e2, by omega⟩
      · rw [if_neg h0]
        obtain ⟨r2, e2, g2⟩ := dfs_tot F f m (k + 1) st (by omega)
        exact ⟨r2, e2, g2⟩
    · rw [if_neg hk]
      exact ⟨_, rfl, Nat.le_refl _⟩
