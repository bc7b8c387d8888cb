set_option maxRecDepth 100000
/-! HashMap with keys 0 .. 63 (boxed): what a map is in the world; pure rows -/
/-- how many of the first n keys are there -/
def zcnt (m : Nat → Option (Nat × Value)) : Nat → Nat
  | 0 => 0
  | n + 1 => zcnt m n + (if (m n).isSome = true then 1 else 0)
theorem zcnt_le (m : Nat → Option (Nat × Value)) : ∀ n, zcnt m n ≤ n
  | 0 => Nat.le_refl _
  | n + 1 => by have := zcnt_le m n; simp only [zcnt]; split <;> omega
theorem zcnt_eq {m m1 : Nat → Option (Nat × Value)} : ∀ n, (∀ k, k < n → (m1 k).isSome = (m k).isSome) → zcnt m1 n = zcnt m n
  | 0, _ => rfl
  | n + 1, h => by simp only [zcnt]; rw [zcnt_eq n (fun k hk => h k (by omega)), h n (by omega)]
theorem zcnt_new {m m1 : Nat → Option (Nat × Value)} {k0 : Nat} (h0 : (m k0).isSome = false) (h1 : (m1 k0).isSome = true) (he : ∀ k, k ≠ k0 → (m1 k).isSome = (m k).isSome) : ∀ n, k0 < n → zcnt m1 n = zcnt m n + 1
  | 0, h => absurd h (Nat.not_lt_zero _)
  | n + 1, h => by
    simp only [zcnt]
    by_cases hk : k0 = n
    · subst hk
      rw [zcnt_eq k0 (fun k hk => he k (by omega)), h0, h1]
      simp
    · rw [zcnt_new h0 h1 he n (by omega), he n (Ne.symm hk)]
      omega
theorem zcnt_0 {m : Nat → Option (Nat × Value)} : ∀ n, zcnt m n = 0 → ∀ k, k < n → m k = none
  | 0, _, k, h => absurd h (Nat.not_lt_zero _)
  | n + 1, h, k, hk => by
    simp only [zcnt] at h
    by_cases e : k = n
    · subst e
      cases hm : m k with
      | none => rfl
      | some _ => rw [hm] at h; simp at h
    · exact zcnt_0 n (by omega) k (by omega)
theorem zcnt_pos {m : Nat → Option (Nat × Value)} : ∀ n k, k < n → (m k).isSome = true → 0 < zcnt m n
  | 0, k, h, _ => absurd h (Nat.not_lt_zero _)
  | n + 1, k, h, hk => by
    simp only [zcnt]
    by_cases e : k = n
    · subst e; rw [hk]; simp
    · have := zcnt_pos n k (by omega) hk; omega
/-- a node's content -/
abbrev znd (G : ZG) (t k : Nat) (w nx : Value) : Nat × ZE := (t, .inr (13, [.int (nI k), .ref (zS G (228 + k)), w, nx]))
theorem znd_ne {G : ZG} {t k k' : Nat} {w w' nx nx' : Value} (hk : k < 64) (hk' : k' < 64) (hn : k ≠ k') : znd G t k w nx ≠ znd G t k' w' nx' := by
  intro z
  have z1 := (Prod.mk.inj z).2
  have z2 := (Prod.mk.inj (Sum.inr.inj z1)).2
  have z3 := Value.int.inj (List.cons.inj z2).1
  exact hn ((nI_eq (by omega) (by omega)).mp z3)
/-- a chain of nodes with the keys L, from v to e -/
def zct (G : ZG) (h : ZH) (t : Nat) (m : Nat → Option (Nat × Value)) : List Nat → Value → Value → Prop
  | [], v, e => v = e
  | k :: L, v, e => ∃ (q : Nat) (w nx : Value), v = .ref q ∧ m k = some (q, w) ∧ zref w ∧ h q = znd G t k w nx ∧ zct G h t m L nx e
theorem zct.mono {G : ZG} {h h1 : ZH} {t : Nat} {m m1 : Nat → Option (Nat × Value)} : ∀ (L : List Nat) (v e : Value), zct G h t m L v e → (∀ k ∈ L, ∀ q w nx, m k = some (q, w) → h q = znd G t k w nx → m1 k = some (q, w) ∧ h1 q = h q) → zct G h1 t m1 L v e
  | [], _, _, hc, _ => hc
  | k :: L, v, e, hc, hm => by
    obtain ⟨q, w, nx, h1', h2, h3, h4, h5⟩ := hc
    obtain ⟨a1, a2⟩ := hm k List.mem_cons_self q w nx h2 h4
    exact ⟨q, w, nx, h1', a1, h3, a2.trans h4, zct.mono L nx e h5 (fun k' hk' => hm k' (List.mem_cons_of_mem _ hk'))⟩
theorem zct.on {G : ZG} {h h' : ZH} {t : Nat} {m : Nat → Option (Nat × Value)} {L : List Nat} {v e : Value} {T : Nat → Prop} (H : zct G h t m L v e) (o : zOn T h h') (ht : 1 < t) (hT : ¬ T t) : zct G h' t m L v e :=
  zct.mono L v e H (fun k _ q w nx h1 h2 => ⟨h1, by rw [o.at h2 (by omega) hT]; exact h2.symm⟩)
theorem zct.app {G : ZG} {h : ZH} {t : Nat} {m : Nat → Option (Nat × Value)} : ∀ (L L' : List Nat) (v e : Value), zct G h t m (L ++ L') v e ↔ ∃ x, zct G h t m L v x ∧ zct G h t m L' x e
  | [], L', v, e => ⟨fun hc => ⟨v, rfl, hc⟩, fun ⟨x, h1, h2⟩ => by rw [show v = x from h1]; exact h2⟩
  | k :: L, L', v, e => by
    constructor
    · rintro ⟨q, w, nx, h1, h2, h3, h4, h5⟩
      obtain ⟨x, g1, g2⟩ := (zct.app L L' nx e).mp h5
      exact ⟨x, ⟨q, w, nx, h1, h2, h3, h4, g1⟩, g2⟩
    · rintro ⟨x, ⟨q, w, nx, h1, h2, h3, h4, g1⟩, g2⟩
      exact ⟨q, w, nx, h1, h2, h3, h4, (zct.app L L' nx e).mpr ⟨x, g1, g2⟩⟩
/-- one cell changed that is no node of the chain -/
theorem zct.up {G : ZG} {h h1 : ZH} {t q0 : Nat} {m : Nat → Option (Nat × Value)} {L : List Nat} {v e : Value} {x y0 : Nat × ZE} (H : zct G h t m L v e) (e1 : h1 = zup h q0 x) (hq : h q0 = y0) (hne : ∀ k ∈ L, ∀ w nx, y0 ≠ znd G t k w nx) : zct G h1 t m L v e :=
  zct.mono L v e H (fun k hk q w nx g1 g2 => ⟨g1, by rw [e1, zup_n]; intro z; rw [z, hq] at g2; exact hne k hk w nx g2⟩)
theorem zct.up0 {G : ZG} {h h1 : ZH} {t q0 : Nat} {m : Nat → Option (Nat × Value)} {L : List Nat} {v e : Value} {x : Nat × ZE} (H : zct G h t m L v e) (ht : t ≠ 0) (e1 : h1 = zup h q0 x) (hq : (h q0).1 = 0) : zct G h1 t m L v e :=
  zct.mono L v e H (fun k hk q w nx g1 g2 => ⟨g1, by rw [e1, zup_n]; intro z; rw [z] at g2; rw [g2] at hq; exact ht hq⟩)
/-- the last node's link is set -/
theorem zct.link {G : ZG} {h h1 : ZH} {t k q : Nat} {m : Nat → Option (Nat × Value)} {L : List Nat} {v e y w : Value} (H : zct G h t m (L ++ [k]) v e) (hk : k ∉ L) (hlt : ∀ j ∈ L ++ [k], j < 64) (hm : m k = some (q, w)) (e1 : h1 = zup h q (znd G t k w y)) : zct G h1 t m (L ++ [k]) v y := by
  obtain ⟨x, g1, g2⟩ := (zct.app L [k] v e).mp H
  obtain ⟨q', w', nx, h1', h2, h3, h4, h5⟩ := g2
  cases hm.symm.trans h2
  refine (zct.app L [k] v y).mpr ⟨x, zct.up g1 e1 h4 (fun j hj w nx => znd_ne (hlt k (by simp)) (hlt j (by simp [hj])) (fun z => hk (by rw [z]; exact hj))), q, w, y, h1', hm, h3, by rw [e1]; exact zup_s _ _ _, rfl⟩
/-- a value is set -/
theorem zct.val {G : ZG} {h h1 : ZH} {t k q : Nat} {m m1 : Nat → Option (Nat × Value)} {w nx w1 : Value} (hm : m k = some (q, w)) (hq : h q = znd G t k w nx) (hm1 : ∀ j, m1 j = if j = k then some (q, w1) else m j) (hw1 : zref w1) (e1 : h1 = zup h q (znd G t k w1 nx)) : ∀ (L : List Nat) (v e : Value), (∀ j ∈ L, j < 64) → k < 64 → zct G h t m L v e → zct G h1 t m1 L v e
  | [], _, _, _, _, hc => hc
  | j :: L, v, e, hlt, hk, hc => by
    obtain ⟨q', w', nx', g1, g2, g3, g4, g5⟩ := hc
    have ih := zct.val hm hq hm1 hw1 e1 L nx' e (fun j hj => hlt j (List.mem_cons_of_mem _ hj)) hk g5
    by_cases hjk : j = k
    · subst hjk
      cases hm.symm.trans g2
      have z := hq.symm.trans g4
      have z1 := (Prod.mk.inj z).2
      have z2 := (Prod.mk.inj (Sum.inr.inj z1)).2
      simp only [List.cons.injEq, and_true, true_and] at z2
      refine ⟨q, w1, nx, g1, by rw [hm1, if_pos rfl], hw1, by rw [e1]; exact zup_s _ _ _, ?_⟩
      rw [z2]; exact ih
    · refine ⟨q', w', nx', g1, by rw [hm1, if_neg hjk]; exact g2, g3, ?_, ih⟩
      rw [e1, zup_n]
      · exact g4
      · intro z
        rw [z, hq] at g4
        exact znd_ne hk (hlt j List.mem_cons_self) (Ne.symm hjk) g4
theorem zct.null {G : ZG} {h : ZH} {t : Nat} {m : Nat → Option (Nat × Value)} {L : List Nat} {e : Value} (H : zct G h t m L .null e) : L = [] := by
  cases L with
  | nil => rfl
  | cons k L => obtain ⟨q, w, nx, g1, -⟩ := H; cases g1
theorem zct.ref {G : ZG} {h : ZH} {t q : Nat} {m : Nat → Option (Nat × Value)} {L : List Nat} (H : zct G h t m L (.ref q) .null) : ∃ k L', L = k :: L' ∧ ∃ w nx, m k = some (q, w) ∧ zref w ∧ h q = znd G t k w nx ∧ zct G h t m L' nx .null := by
  cases L with
  | nil => cases H
  | cons k L =>
    obtain ⟨q', w, nx, g1, g2, g3, g4, g5⟩ := H
    cases g1
    exact ⟨k, L, rfl, w, nx, g2, g3, g4, g5⟩
theorem zct.zref {G : ZG} {h : ZH} {t : Nat} {m : Nat → Option (Nat × Value)} {L : List Nat} {v e : Value} (H : zct G h t m L v e) (he : zref e) : zref v := by
  cases L with
  | nil => rw [show v = e from H]; exact he
  | cons k L => obtain ⟨q, w, nx, g1, -⟩ := H; rw [g1]; exact zref.r
/-- the keys' order: bucket b has the keys C b -/
def zKO (N : Nat) (C : Nat → List Nat) (m : Nat → Option (Nat × Value)) : Prop :=
  (∀ b k, k ∈ C b → b < N ∧ k < 64 ∧ k % N = b ∧ (m k).isSome = true) ∧ (∀ b, (C b).Nodup) ∧ (∀ k, (m k).isSome = true → k < 64 ∧ k ∈ C (k % N))
/-- a view of the map (its entries, its values): made once, or not yet -/
def zvw (h : ZH) (t a ci : Nat) (v : Value) : Prop := v = .null ∨ ∃ q : Nat, v = .ref q ∧ h q = (t, .inr (ci, [.ref a]))
/-- the table's size, as it may be -/
def zNs (N : Nat) : Prop := N = 16 ∨ N = 32 ∨ N = 64 ∨ N = 128
def zHT (G : ZG) (h : ZH) (t N : Nat) (C : Nat → List Nat) (m : Nat → Option (Nat × Value)) (tab : Value) (thr : Int32) : Prop :=
  (N = 0 ∧ tab = .null ∧ thr = nI 0) ∨ ∃ (T : Nat) (g : Nat → Value), zNs N ∧ tab = .ref T ∧ thr = nI (3 * N / 4) ∧ h T = (t, .inl (6, N, g)) ∧ ∀ b, b < N → zct G h t m (C b) (g b) .null
/-- a HashMap of tag t at a: the nodes m, the order of keys C, N buckets, mc changes -/
def zHM (G : ZG) (h : ZH) (t a N : Nat) (C : Nat → List Nat) (m : Nat → Option (Nat × Value)) (mc : Int32) : Prop :=
  ∃ (vs es tab : Value) (thr : Int32), h a = (t, .inr (11, [.null, vs, tab, es, .int (nI (zcnt m 64)), .int mc, .int thr, .float 1061158912])) ∧ zvw h t a 18 vs ∧ zvw h t a 16 es ∧ zHT G h t N C m tab thr ∧ zKO N C m
theorem zvw.on {h h' : ZH} {t a ci : Nat} {v : Value} {T : Nat → Prop} (H : zvw h t a ci v) (o : zOn T h h') (ht : 1 < t) (hT : ¬ T t) : zvw h' t a ci v := by
  rcases H with z | ⟨q, z, e⟩
  · exact Or.inl z
  · exact Or.inr ⟨q, z, o.at e (by omega) hT⟩
theorem zvw.zref {h : ZH} {t a ci : Nat} {v : Value} (H : zvw h t a ci v) : zref v := by
  rcases H with z | ⟨q, z, e⟩
  · exact Or.inl z
  · exact Or.inr ⟨q, z⟩
/-- one cell changed that is no view -/
theorem zvw.up {h h1 : ZH} {t a ci q0 : Nat} {v : Value} {x y0 : Nat × ZE} (H : zvw h t a ci v) (e1 : h1 = zup h q0 x) (hq : h q0 = y0) (hne : y0 ≠ (t, .inr (ci, [.ref a]))) : zvw h1 t a ci v := by
  rcases H with z | ⟨q, z, e⟩
  · exact Or.inl z
  · exact Or.inr ⟨q, z, by rw [e1, zup_n]; exact e; intro w; rw [w, hq] at e; exact hne e⟩
theorem zvw.up0 {h h1 : ZH} {t a ci q0 : Nat} {v : Value} {x : Nat × ZE} (H : zvw h t a ci v) (ht : t ≠ 0) (e1 : h1 = zup h q0 x) (hq : (h q0).1 = 0) : zvw h1 t a ci v := by
  rcases H with z | ⟨q, z, e⟩
  · exact Or.inl z
  · exact Or.inr ⟨q, z, by rw [e1, zup_n]; exact e; intro w; rw [w] at e; rw [e] at hq; exact ht hq⟩
theorem zHT.on {G : ZG} {h h' : ZH} {t N : Nat} {C : Nat → List Nat} {m : Nat → Option (Nat × Value)} {tab : Value} {thr : Int32} {T : Nat → Prop} (H : zHT G h t N C m tab thr) (o : zOn T h h') (ht : 1 < t) (hT : ¬ T t) : zHT G h' t N C m tab thr := by
  rcases H with z | ⟨q, g, e1, e2, e3, e4, e5⟩
  · exact Or.inl z
  · exact Or.inr ⟨q, g, e1, e2, e3, o.at e4 (by omega) hT, fun b hb => (e5 b hb).on o ht hT⟩
theorem zHT.zref {G : ZG} {h : ZH} {t N : Nat} {C : Nat → List Nat} {m : Nat → Option (Nat × Value)} {tab : Value} {thr : Int32} (H : zHT G h t N C m tab thr) : zref tab := by
  rcases H with ⟨-, z, -⟩ | ⟨q, g, e1, e2, -⟩
  · exact Or.inl z
  · exact Or.inr ⟨q, e2⟩
theorem zHM.on {G : ZG} {h h' : ZH} {t a N : Nat} {C : Nat → List Nat} {m : Nat → Option (Nat × Value)} {mc : Int32} {T : Nat → Prop} (H : zHM G h t a N C m mc) (o : zOn T h h') (ht : 1 < t) (hT : ¬ T t) : zHM G h' t a N C m mc := by
  obtain ⟨vs, es, tab, thr, e1, e2, e3, e4, e5⟩ := H
  exact ⟨vs, es, tab, thr, o.at e1 (by omega) hT, e2.on o ht hT, e3.on o ht hT, e4.on o ht hT, e5⟩
theorem zHM.rc {G : ZG} {h : ZH} {t a N : Nat} {C : Nat → List Nat} {m : Nat → Option (Nat × Value)} {mc : Int32} (H : zHM G h t a N C m mc) : ∃ fs, h a = (t, .inr (11, fs)) := by
  obtain ⟨vs, es, tab, thr, e1, -⟩ := H
  exact ⟨_, e1⟩
theorem zNs.lt {N : Nat} (h : zNs N) : 16 ≤ N ∧ N ≤ 128 ∧ N % 16 = 0 := by rcases h with rfl | rfl | rfl | rfl <;> decide
/-- the index of a hash -/
theorem zix {N : Nat} (h : zNs N) (x : Int32) : ∃ j : Nat, j < N ∧ nI (N - 1) &&& x = nI j := by
  have key : ∀ (k : Nat), k ≤ 30 → (nI (2 ^ k - 1)).toBitVec.toNat = 2 ^ k - 1 → ∃ j : Nat, j < 2 ^ k ∧ nI (2 ^ k - 1) &&& x = nI j := by
    intro k hk hm
    obtain ⟨j, h1, h2⟩ := pk_andE x k hm
    exact ⟨j, h1, by rw [Int32.and_comm]; exact h2⟩
  rcases h with rfl | rfl | rfl | rfl
  · exact key 4 (by decide) (by decide)
  · exact key 5 (by decide) (by decide)
  · exact key 6 (by decide) (by decide)
  · exact key 7 (by decide) (by decide)
theorem zix_k {N : Nat} (h : zNs N) : ∀ k, k < 64 → nI (N - 1) &&& nI k = nI (k % N) := by
  rcases h with rfl | rfl | rfl | rfl <;> decide +kernel
theorem zlo {N : Nat} (h : N = 16 ∨ N = 32 ∨ N = 64) : ∀ k, k < 64 → ((nI k &&& nI N) = 0 ↔ k % (2 * N) = k % N) := by
  rcases h with rfl | rfl | rfl <;> decide +kernel
theorem zhash_k : ∀ k, k < 64 → nI k ^^^ ((nI k).toUInt32 >>> ((nI 16).toUInt32 &&& Int32.toUInt32 31)).toInt32 = nI k := by decide +kernel
theorem zlen_le : ∀ (n : Nat) (l : List Nat), l.Nodup → (∀ x ∈ l, x < n) → l.length ≤ n
  | 0, l, _, h => by
    cases l with
    | nil => exact Nat.le_refl _
    | cons x l => exact absurd (h x List.mem_cons_self) (Nat.not_lt_zero _)
  | n + 1, l, hn, h => by
    have h1 : (l.filter (fun x => !(x == n))).length ≤ n := zlen_le n _ (hn.filter _) (fun x hx => by
      obtain ⟨a, b⟩ := List.mem_filter.mp hx
      have := h x a
      have hb : ¬ x = n := by simpa using b
      omega)
    have h2 : ∀ (l : List Nat), l.Nodup → l.length ≤ (l.filter (fun x => !(x == n))).length + 1 := by
      intro l
      induction l with
      | nil => intro _; simp
      | cons x l ih =>
        intro hn
        obtain ⟨ha, hb⟩ := List.nodup_cons.mp hn
        by_cases hx : x = n
        · subst hx
          have : l.filter (fun y => !(y == x)) = l := List.filter_eq_self.mpr (fun y hy => by
            have : y ≠ x := fun z => ha (by rw [← z]; exact hy)
            simpa using this)
          simp [this]
        · have := ih hb
          simp [hx]
          omega
    have := h2 l hn
    omega
theorem znd_map {f : Nat → Nat} : ∀ (l : List Nat), l.Nodup → (∀ x ∈ l, ∀ y ∈ l, f x = f y → x = y) → (l.map f).Nodup
  | [], _, _ => List.nodup_nil
  | a :: l, hn, h => by
    obtain ⟨h1, h2⟩ := List.nodup_cons.mp hn
    rw [List.map_cons]
    refine List.nodup_cons.mpr ⟨fun hm => ?_, znd_map l h2 (fun x hx y hy => h x (List.mem_cons_of_mem _ hx) y (List.mem_cons_of_mem _ hy))⟩
    obtain ⟨y, hy, hfy⟩ := List.mem_map.mp hm
    have := h a List.mem_cons_self y (List.mem_cons_of_mem _ hy) hfy.symm
    exact h1 (by rw [this]; exact hy)
/-- no bucket has more than four keys -/
theorem zKO.len {N : Nat} {C : Nat → List Nat} {m : Nat → Option (Nat × Value)} (H : zKO N C m) (hN : zNs N) (b : Nat) : (C b).length ≤ 4 := by
  have h1 : ((C b).map (fun k => k / 16)).length ≤ 4 := zlen_le 4 _ (by
      refine znd_map _ (H.2.1 b) ?_
      intro x hx y hy hxy
      have hx' := H.1 b x hx
      have hy' := H.1 b y hy
      have := hN.lt
      have e1 : x % 16 = y % 16 := by
        have : N % 16 = 0 := this.2.2
        have a1 : x % N % 16 = x % 16 := Nat.mod_mod_of_dvd _ (Nat.dvd_of_mod_eq_zero this)
        have a2 : y % N % 16 = y % 16 := Nat.mod_mod_of_dvd _ (Nat.dvd_of_mod_eq_zero this)
        rw [← a1, ← a2, hx'.2.2.1, hy'.2.2.1]
      omega) (fun x hx => by
      obtain ⟨k, hk, rfl⟩ := List.mem_map.mp hx
      have := H.1 b k hk
      omega)
  simpa using h1
/-- the buckets behind a doubling -/
def zC2 (N : Nat) (C : Nat → List Nat) : Nat → List Nat := fun j => if j < 2 * N then (C (j % N)).filter (fun k => k % (2 * N) == j) else []
theorem zKO.dbl {N : Nat} {C : Nat → List Nat} {m : Nat → Option (Nat × Value)} (H : zKO N C m) (hN : 0 < N) : zKO (2 * N) (zC2 N C) m := by
  refine ⟨fun b k hk => ?_, fun b => ?_, fun k hk => ?_⟩
  · unfold zC2 at hk
    split at hk
    · rename_i hb
      obtain ⟨a, c⟩ := List.mem_filter.mp hk
      have := H.1 _ k a
      exact ⟨hb, this.2.1, by simpa using c, this.2.2.2⟩
    · cases hk
  · unfold zC2
    split
    · exact (H.2.1 _).filter _
    · exact List.nodup_nil
  · have := H.2.2 k hk
    refine ⟨this.1, ?_⟩
    have h1 : k % (2 * N) < 2 * N := Nat.mod_lt _ (by omega)
    unfold zC2
    rw [if_pos h1]
    refine List.mem_filter.mpr ⟨?_, by simp⟩
    rw [Nat.mod_mod_of_dvd k (Nat.dvd_mul_left N 2)]
    exact this.2

/-- the table is T -/
def zHMt (G : ZG) (h : ZH) (t a N : Nat) (C : Nat → List Nat) (m : Nat → Option (Nat × Value)) (mc : Int32) (T : Nat) (g : Nat → Value) : Prop :=
  ∃ (vs es : Value), h a = (t, .inr (11, [.null, vs, .ref T, es, .int (nI (zcnt m 64)), .int mc, .int (nI (3 * N / 4)), .float 1061158912])) ∧ zvw h t a 18 vs ∧ zvw h t a 16 es ∧ h T = (t, .inl (6, N, g)) ∧ (∀ b, b < N → zct G h t m (C b) (g b) .null) ∧ zKO N C m ∧ zNs N
theorem zHMt.hm {G : ZG} {h : ZH} {t a N T : Nat} {C : Nat → List Nat} {m : Nat → Option (Nat × Value)} {mc : Int32} {g : Nat → Value} (H : zHMt G h t a N C m mc T g) : zHM G h t a N C m mc := by
  obtain ⟨vs, es, e1, e2, e3, e4, e5, e6, e7⟩ := H
  exact ⟨vs, es, _, _, e1, e2, e3, Or.inr ⟨T, g, e7, rfl, rfl, e4, e5⟩, e6⟩
/-- while the table is doubled, at bucket j: all but that bucket's nodes -/
def zRF (G : ZG) (h : ZH) (t a N : Nat) (C : Nat → List Nat) (m : Nat → Option (Nat × Value)) (mc : Int32) (vs es : Value) (T0 T1 : Nat) (g g' : Nat → Value) (j : Nat) : Prop :=
  h a = (t, .inr (11, [.null, vs, .ref T1, es, .int (nI (zcnt m 64)), .int mc, .int (nI (3 * (2 * N) / 4)), .float 1061158912])) ∧ zvw h t a 18 vs ∧ zvw h t a 16 es ∧ h T0 = (t, .inl (6, N, g)) ∧ h T1 = (t, .inl (6, 2 * N, g')) ∧ T0 ≠ T1 ∧
  (∀ b, b < N → j < b → zct G h t m (C b) (g b) .null) ∧ (∀ b, b < N → b < j → zct G h t m (zC2 N C b) (g' b) .null ∧ zct G h t m (zC2 N C (b + N)) (g' (b + N)) .null) ∧ (∀ b, b < N → j < b → g' b = .null ∧ g' (b + N) = .null)
theorem zC2_mem {N : Nat} {C : Nat → List Nat} {m : Nat → Option (Nat × Value)} (H : zKO N C m) {b k : Nat} (hk : k ∈ zC2 N C b) : b < 2 * N ∧ k < 64 ∧ k % N = b % N ∧ k % (2 * N) = b := by
  unfold zC2 at hk
  split at hk
  · rename_i hb
    obtain ⟨a, c⟩ := List.mem_filter.mp hk
    have := H.1 _ k a
    exact ⟨hb, this.2.1, this.2.2.1, by simpa using c⟩
  · cases hk
theorem zRF.node {G : ZG} {h h1 : ZH} {t a N T0 T1 j k0 q0 : Nat} {C : Nat → List Nat} {m : Nat → Option (Nat × Value)} {mc : Int32} {vs es w nx : Value} {g g' : Nat → Value} {x : Nat × ZE} (F : zRF G h t a N C m mc vs es T0 T1 g g' j) (H : zKO N C m) (hk : k0 < 64) (hj : k0 % N = j) (hN : 0 < N) (e1 : h1 = zup h q0 x) (hq : h q0 = znd G t k0 w nx) : zRF G h1 t a N C m mc vs es T0 T1 g g' j := by
  obtain ⟨f1, f2, f3, f4, f5, f6, f7, f8, f9⟩ := F
  have hne : ∀ (y : Nat × ZE) (b : Nat), h b = y → y ≠ znd G t k0 w nx → h1 b = y := fun y b hb hy => by
    rw [e1, zup_n]; exact hb; intro z; rw [z, hq] at hb; exact hy hb.symm
  refine ⟨hne _ _ f1 (by simp [znd]), f2.up e1 hq (by simp [znd]), f3.up e1 hq (by simp [znd]), hne _ _ f4 (by simp [znd]), hne _ _ f5 (by simp [znd]), f6, fun b hb hjb => (f7 b hb hjb).up e1 hq (fun k hk' w' nx' => znd_ne hk (H.1 b k hk').2.1 (fun z => ?_)), fun b hb hjb => ⟨(f8 b hb hjb).1.up e1 hq (fun k hk' w' nx' => znd_ne hk (zC2_mem H hk').2.1 (fun z => ?_)), (f8 b hb hjb).2.up e1 hq (fun k hk' w' nx' => znd_ne hk (zC2_mem H hk').2.1 (fun z => ?_))⟩, f9⟩
  · have := (H.1 b k hk').2.2.1; rw [← z] at this; omega
  · have := (zC2_mem H hk').2.2.1; rw [← z, Nat.mod_eq_of_lt hb] at this; omega
  · have := (zC2_mem H hk').2.2.1; rw [← z, Nat.add_mod_right, Nat.mod_eq_of_lt hb] at this; omega
/-- the old table's place j is emptied -/
theorem zRF.old {G : ZG} {h h1 : ZH} {t a N T0 T1 j : Nat} {C : Nat → List Nat} {m : Nat → Option (Nat × Value)} {mc : Int32} {vs es v : Value} {g g' : Nat → Value} (F : zRF G h t a N C m mc vs es T0 T1 g g' j) (e1 : h1 = zup h T0 (t, .inl (6, N, zuf g j v))) : zRF G h1 t a N C m mc vs es T0 T1 (zuf g j v) g' j := by
  obtain ⟨f1, f2, f3, f4, f5, f6, f7, f8, f9⟩ := F
  refine ⟨zup_oa e1 f1 (fun z => by rw [z, f4] at f1; simp at f1), f2.up e1 f4 (by simp), f3.up e1 f4 (by simp), zup_is e1, zup_oa e1 f5 (Ne.symm f6), f6, fun b hb hjb => ?_, fun b hb hjb => ⟨(f8 b hb hjb).1.up e1 f4 (fun k hk w nx => by simp [znd]), (f8 b hb hjb).2.up e1 f4 (fun k hk w nx => by simp [znd])⟩, f9⟩
  rw [show zuf g j v b = g b from if_neg (by omega)]
  exact (f7 b hb hjb).up e1 f4 (fun k hk w nx => by simp [znd])
/-- the new table's place i (j or j + N) is set -/
theorem zRF.new {G : ZG} {h h1 : ZH} {t a N T0 T1 j i : Nat} {C : Nat → List Nat} {m : Nat → Option (Nat × Value)} {mc : Int32} {vs es v : Value} {g g' : Nat → Value} (F : zRF G h t a N C m mc vs es T0 T1 g g' j) (hj : j < N) (hi : i = j ∨ i = j + N) (e1 : h1 = zup h T1 (t, .inl (6, 2 * N, zuf g' i v))) : zRF G h1 t a N C m mc vs es T0 T1 g (zuf g' i v) j := by
  obtain ⟨f1, f2, f3, f4, f5, f6, f7, f8, f9⟩ := F
  refine ⟨zup_oa e1 f1 (fun z => by rw [z, f5] at f1; simp at f1), f2.up e1 f5 (by simp), f3.up e1 f5 (by simp), zup_oa e1 f4 f6, zup_is e1, f6, fun b hb hjb => (f7 b hb hjb).up e1 f5 (fun k hk w nx => by simp [znd]), fun b hb hjb => ?_, fun b hb hjb => ?_⟩
  · rw [show zuf g' i v b = g' b from if_neg (by omega), show zuf g' i v (b + N) = g' (b + N) from if_neg (by omega)]
    exact ⟨(f8 b hb hjb).1.up e1 f5 (fun k hk w nx => by simp [znd]), (f8 b hb hjb).2.up e1 f5 (fun k hk w nx => by simp [znd])⟩
  · rw [show zuf g' i v b = g' b from if_neg (by omega), show zuf g' i v (b + N) = g' (b + N) from if_neg (by omega)]
    exact f9 b hb hjb
/-- a half of a bucket while it is split: its keys, its first node, its last node -/
def zhf (G : ZG) (h : ZH) (t : Nat) (m : Nat → Option (Nat × Value)) (L : List Nat) (hd tl : Value) : Prop :=
  (L = [] ∧ hd = .null ∧ tl = .null) ∨ ∃ (L1 : List Nat) (k1 q1 : Nat) (w1 x : Value), L = L1 ++ [k1] ∧ zct G h t m (L1 ++ [k1]) hd x ∧ tl = .ref q1 ∧ m k1 = some (q1, w1) ∧ zref w1 ∧ h q1 = znd G t k1 w1 x ∧ zref x
theorem zhf.zr {G : ZG} {h : ZH} {t : Nat} {m : Nat → Option (Nat × Value)} {L : List Nat} {hd tl : Value} (H : zhf G h t m L hd tl) : zref hd ∧ zref tl := by
  rcases H with ⟨-, a, b⟩ | ⟨L1, k1, q1, w1, x, -, c, d, -⟩
  · exact ⟨Or.inl a, Or.inl b⟩
  · refine ⟨?_, Or.inr ⟨q1, d⟩⟩
    cases L1 with
    | nil => obtain ⟨q, w, nx, g1, -⟩ := c; rw [g1]; exact zref.r
    | cons k L => obtain ⟨q, w, nx, g1, -⟩ := c; rw [g1]; exact zref.r
/-- a node that isn't one of the half's is changed -/
theorem zhf.up {G : ZG} {h h1 : ZH} {t q0 : Nat} {m : Nat → Option (Nat × Value)} {L : List Nat} {hd tl : Value} {x y0 : Nat × ZE} (H : zhf G h t m L hd tl) (e1 : h1 = zup h q0 x) (hq : h q0 = y0) (hne : ∀ k ∈ L, ∀ w nx, y0 ≠ znd G t k w nx) : zhf G h1 t m L hd tl := by
  rcases H with z | ⟨L1, k1, q1, w1, y, a, b, c, d, d2, f⟩
  · exact Or.inl z
  · refine Or.inr ⟨L1, k1, q1, w1, y, a, b.up e1 hq (by rw [← a]; exact hne), c, d, d2, ?_, f.2⟩
    rw [e1, zup_n]
    · exact f.1
    · intro z; rw [z, hq] at f; exact hne k1 (by rw [a]; simp) _ _ f.1

theorem zhf_push0 {G : ZG} {h : ZH} {t k q : Nat} {m : Nat → Option (Nat × Value)} {L : List Nat} {hd w nx : Value} (H : zhf G h t m L hd .null) (hm : m k = some (q, w)) (hw : zref w) (hq : h q = znd G t k w nx) (hx : zref nx) : zhf G h t m (L ++ [k]) (.ref q) (.ref q) := by
  rcases H with ⟨z, -⟩ | ⟨_, _, _, _, _, -, -, z, -⟩
  · subst z
    exact Or.inr ⟨[], k, q, w, nx, rfl, ⟨q, w, nx, rfl, hm, hw, hq, rfl⟩, rfl, hm, hw, hq, hx⟩
  · cases z
theorem zhf_push1 {G : ZG} {h : ZH} {t k q q1 : Nat} {m : Nat → Option (Nat × Value)} {L : List Nat} {hd w nx : Value} (H : zhf G h t m L hd (.ref q1)) (hnd : (L ++ [k]).Nodup) (hlt : ∀ j ∈ L ++ [k], j < 64) (hm : m k = some (q, w)) (hw : zref w) (hq : h q = znd G t k w nx) (hnx : zref nx) : ∃ (k1 : Nat) (w1 x : Value), k1 ∈ L ∧ m k1 = some (q1, w1) ∧ zref w1 ∧ zref x ∧ h q1 = znd G t k1 w1 x ∧ ∀ h1, h1 = zup h q1 (znd G t k1 w1 (.ref q)) → zhf G h1 t m (L ++ [k]) hd (.ref q) := by
  rcases H with ⟨-, -, z⟩ | ⟨L1, k1, q2, w1, x, rfl, a, b, c, d, e, hx⟩
  · cases z
  · cases b
    obtain ⟨n1, n2, n3⟩ := List.nodup_append.mp hnd
    obtain ⟨m1, m2, m3⟩ := List.nodup_append.mp n1
    refine ⟨k1, w1, x, by simp, c, d, hx, e, fun h1 e1 => ?_⟩
    have hk1 : k1 ∉ L1 := fun z => m3 k1 z k1 (by simp) rfl
    have hkk : k1 ≠ k := fun z => n3 k1 (by simp) k (by simp) z
    have g1 := zct.link a hk1 (fun j hj => hlt j (by simp at hj ⊢; rcases hj with z | z <;> simp [z])) c (y := .ref q) e1
    have hq1 : h1 q = znd G t k w nx := by
      rw [e1, zup_n]
      · exact hq
      · intro z
        rw [z, e] at hq
        exact znd_ne (hlt k1 (by simp)) (hlt k (by simp)) hkk hq
    exact Or.inr ⟨L1 ++ [k1], k, q, w, nx, rfl, (zct.app _ _ _ _).mpr ⟨_, g1, q, w, nx, rfl, hm, hw, hq1, rfl⟩, rfl, hm, hw, hq1, hnx⟩

theorem zC2_lo {N j : Nat} {C : Nat → List Nat} (hj : j < N) : zC2 N C j = (C j).filter (fun k => k % (2 * N) == j) := by
  unfold zC2
  rw [if_pos (by omega), Nat.mod_eq_of_lt hj]
theorem zC2_hi {N j : Nat} {C : Nat → List Nat} {m : Nat → Option (Nat × Value)} (H : zKO N C m) (hj : j < N) : zC2 N C (j + N) = (C j).filter (fun k => !(k % (2 * N) == j)) := by
  unfold zC2
  rw [if_pos (by omega), Nat.add_mod_right, Nat.mod_eq_of_lt hj]
  apply List.filter_congr
  intro k hk
  have h1 := (H.1 j k hk).2.2.1
  have h2 : k % (2 * N) % N = k % N := Nat.mod_mod_of_dvd k (Nat.dvd_mul_left N 2)
  have h3 : k % (2 * N) < 2 * N := Nat.mod_lt _ (by omega)
  have h4 : k % (2 * N) = j ∨ k % (2 * N) = j + N := by
    rcases Nat.lt_or_ge (k % (2 * N)) N with h5 | h5
    · rw [Nat.mod_eq_of_lt h5] at h2; omega
    · rw [Nat.mod_eq_sub_mod h5, Nat.mod_eq_of_lt (by omega)] at h2; omega
  rcases h4 with h4 | h4 <;> simp [h4] <;> omega
theorem zshl1 {n : Nat} (h : n < 2 ^ 30) : nI n <<< (nI 1 &&& 31) = nI (2 * n) := by
  rw [pk_shlN (nI 1 &&& 31) 1 (by decide) (by omega), Nat.mul_comm]
theorem zhd_node {G : ZG} {h : ZH} {t : Nat} {m : Nat → Option (Nat × Value)} {L : List Nat} {hd tl : Value} (H : zhf G h t m L hd tl) (hne : tl ≠ .null) : ∃ (q : Nat) (fs : List Value), hd = .ref q ∧ h q = (t, .inr (13, fs)) := by
  rcases H with ⟨-, -, z⟩ | ⟨L1, k1, q1, w1, x, -, c, -⟩
  · exact absurd z hne
  · cases L1 with
    | nil => obtain ⟨q, w, nx, g1, g2, g3, g4, -⟩ := c; exact ⟨q, _, g1, g4⟩
    | cons k L => obtain ⟨q, w, nx, g1, g2, g3, g4, -⟩ := c; exact ⟨q, _, g1, g4⟩
/-- the end of a half: its last link is cut -/
theorem zhf_cut {G : ZG} {h : ZH} {t q1 : Nat} {m : Nat → Option (Nat × Value)} {L : List Nat} {hd : Value} (H : zhf G h t m L hd (.ref q1)) (hnd : L.Nodup) (hlt : ∀ j ∈ L, j < 64) : ∃ (k1 : Nat) (w1 x : Value), k1 ∈ L ∧ m k1 = some (q1, w1) ∧ zref w1 ∧ zref x ∧ h q1 = znd G t k1 w1 x ∧ ∀ h1, h1 = zup h q1 (znd G t k1 w1 .null) → zct G h1 t m L hd .null := by
  rcases H with ⟨-, -, z⟩ | ⟨L1, k1, q2, w1, x, rfl, a, b, c, d, e, hx⟩
  · cases z
  · cases b
    obtain ⟨m1, m2, m3⟩ := List.nodup_append.mp hnd
    exact ⟨k1, w1, x, by simp, c, d, hx, e, fun h1 e1 => zct.link a (fun z => m3 k1 z k1 (by simp) rfl) hlt c (y := .null) e1⟩
theorem zhf_nil {G : ZG} {h : ZH} {t : Nat} {m : Nat → Option (Nat × Value)} {L : List Nat} {hd : Value} (H : zhf G h t m L hd .null) : L = [] := by
  rcases H with ⟨z, -⟩ | ⟨_, _, _, _, _, -, -, z, -⟩
  · exact z
  · cases z
/-- on to the next bucket -/
theorem zRF.step {G : ZG} {h : ZH} {t a N T0 T1 j : Nat} {C : Nat → List Nat} {m : Nat → Option (Nat × Value)} {mc : Int32} {vs es : Value} {g g' : Nat → Value} (F : zRF G h t a N C m mc vs es T0 T1 g g' j) (h1 : zct G h t m (zC2 N C j) (g' j) .null) (h2 : zct G h t m (zC2 N C (j + N)) (g' (j + N)) .null) : zRF G h t a N C m mc vs es T0 T1 g g' (j + 1) ∧ (j + 1 < N → zct G h t m (C (j + 1)) (g (j + 1)) .null ∧ g' (j + 1) = .null ∧ g' (j + 1 + N) = .null) := by
  obtain ⟨f1, f2, f3, f4, f5, f6, f7, f8, f9⟩ := F
  refine ⟨⟨f1, f2, f3, f4, f5, f6, fun b hb hjb => f7 b hb (by omega), fun b hb hjb => ?_, fun b hb hjb => f9 b hb (by omega)⟩, fun hj => ⟨f7 _ hj (by omega), f9 _ hj (by omega)⟩⟩
  by_cases e : b = j
  · subst e; exact ⟨h1, h2⟩
  · exact f8 b hb (by omega)
