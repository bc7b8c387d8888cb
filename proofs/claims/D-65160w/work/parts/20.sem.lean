set_option maxRecDepth 100000
/-! the state of a link station, as the reference's own memory: S k i is place i of its field k; what each call does to it -/
def zu {α : Type} (f : Nat → α) (i : Nat) (v : α) : Nat → α := fun j => if j = i then v else f j
theorem zu_s {α : Type} {f : Nat → α} {i : Nat} {v : α} : zu f i v i = v := if_pos rfl
theorem zu_n {α : Type} {f : Nat → α} {i j : Nat} {v : α} (h : j ≠ i) : zu f i v j = f j := if_neg h
theorem zu_v {f : Nat → Int32} {i : Nat} {v : Int32} (k : Nat) : Value.int (zu f i v k) = if k = i then .int v else .int (f k) := by
  by_cases h : k = i
  · subst h; rw [zu_s, if_pos rfl]
  · rw [zu_n h, if_neg h]
abbrev ZS := Nat → Nat → Int32
def zsa (S : ZS) (k : Nat) (f : Nat → Int32) : ZS := fun k' => if k' = k then f else S k'
abbrev zs1 (S : ZS) (k i : Nat) (v : Int32) : ZS := zsa S k (zu (S k) i v)
abbrev zs0 (S : ZS) (k : Nat) (v : Int32) : ZS := zsa S k (fun _ => v)
theorem zsa_s {S : ZS} {k : Nat} {f : Nat → Int32} : zsa S k f k = f := if_pos rfl
theorem zsa_n {S : ZS} {k k' : Nat} {f : Nat → Int32} (h : k' ≠ k) : zsa S k f k' = S k' := if_neg h
/-- the number of an int, unsigned -/
def zn (x : Int32) : Nat := x.toBitVec.toNat
theorem zn_lt (x : Int32) : zn x < 2 ^ 32 := x.toBitVec.isLt
theorem zn_nI {n : Nat} (h : n < 2 ^ 32) : zn (nI n) = n := pk_tn h
theorem nI_zn (x : Int32) : nI (zn x) = x := Int32.toBitVec_inj.mp (BitVec.eq_of_toNat_eq (by rw [show (nI (zn x)).toBitVec.toNat = zn (nI (zn x)) from rfl, zn_nI (zn_lt x)]; rfl))
theorem zn_inj {x y : Int32} (h : zn x = zn y) : x = y := by rw [← nI_zn x, h, nI_zn]
/-- are a, b, c right for the kind of step -/
def zgood (op a b c : Int32) : Bool :=
  if op = 0 ∨ op = 11 ∨ op = 13 then decide (zn a < 8)
  else if op = 1 then decide (zn a < 8 ∧ zn b < 8)
  else if op = 2 ∨ op = 3 ∨ op = 4 then decide (zn a < 8 ∧ zn b < 8 ∧ zn c < 8)
  else if op = 5 then decide (zn a < 8 ∧ zn b < 8 ∧ zn c < 100)
  else if op = 6 then decide (zn a < 100)
  else if op = 7 then decide (zn a < 64)
  else if op = 8 ∨ op = 10 then decide (zn a < 8 ∧ zn b < 64)
  else if op = 9 then decide (zn a < 64 ∧ zn b < 8)
  else decide (op = 12 ∨ op = 14)
/-- what never fails of the program that is told -/
def ZWF (S : ZS) : Prop := zn (S 0 0) ≤ 12 ∧ (∀ m, zn (S 2 m) ≤ 6) ∧ (∀ m k, k < zn (S 2 m) → zn (S 1 (6 * m + k)) < zn (S 0 0)) ∧ (∀ m, zn (S 7 m) ≤ 20) ∧ (∀ m k, k < zn (S 7 m) → zn (S 3 (20 * m + k)) < 64) ∧ (∀ m k, k < zn (S 7 m) → zn (S 4 (20 * m + k)) < 2) ∧ (∀ m k, k < zn (S 7 m) → zn (S 6 (20 * m + k)) < 6) ∧ (∀ m k, k < zn (S 7 m) → S 4 (20 * m + k) = 0 → zn (S 5 (20 * m + k)) < 100) ∧ (∀ m j k, j < zn (S 7 m) → k < zn (S 7 m) → S 3 (20 * m + j) = S 3 (20 * m + k) → j = k) ∧ (∀ m, zn (S 9 m) ≤ 100) ∧ (∀ m k, k < zn (S 9 m) → zgood (S 8 (4 * (100 * m + k))) (S 8 (4 * (100 * m + k) + 1)) (S 8 (4 * (100 * m + k) + 2)) (S 8 (4 * (100 * m + k) + 3)) = true) ∧ (∀ m, m < zn (S 0 0) → S 11 m = -1 ∨ zn (S 11 m) < 64) ∧ (∀ i, S 10 i = 0 ∨ S 10 i = 1) ∧ (∀ m, zn (S 0 0) ≤ m → zn (S 2 m) = 0 ∧ zn (S 7 m) = 0 ∧ zn (S 9 m) = 0 ∧ ∀ x, x < 64 → S 10 (64 * m + x) = 0)
theorem ZWF.mods {S : ZS} (H : ZWF S) : zn (S 0 0) ≤ 12 := H.1
theorem ZWF.nc {S : ZS} (H : ZWF S) : ∀ m, zn (S 2 m) ≤ 6 := H.2.1
theorem ZWF.nd {S : ZS} (H : ZWF S) : ∀ m k, k < zn (S 2 m) → zn (S 1 (6 * m + k)) < zn (S 0 0) := H.2.2.1
theorem ZWF.dc {S : ZS} (H : ZWF S) : ∀ m, zn (S 7 m) ≤ 20 := H.2.2.2.1
theorem ZWF.dn {S : ZS} (H : ZWF S) : ∀ m k, k < zn (S 7 m) → zn (S 3 (20 * m + k)) < 64 := H.2.2.2.2.1
theorem ZWF.dk {S : ZS} (H : ZWF S) : ∀ m k, k < zn (S 7 m) → zn (S 4 (20 * m + k)) < 2 := H.2.2.2.2.2.1
theorem ZWF.dh {S : ZS} (H : ZWF S) : ∀ m k, k < zn (S 7 m) → zn (S 6 (20 * m + k)) < 6 := H.2.2.2.2.2.2.1
theorem ZWF.dv {S : ZS} (H : ZWF S) : ∀ m k, k < zn (S 7 m) → S 4 (20 * m + k) = 0 → zn (S 5 (20 * m + k)) < 100 := H.2.2.2.2.2.2.2.1
theorem ZWF.du {S : ZS} (H : ZWF S) : ∀ m j k, j < zn (S 7 m) → k < zn (S 7 m) → S 3 (20 * m + j) = S 3 (20 * m + k) → j = k := H.2.2.2.2.2.2.2.2.1
theorem ZWF.sc {S : ZS} (H : ZWF S) : ∀ m, zn (S 9 m) ≤ 100 := H.2.2.2.2.2.2.2.2.2.1
theorem ZWF.so {S : ZS} (H : ZWF S) : ∀ m k, k < zn (S 9 m) → zgood (S 8 (4 * (100 * m + k))) (S 8 (4 * (100 * m + k) + 1)) (S 8 (4 * (100 * m + k) + 2)) (S 8 (4 * (100 * m + k) + 3)) = true := H.2.2.2.2.2.2.2.2.2.2.1
theorem ZWF.bg {S : ZS} (H : ZWF S) : ∀ m, m < zn (S 0 0) → S 11 m = -1 ∨ zn (S 11 m) < 64 := H.2.2.2.2.2.2.2.2.2.2.2.1
theorem ZWF.op {S : ZS} (H : ZWF S) : ∀ i, S 10 i = 0 ∨ S 10 i = 1 := H.2.2.2.2.2.2.2.2.2.2.2.2.1
theorem ZWF.un {S : ZS} (H : ZWF S) : ∀ m, zn (S 0 0) ≤ m → zn (S 2 m) = 0 ∧ zn (S 7 m) = 0 ∧ zn (S 9 m) = 0 ∧ ∀ x, x < 64 → S 10 (64 * m + x) = 0 := H.2.2.2.2.2.2.2.2.2.2.2.2.2
def oI : Option Nat → Int32
  | none => -1
  | some d => nI d
/-- the definition of a name among the first n of a module -/
def ofL (S : ZS) (m : Nat) (x : Int32) : Nat → Option Nat
  | 0 => none
  | n + 1 => match ofL S m x n with
    | some d => some d
    | none => if S 3 (20 * m + n) = x then some (20 * m + n) else none
def ofN (S : ZS) (m : Nat) (x : Int32) : Option Nat := ofL S m x (zn (S 7 m))
theorem ofL_some {S : ZS} {m : Nat} {x : Int32} : ∀ {n : Nat} {d : Nat}, ofL S m x n = some d → ∃ k, k < n ∧ d = 20 * m + k ∧ S 3 (20 * m + k) = x
  | 0, d, h => by cases h
  | n + 1, d, h => by
    simp only [ofL] at h
    split at h
    · rename_i e heq
      cases h
      obtain ⟨k, h1, h2⟩ := ofL_some heq
      exact ⟨k, by omega, h2⟩
    · split at h
      · cases h; exact ⟨n, by omega, rfl, by assumption⟩
      · cases h
theorem ofL_succ {S : ZS} {m : Nat} {x : Int32} {n d : Nat} (h : ofL S m x n = some d) : ofL S m x (n + 1) = some d := by simp only [ofL]; rw [h]
theorem ofL_mono {S : ZS} {m : Nat} {x : Int32} {d n : Nat} (h : ofL S m x n = some d) : ∀ j, ofL S m x (n + j) = some d
  | 0 => h
  | j + 1 => ofL_succ (ofL_mono h j)
theorem ofL_le {S : ZS} {m : Nat} {x : Int32} {d n n' : Nat} (h : ofL S m x n = some d) (hl : n ≤ n') : ofL S m x n' = some d := by
  have := ofL_mono h (n' - n)
  rwa [show n + (n' - n) = n' from by omega] at this
theorem ofL_hit {S : ZS} {m : Nat} {x : Int32} {n : Nat} (h : ofL S m x n = none) (e : S 3 (20 * m + n) = x) : ofL S m x (n + 1) = some (20 * m + n) := by simp only [ofL]; rw [h]; exact if_pos e
theorem ofL_miss {S : ZS} {m : Nat} {x : Int32} {n : Nat} (h : ofL S m x n = none) (e : ¬ S 3 (20 * m + n) = x) : ofL S m x (n + 1) = none := by simp only [ofL]; rw [h]; exact if_neg e
theorem ofL_none {S : ZS} {m : Nat} {x : Int32} : ∀ {n : Nat}, ofL S m x n = none → ∀ k, k < n → S 3 (20 * m + k) ≠ x
  | 0, _, k, hk => absurd hk (Nat.not_lt_zero _)
  | n + 1, h, k, hk => by
    cases hn : ofL S m x n with
    | some d => rw [ofL_succ hn] at h; cases h
    | none =>
      by_cases e : S 3 (20 * m + n) = x
      · rw [ofL_hit hn e] at h; cases h
      · by_cases hk2 : k = n
        · rw [hk2]; exact e
        · exact ofL_none hn k (by omega)
theorem ofN_some {S : ZS} {m : Nat} {x : Int32} {d : Nat} (h : ofN S m x = some d) : ∃ k, k < zn (S 7 m) ∧ d = 20 * m + k ∧ S 3 (20 * m + k) = x := ofL_some h
/-- the map of all that modules see of each other: a name's definition behind the first p modules of an order -/
def opn (S : ZS) (l : Nat → Int32) (x : Int32) : Nat → Option Nat
  | 0 => none
  | p + 1 => match ofN S (zn (l p)) x with
    | none => opn S l x p
    | some d => if 4 ≤ zn (S 6 d) then opn S l x p else match opn S l x p with
      | none => some d
      | some e => if zn (S 6 e) % 2 = 1 ∧ zn (S 6 d) % 2 = 0 then some d else some e
/-- what a name comes to -/
def fnd (S : ZS) (l : Nat → Int32) (n m : Nat) (x : Int32) : Option Nat :=
  match ofN S m x with
  | some d => if 2 ≤ zn (S 6 d) then some d else opn S l x n
  | none => opn S l x n
theorem opn_stay {S : ZS} {l : Nat → Int32} {x : Int32} {d p : Nat} (h : opn S l x p = some d) (hd : zn (S 6 d) % 2 = 0) : ∀ j, opn S l x (p + j) = some d
  | 0 => h
  | j + 1 => by
    show opn S l x (p + j + 1) = some d
    simp only [opn]
    rw [opn_stay h hd j]
    split
    · rfl
    · split
      · rfl
      · simp only; rw [if_neg (by omega)]
def zmo (d : Option Nat) : Int32 := match d with
  | none => 20
  | some d => nI (d / 20)
/-! the order: a search in breadth -/
abbrev BfS := (Nat → Int32) × (Nat → Int32) × Nat
def bStep (S : ZS) (m k : Nat) (st : BfS) : BfS := if st.1 (zn (S 1 (6 * m + k))) = 0 then (zu st.1 (zn (S 1 (6 * m + k))) 1, zu st.2.1 st.2.2 (S 1 (6 * m + k)), st.2.2 + 1) else st
def bIn (S : ZS) (m : Nat) (st : BfS) : Nat → BfS
  | 0 => st
  | j + 1 => bStep S m j (bIn S m st j)
def bOut (S : ZS) (st : BfS) : Nat → BfS
  | 0 => st
  | p + 1 => if p < (bOut S st p).2.2 then bIn S (zn ((bOut S st p).2.1 p)) (bOut S st p) (zn (S 2 (zn ((bOut S st p).2.1 p)))) else bOut S st p
def zmet (S : ZS) (r n : Nat) : Nat → Int32 := fun i => if i < n then (if i = r then 1 else 0) else S 22 i
def bSt (S : ZS) (r : Nat) : BfS := (zmet S r 12, zu (S 21) 0 (nI r), 1)
def bEnd (S : ZS) (r : Nat) : BfS := bOut S (bSt S r) 12
def ordF (S : ZS) (r : Nat) : ZS := zs0 (zsa (zsa S 22 (bEnd S r).1) 21 (bEnd S r).2.1) 20 (nI (bEnd S r).2.2)
/-! what is wrong: 0 nothing, 1 not there, 2 of the other kind -/
def lkC (S : ZS) (m : Nat) (x : Int32) (f : Bool) : Nat := match fnd S (S 21) (zn (S 20 0)) m x with
  | none => if S 10 (64 * m + zn x) = 0 then 1 else 0
  | some d => if decide (S 4 d = 0) = f then 0 else 2
def lkU (S : ZS) (m s : Nat) : Option (Int32 × Bool) :=
  if S 8 (4 * (100 * m + s)) = 7 ∨ S 8 (4 * (100 * m + s)) = 9 then some (S 8 (4 * (100 * m + s) + 1), decide (S 8 (4 * (100 * m + s)) = 7))
  else if S 8 (4 * (100 * m + s)) = 8 ∨ S 8 (4 * (100 * m + s)) = 10 then some (S 8 (4 * (100 * m + s) + 2), decide (S 8 (4 * (100 * m + s)) = 10)) else none
/-- the fault of one use -/
def lk1 (S : ZS) (m : Nat) (s x : Int32) (f : Bool) : Option (Nat × Nat × Int32 × Int32) := if lkC S m x f = 0 then none else some (lkC S m x f, m, s, x)
def lkS (S : ZS) (m : Nat) : Nat → Option (Nat × Nat × Int32 × Int32)
  | 0 => if S 11 m = -1 then none else lk1 S m (-1) (S 11 m) true
  | s + 1 => match lkS S m s with
    | some r => some r
    | none => match lkU S m s with
      | none => none
      | some u => lk1 S m (nI s) u.1 u.2
def lkM (S : ZS) (l : Nat → Int32) : Nat → Option (Nat × Nat × Int32 × Int32)
  | 0 => none
  | p + 1 => match lkM S l p with
    | some r => some r
    | none => lkS S (zn (l p)) (zn (S 9 (zn (l p))))
def fltF (S : ZS) : Option (Nat × Nat × Int32 × Int32) → ZS
  | none => S
  | some r => zs0 (zs0 (zs0 S 25 (nI r.2.1)) 26 r.2.2.1) 27 r.2.2.2
def fltC : Option (Nat × Nat × Int32 × Int32) → Int32
  | none => 0
  | some r => nI r.1
/-! who begins: a search in depth -/
abbrev DfS := (Nat → Int32) × (Nat → Int32) × Nat
def dfs (S : ZS) : Nat → Nat → Nat → DfS → Option DfS
  | 0, _, _, _ => none
  | f + 1, m, k, st =>
    if k < zn (S 2 m) then
      (if st.1 (zn (S 1 (6 * m + k))) = 0 then
        (match dfs S f (zn (S 1 (6 * m + k))) 0 (zu st.1 (zn (S 1 (6 * m + k))) 1, st.2) with
          | none => none
          | some st1 => dfs S f m (k + 1) st1)
      else dfs S f m (k + 1) st)
    else some (st.1, zu st.2.1 st.2.2 (nI m), st.2.2 + 1)
def dEnd (S : ZS) (r : Nat) : DfS := (dfs S 100 r 0 (zmet S r 12, S 17, 0)).getD (S 22, S 17, 0)
/-! slots and data -/
def zuse (S : ZS) (m x : Nat) : Bool := (List.range (zn (S 9 m))).any (fun s => decide (S 8 (4 * (100 * m + s)) = 7 ∧ S 8 (4 * (100 * m + s) + 1) = nI x))
def zinO (S : ZS) (n m : Nat) : Bool := (List.range n).any (fun p => decide (zn (S 16 p) = m))
def slV (S : ZS) (m x : Nat) : Int32 := if S 13 0 = 0 then zmo (fnd S (S 16) (zn (S 15 0)) m (nI x)) else 21
def slF (S : ZS) (n : Nat) : Nat → Int32 := fun i => if i < 768 then (if zinO S n (i / 64) = true ∧ zuse S (i / 64) (i % 64) = true then slV S (i / 64) (i % 64) else -1) else S 18 i
def daF (S : ZS) : Nat → Int32 := fun k => if k < 240 then S 5 k else S 19 k
def allF (S : ZS) : ZS := zsa (zsa S 18 (slF S (zn (S 15 0)))) 19 (daF S)
theorem zuse_iff {S : ZS} {m x : Nat} : zuse S m x = true ↔ ∃ s, s < zn (S 9 m) ∧ S 8 (4 * (100 * m + s)) = 7 ∧ S 8 (4 * (100 * m + s) + 1) = nI x := by
  simp [zuse, List.any_eq_true]
theorem zinO_iff {S : ZS} {n m : Nat} : zinO S n m = true ↔ ∃ p, p < n ∧ zn (S 16 p) = m := by
  simp [zinO, List.any_eq_true]
/-! the calls that tell -/
def modF (S : ZS) : Int32 × ZS := if zn (S 0 0) = 12 then (-1, S) else (nI (zn (S 0 0)), zs0 (zs1 S 11 (zn (S 0 0)) (-1)) 0 (nI (zn (S 0 0) + 1)))
def zhas (S : ZS) (m o : Nat) : Bool := (List.range (zn (S 2 m))).any (fun k => decide (zn (S 1 (6 * m + k)) = o))
theorem zhas_iff {S : ZS} {m o : Nat} : zhas S m o = true ↔ ∃ k, k < zn (S 2 m) ∧ zn (S 1 (6 * m + k)) = o := by
  simp [zhas, List.any_eq_true]
def needF (S : ZS) (x y : Int32) : Int32 × ZS :=
  if zn x < zn (S 0 0) ∧ zn y < zn (S 0 0) ∧ ¬ zn (S 2 (zn x)) = 6 ∧ zhas S (zn x) (zn y) = false then
    (nI (zn (S 2 (zn x)) + 1), zs0 (zs1 (zs1 S 1 (6 * zn x + zn (S 2 (zn x))) y) 2 (zn x) (nI (zn (S 2 (zn x)) + 1))) 12 0)
  else (-1, S)
def defF (S : ZS) (x nm kd v how : Int32) : Int32 × ZS :=
  if zn x < zn (S 0 0) ∧ zn nm < 64 ∧ zn kd < 2 ∧ zn how < 6 ∧ (zn kd = 1 ∨ zn v < 100) ∧ ofN S (zn x) nm = none ∧ ¬ zn (S 7 (zn x)) = 20 then
    (nI (zn (S 7 (zn x)) + 1), zs0 (zs1 (zs1 (zs1 (zs1 (zs1 S 3 (20 * zn x + zn (S 7 (zn x))) nm) 4 (20 * zn x + zn (S 7 (zn x))) kd) 5 (20 * zn x + zn (S 7 (zn x))) v) 6 (20 * zn x + zn (S 7 (zn x))) how) 7 (zn x) (nI (zn (S 7 (zn x)) + 1))) 12 0)
  else (-1, S)
def optF (S : ZS) (x nm : Int32) : Int32 × ZS :=
  if zn x < zn (S 0 0) ∧ zn nm < 64 ∧ S 10 (64 * zn x + zn nm) = 0 then (1, zs0 (zs1 S 10 (64 * zn x + zn nm) 1) 12 0) else (0, S)
def begF (S : ZS) (x nm : Int32) : Int32 × ZS :=
  if zn x < zn (S 0 0) ∧ (nm = -1 ∨ zn nm < 64) then (1, zs0 (zs1 S 11 (zn x) nm) 12 0) else (0, S)
def putF (S : ZS) (x op a b c : Int32) : Int32 × ZS :=
  if zn x < zn (S 0 0) ∧ zgood op a b c = true ∧ ¬ zn (S 9 (zn x)) = 100 then
    (nI (zn (S 9 (zn x))), zs0 (zs1 (zs1 (zs1 (zs1 (zs1 S 8 (4 * (100 * zn x + zn (S 9 (zn x)))) op) 8 (4 * (100 * zn x + zn (S 9 (zn x))) + 1) a) 8 (4 * (100 * zn x + zn (S 9 (zn x))) + 2) b) 8 (4 * (100 * zn x + zn (S 9 (zn x))) + 3) c) 9 (zn x) (nI (zn (S 9 (zn x)) + 1))) 12 0)
  else (-1, S)
/-! loading -/
def ldA (S : ZS) (r : Nat) : ZS := ordF (zs0 (zs0 (zs0 S 25 (-1)) 26 (-1)) 27 (-1)) r
/-- behind a load that is right: the first part -/
def ldB (S : ZS) (r : Nat) (w : Int32) : ZS := zsa (zs0 (zs0 (zs0 (zs0 S 12 1) 13 w) 14 (nI r)) 15 (S 20 0)) 16 (fun i => if i < zn (S 20 0) then S 21 i else S 16 i)
def ldC (S : ZS) (r : Nat) : ZS := allF (zsa (zsa S 22 (dEnd S r).1) 17 (dEnd S r).2.1)
def ldF (S : ZS) (x w : Int32) : Int32 × ZS := if zn x < zn (S 0 0) ∧ zn w < 2 then (match lkM (ldA S (zn x)) (ldA S (zn x) 21) (zn (ldA S (zn x) 20 0)) with
    | none => (0, ldC (ldB (ldA S (zn x)) (zn x) w) (zn x))
    | some r => (fltC (some r), fltF (ldA S (zn x)) (some r))) else (-1, S)
/-! what is asked -/
def fauF (S : ZS) (w : Int32) : Int32 := if w = 0 then S 25 0 else if w = 1 then S 26 0 else if w = 2 then S 27 0 else -1
def ordQ (S : ZS) (p w : Int32) : Int32 := if S 12 0 = 0 ∨ zn (S 15 0) ≤ zn p ∨ 2 ≤ zn w then -1 else if w = 0 then S 16 (zn p) else S 17 (zn p)
/-- is it loaded -/
def zld (S : ZS) (x : Int32) : Bool := decide (S 12 0 ≠ 0) && (List.range (zn (S 15 0))).any (fun p => decide (S 16 p = x))
theorem zld_iff {S : ZS} {x : Int32} : zld S x = true ↔ S 12 0 ≠ 0 ∧ ∃ p, p < zn (S 15 0) ∧ S 16 p = x := by
  simp [zld, List.any_eq_true]
def comF (S : ZS) (x nm : Int32) : Int32 := if zld S x = true ∧ zn nm < 64 then zmo (fnd S (S 16) (zn (S 15 0)) (zn x) nm) else -1
def bndF (S : ZS) (x nm : Int32) : Int32 := if zld S x = true ∧ zn nm < 64 then S 18 (64 * zn x + zn nm) else -1
def cntF (S : ZS) (w : Int32) : Int32 := if w = 0 then S 29 0 else if w = 1 then S 30 0 else if w = 2 then S 31 0 else if w = 3 then S 32 0 else if w = 4 then (if S 12 0 = 0 then 0 else S 15 0) else if w = 5 then S 0 0 else -1
def sdF (S : ZS) (k : Int32) : Int32 := if zn k < zn (S 30 0) ∧ zn k < 60 then S 33 (zn k) else 0
def regF (S : ZS) (r : Int32) : Int32 := if zn r < 8 then S 28 (zn r) else 0
def datF (S : ZS) (x nm : Int32) : Int32 := if zld S x = true then (match ofN S (zn x) nm with
  | none => -1
  | some d => if S 4 d = 1 then S 19 d else -1) else -1
/-! runs -/
def zfd (S : ZS) (x : Int32) : Option Nat := fnd S (S 16) (zn (S 15 0)) (zn (S 37 0)) x
def callF (S : ZS) (d : Option Nat) : Int32 × ZS := match d with
  | none => (3, S)
  | some d => if zn (S 36 0) = 101 then (2, S) else
    (-1, zs0 (zs0 (zs0 (zs0 (zs1 (zs1 S 34 (zn (S 36 0)) (S 37 0)) 35 (zn (S 36 0)) (S 38 0)) 36 (nI (zn (S 36 0) + 1))) 32 (if zn (S 32 0) < zn (S 36 0) then nI (zn (S 36 0)) else S 32 0)) 37 (nI (d / 20))) 38 (S 5 d))
/-- the function with an address: the first of the right module -/
def adL (S : ZS) (m : Nat) (v : Nat) : Nat → Option Nat
  | 0 => none
  | n + 1 => match adL S m v n with
    | some d => some d
    | none => if S 4 (20 * m + n) = 0 ∧ S 5 (20 * m + n) = nI v then some (20 * m + n) else none
def atF (S : ZS) (x : Int32) : Option Nat := if zn x < 1000 ∨ 2 ^ 31 ≤ zn x ∨ zn (S 15 0) ≤ zn x / 1000 - 1 then none else adL S (zn (S 16 (zn x / 1000 - 1))) (zn x % 1000) (zn (S 7 (zn (S 16 (zn x / 1000 - 1)))))
def plL (S : ZS) (m : Nat) : Nat → Option Nat
  | 0 => none
  | n + 1 => match plL S m n with
    | some p => some p
    | none => if zn (S 16 n) = m then some n else none
def adF (S : ZS) (d : Option Nat) : Int32 := match d with
  | none => 0
  | some d => nI 1000 * (oI (plL S (d / 20) (zn (S 15 0))) + 1) + S 5 d
def clnF (S : ZS) (x : Int32) : Int32 × ZS :=
  callF (if S 18 (64 * zn (S 37 0) + zn x) = 21 then zs0 (zs1 S 18 (64 * zn (S 37 0) + zn x) (zmo (zfd S x))) 31 (nI (zn (S 31 0) + 1)) else S) (zfd S x)
def zop (S : ZS) (j : Nat) : Int32 := S 8 (4 * (100 * zn (S 37 0) + zn (S 38 0)) + j)
/-- a step; a b c its numbers -/
def mkF (S0 : ZS) (op a b c : Int32) (S : ZS) : Int32 × ZS :=
  if op = 0 then (-1, zs1 S 28 (zn a) b)
  else if op = 1 then (-1, zs1 S 28 (zn a) (S 28 (zn b)))
  else if op = 2 then (-1, zs1 S 28 (zn a) (S 28 (zn b) + S 28 (zn c)))
  else if op = 3 then (-1, zs1 S 28 (zn a) (S 28 (zn b) - S 28 (zn c)))
  else if op = 4 then (-1, zs1 S 28 (zn a) (S 28 (zn b) * S 28 (zn c)))
  else if op = 5 then (-1, zs0 S 38 (if S 28 (zn a) < S 28 (zn b) then c else S 38 0))
  else if op = 6 then (-1, zs0 S 38 a)
  else if op = 7 then clnF S a
  else if op = 8 then (-1, zs1 S 28 (zn a) (match zfd S b with
    | none => 0
    | some d => S 19 d))
  else if op = 9 then (-1, match zfd S a with
    | none => S
    | some d => zs1 S 19 d (S 28 (zn b)))
  else if op = 10 then (-1, zs1 S 28 (zn a) (adF S (zfd S b)))
  else if op = 11 then callF S (atF S (S 28 (zn a)))
  else if op = 12 then (-1, zs0 (zs0 (zs0 S 36 (nI (zn (S 36 0) - 1))) 37 (S 34 (zn (S 36 0) - 1))) 38 (S 35 (zn (S 36 0) - 1)))
  else if op = 13 then (-1, zs0 (if zn (S 30 0) < 60 then zs1 S 33 (zn (S 30 0)) (S 28 (zn a)) else S) 30 (nI (zn (S 30 0) + 1)))
  else (0, S)
def stpF (S : ZS) : Int32 × ZS := mkF S (zop S 0) (zop S 1) (zop S 2) (zop S 3) (zs0 S 38 (nI (zn (S 38 0) + 1)))
/-- on till the call by the run has come back, or the run ends -/
def goL : Nat → ZS → Int32 × ZS
  | 0, S => if zn (S 9 (zn (S 37 0))) ≤ zn (S 38 0) then (4, S) else (1, S)
  | f + 1, S => if zn (S 9 (zn (S 37 0))) ≤ zn (S 38 0) then (4, S) else
    if (stpF (zs0 S 29 (nI (zn (S 29 0) + 1)))).1 = -1 then
      (if zn ((stpF (zs0 S 29 (nI (zn (S 29 0) + 1)))).2 36 0) = 0 then stpF (zs0 S 29 (nI (zn (S 29 0) + 1))) else goL f (stpF (zs0 S 29 (nI (zn (S 29 0) + 1)))).2)
    else stpF (zs0 S 29 (nI (zn (S 29 0) + 1)))
def goF (S : ZS) (d g : Nat) : Int32 × ZS := goL (g - zn (S 29 0)) (callF (zs0 S 36 0) (some d)).2
def bgL (S : ZS) (g : Nat) : Nat → Int32 × ZS
  | 0 => (-1, S)
  | p + 1 => if (bgL S g p).1 = -1 then
      (if S 11 (zn (S 17 p)) = -1 then bgL S g p else match fnd S (S 16) (zn (S 15 0)) (zn (S 17 p)) (S 11 (zn (S 17 p))) with
        | none => bgL S g p
        | some d => goF (bgL S g p).2 d g)
    else bgL S g p
def rnA (S : ZS) : ZS := zs0 (zs0 (zs0 (zs0 (zsa (allF S) 28 (fun i => if i < 8 then 0 else S 28 i)) 29 0) 30 0) 31 0) 32 0
def rnB (S : ZS) (d g : Nat) : Int32 × ZS := if (bgL S g (zn (S 15 0))).1 = -1 then goF (bgL S g (zn (S 15 0))).2 d g else bgL S g (zn (S 15 0))
def runF (S : ZS) (x g : Int32) : Int32 × ZS :=
  if S 12 0 = 0 ∨ 64 ≤ zn x ∨ 5001 ≤ zn g then (-1, S) else match fnd S (S 16) (zn (S 15 0)) (zn (S 14 0)) x with
    | none => (-1, S)
    | some d => if S 4 d = 0 then (if (rnB (rnA S) d (zn g)).1 = -1 then 0 else (rnB (rnA S) d (zn g)).1, (rnB (rnA S) d (zn g)).2) else (-1, S)
