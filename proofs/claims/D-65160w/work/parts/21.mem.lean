set_option maxRecDepth 100000
/-! the reference's memory; comparisons -/
def kar (k : Nat) : Bool := match k with
  | 1 => true
  | 2 => true
  | 3 => true
  | 4 => true
  | 5 => true
  | 6 => true
  | 7 => true
  | 8 => true
  | 9 => true
  | 10 => true
  | 11 => true
  | 16 => true
  | 17 => true
  | 18 => true
  | 19 => true
  | 21 => true
  | 22 => true
  | 28 => true
  | 33 => true
  | 34 => true
  | 35 => true
  | _ => false
def kln (k : Nat) : Nat := match k with
  | 1 => 72
  | 2 => 12
  | 3 => 240
  | 4 => 240
  | 5 => 240
  | 6 => 240
  | 7 => 12
  | 8 => 4800
  | 9 => 12
  | 10 => 768
  | 11 => 12
  | 16 => 12
  | 17 => 12
  | 18 => 768
  | 19 => 240
  | 21 => 12
  | 22 => 12
  | 23 => 12
  | 24 => 12
  | 28 => 8
  | 33 => 60
  | 34 => 101
  | 35 => 101
  | _ => 0
def kkd (k : Nat) : Nat := match k with
  | 10 => 1
  | 22 => 1
  | _ => 0
def zml (E : Nat → Nat) (S : ZS) : List Value := [.int (S 0 0), .ref (E 1), .ref (E 2), .ref (E 3), .ref (E 4), .ref (E 5), .ref (E 6), .ref (E 7), .ref (E 8), .ref (E 9), .ref (E 10), .ref (E 11), .int (S 12 0), .int (S 13 0), .int (S 14 0), .int (S 15 0), .ref (E 16), .ref (E 17), .ref (E 18), .ref (E 19), .int (S 20 0), .ref (E 21), .ref (E 22), .ref (E 23), .ref (E 24), .int (S 25 0), .int (S 26 0), .int (S 27 0), .ref (E 28), .int (S 29 0), .int (S 30 0), .int (S 31 0), .int (S 32 0), .ref (E 33), .ref (E 34), .ref (E 35), .int (S 36 0), .int (S 37 0), .int (S 38 0)]
def MD (E : Nat → Nat) (S : ZS) (h : ZH) : Prop := h (E 0) = (100, .inr (6, zml E S)) ∧ (∀ k, kar k = true → h (E k) = (100 + k, .inl (kkd k, kln k, fun i => .int (S k i)))) ∧ ∃ f g : Nat → Int32, h (E 23) = (123, .inl (0, 12, fun i => .int (f i))) ∧ h (E 24) = (124, .inl (0, 12, fun i => .int (g i)))
theorem kar_lt {k : Nat} (h : kar k = true) : k < 39 ∧ 0 < k ∧ k ≠ 23 ∧ k ≠ 24 := by
  unfold kar at h
  split at h <;> first | exact ⟨by decide, by decide, by decide, by decide⟩ | cases h
theorem zml_sA {E : Nat → Nat} {S : ZS} {k : Nat} {f : Nat → Int32} (hk : kar k = true) : zml E (zsa S k f) = zml E S := by
  have h : ∀ j, kar j = false → zsa S k f j = S j := fun j hj => zsa_n (fun z => by rw [z, hk] at hj; cases hj)
  unfold zml
  rw [h 0 rfl, h 12 rfl, h 13 rfl, h 14 rfl, h 15 rfl, h 20 rfl, h 25 rfl, h 26 rfl, h 27 rfl, h 29 rfl, h 30 rfl, h 31 rfl, h 32 rfl, h 36 rfl, h 37 rfl, h 38 rfl]
theorem zml_sF {E : Nat → Nat} {S : ZS} {k : Nat} {v : Int32} (hk : k ∈ [0, 12, 13, 14, 15, 20, 25, 26, 27, 29, 30, 31, 32, 36, 37, 38]) : zml E (zs0 S k v) = (zml E S).set k (.int v) := by
  simp only [List.mem_cons, List.not_mem_nil, or_false] at hk
  rcases hk with rfl | rfl | rfl | rfl | rfl | rfl | rfl | rfl | rfl | rfl | rfl | rfl | rfl | rfl | rfl | rfl <;> rfl
theorem kar_sF {k : Nat} (hk : k ∈ [0, 12, 13, 14, 15, 20, 25, 26, 27, 29, 30, 31, 32, 36, 37, 38]) : kar k = false := by
  simp only [List.mem_cons, List.not_mem_nil, or_false] at hk
  rcases hk with rfl | rfl | rfl | rfl | rfl | rfl | rfl | rfl | rfl | rfl | rfl | rfl | rfl | rfl | rfl | rfl <;> rfl
theorem MD.sA {E : Nat → Nat} {S : ZS} {h h1 : ZH} {f : Nat → Int32} (D : MD E S h) (k : Nat) (hk : kar k = true) (e : h1 = zup h (E k) (100 + k, .inl (kkd k, kln k, fun i => .int (f i)))) : MD E (zsa S k f) h1 := by
  have hl := kar_lt hk
  obtain ⟨f3, f4, g3, g4⟩ := D.2.2
  refine ⟨by rw [zml_sA hk]; exact zup_ot e (D.2.1 k hk) D.1 (by omega), fun j hj => ?_, f3, f4, zup_ot e (D.2.1 k hk) g3 (by omega), zup_ot e (D.2.1 k hk) g4 (by omega)⟩
  by_cases z : j = k
  · subst z; rw [zsa_s]; exact zup_is e
  · rw [zsa_n z]; exact zup_ot e (D.2.1 k hk) (D.2.1 j hj) (by omega)
theorem MD.sF {E : Nat → Nat} {S : ZS} {h h1 : ZH} {v : Int32} (D : MD E S h) (k : Nat) (hk : k ∈ [0, 12, 13, 14, 15, 20, 25, 26, 27, 29, 30, 31, 32, 36, 37, 38]) (e : h1 = zup h (E 0) (100, .inr (6, (zml E S).set k (.int v)))) : MD E (zs0 S k v) h1 := by
  obtain ⟨f3, f4, g3, g4⟩ := D.2.2
  refine ⟨by rw [zml_sF hk]; exact zup_is e, fun j hj => ?_, f3, f4, zup_ot e D.1 g3 (by decide), zup_ot e D.1 g4 (by decide)⟩
  have hl := kar_lt hj
  have z : j ≠ k := fun z => by rw [z, kar_sF hk] at hj; cases hj
  rw [show zs0 S k v j = S j from zsa_n z]
  exact zup_ot e D.1 (D.2.1 j hj) (by omega)
theorem MD.on {E : Nat → Nat} {S : ZS} {h h1 : ZH} {T : Nat → Prop} (D : MD E S h) (o : zOn T h h1) (hT : ∀ t, 100 ≤ t → t < 140 → ¬ T t) : MD E S h1 := by
  obtain ⟨f3, f4, g3, g4⟩ := D.2.2
  exact ⟨o.at D.1 (by decide) (hT _ (by decide) (by decide)), fun j hj => o.at (D.2.1 j hj) (by omega) (hT _ (by omega) (by have := kar_lt hj; omega)), f3, f4, o.at g3 (by decide) (hT _ (by decide) (by decide)), o.at g4 (by decide) (hT _ (by decide) (by decide))⟩
abbrev zTM (t : Nat) : Prop := 100 ≤ t ∧ t < 140
theorem zI_toInt {a : Nat} (ha : a < 2 ^ 32) : (nI a).toInt = if a < 2 ^ 31 then (a : Int) else (a : Int) - 2 ^ 32 := by
  have h1 : (nI a).toInt = (nI a).toBitVec.toInt := rfl
  rw [h1, BitVec.toInt_eq_toNat_cond, show (nI a).toBitVec.toNat = zn (nI a) from rfl, zn_nI ha]
  split <;> split <;> omega
theorem zI_lt {a b : Nat} (ha : a < 2 ^ 32) (hb : b < 2 ^ 32) : nI a < nI b ↔ (a + 2147483648) % 4294967296 < (b + 2147483648) % 4294967296 := by
  rw [Int32.lt_iff_toInt_lt, zI_toInt ha, zI_toInt hb]
  split <;> split <;> omega
theorem zI_le {a b : Nat} (ha : a < 2 ^ 32) (hb : b < 2 ^ 32) : nI a ≤ nI b ↔ (a + 2147483648) % 4294967296 ≤ (b + 2147483648) % 4294967296 := by
  rw [Int32.le_iff_toInt_le, zI_toInt ha, zI_toInt hb]
  split <;> split <;> omega
theorem nI_eq32 {a b : Nat} (ha : a < 2 ^ 32) (hb : b < 2 ^ 32) : nI a = nI b ↔ a = b := ⟨nI_inj32 ha hb, fun h => by rw [h]⟩
section ZU
variable {p : Program} {l : Launch} {e : Env} {R : Room} {s : State} {m : MethodId} {args : Array Value} {below : List Frame} {meth : Method} {c : Code} {G : ZG} {nL : Nat} {Q : State → Prop} {cc : ByteArray} {own : String} {pc : Nat} {lv : List (Nat × Value)} {st : List Value} {h : ZH} {cells slots : Nat}
theorem z_icmpU_eq (X : ZX p m c cc nL s args own G) {off : Int} (a b tgt : Nat) {x y : Int32} (hd : decode cc pc = .ok (.if_icmp .eq off, 3)) (ht : (pc : Int) + off = (tgt : Int)) (hx : x = nI a) (hy : y = nI b) (ha : a < 2 ^ 32) (hb : b < 2 ^ 32) (kt : a = b → Zw p l e R s m args below meth c G nL Q tgt lv st h cells slots) (kf : ¬ a = b → Zw p l e R s m args below meth c G nL Q (pc + 3) lv st h cells slots) : Zw p l e R s m args below meth c G nL Q pc lv (.int y :: .int x :: st) h cells slots := by
  subst hx; subst hy
  refine z_icmp_eq X tgt hd ht (fun z => kt ?_) (fun z => kf ?_) <;> (simp only [nI_eq32 ha hb, zI_lt ha hb, zI_lt hb ha, zI_le ha hb, zI_le hb ha, gt_iff_lt, ge_iff_le, ne_eq, Classical.not_not, Nat.not_lt, Nat.not_le] at z; omega)
theorem z_icmpU_ne (X : ZX p m c cc nL s args own G) {off : Int} (a b tgt : Nat) {x y : Int32} (hd : decode cc pc = .ok (.if_icmp .ne off, 3)) (ht : (pc : Int) + off = (tgt : Int)) (hx : x = nI a) (hy : y = nI b) (ha : a < 2 ^ 32) (hb : b < 2 ^ 32) (kt : ¬ a = b → Zw p l e R s m args below meth c G nL Q tgt lv st h cells slots) (kf : a = b → Zw p l e R s m args below meth c G nL Q (pc + 3) lv st h cells slots) : Zw p l e R s m args below meth c G nL Q pc lv (.int y :: .int x :: st) h cells slots := by
  subst hx; subst hy
  refine z_icmp_ne X tgt hd ht (fun z => kt ?_) (fun z => kf ?_) <;> (simp only [nI_eq32 ha hb, zI_lt ha hb, zI_lt hb ha, zI_le ha hb, zI_le hb ha, gt_iff_lt, ge_iff_le, ne_eq, Classical.not_not, Nat.not_lt, Nat.not_le] at z; omega)
theorem z_icmpU_lt (X : ZX p m c cc nL s args own G) {off : Int} (a b tgt : Nat) {x y : Int32} (hd : decode cc pc = .ok (.if_icmp .lt off, 3)) (ht : (pc : Int) + off = (tgt : Int)) (hx : x = nI a) (hy : y = nI b) (ha : a < 2 ^ 32) (hb : b < 2 ^ 32) (kt : (a + 2147483648) % 4294967296 < (b + 2147483648) % 4294967296 → Zw p l e R s m args below meth c G nL Q tgt lv st h cells slots) (kf : (b + 2147483648) % 4294967296 ≤ (a + 2147483648) % 4294967296 → Zw p l e R s m args below meth c G nL Q (pc + 3) lv st h cells slots) : Zw p l e R s m args below meth c G nL Q pc lv (.int y :: .int x :: st) h cells slots := by
  subst hx; subst hy
  refine z_icmp_lt X tgt hd ht (fun z => kt ?_) (fun z => kf ?_) <;> (simp only [nI_eq32 ha hb, zI_lt ha hb, zI_lt hb ha, zI_le ha hb, zI_le hb ha, gt_iff_lt, ge_iff_le, ne_eq, Classical.not_not, Nat.not_lt, Nat.not_le] at z; omega)
theorem z_icmpU_ge (X : ZX p m c cc nL s args own G) {off : Int} (a b tgt : Nat) {x y : Int32} (hd : decode cc pc = .ok (.if_icmp .ge off, 3)) (ht : (pc : Int) + off = (tgt : Int)) (hx : x = nI a) (hy : y = nI b) (ha : a < 2 ^ 32) (hb : b < 2 ^ 32) (kt : (b + 2147483648) % 4294967296 ≤ (a + 2147483648) % 4294967296 → Zw p l e R s m args below meth c G nL Q tgt lv st h cells slots) (kf : (a + 2147483648) % 4294967296 < (b + 2147483648) % 4294967296 → Zw p l e R s m args below meth c G nL Q (pc + 3) lv st h cells slots) : Zw p l e R s m args below meth c G nL Q pc lv (.int y :: .int x :: st) h cells slots := by
  subst hx; subst hy
  refine z_icmp_ge X tgt hd ht (fun z => kt ?_) (fun z => kf ?_) <;> (simp only [nI_eq32 ha hb, zI_lt ha hb, zI_lt hb ha, zI_le ha hb, zI_le hb ha, gt_iff_lt, ge_iff_le, ne_eq, Classical.not_not, Nat.not_lt, Nat.not_le] at z; omega)
theorem z_icmpU_gt (X : ZX p m c cc nL s args own G) {off : Int} (a b tgt : Nat) {x y : Int32} (hd : decode cc pc = .ok (.if_icmp .gt off, 3)) (ht : (pc : Int) + off = (tgt : Int)) (hx : x = nI a) (hy : y = nI b) (ha : a < 2 ^ 32) (hb : b < 2 ^ 32) (kt : (b + 2147483648) % 4294967296 < (a + 2147483648) % 4294967296 → Zw p l e R s m args below meth c G nL Q tgt lv st h cells slots) (kf : (a + 2147483648) % 4294967296 ≤ (b + 2147483648) % 4294967296 → Zw p l e R s m args below meth c G nL Q (pc + 3) lv st h cells slots) : Zw p l e R s m args below meth c G nL Q pc lv (.int y :: .int x :: st) h cells slots := by
  subst hx; subst hy
  refine z_icmp_gt X tgt hd ht (fun z => kt ?_) (fun z => kf ?_) <;> (simp only [nI_eq32 ha hb, zI_lt ha hb, zI_lt hb ha, zI_le ha hb, zI_le hb ha, gt_iff_lt, ge_iff_le, ne_eq, Classical.not_not, Nat.not_lt, Nat.not_le] at z; omega)
theorem z_icmpU_le (X : ZX p m c cc nL s args own G) {off : Int} (a b tgt : Nat) {x y : Int32} (hd : decode cc pc = .ok (.if_icmp .le off, 3)) (ht : (pc : Int) + off = (tgt : Int)) (hx : x = nI a) (hy : y = nI b) (ha : a < 2 ^ 32) (hb : b < 2 ^ 32) (kt : (a + 2147483648) % 4294967296 ≤ (b + 2147483648) % 4294967296 → Zw p l e R s m args below meth c G nL Q tgt lv st h cells slots) (kf : (b + 2147483648) % 4294967296 < (a + 2147483648) % 4294967296 → Zw p l e R s m args below meth c G nL Q (pc + 3) lv st h cells slots) : Zw p l e R s m args below meth c G nL Q pc lv (.int y :: .int x :: st) h cells slots := by
  subst hx; subst hy
  refine z_icmp_le X tgt hd ht (fun z => kt ?_) (fun z => kf ?_) <;> (simp only [nI_eq32 ha hb, zI_lt ha hb, zI_lt hb ha, zI_le ha hb, zI_le hb ha, gt_iff_lt, ge_iff_le, ne_eq, Classical.not_not, Nat.not_lt, Nat.not_le] at z; omega)
theorem z_ifU_eq (X : ZX p m c cc nL s args own G) {off : Int} (a tgt : Nat) {x : Int32} (hd : decode cc pc = .ok (.ifCond .eq off, 3)) (ht : (pc : Int) + off = (tgt : Int)) (hx : x = nI a) (ha : a < 2 ^ 32) (kt : a = 0 → Zw p l e R s m args below meth c G nL Q tgt lv st h cells slots) (kf : ¬ a = 0 → Zw p l e R s m args below meth c G nL Q (pc + 3) lv st h cells slots) : Zw p l e R s m args below meth c G nL Q pc lv (.int x :: st) h cells slots := by
  subst hx
  have hb : 0 < 2 ^ 32 := by decide
  refine z_if_eq X tgt hd ht (fun z => kt ?_) (fun z => kf ?_) <;> (rw [show (0 : Int32) = nI 0 from rfl] at z; simp only [nI_eq32 ha hb, zI_lt ha hb, zI_lt hb ha, zI_le ha hb, zI_le hb ha, gt_iff_lt, ge_iff_le, ne_eq, Classical.not_not, Nat.not_lt, Nat.not_le] at z; omega)
theorem z_ifU_ne (X : ZX p m c cc nL s args own G) {off : Int} (a tgt : Nat) {x : Int32} (hd : decode cc pc = .ok (.ifCond .ne off, 3)) (ht : (pc : Int) + off = (tgt : Int)) (hx : x = nI a) (ha : a < 2 ^ 32) (kt : ¬ a = 0 → Zw p l e R s m args below meth c G nL Q tgt lv st h cells slots) (kf : a = 0 → Zw p l e R s m args below meth c G nL Q (pc + 3) lv st h cells slots) : Zw p l e R s m args below meth c G nL Q pc lv (.int x :: st) h cells slots := by
  subst hx
  have hb : 0 < 2 ^ 32 := by decide
  refine z_if_ne X tgt hd ht (fun z => kt ?_) (fun z => kf ?_) <;> (rw [show (0 : Int32) = nI 0 from rfl] at z; simp only [nI_eq32 ha hb, zI_lt ha hb, zI_lt hb ha, zI_le ha hb, zI_le hb ha, gt_iff_lt, ge_iff_le, ne_eq, Classical.not_not, Nat.not_lt, Nat.not_le] at z; omega)
theorem z_ifU_lt (X : ZX p m c cc nL s args own G) {off : Int} (a tgt : Nat) {x : Int32} (hd : decode cc pc = .ok (.ifCond .lt off, 3)) (ht : (pc : Int) + off = (tgt : Int)) (hx : x = nI a) (ha : a < 2 ^ 32) (kt : 2147483648 ≤ a → Zw p l e R s m args below meth c G nL Q tgt lv st h cells slots) (kf : a < 2147483648 → Zw p l e R s m args below meth c G nL Q (pc + 3) lv st h cells slots) : Zw p l e R s m args below meth c G nL Q pc lv (.int x :: st) h cells slots := by
  subst hx
  have hb : 0 < 2 ^ 32 := by decide
  refine z_if_lt X tgt hd ht (fun z => kt ?_) (fun z => kf ?_) <;> (rw [show (0 : Int32) = nI 0 from rfl] at z; simp only [nI_eq32 ha hb, zI_lt ha hb, zI_lt hb ha, zI_le ha hb, zI_le hb ha, gt_iff_lt, ge_iff_le, ne_eq, Classical.not_not, Nat.not_lt, Nat.not_le] at z; omega)
theorem z_ifU_ge (X : ZX p m c cc nL s args own G) {off : Int} (a tgt : Nat) {x : Int32} (hd : decode cc pc = .ok (.ifCond .ge off, 3)) (ht : (pc : Int) + off = (tgt : Int)) (hx : x = nI a) (ha : a < 2 ^ 32) (kt : a < 2147483648 → Zw p l e R s m args below meth c G nL Q tgt lv st h cells slots) (kf : 2147483648 ≤ a → Zw p l e R s m args below meth c G nL Q (pc + 3) lv st h cells slots) : Zw p l e R s m args below meth c G nL Q pc lv (.int x :: st) h cells slots := by
  subst hx
  have hb : 0 < 2 ^ 32 := by decide
  refine z_if_ge X tgt hd ht (fun z => kt ?_) (fun z => kf ?_) <;> (rw [show (0 : Int32) = nI 0 from rfl] at z; simp only [nI_eq32 ha hb, zI_lt ha hb, zI_lt hb ha, zI_le ha hb, zI_le hb ha, gt_iff_lt, ge_iff_le, ne_eq, Classical.not_not, Nat.not_lt, Nat.not_le] at z; omega)
theorem z_ifU_gt (X : ZX p m c cc nL s args own G) {off : Int} (a tgt : Nat) {x : Int32} (hd : decode cc pc = .ok (.ifCond .gt off, 3)) (ht : (pc : Int) + off = (tgt : Int)) (hx : x = nI a) (ha : a < 2 ^ 32) (kt : 0 < a ∧ a < 2147483648 → Zw p l e R s m args below meth c G nL Q tgt lv st h cells slots) (kf : a = 0 ∨ 2147483648 ≤ a → Zw p l e R s m args below meth c G nL Q (pc + 3) lv st h cells slots) : Zw p l e R s m args below meth c G nL Q pc lv (.int x :: st) h cells slots := by
  subst hx
  have hb : 0 < 2 ^ 32 := by decide
  refine z_if_gt X tgt hd ht (fun z => kt ?_) (fun z => kf ?_) <;> (rw [show (0 : Int32) = nI 0 from rfl] at z; simp only [nI_eq32 ha hb, zI_lt ha hb, zI_lt hb ha, zI_le ha hb, zI_le hb ha, gt_iff_lt, ge_iff_le, ne_eq, Classical.not_not, Nat.not_lt, Nat.not_le] at z; omega)
theorem z_ifU_le (X : ZX p m c cc nL s args own G) {off : Int} (a tgt : Nat) {x : Int32} (hd : decode cc pc = .ok (.ifCond .le off, 3)) (ht : (pc : Int) + off = (tgt : Int)) (hx : x = nI a) (ha : a < 2 ^ 32) (kt : a = 0 ∨ 2147483648 ≤ a → Zw p l e R s m args below meth c G nL Q tgt lv st h cells slots) (kf : 0 < a ∧ a < 2147483648 → Zw p l e R s m args below meth c G nL Q (pc + 3) lv st h cells slots) : Zw p l e R s m args below meth c G nL Q pc lv (.int x :: st) h cells slots := by
  subst hx
  have hb : 0 < 2 ^ 32 := by decide
  refine z_if_le X tgt hd ht (fun z => kt ?_) (fun z => kf ?_) <;> (rw [show (0 : Int32) = nI 0 from rfl] at z; simp only [nI_eq32 ha hb, zI_lt ha hb, zI_lt hb ha, zI_le ha hb, zI_le hb ha, gt_iff_lt, ge_iff_le, ne_eq, Classical.not_not, Nat.not_lt, Nat.not_le] at z; omega)
end ZU
