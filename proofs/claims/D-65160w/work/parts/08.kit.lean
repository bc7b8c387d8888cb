set_option maxRecDepth 100000
section ZK
variable {p : Program} {l : Launch} {e : Env} {R : Room} {s : State} {m : MethodId} {args : Array Value} {below : List Frame} {meth : Method} {c : Code} {G : ZG} {nL : Nat} {Q : State → Prop} {cc : ByteArray} {own : String} {pc : Nat} {lv : List (Nat × Value)} {st : List Value} {h h0 h1 h2 : ZH} {cells slots : Nat}
theorem z_nm (kk : ∀ h1, h1 = h0 → Zw p l e R s m args below meth c G nL Q pc lv st h1 cells slots) : Zw p l e R s m args below meth c G nL Q pc lv st h0 cells slots := kk h0 rfl
theorem z_lvp {lv' : List (Nat × Value)} (ks : List Nat) (hl : lv_pick lv ks = lv') (kk : Zw p l e R s m args below meth c G nL Q pc lv' st h cells slots) : Zw p l e R s m args below meth c G nL Q pc lv st h cells slots := by
  refine z_lv (fun q hq => ?_) kk
  rw [← hl] at hq
  obtain ⟨k, -, hk⟩ := List.mem_filterMap.mp hq
  exact List.mem_of_getElem? hk
/-- a loop: at pc, with the locals, the stack and the world as the loop's own state says; the measure falls -/
theorem z_loop {σ : Type} (I : σ → Prop) (μ : σ → Nat) (lvf : σ → List (Nat × Value)) (stf : σ → List Value) (hf : σ → ZH) (cf sf : σ → Nat)
    (step : ∀ x, I x → (∀ y, I y → μ y < μ x → Zw p l e R s m args below meth c G nL Q pc (lvf y) (stf y) (hf y) (cf y) (sf y)) → Zw p l e R s m args below meth c G nL Q pc (lvf x) (stf x) (hf x) (cf x) (sf x)) (x0 : σ) (h0 : I x0) : Zw p l e R s m args below meth c G nL Q pc (lvf x0) (stf x0) (hf x0) (cf x0) (sf x0) := by
  have key : ∀ (n : Nat) (x : σ), μ x < n → I x → Zw p l e R s m args below meth c G nL Q pc (lvf x) (stf x) (hf x) (cf x) (sf x) := by
    intro n
    induction n with
    | zero => intro x hx; omega
    | succ n ih => exact fun x hx hI => step x hI (fun y hy hm => ih y (by omega) hy)
  exact key _ x0 (Nat.lt_succ_self _) h0
theorem z_cs {cells' slots' : Nat} (e1 : cells = cells') (e2 : slots = slots') (kk : Zw p l e R s m args below meth c G nL Q pc lv st h cells' slots') : Zw p l e R s m args below meth c G nL Q pc lv st h cells slots := by
  subst e1; subst e2; exact kk
theorem z_if_eqN (X : ZX p m c cc nL s args own G) {off : Int} (a tgt : Nat) {x : Int32} (hd : decode cc pc = .ok (.ifCond .eq off, 3)) (ht : (pc : Int) + off = (tgt : Int)) (hx : x = nI a) (ha : a < 2 ^ 31) (kt : a = 0 → Zw p l e R s m args below meth c G nL Q tgt lv st h cells slots) (kf : ¬ a = 0 → Zw p l e R s m args below meth c G nL Q (pc + 3) lv st h cells slots) : Zw p l e R s m args below meth c G nL Q pc lv (.int x :: st) h cells slots := by
  subst hx
  exact z_if_eq X tgt hd ht (fun z => kt ((nI_eq ha (by decide)).mp (z.trans nI_0.symm))) (fun z => kf (fun y => z (by rw [y]; exact nI_0)))
theorem z_if_neN (X : ZX p m c cc nL s args own G) {off : Int} (a tgt : Nat) {x : Int32} (hd : decode cc pc = .ok (.ifCond .ne off, 3)) (ht : (pc : Int) + off = (tgt : Int)) (hx : x = nI a) (ha : a < 2 ^ 31) (kt : ¬ a = 0 → Zw p l e R s m args below meth c G nL Q tgt lv st h cells slots) (kf : a = 0 → Zw p l e R s m args below meth c G nL Q (pc + 3) lv st h cells slots) : Zw p l e R s m args below meth c G nL Q pc lv (.int x :: st) h cells slots := by
  subst hx
  exact z_if_ne X tgt hd ht (fun z => kt (fun y => z (by rw [y]; exact nI_0))) (fun z => kf ((nI_eq ha (by decide)).mp (z.trans nI_0.symm)))
theorem z_if_ltN (X : ZX p m c cc nL s args own G) {off : Int} (a tgt : Nat) {x : Int32} (hd : decode cc pc = .ok (.ifCond .lt off, 3)) (ht : (pc : Int) + off = (tgt : Int)) (hx : x = nI a) (ha : a < 2 ^ 31) (kt : False → Zw p l e R s m args below meth c G nL Q tgt lv st h cells slots) (kf : True → Zw p l e R s m args below meth c G nL Q (pc + 3) lv st h cells slots) : Zw p l e R s m args below meth c G nL Q pc lv (.int x :: st) h cells slots := by
  subst hx
  exact z_if_lt X tgt hd ht (fun z => kt (nI_pos ha z)) (fun z => kf (trivial))
theorem z_if_geN (X : ZX p m c cc nL s args own G) {off : Int} (a tgt : Nat) {x : Int32} (hd : decode cc pc = .ok (.ifCond .ge off, 3)) (ht : (pc : Int) + off = (tgt : Int)) (hx : x = nI a) (ha : a < 2 ^ 31) (kt : True → Zw p l e R s m args below meth c G nL Q tgt lv st h cells slots) (kf : False → Zw p l e R s m args below meth c G nL Q (pc + 3) lv st h cells slots) : Zw p l e R s m args below meth c G nL Q pc lv (.int x :: st) h cells slots := by
  subst hx
  exact z_if_ge X tgt hd ht (fun z => kt (trivial)) (fun z => kf (z (nI_pos' ha)))
theorem z_if_gtN (X : ZX p m c cc nL s args own G) {off : Int} (a tgt : Nat) {x : Int32} (hd : decode cc pc = .ok (.ifCond .gt off, 3)) (ht : (pc : Int) + off = (tgt : Int)) (hx : x = nI a) (ha : a < 2 ^ 31) (kt : 0 < a → Zw p l e R s m args below meth c G nL Q tgt lv st h cells slots) (kf : a = 0 → Zw p l e R s m args below meth c G nL Q (pc + 3) lv st h cells slots) : Zw p l e R s m args below meth c G nL Q pc lv (.int x :: st) h cells slots := by
  subst hx
  exact z_if_gt X tgt hd ht (fun z => kt ((nI_ltI (a := 0) (by decide) ha).mp (by rw [nI_0]; exact z))) (fun z => kf (Nat.le_zero.mp (Nat.not_lt.mp fun y => z (by have y2 := (nI_ltI (a := 0) (by decide) ha).mpr y; rw [nI_0] at y2; exact y2))))
theorem z_if_leN (X : ZX p m c cc nL s args own G) {off : Int} (a tgt : Nat) {x : Int32} (hd : decode cc pc = .ok (.ifCond .le off, 3)) (ht : (pc : Int) + off = (tgt : Int)) (hx : x = nI a) (ha : a < 2 ^ 31) (kt : a = 0 → Zw p l e R s m args below meth c G nL Q tgt lv st h cells slots) (kf : 0 < a → Zw p l e R s m args below meth c G nL Q (pc + 3) lv st h cells slots) : Zw p l e R s m args below meth c G nL Q pc lv (.int x :: st) h cells slots := by
  subst hx
  exact z_if_le X tgt hd ht (fun z => kt (Nat.le_zero.mp ((nI_leI (b := 0) ha (by decide)).mp (by rw [nI_0]; exact z)))) (fun z => kf (Nat.pos_of_ne_zero fun y => z (by rw [y, nI_0]; decide)))
theorem z_inst (X : ZX p m c cc nL s args own G) {ix a t ci N : Nat} {C nm : String} {T : u_T} {fs : List Value} (ha : h a = (t, .inr (ci, fs))) (ht : t ≠ 0) (hC : zcl[ci]? = some (C, T, N)) (hw : Cond.classLink own ix nm ∈ lw_all) (hasg : zasg C nm) (hd : decode cc pc = .ok (.instanceof ix, 3)) (kk : Zw p l e R s m args below meth c G nL Q (pc + 3) lv (.int 1 :: st) h cells slots) : Zw p l e R s m args below meth c G nL Q pc lv (.ref a :: st) h cells slots := by
  intro H locs ls hl hc hR hS
  rcases hasg with rfl | hasg
  · exact va_instS X.1.1 X.1.2.1 (zXown X) (zXts X _ hw) (X.2.1.1 ci _ hC).2 (zrecv X hR ha ht hC) hd (kk H locs ls hl hc hR hS)
  · exact va_instY X.1.1 X.1.2.1 (zXown X) (zXts X _ hw) (zXnw X hasg rfl) (zrecv X hR ha ht hC) hd (kk H locs ls hl hc hR hS)
theorem z_getOrd (X : ZX p m c cc nL s args own G) {ix i : Nat} (hi : i < 15) (hw : Cond.fieldLink own ix "java/lang/Enum" "ordinal" "I" ∈ lw_all) (hd : decode cc pc = .ok (.getfield ix, 3)) (kk : Zw p l e R s m args below meth c G nL Q (pc + 3) lv (.int (nI i) :: st) h cells slots) : Zw p l e R s m args below meth c G nL Q pc lv (.ref (zS G (16 + i)) :: st) h cells slots := fun H locs ls hl hc hR hS =>
  vk_getf X.1.1 X.1.2.1 (X.2.1.2.2.2.2.2.2.1 i hi).2 hS (zXown X) (zXts X _ hw) (fun _ h => h) hd (kk H locs ls hl hc hR hS)
theorem zrecvE (X : ZX p m c cc nL s args own G) {i : Nat} (hi : i < 15) {H : Heap} {locs : List Loc} (hS : va_S (fun q => zB G ≤ q) s.heap H locs) : ∃ cell : Cell, H[zS G (16 + i)]? = some cell ∧ cell.vm.isStatics = false ∧ s.vm.findClass "LinkStation$Op" = some cell.cls := by
  obtain ⟨cell, h1, h2, h3, -⟩ := ((X.2.1.2.2.2.2.2.2.1 i hi).1).kept hS.2.1
  exact ⟨cell, h1, h2, h3⟩
theorem zopinj (X : ZX p m c cc nL s args own G) {i j : Nat} (hi : i < 15) (hj : j < 15) (he : zS G (16 + i) = zS G (16 + j)) : i = j := X.2.1.2.2.2.2.2.2.2.1 i j hi hj he
section ZCE
variable {y x : MethodName} {bytes : ByteArray} {maxL ix i : Nat} {ret : Option FieldType} {As rest st0 : List Value} {rm : Room} {Post : Option Value → ZH → Prop}
theorem z_callVE (X : ZX p m c cc nL s args own G) (hM : ZM l G y (ws_ y bytes maxL ret) rm (.ref (zS G (16 + i)) :: As) h Post) (cw : CallW R s args own "LinkStation$Op" ix y bytes maxL ret (ws_ y bytes maxL ret) rm rm.cells rm.slots As.length) (hi : i < 15) (hst : st0 = As.reverse ++ .ref (zS G (16 + i)) :: rest) (hW : (rest.map fun v => v.category).sum ≤ 8) (hf : cells + rm.cells ≤ R.cells ∧ slots + rm.slots ≤ R.slots) (hd : decode cc pc = .ok (.invokevirtual ix, 3)) (kk : ∀ v h', Post v h' → Zw p l e R s m args below meth c G nL Q (pc + 3) lv (v.toList ++ rest) h' (cells + rm.cells) (slots + rm.slots)) : Zw p l e R s m args below meth c G nL Q pc lv st0 h cells slots :=
  z_run (fun H locs ls hz hR hS => va_runV X.1 hM cw ⟨zblind, zrecvE X hi hS, zpre X hR hS⟩ rfl rfl hz hst (lv_room hW) hd hf) kk
theorem z_callUE {owner : String} (X : ZX p m c cc nL s args own G) (hM : ZM l G y (ws_ y bytes maxL ret) rm (.ref (zS G (16 + i)) :: As) h Post) (cw : va_CU R s args own "LinkStation$Op" owner ix x y bytes maxL ret (ws_ y bytes maxL ret) rm rm.cells rm.slots As.length) (hi : i < 15) (hst : st0 = As.reverse ++ .ref (zS G (16 + i)) :: rest) (hW : (rest.map fun v => v.category).sum ≤ 8) (hf : cells + rm.cells ≤ R.cells ∧ slots + rm.slots ≤ R.slots) (hd : decode cc pc = .ok (.invokevirtual ix, 3)) (kk : ∀ v h', Post v h' → Zw p l e R s m args below meth c G nL Q (pc + 3) lv (v.toList ++ rest) h' (cells + rm.cells) (slots + rm.slots)) : Zw p l e R s m args below meth c G nL Q pc lv st0 h cells slots :=
  z_run (fun H locs ls hz hR hS => va_runU X.1 hM cw ⟨zblind, zrecvE X hi hS, zpre X hR hS⟩ rfl rfl hz hst (lv_room hW) hd hf) kk
end ZCE
/-- a value that may lie in an Object[] -/
def zob (h : ZH) (v : Value) : Prop := v = .null ∨ ∃ (b tb ci : Nat) (gs : List Value) (C : String) (T : u_T) (N : Nat), v = .ref b ∧ h b = (tb, .inr (ci, gs)) ∧ tb ≠ 0 ∧ zcl[ci]? = some (C, T, N) ∧ zasg C "java/lang/Object"
theorem zob.ref {v : Value} (hv : zob h v) : zref v := by
  rcases hv with rfl | ⟨b, _, _, _, _, _, _, rfl, -⟩
  · exact zref.nul
  · exact zref.r
theorem z_aastO (X : ZX p m c cc nL s args own G) {a t n : Nat} {f f' : Nat → Value} {i : Int32} {v : Value} (j : Nat) (ha : h a = (t, .inl (3, n, f))) (ht : 1 < t) (hv : zob h v) (hi : i = nI j) (hj : j < n) (hn : n < 2 ^ 31) (hf' : ∀ k, f' k = if k = j then v else f k) (hd : decode cc pc = .ok (.aastore, 1)) (kk : Zw p l e R s m args below meth c G nL Q (pc + 1) lv st (zup h a (t, .inl (3, n, f'))) cells slots) : Zw p l e R s m args below meth c G nL Q pc lv (v :: .int i :: .ref a :: st) h cells slots := by
  rcases hv with rfl | ⟨b, tb, ci, gs, C, T, N, rfl, hb, htb, hC, hasg⟩
  · exact z_aastN X j ha rfl (by omega) (by omega) hi hj hn hf' hd kk
  · exact z_aast X j ha rfl (by decide) (by omega) (by omega) hb htb hC hasg hi hj hn hf' hd kk
theorem z_mmax (X : ZX p m c cc nL s args own G) {ix a b : Nat} {x y : Int32} (hl : Cond.methodLink own ix Lib.Math.max.name ∈ lw_all) (hx : x = nI a) (hy : y = nI b) (ha : a < 2 ^ 31) (hb : b < 2 ^ 31) (hfr : 1 ≤ R.frames) (hlo : (st.map fun v => v.category).sum + 13 ≤ R.locals) (h1 : cells ≤ R.cells) (h2 : slots ≤ R.slots) (hd : decode cc pc = .ok (.invokestatic ix, 3)) (kk : Zw p l e R s m args below meth c G nL Q (pc + 3) lv (.int (nI (max a b)) :: st) h cells slots) : Zw p l e R s m args below meth c G nL Q pc lv (.int y :: .int x :: st) h cells slots := by
  subst hx; subst hy
  intro H locs ls hl2 hc hR hS
  refine va_mmax X.1.1 X.1.2.1 (by rw [hl2.1]; exact X.1.2.2.1) (zXown X) (zXts X _ hl) (zXts X _ q538) (zXts X _ q68) (zXts X _ q539) hfr hlo h1 h2 hd ?_
  have e : (if nI a < nI b then nI b else nI a) = nI (max a b) := by
    split
    · rename_i z; have := (nI_ltI ha hb).mp z; rw [Nat.max_eq_right (by omega)]
    · rename_i z; have : b ≤ a := Nat.not_lt.mp fun q => z ((nI_ltI ha hb).mpr q); rw [Nat.max_eq_left this]
  rw [e]
  exact kk H locs ls hl2 hc hR hS
theorem z_mmin (X : ZX p m c cc nL s args own G) {ix a b : Nat} {x y : Int32} (hl : Cond.methodLink own ix Lib.Math.min.name ∈ lw_all) (hx : x = nI a) (hy : y = nI b) (ha : a < 2 ^ 31) (hb : b < 2 ^ 31) (hfr : 1 ≤ R.frames) (hlo : (st.map fun v => v.category).sum + 13 ≤ R.locals) (h1 : cells ≤ R.cells) (h2 : slots ≤ R.slots) (hd : decode cc pc = .ok (.invokestatic ix, 3)) (kk : Zw p l e R s m args below meth c G nL Q (pc + 3) lv (.int (nI (min a b)) :: st) h cells slots) : Zw p l e R s m args below meth c G nL Q pc lv (.int y :: .int x :: st) h cells slots := by
  subst hx; subst hy
  intro H locs ls hl2 hc hR hS
  refine va_mmin X.1.1 X.1.2.1 (by rw [hl2.1]; exact X.1.2.2.1) (zXown X) (zXts X _ hl) (zXts X _ q581) (zXts X _ q68) (zXts X _ q582) hfr hlo h1 h2 hd ?_
  have e : (if nI b < nI a then nI b else nI a) = nI (min a b) := by
    split
    · rename_i z; have := (nI_ltI hb ha).mp z; rw [Nat.min_eq_right (by omega)]
    · rename_i z; have : a ≤ b := Nat.not_lt.mp fun q => z ((nI_ltI hb ha).mpr q); rw [Nat.min_eq_left this]
  rw [e]
  exact kk H locs ls hl2 hc hR hS
theorem zMi (X : ZX p m c cc nL s args own G) : va_Mi "[Ljava/lang/Object;" (zS G 3) s := X.2.1.2.2.2.2.2.2.2.2.2.2.2
theorem z_ldcM (X : ZX p m c cc nL s args own G) {ix : Nat} (hl : Cond.classLink own ix "[Ljava/lang/Object;" ∈ lw_all) (hd : decode cc pc = .ok (.ldc ix, 2)) (kk : Zw p l e R s m args below meth c G nL Q (pc + 2) lv (.ref (zS G 3) :: st) h cells slots) : Zw p l e R s m args below meth c G nL Q pc lv st h cells slots := fun H locs ls hl2 hc hR hS =>
  va_ldcM X.1.1 X.1.2.1 (zXown X) (zXts X _ hl) (zMi X) hd (kk H locs ls hl2 hc hR hS)
theorem z_getC (X : ZX p m c cc nL s args own G) {ix a t n : Nat} {f : Nat → Value} (hl : Cond.methodLink own ix ⟨"java/lang/Object", "getClass", "()Ljava/lang/Class;"⟩ ∈ lw_all) (ha : h a = (t, .inl (3, n, f))) (ht : t ≠ 0) (hfr : 1 ≤ R.frames) (hlo : (st.map fun v => v.category).sum + 14 ≤ R.locals) (hd : decode cc pc = .ok (.invokevirtual ix, 3)) (kk : Zw p l e R s m args below meth c G nL Q (pc + 3) lv (.ref (zS G 3) :: st) h cells slots) : Zw p l e R s m args below meth c G nL Q pc lv (.ref a :: st) h cells slots := by
  intro H locs ls hl2 hc hR hS
  obtain ⟨cell, q1, q2, q3, q4, q5, -⟩ := zcell hR ha ht
  obtain ⟨kA, comp, -, -, e3⟩ := X.2.1.2.1 3 _ rfl
  have hnm : s.vm.findClass "[Ljava/lang/Object;" = some (G.2.2.1 3) := (e3 (by decide)).1
  exact va_getC X.1.1 X.1.2.1 (by rw [hl2.1]; exact X.1.2.2.1) (zXown X) (zXts X _ hl) (va_Nw.use rfl (zXnw X q1860 rfl)) (zXts X _ q1859) (zXts X _ q548) (zXts X _ q573) (zMi X) ⟨cell, q1, by cases hvm : cell.vm <;> first | rfl | exact absurd hvm (q4 _), by rw [q5]; exact hnm⟩ hfr hlo hd (kk H locs ls hl2 hc hR hS)
theorem z_copyO (X : ZX p m c cc nL s args own G) {ix a0 a t0 t n0 n1 : Nat} {f g g' : Nat → Value} {x : Int32} (n : Nat) (hl : Cond.methodLink own ix arraycopyName ∈ lw_all) (h0 : h a0 = (t0, .inl (3, n0, f))) (h1 : h a = (t, .inl (3, n1, g))) (ht0 : t0 ≠ 0) (ht : 1 < t) (hx : x = nI n) (hn0 : n ≤ n0) (hn1 : n ≤ n1) (hb : n < 2 ^ 31) (hel : ∀ i, i < n → zob h (f i)) (hg' : ∀ k, k < n1 → g' k = if k < n then f k else g k) (hfr : 1 ≤ R.frames) (hlo : (st.map fun v => v.category).sum + (nativeFrameWords "java/lang/System" "arraycopy" 5 + 11) ≤ R.locals) (hd : decode cc pc = .ok (.invokestatic ix, 3)) (kk : Zw p l e R s m args below meth c G nL Q (pc + 3) lv st (zup h a (t, .inl (3, n1, g'))) cells slots) : Zw p l e R s m args below meth c G nL Q pc lv (.int x :: .int 0 :: .ref a :: .int 0 :: .ref a0 :: st) h cells slots := by
  subst hx
  intro H locs ls hl2 hc hR hS T hT XX
  obtain ⟨cs, q1, q2, q3, q4, q5, q6, q7⟩ := zcell hR h0 ht0
  obtain ⟨cd, b1, b2, b3, b4, b5, b6, b7⟩ := zcell hR h1 (by omega)
  have hfl := zfloor hR h1 (by omega) (by omega)
  have hcl := nI_clamp hb
  have hti := nI_toInt hb
  obtain ⟨kA, comp, e1, e2, e3⟩ := X.2.1.2.1 3 _ rfl
  have hcomp := (e3 (by decide)).2 "java/lang/Object" rfl
  obtain ⟨vm', X', step⟩ := XX.arraycopy X.1.1 (zXown X) (zXts X _ hl) (zXts X _ q585) (zXts X _ q584) (zXts X _ q70) (src := a0) (dst := a) (cs := cs) (cd := cd) (srcPos := 0) (destPos := 0) (n := nI n) (by rw [hT]; exact q1) (by rw [hT]; exact b1)
    q4 b4 q3 b3 (by rw [q5]; exact e1) (by rw [b5]; exact e1) e2 e2 rfl (by decide) (by decide) (nI_pos hb)
    (by rw [hti, q6]; simp; omega) (by rw [hti, b6]; simp; omega)
    (fun vm₁ hal i hi => by
      rw [hcl] at hi
      have e : cs.slots.getD ((0 : Int32).toNatClampNeg + i) .null = f i := by
        rw [Array.getD_eq_getD_getElem?, show (0 : Int32).toNatClampNeg + i = i from by simp, q7 i (by omega)]
        rfl
      rw [e]
      rcases hel i hi with e0 | ⟨b, tb, ci, gs, C, T0, N, e0, hb1, htb, hC, hasg⟩
      · rw [e0]; exact ⟨rfl, trivial⟩
      · rw [e0]
        obtain ⟨cv, g1, g2, g3, g4, g5, -⟩ := zcell hR hb1 htb
        obtain ⟨-, hfc, kC, hkC, hkind⟩ := X.2.1.1 ci _ hC
        obtain ⟨kE, hkE, -⟩ := Vm.findClass_spec hcomp
        obtain ⟨kC', hkC', -⟩ := hal.2.2 _ _ hkC
        obtain ⟨kE', hkE', -⟩ := hal.2.2 _ _ hkE
        refine ⟨rfl, cv, (show T.heap[b]? = some cv by rw [hT]; exact g1), g4, ⟨kC', by rw [g5]; exact hkC'⟩, ?_, ?_⟩
        · exact ⟨kE', hkE'⟩
        · show vm₁.assignable _ _ = true
          rw [hal.assignable, g5]
          exact zasg.use X hasg hfc hcomp)
    (g := F0 m pc ls (.int (nI n) :: .int 0 :: .ref a :: .int 0 :: .ref a0 :: st)) rfl (by rw [hl2.1]; exact X.1.2.2.1.symm) (rest := st) rfl (by rw [X.1.2.1]; exact hd) hfr (by show 2 * 0 + _ + _ ≤ _; omega)
  generalize hcp : copied cs cd 0 0 (nI n) = cp at X' step
  have hst : (cs.stretch 0 n).length = n := by simp [Cell.stretch]
  have hcp' : cp = cd.storeRun 0 (cs.stretch 0 n) := by rw [← hcp]; show cd.storeRun (0 : Int32).toNatClampNeg (cs.stretch (0 : Int32).toNatClampNeg (nI n).toNatClampNeg) = _; rw [hcl]; rfl
  obtain ⟨c1, c2, c3, -, -⟩ := Cell.storeRun_facts cd 0 (cs.stretch 0 n)
  have c4 := fun j => Cell.storeRun_get cd 0 (cs.stretch 0 n) j (by rw [hst, b6]; omega)
  rw [← hcp'] at c1 c2 c3
  have hlt : a < H.size := (Array.getElem?_eq_some_iff.mp b1).1
  generalize hH1 : H.setIfInBounds a cp = H1
  have z1 : H1.size = H.size := by rw [← hH1]; simp
  have ea : H1[a]? = some cp := by rw [← hH1]; simp [Array.getElem?_setIfInBounds, hlt]
  have oq : ∀ q : Nat, q ≠ a → H1[q]? = H[q]? := fun q hq => by rw [← hH1]; simp [Array.getElem?_setIfInBounds, Ne.symm hq]
  have hz : zat G a (t, .inl (3, n1, g')) H1 := ⟨_, ea, (fun h => by rw [c2]; exact b2 h), (by rw [c2]; exact b3), (by rw [c2]; exact b4), by rw [c1]; exact b5, by rw [c3]; exact b6, fun j hj => by
    rw [hcp', c4 j, hst, hg' j hj, Nat.zero_add]
    by_cases hjn : j < n
    · rw [if_pos ⟨Nat.zero_le _, hjn⟩, if_pos hjn]
      have hs0 : cs.slots[j]? = some (f j) := q7 j (by omega)
      simp [Cell.stretch, hjn, Array.getD_eq_getD_getElem?, hs0]
    · rw [if_neg (fun q => hjn q.2), if_neg hjn, b7 j hj]⟩
  obtain ⟨t2, a1, b1⟩ := kk H1 _ ls hl2 hc (hR.set (by rw [h1]; show t ≠ 1; omega) hz hfl oq) ⟨by rw [z1]; exact hS.1, fun q g1 g2 => by
      rw [oq q (fun e => g2 (by rw [e]; exact hfl))]
      exact hS.2.1 q g1 g2, fun q hq => by
      rcases List.mem_append.mp hq with h | h
      · exact hS.2.2 q h
      · obtain ⟨z, -, hz⟩ := List.mem_map.mp h
        rw [← hz]
        exact hfl⟩ _ (by rw [← hH1, ← hT]; rfl) X'
  exact ⟨t2, step t2 a1, b1⟩
variable {a b ta tb : Nat} {x : Nat × ZE} {ca cb : ZE}
theorem zup_is (e : h1 = zup h a x) : h1 a = x := by rw [e]; exact zup_s _ _ _
theorem zup_oa {y : Nat × ZE} (e : h1 = zup h a x) (hb : h b = y) (hn : b ≠ a) : h1 b = y := by rw [e, zup_n hn, hb]
theorem zup_ot (e : h1 = zup h a x) (ha : h a = (ta, ca)) (hb : h b = (tb, cb)) (hn : tb ≠ ta) : h1 b = (tb, cb) := by
  rw [e]
  exact zup_t hb (by rw [ha]; exact hn)
theorem zup_o0 (e : h1 = zup h a x) (h0 : (h a).1 = 0) (hb : h b = (tb, cb)) (hn : tb ≠ 0) : h1 b = (tb, cb) := by
  rw [e]
  exact zup_t hb (by rw [h0]; exact hn)
end ZK
/-- only cells of the tags T have changed; others may have been made -/
def zOn (T : Nat → Prop) (h h' : ZH) : Prop := ∀ b, (h b).1 ≠ 0 → ¬ T (h b).1 → h' b = h b
theorem zOn.rf {T : Nat → Prop} {h : ZH} : zOn T h h := fun _ _ _ => rfl
theorem zOn.trans {T : Nat → Prop} {h h1 h2 : ZH} (o1 : zOn T h h1) (o2 : zOn T h1 h2) : zOn T h h2 := fun b h0 hT => by
  have e := o1 b h0 hT
  rw [← e] at h0 hT
  rw [o2 b h0 hT, e]
theorem zOn.mono {T T' : Nat → Prop} {h h1 : ZH} (o : zOn T h h1) (hi : ∀ t, T t → T' t) : zOn T' h h1 := fun b h0 hT => o b h0 (fun z => hT (hi _ z))
theorem zOn.up {T : Nat → Prop} {h0 h h1 : ZH} {a ta : Nat} {x : Nat × ZE} {ca : ZE} (o : zOn T h0 h) (e : h1 = zup h a x) (ha : h a = (ta, ca)) (hT : T ta) : zOn T h0 h1 := o.trans fun b _ hb => by
  rw [e]
  exact zup_n (fun z => hb (by rw [z, ha]; exact hT))
theorem zOn.new {T : Nat → Prop} {h0 h h1 : ZH} {a : Nat} {x : Nat × ZE} (o : zOn T h0 h) (e : h1 = zup h a x) (hn : (h a).1 = 0) : zOn T h0 h1 := o.trans fun b hb _ => by
  rw [e]
  exact zup_n (fun z => hb (by rw [z, hn]))
theorem zOn.at {T : Nat → Prop} {h h1 : ZH} {b tb : Nat} {cb : ZE} (o : zOn T h h1) (hb : h b = (tb, cb)) (h0 : tb ≠ 0) (hn : ¬ T tb) : h1 b = (tb, cb) := by
  rw [o b (by rw [hb]; exact h0) (by rw [hb]; exact hn), hb]
theorem zOn.eq_off {t : Nat} {h h1 : ZH} {b : Nat} (o : zOn (fun t' => t' = t) h h1) (h0 : (h b).1 ≠ 0) (hn : (h b).1 ≠ t) : h1 b = h b := o b h0 hn
/-- a callee that changed cells of a tag that were new -/
theorem zOn.hide {T T' : Nat → Prop} {h h1 h2 : ZH} (o1 : zOn T h h1) (o2 : zOn T' h1 h2) (hn : ∀ b, T' (h1 b).1 → (h b).1 = 0 ∨ T (h b).1) : zOn T h h2 := fun b h0 hT => by
  have e := o1 b h0 hT
  have h3 : ¬ T' (h1 b).1 := fun z => (hn b z).elim (fun y => h0 y) (fun y => hT y)
  rw [o2 b (by rw [e]; exact h0) h3, e]
theorem zlw_U {own : String} {idx : Nat} {C owner : String} {x y : MethodName} {b : ByteArray} {L : Nat} {r : Option FieldType} (h1 : Cond.methodLink own idx x ∈ lw_all) (h2 : Cond.sameMethod x.cls owner x.name x.desc ∈ lw_all) (h3 : Cond.selects C x y ∈ lw_all) (h4 : Cond.instanceMethod y ∈ lw_all) (h5 : Cond.initialized y.cls ∈ lw_all) (h6 : Cond.code y b L r ∈ lw_all) : GoodIn lw_all (va_wsU own idx C owner x y (ws_ y b L r)) := by
  refine lw_app ?_ (lw_meth h6)
  intro w hw
  simp only [List.mem_cons, List.not_mem_nil, or_false] at hw
  rcases hw with e | e | e | e | e
  · rw [e]; exact h1
  · rw [e]; exact h2
  · rw [e]; exact h3
  · rw [e]; exact h4
  · rw [e]; exact h5
theorem zlw_F {own : String} {idx : Nat} {C : String} {x y : MethodName} {b : ByteArray} {L : Nat} {r : Option FieldType} (h1 : Cond.methodLink own idx x ∈ lw_all) (h2 : Cond.selects C x y ∈ lw_all) (h3 : Cond.instanceMethod y ∈ lw_all) (h4 : Cond.initialized y.cls ∈ lw_all) (h5 : Cond.code y b L r ∈ lw_all) : GoodIn lw_all (va_wsF own idx C x y (ws_ y b L r)) := by
  refine lw_app ?_ (lw_meth h5)
  intro w hw
  simp only [List.mem_cons, List.not_mem_nil, or_false] at hw
  rcases hw with e | e | e | e
  · rw [e]; exact h1
  · rw [e]; exact h2
  · rw [e]; exact h3
  · rw [e]; exact h4
