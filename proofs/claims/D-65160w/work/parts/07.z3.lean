set_option maxRecDepth 100000
abbrev zRm (fr mc ms lo : Nat) : Room := { frames := fr, cells := mc, slots := ms, locals := lo }
def zPc (G : ZG) (av : List Value) (h : ZH) : Array Value → State → Prop := va_Pc av (fun U => zB G ≤ U.heap.size ∧ Rp G h U.heap ∧ KX G U)
def zQc (G : ZG) (Post : Option Value → ZH → Prop) : Array Value → State → Outcome → State → Prop := fun _ st o t => ∃ v h', o = .returned v ∧ Post v h' ∧ Rp G h' t.heap ∧ va_F (fun q => zB G ≤ q) st t
def zXc (G : ZG) (PX : String → Nat → ZH → Prop) : String → Addr → State → State → Prop := fun E q st t => ∃ h', PX E q h' ∧ Rp G h' t.heap ∧ va_F (fun q => zB G ≤ q) st t
/-- y returns, from any state that holds the world h, with the arguments av -/
def ZM (l : Launch) (G : ZG) (y : MethodName) (ws : List Cond) (rm : Room) (av : List Value) (h : ZH) (Post : Option Value → ZH → Prop) : Prop := Met l y ws rm (zPc G av h) (zQc G Post) rm.cells rm.slots (fun q => zB G ≤ q)
/-- y returns or throws -/
def ZT (l : Launch) (G : ZG) (y : MethodName) (ws : List Cond) (rm : Room) (av : List Value) (h : ZH) (Post : Option Value → ZH → Prop) (PX : String → Nat → ZH → Prop) : Prop := vx_Met l y ws rm (zPc G av h) (zQc G Post) (zXc G PX) rm.cells rm.slots (fun q => zB G ≤ q)
theorem ZT.zm {l : Launch} {G : ZG} {y : MethodName} {ws : List Cond} {rm : Room} {av : List Value} {h : ZH} {Post : Option Value → ZH → Prop} (hT : ZT l G y ws rm av h Post (fun _ _ _ => False)) : ZM l G y ws rm av h Post := by
  intro p e h1 h2 h3 s m args below h4 h5 h6 h7
  obtain ⟨n, o, g1, g2, g3, g4⟩ := hT p e h1 h2 h3 s m args below h4 h5 h6 h7
  refine ⟨n, o, g1, g2, g3, ?_⟩
  rcases g4 with ⟨a, b⟩ | ⟨q, -, E, ce, L, ⟨h', hF, -⟩, -⟩
  · exact ⟨a, b⟩
  · exact hF.elim
theorem ZM.post {l : Launch} {G : ZG} {y : MethodName} {ws : List Cond} {rm : Room} {av : List Value} {h : ZH} {Post Post' : Option Value → ZH → Prop} (hT : ZM l G y ws rm av h Post) (hi : ∀ v h', Post v h' → Post' v h') : ZM l G y ws rm av h Post' := by
  intro p e h1 h2 h3 s m args below h4 h5 h6 h7
  obtain ⟨n, o, g1, g2, g3, ⟨v, h', a1, a2, a3⟩, g5⟩ := hT p e h1 h2 h3 s m args below h4 h5 h6 h7
  exact ⟨n, o, g1, g2, g3, ⟨v, h', a1, hi v h' a2, a3⟩, g5⟩
theorem KX.same {G : ZG} {u U : State} (hv : U.vm = u.vm) (hh : U.heap = u.heap) (h : KX G u) : KX G U := KX.warm (by rw [hv]; exact State.WarmedH.refl u) (fun a _ _ => by rw [hh]) h
theorem zblind {G : ZG} {av : List Value} {h : ZH} : FrameBlind (zPc G av h) := fun a U g mk q => ⟨q.1, q.2.1, q.2.2.1, KX.same (u := U) (U := U.calling g mk a) rfl rfl q.2.2.2⟩
def zargs : Nat → List Value → List (Nat × Value)
  | _, [] => []
  | i, v :: l => (i, v) :: zargs (i + 1) l
theorem zargs_eq (vs : List Value) : (∀ v ∈ vs, v.category = 1) → ∀ i, lv_args i vs = zargs i vs := by
  induction vs with
  | nil => intro _ i; rfl
  | cons v t ih =>
    intro h i
    have h1 := h v List.mem_cons_self
    show (i, v) :: lv_args (if v.category = 2 then i + 2 else i + 1) t = _
    rw [if_neg (by omega), ih (fun w hw => h w (List.mem_cons_of_mem _ hw))]
    rfl
theorem zargs_cat (vs : List Value) : (∀ v ∈ vs, v.category = 1) → ∀ i, ∀ q ∈ zargs i vs, q.2.category = 1 := by
  induction vs with
  | nil => intro _ i q hq; cases hq
  | cons v t ih =>
    intro h i q hq
    rcases List.mem_cons.mp hq with rfl | hq
    · exact h v List.mem_cons_self
    · exact ih (fun w hw => h w (List.mem_cons_of_mem _ hw)) _ q hq
theorem zlg_sl (vs : List Value) (h : ∀ v ∈ vs, v.category = 1) : (lg_sl vs).length = vs.length := by
  induction vs with
  | nil => rfl
  | cons v t ih =>
    have h1 := h v List.mem_cons_self
    have h2 := ih (fun w hw => h w (List.mem_cons_of_mem _ hw))
    unfold lg_sl at h2 ⊢
    rw [List.flatMap_cons, if_neg (by omega), List.length_append, h2]
    simp; omega
/-- every value of the list fills one slot -/
def zcats (av : List Value) : Prop := ∀ v ∈ av, v.category = 1
theorem zcats.nil : zcats [] := fun _ h => by cases h
theorem zcats.i {x : Int32} {l : List Value} (h : zcats l) : zcats (.int x :: l) := fun v hv => by
  rcases List.mem_cons.mp hv with rfl | hv
  · rfl
  · exact h v hv
theorem zcats.r {v0 : Value} {l : List Value} (h0 : zref v0) (h : zcats l) : zcats (v0 :: l) := fun v hv => by
  rcases List.mem_cons.mp hv with rfl | hv
  · exact h0.cat
  · exact h v hv
/-- what the walk of a body owes -/
abbrev zEnd (G : ZG) (rm : Room) (Post : Option Value → ZH → Prop) (PX : String → Nat → ZH → Prop) (below : List Frame) (args : Array Value) (s : State) : State → Prop := vx_MQ below (zQc G Post) (zXc G PX) args s rm.cells rm.slots (fun q => zB G ≤ q)
theorem ZT.of {l : Launch} {G : ZG} {y : MethodName} {cc : ByteArray} {nL : Nat} {ret : Option FieldType} {rm : Room} {av : List Value} {h : ZH} {Post : Option Value → ZH → Prop} {PX : String → Nat → ZH → Prop} (hy : plainFor y = true) (hlen : av.length ≤ nL) (hcat : zcats av)
    (body : ∀ (p : Program) (e : Env) (s : State) (m : MethodId) (args : Array Value) (below : List Frame) (meth : Method) (c : Code), ZX p m c cc nL s args y.cls G → meth.sig.returnType = ret → meth.locks = false → meth.name = y.name → (∀ x ∈ c.exceptionTable.toList, False) →
      Zw p l e rm s m args below meth c G nL (zEnd G rm Post PX below args s) 0 (zargs 0 av) [] h 0 0) : ZT l G y (ws_ y cc nL ret) rm av h Post PX := by
  refine vx_ofW (cc := cc) (maxL := nL) (ret := ret) hy rfl ?_
  intro p e s m args below meth c s₁ B hml htab hv
  obtain ⟨rfl, hB, hRp, hKX⟩ := hv
  have hts := atoms_spec (ws := ws_ y cc nL ret) B.pre
  have hts : ∀ w ∈ lw_all, w.before _ s = true := fun w h => hts w (List.mem_cons_of_mem _ h)
  have hown : s.vm.findClass y.cls = some m.cls := findClass_of_methodNamed B.named
  have hin : meth.name = y.name := (name_of_methodNamed B.named B.method).1
  have hl := lv_entry av (n := nL) (by rw [zlg_sl av hcat]; exact hlen)
  rw [lg_entry_eq]
  rw [zargs_eq av hcat] at hl
  exact body p e s m _ below meth c ⟨⟨B.exec, B.bytes, hml, hown, hts⟩, hKX, hB⟩ B.returns B.notSynchronized hin htab s.heap [] _ hl (zargs_cat av hcat 0) hRp va_S.rf
theorem ZT.ofH {l : Launch} {G : ZG} {y : MethodName} {cc : ByteArray} {nL : Nat} {ret : Option FieldType} {hh : List (Nat × Nat × Nat × Nat)} {rm : Room} {av : List Value} {h : ZH} {Post : Option Value → ZH → Prop} {PX : String → Nat → ZH → Prop} (hy : plainFor y = true) (hlen : av.length ≤ nL) (hcat : zcats av)
    (body : ∀ (p : Program) (e : Env) (s : State) (m : MethodId) (args : Array Value) (below : List Frame) (meth : Method) (c : Code), ZX p m c cc nL s args y.cls G → meth.sig.returnType = ret → meth.locks = false → meth.name = y.name → c.exceptionTable.toList = tableOf hh →
      Zw p l e rm s m args below meth c G nL (zEnd G rm Post PX below args s) 0 (zargs 0 av) [] h 0 0) : ZT l G y (wsW_ y cc nL ret hh) rm av h Post PX := by
  refine vx_ofWH (cc := cc) (maxL := nL) (ret := ret) (hh := hh) hy rfl ?_
  intro p e s m args below meth c s₁ B hml hv
  obtain ⟨rfl, hB, hRp, hKX⟩ := hv
  have hts0 := atoms_spec (ws := wsW_ y cc nL ret hh) B.pre
  have hts : ∀ w ∈ lw_all, w.before _ s = true := fun w h => hts0 w (List.mem_cons_of_mem _ h)
  have hown : s.vm.findClass y.cls = some m.cls := findClass_of_methodNamed B.named
  have hin : meth.name = y.name := (name_of_methodNamed B.named B.method).1
  have htab := vx_table (x := y) B (hts0 _ List.mem_cons_self)
  have hl := lv_entry av (n := nL) (by rw [zlg_sl av hcat]; exact hlen)
  rw [lg_entry_eq]
  rw [zargs_eq av hcat] at hl
  exact body p e s m _ below meth c ⟨⟨B.exec, B.bytes, hml, hown, hts⟩, hKX, hB⟩ B.returns B.notSynchronized hin htab s.heap [] _ hl (zargs_cat av hcat 0) hRp va_S.rf
section ZR3
variable {p : Program} {l : Launch} {e : Env} {R : Room} {s : State} {m : MethodId} {args : Array Value} {below : List Frame} {meth : Method} {c : Code} {G : ZG} {nL : Nat} {Q : State → Prop} {cc : ByteArray} {own : String} {pc : Nat} {lv : List (Nat × Value)} {st : List Value} {h : ZH} {cells slots : Nat}
variable {rm : Room} {Post : Option Value → ZH → Prop} {PX : String → Nat → ZH → Prop}
theorem z_iret (X : ZX p m c cc nL s args own G) {v : Int32} (hr : meth.sig.returnType = some .int) (hlk : meth.locks = false) (hd : decode cc pc = .ok (.ireturn, 1)) (h1 : cells ≤ rm.cells) (h2 : slots ≤ rm.slots) (hp : Post (some (.int v)) h) : Zw p l e R s m args below meth c G nL (zEnd G rm Post PX below args s) pc lv [.int v] h cells slots := by
  intro H locs ls hl hc hR hS
  exact vx_ret (W.widen h1 h2 (W.iret X.1.1 X.1.2.1 hr (fun t ht hW => ⟨_, h, rfl, hp, by rw [ht]; exact hR, hS.F ht⟩) hS.2.2 hd hlk))
theorem z_zret (X : ZX p m c cc nL s args own G) {v : Int32} (hr : meth.sig.returnType = some .boolean) (hlk : meth.locks = false) (hv : zfits .boolean (.int v)) (hd : decode cc pc = .ok (.ireturn, 1)) (h1 : cells ≤ rm.cells) (h2 : slots ≤ rm.slots) (hp : Post (some (.int v)) h) : Zw p l e R s m args below meth c G nL (zEnd G rm Post PX below args s) pc lv [.int v] h cells slots := by
  intro H locs ls hl hc hR hS
  exact vx_ret (W.widen h1 h2 (W.zret X.1.1 X.1.2.1 hr hv.1 (fun t ht hW => ⟨_, h, rfl, hp, by rw [ht]; exact hR, hS.F ht⟩) hS.2.2 hd hlk))
theorem z_vret (X : ZX p m c cc nL s args own G) (hr : meth.sig.returnType = none) (hlk : meth.locks = false) (hd : decode cc pc = .ok (.return_, 1)) (h1 : cells ≤ rm.cells) (h2 : slots ≤ rm.slots) (hp : Post none h) : Zw p l e R s m args below meth c G nL (zEnd G rm Post PX below args s) pc lv [] h cells slots := by
  intro H locs ls hl hc hR hS
  exact vx_ret (W.widen h1 h2 (W.vret X.1.1 X.1.2.1 hr (fun t ht hW => ⟨_, h, rfl, hp, by rw [ht]; exact hR, hS.F ht⟩) hS.2.2 hd hlk))
theorem z_aret (X : ZX p m c cc nL s args own G) {v : Value} {rt : FieldType} (hr : meth.sig.returnType = some rt) (hrt : (∃ n, rt = .object n) ∨ ∃ t, rt = .array t) (hlk : meth.locks = false) (hv : zref v) (hd : decode cc pc = .ok (.areturn, 1)) (h1 : cells ≤ rm.cells) (h2 : slots ≤ rm.slots) (hp : Post (some v) h) : Zw p l e R s m args below meth c G nL (zEnd G rm Post PX below args s) pc lv [v] h cells slots := by
  intro H locs ls hl hc hR hS
  exact vx_ret (W.widen h1 h2 (W.aret X.1.1 X.1.2.1 hr hrt hv (fun t ht hW => ⟨_, h, rfl, hp, by rw [ht]; exact hR, hS.F ht⟩) hS.2.2 hd hlk))
theorem z_athrow (X : ZX p m c cc nL s args own G) {q : Nat} (hd : decode cc pc = .ok (.athrow, 1)) (kk : Zt p l e R s m args below meth c G nL Q pc lv q h cells slots) : Zw p l e R s m args below meth c G nL Q pc lv (.ref q :: st) h cells slots := fun H locs ls hl hc hR hS => vx_athrow X.1.1 X.1.2.1 hd (kk H locs ls _ hl hc hR hS)
/-- it goes on to the caller -/
theorem z_out {q t ci N : Nat} {C : String} {T : u_T} {fs : List Value} (X : ZX p m c cc nL s args own G) (htab : ∀ x ∈ c.exceptionTable.toList, covers x pc = false) (hlk : meth.locks = false) (hq : h q = (t, .inr (ci, fs))) (ht : t ≠ 0) (ht1 : t ≠ 1) (hC : zcl[ci]? = some (C, T, N)) (h1 : cells ≤ rm.cells) (h2 : slots ≤ rm.slots) (hp : PX C q h) : Zt p l e R s m args below meth c G nL (zEnd G rm Post PX below args s) pc lv q h cells slots := by
  intro H locs ls st hl hc hR hS
  obtain ⟨cell, q1, q2, q3, q4, q5, -⟩ := zcell hR hq ht
  exact vx_out htab hlk q1 (q2 ht1) (by rw [q5]; exact (X.2.1.1 ci _ hC).2.1) (fun t ht hW => ⟨h, hp, by rw [ht]; exact hR, hS.F ht⟩) hS.2.2 h1 h2
/-- caught here, by the one row of the table -/
theorem z_catch {q t ci N a1 a2 a3 a4 : Nat} {C : String} {T : u_T} {fs : List Value} (X : ZX p m c cc nL s args own G) (htab : c.exceptionTable.toList = tableOf [(a1, a2, a3, a4)]) (hcov : covers ⟨a1, a2, a3, a4⟩ pc = true) (h0 : a4 ≠ 0) (hlink : Cond.classLink own a4 C ∈ lw_all) (hcast : Cond.castable C C ∈ lw_tbl) (hq : h q = (t, .inr (ci, fs))) (ht : t ≠ 0) (ht1 : t ≠ 1) (hC : zcl[ci]? = some (C, T, N)) (kk : Zw p l e R s m args below meth c G nL Q a3 lv [.ref q] h cells slots) : Zt p l e R s m args below meth c G nL Q pc lv q h cells slots := by
  intro H locs ls st hl hc hR hS
  obtain ⟨cell, q1, q2, q3, q4, q5, -⟩ := zcell hR hq ht
  exact vx_catch (zXown X) [] ⟨a1, a2, a3, a4⟩ [] htab (fun _ hz => by cases hz) hcov h0 (zXts X _ hlink) (va_Nw.use rfl (zXnw X hcast rfl)) q1 (q2 ht1) (by rw [q5]; exact (X.2.1.1 ci _ hC).2.1) (kk H locs ls hl hc hR hS)
theorem zpre (X : ZX p m c cc nL s args own G) {H : Heap} {locs : List Loc} {av : List Value} (hR : Rp G h H) (hS : va_S (fun q => zB G ≤ q) s.heap H locs) : ∀ U : State, U.heap = H → s.WarmedH U.vm → zPc G av h av.toArray U := by
  intro U hU hW
  refine ⟨rfl, ?_, by rw [hU]; exact hR, X.2.1.warm hW (fun a h1 h2 => by rw [hU]; exact hS.2.1 a h1 h2)⟩
  rw [hU]
  exact Nat.le_trans X.2.2 hS.1
theorem z_run {mc ms : Nat} {rest st0 : List Value} {a : Array Value} (hrun : ∀ (H : Heap) (locs : List Loc) (ls : Array Slot), ls.size = nL → Rp G h H → va_S (fun q => zB G ≤ q) s.heap H locs → va_Run p l e R s m args below meth c H locs cells slots mc ms (F0 m pc ls st0) rest (zQc G Post a) (fun q => zB G ≤ q))
    (kk : ∀ v h', Post v h' → Zw p l e R s m args below meth c G nL Q (pc + 3) lv (v.toList ++ rest) h' (cells + mc) (slots + ms)) : Zw p l e R s m args below meth c G nL Q pc lv st0 h cells slots := by
  intro H locs ls hl hc hR hS T hT XX
  obtain ⟨v, st₀, t, T', L, h0, X', hL, e1, e2, ⟨v', h', ev, hp, hR', hF1, hF2⟩, sp⟩ := hrun H locs ls hl.1 hR hS T hT XX
  cases ev
  rw [h0] at hF1 hF2
  obtain ⟨t2, a1, b1⟩ := kk v h' hp T'.heap (locs ++ L) ls hl hc (by rw [e1]; exact hR') ⟨Nat.le_trans hS.1 (by rw [e1]; exact hF1), fun q y1 y2 => by rw [e1, hF2 q (Nat.lt_of_lt_of_le y1 hS.1) y2]; exact hS.2.1 q y1 y2, fun q hq => by
    rcases List.mem_append.mp hq with z | z
    · exact hS.2.2 q z
    · exact hL q z⟩ T' rfl X'
  exact ⟨t2, sp t2 a1, b1⟩
theorem z_runX {mc ms : Nat} {rest st0 : List Value} {a : Array Value} (hrun : ∀ (H : Heap) (locs : List Loc) (ls : Array Slot), ls.size = nL → Rp G h H → va_S (fun q => zB G ≤ q) s.heap H locs → vx_Run p l e R s m args below meth c H locs cells slots mc ms (F0 m pc ls st0) rest (zQc G Post a) (zXc G PX) (fun q => zB G ≤ q))
    (kx : ∀ E q h', PX E q h' → Zt p l e R s m args below meth c G nL Q pc lv q h' (cells + mc) (slots + ms))
    (kk : ∀ v h', Post v h' → Zw p l e R s m args below meth c G nL Q (pc + 3) lv (v.toList ++ rest) h' (cells + mc) (slots + ms)) : Zw p l e R s m args below meth c G nL Q pc lv st0 h cells slots := by
  intro H locs ls hl hc hR hS T hT XX
  have key : ∀ (st₀ t T' : State) (L : List Loc), st₀.heap = H → (∀ q ∈ L, zB G ≤ q.base) → T'.heap = t.heap → va_F (fun q => zB G ≤ q) st₀ t → va_S (fun q => zB G ≤ q) s.heap T'.heap (locs ++ L) := by
    intro st₀ t T' L h0 hL e1 hF
    obtain ⟨hF1, hF2⟩ := hF
    rw [h0] at hF1 hF2
    exact ⟨Nat.le_trans hS.1 (by rw [e1]; exact hF1), fun q y1 y2 => by rw [e1, hF2 q (Nat.lt_of_lt_of_le y1 hS.1) y2]; exact hS.2.1 q y1 y2, fun q hq => by
      rcases List.mem_append.mp hq with z | z
      · exact hS.2.2 q z
      · exact hL q z⟩
  rcases hrun H locs ls hl.1 hR hS T hT XX with ⟨v, st₀, t, T', L, h0, X', hL, e1, e2, ⟨v', h', ev, hp, hR', hF⟩, sp⟩ | ⟨q, st₀, t, T', L, E, ce, h0, X', hL, e1, e2, ⟨h', hp, hR', hF⟩, hce, hcv, hcl, sp⟩
  · cases ev
    obtain ⟨t2, a1, b1⟩ := kk v h' hp T'.heap (locs ++ L) ls hl hc (by rw [e1]; exact hR') (key st₀ t T' L h0 hL e1 hF) T' rfl X'
    exact ⟨t2, sp t2 a1, b1⟩
  · obtain ⟨t2, a1, b1⟩ := kx E q h' hp T'.heap (locs ++ L) ls rest hl hc (by rw [e1]; exact hR') (key st₀ t T' L h0 hL e1 hF) T' rfl X'
    exact ⟨t2, sp.trans a1, b1⟩
variable {y x : MethodName} {bytes : ByteArray} {maxL ix : Nat} {ret : Option FieldType} {av As rest st0 : List Value}
theorem z_callV {b tb ci N : Nat} {C : String} {T : u_T} {fs : List Value} (X : ZX p m c cc nL s args own G) (hM : ZM l G y (ws_ y bytes maxL ret) rm (.ref b :: As) h Post) (cw : CallW R s args own C ix y bytes maxL ret (ws_ y bytes maxL ret) rm rm.cells rm.slots As.length) (hb : h b = (tb, .inr (ci, fs))) (htb : tb ≠ 0) (hC : zcl[ci]? = some (C, T, N)) (hst : st0 = As.reverse ++ .ref b :: rest) (hW : (rest.map fun v => v.category).sum ≤ 8) (hf : cells + rm.cells ≤ R.cells ∧ slots + rm.slots ≤ R.slots) (hd : decode cc pc = .ok (.invokevirtual ix, 3)) (kk : ∀ v h', Post v h' → Zw p l e R s m args below meth c G nL Q (pc + 3) lv (v.toList ++ rest) h' (cells + rm.cells) (slots + rm.slots)) : Zw p l e R s m args below meth c G nL Q pc lv st0 h cells slots :=
  z_run (fun H locs ls hz hR hS => va_runV X.1 hM cw ⟨zblind, zrecv X hR hb htb hC, zpre X hR hS⟩ rfl rfl hz hst (lv_room hW) hd hf) kk
theorem z_callU {owner : String} {b tb ci N : Nat} {C : String} {T : u_T} {fs : List Value} (X : ZX p m c cc nL s args own G) (hM : ZM l G y (ws_ y bytes maxL ret) rm (.ref b :: As) h Post) (cw : va_CU R s args own C owner ix x y bytes maxL ret (ws_ y bytes maxL ret) rm rm.cells rm.slots As.length) (hb : h b = (tb, .inr (ci, fs))) (htb : tb ≠ 0) (hC : zcl[ci]? = some (C, T, N)) (hst : st0 = As.reverse ++ .ref b :: rest) (hW : (rest.map fun v => v.category).sum ≤ 8) (hf : cells + rm.cells ≤ R.cells ∧ slots + rm.slots ≤ R.slots) (hd : decode cc pc = .ok (.invokevirtual ix, 3)) (kk : ∀ v h', Post v h' → Zw p l e R s m args below meth c G nL Q (pc + 3) lv (v.toList ++ rest) h' (cells + rm.cells) (slots + rm.slots)) : Zw p l e R s m args below meth c G nL Q pc lv st0 h cells slots :=
  z_run (fun H locs ls hz hR hS => va_runU X.1 hM cw ⟨zblind, zrecv X hR hb htb hC, zpre X hR hS⟩ rfl rfl hz hst (lv_room hW) hd hf) kk
theorem z_callS (X : ZX p m c cc nL s args own G) (hM : ZM l G y (ws_ y bytes maxL ret) rm As h Post) (cw : CallB R s args own ix y bytes maxL ret (ws_ y bytes maxL ret) rm rm.cells rm.slots As.length ∧ (Cond.static y).before args s = true) (hst : st0 = As.reverse ++ rest) (hW : (rest.map fun v => v.category).sum ≤ 8) (hf : cells + rm.cells ≤ R.cells ∧ slots + rm.slots ≤ R.slots) (hd : decode cc pc = .ok (.invokestatic ix, 3)) (kk : ∀ v h', Post v h' → Zw p l e R s m args below meth c G nL Q (pc + 3) lv (v.toList ++ rest) h' (cells + rm.cells) (slots + rm.slots)) : Zw p l e R s m args below meth c G nL Q pc lv st0 h cells slots :=
  z_run (fun H locs ls hz hR hS => va_runS X.1 hM cw ⟨zblind, zpre X hR hS⟩ rfl rfl hz hst (lv_room hW) hd hf) kk
theorem z_callI {b : Nat} (X : ZX p m c cc nL s args own G) (hM : ZM l G y (ws_ y bytes maxL none) rm (.ref b :: As) h Post) (cw : CallB R s args own ix y bytes maxL none (ws_ y bytes maxL none) rm rm.cells rm.slots As.length ∧ y.name = "<init>" ∧ (Cond.instanceMethod y).before args s = true) (hst : st0 = As.reverse ++ .ref b :: rest) (hW : (rest.map fun v => v.category).sum ≤ 8) (hf : cells + rm.cells ≤ R.cells ∧ slots + rm.slots ≤ R.slots) (hd : decode cc pc = .ok (.invokespecial ix, 3)) (kk : ∀ v h', Post v h' → Zw p l e R s m args below meth c G nL Q (pc + 3) lv (v.toList ++ rest) h' (cells + rm.cells) (slots + rm.slots)) : Zw p l e R s m args below meth c G nL Q pc lv st0 h cells slots :=
  z_run (fun H locs ls hz hR hS => va_runI X.1 hM cw ⟨zblind, zpre X hR hS⟩ rfl rfl hz hst (lv_room hW) hd hf) kk
theorem z_callIN {b : Nat} {host : String} (X : ZX p m c cc nL s args own G) (hM : ZM l G y (ws_ y bytes maxL none) rm (.ref b :: As) h Post) (cw : va_CN R s args own ix y host bytes maxL none (ws_ y bytes maxL none) rm rm.cells rm.slots As.length ∧ y.name = "<init>" ∧ (Cond.instanceMethod y).before args s = true) (hst : st0 = As.reverse ++ .ref b :: rest) (hW : (rest.map fun v => v.category).sum ≤ 8) (hf : cells + rm.cells ≤ R.cells ∧ slots + rm.slots ≤ R.slots) (hd : decode cc pc = .ok (.invokespecial ix, 3)) (kk : ∀ v h', Post v h' → Zw p l e R s m args below meth c G nL Q (pc + 3) lv (v.toList ++ rest) h' (cells + rm.cells) (slots + rm.slots)) : Zw p l e R s m args below meth c G nL Q pc lv st0 h cells slots :=
  z_run (fun H locs ls hz hR hS => va_runIN X.1 hM cw ⟨zblind, zpre X hR hS⟩ rfl rfl hz hst (lv_room hW) hd hf) kk
theorem z_callF {count : Nat} {b tb ci N : Nat} {C : String} {T : u_T} {fs : List Value} (X : ZX p m c cc nL s args own G) (hM : ZM l G y (ws_ y bytes maxL ret) rm (.ref b :: As) h Post) (cw : va_CI R s args own C ix x y bytes maxL ret (ws_ y bytes maxL ret) rm rm.cells rm.slots As.length) (hb : h b = (tb, .inr (ci, fs))) (htb : tb ≠ 0) (hC : zcl[ci]? = some (C, T, N)) (hst : st0 = As.reverse ++ .ref b :: rest) (hW : (rest.map fun v => v.category).sum ≤ 8) (hf : cells + rm.cells ≤ R.cells ∧ slots + rm.slots ≤ R.slots) (hd : decode cc pc = .ok (.invokeinterface ix count, 5)) (kk : ∀ v h', Post v h' → Zw p l e R s m args below meth c G nL Q (pc + 5) lv (v.toList ++ rest) h' (cells + rm.cells) (slots + rm.slots)) : Zw p l e R s m args below meth c G nL Q pc lv st0 h cells slots := by
  intro H locs ls hl hc hR hS T hT XX
  obtain ⟨v, st₀, t, T', L, h0, X', hL, e1, e2, ⟨v', h', ev, hp, hR', hF1, hF2⟩, sp⟩ := va_runF (X.2.1.1 ci _ hC).2 X.1 hM cw ⟨zblind, zrecv X hR hb htb hC, zpre X hR hS⟩ rfl rfl hl.1 hst (lv_room hW) hd hf T hT XX
  cases ev
  rw [h0] at hF1 hF2
  obtain ⟨t2, a1, b1⟩ := kk v h' hp T'.heap (locs ++ L) ls hl hc (by rw [e1]; exact hR') ⟨Nat.le_trans hS.1 (by rw [e1]; exact hF1), fun q y1 y2 => by rw [e1, hF2 q (Nat.lt_of_lt_of_le y1 hS.1) y2]; exact hS.2.1 q y1 y2, fun q hq => by
    rcases List.mem_append.mp hq with z | z
    · exact hS.2.2 q z
    · exact hL q z⟩ T' rfl X'
  exact ⟨t2, sp t2 a1, b1⟩
theorem z_callVW {hh : List (Nat × Nat × Nat × Nat)} {b tb ci N : Nat} {C : String} {T : u_T} {fs : List Value} (X : ZX p m c cc nL s args own G) (hM : ZM l G y (wsW_ y bytes maxL ret hh) rm (.ref b :: As) h Post) (cw : vx_CVW R s args own C ix y bytes maxL ret hh (wsW_ y bytes maxL ret hh) rm rm.cells rm.slots As.length) (hb : h b = (tb, .inr (ci, fs))) (htb : tb ≠ 0) (hC : zcl[ci]? = some (C, T, N)) (hst : st0 = As.reverse ++ .ref b :: rest) (hW : (rest.map fun v => v.category).sum ≤ 8) (hf : cells + rm.cells ≤ R.cells ∧ slots + rm.slots ≤ R.slots) (hd : decode cc pc = .ok (.invokevirtual ix, 3)) (kk : ∀ v h', Post v h' → Zw p l e R s m args below meth c G nL Q (pc + 3) lv (v.toList ++ rest) h' (cells + rm.cells) (slots + rm.slots)) : Zw p l e R s m args below meth c G nL Q pc lv st0 h cells slots :=
  z_run (fun H locs ls hz hR hS => vx_runVW X.1 hM cw ⟨zblind, zrecv X hR hb htb hC, zpre X hR hS⟩ rfl rfl hz hst (lv_room hW) hd hf) kk
theorem z_callVT {b tb ci N : Nat} {C : String} {T : u_T} {fs : List Value} (X : ZX p m c cc nL s args own G) (hM : ZT l G y (ws_ y bytes maxL ret) rm (.ref b :: As) h Post PX) (cw : CallW R s args own C ix y bytes maxL ret (ws_ y bytes maxL ret) rm rm.cells rm.slots As.length) (hb : h b = (tb, .inr (ci, fs))) (htb : tb ≠ 0) (hC : zcl[ci]? = some (C, T, N)) (hst : st0 = As.reverse ++ .ref b :: rest) (hW : (rest.map fun v => v.category).sum ≤ 8) (hf : cells + rm.cells ≤ R.cells ∧ slots + rm.slots ≤ R.slots) (hd : decode cc pc = .ok (.invokevirtual ix, 3)) (kx : ∀ E q h', PX E q h' → Zt p l e R s m args below meth c G nL Q pc lv q h' (cells + rm.cells) (slots + rm.slots)) (kk : ∀ v h', Post v h' → Zw p l e R s m args below meth c G nL Q (pc + 3) lv (v.toList ++ rest) h' (cells + rm.cells) (slots + rm.slots)) : Zw p l e R s m args below meth c G nL Q pc lv st0 h cells slots :=
  z_runX (fun H locs ls hz hR hS => vx_runV X.1 hM cw ⟨zblind, zrecv X hR hb htb hC, zpre X hR hS⟩ rfl rfl hz hst (lv_room hW) hd hf) kx kk
theorem z_objInit {a : Nat} (X : ZX p m c cc nL s args own G) (hl : Cond.methodLink own ix objectInit ∈ lw_all) (hi : Cond.instanceMethod objectInit ∈ lw_all) (hco : Cond.code objectInit ⟨#[0xb1]⟩ 1 none ∈ lw_all) (hd : decode cc pc = .ok (.invokespecial ix, 3)) (hfr : 1 ≤ R.frames) (hlo : (st.map fun v => v.category).sum + 12 ≤ R.locals) (kk : Zw p l e R s m args below meth c G nL Q (pc + 3) lv st h cells slots) : Zw p l e R s m args below meth c G nL Q pc lv (.ref a :: st) h cells slots := fun H locs ls hl2 hc hR hS =>
  W.objInit X.1.1 X.1.2.1 (zXown X) (zXts X _ hl) (zXts X _ hi) (zXts X _ hco) rfl (by rw [hl2.1]; exact X.1.2.2.1.symm) rfl hd hfr (by simpa [JFrame.monitorRoom] using hlo) (kk H locs ls hl2 hc hR hS)

end ZR3
