set_option maxRecDepth 100000
/-! Z: a world is a function from addresses to (the owner's tag, the content); tag 0: nothing is said; tag 1: a constant, below the floor -/
abbrev ZE : Type := (Nat × Nat × (Nat → Value)) ⊕ (Nat × List Value)
abbrev ZH : Type := Nat → Nat × ZE
/-- class ids, slots, array class ids, the floor, addresses of constants, static values -/
abbrev ZG : Type := (Nat → ClassId) × (Nat → Nat → Nat) × (Nat → ClassId) × Nat × (Nat → Nat) × (Nat → Value)
abbrev zB (G : ZG) : Nat := G.2.2.2.1
abbrev zS (G : ZG) : Nat → Nat := G.2.2.2.2.1
abbrev zV (G : ZG) : Nat → Value := G.2.2.2.2.2
def zcl : List vw_C := [(RX0, TX0, 9), (RX2, TX2, 10), (RX3, TX3, 6), (RX4, TX4, 5), (RX5, TX5, 14), (RX6, TX6, 7), (RX7, TX7, 39), (RX8, TX8, 9), (RX9, TX9, 4), (RJ3, TJ3, 3), (RJ7, TJ7, 3), (RJ9, TJ9, 8), (RJ16, TJ16, 1), (RJ17, TJ17, 4), (RJ20, TJ20, 3), (RJ21, TJ21, 4), (RJ23, TJ23, 1), (RJ25, TJ25, 5), (RJ26, TJ26, 1), (RJ28, TJ28, 5)]
def zar : List FieldType := [.int, .boolean, .long, .object "java/lang/Object", .object "LinkStation$Module", .object "LinkStation$Definition", .object "java/util/HashMap$Node", .object "LinkStation$Op", .object "java/lang/Integer"]
theorem va_rf_inj {a b : Option Nat} (h : va_rf a = va_rf b) : a = b := by
  cases a <;> cases b <;> simp_all [va_rf]
def zref (v : Value) : Prop := v = .null ∨ ∃ a : Nat, v = .ref a
theorem zref.cat {v : Value} (h : zref v) : v.category = 1 := by
  rcases h with rfl | ⟨a, rfl⟩ <;> rfl
theorem zref.nul : zref .null := Or.inl rfl
theorem zref.r {a : Nat} : zref (.ref a) := Or.inr ⟨a, rfl⟩
theorem zref.rf (o : Option Nat) : zref (va_rf o) := by
  cases o with
  | none => exact Or.inl rfl
  | some a => exact Or.inr ⟨a, rfl⟩
theorem zref.ex {v : Value} (h : zref v) : ∃ o, v = va_rf o := by
  rcases h with rfl | ⟨a, rfl⟩
  · exact ⟨none, rfl⟩
  · exact ⟨some a, rfl⟩
/-- what a cell of the world is -/
def zat (G : ZG) (a : Nat) (x : Nat × ZE) (H : Heap) : Prop := ∃ cell : Cell, H[a]? = some cell ∧ (x.1 ≠ 1 → cell.vm = .none) ∧ cell.vm ≠ .unknown ∧ (∀ k, cell.vm ≠ .statics k) ∧ (match x.2 with
  | .inl (kd, n, f) => cell.cls = G.2.2.1 kd ∧ cell.slots.size = n ∧ ∀ j, j < n → cell.slots[j]? = some (f j)
  | .inr (ci, fs) => cell.cls = G.1 ci ∧ ∃ r : vw_C, zcl[ci]? = some r ∧ ∀ k, k < r.2.2 → cell.slots[G.2.1 ci k]? = some (vp_V fs k))
/-- the constants of the JDK and the enum -/
def zSH (G : ZG) (h : ZH) : Prop :=
  (∀ k, k < 256 → h (zS G (100 + k)) = (1, .inr (12, [.int (vb_c k)]))) ∧ h (zS G 0) = (1, .inl (8, 256, fun k => .ref (zS G (100 + k)))) ∧ h (zS G 1) = (1, .inl (3, 0, fun _ => .null)) ∧ h (zS G 2) = (1, .inl (7, 15, fun i => .ref (zS G (16 + i))))
def Rp (G : ZG) (h : ZH) (H : Heap) : Prop := (∀ a : Nat, (h a).1 ≠ 0 → zat G a (h a) H ∧ ((h a).1 ≠ 1 → zB G ≤ a)) ∧ zSH G h
def zwk (w : Cond) : Bool := match w with
  | .castable _ _ => true
  | .fieldLinkNest _ _ _ _ _ _ => true
  | .methodLinkNest _ _ _ _ => true
  | .declares _ => true
  | _ => false
def zwl : List Cond := lw_tbl.filter zwk
theorem zw_in {w : Cond} (h : w ∈ lw_tbl) (g : zwk w = true) : w ∈ zwl := List.mem_filter.mpr ⟨h, g⟩
def zao : List String := ["java/lang/Object", "LinkStation$Module", "LinkStation$Definition", "java/util/HashMap$Node", "LinkStation$Op"]
abbrev zyHas : MethodName := ⟨"java/util/Iterator", "hasNext", "()Z"⟩
abbrev zyNxt : MethodName := ⟨"java/util/Iterator", "next", "()Ljava/lang/Object;"⟩
abbrev zySI : MethodName := ⟨"java/util/Set", "iterator", "()Ljava/util/Iterator;"⟩
abbrev zyCI : MethodName := ⟨"java/util/Collection", "iterator", "()Ljava/util/Iterator;"⟩
abbrev zyEK : MethodName := ⟨"java/util/Map$Entry", "getKey", "()Ljava/lang/Object;"⟩
abbrev zyEV : MethodName := ⟨"java/util/Map$Entry", "getValue", "()Ljava/lang/Object;"⟩
abbrev zyES : MethodName := ⟨"java/util/Map$Entry", "setValue", "(Ljava/lang/Object;)Ljava/lang/Object;"⟩
def zfw : List (String × MethodName × MethodName) := [
  ("java/util/ArrayList$Itr", zyHas, ⟨"java/util/ArrayList$Itr", "hasNext", "()Z"⟩),
  ("java/util/ArrayList$Itr", zyNxt, ⟨"java/util/ArrayList$Itr", "next", "()Ljava/lang/Object;"⟩),
  ("java/util/HashMap$EntryIterator", zyHas, ⟨"java/util/HashMap$HashIterator", "hasNext", "()Z"⟩),
  ("java/util/HashMap$EntryIterator", zyNxt, ⟨"java/util/HashMap$EntryIterator", "next", "()Ljava/lang/Object;"⟩),
  ("java/util/HashMap$ValueIterator", zyHas, ⟨"java/util/HashMap$HashIterator", "hasNext", "()Z"⟩),
  ("java/util/HashMap$ValueIterator", zyNxt, ⟨"java/util/HashMap$ValueIterator", "next", "()Ljava/lang/Object;"⟩),
  ("java/util/HashMap$EntrySet", zySI, ⟨"java/util/HashMap$EntrySet", "iterator", "()Ljava/util/Iterator;"⟩),
  ("java/util/HashMap$Values", zyCI, ⟨"java/util/HashMap$Values", "iterator", "()Ljava/util/Iterator;"⟩),
  ("java/util/HashMap$Node", zyEK, ⟨"java/util/HashMap$Node", "getKey", "()Ljava/lang/Object;"⟩),
  ("java/util/HashMap$Node", zyEV, ⟨"java/util/HashMap$Node", "getValue", "()Ljava/lang/Object;"⟩),
  ("java/util/HashMap$Node", zyES, ⟨"java/util/HashMap$Node", "setValue", "(Ljava/lang/Object;)Ljava/lang/Object;"⟩)]
/-- the statics that are read -/
def zst (G : ZG) : List (String × String × String × Value) := [
  ("LinkStation$Op", "$VALUES", "[LLinkStation$Op;", .ref (zS G 2)),
  ("LinkStation$Op", "CALL", "LLinkStation$Op;", .ref (zS G 23)),
  ("LinkStation$Op", "GET", "LLinkStation$Op;", .ref (zS G 24)),
  ("LinkStation$Op", "PUT", "LLinkStation$Op;", .ref (zS G 25)),
  ("java/lang/Integer$IntegerCache", "high", "I", .int 127),
  ("java/lang/Integer$IntegerCache", "cache", "[Ljava/lang/Integer;", .ref (zS G 0)),
  ("java/util/ArrayList", "DEFAULTCAPACITY_EMPTY_ELEMENTDATA", "[Ljava/lang/Object;", .ref (zS G 1)),
  ("java/util/BitSet", "$assertionsDisabled", "Z", .int 1),
  ("java/lang/Throwable", "UNASSIGNED_STACK", "[Ljava/lang/StackTraceElement;", zV G 0),
  ("java/lang/Throwable", "SUPPRESSED_SENTINEL", "Ljava/util/List;", zV G 1)]
def zKS (G : ZG) (U : State) (H : Heap) : Prop :=
  (∀ q ∈ zst G, va_Z q.1 q.2.1 q.2.2.1 q.2.2.2 (fun a => zB G ≤ a) U H) ∧
  (∀ i, i < 15 → va_O "LinkStation$Op" (zS G (16 + i)) (fun a => zB G ≤ a) U H ∧ va_OF "java/lang/Enum" "ordinal" "I" (.int (nI i)) (zS G (16 + i)) (fun a => zB G ≤ a) U H) ∧
  (∀ i j, i < 15 → j < 15 → zS G (16 + i) = zS G (16 + j) → i = j) ∧ zref (zV G 0) ∧ zref (zV G 1) ∧ va_Nc "java/util/HashMap$Node" "java/util/HashMap$TreeNode" U ∧ va_Mi "[Ljava/lang/Object;" (zS G 3) U
/-- what is known of the classes, the tables and the constants, all through a run -/
def KX (G : ZG) (U : State) : Prop :=
  (∀ (c : Nat) (q : vw_C), zcl[c]? = some q → u_Kn U q.1 q.2.1 q.2.2 (G.1 c) (G.2.1 c)) ∧
  (∀ (k : Nat) (ty : FieldType), zar[k]? = some ty → ∃ (kA : Class) (comp : ClassId), U.vm.classes[G.2.2.1 k]? = some kA ∧ kA.kind = .array comp ty ∧ (k < 8 → U.vm.findClass ("[" ++ ty.toString) = some (G.2.2.1 k) ∧ ∀ C, ty = .object C → U.vm.findClass C = some comp)) ∧
  (∀ w ∈ zwl, va_Nw w U) ∧ (∀ q ∈ zfw, va_Fw q.1 q.2.1 q.2.2 U) ∧ (∀ C ∈ zao, va_AO C U) ∧ zKS G U U.heap
theorem zwk_warm {w : Cond} (g : zwk w = true) {s U : State} (hW : s.WarmedH U.vm) (h : va_Nw w s) : va_Nw w U := by
  cases w <;> simp [zwk] at g
  all_goals first | exact va_Nw.warmC hW h | exact va_Nw.warmF hW h | exact va_Nw.warmM hW h | exact va_Nw.warmD hW h
theorem zKS.warm {G : ZG} {s U : State} (hvm : s.vm.Alike U.vm) (hq : ∀ a : Nat, a < s.heap.size → ¬ zB G ≤ a → U.heap[a]? = s.heap[a]?) (h : zKS G s s.heap) : zKS G U U.heap := by
  obtain ⟨h1, h2, h3, h4, h5, h6, h7⟩ := h
  exact ⟨fun q hm => va_Z.moved hvm ((h1 q hm).kept hq), fun i hi => ⟨va_O.moved hvm ((h2 i hi).1.kept hq), va_OF.moved hvm ((h2 i hi).2.kept hq)⟩, h3, h4, h5, h6.moved hvm, h7.moved hvm⟩
theorem zfw_ok : ∀ q ∈ zfw, q.2.1.cls ≠ "java/lang/invoke/MethodHandle" ∧ q.2.1.cls ≠ "java/lang/invoke/VarHandle" := by decide +kernel
theorem KX.warm {G : ZG} {s U : State} (hW : s.WarmedH U.vm) (hq : ∀ a : Nat, a < s.heap.size → ¬ zB G ≤ a → U.heap[a]? = s.heap[a]?) (h : KX G s) : KX G U := by
  obtain ⟨h1, h2, h3, h4, h5, h6⟩ := h
  have hvm := hW.alike
  refine ⟨fun c q hc => u_Kn_moved hvm (h1 c q hc), fun k ty hk => ?_, fun w hw => zwk_warm (List.mem_filter.mp hw).2 hW (h3 w hw), fun q hm => va_Fw.moved (zfw_ok q hm) hvm (h4 q hm), fun C hC => va_AO.moved hvm (h5 C hC), zKS.warm hvm hq h6⟩
  obtain ⟨kA, comp, e1, e2, e3⟩ := h2 k ty hk
  obtain ⟨k', hk', he⟩ := hvm.2.2 _ _ e1
  exact ⟨k', comp, hk', by rw [he]; exact e2, fun hl => ⟨by rw [hvm.findClass]; exact (e3 hl).1, fun C hC => by rw [hvm.findClass]; exact (e3 hl).2 C hC⟩⟩
/-- one cell of the world changed -/
def zup (h : ZH) (a : Nat) (x : Nat × ZE) : ZH := fun b => if b = a then x else h b
theorem zup_s (h : ZH) (a : Nat) (x : Nat × ZE) : zup h a x a = x := if_pos rfl
theorem zup_n {h : ZH} {a b : Nat} {x : Nat × ZE} (hn : b ≠ a) : zup h a x b = h b := if_neg hn
/-- by the tags: the two are not one -/
theorem zup_t {h : ZH} {a b : Nat} {x y : Nat × ZE} (hb : h b = y) (hn : y.1 ≠ (h a).1) : zup h a x b = y := by
  rw [zup_n (fun e => hn (by rw [← hb, e])), hb]
theorem zSH.up {G : ZG} {h : ZH} {a : Nat} {x : Nat × ZE} (hs : zSH G h) (ha : (h a).1 ≠ 1) : zSH G (zup h a x) := by
  obtain ⟨h1, h2, h3, h4⟩ := hs
  have key : ∀ {b : Nat} {y : ZE}, h b = (1, y) → zup h a x b = (1, y) := fun {b y} hb => zup_t hb (fun e => ha e.symm)
  exact ⟨fun k hk => key (h1 k hk), key h2, key h3, key h4⟩
theorem zat.lt {G : ZG} {a : Nat} {x : Nat × ZE} {H : Heap} (h : zat G a x H) : a < H.size := by
  obtain ⟨cell, h1, -⟩ := h
  exact (Array.getElem?_eq_some_iff.mp h1).1
theorem zat.kept {G : ZG} {a : Nat} {x : Nat × ZE} {H H1 : Heap} (h : zat G a x H) (hq : H1[a]? = H[a]?) : zat G a x H1 := by
  obtain ⟨cell, h1, h2⟩ := h
  exact ⟨cell, hq.trans h1, h2⟩
theorem Rp.set {G : ZG} {h : ZH} {H H1 : Heap} {a : Nat} {x : Nat × ZE} (hR : Rp G h H) (h1 : (h a).1 ≠ 1) (hx : zat G a x H1) (hf : zB G ≤ a) (oq : ∀ q : Nat, q ≠ a → H1[q]? = H[q]?) : Rp G (zup h a x) H1 := by
  refine ⟨fun b hb => ?_, hR.2.up h1⟩
  by_cases hba : b = a
  · subst hba
    rw [zup_s] at hb ⊢
    exact ⟨hx, fun _ => hf⟩
  · rw [zup_n hba] at hb ⊢
    exact ⟨(hR.1 b hb).1.kept (oq b hba), (hR.1 b hb).2⟩
theorem Rp.push {G : ZG} {h : ZH} {H H1 : Heap} {x : Nat × ZE} (hR : Rp G h H) (hx : zat G H.size x H1) (hf : zB G ≤ H.size) (oq : ∀ q : Nat, q < H.size → H1[q]? = H[q]?) : (h H.size).1 = 0 ∧ Rp G (zup h H.size x) H1 := by
  have h0 : (h H.size).1 = 0 := by
    apply Classical.byContradiction
    intro hne
    exact absurd (hR.1 _ hne).1.lt (Nat.lt_irrefl _)
  refine ⟨h0, fun b hb => ?_, hR.2.up (by rw [h0]; decide)⟩
  by_cases hba : b = H.size
  · subst hba
    rw [zup_s] at hb ⊢
    exact ⟨hx, fun _ => hf⟩
  · rw [zup_n hba] at hb ⊢
    exact ⟨(hR.1 b hb).1.kept (oq b (hR.1 b hb).1.lt), (hR.1 b hb).2⟩
/-- the context of a method's walk -/
def ZX (p : Program) (m : MethodId) (c : Code) (cc : ByteArray) (nL : Nat) (s : State) (args : Array Value) (own : String) (G : ZG) : Prop :=
  CallFix p m c cc nL s args lw_all own ∧ KX G s ∧ zB G ≤ s.heap.size
/-- at pc, with these locals, this stack, this world: the method comes to Q -/
def Zw (p : Program) (l : Launch) (e : Env) (R : Room) (s : State) (m : MethodId) (args : Array Value) (below : List Frame) (meth : Method) (c : Code) (G : ZG) (nL : Nat) (Q : State → Prop) (pc : Nat) (lv : List (Nat × Value)) (st : List Value) (h : ZH) (cells slots : Nat) : Prop :=
  ∀ (H : Heap) (locs : List Loc) (ls : Array Slot), lv_has ls nL lv → (∀ q ∈ lv, q.2.category = 1) → Rp G h H → va_S (fun q => zB G ≤ q) s.heap H locs → W p l e R s m args below meth c H locs cells slots Q (F0 m pc ls st)
/-- at pc, with x thrown -/
def Zt (p : Program) (l : Launch) (e : Env) (R : Room) (s : State) (m : MethodId) (args : Array Value) (below : List Frame) (meth : Method) (c : Code) (G : ZG) (nL : Nat) (Q : State → Prop) (pc : Nat) (lv : List (Nat × Value)) (x : Nat) (h : ZH) (cells slots : Nat) : Prop :=
  ∀ (H : Heap) (locs : List Loc) (ls : Array Slot) (st : List Value), lv_has ls nL lv → (∀ q ∈ lv, q.2.category = 1) → Rp G h H → va_S (fun q => zB G ≤ q) s.heap H locs → vx_W p l e R s m args below meth c H locs cells slots Q (F0 m pc ls st) x
section ZR
variable {p : Program} {l : Launch} {e : Env} {R : Room} {s : State} {m : MethodId} {args : Array Value} {below : List Frame} {meth : Method} {c : Code} {G : ZG} {nL : Nat} {Q : State → Prop} {cc : ByteArray} {own : String} {pc : Nat} {lv : List (Nat × Value)} {st : List Value} {h : ZH} {cells slots : Nat}
theorem zXts (X : ZX p m c cc nL s args own G) : ∀ w ∈ lw_all, w.before args s = true := X.1.2.2.2.2
theorem zXown (X : ZX p m c cc nL s args own G) : s.vm.findClass own = some m.cls := X.1.2.2.2.1
theorem zXnw (X : ZX p m c cc nL s args own G) {w : Cond} (h : w ∈ lw_tbl) (g : zwk w = true) : va_Nw w s := X.2.1.2.2.1 w (zw_in h g)
/-- what the world's constants are -/
theorem z_sh (k : zSH G h → Zw p l e R s m args below meth c G nL Q pc lv st h cells slots) : Zw p l e R s m args below meth c G nL Q pc lv st h cells slots := fun H locs ls hl hc hR hS => k hR.2 H locs ls hl hc hR hS
theorem z_widen {k n : Nat} (h1 : cells ≤ k) (h2 : slots ≤ n) (kk : Zw p l e R s m args below meth c G nL Q pc lv st h k n) : Zw p l e R s m args below meth c G nL Q pc lv st h cells slots := fun H locs ls hl hc hR hS => W.widen h1 h2 (kk H locs ls hl hc hR hS)
theorem z_lv {lv' : List (Nat × Value)} (hs : ∀ q ∈ lv', q ∈ lv) (kk : Zw p l e R s m args below meth c G nL Q pc lv' st h cells slots) : Zw p l e R s m args below meth c G nL Q pc lv st h cells slots := fun H locs ls hl hc hR hS => kk H locs ls ⟨hl.1, hl.2.1, fun q hq => hl.2.2 q (hs q hq)⟩ (fun q hq => hc q (hs q hq)) hR hS
theorem z_eq {st' : List Value} {h' : ZH} (e1 : st = st') (e2 : h = h') (kk : Zw p l e R s m args below meth c G nL Q pc lv st' h' cells slots) : Zw p l e R s m args below meth c G nL Q pc lv st h cells slots := by
  subst e1; subst e2; exact kk
theorem z_st {st' : List Value} (e1 : st = st') (kk : Zw p l e R s m args below meth c G nL Q pc lv st' h cells slots) : Zw p l e R s m args below meth c G nL Q pc lv st h cells slots := by
  subst e1; exact kk
theorem z_store1 {ls : Array Slot} {i : Nat} {v : Value} (hl : lv_has ls nL lv) (hc : ∀ q ∈ lv, q.2.category = 1) (hi : i < nL) (hv : v.category = 1) : ∃ ls', storeLocals ls i v = some ls' ∧ lv_has ls' nL ((i, v) :: lv.filter (fun q => !(q.1 == i))) ∧ ∀ q ∈ (i, v) :: lv.filter (fun q => !(q.1 == i)), q.2.category = 1 := by
  obtain ⟨ls', e1, h1⟩ := lv_store1 hl hi hv
  have hf : lv.filter (fun q => !(q.1 == i) && !(q.1 + 1 == i && q.2.category == 2)) = lv.filter (fun q => !(q.1 == i)) := by
    apply List.filter_congr
    intro q hq
    simp [hc q hq]
  rw [hf] at h1
  refine ⟨ls', e1, h1, fun q hq => ?_⟩
  rcases List.mem_cons.mp hq with rfl | hq
  · exact hv
  · exact hc q ((List.mem_filter.mp hq).1)
theorem z_hfil {i : Nat} {v : Value} (hc : ∀ q ∈ lv, q.2.category = 1) : (i, v) :: lv.filter (fun q => !(q.1 == i) && !(q.1 + 1 == i && q.2.category == 2)) = (i, v) :: lv.filter (fun q => !(q.1 == i)) := by
  congr 1
  apply List.filter_congr
  intro q hq
  simp [hc q hq]
theorem z_hcat {i : Nat} {v : Value} (hc : ∀ q ∈ lv, q.2.category = 1) (hv : v.category = 1) : ∀ q ∈ (i, v) :: lv.filter (fun q => !(q.1 == i)), q.2.category = 1 := by
  intro q hq
  rcases List.mem_cons.mp hq with rfl | hq
  · exact hv
  · exact hc q ((List.mem_filter.mp hq).1)

theorem z_iconst (X : ZX p m c cc nL s args own G) {n : Int} (v : Int32) (hd : decode cc pc = .ok (.iconst n, 1)) (hv : Int32.ofInt n = v) (kk : Zw p l e R s m args below meth c G nL Q (pc + 1) lv (.int v :: st) h cells slots) : Zw p l e R s m args below meth c G nL Q pc lv st h cells slots := fun H locs ls hl hc hR hS => lv_iconst X.1.1 X.1.2.1 hd hv (kk H locs ls hl hc hR hS)
theorem z_bipush (X : ZX p m c cc nL s args own G) {n : Int} (v : Int32) (hd : decode cc pc = .ok (.bipush n, 2)) (hv : (Int8.ofInt n).toInt32 = v) (kk : Zw p l e R s m args below meth c G nL Q (pc + 2) lv (.int v :: st) h cells slots) : Zw p l e R s m args below meth c G nL Q pc lv st h cells slots := fun H locs ls hl hc hR hS => lv_bipush X.1.1 X.1.2.1 hd hv (kk H locs ls hl hc hR hS)
theorem z_sipush (X : ZX p m c cc nL s args own G) {n : Int} (v : Int32) (hd : decode cc pc = .ok (.sipush n, 3)) (hv : (Int16.ofInt n).toInt32 = v) (kk : Zw p l e R s m args below meth c G nL Q (pc + 3) lv (.int v :: st) h cells slots) : Zw p l e R s m args below meth c G nL Q pc lv st h cells slots := fun H locs ls hl hc hR hS => lv_sipush X.1.1 X.1.2.1 hd hv (kk H locs ls hl hc hR hS)
theorem z_lconst (X : ZX p m c cc nL s args own G) {n : Fin 2} (v : Int64) (hd : decode cc pc = .ok (.lconst n, 1)) (hv : Int64.ofNat (n : Nat) = v) (kk : Zw p l e R s m args below meth c G nL Q (pc + 1) lv (.long v :: st) h cells slots) : Zw p l e R s m args below meth c G nL Q pc lv st h cells slots := fun H locs ls hl hc hR hS => lv_lconst X.1.1 X.1.2.1 hd hv (kk H locs ls hl hc hR hS)
theorem z_ldc (X : ZX p m c cc nL s args own G) {ix : Nat} {v : Int32} (hw : Cond.constant own ix v ∈ lw_all) (hd : decode cc pc = .ok (.ldc ix, 2)) (kk : Zw p l e R s m args below meth c G nL Q (pc + 2) lv (.int v :: st) h cells slots) : Zw p l e R s m args below meth c G nL Q pc lv st h cells slots := fun H locs ls hl hc hR hS => lv_ldc X.1.1 X.1.2.1 (zXown X) (zXts X _ hw) hd (kk H locs ls hl hc hR hS)
theorem z_ldcf (X : ZX p m c cc nL s args own G) {ix : Nat} {v : UInt32} (hw : Cond.constantFloat own ix v ∈ lw_all) (hd : decode cc pc = .ok (.ldc ix, 2)) (kk : Zw p l e R s m args below meth c G nL Q (pc + 2) lv (.float v :: st) h cells slots) : Zw p l e R s m args below meth c G nL Q pc lv st h cells slots := fun H locs ls hl hc hR hS => lv_ldcf X.1.1 X.1.2.1 (zXown X) (zXts X _ hw) hd (kk H locs ls hl hc hR hS)
theorem z_null (X : ZX p m c cc nL s args own G)  (hd : decode cc pc = .ok (.aconst_null, 1)) (kk : Zw p l e R s m args below meth c G nL Q (pc + 1) lv (.null :: st) h cells slots) : Zw p l e R s m args below meth c G nL Q pc lv st h cells slots := fun H locs ls hl hc hR hS => lv_null X.1.1 X.1.2.1 hd (kk H locs ls hl hc hR hS)
theorem z_iload_n (X : ZX p m c cc nL s args own G) {i : Fin 4} {x : Int32} (k : Nat) (hd : decode cc pc = .ok (.iload_n i, 1)) (hk : lv[k]? = some ((i : Nat), .int x)) (kk : Zw p l e R s m args below meth c G nL Q (pc + 1) lv (.int x :: st) h cells slots) : Zw p l e R s m args below meth c G nL Q pc lv st h cells slots := fun H locs ls hl hc hR hS => lv_iload_n X.1.1 X.1.2.1 hd rfl (lv_at hl k hk) (kk H locs ls hl hc hR hS)
theorem z_iload (X : ZX p m c cc nL s args own G) {i : Nat} {x : Int32} (k : Nat) (hd : decode cc pc = .ok (.iload i, 2)) (hk : lv[k]? = some (i, .int x)) (kk : Zw p l e R s m args below meth c G nL Q (pc + 2) lv (.int x :: st) h cells slots) : Zw p l e R s m args below meth c G nL Q pc lv st h cells slots := fun H locs ls hl hc hR hS => lv_iload X.1.1 X.1.2.1 hd (lv_at hl k hk) (kk H locs ls hl hc hR hS)
theorem z_aload_n (X : ZX p m c cc nL s args own G) {i : Fin 4} {v : Value} (k : Nat) (hd : decode cc pc = .ok (.aload_n i, 1)) (hv : zref v) (hk : lv[k]? = some ((i : Nat), v)) (kk : Zw p l e R s m args below meth c G nL Q (pc + 1) lv (v :: st) h cells slots) : Zw p l e R s m args below meth c G nL Q pc lv st h cells slots := by
  intro H locs ls hl hc hR hS
  have hh := lv_at hl k hk
  rcases hv with rfl | ⟨a, rfl⟩
  · exact lv_aload_nN X.1.1 X.1.2.1 hd rfl hh (kk H locs ls hl hc hR hS)
  · exact lv_aload_n X.1.1 X.1.2.1 hd rfl hh (kk H locs ls hl hc hR hS)
theorem z_aload (X : ZX p m c cc nL s args own G) {i : Nat} {v : Value} (k : Nat) (hd : decode cc pc = .ok (.aload i, 2)) (hv : zref v) (hk : lv[k]? = some (i, v)) (kk : Zw p l e R s m args below meth c G nL Q (pc + 2) lv (v :: st) h cells slots) : Zw p l e R s m args below meth c G nL Q pc lv st h cells slots := by
  intro H locs ls hl hc hR hS
  have hh := lv_at hl k hk
  rcases hv with rfl | ⟨a, rfl⟩
  · exact lv_aloadN X.1.1 X.1.2.1 hd hh (kk H locs ls hl hc hR hS)
  · exact lv_aload X.1.1 X.1.2.1 hd hh (kk H locs ls hl hc hR hS)
theorem z_istore_n (X : ZX p m c cc nL s args own G) {i : Fin 4} {x : Int32} {lv' : List (Nat × Value)} (hd : decode cc pc = .ok (.istore_n i, 1)) (hn : (i : Nat) < nL) (hl' : ((i : Nat), Value.int x) :: lv.filter (fun q => !(q.1 == (i : Nat))) = lv') (kk : Zw p l e R s m args below meth c G nL Q (pc + 1) lv' st h cells slots) : Zw p l e R s m args below meth c G nL Q pc lv (.int x :: st) h cells slots := by
  subst hl'
  intro H locs ls hl hc hR hS
  exact lv_istore_n X.1.1 X.1.2.1 hd rfl hl hn (z_hfil hc) (fun ls hl => kk H locs ls hl (z_hcat hc rfl) hR hS)
theorem z_istore (X : ZX p m c cc nL s args own G) {i : Nat} {x : Int32} {lv' : List (Nat × Value)} (hd : decode cc pc = .ok (.istore i, 2)) (hn : i < nL) (hl' : (i, Value.int x) :: lv.filter (fun q => !(q.1 == i)) = lv') (kk : Zw p l e R s m args below meth c G nL Q (pc + 2) lv' st h cells slots) : Zw p l e R s m args below meth c G nL Q pc lv (.int x :: st) h cells slots := by
  subst hl'
  intro H locs ls hl hc hR hS
  exact lv_istore X.1.1 X.1.2.1 hd hl hn (z_hfil hc) (fun ls hl => kk H locs ls hl (z_hcat hc rfl) hR hS)
theorem z_astore_n (X : ZX p m c cc nL s args own G) {i : Fin 4} {v : Value} {lv' : List (Nat × Value)} (hd : decode cc pc = .ok (.astore_n i, 1)) (hv : zref v) (hn : (i : Nat) < nL) (hl' : ((i : Nat), v) :: lv.filter (fun q => !(q.1 == (i : Nat))) = lv') (kk : Zw p l e R s m args below meth c G nL Q (pc + 1) lv' st h cells slots) : Zw p l e R s m args below meth c G nL Q pc lv (v :: st) h cells slots := by
  subst hl'
  intro H locs ls hl hc hR hS
  rcases hv with rfl | ⟨a, rfl⟩
  · exact lv_astore_nN X.1.1 X.1.2.1 hd rfl hl hn (z_hfil hc) (fun ls hl => kk H locs ls hl (z_hcat hc rfl) hR hS)
  · exact lv_astore_n X.1.1 X.1.2.1 hd rfl hl hn (z_hfil hc) (fun ls hl => kk H locs ls hl (z_hcat hc rfl) hR hS)
theorem z_astore (X : ZX p m c cc nL s args own G) {i : Nat} {v : Value} {lv' : List (Nat × Value)} (hd : decode cc pc = .ok (.astore i, 2)) (hv : zref v) (hn : i < nL) (hl' : (i, v) :: lv.filter (fun q => !(q.1 == i)) = lv') (kk : Zw p l e R s m args below meth c G nL Q (pc + 2) lv' st h cells slots) : Zw p l e R s m args below meth c G nL Q pc lv (v :: st) h cells slots := by
  subst hl'
  intro H locs ls hl hc hR hS
  rcases hv with rfl | ⟨a, rfl⟩
  · exact lv_astoreN X.1.1 X.1.2.1 hd hl hn (z_hfil hc) (fun ls hl => kk H locs ls hl (z_hcat hc rfl) hR hS)
  · exact lv_astore X.1.1 X.1.2.1 hd hl hn (z_hfil hc) (fun ls hl => kk H locs ls hl (z_hcat hc rfl) hR hS)
theorem z_iinc (X : ZX p m c cc nL s args own G) {i : Nat} {n : Int} {x : Int32} {lv' : List (Nat × Value)} (v : Int32) (k : Nat) (hd : decode cc pc = .ok (.iinc i n, 3)) (hk : lv[k]? = some (i, .int x)) (hv : x + Int32.ofInt n = v) (hn : i < nL) (hl' : (i, Value.int v) :: lv.filter (fun q => !(q.1 == i)) = lv') (kk : Zw p l e R s m args below meth c G nL Q (pc + 3) lv' st h cells slots) : Zw p l e R s m args below meth c G nL Q pc lv st h cells slots := by
  subst hl'
  intro H locs ls hl hc hR hS
  exact lv_iinc X.1.1 X.1.2.1 hd hl hk hv hn (z_hfil hc) (fun ls hl => kk H locs ls hl (z_hcat hc rfl) hR hS)
theorem z_iadd (X : ZX p m c cc nL s args own G) {x y : Int32} (v : Int32) (hd : decode cc pc = .ok (.iadd, 1)) (hv : x + y = v) (kk : Zw p l e R s m args below meth c G nL Q (pc + 1) lv (.int v :: st) h cells slots) : Zw p l e R s m args below meth c G nL Q pc lv (.int y :: .int x :: st) h cells slots := by
  subst hv
  exact fun H locs ls hl hc hR hS => lv_iadd X.1.1 X.1.2.1 hd (kk H locs ls hl hc hR hS)
theorem z_isub (X : ZX p m c cc nL s args own G) {x y : Int32} (v : Int32) (hd : decode cc pc = .ok (.isub, 1)) (hv : x - y = v) (kk : Zw p l e R s m args below meth c G nL Q (pc + 1) lv (.int v :: st) h cells slots) : Zw p l e R s m args below meth c G nL Q pc lv (.int y :: .int x :: st) h cells slots := by
  subst hv
  exact fun H locs ls hl hc hR hS => lv_isub X.1.1 X.1.2.1 hd (kk H locs ls hl hc hR hS)
theorem z_imul (X : ZX p m c cc nL s args own G) {x y : Int32} (v : Int32) (hd : decode cc pc = .ok (.imul, 1)) (hv : x * y = v) (kk : Zw p l e R s m args below meth c G nL Q (pc + 1) lv (.int v :: st) h cells slots) : Zw p l e R s m args below meth c G nL Q pc lv (.int y :: .int x :: st) h cells slots := by
  subst hv
  exact fun H locs ls hl hc hR hS => lv_imul X.1.1 X.1.2.1 hd (kk H locs ls hl hc hR hS)
theorem z_iand (X : ZX p m c cc nL s args own G) {x y : Int32} (v : Int32) (hd : decode cc pc = .ok (.iand, 1)) (hv : x &&& y = v) (kk : Zw p l e R s m args below meth c G nL Q (pc + 1) lv (.int v :: st) h cells slots) : Zw p l e R s m args below meth c G nL Q pc lv (.int y :: .int x :: st) h cells slots := by
  subst hv
  exact fun H locs ls hl hc hR hS => lv_iand X.1.1 X.1.2.1 hd (kk H locs ls hl hc hR hS)
theorem z_ior (X : ZX p m c cc nL s args own G) {x y : Int32} (v : Int32) (hd : decode cc pc = .ok (.ior, 1)) (hv : x ||| y = v) (kk : Zw p l e R s m args below meth c G nL Q (pc + 1) lv (.int v :: st) h cells slots) : Zw p l e R s m args below meth c G nL Q pc lv (.int y :: .int x :: st) h cells slots := by
  subst hv
  exact fun H locs ls hl hc hR hS => lv_ior X.1.1 X.1.2.1 hd (kk H locs ls hl hc hR hS)
theorem z_ixor (X : ZX p m c cc nL s args own G) {x y : Int32} (v : Int32) (hd : decode cc pc = .ok (.ixor, 1)) (hv : x ^^^ y = v) (kk : Zw p l e R s m args below meth c G nL Q (pc + 1) lv (.int v :: st) h cells slots) : Zw p l e R s m args below meth c G nL Q pc lv (.int y :: .int x :: st) h cells slots := by
  subst hv
  exact fun H locs ls hl hc hR hS => lv_ixor X.1.1 X.1.2.1 hd (kk H locs ls hl hc hR hS)
theorem z_dup (X : ZX p m c cc nL s args own G) {v : Value} (hd : decode cc pc = .ok (.dup, 1)) (hv : v.category = 1) (kk : Zw p l e R s m args below meth c G nL Q (pc + 1) lv (v :: v :: st) h cells slots) : Zw p l e R s m args below meth c G nL Q pc lv (v :: st) h cells slots := fun H locs ls hl hc hR hS => lv_dup X.1.1 X.1.2.1 hd hv (kk H locs ls hl hc hR hS)
theorem z_pop (X : ZX p m c cc nL s args own G) {v : Value} (hd : decode cc pc = .ok (.pop, 1)) (hv : v.category = 1) (kk : Zw p l e R s m args below meth c G nL Q (pc + 1) lv st h cells slots) : Zw p l e R s m args below meth c G nL Q pc lv (v :: st) h cells slots := fun H locs ls hl hc hR hS => lv_pop X.1.1 X.1.2.1 hd hv (kk H locs ls hl hc hR hS)
theorem z_dup_x1 (X : ZX p m c cc nL s args own G) {v w : Value} (hd : decode cc pc = .ok (.dup_x1, 1)) (hv : v.category = 1) (hw : w.category = 1) (kk : Zw p l e R s m args below meth c G nL Q (pc + 1) lv (v :: w :: v :: st) h cells slots) : Zw p l e R s m args below meth c G nL Q pc lv (v :: w :: st) h cells slots := fun H locs ls hl hc hR hS => lv_dup_x1 X.1.1 X.1.2.1 hd hv hw (kk H locs ls hl hc hR hS)
theorem z_dup2 (X : ZX p m c cc nL s args own G) {v w : Value} (hd : decode cc pc = .ok (.dup2, 1)) (hv : v.category = 1) (hw : w.category = 1) (kk : Zw p l e R s m args below meth c G nL Q (pc + 1) lv (v :: w :: v :: w :: st) h cells slots) : Zw p l e R s m args below meth c G nL Q pc lv (v :: w :: st) h cells slots := fun H locs ls hl hc hR hS => lv_dup2_11 X.1.1 X.1.2.1 hd hv hw (kk H locs ls hl hc hR hS)
theorem z_goto (X : ZX p m c cc nL s args own G) {off : Int} (tgt : Nat) (hd : decode cc pc = .ok (.goto off, 3)) (ht : (pc : Int) + off = (tgt : Int)) (kk : Zw p l e R s m args below meth c G nL Q tgt lv st h cells slots) : Zw p l e R s m args below meth c G nL Q pc lv st h cells slots := fun H locs ls hl hc hR hS => lv_goto X.1.1 X.1.2.1 hd ht (kk H locs ls hl hc hR hS)
theorem z_if_eq (X : ZX p m c cc nL s args own G) {x : Int32} {off : Int} (tgt : Nat) (hd : decode cc pc = .ok (.ifCond .eq off, 3)) (ht : (pc : Int) + off = (tgt : Int)) (kt : x = 0 → Zw p l e R s m args below meth c G nL Q tgt lv st h cells slots) (kf : ¬ x = 0 → Zw p l e R s m args below meth c G nL Q (pc + 3) lv st h cells slots) : Zw p l e R s m args below meth c G nL Q pc lv (.int x :: st) h cells slots := fun H locs ls hl hc hR hS => lv_if_eq X.1.1 X.1.2.1 hd ht (fun z => kt z H locs ls hl hc hR hS) (fun z => kf z H locs ls hl hc hR hS)
theorem z_if_ne (X : ZX p m c cc nL s args own G) {x : Int32} {off : Int} (tgt : Nat) (hd : decode cc pc = .ok (.ifCond .ne off, 3)) (ht : (pc : Int) + off = (tgt : Int)) (kt : ¬ x = 0 → Zw p l e R s m args below meth c G nL Q tgt lv st h cells slots) (kf : x = 0 → Zw p l e R s m args below meth c G nL Q (pc + 3) lv st h cells slots) : Zw p l e R s m args below meth c G nL Q pc lv (.int x :: st) h cells slots := fun H locs ls hl hc hR hS => lv_if_ne X.1.1 X.1.2.1 hd ht (fun z => kt z H locs ls hl hc hR hS) (fun z => kf z H locs ls hl hc hR hS)
theorem z_if_lt (X : ZX p m c cc nL s args own G) {x : Int32} {off : Int} (tgt : Nat) (hd : decode cc pc = .ok (.ifCond .lt off, 3)) (ht : (pc : Int) + off = (tgt : Int)) (kt : x < 0 → Zw p l e R s m args below meth c G nL Q tgt lv st h cells slots) (kf : ¬ x < 0 → Zw p l e R s m args below meth c G nL Q (pc + 3) lv st h cells slots) : Zw p l e R s m args below meth c G nL Q pc lv (.int x :: st) h cells slots := fun H locs ls hl hc hR hS => lv_if_lt X.1.1 X.1.2.1 hd ht (fun z => kt z H locs ls hl hc hR hS) (fun z => kf z H locs ls hl hc hR hS)
theorem z_if_ge (X : ZX p m c cc nL s args own G) {x : Int32} {off : Int} (tgt : Nat) (hd : decode cc pc = .ok (.ifCond .ge off, 3)) (ht : (pc : Int) + off = (tgt : Int)) (kt : 0 ≤ x → Zw p l e R s m args below meth c G nL Q tgt lv st h cells slots) (kf : ¬ 0 ≤ x → Zw p l e R s m args below meth c G nL Q (pc + 3) lv st h cells slots) : Zw p l e R s m args below meth c G nL Q pc lv (.int x :: st) h cells slots := fun H locs ls hl hc hR hS => lv_if_ge X.1.1 X.1.2.1 hd ht (fun z => kt z H locs ls hl hc hR hS) (fun z => kf z H locs ls hl hc hR hS)
theorem z_if_gt (X : ZX p m c cc nL s args own G) {x : Int32} {off : Int} (tgt : Nat) (hd : decode cc pc = .ok (.ifCond .gt off, 3)) (ht : (pc : Int) + off = (tgt : Int)) (kt : 0 < x → Zw p l e R s m args below meth c G nL Q tgt lv st h cells slots) (kf : ¬ 0 < x → Zw p l e R s m args below meth c G nL Q (pc + 3) lv st h cells slots) : Zw p l e R s m args below meth c G nL Q pc lv (.int x :: st) h cells slots := fun H locs ls hl hc hR hS => lv_if_gt X.1.1 X.1.2.1 hd ht (fun z => kt z H locs ls hl hc hR hS) (fun z => kf z H locs ls hl hc hR hS)
theorem z_if_le (X : ZX p m c cc nL s args own G) {x : Int32} {off : Int} (tgt : Nat) (hd : decode cc pc = .ok (.ifCond .le off, 3)) (ht : (pc : Int) + off = (tgt : Int)) (kt : x ≤ 0 → Zw p l e R s m args below meth c G nL Q tgt lv st h cells slots) (kf : ¬ x ≤ 0 → Zw p l e R s m args below meth c G nL Q (pc + 3) lv st h cells slots) : Zw p l e R s m args below meth c G nL Q pc lv (.int x :: st) h cells slots := fun H locs ls hl hc hR hS => lv_if_le X.1.1 X.1.2.1 hd ht (fun z => kt z H locs ls hl hc hR hS) (fun z => kf z H locs ls hl hc hR hS)
theorem z_icmp_eq (X : ZX p m c cc nL s args own G) {x y : Int32} {off : Int} (tgt : Nat) (hd : decode cc pc = .ok (.if_icmp .eq off, 3)) (ht : (pc : Int) + off = (tgt : Int)) (kt : x = y → Zw p l e R s m args below meth c G nL Q tgt lv st h cells slots) (kf : ¬ x = y → Zw p l e R s m args below meth c G nL Q (pc + 3) lv st h cells slots) : Zw p l e R s m args below meth c G nL Q pc lv (.int y :: .int x :: st) h cells slots := fun H locs ls hl hc hR hS => lv_icmp_eq X.1.1 X.1.2.1 hd ht (fun z => kt z H locs ls hl hc hR hS) (fun z => kf z H locs ls hl hc hR hS)
theorem z_icmp_ne (X : ZX p m c cc nL s args own G) {x y : Int32} {off : Int} (tgt : Nat) (hd : decode cc pc = .ok (.if_icmp .ne off, 3)) (ht : (pc : Int) + off = (tgt : Int)) (kt : ¬ x = y → Zw p l e R s m args below meth c G nL Q tgt lv st h cells slots) (kf : x = y → Zw p l e R s m args below meth c G nL Q (pc + 3) lv st h cells slots) : Zw p l e R s m args below meth c G nL Q pc lv (.int y :: .int x :: st) h cells slots := fun H locs ls hl hc hR hS => lv_icmp_ne X.1.1 X.1.2.1 hd ht (fun z => kt z H locs ls hl hc hR hS) (fun z => kf z H locs ls hl hc hR hS)
theorem z_icmp_lt (X : ZX p m c cc nL s args own G) {x y : Int32} {off : Int} (tgt : Nat) (hd : decode cc pc = .ok (.if_icmp .lt off, 3)) (ht : (pc : Int) + off = (tgt : Int)) (kt : x < y → Zw p l e R s m args below meth c G nL Q tgt lv st h cells slots) (kf : ¬ x < y → Zw p l e R s m args below meth c G nL Q (pc + 3) lv st h cells slots) : Zw p l e R s m args below meth c G nL Q pc lv (.int y :: .int x :: st) h cells slots := fun H locs ls hl hc hR hS => lv_icmp_lt X.1.1 X.1.2.1 hd ht (fun z => kt z H locs ls hl hc hR hS) (fun z => kf z H locs ls hl hc hR hS)
theorem z_icmp_ge (X : ZX p m c cc nL s args own G) {x y : Int32} {off : Int} (tgt : Nat) (hd : decode cc pc = .ok (.if_icmp .ge off, 3)) (ht : (pc : Int) + off = (tgt : Int)) (kt : y ≤ x → Zw p l e R s m args below meth c G nL Q tgt lv st h cells slots) (kf : ¬ y ≤ x → Zw p l e R s m args below meth c G nL Q (pc + 3) lv st h cells slots) : Zw p l e R s m args below meth c G nL Q pc lv (.int y :: .int x :: st) h cells slots := fun H locs ls hl hc hR hS => lv_icmp_ge X.1.1 X.1.2.1 hd ht (fun z => kt z H locs ls hl hc hR hS) (fun z => kf z H locs ls hl hc hR hS)
theorem z_icmp_gt (X : ZX p m c cc nL s args own G) {x y : Int32} {off : Int} (tgt : Nat) (hd : decode cc pc = .ok (.if_icmp .gt off, 3)) (ht : (pc : Int) + off = (tgt : Int)) (kt : y < x → Zw p l e R s m args below meth c G nL Q tgt lv st h cells slots) (kf : ¬ y < x → Zw p l e R s m args below meth c G nL Q (pc + 3) lv st h cells slots) : Zw p l e R s m args below meth c G nL Q pc lv (.int y :: .int x :: st) h cells slots := fun H locs ls hl hc hR hS => lv_icmp_gt X.1.1 X.1.2.1 hd ht (fun z => kt z H locs ls hl hc hR hS) (fun z => kf z H locs ls hl hc hR hS)
theorem z_icmp_le (X : ZX p m c cc nL s args own G) {x y : Int32} {off : Int} (tgt : Nat) (hd : decode cc pc = .ok (.if_icmp .le off, 3)) (ht : (pc : Int) + off = (tgt : Int)) (kt : x ≤ y → Zw p l e R s m args below meth c G nL Q tgt lv st h cells slots) (kf : ¬ x ≤ y → Zw p l e R s m args below meth c G nL Q (pc + 3) lv st h cells slots) : Zw p l e R s m args below meth c G nL Q pc lv (.int y :: .int x :: st) h cells slots := fun H locs ls hl hc hR hS => lv_icmp_le X.1.1 X.1.2.1 hd ht (fun z => kt z H locs ls hl hc hR hS) (fun z => kf z H locs ls hl hc hR hS)
theorem z_icmp_eqN (X : ZX p m c cc nL s args own G) {off : Int} (a b tgt : Nat) {x y : Int32} (hd : decode cc pc = .ok (.if_icmp .eq off, 3)) (ht : (pc : Int) + off = (tgt : Int)) (hx : x = nI a) (hy : y = nI b) (ha : a < 2 ^ 31) (hb : b < 2 ^ 31) (kt : a = b → Zw p l e R s m args below meth c G nL Q tgt lv st h cells slots) (kf : ¬ a = b → Zw p l e R s m args below meth c G nL Q (pc + 3) lv st h cells slots) : Zw p l e R s m args below meth c G nL Q pc lv (.int y :: .int x :: st) h cells slots := by
  subst hx; subst hy
  exact z_icmp_eq X tgt hd ht (fun z => kt ((nI_eq ha hb).mp z)) (fun z => kf (fun z2 => z ((nI_eq ha hb).mpr z2)))
theorem z_icmp_neN (X : ZX p m c cc nL s args own G) {off : Int} (a b tgt : Nat) {x y : Int32} (hd : decode cc pc = .ok (.if_icmp .ne off, 3)) (ht : (pc : Int) + off = (tgt : Int)) (hx : x = nI a) (hy : y = nI b) (ha : a < 2 ^ 31) (hb : b < 2 ^ 31) (kt : ¬ a = b → Zw p l e R s m args below meth c G nL Q tgt lv st h cells slots) (kf : a = b → Zw p l e R s m args below meth c G nL Q (pc + 3) lv st h cells slots) : Zw p l e R s m args below meth c G nL Q pc lv (.int y :: .int x :: st) h cells slots := by
  subst hx; subst hy
  exact z_icmp_ne X tgt hd ht (fun z => kt (fun z2 => z ((nI_eq ha hb).mpr z2))) (fun z => kf ((nI_eq ha hb).mp z))
theorem z_icmp_ltN (X : ZX p m c cc nL s args own G) {off : Int} (a b tgt : Nat) {x y : Int32} (hd : decode cc pc = .ok (.if_icmp .lt off, 3)) (ht : (pc : Int) + off = (tgt : Int)) (hx : x = nI a) (hy : y = nI b) (ha : a < 2 ^ 31) (hb : b < 2 ^ 31) (kt : a < b → Zw p l e R s m args below meth c G nL Q tgt lv st h cells slots) (kf : b ≤ a → Zw p l e R s m args below meth c G nL Q (pc + 3) lv st h cells slots) : Zw p l e R s m args below meth c G nL Q pc lv (.int y :: .int x :: st) h cells slots := by
  subst hx; subst hy
  exact z_icmp_lt X tgt hd ht (fun z => kt ((nI_ltI ha hb).mp z)) (fun z => kf (Nat.not_lt.mp fun z2 => z ((nI_ltI ha hb).mpr z2)))
theorem z_icmp_geN (X : ZX p m c cc nL s args own G) {off : Int} (a b tgt : Nat) {x y : Int32} (hd : decode cc pc = .ok (.if_icmp .ge off, 3)) (ht : (pc : Int) + off = (tgt : Int)) (hx : x = nI a) (hy : y = nI b) (ha : a < 2 ^ 31) (hb : b < 2 ^ 31) (kt : b ≤ a → Zw p l e R s m args below meth c G nL Q tgt lv st h cells slots) (kf : a < b → Zw p l e R s m args below meth c G nL Q (pc + 3) lv st h cells slots) : Zw p l e R s m args below meth c G nL Q pc lv (.int y :: .int x :: st) h cells slots := by
  subst hx; subst hy
  exact z_icmp_ge X tgt hd ht (fun z => kt ((nI_leI hb ha).mp z)) (fun z => kf (Nat.not_le.mp fun z2 => z ((nI_leI hb ha).mpr z2)))
theorem z_icmp_gtN (X : ZX p m c cc nL s args own G) {off : Int} (a b tgt : Nat) {x y : Int32} (hd : decode cc pc = .ok (.if_icmp .gt off, 3)) (ht : (pc : Int) + off = (tgt : Int)) (hx : x = nI a) (hy : y = nI b) (ha : a < 2 ^ 31) (hb : b < 2 ^ 31) (kt : b < a → Zw p l e R s m args below meth c G nL Q tgt lv st h cells slots) (kf : a ≤ b → Zw p l e R s m args below meth c G nL Q (pc + 3) lv st h cells slots) : Zw p l e R s m args below meth c G nL Q pc lv (.int y :: .int x :: st) h cells slots := by
  subst hx; subst hy
  exact z_icmp_gt X tgt hd ht (fun z => kt ((nI_ltI hb ha).mp z)) (fun z => kf (Nat.not_lt.mp fun z2 => z ((nI_ltI hb ha).mpr z2)))
theorem z_icmp_leN (X : ZX p m c cc nL s args own G) {off : Int} (a b tgt : Nat) {x y : Int32} (hd : decode cc pc = .ok (.if_icmp .le off, 3)) (ht : (pc : Int) + off = (tgt : Int)) (hx : x = nI a) (hy : y = nI b) (ha : a < 2 ^ 31) (hb : b < 2 ^ 31) (kt : a ≤ b → Zw p l e R s m args below meth c G nL Q tgt lv st h cells slots) (kf : b < a → Zw p l e R s m args below meth c G nL Q (pc + 3) lv st h cells slots) : Zw p l e R s m args below meth c G nL Q pc lv (.int y :: .int x :: st) h cells slots := by
  subst hx; subst hy
  exact z_icmp_le X tgt hd ht (fun z => kt ((nI_leI ha hb).mp z)) (fun z => kf (Nat.not_le.mp fun z2 => z ((nI_leI ha hb).mpr z2)))
theorem z_ifnull (X : ZX p m c cc nL s args own G) {v : Value} {off : Int} (tgt : Nat) (hd : decode cc pc = .ok (.ifnull off, 3)) (ht : (pc : Int) + off = (tgt : Int)) (hv : zref v) (kt : v = .null → Zw p l e R s m args below meth c G nL Q tgt lv st h cells slots) (kf : ∀ a : Nat, v = .ref a → Zw p l e R s m args below meth c G nL Q (pc + 3) lv st h cells slots) : Zw p l e R s m args below meth c G nL Q pc lv (v :: st) h cells slots := by
  intro H locs ls hl hc hR hS
  rcases hv with rfl | ⟨a, rfl⟩
  · exact lv_ifnullN X.1.1 X.1.2.1 hd ht (kt rfl H locs ls hl hc hR hS)
  · exact lv_ifnull X.1.1 X.1.2.1 hd (kf a rfl H locs ls hl hc hR hS)
theorem z_ifnonnull (X : ZX p m c cc nL s args own G) {v : Value} {off : Int} (tgt : Nat) (hd : decode cc pc = .ok (.ifnonnull off, 3)) (ht : (pc : Int) + off = (tgt : Int)) (hv : zref v) (kt : ∀ a : Nat, v = .ref a → Zw p l e R s m args below meth c G nL Q tgt lv st h cells slots) (kf : v = .null → Zw p l e R s m args below meth c G nL Q (pc + 3) lv st h cells slots) : Zw p l e R s m args below meth c G nL Q pc lv (v :: st) h cells slots := by
  intro H locs ls hl hc hR hS
  rcases hv with rfl | ⟨a, rfl⟩
  · exact lv_ifnonnullN X.1.1 X.1.2.1 hd (kf rfl H locs ls hl hc hR hS)
  · exact lv_ifnonnull X.1.1 X.1.2.1 hd ht (kt a rfl H locs ls hl hc hR hS)
theorem z_acmp_eq (X : ZX p m c cc nL s args own G) {v w : Value} {off : Int} (tgt : Nat) (hd : decode cc pc = .ok (.if_acmp .eq off, 3)) (ht : (pc : Int) + off = (tgt : Int)) (hv : zref v) (hw : zref w) (kt : v = w → Zw p l e R s m args below meth c G nL Q tgt lv st h cells slots) (kf : ¬ v = w → Zw p l e R s m args below meth c G nL Q (pc + 3) lv st h cells slots) : Zw p l e R s m args below meth c G nL Q pc lv (w :: v :: st) h cells slots := by
  intro H locs ls hl hc hR hS
  obtain ⟨rx, rfl⟩ := hv.ex
  obtain ⟨ry, rfl⟩ := hw.ex
  exact lv_acmp_eq X.1.1 X.1.2.1 hd ht (fun z => kt (by rw [z]) H locs ls hl hc hR hS) (fun z => kf (fun z2 => z (va_rf_inj z2)) H locs ls hl hc hR hS)
theorem z_acmp_ne (X : ZX p m c cc nL s args own G) {v w : Value} {off : Int} (tgt : Nat) (hd : decode cc pc = .ok (.if_acmp .ne off, 3)) (ht : (pc : Int) + off = (tgt : Int)) (hv : zref v) (hw : zref w) (kt : ¬ v = w → Zw p l e R s m args below meth c G nL Q tgt lv st h cells slots) (kf : v = w → Zw p l e R s m args below meth c G nL Q (pc + 3) lv st h cells slots) : Zw p l e R s m args below meth c G nL Q pc lv (w :: v :: st) h cells slots := by
  intro H locs ls hl hc hR hS
  obtain ⟨rx, rfl⟩ := hv.ex
  obtain ⟨ry, rfl⟩ := hw.ex
  exact lv_acmp_ne X.1.1 X.1.2.1 hd ht (fun z => kt (fun z2 => z (va_rf_inj z2)) H locs ls hl hc hR hS) (fun z => kf (by rw [z]) H locs ls hl hc hR hS)
theorem z_tableOut (X : ZX p m c cc nL s args own G) {dflt lo hi : Int} {offs : Array Int} {len : Nat} {x : Int32} (tgt : Nat) (hd : decode cc pc = .ok (.tableswitch dflt lo hi offs, len)) (hx : x.toInt < lo ∨ hi < x.toInt) (ht : (pc : Int) + dflt = (tgt : Int)) (kk : Zw p l e R s m args below meth c G nL Q tgt lv st h cells slots) : Zw p l e R s m args below meth c G nL Q pc lv (.int x :: st) h cells slots := fun H locs ls hl hc hR hS => lv_tableOut X.1.1 X.1.2.1 hd hx ht (kk H locs ls hl hc hR hS)
theorem z_tableIn (X : ZX p m c cc nL s args own G) {dflt lo hi : Int} {offs : Array Int} {len : Nat} {x : Int32} {off : Int} (tgt : Nat) (hd : decode cc pc = .ok (.tableswitch dflt lo hi offs, len)) (h1 : ¬ x.toInt < lo) (h2 : ¬ hi < x.toInt) (ho : offs[(x.toInt - lo).toNat]? = some off) (ht : (pc : Int) + off = (tgt : Int)) (kk : Zw p l e R s m args below meth c G nL Q tgt lv st h cells slots) : Zw p l e R s m args below meth c G nL Q pc lv (.int x :: st) h cells slots := fun H locs ls hl hc hR hS => lv_tableIn X.1.1 X.1.2.1 hd h1 h2 ho ht (kk H locs ls hl hc hR hS)
theorem z_lookup (X : ZX p m c cc nL s args own G) {dflt : Int} {ps : Array (Int × Int)} {len : Nat} {x : Int32} {off : Int} (tgt : Nat) (hd : decode cc pc = .ok (.lookupswitch dflt ps, len)) (hp : (ps.toList.zip (ps.toList.drop 1)).all (fun (a, next) => a.1 < next.1) = true) (ho : Op.lookupswitch.offset ps.toList dflt x.toInt = off) (ht : (pc : Int) + off = (tgt : Int)) (kk : Zw p l e R s m args below meth c G nL Q tgt lv st h cells slots) : Zw p l e R s m args below meth c G nL Q pc lv (.int x :: st) h cells slots := fun H locs ls hl hc hR hS => lv_lookup X.1.1 X.1.2.1 hd hp ho ht (kk H locs ls hl hc hR hS)
theorem z_lcmp (X : ZX p m c cc nL s args own G) {x y : Int64} (hd : decode cc pc = .ok (.lcmp, 1)) (kk : Zw p l e R s m args below meth c G nL Q (pc + 1) lv (.int (lg_cmp x y) :: st) h cells slots) : Zw p l e R s m args below meth c G nL Q pc lv (.long y :: .long x :: st) h cells slots := fun H locs ls hl hc hR hS => W.lcmp X.1.1 X.1.2.1 hd (kk H locs ls hl hc hR hS)
theorem z_land (X : ZX p m c cc nL s args own G) {x y : Int64} (hd : decode cc pc = .ok (.land, 1)) (kk : Zw p l e R s m args below meth c G nL Q (pc + 1) lv (.long (x &&& y) :: st) h cells slots) : Zw p l e R s m args below meth c G nL Q pc lv (.long y :: .long x :: st) h cells slots := fun H locs ls hl hc hR hS => lv_land X.1.1 X.1.2.1 hd (kk H locs ls hl hc hR hS)
theorem z_lor (X : ZX p m c cc nL s args own G) {x y : Int64} (hd : decode cc pc = .ok (.lor, 1)) (kk : Zw p l e R s m args below meth c G nL Q (pc + 1) lv (.long (x ||| y) :: st) h cells slots) : Zw p l e R s m args below meth c G nL Q pc lv (.long y :: .long x :: st) h cells slots := fun H locs ls hl hc hR hS => lv_lor X.1.1 X.1.2.1 hd (kk H locs ls hl hc hR hS)
theorem z_ladd (X : ZX p m c cc nL s args own G) {x y : Int64} (hd : decode cc pc = .ok (.ladd, 1)) (kk : Zw p l e R s m args below meth c G nL Q (pc + 1) lv (.long (x + y) :: st) h cells slots) : Zw p l e R s m args below meth c G nL Q pc lv (.long y :: .long x :: st) h cells slots := fun H locs ls hl hc hR hS => lv_ladd X.1.1 X.1.2.1 hd (kk H locs ls hl hc hR hS)
theorem z_lshl (X : ZX p m c cc nL s args own G) {x v : Int64} {y : Int32} (hd : decode cc pc = .ok (.lshl, 1)) (hv : x <<< (y.toInt64 &&& 63) = v) (kk : Zw p l e R s m args below meth c G nL Q (pc + 1) lv (.long v :: st) h cells slots) : Zw p l e R s m args below meth c G nL Q pc lv (.int y :: .long x :: st) h cells slots := fun H locs ls hl hc hR hS => lv_lshl X.1.1 X.1.2.1 hd hv (kk H locs ls hl hc hR hS)
theorem z_ishl (X : ZX p m c cc nL s args own G) {x y : Int32} (v : Int32) (hd : decode cc pc = .ok (.ishl, 1)) (hv : x <<< (y &&& 31) = v) (kk : Zw p l e R s m args below meth c G nL Q (pc + 1) lv (.int v :: st) h cells slots) : Zw p l e R s m args below meth c G nL Q pc lv (.int y :: .int x :: st) h cells slots := by
  subst hv
  exact fun H locs ls hl hc hR hS => lv_ishl X.1.1 X.1.2.1 hd (kk H locs ls hl hc hR hS)
theorem z_ishr (X : ZX p m c cc nL s args own G) {x y : Int32} (v : Int32) (hd : decode cc pc = .ok (.ishr, 1)) (hv : x >>> (y &&& 31) = v) (kk : Zw p l e R s m args below meth c G nL Q (pc + 1) lv (.int v :: st) h cells slots) : Zw p l e R s m args below meth c G nL Q pc lv (.int y :: .int x :: st) h cells slots := by
  subst hv
  exact fun H locs ls hl hc hR hS => lv_ishr X.1.1 X.1.2.1 hd (kk H locs ls hl hc hR hS)
theorem z_iushr (X : ZX p m c cc nL s args own G) {x y v : Int32} (hd : decode cc pc = .ok (.iushr, 1)) (hv : (x.toUInt32 >>> (y.toUInt32 &&& Int32.toUInt32 31)).toInt32 = v) (kk : Zw p l e R s m args below meth c G nL Q (pc + 1) lv (.int v :: st) h cells slots) : Zw p l e R s m args below meth c G nL Q pc lv (.int y :: .int x :: st) h cells slots := fun H locs ls hl hc hR hS => lv_iushr X.1.1 X.1.2.1 hd hv (kk H locs ls hl hc hR hS)
theorem z_idiv (X : ZX p m c cc nL s args own G) {x y : Int32} (v : Int32) (hd : decode cc pc = .ok (.idiv, 1)) (hn : ¬ y = 0) (hv : x / y = v) (kk : Zw p l e R s m args below meth c G nL Q (pc + 1) lv (.int v :: st) h cells slots) : Zw p l e R s m args below meth c G nL Q pc lv (.int y :: .int x :: st) h cells slots := by
  subst hv
  exact fun H locs ls hl hc hR hS => lv_idiv X.1.1 X.1.2.1 hd hn (kk H locs ls hl hc hR hS)

end ZR
