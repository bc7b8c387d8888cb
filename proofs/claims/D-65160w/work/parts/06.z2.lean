set_option maxRecDepth 100000
/-- a class of the list with its words -/
def zCP (ci : Nat) (C : String) (T : u_T) (N : Nat) (ty : Nat → FieldType) : Prop := zcl[ci]? = some (C, T, N) ∧ (∀ w ∈ u_ws C T N, w ∈ lw_all) ∧ (∀ k, k < N → parseFieldDescriptor (T k).2.2.1 = some (ty k)) ∧ (∀ a, a < N → ∀ b, b < N → a ≠ b → (T a).2.1 ≠ (T b).2.1)
theorem zP0 : zCP 0 RX0 TX0 9 tyX0 := ⟨rfl, in_X0, tyX0_ok, nmX0⟩
theorem zP1 : zCP 1 RX2 TX2 10 tyX2 := ⟨rfl, in_X2, tyX2_ok, nmX2⟩
theorem zP2 : zCP 2 RX3 TX3 6 tyX3 := ⟨rfl, in_X3, tyX3_ok, nmX3⟩
theorem zP3 : zCP 3 RX4 TX4 5 tyX4 := ⟨rfl, in_X4, tyX4_ok, nmX4⟩
theorem zP4 : zCP 4 RX5 TX5 14 tyX5 := ⟨rfl, in_X5, tyX5_ok, nmX5⟩
theorem zP5 : zCP 5 RX6 TX6 7 tyX6 := ⟨rfl, in_X6, tyX6_ok, nmX6⟩
theorem zP6 : zCP 6 RX7 TX7 39 tyX7 := ⟨rfl, in_X7, tyX7_ok, nmX7⟩
theorem zP7 : zCP 7 RX8 TX8 9 tyX8 := ⟨rfl, in_X8, tyX8_ok, nmX8⟩
theorem zP8 : zCP 8 RX9 TX9 4 tyX9 := ⟨rfl, in_X9, tyX9_ok, nmX9⟩
theorem zP9 : zCP 9 RJ3 TJ3 3 tyJ3 := ⟨rfl, in_J3, tyJ3_ok, nmJ3⟩
theorem zP10 : zCP 10 RJ7 TJ7 3 tyJ7 := ⟨rfl, in_J7, tyJ7_ok, nmJ7⟩
theorem zP11 : zCP 11 RJ9 TJ9 8 tyJ9 := ⟨rfl, in_J9, tyJ9_ok, nmJ9⟩
theorem zP12 : zCP 12 RJ16 TJ16 1 tyJ16 := ⟨rfl, in_J16, tyJ16_ok, nmJ16⟩
theorem zP13 : zCP 13 RJ17 TJ17 4 tyJ17 := ⟨rfl, in_J17, tyJ17_ok, nmJ17⟩
theorem zP14 : zCP 14 RJ20 TJ20 3 tyJ20 := ⟨rfl, in_J20, tyJ20_ok, nmJ20⟩
theorem zP15 : zCP 15 RJ21 TJ21 4 tyJ21 := ⟨rfl, in_J21, tyJ21_ok, nmJ21⟩
theorem zP16 : zCP 16 RJ23 TJ23 1 tyJ23 := ⟨rfl, in_J23, tyJ23_ok, nmJ23⟩
theorem zP17 : zCP 17 RJ25 TJ25 5 tyJ25 := ⟨rfl, in_J25, tyJ25_ok, nmJ25⟩
theorem zP18 : zCP 18 RJ26 TJ26 1 tyJ26 := ⟨rfl, in_J26, tyJ26_ok, nmJ26⟩
theorem zP19 : zCP 19 RJ28 TJ28 5 tyJ28 := ⟨rfl, in_J28, tyJ28_ok, nmJ28⟩
def zfits (ty : FieldType) (v : Value) : Prop := narrow ty v = v ∧ fits ty v = true
theorem zfits.i (x : Int32) : zfits .int (.int x) := ⟨rfl, rfl⟩
theorem zfits.b0 : zfits .boolean (.int 0) := ⟨by decide, by decide⟩
theorem zfits.b1 : zfits .boolean (.int 1) := ⟨by decide, by decide⟩
theorem zfits.o {C : String} {v : Value} (h : zref v) : zfits (.object C) v := by
  rcases h with rfl | ⟨a, rfl⟩ <;> exact ⟨rfl, rfl⟩
theorem zfits.a {t : FieldType} {v : Value} (h : zref v) : zfits (.array t) v := by
  rcases h with rfl | ⟨a, rfl⟩ <;> exact ⟨rfl, rfl⟩
def zuf (f : Nat → Value) (j : Nat) (v : Value) : Nat → Value := fun k => if k = j then v else f k
theorem zuf_i (g : Nat → Int32) (j : Nat) (x : Int32) : ∀ k, (fun k => Value.int (upd g j x k)) k = if k = j then .int x else (fun k => Value.int (g k)) k := by
  intro k
  simp only [upd]
  split <;> rfl
theorem zuf_v (f : Nat → Value) (j : Nat) (x : Value) : ∀ k, zuf f j x k = if k = j then x else f k := fun _ => rfl

section ZR2
variable {p : Program} {l : Launch} {e : Env} {R : Room} {s : State} {m : MethodId} {args : Array Value} {below : List Frame} {meth : Method} {c : Code} {G : ZG} {nL : Nat} {Q : State → Prop} {cc : ByteArray} {own : String} {pc : Nat} {lv : List (Nat × Value)} {st : List Value} {h : ZH} {cells slots : Nat}
theorem zsame (X : ZX p m c cc nL s args own G) {ref O n d : String} (hs : ref = O ∨ Cond.sameField ref O n d ∈ lw_all) : ∀ x, s.fieldFound? O n d = some x → s.fieldFound? ref n d = some x := by
  intro x hx
  rcases hs with rfl | hm
  · exact hx
  · exact u_same (zXts X _ hm) x hx
theorem zslots (X : ZX p m c cc nL s args own G) {ci N : Nat} {C : String} {T : u_T} {ty : Nat → FieldType} (P : zCP ci C T N ty) : ∀ x y, x < N → y < N → x ≠ y → G.2.1 ci x ≠ G.2.1 ci y := by
  intro x y hx hy hne
  obtain ⟨hS, -⟩ := X.2.1.1 ci _ P.1
  obtain ⟨_, _, _, fa, hia, ea⟩ := hS x hx
  obtain ⟨_, _, _, fb, hib, eb⟩ := hS y hy
  show G.2.1 ci x ≠ G.2.1 ci y
  rw [← ea, ← eb]
  refine u_apart (u_lays (zXts X) P.2.1 hx) (u_lays (zXts X) P.2.1 hy) hia hib ?_
  rw [(State.fieldFound?_type hia (P.2.2.1 x hx)).1, (State.fieldFound?_type hib (P.2.2.1 y hy)).1]
  exact P.2.2.2 x hx y hy hne
theorem zcell {a t : Nat} {x : ZE} {H : Heap} (hR : Rp G h H) (ha : h a = (t, x)) (ht : t ≠ 0) : zat G a (t, x) H := by
  have hz := (hR.1 a (by rw [ha]; exact ht)).1
  rw [ha] at hz
  exact hz
theorem zfloor {a t : Nat} {x : ZE} {H : Heap} (hR : Rp G h H) (ha : h a = (t, x)) (ht : t ≠ 0) (h1 : t ≠ 1) : zB G ≤ a := (hR.1 a (by rw [ha]; exact ht)).2 (by rw [ha]; exact h1)
theorem z_get (X : ZX p m c cc nL s args own G) {ix ci N t a : Nat} {ref C : String} {T : u_T} {ty : Nat → FieldType} {fs : List Value} {v : Value} (P : zCP ci C T N ty) (k : Nat) (hk : k < N) (hw : Cond.fieldLink own ix ref (T k).2.1 (T k).2.2.1 ∈ lw_all) (hs : ref = (T k).1 ∨ Cond.sameField ref (T k).1 (T k).2.1 (T k).2.2.1 ∈ lw_all) (ha : h a = (t, .inr (ci, fs))) (ht : t ≠ 0) (hv : fs[k]? = some v) (hd : decode cc pc = .ok (.getfield ix, 3)) (kk : Zw p l e R s m args below meth c G nL Q (pc + 3) lv (v :: st) h cells slots) : Zw p l e R s m args below meth c G nL Q pc lv (.ref a :: st) h cells slots := by
  intro H locs ls hl hc hR hS
  obtain ⟨cell, q1, q2, q3, q4, q5, r, q6, q7⟩ := zcell hR ha ht
  cases P.1.symm.trans q6
  obtain ⟨hSl, hfc, kC, hkC, hkind⟩ := X.2.1.1 ci _ P.1
  obtain ⟨cf, kf, fi, f, hi, hsl⟩ := hSl k hk
  refine W.getf X.1.1 X.1.2.1 (zXown X) (zXts X _ hw) (zsame X hs _ hi) (u_facts hfc hkC (u_lays (zXts X) P.2.1 hk) hi).1 q1 q3 (v := v) ?_ rfl rfl hd (kk H locs ls hl hc hR hS)
  rw [hsl, q7 k hk]
  simp [vp_V, hv]
theorem z_getN (X : ZX p m c cc nL s args own G) {ix ci N t a : Nat} {ref C host : String} {T : u_T} {ty : Nat → FieldType} {fs : List Value} {v : Value} (P : zCP ci C T N ty) (k : Nat) (hk : k < N) (hw : Cond.fieldLinkNest own ix ref (T k).2.1 (T k).2.2.1 host ∈ lw_tbl) (hs : ref = (T k).1 ∨ Cond.sameField ref (T k).1 (T k).2.1 (T k).2.2.1 ∈ lw_all) (ha : h a = (t, .inr (ci, fs))) (ht : t ≠ 0) (hv : fs[k]? = some v) (hd : decode cc pc = .ok (.getfield ix, 3)) (kk : Zw p l e R s m args below meth c G nL Q (pc + 3) lv (v :: st) h cells slots) : Zw p l e R s m args below meth c G nL Q pc lv (.ref a :: st) h cells slots := by
  intro H locs ls hl hc hR hS
  obtain ⟨cell, q1, q2, q3, q4, q5, r, q6, q7⟩ := zcell hR ha ht
  cases P.1.symm.trans q6
  obtain ⟨hSl, hfc, kC, hkC, hkind⟩ := X.2.1.1 ci _ P.1
  obtain ⟨cf, kf, fi, f, hi, hsl⟩ := hSl k hk
  refine va_Wgetf X.1.1 X.1.2.1 (zXown X) (va_Nw.use rfl (zXnw X hw rfl)) (zsame X hs _ hi) (u_facts hfc hkC (u_lays (zXts X) P.2.1 hk) hi).1 q1 q3 (v := v) ?_ rfl rfl hd (kk H locs ls hl hc hR hS)
  rw [hsl, q7 k hk]
  simp [vp_V, hv]
theorem z_put (X : ZX p m c cc nL s args own G) {ix ci N t a : Nat} {ref C : String} {T : u_T} {ty : Nat → FieldType} {fs fs' : List Value} {v : Value} (P : zCP ci C T N ty) (k : Nat) (hk : k < N) (hw : Cond.fieldLink own ix ref (T k).2.1 (T k).2.2.1 ∈ lw_all) (hs : ref = (T k).1 ∨ Cond.sameField ref (T k).1 (T k).2.1 (T k).2.2.1 ∈ lw_all) (hfin : (T k).2.2.2 = false) (ha : h a = (t, .inr (ci, fs))) (ht : t ≠ 0) (h1 : t ≠ 1) (hf : zfits (ty k) v) (hlen : k < fs.length) (hfs : fs.set k v = fs') (hd : decode cc pc = .ok (.putfield ix, 3)) (kk : Zw p l e R s m args below meth c G nL Q (pc + 3) lv st (zup h a (t, .inr (ci, fs'))) cells slots) : Zw p l e R s m args below meth c G nL Q pc lv (v :: .ref a :: st) h cells slots := by
  intro H locs ls hl hc hR hS
  obtain ⟨cell, q1, q2, q3, q4, q5, r, q6, q7⟩ := zcell hR ha ht
  have hfl := zfloor hR ha ht h1
  cases P.1.symm.trans q6
  obtain ⟨hSl, hfc, kC, hkC, hkind⟩ := X.2.1.1 ci _ P.1
  obtain ⟨cf, kf, fi, f, hi, hsl⟩ := hSl k hk
  have hlay := zXts X _ (P.2.1 _ (u_in_lay hk))
  unfold u_lay at hlay
  rw [if_neg (by rw [hfin]; decide)] at hlay
  have h6 := u_store hfc hkC hkind hlay hi (P.2.2.1 k hk) hf.1 hf.2
  refine W.putK X.1.1 X.1.2.1 (f := f) ⟨zXown X, zXts X _ hw, ⟨_, _, _, zsame X hs _ hi⟩, (u_facts hfc hkC (u_lays (zXts X) P.2.1 hk) hi).1⟩ (by rw [q5]; exact h6) q1 (q2 h1) (by rw [hsl]; exact k2_hasslot (q7 k hk)) rfl rfl hd fun H' e1 e2 e3 => ?_
  rw [hsl] at e1 ⊢
  subst hfs
  exact kk H' _ ls hl hc (hR.set (by rw [ha]; exact h1) ⟨_, e1, q2, q3, q4, q5, _, P.1, fun j hj => by rw [t_set q7 (zslots X P) hk v j hj, vp_updV_set hlen]⟩ hfl e3) (hS.put e2 e3 hfl)
theorem z_putN (X : ZX p m c cc nL s args own G) {ix ci N t a : Nat} {ref C host : String} {T : u_T} {ty : Nat → FieldType} {fs fs' : List Value} {v : Value} (P : zCP ci C T N ty) (k : Nat) (hk : k < N) (hw : Cond.fieldLinkNest own ix ref (T k).2.1 (T k).2.2.1 host ∈ lw_tbl) (hs : ref = (T k).1 ∨ Cond.sameField ref (T k).1 (T k).2.1 (T k).2.2.1 ∈ lw_all) (hfin : (T k).2.2.2 = false) (ha : h a = (t, .inr (ci, fs))) (ht : t ≠ 0) (h1 : t ≠ 1) (hf : zfits (ty k) v) (hlen : k < fs.length) (hfs : fs.set k v = fs') (hd : decode cc pc = .ok (.putfield ix, 3)) (kk : Zw p l e R s m args below meth c G nL Q (pc + 3) lv st (zup h a (t, .inr (ci, fs'))) cells slots) : Zw p l e R s m args below meth c G nL Q pc lv (v :: .ref a :: st) h cells slots := by
  intro H locs ls hl hc hR hS
  obtain ⟨cell, q1, q2, q3, q4, q5, r, q6, q7⟩ := zcell hR ha ht
  have hfl := zfloor hR ha ht h1
  cases P.1.symm.trans q6
  obtain ⟨hSl, hfc, kC, hkC, hkind⟩ := X.2.1.1 ci _ P.1
  obtain ⟨cf, kf, fi, f, hi, hsl⟩ := hSl k hk
  have hlay := zXts X _ (P.2.1 _ (u_in_lay hk))
  unfold u_lay at hlay
  rw [if_neg (by rw [hfin]; decide)] at hlay
  have h6 := u_store hfc hkC hkind hlay hi (P.2.2.1 k hk) hf.1 hf.2
  refine va_WputK X.1.1 X.1.2.1 (f := f) (zXown X) (va_Nw.use rfl (zXnw X hw rfl)) (zsame X hs _ hi) (u_facts hfc hkC (u_lays (zXts X) P.2.1 hk) hi).1 (by rw [q5]; exact h6) q1 (q2 h1) (by rw [hsl]; exact k2_hasslot (q7 k hk)) rfl rfl hd fun H' e1 e2 e3 => ?_
  rw [hsl] at e1 ⊢
  subst hfs
  exact kk H' _ ls hl hc (hR.set (by rw [ha]; exact h1) ⟨_, e1, q2, q3, q4, q5, _, P.1, fun j hj => by rw [t_set q7 (zslots X P) hk v j hj, vp_updV_set hlen]⟩ hfl e3) (hS.put e2 e3 hfl)
theorem z_putF (X : ZX p m c cc nL s args own G) {ix ci N t a : Nat} {ref C : String} {T : u_T} {ty : Nat → FieldType} {fs fs' : List Value} {v : Value} (P : zCP ci C T N ty) (k : Nat) (hk : k < N) (hw : Cond.fieldLink own ix ref (T k).2.1 (T k).2.2.1 ∈ lw_all) (hs : ref = (T k).1 ∨ Cond.sameField ref (T k).1 (T k).2.1 (T k).2.2.1 ∈ lw_all) (hfin : (T k).2.2.2 = true) (hin2 : meth.name = "<init>") (hdecl : (T k).1 = own) (ha : h a = (t, .inr (ci, fs))) (ht : t ≠ 0) (h1 : t ≠ 1) (hf : zfits (ty k) v) (hlen : k < fs.length) (hfs : fs.set k v = fs') (hd : decode cc pc = .ok (.putfield ix, 3)) (kk : Zw p l e R s m args below meth c G nL Q (pc + 3) lv st (zup h a (t, .inr (ci, fs'))) cells slots) : Zw p l e R s m args below meth c G nL Q pc lv (v :: .ref a :: st) h cells slots := by
  intro H locs ls hl hc hR hS
  obtain ⟨cell, q1, q2, q3, q4, q5, r, q6, q7⟩ := zcell hR ha ht
  have hfl := zfloor hR ha ht h1
  cases P.1.symm.trans q6
  obtain ⟨hSl, hfc, kC, hkC, hkind⟩ := X.2.1.1 ci _ P.1
  obtain ⟨cf, kf, fi, f, hi, hsl⟩ := hSl k hk
  have hlay := zXts X _ (P.2.1 _ (u_in_lay hk))
  unfold u_lay at hlay
  rw [if_pos hfin] at hlay
  have hcf : m.cls = cf := by
    obtain ⟨_, _, c', _, _, _, -, -, hf', -, -, -, hown2, -⟩ := Cond.laysFinal_spec hlay
    have e1 : c' = cf := by have := hi.symm.trans hf'; simp at this; exact this.1.symm
    rw [hdecl] at hown2
    rw [← e1]; exact Option.some.inj ((zXown X).symm.trans hown2)
  have h6 := u_fits hfc hkC hkind (Or.inr hlay) hi (P.2.2.1 k hk) hf.1 hf.2
  refine W.putFinK X.1.1 X.1.2.1 (zXown X) (zXts X _ hw) (zsame X hs _ hi) (u_facts hfc hkC (u_lays (zXts X) P.2.1 hk) hi).1 hcf hin2 (by rw [q5]; exact h6) q1 (q2 h1) (by rw [hsl]; exact k2_hasslot (q7 k hk)) rfl rfl hd fun H' e1 e2 e3 => ?_
  rw [hsl] at e1 ⊢
  subst hfs
  exact kk H' _ ls hl hc (hR.set (by rw [ha]; exact h1) ⟨_, e1, q2, q3, q4, q5, _, P.1, fun j hj => by rw [t_set q7 (zslots X P) hk v j hj, vp_updV_set hlen]⟩ hfl e3) (hS.put e2 e3 hfl)
theorem z_gets (X : ZX p m c cc nL s args own G) {ix : Nat} {C n d ref : String} {v : Value} (hq : (C, n, d, v) ∈ zst G) (hw : Cond.fieldLink own ix ref n d ∈ lw_all) (hs : ref = C ∨ Cond.sameField ref C n d ∈ lw_all) (hd : decode cc pc = .ok (.getstatic ix, 3)) (kk : Zw p l e R s m args below meth c G nL Q (pc + 3) lv (v :: st) h cells slots) : Zw p l e R s m args below meth c G nL Q pc lv st h cells slots := by
  intro H locs ls hl hc hR hS
  exact va_gets X.1.1 X.1.2.1 (X.2.1.2.2.2.2.2.1 _ hq) hS (zXown X) (zXts X _ hw) (zsame X hs) hd (kk H locs ls hl hc hR hS)
theorem zarr (X : ZX p m c cc nL s args own G) {k : Nat} {ty : FieldType} (hk : zar[k]? = some ty) {cell : Cell} (h1 : cell.cls = G.2.2.1 k) (h2 : ∀ q, cell.vm ≠ .statics q) : s.isArrayOf cell ty := by
  obtain ⟨kA, comp, e1, e2, -⟩ := X.2.1.2.1 k ty hk
  exact ⟨h2, kA, by rw [h1]; exact e1, comp, e2⟩
theorem zin {n : Nat} {cell : Cell} (q6 : cell.slots.size = n) {j : Nat} (hj : j < n) (hn : n < 2 ^ 31) : ¬ (nI j < 0 ∨ cell.slots.size ≤ (nI j).toNatClampNeg) := by
  rw [q6]
  exact vp_in_nI hj hn
theorem z_iald (X : ZX p m c cc nL s args own G) {a t n : Nat} {f : Nat → Value} {i : Int32} {v : Value} (j : Nat) (ha : h a = (t, .inl (0, n, f))) (ht : t ≠ 0) (hi : i = nI j) (hj : j < n) (hn : n < 2 ^ 31) (hv : f j = v) (hd : decode cc pc = .ok (.iaload, 1)) (kk : Zw p l e R s m args below meth c G nL Q (pc + 1) lv (v :: st) h cells slots) : Zw p l e R s m args below meth c G nL Q pc lv (.int i :: .ref a :: st) h cells slots := by
  subst hi
  intro H locs ls hl hc hR hS
  obtain ⟨cell, q1, q2, q3, q4, q5, q6, q7⟩ := zcell hR ha ht
  exact W.iald (v := v) X.1.1 X.1.2.1 q1 (zarr X (k := 0) rfl q5 q4) q3 (zin q6 hj hn) (by rw [nI_clamp (by omega), q7 _ hj, hv]) rfl rfl hd (kk H locs ls hl hc hR hS)
theorem z_zald (X : ZX p m c cc nL s args own G) {a t n : Nat} {f : Nat → Value} {i : Int32} {v : Value} (j : Nat) (ha : h a = (t, .inl (1, n, f))) (ht : t ≠ 0) (hi : i = nI j) (hj : j < n) (hn : n < 2 ^ 31) (hv : f j = v) (hd : decode cc pc = .ok (.baload, 1)) (kk : Zw p l e R s m args below meth c G nL Q (pc + 1) lv (v :: st) h cells slots) : Zw p l e R s m args below meth c G nL Q pc lv (.int i :: .ref a :: st) h cells slots := by
  subst hi
  intro H locs ls hl hc hR hS
  obtain ⟨cell, q1, q2, q3, q4, q5, q6, q7⟩ := zcell hR ha ht
  exact W.zald (v := v) X.1.1 X.1.2.1 q1 (zarr X (k := 1) rfl q5 q4) q3 (zin q6 hj hn) (by rw [nI_clamp (by omega), q7 _ hj, hv]) rfl rfl hd (kk H locs ls hl hc hR hS)
theorem z_lald (X : ZX p m c cc nL s args own G) {a t n : Nat} {f : Nat → Value} {i : Int32} {v : Value} (j : Nat) (ha : h a = (t, .inl (2, n, f))) (ht : t ≠ 0) (hi : i = nI j) (hj : j < n) (hn : n < 2 ^ 31) (hv : f j = v) (hd : decode cc pc = .ok (.laload, 1)) (kk : Zw p l e R s m args below meth c G nL Q (pc + 1) lv (v :: st) h cells slots) : Zw p l e R s m args below meth c G nL Q pc lv (.int i :: .ref a :: st) h cells slots := by
  subst hi
  intro H locs ls hl hc hR hS
  obtain ⟨cell, q1, q2, q3, q4, q5, q6, q7⟩ := zcell hR ha ht
  exact W.lald (v := v) X.1.1 X.1.2.1 q1 (zarr X (k := 2) rfl q5 q4) q3 (zin q6 hj hn) (by rw [nI_clamp (by omega), q7 _ hj, hv]) rfl rfl hd (kk H locs ls hl hc hR hS)
theorem z_aald (X : ZX p m c cc nL s args own G) {a t n kd : Nat} {ty : FieldType} {f : Nat → Value} {i : Int32} {v : Value} (j : Nat) (ha : h a = (t, .inl (kd, n, f))) (hkd : zar[kd]? = some ty) (hty : ty.isReference = true) (ht : t ≠ 0) (hi : i = nI j) (hj : j < n) (hn : n < 2 ^ 31) (hv : f j = v) (hd : decode cc pc = .ok (.aaload, 1)) (kk : Zw p l e R s m args below meth c G nL Q (pc + 1) lv (v :: st) h cells slots) : Zw p l e R s m args below meth c G nL Q pc lv (.int i :: .ref a :: st) h cells slots := by
  subst hi
  intro H locs ls hl hc hR hS
  obtain ⟨cell, q1, q2, q3, q4, q5, q6, q7⟩ := zcell hR ha ht
  exact W.aald (v := v) X.1.1 X.1.2.1 q1 (zarr X hkd q5 q4) hty q3 (zin q6 hj hn) (by rw [nI_clamp (by omega), q7 _ hj, hv]) rfl rfl hd (kk H locs ls hl hc hR hS)
theorem z_alen (X : ZX p m c cc nL s args own G) {a t n kd : Nat} {ty : FieldType} {f : Nat → Value} (ha : h a = (t, .inl (kd, n, f))) (hkd : zar[kd]? = some ty) (ht : t ≠ 0) (hd : decode cc pc = .ok (.arraylength, 1)) (kk : Zw p l e R s m args below meth c G nL Q (pc + 1) lv (.int (nI n) :: st) h cells slots) : Zw p l e R s m args below meth c G nL Q pc lv (.ref a :: st) h cells slots := by
  intro H locs ls hl hc hR hS
  obtain ⟨cell, q1, q2, q3, q4, q5, q6, q7⟩ := zcell hR ha ht
  exact W.alen (n := nI n) X.1.1 X.1.2.1 q1 (zarr X hkd q5 q4) (by rw [q6]; rfl) rfl rfl hd (kk H locs ls hl hc hR hS)
theorem zset_at {a t kd n j : Nat} {f f' : Nat → Value} {v : Value} {H H' : Heap} {cell : Cell} (e1 : H'[a]? = some (cell.setSlot j v)) (q2 : t ≠ 1 → cell.vm = .none) (q3 : cell.vm ≠ .unknown) (q4 : ∀ k, cell.vm ≠ .statics k) (q5 : cell.cls = G.2.2.1 kd) (q6 : cell.slots.size = n) (q7 : ∀ j, j < n → cell.slots[j]? = some (f j)) (hf' : ∀ k, f' k = if k = j then v else f k) : zat G a (t, .inl (kd, n, f')) H' := by
  refine ⟨_, e1, q2, q3, q4, q5, by simp [Cell.setSlot, q6], fun k hk => ?_⟩
  show (cell.slots.setIfInBounds j v)[k]? = _
  rw [hf' k, Array.getElem?_setIfInBounds]
  by_cases hkj : j = k
  · subst hkj
    simp [q6, hk]
  · rw [if_neg hkj, if_neg (Ne.symm hkj), q7 k hk]
theorem z_iast (X : ZX p m c cc nL s args own G) {a t n : Nat} {f f' : Nat → Value} {i x : Int32} (j : Nat) (ha : h a = (t, .inl (0, n, f))) (ht : t ≠ 0) (h1 : t ≠ 1) (hi : i = nI j) (hj : j < n) (hn : n < 2 ^ 31) (hf' : ∀ k, f' k = if k = j then .int x else f k) (hd : decode cc pc = .ok (.iastore, 1)) (kk : Zw p l e R s m args below meth c G nL Q (pc + 1) lv st (zup h a (t, .inl (0, n, f'))) cells slots) : Zw p l e R s m args below meth c G nL Q pc lv (.int x :: .int i :: .ref a :: st) h cells slots := by
  subst hi
  intro H locs ls hl hc hR hS
  obtain ⟨cell, q1, q2, q3, q4, q5, q6, q7⟩ := zcell hR ha ht
  have hfl := zfloor hR ha ht h1
  refine W.iast X.1.1 X.1.2.1 q1 (zarr X (k := 0) rfl q5 q4) q3 (zin q6 hj hn) rfl rfl hd fun H' e1 e2 e3 => ?_
  rw [nI_clamp (by omega)] at e1 ⊢
  exact kk H' _ ls hl hc (hR.set (by rw [ha]; exact h1) (zset_at (H := H) e1 q2 q3 q4 q5 q6 q7 hf') hfl e3) (hS.put e2 e3 hfl)
theorem z_zast (X : ZX p m c cc nL s args own G) {a t n : Nat} {f f' : Nat → Value} {i x : Int32} (j : Nat) (ha : h a = (t, .inl (1, n, f))) (ht : t ≠ 0) (h1 : t ≠ 1) (hi : i = nI j) (hj : j < n) (hn : n < 2 ^ 31) (hx : zfits .boolean (.int x)) (hf' : ∀ k, f' k = if k = j then .int x else f k) (hd : decode cc pc = .ok (.bastore, 1)) (kk : Zw p l e R s m args below meth c G nL Q (pc + 1) lv st (zup h a (t, .inl (1, n, f'))) cells slots) : Zw p l e R s m args below meth c G nL Q pc lv (.int x :: .int i :: .ref a :: st) h cells slots := by
  subst hi
  intro H locs ls hl hc hR hS
  obtain ⟨cell, q1, q2, q3, q4, q5, q6, q7⟩ := zcell hR ha ht
  have hfl := zfloor hR ha ht h1
  refine W.zast X.1.1 X.1.2.1 q1 (zarr X (k := 1) rfl q5 q4) q3 (zin q6 hj hn) rfl rfl hd fun H' e1 e2 e3 => ?_
  rw [nI_clamp (by omega)] at e1 ⊢
  rw [hx.1] at e1
  exact kk H' _ ls hl hc (hR.set (by rw [ha]; exact h1) (zset_at (H := H) e1 q2 q3 q4 q5 q6 q7 hf') hfl e3) (hS.put e2 e3 hfl)
theorem z_last (X : ZX p m c cc nL s args own G) {a t n : Nat} {f f' : Nat → Value} {i : Int32} {x : Int64} (j : Nat) (ha : h a = (t, .inl (2, n, f))) (ht : t ≠ 0) (h1 : t ≠ 1) (hi : i = nI j) (hj : j < n) (hn : n < 2 ^ 31) (hf' : ∀ k, f' k = if k = j then .long x else f k) (hd : decode cc pc = .ok (.lastore, 1)) (kk : Zw p l e R s m args below meth c G nL Q (pc + 1) lv st (zup h a (t, .inl (2, n, f'))) cells slots) : Zw p l e R s m args below meth c G nL Q pc lv (.long x :: .int i :: .ref a :: st) h cells slots := by
  subst hi
  intro H locs ls hl hc hR hS
  obtain ⟨cell, q1, q2, q3, q4, q5, q6, q7⟩ := zcell hR ha ht
  have hfl := zfloor hR ha ht h1
  refine W.last X.1.1 X.1.2.1 q1 (zarr X (k := 2) rfl q5 q4) q3 (zin q6 hj hn) rfl rfl hd fun H' e1 e2 e3 => ?_
  rw [nI_clamp (by omega)] at e1 ⊢
  exact kk H' _ ls hl hc (hR.set (by rw [ha]; exact h1) (zset_at (H := H) e1 q2 q3 q4 q5 q6 q7 hf') hfl e3) (hS.put e2 e3 hfl)
/-- an object of class C goes where an E is asked -/
def zasg (C E : String) : Prop := C = E ∨ Cond.castable C E ∈ lw_tbl
theorem zasg.use (X : ZX p m c cc nL s args own G) {C E : String} (h : zasg C E) {c0 comp : ClassId} (h2 : s.vm.findClass C = some c0) (h1 : s.vm.findClass E = some comp) : s.vm.assignable c0 comp = true := by
  rcases h with rfl | h
  · exact vb_asgS comp c0 h1 h2
  · exact vb_asgC (zXnw X h rfl) comp c0 h1 h2
theorem z_aast (X : ZX p m c cc nL s args own G) {a b t tb n kd ci N : Nat} {C E : String} {T : u_T} {gs : List Value} {f f' : Nat → Value} {i : Int32} (j : Nat) (ha : h a = (t, .inl (kd, n, f))) (hkd : zar[kd]? = some (.object E)) (hk8 : kd < 8) (ht : t ≠ 0) (h1 : t ≠ 1) (hb : h b = (tb, .inr (ci, gs))) (htb : tb ≠ 0) (hC : zcl[ci]? = some (C, T, N)) (hasg : zasg C E) (hi : i = nI j) (hj : j < n) (hn : n < 2 ^ 31) (hf' : ∀ k, f' k = if k = j then .ref b else f k) (hd : decode cc pc = .ok (.aastore, 1)) (kk : Zw p l e R s m args below meth c G nL Q (pc + 1) lv st (zup h a (t, .inl (kd, n, f'))) cells slots) : Zw p l e R s m args below meth c G nL Q pc lv (.ref b :: .int i :: .ref a :: st) h cells slots := by
  subst hi
  intro H locs ls hl hc hR hS
  obtain ⟨cell, q1, q2, q3, q4, q5, q6, q7⟩ := zcell hR ha ht
  obtain ⟨cb, b1, b2, b3, b4, b5, -⟩ := zcell hR hb htb
  have hfl := zfloor hR ha ht h1
  obtain ⟨kA, comp, e1, e2, e3⟩ := X.2.1.2.1 kd _ hkd
  have hcomp := (e3 hk8).2 E rfl
  obtain ⟨kcomp, hkc, -⟩ := Vm.findClass_spec hcomp
  obtain ⟨-, hfc, kC, hkC, hkind⟩ := X.2.1.1 ci _ hC
  refine W.aast X.1.1 X.1.2.1 q1 q4 q3 (by rw [q5]; exact e1) e2 rfl hkc ⟨nI_pos (by omega), by rw [q6, nI_clamp (by omega)]; exact hj⟩ b1 b4 (by rw [b5]; exact hkC) (by rw [b5]; exact zasg.use X hasg hfc hcomp) rfl rfl hd fun H' e1 e2 e3 => ?_
  rw [nI_clamp (by omega)] at e1 ⊢
  exact kk H' _ ls hl hc (hR.set (by rw [ha]; exact h1) (zset_at (H := H) e1 q2 q3 q4 q5 q6 q7 hf') hfl e3) (hS.put e2 e3 hfl)
theorem z_aastN (X : ZX p m c cc nL s args own G) {a t n kd : Nat} {E : String} {f f' : Nat → Value} {i : Int32} (j : Nat) (ha : h a = (t, .inl (kd, n, f))) (hkd : zar[kd]? = some (.object E)) (ht : t ≠ 0) (h1 : t ≠ 1) (hi : i = nI j) (hj : j < n) (hn : n < 2 ^ 31) (hf' : ∀ k, f' k = if k = j then .null else f k) (hd : decode cc pc = .ok (.aastore, 1)) (kk : Zw p l e R s m args below meth c G nL Q (pc + 1) lv st (zup h a (t, .inl (kd, n, f'))) cells slots) : Zw p l e R s m args below meth c G nL Q pc lv (.null :: .int i :: .ref a :: st) h cells slots := by
  subst hi
  intro H locs ls hl hc hR hS
  obtain ⟨cell, q1, q2, q3, q4, q5, q6, q7⟩ := zcell hR ha ht
  have hfl := zfloor hR ha ht h1
  refine va_WaastN X.1.1 X.1.2.1 q1 (zarr X hkd q5 q4) q3 (zin q6 hj hn) rfl rfl hd fun H' e1 e2 e3 => ?_
  rw [nI_clamp (by omega)] at e1 ⊢
  exact kk H' _ ls hl hc (hR.set (by rw [ha]; exact h1) (zset_at (H := H) e1 q2 q3 q4 q5 q6 q7 hf') hfl e3) (hS.put e2 e3 hfl)
theorem z_new (X : ZX p m c cc nL s args own G) {ix ci N : Nat} {C : String} {T : u_T} {ty : Nat → FieldType} (P : zCP ci C T N ty) (t : Nat) (h1 : t ≠ 1) {fs : List Value} (hfs : ∀ j, j < N → defaultValue (ty j) = vp_V fs j) (hcl : Cond.classLink own ix C ∈ lw_all) (hi : Cond.instantiable C N ∈ lw_all) (hini : Cond.initialized C ∈ lw_all) (hcells : cells + 1 ≤ R.cells) (hslots : slots + N ≤ R.slots) (hd : decode cc pc = .ok (.new ix, 3)) (kk : ∀ a : Nat, (h a).1 = 0 → Zw p l e R s m args below meth c G nL Q (pc + 3) lv (.ref a :: st) (zup h a (t, .inr (ci, fs))) (cells + 1) (slots + N)) : Zw p l e R s m args below meth c G nL Q pc lv st h cells slots := by
  intro H locs ls hl hc hR hS
  have hKn := X.2.1.1 ci _ P.1
  refine W.newcK X.1.1 X.1.2.1 (zXown X) (zXts X _ hcl) (zXts X _ hi) (zXts X _ hini) rfl hd hcells hslots hKn.2.1 rfl fun H1 kC hkC e1 z1 o1 => ?_
  have hfl : zB G ≤ H.size := Nat.le_trans X.2.2 hS.1
  obtain ⟨cell, g1, g2, g3, g4⟩ := (u_born (ws := lw_all) ty (zXts X) P.2.1 hKn hkC e1 P.2.2.1).to hfs
  obtain ⟨h0, hR1⟩ := hR.push (x := (t, .inr (ci, fs))) ⟨cell, g1, fun _ => g3, by rw [g3]; exact (fun h => by cases h), by rw [g3]; exact (fun k h => by cases h), g2, _, P.1, g4⟩ hfl o1
  exact kk _ h0 H1 _ ls hl hc hR1 ⟨Nat.le_trans hS.1 (by omega), fun x y1 y2 => (o1 x (Nat.lt_of_lt_of_le y1 hS.1)).trans (hS.2.1 x y1 y2), hS.2.2⟩
theorem z_newa (X : ZX p m c cc nL s args own G) {atype : ArrayType} {ty : FieldType} (kd : Nat) (hty : newarray.typeOf atype = ty) (hkd : zar[kd]? = some ty) (hk8 : kd < 8) (t : Nat) (h1 : t ≠ 1) {f : Nat → Value} (hf : ∀ j, f j = defaultValue ty) (harr : Cond.arrayClass ty ∈ lw_all) {n : Int32} (N : Nat) (hN : n = nI N) (hN2 : N < 2 ^ 25) (hb : componentBytes ty ≤ 16) (hcells : cells + 1 ≤ R.cells) (hslots : slots + N ≤ R.slots) (hd : decode cc pc = .ok (.newarray atype, 2)) (kk : ∀ a : Nat, (h a).1 = 0 → Zw p l e R s m args below meth c G nL Q (pc + 2) lv (.ref a :: st) (zup h a (t, .inl (kd, N, f))) (cells + 1) (slots + N)) : Zw p l e R s m args below meth c G nL Q pc lv (.int n :: st) h cells slots := by
  subst hty
  subst hN
  intro H locs ls hl hc hR hS
  have hc1 := nI_clamp (n := N) (by omega)
  refine va_newaK X.1.1 X.1.2.1 (zXts X _ harr) rfl hd rfl (nI_pos (by omega)) hc1 (Nat.le_trans (Nat.mul_le_mul (Nat.le_of_lt hN2) hb) (by decide)) hcells hslots rfl fun H1 cA e1 z1 o1 hAr hNm => ?_
  have hfl : zB G ≤ H.size := Nat.le_trans X.2.2 hS.1
  obtain ⟨kA, comp, -, -, e3⟩ := X.2.1.2.1 kd _ hkd
  cases (e3 hk8).1.symm.trans hNm
  obtain ⟨h0, hR1⟩ := hR.push (x := (t, .inl (kd, N, f))) ⟨_, e1, fun _ => rfl, (fun h => by cases h), (fun k h => by cases h), rfl, arrV_size _ _ _, fun j hj => by rw [arrV_read _ _ hj, hf]⟩ hfl o1
  exact kk _ h0 H1 _ ls hl hc hR1 ⟨Nat.le_trans hS.1 (by omega), fun x y1 y2 => (o1 x (Nat.lt_of_lt_of_le y1 hS.1)).trans (hS.2.1 x y1 y2), hS.2.2⟩
theorem z_anew (X : ZX p m c cc nL s args own G) {ix : Nat} {C : String} (kd : Nat) (hkd : zar[kd]? = some (.object C)) (hk8 : kd < 8) (t : Nat) (h1 : t ≠ 1) {f : Nat → Value} (hf : ∀ j, f j = .null) (hao : C ∈ zao) (hcl : Cond.classLink own ix C ∈ lw_all) {n : Int32} (N : Nat) (hN : n = nI N) (hN2 : N < 2 ^ 25) (hcells : cells + 1 ≤ R.cells) (hslots : slots + N ≤ R.slots) (hd : decode cc pc = .ok (.anewarray ix, 3)) (kk : ∀ a : Nat, (h a).1 = 0 → Zw p l e R s m args below meth c G nL Q (pc + 3) lv (.ref a :: st) (zup h a (t, .inl (kd, N, f))) (cells + 1) (slots + N)) : Zw p l e R s m args below meth c G nL Q pc lv (.int n :: st) h cells slots := by
  subst hN
  intro H locs ls hl hc hR hS
  have hc1 := nI_clamp (n := N) (by omega)
  refine W.anew X.1.1 X.1.2.1 (zXown X) (zXts X _ hcl) (va_AO.use (X.2.1.2.2.2.2.1 C hao)) rfl hd rfl (nI_pos (by omega)) (by rw [hc1]; omega) hcells (by rw [hc1]; exact hslots) fun cA kA comp f1 f2 f3 f4 => ?_
  rw [hc1]
  have hfl : zB G ≤ H.size := Nat.le_trans X.2.2 hS.1
  obtain ⟨kA, comp, -, -, e3⟩ := X.2.1.2.1 kd _ hkd
  cases (e3 hk8).1.symm.trans f1
  generalize hH1 : H.push ({ cls := G.2.2.1 kd, slots := Array.replicate N .null, vm := .none } : Cell) = H1
  have z1 : H1.size = H.size + 1 := by rw [← hH1, Array.size_push]
  have e1 : H1[H.size]? = some (arrV (G.2.2.1 kd) N (fun _ => .null)) := by rw [← hH1, Array.getElem?_push_size, ← arrV_new]
  have o1 : ∀ q : Nat, q < H.size → H1[q]? = H[q]? := fun q hq => by rw [← hH1, Array.getElem?_push, if_neg (Nat.ne_of_lt hq)]
  obtain ⟨h0, hR1⟩ := hR.push (x := (t, .inl (kd, N, f))) ⟨_, e1, fun _ => rfl, (fun h => by cases h), (fun k h => by cases h), rfl, arrV_size _ _ _, fun j hj => by rw [arrV_read _ _ hj, hf]⟩ hfl o1
  exact kk _ h0 H1 _ ls hl hc hR1 ⟨Nat.le_trans hS.1 (by omega), fun x y1 y2 => (o1 x (Nat.lt_of_lt_of_le y1 hS.1)).trans (hS.2.1 x y1 y2), hS.2.2⟩
theorem zrecv (X : ZX p m c cc nL s args own G) {b t ci N : Nat} {C : String} {T : u_T} {fs : List Value} {H : Heap} (hR : Rp G h H) (hb : h b = (t, .inr (ci, fs))) (ht : t ≠ 0) (hC : zcl[ci]? = some (C, T, N)) : ∃ cell : Cell, H[b]? = some cell ∧ cell.vm.isStatics = false ∧ s.vm.findClass C = some cell.cls := by
  obtain ⟨cell, q1, q2, q3, q4, q5, -⟩ := zcell hR hb ht
  refine ⟨cell, q1, ?_, by rw [q5]; exact (X.2.1.1 ci _ hC).2.1⟩
  cases hvm : cell.vm <;> first | rfl | exact absurd hvm (q4 _)
theorem z_castN (X : ZX p m c cc nL s args own G) {ix : Nat} (hd : decode cc pc = .ok (.checkcast ix, 3)) (kk : Zw p l e R s m args below meth c G nL Q (pc + 3) lv (.null :: st) h cells slots) : Zw p l e R s m args below meth c G nL Q pc lv (.null :: st) h cells slots := fun H locs ls hl hc hR hS => lv_castN X.1.1 X.1.2.1 hd (kk H locs ls hl hc hR hS)
theorem z_cast (X : ZX p m c cc nL s args own G) {ix a t ci N : Nat} {C nm : String} {T : u_T} {fs : List Value} (ha : h a = (t, .inr (ci, fs))) (ht : t ≠ 0) (hC : zcl[ci]? = some (C, T, N)) (hw : Cond.classLink own ix nm ∈ lw_all) (hasg : zasg C nm) (hd : decode cc pc = .ok (.checkcast ix, 3)) (kk : Zw p l e R s m args below meth c G nL Q (pc + 3) lv (.ref a :: st) h cells slots) : Zw p l e R s m args below meth c G nL Q pc lv (.ref a :: st) h cells slots := by
  intro H locs ls hl hc hR hS
  rcases hasg with rfl | hasg
  · exact va_castS X.1.1 X.1.2.1 (zXown X) (zXts X _ hw) (X.2.1.1 ci _ hC).2 (zrecv X hR ha ht hC) hd (kk H locs ls hl hc hR hS)
  · exact va_castY X.1.1 X.1.2.1 (zXown X) (zXts X _ hw) (zXnw X hasg rfl) (zrecv X hR ha ht hC) hd (kk H locs ls hl hc hR hS)
theorem z_instNo (X : ZX p m c cc nL s args own G) {ix a t ci N : Nat} {C nm : String} {T : u_T} {fs : List Value} (ha : h a = (t, .inr (ci, fs))) (ht : t ≠ 0) (hC : zcl[ci]? = some (C, T, N)) (hw : Cond.classLink own ix nm ∈ lw_all) (hn : va_Nc C nm s) (hd : decode cc pc = .ok (.instanceof ix, 3)) (kk : Zw p l e R s m args below meth c G nL Q (pc + 3) lv (.int 0 :: st) h cells slots) : Zw p l e R s m args below meth c G nL Q pc lv (.ref a :: st) h cells slots := by
  intro H locs ls hl hc hR hS
  exact va_instNo X.1.1 X.1.2.1 (zXown X) (zXts X _ hw) hn (zrecv X hR ha ht hC) hd (kk H locs ls hl hc hR hS)

end ZR2
