/-! THE COMPONENT: what holds of the machine all through (env), keyed worlds, their rows and contracts -/
def ex_wk (w : Cond) : Bool := match w with
  | .fieldLinkNest _ _ _ _ _ _ => true
  | .methodLinkNest _ _ _ _ => true
  | .castable _ _ => true
  | .declares _ => true
  | _ => false
theorem ex_warm {w : Cond} (hk : ex_wk w = true) {s U : State} (hW : s.WarmedH U.vm) (h : va_Nw w s) : va_Nw w U := by
  cases w <;> first | (simp [ex_wk] at hk; done) | exact va_Nw.warmF hW h | exact va_Nw.warmM hW h | exact va_Nw.warmC hW h | exact va_Nw.warmD hW h
def ex_N (U : State) : Prop := ∀ w ∈ lw_tbl, ex_wk w = true → va_Nw w U
def yLi (n d : String) : MethodName := ⟨"java/util/List", n, d⟩
def yIt (n d : String) : MethodName := ⟨"java/util/Iterator", n, d⟩
abbrev ex_fw : List (String × MethodName × MethodName) := [(RJ2, yLi "add" "(Ljava/lang/Object;)Z", yJ2_add), (RJ2, yLi "get" "(I)Ljava/lang/Object;", yJ2_get), (RJ2, yLi "size" "()I", yJ2_size), (RJ2, yLi "contains" "(Ljava/lang/Object;)Z", yJ2_contains), (RJ2, yLi "iterator" "()Ljava/util/Iterator;", yJ2_iterator), (RJ2, yLi "remove" "(I)Ljava/lang/Object;", yJ2_remove), (RJ19, yIt "hasNext" "()Z", yJ19_hasNext), (RJ19, yIt "next" "()Ljava/lang/Object;", yJ19_next)]
/-- constants of the run: the cached Integers' addresses, the empty array of lists, the cache's array, Object[]'s Class -/
abbrev ex_C : Type := (Nat → Nat) × Nat × Nat × Nat
def ex_K (E : en_T) (C : ex_C) (U : State) : Prop := en_K E U ∧ ex_N U ∧ (∀ (k : Nat) (t : String × MethodName × MethodName), ex_fw[k]? = some t → va_Fw t.1 t.2.1 t.2.2 U) ∧ va_AO "java/lang/Object" U ∧ va_Mi "[Ljava/lang/Object;" C.2.2.2 U ∧ va_Dc U
theorem ex_fw_ok : ∀ t ∈ ex_fw, t.2.1.cls ≠ "java/lang/invoke/MethodHandle" ∧ t.2.1.cls ≠ "java/lang/invoke/VarHandle" := by decide +kernel
theorem ex_K.warm {E : en_T} {C : ex_C} {s U : State} (hW : s.WarmedH U.vm) (h : ex_K E C s) : ex_K E C U := by
  obtain ⟨h1, h2, h3, h4, h5, h6⟩ := h
  exact ⟨en_K.moved hW.alike h1, fun w hw hk => ex_warm hk hW (h2 w hw hk), fun k t ht => va_Fw.moved (ex_fw_ok t (List.mem_of_getElem? ht)) hW.alike (h3 k t ht), va_AO.moved hW.alike h4, va_Mi.moved hW.alike h5, va_Dc.moved hW.alike h6⟩
theorem ex_K.calling {E : en_T} {C : ex_C} {U : State} (g : JFrame) (mk : MethodId) (a : Array Value) (h : ex_K E C U) : ex_K E C (U.calling g mk a) := ex_K.warm (s := U) (U := U.calling g mk a) (State.WarmedH.refl U) h
/-- the statics that are read, where nobody writes -/
def ex_H (C : ex_C) (A : Nat → Prop) (U : State) (H : Heap) : Prop := va_Z "java/lang/Integer$IntegerCache" "high" "I" (.int 127) A U H ∧ va_Z "java/lang/Integer$IntegerCache" "cache" "[Ljava/lang/Integer;" (.ref C.2.2.1) A U H ∧ va_T (.object "java/lang/Integer") C.2.2.1 256 (fun k => .ref (C.1 k)) A U H ∧ vb_C C.1 A U H ∧ va_Z "java/util/ArrayList" "DEFAULTCAPACITY_EMPTY_ELEMENTDATA" "[Ljava/lang/Object;" (.ref C.2.1) A U H ∧ va_T (.object "java/lang/Object") C.2.1 0 (fun _ => .null) A U H ∧ vx_Zq Bundle.tN "UNASSIGNED_STACK" Bundle.steD A U H ∧ vx_Zq Bundle.tN "SUPPRESSED_SENTINEL" Bundle.listD A U H
theorem ex_H.moved {C : ex_C} {A : Nat → Prop} {u U : State} {H : Heap} (hvm : u.vm.Alike U.vm) (h : ex_H C A u H) : ex_H C A U H := by
  obtain ⟨h1, h2, h3, h4, h5, h6, h7, h8⟩ := h
  exact ⟨va_Z.moved hvm h1, va_Z.moved hvm h2, va_T.moved hvm h3, vb_C.moved hvm h4, va_Z.moved hvm h5, va_T.moved hvm h6, vx_Zq.moved hvm h7, vx_Zq.moved hvm h8⟩
theorem ex_H.kept {C : ex_C} {A : Nat → Prop} {U : State} {H H1 : Heap} (h : ex_H C A U H) (hq : ∀ a : Nat, a < H.size → ¬ A a → H1[a]? = H[a]?) : ex_H C A U H1 := by
  obtain ⟨h1, h2, h3, h4, h5, h6, h7, h8⟩ := h
  exact ⟨h1.kept hq, h2.kept hq, h3.kept hq, h4.kept hq, h5.kept hq, h6.kept hq, h7.kept hq, h8.kept hq⟩
theorem ex_H.narrow {C : ex_C} {A B : Nat → Prop} {U : State} {H : Heap} (h : ex_H C A U H) (hAB : ∀ q, B q → A q) : ex_H C B U H := by
  obtain ⟨h1, h2, h3, h4, h5, h6, h7, h8⟩ := h
  exact ⟨h1.narrow hAB, h2.narrow hAB, h3.narrow hAB, h4.narrow hAB, h5.narrow hAB, h6.narrow hAB, h7.narrow hAB, h8.narrow hAB⟩
theorem ex_lt {H : Heap} {a : Nat} {x : Cell} (h : H[a]? = some x) : ¬ H.size ≤ a := by
  have := (Array.getElem?_eq_some_iff.mp h).1
  omega
theorem ex_Zn {c n d : String} {v : Value} {A : Nat → Prop} {U : State} {H : Heap} (h : va_Z c n d v A U H) : va_Z c n d v (fun a => H.size ≤ a) U H := by
  obtain ⟨cf, kf, fi, f, a, cell, h1, h2, h3, h4, h5, h6, h7, -⟩ := h
  exact ⟨cf, kf, fi, f, a, cell, h1, h2, h3, h4, h5, h6, h7, ex_lt h5⟩
theorem ex_Tn {ty : FieldType} {t N : Nat} {f : Nat → Value} {A : Nat → Prop} {U : State} {H : Heap} (h : va_T ty t N f A U H) : va_T ty t N f (fun a => H.size ≤ a) U H := by
  obtain ⟨cell, h1, h2, h3, h4, h5, h6, -⟩ := h
  exact ⟨cell, h1, h2, h3, h4, h5, h6, ex_lt h1⟩
theorem ex_Cn {ic : Nat → Nat} {A : Nat → Prop} {U : State} {H : Heap} (h : vb_C ic A U H) : vb_C ic (fun a => H.size ≤ a) U H := by
  refine ⟨fun k hk => ?_, fun k hk => ?_⟩
  · obtain ⟨cell, h1, h2, h3, -⟩ := h.1 k hk
    exact ⟨cell, h1, h2, h3, ex_lt h1⟩
  · obtain ⟨cf, kf, i, f, cell, h1, h2, h3, h4, h5, -⟩ := h.2 k hk
    exact ⟨cf, kf, i, f, cell, h1, h2, h3, h4, h5, ex_lt h3⟩
theorem ex_Qn {c n d : String} {A : Nat → Prop} {U : State} {H : Heap} (h : vx_Zq c n d A U H) : vx_Zq c n d (fun a => H.size ≤ a) U H := by
  obtain ⟨h1, h2⟩ := h
  refine ⟨?_, ?_⟩
  · rcases h1 with h1 | ⟨t, h1⟩
    · exact Or.inl (ex_Zn h1)
    · exact Or.inr ⟨t, ex_Zn h1⟩
  · obtain ⟨c0, k, i, f, a, cell, g1, g2, g3, g4, g5, g6, g7, g8, g9, g10⟩ := h2
    exact ⟨c0, k, i, f, a, cell, g1, g2, g3, g4, g5, g6, g7, g8, g9, ex_lt g5⟩
theorem ex_H.fresh {C : ex_C} {A : Nat → Prop} {U : State} {H : Heap} (h : ex_H C A U H) : ex_H C (fun a => H.size ≤ a) U H := by
  obtain ⟨h1, h2, h3, h4, h5, h6, h7, h8⟩ := h
  exact ⟨ex_Zn h1, ex_Zn h2, ex_Tn h3, ex_Cn h4, ex_Zn h5, ex_Tn h6, ex_Qn h7, ex_Qn h8⟩
/-! keyed worlds: key (t, i) lies at ad t i and holds en t i, where ok t i -/
abbrev kw_A : Type := Nat → Nat → Nat
def kw (E : en_T) (ok : Nat → Nat → Prop) (ad : kw_A) (en : Nat → Nat → va_E) (A : Nat → Prop) (H : Heap) : Prop :=
  ∃ (L : List Nat) (f : Nat → va_E), va_P E.1 vcl (va_pl L f) H ∧ va_D A (va_pl L f) ∧ (∀ t i, ok t i → ad t i ∈ L ∧ f (ad t i) = en t i) ∧ ∀ t i u j, ok t i → ok u j → ad t i = ad u j → t = u ∧ i = j
theorem kw.kept {E : en_T} {ok : Nat → Nat → Prop} {ad : kw_A} {en : Nat → Nat → va_E} {A : Nat → Prop} {H H1 : Heap} (h : kw E ok ad en A H) (hq : ∀ a, A a → a < H.size → H1[a]? = H[a]?) : kw E ok ad en A H1 := by
  obtain ⟨L, f, h1, h2, h3⟩ := h
  exact ⟨L, f, h1.kept (fun k x hx => hq _ (h2.2 k x hx) (h1 k x hx).lt), h2, h3⟩
theorem kw.mono {E : en_T} {ok : Nat → Nat → Prop} {ad : kw_A} {en : Nat → Nat → va_E} {A B : Nat → Prop} {H : Heap} (h : kw E ok ad en A H) (hAB : ∀ a, A a → a < H.size → B a) : kw E ok ad en B H := by
  obtain ⟨L, f, h1, h2, h3⟩ := h
  exact ⟨L, f, h1, ⟨h2.1, fun k q hk => hAB _ (h2.2 k q hk) (h1 k q hk).lt⟩, h3⟩
/-- fewer keys, other entries of the same content -/
theorem kw.less {E : en_T} {ok ok' : Nat → Nat → Prop} {ad ad' : kw_A} {en en' : Nat → Nat → va_E} {A : Nat → Prop} {H : Heap} (h : kw E ok ad en A H) (ho : ∀ t i, ok' t i → ok t i ∧ ad' t i = ad t i ∧ en' t i = en t i) : kw E ok' ad' en' A H := by
  obtain ⟨L, f, h1, h2, h3, h4⟩ := h
  refine ⟨L, f, h1, h2, fun t i hi => ?_, fun t i u j hi hj e => ?_⟩
  · obtain ⟨a1, a2, a3⟩ := ho t i hi
    rw [a2, a3]
    exact h3 t i a1
  · obtain ⟨a1, a2, a3⟩ := ho t i hi
    obtain ⟨b1, b2, b3⟩ := ho u j hj
    rw [a2, b2] at e
    exact h4 t i u j a1 b1 e
theorem kw.at {E : en_T} {ok : Nat → Nat → Prop} {ad : kw_A} {en : Nat → Nat → va_E} {A : Nat → Prop} {H : Heap} (h : kw E ok ad en A H) {t i : Nat} (ho : ok t i) : va_at E.1 vcl (ad t i, en t i) H ∧ A (ad t i) ∧ ad t i < H.size := by
  obtain ⟨L, f, h1, h2, h3, h4⟩ := h
  obtain ⟨a1, a2⟩ := h3 t i ho
  obtain ⟨q0, hq⟩ := gl_at (f := f) a1
  have := h1 q0 _ hq
  rw [← a2]
  exact ⟨this, h2.2 q0 _ hq, this.lt⟩
/-- one entry changes -/
theorem kw_up {ok : Nat → Nat → Prop} {ad : kw_A} {en en' : Nat → Nat → va_E} {L : List Nat} {f : Nat → va_E} {t i : Nat} {e : va_E} (ho : ok t i) (h3 : ∀ t i, ok t i → ad t i ∈ L ∧ f (ad t i) = en t i) (h4 : ∀ t i u j, ok t i → ok u j → ad t i = ad u j → t = u ∧ i = j) (he : en' t i = e) (hn : ∀ u j, ok u j → ¬ (u = t ∧ j = i) → en' u j = en u j) :
    ∀ u j, ok u j → ad u j ∈ L ∧ (va_up f (ad t i) e) (ad u j) = en' u j := by
  intro u j hj
  refine ⟨(h3 u j hj).1, ?_⟩
  by_cases c : u = t ∧ j = i
  · obtain ⟨rfl, rfl⟩ := c
    rw [va_up_self, he]
  · rw [va_up_ne _ _ (fun z => c (h4 u j t i hj ho z)), (h3 u j hj).2, hn u j hj c]
section KW
variable {p : Program} {l : Launch} {e : Env} {R : Room} {s : State} {m : MethodId} {args : Array Value} {below : List Frame} {meth : Method} {c : Code} {H : Heap} {locs : List Loc} {cells slots : Nat} {Q : State → Prop}
variable {cc : ByteArray} {pc : Nat} {ls : Array Slot} {rest : List Value} {E : en_T} {A : Nat → Prop} {H0 : Heap} {ok : Nat → Nat → Prop} {ad : kw_A} {en : Nat → Nat → va_E} {t i : Nat}
theorem gl_getN {a : Nat} {L : List Nat} {f : Nat → va_E} (hexec : p.tables.exec = Jvm.exec) (hb : c.code = cc) {own ref C host : String} {T : u_T} {N ci index : Nat} (hts : ∀ w ∈ lw_all, w.before args s = true) (hin : ∀ w ∈ u_ws C T N, w ∈ lw_all) (hown : s.vm.findClass own = some m.cls) (hK : en_K E s) (hP : va_P E.1 vcl (va_pl L f) H) {fs : List Value} (ha : a ∈ L) (he : f a = .inr (ci, fs)) (hc : vcl[ci]? = some (C, T, N)) (k : Nat) (hk : k < N) (hlink : (Cond.fieldLinkNest own index ref (T k).2.1 (T k).2.2.1 host).before args s = true) (hsame : ∀ x, s.fieldFound? (T k).1 (T k).2.1 (T k).2.2.1 = some x → s.fieldFound? ref (T k).2.1 (T k).2.2.1 = some x) {v : Value} (hv : fs[k]? = some v) (hdg : decode cc pc = .ok (.getfield index, 3))
    (kk : W p l e R s m args below meth c H locs cells slots Q (F0 m (pc + 3) ls (v :: rest))) : W p l e R s m args below meth c H locs cells slots Q (F0 m pc ls (.ref a :: rest)) := by
  obtain ⟨q0, hq⟩ := gl_at (f := f) ha
  rw [he] at hq
  exact va_getN hexec hb hts hin hown hK hP q0 hq hc k hk hlink hsame hv hdg kk
theorem gl_putN {a : Nat} {L : List Nat} {f : Nat → va_E} (hexec : p.tables.exec = Jvm.exec) (hb : c.code = cc) {own ref C host : String} {T : u_T} {N ci index : Nat} (hts : ∀ w ∈ lw_all, w.before args s = true) (hin : ∀ w ∈ u_ws C T N, w ∈ lw_all) (ty0 : Nat → FieldType) (hty : ∀ k, k < N → parseFieldDescriptor (T k).2.2.1 = some (ty0 k)) (hnm : ∀ a, a < N → ∀ b, b < N → a ≠ b → (T a).2.1 ≠ (T b).2.1) (hown : s.vm.findClass own = some m.cls) (hK : en_K E s) (hP : va_P E.1 vcl (va_pl L f) H) (hD : va_D A (va_pl L f)) (hS : va_S A H0 H locs) {fs : List Value} (ha : a ∈ L) (he : f a = .inr (ci, fs)) (hc : vcl[ci]? = some (C, T, N)) (k : Nat) (hk : k < N) (hlink : (Cond.fieldLinkNest own index ref (T k).2.1 (T k).2.2.1 host).before args s = true) (hsame : ∀ x, s.fieldFound? (T k).1 (T k).2.1 (T k).2.2.1 = some x → s.fieldFound? ref (T k).2.1 (T k).2.2.1 = some x) (hfin : (T k).2.2.2 = false) {ty : FieldType} {v : Value} (hd : parseFieldDescriptor (T k).2.2.1 = some ty) (hn : narrow ty v = v) (hfit : fits ty v = true) (hl : k < fs.length)
    (hdg : decode cc pc = .ok (.putfield index, 3)) (kk : ∀ (H1 : Heap) (locs1 : List Loc), va_P E.1 vcl (va_pl L (va_up f a (.inr (ci, fs.set k v)))) H1 → va_D A (va_pl L (va_up f a (.inr (ci, fs.set k v)))) → va_S A H0 H1 locs1 → W p l e R s m args below meth c H1 locs1 cells slots Q (F0 m (pc + 3) ls rest)) : W p l e R s m args below meth c H locs cells slots Q (F0 m pc ls (v :: .ref a :: rest)) := by
  obtain ⟨q0, hq⟩ := gl_at (f := f) ha
  have hs := gl_set (e := .inr (ci, fs.set k v)) hD ha hq
  rw [he] at hq
  refine va_putN hexec hb hts hin ty0 hty hnm hown hK hP hD hS q0 hq hc k hk hlink hsame hfin hd hn hfit hl hdg (fun H1 locs1 h1 h2 h3 => ?_)
  rw [hs] at h1 h2
  exact kk H1 locs1 h1 h2 h3
/-- rows by keys -/
theorem kw_get (hexec : p.tables.exec = Jvm.exec) (hb : c.code = cc) {own ref C : String} {T : u_T} {N ci index : Nat} (hts : ∀ w ∈ lw_all, w.before args s = true) (hin : ∀ w ∈ u_ws C T N, w ∈ lw_all) (hown : s.vm.findClass own = some m.cls) (hK : en_K E s) (hR : kw E ok ad en A H) (t i : Nat) {fs : List Value} (ho : ok t i) (he : en t i = .inr (ci, fs)) (hc : vcl[ci]? = some (C, T, N)) (k : Nat) (hk : k < N) (hlink : (Cond.fieldLink own index ref (T k).2.1 (T k).2.2.1).before args s = true) (hsame : ∀ x, s.fieldFound? (T k).1 (T k).2.1 (T k).2.2.1 = some x → s.fieldFound? ref (T k).2.1 (T k).2.2.1 = some x) {v : Value} (hv : fs[k]? = some v) (hdg : decode cc pc = .ok (.getfield index, 3))
    (kk : W p l e R s m args below meth c H locs cells slots Q (F0 m (pc + 3) ls (v :: rest))) : W p l e R s m args below meth c H locs cells slots Q (F0 m pc ls (.ref (ad t i) :: rest)) := by
  obtain ⟨L, f, h1, h2, h3, h4⟩ := hR
  exact gl_get hexec hb hts hin hown hK h1 (h3 t i ho).1 ((h3 t i ho).2.trans he) hc k hk hlink hsame hv hdg kk
theorem kw_getN (hexec : p.tables.exec = Jvm.exec) (hb : c.code = cc) {own ref C host : String} {T : u_T} {N ci index : Nat} (hts : ∀ w ∈ lw_all, w.before args s = true) (hin : ∀ w ∈ u_ws C T N, w ∈ lw_all) (hown : s.vm.findClass own = some m.cls) (hK : en_K E s) (hR : kw E ok ad en A H) (t i : Nat) {fs : List Value} (ho : ok t i) (he : en t i = .inr (ci, fs)) (hc : vcl[ci]? = some (C, T, N)) (k : Nat) (hk : k < N) (hlink : (Cond.fieldLinkNest own index ref (T k).2.1 (T k).2.2.1 host).before args s = true) (hsame : ∀ x, s.fieldFound? (T k).1 (T k).2.1 (T k).2.2.1 = some x → s.fieldFound? ref (T k).2.1 (T k).2.2.1 = some x) {v : Value} (hv : fs[k]? = some v) (hdg : decode cc pc = .ok (.getfield index, 3))
    (kk : W p l e R s m args below meth c H locs cells slots Q (F0 m (pc + 3) ls (v :: rest))) : W p l e R s m args below meth c H locs cells slots Q (F0 m pc ls (.ref (ad t i) :: rest)) := by
  obtain ⟨L, f, h1, h2, h3, h4⟩ := hR
  exact gl_getN hexec hb hts hin hown hK h1 (h3 t i ho).1 ((h3 t i ho).2.trans he) hc k hk hlink hsame hv hdg kk
theorem kw_put (hexec : p.tables.exec = Jvm.exec) (hb : c.code = cc) {own ref C : String} {T : u_T} {N ci index : Nat} (hts : ∀ w ∈ lw_all, w.before args s = true) (hin : ∀ w ∈ u_ws C T N, w ∈ lw_all) (ty0 : Nat → FieldType) (hty : ∀ k, k < N → parseFieldDescriptor (T k).2.2.1 = some (ty0 k)) (hnm : ∀ a, a < N → ∀ b, b < N → a ≠ b → (T a).2.1 ≠ (T b).2.1) (hown : s.vm.findClass own = some m.cls) (hK : en_K E s) (hR : kw E ok ad en A H) (hS : va_S A H0 H locs) (t i : Nat) {fs : List Value} (ho : ok t i) (he : en t i = .inr (ci, fs)) (hc : vcl[ci]? = some (C, T, N)) (k : Nat) (hk : k < N) (hlink : (Cond.fieldLink own index ref (T k).2.1 (T k).2.2.1).before args s = true) (hsame : ∀ x, s.fieldFound? (T k).1 (T k).2.1 (T k).2.2.1 = some x → s.fieldFound? ref (T k).2.1 (T k).2.2.1 = some x) (hfin : (T k).2.2.2 = false ∨ ((T k).2.2.2 = true ∧ meth.name = "<init>" ∧ (T k).1 = own)) {ty : FieldType} {v : Value} (hd : parseFieldDescriptor (T k).2.2.1 = some ty) (hn : narrow ty v = v) (hfit : fits ty v = true) (hl : k < fs.length) (hdg : decode cc pc = .ok (.putfield index, 3))
    (en' : Nat → Nat → va_E) (he' : en' t i = .inr (ci, fs.set k v)) (hn' : ∀ u j, ok u j → ¬ (u = t ∧ j = i) → en' u j = en u j)
    (kk : ∀ (H1 : Heap) (locs1 : List Loc), kw E ok ad en' A H1 → va_S A H0 H1 locs1 → W p l e R s m args below meth c H1 locs1 cells slots Q (F0 m (pc + 3) ls rest)) : W p l e R s m args below meth c H locs cells slots Q (F0 m pc ls (v :: .ref (ad t i) :: rest)) := by
  obtain ⟨L, f, h1, h2, h3, h4⟩ := hR
  rcases hfin with hfin | ⟨hfin, hin2, hdecl⟩
  · exact gl_put hexec hb hts hin ty0 hty hnm hown hK h1 h2 hS (h3 t i ho).1 ((h3 t i ho).2.trans he) hc k hk hlink hsame hfin hd hn hfit hl hdg (fun H1 locs1 g1 g2 g3 => kk H1 locs1 ⟨L, _, g1, g2, kw_up ho h3 h4 he' hn', h4⟩ g3)
  · exact gl_putF hexec hb hts hin ty0 hty hnm hown hK h1 h2 hS (h3 t i ho).1 ((h3 t i ho).2.trans he) hc k hk hlink hsame hfin hin2 hdecl hd hn hfit hl hdg (fun H1 locs1 g1 g2 g3 => kk H1 locs1 ⟨L, _, g1, g2, kw_up ho h3 h4 he' hn', h4⟩ g3)
theorem kw_putN (hexec : p.tables.exec = Jvm.exec) (hb : c.code = cc) {own ref C host : String} {T : u_T} {N ci index : Nat} (hts : ∀ w ∈ lw_all, w.before args s = true) (hin : ∀ w ∈ u_ws C T N, w ∈ lw_all) (ty0 : Nat → FieldType) (hty : ∀ k, k < N → parseFieldDescriptor (T k).2.2.1 = some (ty0 k)) (hnm : ∀ a, a < N → ∀ b, b < N → a ≠ b → (T a).2.1 ≠ (T b).2.1) (hown : s.vm.findClass own = some m.cls) (hK : en_K E s) (hR : kw E ok ad en A H) (hS : va_S A H0 H locs) (t i : Nat) {fs : List Value} (ho : ok t i) (he : en t i = .inr (ci, fs)) (hc : vcl[ci]? = some (C, T, N)) (k : Nat) (hk : k < N) (hlink : (Cond.fieldLinkNest own index ref (T k).2.1 (T k).2.2.1 host).before args s = true) (hsame : ∀ x, s.fieldFound? (T k).1 (T k).2.1 (T k).2.2.1 = some x → s.fieldFound? ref (T k).2.1 (T k).2.2.1 = some x) (hfin : (T k).2.2.2 = false) {ty : FieldType} {v : Value} (hd : parseFieldDescriptor (T k).2.2.1 = some ty) (hn : narrow ty v = v) (hfit : fits ty v = true) (hl : k < fs.length) (hdg : decode cc pc = .ok (.putfield index, 3))
    (en' : Nat → Nat → va_E) (he' : en' t i = .inr (ci, fs.set k v)) (hn' : ∀ u j, ok u j → ¬ (u = t ∧ j = i) → en' u j = en u j)
    (kk : ∀ (H1 : Heap) (locs1 : List Loc), kw E ok ad en' A H1 → va_S A H0 H1 locs1 → W p l e R s m args below meth c H1 locs1 cells slots Q (F0 m (pc + 3) ls rest)) : W p l e R s m args below meth c H locs cells slots Q (F0 m pc ls (v :: .ref (ad t i) :: rest)) := by
  obtain ⟨L, f, h1, h2, h3, h4⟩ := hR
  exact gl_putN hexec hb hts hin ty0 hty hnm hown hK h1 h2 hS (h3 t i ho).1 ((h3 t i ho).2.trans he) hc k hk hlink hsame hfin hd hn hfit hl hdg (fun H1 locs1 g1 g2 g3 => kk H1 locs1 ⟨L, _, g1, g2, kw_up ho h3 h4 he' hn', h4⟩ g3)
theorem kw_iald (hexec : p.tables.exec = Jvm.exec) (hb : c.code = cc) (hK : en_K E s) (hR : kw E ok ad en A H) (t i : Nat) {n : Nat} {g : Nat → Int32} (ho : ok t i) (he : en t i = .inl (E.2.1, n, .inl g)) {x : Int32} (hin : vp_in x n) {v : Int32} (hv : g x.toNatClampNeg = v) (hdg : decode cc pc = .ok (.iaload, 1))
    (kk : W p l e R s m args below meth c H locs cells slots Q (F0 m (pc + 1) ls (.int v :: rest))) : W p l e R s m args below meth c H locs cells slots Q (F0 m pc ls (.int x :: .ref (ad t i) :: rest)) := by
  obtain ⟨L, f, h1, h2, h3, h4⟩ := hR
  subst hv
  exact gl_iald hexec hb hK h1 (h3 t i ho).1 ((h3 t i ho).2.trans he) hin hdg kk
theorem kw_iast (hexec : p.tables.exec = Jvm.exec) (hb : c.code = cc) (hK : en_K E s) (hR : kw E ok ad en A H) (hS : va_S A H0 H locs) (t i : Nat) {n : Nat} {g : Nat → Int32} (ho : ok t i) (he : en t i = .inl (E.2.1, n, .inl g)) {x y : Int32} (hin : vp_in x n) (hdg : decode cc pc = .ok (.iastore, 1))
    (en' : Nat → Nat → va_E) (he' : en' t i = .inl (E.2.1, n, .inl (upd g x.toNatClampNeg y))) (hn' : ∀ u j, ok u j → ¬ (u = t ∧ j = i) → en' u j = en u j)
    (kk : ∀ (H1 : Heap) (locs1 : List Loc), kw E ok ad en' A H1 → va_S A H0 H1 locs1 → W p l e R s m args below meth c H1 locs1 cells slots Q (F0 m (pc + 1) ls rest)) : W p l e R s m args below meth c H locs cells slots Q (F0 m pc ls (.int y :: .int x :: .ref (ad t i) :: rest)) := by
  obtain ⟨L, f, h1, h2, h3, h4⟩ := hR
  exact gl_iast hexec hb hK h1 h2 hS (h3 t i ho).1 ((h3 t i ho).2.trans he) hin hdg (fun H1 locs1 g1 g2 g3 => kk H1 locs1 ⟨L, _, g1, g2, kw_up ho h3 h4 he' hn', h4⟩ g3)
/-- arrays of references -/
theorem kw_aald (hexec : p.tables.exec = Jvm.exec) (hb : c.code = cc) (hK : en_K E s) (hR : kw E ok ad en A H) (t i : Nat) {n : Nat} {g : Nat → Option Nat} (ho : ok t i) (he : en t i = .inl (E.2.2.2.2, n, .inr (.inr (.inr (.inr g))))) {x : Int32} (hin : vp_in x n) {v : Value} (hv : va_rf (g x.toNatClampNeg) = v) (hdg : decode cc pc = .ok (.aaload, 1))
    (kk : W p l e R s m args below meth c H locs cells slots Q (F0 m (pc + 1) ls (v :: rest))) : W p l e R s m args below meth c H locs cells slots Q (F0 m pc ls (.int x :: .ref (ad t i) :: rest)) := by
  obtain ⟨L, f, h1, h2, h3, h4⟩ := hR
  subst hv
  obtain ⟨q0, hq⟩ := gl_at (f := f) (h3 t i ho).1
  rw [(h3 t i ho).2, he] at hq
  exact va_aldq hexec hb hK h1 q0 3 hq rfl hin hdg kk
theorem kw_aast (hexec : p.tables.exec = Jvm.exec) (hb : c.code = cc) (hK : en_K E s) (hR : kw E ok ad en A H) (hS : va_S A H0 H locs) (t i : Nat) {n v : Nat} {g : Nat → Option Nat} (ho : ok t i) (he : en t i = .inl (E.2.2.2.2, n, .inr (.inr (.inr (.inr g))))) (hr : va_Any "java/lang/Object" s H v) {x : Int32} (hin : vp_in x n) (hdg : decode cc pc = .ok (.aastore, 1))
    (en' : Nat → Nat → va_E) (he' : en' t i = .inl (E.2.2.2.2, n, .inr (.inr (.inr (.inr (va_up g x.toNatClampNeg (some v))))))) (hn' : ∀ u j, ok u j → ¬ (u = t ∧ j = i) → en' u j = en u j)
    (kk : ∀ (H1 : Heap) (locs1 : List Loc), kw E ok ad en' A H1 → va_S A H0 H1 locs1 → W p l e R s m args below meth c H1 locs1 cells slots Q (F0 m (pc + 1) ls rest)) : W p l e R s m args below meth c H locs cells slots Q (F0 m pc ls (.ref v :: .int x :: .ref (ad t i) :: rest)) := by
  obtain ⟨L, f, h1, h2, h3, h4⟩ := hR
  obtain ⟨q0, hq⟩ := gl_at (f := f) (h3 t i ho).1
  have hs := gl_set (e := .inl (E.2.2.2.2, n, .inr (.inr (.inr (.inr (va_up g x.toNatClampNeg (some v))))))) h2 (h3 t i ho).1 hq
  rw [(h3 t i ho).2, he] at hq
  refine va_astqM hexec hb hK h1 h2 hS q0 3 hq rfl hr hin hdg (fun H1 locs1 g1 g2 g3 => ?_)
  rw [hs] at g1 g2
  exact kk H1 locs1 ⟨L, _, g1, g2, kw_up ho h3 h4 he' hn', h4⟩ g3
theorem kw_aastN (hexec : p.tables.exec = Jvm.exec) (hb : c.code = cc) (hK : en_K E s) (hR : kw E ok ad en A H) (hS : va_S A H0 H locs) (t i : Nat) {n : Nat} {g : Nat → Option Nat} (ho : ok t i) (he : en t i = .inl (E.2.2.2.2, n, .inr (.inr (.inr (.inr g))))) {x : Int32} (hin : vp_in x n) (hdg : decode cc pc = .ok (.aastore, 1))
    (en' : Nat → Nat → va_E) (he' : en' t i = .inl (E.2.2.2.2, n, .inr (.inr (.inr (.inr (va_up g x.toNatClampNeg none)))))) (hn' : ∀ u j, ok u j → ¬ (u = t ∧ j = i) → en' u j = en u j)
    (kk : ∀ (H1 : Heap) (locs1 : List Loc), kw E ok ad en' A H1 → va_S A H0 H1 locs1 → W p l e R s m args below meth c H1 locs1 cells slots Q (F0 m (pc + 1) ls rest)) : W p l e R s m args below meth c H locs cells slots Q (F0 m pc ls (.null :: .int x :: .ref (ad t i) :: rest)) := by
  obtain ⟨L, f, h1, h2, h3, h4⟩ := hR
  obtain ⟨q0, hq⟩ := gl_at (f := f) (h3 t i ho).1
  have hs := gl_set (e := .inl (E.2.2.2.2, n, .inr (.inr (.inr (.inr (va_up g x.toNatClampNeg none)))))) h2 (h3 t i ho).1 hq
  rw [(h3 t i ho).2, he] at hq
  refine va_astqN hexec hb hK h1 h2 hS q0 3 hq rfl hin hdg (fun H1 locs1 g1 g2 g3 => ?_)
  rw [hs] at g1 g2
  exact kk H1 locs1 ⟨L, _, g1, g2, kw_up ho h3 h4 he' hn', h4⟩ g3
theorem kw_alen (hexec : p.tables.exec = Jvm.exec) (hb : c.code = cc) (hK : en_K E s) (hR : kw E ok ad en A H) (t i : Nat) {x : vp_A} (ho : ok t i) (he : en t i = .inl (E.2.2.2.2, x) ∨ en t i = .inl (E.2.1, x)) {v : Int32} (hv : Int32.ofNat x.1 = v) (hdg : decode cc pc = .ok (.arraylength, 1))
    (kk : W p l e R s m args below meth c H locs cells slots Q (F0 m (pc + 1) ls (.int v :: rest))) : W p l e R s m args below meth c H locs cells slots Q (F0 m pc ls (.ref (ad t i) :: rest)) := by
  obtain ⟨L, f, h1, h2, h3, h4⟩ := hR
  obtain ⟨q0, hq⟩ := gl_at (f := f) (h3 t i ho).1
  rw [(h3 t i ho).2] at hq
  rcases he with he | he
  · rw [he] at hq
    exact va_alen hexec hb hK h1 q0 3 hq rfl hv hdg kk
  · rw [he] at hq
    exact va_alen hexec hb hK h1 q0 0 hq rfl hv hdg kk
/-- a new key -/
theorem kw_push {a : Nat} {en' : Nat → Nat → va_E} {ad' : kw_A} {ok' : Nat → Nat → Prop} {L : List Nat} {f : Nat → va_E} {x : va_E} (hq : a ∉ L) (h3 : ∀ t i, ok t i → ad t i ∈ L ∧ f (ad t i) = en t i) (h4 : ∀ t i u j, ok t i → ok u j → ad t i = ad u j → t = u ∧ i = j) (hnew : ad' t i = a) (hen : en' t i = x) (hold : ∀ u j, ok' u j → ¬ (u = t ∧ j = i) → ok u j ∧ ad' u j = ad u j ∧ en' u j = en u j) :
    (∀ u j, ok' u j → ad' u j ∈ L ++ [a] ∧ (va_up f a x) (ad' u j) = en' u j) ∧ ∀ u j u' j', ok' u j → ok' u' j' → ad' u j = ad' u' j' → u = u' ∧ j = j' := by
  refine ⟨fun u j hj => ?_, fun u j u' j' hj hj' e => ?_⟩
  · by_cases c : u = t ∧ j = i
    · obtain ⟨rfl, rfl⟩ := c
      rw [hnew, va_up_self, hen]
      exact ⟨List.mem_append_right _ List.mem_cons_self, rfl⟩
    · obtain ⟨a1, a2, a3⟩ := hold u j hj c
      obtain ⟨b1, b2⟩ := h3 u j a1
      rw [a2, a3]
      refine ⟨List.mem_append_left _ b1, ?_⟩
      have hne : ad u j ≠ a := fun z => hq (by rw [← z]; exact b1)
      rw [va_up_ne _ _ hne, b2]
  · by_cases c : u = t ∧ j = i <;> by_cases c' : u' = t ∧ j' = i
    · exact ⟨c.1.trans c'.1.symm, c.2.trans c'.2.symm⟩
    · obtain ⟨a1, a2, a3⟩ := hold u' j' hj' c'
      obtain ⟨rfl, rfl⟩ := c
      rw [hnew, a2] at e
      exact absurd (e ▸ (h3 u' j' a1).1) hq
    · obtain ⟨a1, a2, a3⟩ := hold u j hj c
      obtain ⟨rfl, rfl⟩ := c'
      rw [hnew, a2] at e
      exact absurd (e.symm ▸ (h3 u j a1).1) hq
    · obtain ⟨a1, a2, a3⟩ := hold u j hj c
      obtain ⟨b1, b2, b3⟩ := hold u' j' hj' c'
      rw [a2, b2] at e
      exact h4 u j u' j' a1 b1 e
theorem kw_new (hexec : p.tables.exec = Jvm.exec) (hb : c.code = cc) {own C : String} {T : u_T} {N ci index : Nat} (hts : ∀ w ∈ lw_all, w.before args s = true) (hin : ∀ w ∈ u_ws C T N, w ∈ lw_all) (ty : Nat → FieldType) (hty : ∀ k, k < N → parseFieldDescriptor (T k).2.2.1 = some (ty k)) (hown : s.vm.findClass own = some m.cls) (hcl : (Cond.classLink own index C).before args s = true) (hinst : (Cond.instantiable C N).before args s = true) (hini : (Cond.initialized C).before args s = true)
    (hK : en_K E s) (hR : kw E ok ad en A H) (hS : va_S A H0 H locs) (hA : ∀ q, H0.size ≤ q → A q) (hc : vcl[ci]? = some (C, T, N)) {fs : List Value} (hfs : ∀ j, j < N → defaultValue (ty j) = vp_V fs j) (hcells : cells + 1 ≤ R.cells) (hslots : slots + N ≤ R.slots) (hdg : decode cc pc = .ok (.new index, 3)) (t i : Nat) (hno : ¬ ok t i)
    (kk : ∀ (q : Nat) (H1 : Heap), q = H.size → H1.size = H.size + 1 → kw E (fun u j => (u = t ∧ j = i) ∨ ok u j) (fun u j => if u = t ∧ j = i then q else ad u j) (fun u j => if u = t ∧ j = i then .inr (ci, fs) else en u j) A H1 → va_S A H0 H1 locs →
      W p l e R s m args below meth c H1 locs (cells + 1) (slots + N) Q (F0 m (pc + 3) ls (.ref q :: rest))) : W p l e R s m args below meth c H locs cells slots Q (F0 m pc ls rest) := by
  obtain ⟨L, f, h1, h2, h3, h4⟩ := hR
  have hKn := hK.1 ci _ hc
  refine W.newcK hexec hb hown hcl hinst hini rfl hdg hcells hslots hKn.2.1 rfl fun H1 kC hkC e1 z1 o1 => ?_
  have hq : H.size ∉ L := va_pl_fresh (X := []) h1 (Nat.le_refl _)
  have hk : ∀ (k : Nat) (x : Nat × va_E), (va_pl L f)[k]? = some x → H1[x.1]? = H[x.1]? := fun k x hx => o1 x.1 ((h1 k x hx).lt)
  have g1 : va_P E.1 vcl (va_pl L f ++ [(H.size, .inr (ci, fs))]) H1 := (h1.kept hk).app (fun k x hx => by
    have hz : k < 1 := (List.getElem?_eq_some_iff.mp hx).1
    rw [show k = 0 by omega] at hx
    cases hx
    exact ⟨_, hc, (u_born ty hts hin hKn hkC e1 hty).to hfs⟩)
  have g2 : va_D A (va_pl L f ++ [(H.size, .inr (ci, fs))]) := h2.push h1 rfl (hA _ hS.1)
  rw [va_pl_push hq] at g1 g2
  obtain ⟨a1, a2⟩ := kw_push (t := t) (i := i) (a := H.size) (x := .inr (ci, fs)) (ok' := fun u j => (u = t ∧ j = i) ∨ ok u j) (ad' := fun u j => if u = t ∧ j = i then H.size else ad u j) (en' := fun u j => if u = t ∧ j = i then .inr (ci, fs) else en u j) hq h3 h4 (by simp) (by simp) (fun u j ho hc => ⟨ho.resolve_left hc, if_neg hc, if_neg hc⟩)
  exact kk H.size H1 rfl z1 ⟨_, _, g1, g2, a1, a2⟩ ⟨Nat.le_trans hS.1 (by omega), fun x h1 h2 => (o1 x (Nat.lt_of_lt_of_le h1 hS.1)).trans (hS.2.1 x h1 h2), hS.2.2⟩
end KW
