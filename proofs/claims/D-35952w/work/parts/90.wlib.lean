/-! the law's wrappers: the component's world with the long array 'out' beside it (key (9, 0)); calls that answer or throw; catching -/
theorem nk_x {E : en_T} {ok : Nat → Nat → Prop} {ad : kw_A} {en : Nat → Nat → va_E} {x : va_E} {q : Nat} {A : Nat → Prop} {H : Heap} (h9 : ∀ j, ¬ ok 9 j) (h : kw E (nk_ok ok) (nk_ad q ad) (nk_en x en) A H) : kw E ok ad en (fun a => A a ∧ a ≠ q) H := by
  obtain ⟨L, f, h1, h2, h3, h4⟩ := h
  have w : ∀ u j, ok u j → u ≠ 9 ∧ nk_ok ok u j ∧ nk_ad q ad u j = ad u j ∧ nk_en x en u j = en u j := fun u j ho => by
    have e : u ≠ 9 := fun z => h9 j (z ▸ ho)
    have e9 := nk_n e
    refine ⟨e, ?_, ?_, ?_⟩
    · show bif Nat.beq u 9 then _ else _
      rw [e9]; exact ho
    · show (bif Nat.beq u 9 then _ else _) = _
      rw [e9]; rfl
    · show (bif Nat.beq u 9 then _ else _) = _
      rw [e9]; rfl
  have hn := pl_nd h2
  refine ⟨L.filter (fun a => decide (a ≠ q)), f, ?_, pl_dn (List.Pairwise.filter _ hn) ?_, ?_, ?_⟩
  · intro k x hx
    obtain ⟨a, b⟩ := pl_mem hx
    obtain ⟨q0, hq⟩ := gl_at (f := f) (List.mem_filter.mp a).1
    have := h1 q0 _ hq
    rw [← b] at this
    exact this
  · intro a ha
    obtain ⟨b, c⟩ := List.mem_filter.mp ha
    obtain ⟨q0, hq⟩ := gl_at (f := f) b
    exact ⟨h2.2 q0 _ hq, of_decide_eq_true c⟩
  · intro u j ho
    obtain ⟨a, b, c, d⟩ := w u j ho
    obtain ⟨x, y⟩ := h3 u j b
    rw [c] at x y
    rw [d] at y
    refine ⟨List.mem_filter.mpr ⟨x, decide_eq_true (fun z => ?_)⟩, y⟩
    exact a (h4 u j 9 0 b rfl (by rw [c, z]; rfl)).1
  · intro u j v k ho hv e
    obtain ⟨a, b, c, d⟩ := w u j ho
    obtain ⟨a', b', c', d'⟩ := w v k hv
    exact h4 u j v k b b' (by rw [c, c', e])
/-- the long array's cell -/
def oc_x (E : en_T) (v : Nat → Int64) : va_E := .inl (E.2.2.2.1, (1, .inr (.inl v)))
theorem nk_join {E : en_T} {ok ok' : Nat → Nat → Prop} {ad ad' : kw_A} {en en' : Nat → Nat → va_E} {v : Nat → Int64} {q : Nat} {A : Nat → Prop} {H H1 : Heap} (h : kw E (nk_ok ok) (nk_ad q ad) (nk_en (oc_x E v) en) A H) (hn : kw E ok' ad' en' (fun a => A a ∧ a ≠ q) H1) (hk : ∀ x : Nat, x < H.size → ¬ (A x ∧ x ≠ q) → H1[x]? = H[x]?) : kw E (nk_ok ok') (nk_ad q ad') (nk_en (oc_x E v) en') A H1 := by
  obtain ⟨a1, a2, a3⟩ := h.at (t := 9) (i := 0) rfl
  have a1 : va_at E.1 vcl (q, oc_x E v) H := a1
  have a2 : A q := a2
  have a3 : q < H.size := a3
  obtain ⟨L, f, h1, h2, h3, h4⟩ := hn
  have hq : q ∉ L := fun z => by
    obtain ⟨q0, hq⟩ := gl_at (f := f) z
    exact (h2.2 q0 _ hq).2 rfl
  have e1 : va_at E.1 vcl (q, oc_x E v) H1 := by
    have : va_P E.1 vcl [(q, oc_x E v)] H1 := va_P.kept (H := H) (fun k x hx => by
      have hz : k < 1 := (List.getElem?_eq_some_iff.mp hx).1
      rw [show k = 0 by omega] at hx
      cases hx
      exact a1) (fun k x hx => by
      have hz : k < 1 := (List.getElem?_eq_some_iff.mp hx).1
      rw [show k = 0 by omega] at hx
      cases hx
      exact hk q a3 (fun z => z.2 rfl))
    exact this 0 _ rfl
  have g1 : va_P E.1 vcl (va_pl L f ++ [(q, oc_x E v)]) H1 := h1.app (fun k x hx => by
    have hz : k < 1 := (List.getElem?_eq_some_iff.mp hx).1
    rw [show k = 0 by omega] at hx
    cases hx
    exact e1)
  rw [va_pl_push hq] at g1
  obtain ⟨b1, b2⟩ := kw_push (t := 9) (i := 0) (a := q) (x := oc_x E v) (ok' := fun u j => (u = 9 ∧ j = 0) ∨ ok' u j) (ad' := fun u j => if u = 9 ∧ j = 0 then q else ad' u j) (en' := fun u j => if u = 9 ∧ j = 0 then oc_x E v else en' u j) hq h3 h4 (by simp) (by simp) (fun u j ho hc => ⟨ho.resolve_left hc, if_neg hc, if_neg hc⟩)
  refine nk_mk ⟨_, _, g1, pl_dn ?_ ?_, b1, b2⟩
  · refine List.nodup_append.mpr ⟨pl_nd h2, by simp, fun a ha b hb e => ?_⟩
    rw [List.mem_singleton] at hb
    exact hq (by rw [← hb, ← e]; exact ha)
  · intro a ha
    rcases List.mem_append.mp ha with c | c
    · obtain ⟨q0, hq⟩ := gl_at (f := f) c
      exact (h2.2 q0 _ hq).1
    · rw [List.mem_singleton] at c
      rw [c]; exact a2
theorem nk_new {E : en_T} {ok : Nat → Nat → Prop} {ad : kw_A} {en : Nat → Nat → va_E} {x : va_E} {q : Nat} {A : Nat → Prop} {H H0 : Heap} (hA : ∀ a, H0.size ≤ a → A a) (hz : H0.size ≤ H.size) (h : kw E (nk_ok ok) (nk_ad q ad) (nk_en x en) A H) : ∀ a, H.size ≤ a → A a ∧ a ≠ q := fun a ha => by
  have a3 : q < H.size := (h.at (t := 9) (i := 0) rfl).2.2
  exact ⟨hA a (Nat.le_trans hz ha), by omega⟩
abbrev xo (E : en_T) (C : ex_C) (g : kw_A) (h : xh_T) (S : gs_T) (o : Nat) (v : Nat → Int64) (A : Nat → Prop) (H : Heap) : Prop := kw E (nk_ok (xok S)) (nk_ad o g) (nk_en (oc_x E v) (xen E C g h S)) A H
/-- the three exceptions are not one another -/
def nc_K (U : State) : Prop := va_Nc "java/lang/IllegalArgumentException" "java/lang/IndexOutOfBoundsException" U ∧ va_Nc "java/lang/IllegalStateException" "java/lang/IndexOutOfBoundsException" U ∧ va_Nc "java/lang/IllegalStateException" "java/lang/IllegalArgumentException" U
theorem nc_K.moved {u U : State} (hvm : u.vm.Alike U.vm) (h : nc_K u) : nc_K U := ⟨va_Nc.moved hvm h.1, va_Nc.moved hvm h.2.1, va_Nc.moved hvm h.2.2⟩
def cpw (E : en_T) (C : ex_C) (A : Nat → Prop) (sz : Nat) (av : List Value) (X : Heap → Prop) (P : Prop) : Array Value → State → Prop := va_Pc av (fun U => (xe E C A sz U ∧ nc_K U) ∧ X U.heap ∧ P)
theorem cpw_blind {E : en_T} {C : ex_C} {A : Nat → Prop} {sz : Nat} {av : List Value} {X : Heap → Prop} {P : Prop} : FrameBlind (cpw E C A sz av X P) := by
  intro a U g mk h
  obtain ⟨h0, ⟨⟨h1, h2, h3, h4⟩, h7⟩, h5, h6⟩ := h
  exact ⟨h0, ⟨⟨h1, ex_K.calling g mk a h2, ex_H.moved (u := U) (U := U.calling g mk a) (Vm.Alike.refl U.vm) h3, h4⟩, nc_K.moved (u := U) (U := U.calling g mk a) (Vm.Alike.refl U.vm) h7⟩, h5, h6⟩
theorem cpw_now {E : en_T} {C : ex_C} {A A0 : Nat → Prop} {av : List Value} {X : Heap → Prop} {P : Prop} {s : State} {H : Heap} {locs : List Loc} (hK : ex_K E C s) (hN : nc_K s) (hZ : ex_H C A s s.heap) (hA : ∀ a, s.heap.size ≤ a → A a) (hAA : ∀ a, A0 a → A a) (hS : va_S A0 s.heap H locs) (hX : X H) (hP : P) (U : State) (hU : U.heap = H) (hW : s.WarmedH U.vm) : cpw E C A H.size av X P av.toArray U := by
  refine ⟨rfl, ⟨⟨by rw [hU], ex_K.warm hW hK, ?_, fun a h => hA a (Nat.le_trans hS.1 h)⟩, hN.moved hW.alike⟩, by rw [hU]; exact hX, hP⟩
  rw [hU]
  exact ex_H.moved hW.alike (hZ.kept (fun a h1 h2 => hS.2.1 a h1 (fun z => h2 (hAA a z))))
/-- the start of a wrapper -/
theorem cw_start {l : Launch} {y : MethodName} {cc : ByteArray} {maxL : Nat} {ret : Option FieldType} {hh : List (Nat × Nat × Nat × Nat)} {rm : Room} {E : en_T} {C : ex_C} {A A1 : Nat → Prop} {sz mc ms : Nat} {av : List Value} {X : Heap → Prop} {P : Prop} {Qc : Array Value → State → Outcome → State → Prop} {XC : String → State → State → Prop} (hy : plainName y.cls = true) (hlen : (lg_sl av).length ≤ maxL)
    (body : ∀ (p : Program) (e : Env) (s : State) (m : MethodId) (below : List Frame) (meth : Method) (c : Code) (ls : Array Slot), p.tables.exec = Jvm.exec → c.code = cc → meth.sig.returnType = ret → meth.locks = false → c.maxLocals = maxL → s.vm.findClass y.cls = some m.cls → c.exceptionTable.toList = tableOf hh → (∀ w ∈ lw_all, w.before av.toArray s = true) → sz = s.heap.size → ex_K E C s → nc_K s → ex_H C A s s.heap → (∀ a, s.heap.size ≤ a → A a) → X s.heap → P → lv_has ls maxL (lv_args 0 av) →
      cx_G p l e rm s m av below meth c A1 Qc XC mc ms s.heap [] 0 0 (F0 m 0 ls [])) :
    vx_Met l y (wsW_ y cc maxL ret hh) rm (cpw E C A sz av X P) Qc XC mc ms A1 := by
  refine vx_ofWH (cc := cc) (maxL := maxL) (ret := ret) (hh := hh) hy rfl ?_
  intro p e s m args below meth c s₁ B hml hv
  obtain ⟨rfl, ⟨⟨h1, h2, h3, h4⟩, h7⟩, h5, h6⟩ := hv
  have hts := atoms_spec (ws := wsW_ y cc maxL ret hh) B.pre
  have hown : s.vm.findClass y.cls = some m.cls := findClass_of_methodNamed B.named
  have hl := lv_entry av hlen
  rw [lg_entry_eq]
  subst h1
  exact body p e s m below meth c _ B.exec B.bytes B.returns B.notSynchronized hml hown (vx_table (x := y) B (hts _ List.mem_cons_self)) (fun w h => hts w (List.mem_cons_of_mem _ h)) rfl h2 h7 h3 h4 h5 h6 hl
section WV
variable {p : Program} {l : Launch} {e : Env} {R : Room} {s : State} {m : MethodId} {args : Array Value} {below : List Frame} {meth : Method} {c : Code} {H : Heap} {locs : List Loc} {cells slots : Nat} {Q : State → Prop}
variable {cc bytes : ByteArray} {pc nL maxL index n mc ms : Nat} {ls : Array Slot} {rest st0 As : List Value} {E : en_T} {C : ex_C} {A A0 A1 A2 : Nat → Prop} {y : MethodName} {rm : Room} {ret : Option FieldType} {P : Prop} {own K : String} {X : Heap → Prop} {b x0 : Nat} {g : kw_A} {h : xh_T} {S : gs_T} {H0 : Heap}
/-- a call of a public method of Lostroom's, that answers or throws -/
theorem wq_V {α : Type} {vl : α → Int32} {f : String ⊕ (α × gs_T)} (hK : ex_K E C s) (hZ : ex_H C A s s.heap) (hAA : ∀ a, A0 a → A a) (hS : va_S A0 s.heap H locs) (hA2 : ∀ a, A2 a → A a) (hA20 : ∀ a, A2 a → A0 a) (hA2n : ∀ a, H.size ≤ a → A2 a) (hX : X H) (hP : P)
    (hM : vx_Met l y (ws_ y bytes maxL ret) rm (cpc E C A2 H.size (.ref b :: As) X P) (xq_Q vl E C x0 A2 f) (xq_X E C g h S A2 f) mc ms A2)
    (Sx : CallFix p m c cc nL s args lw_all own) (cw : CallW R s args own K index y bytes maxL ret (ws_ y bytes maxL ret) rm mc ms n) (hrecv : ∃ cell : Cell, H[b]? = some cell ∧ cell.vm.isStatics = false ∧ s.vm.findClass K = some cell.cls)
    (hn : As.length = n) (hsize : ls.size = nL) (hst : st0 = As.reverse ++ .ref b :: rest) (hroom : (rest.map fun v => v.category).sum ≤ 8) (hdg : decode cc pc = .ok (.invokevirtual index, 3)) (hf : cells + mc ≤ R.cells ∧ slots + ms ≤ R.slots)
    (kx : ∀ (Xn : String) (ce : Cell) (q9 : Addr) (H1 : Heap) (locs1 : List Loc), f = .inl Xn → xw E C g h S A2 H1 → H.size ≤ H1.size → (∀ q : Nat, q < H.size → ¬ A2 q → H1[q]? = H[q]?) → va_S A0 s.heap H1 locs1 → H1[q9]? = some ce → ce.vm = .none → s.vm.findClass Xn = some ce.cls → vx_W p l e R s m args below meth c H1 locs1 (cells + mc) (slots + ms) Q (F0 m pc ls rest) q9)
    (kk : ∀ (r : α) (S' : gs_T) (g' : kw_A) (h' : xh_T) (H1 : Heap) (locs1 : List Loc), f = .inr (r, S') → g' 0 0 = x0 → xh C g' h' S' → xw E C g' h' S' A2 H1 → H.size ≤ H1.size → (∀ q : Nat, q < H.size → ¬ A2 q → H1[q]? = H[q]?) → va_S A0 s.heap H1 locs1 → W p l e R s m args below meth c H1 locs1 (cells + mc) (slots + ms) Q (F0 m (pc + 3) ls (.int (vl r) :: rest))) : W p l e R s m args below meth c H locs cells slots Q (F0 m pc ls st0) := by
  intro T hT X9
  rcases vx_runV (As := As) (rest := rest) Sx hM cw ⟨cpc_blind, hrecv, fun U hU hW => ⟨rfl, ⟨by rw [hU], ex_K.warm hW hK, by
    rw [hU]
    exact ex_H.moved hW.alike ((hZ.kept (fun a h1 h2 => hS.2.1 a h1 (fun z => h2 (hAA a z)))).narrow hA2), hA2n⟩, by rw [hU]; exact hX, hP⟩⟩ rfl hn hsize hst (lv_room hroom) hdg hf T hT X9 with ⟨v, st₀, t, T', L, h0, X', hL, e1, e2, ⟨⟨r, S', h1, h2, g', h', h3, h4, h5⟩, hF⟩, st⟩ | ⟨q, st₀, t, T', L, Xn, ce, h0, X', hL, e1, e2, ⟨⟨hp, hb⟩, hF⟩, hce, hcv, hcl, st⟩
  · cases h2
    obtain ⟨k1, k2, k3⟩ := vx_keep h0 e1 hS (fun q _ h => hA20 q h) hA20 hL hF
    obtain ⟨t2, a1, b1⟩ := kk r S' g' h' T'.heap (locs ++ L) h1 h3 h4 (by rw [e1]; exact h5) k1 k2 k3 T' rfl X'
    exact ⟨t2, st t2 a1, b1⟩
  · obtain ⟨k1, k2, k3⟩ := vx_keep h0 e1 hS (fun q _ h => hA20 q h) hA20 hL hF
    obtain ⟨t2, a1, b1⟩ := kx Xn ce q T'.heap (locs ++ L) hp (by rw [e1]; exact hb) k1 k2 k3 (by rw [e1]; exact hce) hcv hcl T' rfl X'
    exact ⟨t2, st.trans a1, b1⟩
/-- lastore at out[0] -/
theorem xo_last {v : Nat → Int64} {w : Int64} {o : Nat} (hexec : p.tables.exec = Jvm.exec) (hb : c.code = cc) (hK : en_K E s) (hR : xo E C g h S o v A H) (hS : va_S A H0 H locs) (hdg : decode cc pc = .ok (.lastore, 1))
    (kk : ∀ (H1 : Heap) (locs1 : List Loc) (v' : Nat → Int64), v' 0 = w → xo E C g h S o v' A H1 → va_S A H0 H1 locs1 → W p l e R s m args below meth c H1 locs1 cells slots Q (F0 m (pc + 1) ls rest)) : W p l e R s m args below meth c H locs cells slots Q (F0 m pc ls (.long w :: .int 0 :: .ref o :: rest)) := by
  obtain ⟨L, f, h1, h2, h3, h4⟩ := hR
  have h9 := h3 9 0 rfl
  have ha : o ∈ L := h9.1
  have he : f o = oc_x E v := h9.2
  obtain ⟨q0, hq⟩ := gl_at (f := f) ha
  have hs := gl_set (e := oc_x E (vp_updL v 0 w)) h2 ha hq
  rw [he] at hq
  refine va_last (n := 1) (f := v) (i := 0) (x := w) hexec hb hK h1 h2 hS q0 2 hq rfl (vp_in_nI (n := 0) (N := 1) (by decide) (by decide)) hdg (fun H1 locs1 g1 g2 g3 => ?_)
  have e0 : (0 : Int32).toNatClampNeg = 0 := rfl
  rw [e0] at g1 g2
  change va_P E.1 vcl ((va_pl L f).set q0 (o, oc_x E (vp_updL v 0 w))) H1 at g1
  change va_D A ((va_pl L f).set q0 (o, oc_x E (vp_updL v 0 w))) at g2
  rw [hs] at g1 g2
  exact kk H1 locs1 _ (by simp [vp_updL]) ⟨L, _, g1, g2, kw_up (ok := nk_ok (xok S)) (ad := nk_ad o g) (t := 9) (i := 0) (e := oc_x E (vp_updL v 0 w)) rfl h3 h4 rfl nk_hn, h4⟩ g3
theorem xo_lald {v : Nat → Int64} {o : Nat} (hexec : p.tables.exec = Jvm.exec) (hb : c.code = cc) (hK : en_K E s) (hR : xo E C g h S o v A H) (hdg : decode cc pc = .ok (.laload, 1))
    (kk : W p l e R s m args below meth c H locs cells slots Q (F0 m (pc + 1) ls (.long (v 0) :: rest))) : W p l e R s m args below meth c H locs cells slots Q (F0 m pc ls (.int 0 :: .ref o :: rest)) := by
  obtain ⟨L, f, h1, h2, h3, h4⟩ := hR
  have h9 := h3 9 0 rfl
  have ha : o ∈ L := h9.1
  have he : f o = oc_x E v := h9.2
  obtain ⟨q0, hq⟩ := gl_at (f := f) ha
  rw [he] at hq
  exact va_lald (n := 1) (f := v) (i := 0) hexec hb hK h1 q0 2 hq rfl (vp_in_nI (n := 0) (N := 1) (by decide) (by decide)) hdg kk
theorem lv_lcmpE (hexec : p.tables.exec = Jvm.exec) (hb : c.code = cc) {x : Int64} (hdg : decode cc pc = .ok (.lcmp, 1))
    (k : W p l e R s m args below meth c H locs cells slots Q (F0 m (pc + 1) ls (.int 0 :: rest))) : W p l e R s m args below meth c H locs cells slots Q (F0 m pc ls (.long x :: .long x :: rest)) := by
  intro T hT X
  obtain ⟨t, a, b⟩ := k T hT X
  refine ⟨t, ?_, b⟩
  jvm_step X.here [X.here.top, hexec, hb, hdg]
  exact a
end WV
