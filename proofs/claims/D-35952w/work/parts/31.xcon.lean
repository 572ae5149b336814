/-! contracts of methods that answer a known value; their calls -/
def cq_Q (v : Option Value) (B : Heap → Prop) (A1 : Nat → Prop) : Array Value → State → Outcome → State → Prop := fun _ st oc t => (oc = .returned v ∧ B t.heap) ∧ va_F A1 st t
/-- .. or a reference to a cell that is found by the way -/
def cq_E (B : Nat → Heap → Prop) (A1 : Nat → Prop) : Array Value → State → Outcome → State → Prop := fun _ st oc t => (∃ a : Nat, oc = .returned (some (.ref a)) ∧ B a t.heap) ∧ va_F A1 st t
def xe (E : en_T) (C : ex_C) (A : Nat → Prop) (sz : Nat) (U : State) : Prop := U.heap.size = sz ∧ ex_K E C U ∧ ex_H C A U U.heap ∧ ∀ a, sz ≤ a → A a
def cpc (E : en_T) (C : ex_C) (A : Nat → Prop) (sz : Nat) (av : List Value) (X : Heap → Prop) (P : Prop) : Array Value → State → Prop := va_Pc av (fun U => xe E C A sz U ∧ X U.heap ∧ P)
abbrev nw_A (sz : Nat) : Nat → Prop := fun a => sz ≤ a
abbrev cq_G (p : Program) (l : Launch) (e : Env) (R : Room) (s : State) (m : MethodId) (av : List Value) (below : List Frame) (meth : Method) (c : Code) (A1 : Nat → Prop) (Qc : Array Value → State → Outcome → State → Prop) (mc ms : Nat) (H : Heap) (locs : List Loc) (cells slots : Nat) (g : JFrame) : Prop := W p l e R s m av.toArray below meth c H locs cells slots (MQ below Qc av.toArray s mc ms A1) g
theorem cpc_blind {E : en_T} {C : ex_C} {A : Nat → Prop} {sz : Nat} {av : List Value} {X : Heap → Prop} {P : Prop} : FrameBlind (cpc E C A sz av X P) := by
  intro a U g mk h
  obtain ⟨h0, ⟨h1, h2, h3, h4⟩, h5, h6⟩ := h
  exact ⟨h0, ⟨h1, ex_K.calling g mk a h2, ex_H.moved (u := U) (U := U.calling g mk a) (Vm.Alike.refl U.vm) h3, h4⟩, h5, h6⟩
theorem cpc_now {E : en_T} {C : ex_C} {A A0 : Nat → Prop} {av : List Value} {X : Heap → Prop} {P : Prop} {s : State} {H : Heap} {locs : List Loc} (hK : ex_K E C s) (hZ : ex_H C A s s.heap) (hA : ∀ a, s.heap.size ≤ a → A a) (hAA : ∀ a, A0 a → A a) (hS : va_S A0 s.heap H locs) (hX : X H) (hP : P) (U : State) (hU : U.heap = H) (hW : s.WarmedH U.vm) : cpc E C A H.size av X P av.toArray U := by
  refine ⟨rfl, ⟨by rw [hU], ex_K.warm hW hK, ?_, fun a h => hA a (Nat.le_trans hS.1 h)⟩, by rw [hU]; exact hX, hP⟩
  rw [hU]
  exact ex_H.moved hW.alike (hZ.kept (fun a h1 h2 => hS.2.1 a h1 (fun z => h2 (hAA a z))))
section CQ
variable {p : Program} {l : Launch} {e : Env} {R : Room} {s : State} {m : MethodId} {args : Array Value} {below : List Frame} {meth : Method} {c : Code} {H : Heap} {locs : List Loc} {cells slots : Nat} {Q : State → Prop}
variable {pc : Nat} {ls : Array Slot} {rest st0 : List Value} {a : Array Value} {A0 A1 : Nat → Prop} {H0 : Heap} {mc ms : Nat} {free : Addr → Prop} {v : Option Value} {B : Heap → Prop}
theorem cq_call (hr : va_Run p l e R s m args below meth c H locs cells slots mc ms (F0 m pc ls st0) rest (cq_Q v B A1 a) free) (hS : va_S A0 H0 H locs) (hA : ∀ q, q < H.size → A1 q → A0 q) (hf : ∀ q, free q → A0 q)
    (kk : ∀ (H1 : Heap) (locs1 : List Loc), B H1 → H.size ≤ H1.size → (∀ q : Nat, q < H.size → ¬ A1 q → H1[q]? = H[q]?) → va_S A0 H0 H1 locs1 → W p l e R s m args below meth c H1 locs1 (cells + mc) (slots + ms) Q (F0 m (pc + 3) ls (v.toList ++ rest))) : W p l e R s m args below meth c H locs cells slots Q (F0 m pc ls st0) := by
  intro T hT X
  obtain ⟨v9, st₀, t, T', L, h0, X', hL, e1, e2, ⟨⟨hv, hb⟩, hF⟩, st⟩ := hr T hT X
  cases hv
  obtain ⟨k1, k2, k3⟩ := vx_keep h0 e1 hS hA hf hL hF
  obtain ⟨t2, a1, b1⟩ := kk T'.heap (locs ++ L) (by rw [e1]; exact hb) k1 k2 k3 T' rfl X'
  exact ⟨t2, st t2 a1, b1⟩
theorem cq_call5 (hr : va_Run5 p l e R s m args below meth c H locs cells slots mc ms (F0 m pc ls st0) rest (cq_Q v B A1 a) free) (hS : va_S A0 H0 H locs) (hA : ∀ q, q < H.size → A1 q → A0 q) (hf : ∀ q, free q → A0 q)
    (kk : ∀ (H1 : Heap) (locs1 : List Loc), B H1 → H.size ≤ H1.size → (∀ q : Nat, q < H.size → ¬ A1 q → H1[q]? = H[q]?) → va_S A0 H0 H1 locs1 → W p l e R s m args below meth c H1 locs1 (cells + mc) (slots + ms) Q (F0 m (pc + 5) ls (v.toList ++ rest))) : W p l e R s m args below meth c H locs cells slots Q (F0 m pc ls st0) := by
  intro T hT X
  obtain ⟨v9, st₀, t, T', L, h0, X', hL, e1, e2, ⟨⟨hv, hb⟩, hF⟩, st⟩ := hr T hT X
  cases hv
  obtain ⟨k1, k2, k3⟩ := vx_keep h0 e1 hS hA hf hL hF
  obtain ⟨t2, a1, b1⟩ := kk T'.heap (locs ++ L) (by rw [e1]; exact hb) k1 k2 k3 T' rfl X'
  exact ⟨t2, st t2 a1, b1⟩
theorem cq_callE {B : Nat → Heap → Prop} (hr : va_Run p l e R s m args below meth c H locs cells slots mc ms (F0 m pc ls st0) rest (cq_E B A1 a) free) (hS : va_S A0 H0 H locs) (hA : ∀ q, q < H.size → A1 q → A0 q) (hf : ∀ q, free q → A0 q)
    (kk : ∀ (ra : Nat) (H1 : Heap) (locs1 : List Loc), B ra H1 → H.size ≤ H1.size → (∀ q : Nat, q < H.size → ¬ A1 q → H1[q]? = H[q]?) → va_S A0 H0 H1 locs1 → W p l e R s m args below meth c H1 locs1 (cells + mc) (slots + ms) Q (F0 m (pc + 3) ls (.ref ra :: rest))) : W p l e R s m args below meth c H locs cells slots Q (F0 m pc ls st0) := by
  intro T hT X
  obtain ⟨v9, st₀, t, T', L, h0, X', hL, e1, e2, ⟨⟨ra, hv, hb⟩, hF⟩, st⟩ := hr T hT X
  cases hv
  obtain ⟨k1, k2, k3⟩ := vx_keep h0 e1 hS hA hf hL hF
  obtain ⟨t2, a1, b1⟩ := kk ra T'.heap (locs ++ L) (by rw [e1]; exact hb) k1 k2 k3 T' rfl X'
  exact ⟨t2, st t2 a1, b1⟩
theorem cq_callE5 {B : Nat → Heap → Prop} (hr : va_Run5 p l e R s m args below meth c H locs cells slots mc ms (F0 m pc ls st0) rest (cq_E B A1 a) free) (hS : va_S A0 H0 H locs) (hA : ∀ q, q < H.size → A1 q → A0 q) (hf : ∀ q, free q → A0 q)
    (kk : ∀ (ra : Nat) (H1 : Heap) (locs1 : List Loc), B ra H1 → H.size ≤ H1.size → (∀ q : Nat, q < H.size → ¬ A1 q → H1[q]? = H[q]?) → va_S A0 H0 H1 locs1 → W p l e R s m args below meth c H1 locs1 (cells + mc) (slots + ms) Q (F0 m (pc + 5) ls (.ref ra :: rest))) : W p l e R s m args below meth c H locs cells slots Q (F0 m pc ls st0) := by
  intro T hT X
  obtain ⟨v9, st₀, t, T', L, h0, X', hL, e1, e2, ⟨⟨ra, hv, hb⟩, hF⟩, st⟩ := hr T hT X
  cases hv
  obtain ⟨k1, k2, k3⟩ := vx_keep h0 e1 hS hA hf hL hF
  obtain ⟨t2, a1, b1⟩ := kk ra T'.heap (locs ++ L) (by rw [e1]; exact hb) k1 k2 k3 T' rfl X'
  exact ⟨t2, st t2 a1, b1⟩
end CQ
/-- the start of a body -/
theorem cq_start {l : Launch} {y : MethodName} {cc : ByteArray} {maxL : Nat} {ret : Option FieldType} {rm : Room} {E : en_T} {C : ex_C} {A A1 : Nat → Prop} {sz mc ms : Nat} {av : List Value} {X : Heap → Prop} {P : Prop} {Qc : Array Value → State → Outcome → State → Prop} (hy : plainName y.cls = true) (hlen : (lg_sl av).length ≤ maxL)
    (body : ∀ (p : Program) (e : Env) (s : State) (m : MethodId) (below : List Frame) (meth : Method) (c : Code) (ls : Array Slot), p.tables.exec = Jvm.exec → c.code = cc → meth.sig.returnType = ret → meth.locks = false → c.maxLocals = maxL → s.vm.findClass y.cls = some m.cls → meth.name = y.name → (∀ w ∈ lw_all, w.before av.toArray s = true) → sz = s.heap.size → ex_K E C s → ex_H C A s s.heap → (∀ a, s.heap.size ≤ a → A a) → X s.heap → P → lv_has ls maxL (lv_args 0 av) →
      cq_G p l e rm s m av below meth c A1 Qc mc ms s.heap [] 0 0 (F0 m 0 ls [])) :
    Met l y (ws_ y cc maxL ret) rm (cpc E C A sz av X P) Qc mc ms A1 := by
  refine Met.ofW (cc := cc) (maxL := maxL) (ret := ret) hy rfl ?_
  intro p e s m args below meth c s₁ B hml hv
  obtain ⟨rfl, ⟨h1, h2, h3, h4⟩, h5, h6⟩ := hv
  have hts := atoms_spec (ws := ws_ y cc maxL ret) B.pre
  have hown : s.vm.findClass y.cls = some m.cls := findClass_of_methodNamed B.named
  have hl := lv_entry av hlen
  rw [lg_entry_eq]
  subst h1
  exact body p e s m below meth c _ B.exec B.bytes B.returns B.notSynchronized hml hown (name_of_methodNamed B.named B.method).1 (fun w h => hts w (List.mem_cons_of_mem _ h)) rfl h2 h3 h4 h5 h6 hl
theorem nw_S {s : State} {H : Heap} {locs : List Loc} {A : Nat → Prop} (h : va_S (nw_A s.heap.size) s.heap H locs) (hA : ∀ a, s.heap.size ≤ a → A a) : va_S A s.heap H locs := ⟨h.1, fun q h1 h2 => h.2.1 q h1 (fun z => h2 (hA q z)), fun q hq => hA _ (h.2.2 q hq)⟩
/-- what was there at the start is there: readers -/
theorem nw_old {s : State} {H : Heap} {locs : List Loc} (h : va_S (nw_A s.heap.size) s.heap H locs) : ∀ q : Nat, q < s.heap.size → H[q]? = s.heap[q]? := fun q hq => h.2.1 q hq (fun z => absurd hq (Nat.not_lt.mpr z))
section RD
variable {p : Program} {l : Launch} {e : Env} {R : Room} {s : State} {m : MethodId} {args : Array Value} {below : List Frame} {meth : Method} {c : Code} {H : Heap} {locs : List Loc} {cells slots : Nat} {Q : State → Prop}
variable {cc bytes : ByteArray} {pc nL maxL index n mc ms : Nat} {ls : Array Slot} {rest st0 As : List Value} {E : en_T} {C : ex_C} {A A0 A1 : Nat → Prop} {y : MethodName} {rm : Room} {ret : Option FieldType} {P : Prop} {own K : String} {X : Heap → Prop} {v : Option Value} {B : Heap → Prop} {b : Nat}
/-- calls by an object -/
theorem cq_V (hK : ex_K E C s) (hZ : ex_H C A s s.heap) (hA : ∀ a, s.heap.size ≤ a → A a) (hAA : ∀ a, A0 a → A a) (hS : va_S A0 s.heap H locs) (hX : X H) (hP : P)
    (hM : Met l y (ws_ y bytes maxL ret) rm (cpc E C A H.size (.ref b :: As) X P) (cq_Q v B A1) mc ms A1) (hA1 : ∀ a, A1 a → A0 a)
    (Sx : CallFix p m c cc nL s args lw_all own) (cw : CallW R s args own K index y bytes maxL ret (ws_ y bytes maxL ret) rm mc ms n) (hrecv : ∃ cell : Cell, H[b]? = some cell ∧ cell.vm.isStatics = false ∧ s.vm.findClass K = some cell.cls)
    (hn : As.length = n) (hsize : ls.size = nL) (hst : st0 = As.reverse ++ .ref b :: rest) (hroom : (rest.map fun v => v.category).sum ≤ 8) (hdg : decode cc pc = .ok (.invokevirtual index, 3)) (hf : cells + mc ≤ R.cells ∧ slots + ms ≤ R.slots)
    (kk : ∀ (H1 : Heap) (locs1 : List Loc), B H1 → H.size ≤ H1.size → (∀ q : Nat, q < H.size → ¬ A1 q → H1[q]? = H[q]?) → va_S A0 s.heap H1 locs1 → W p l e R s m args below meth c H1 locs1 (cells + mc) (slots + ms) Q (F0 m (pc + 3) ls (v.toList ++ rest))) : W p l e R s m args below meth c H locs cells slots Q (F0 m pc ls st0) :=
  cq_call (va_runV (As := As) (rest := rest) Sx hM cw ⟨cpc_blind, hrecv, cpc_now hK hZ hA hAA hS hX hP⟩ rfl hn hsize hst (lv_room hroom) hdg hf) hS (fun q _ h => hA1 q h) hA1 kk
theorem cq_S (hK : ex_K E C s) (hZ : ex_H C A s s.heap) (hA : ∀ a, s.heap.size ≤ a → A a) (hAA : ∀ a, A0 a → A a) (hS : va_S A0 s.heap H locs) (hX : X H) (hP : P)
    (hM : Met l y (ws_ y bytes maxL ret) rm (cpc E C A H.size As X P) (cq_Q v B A1) mc ms A1) (hA1 : ∀ a, A1 a → A0 a)
    (Sx : CallFix p m c cc nL s args lw_all own) (cw : CallB R s args own index y bytes maxL ret (ws_ y bytes maxL ret) rm mc ms n ∧ (Cond.static y).before args s = true)
    (hn : As.length = n) (hsize : ls.size = nL) (hst : st0 = As.reverse ++ rest) (hroom : (rest.map fun v => v.category).sum ≤ 8) (hdg : decode cc pc = .ok (.invokestatic index, 3)) (hf : cells + mc ≤ R.cells ∧ slots + ms ≤ R.slots)
    (kk : ∀ (H1 : Heap) (locs1 : List Loc), B H1 → H.size ≤ H1.size → (∀ q : Nat, q < H.size → ¬ A1 q → H1[q]? = H[q]?) → va_S A0 s.heap H1 locs1 → W p l e R s m args below meth c H1 locs1 (cells + mc) (slots + ms) Q (F0 m (pc + 3) ls (v.toList ++ rest))) : W p l e R s m args below meth c H locs cells slots Q (F0 m pc ls st0) :=
  cq_call (va_runS (As := As) (rest := rest) Sx hM cw ⟨cpc_blind, cpc_now hK hZ hA hAA hS hX hP⟩ rfl hn hsize hst (lv_room hroom) hdg hf) hS (fun q _ h => hA1 q h) hA1 kk
theorem cq_I (hK : ex_K E C s) (hZ : ex_H C A s s.heap) (hA : ∀ a, s.heap.size ≤ a → A a) (hAA : ∀ a, A0 a → A a) (hS : va_S A0 s.heap H locs) (hX : X H) (hP : P)
    (hM : Met l y (ws_ y bytes maxL none) rm (cpc E C A H.size (.ref b :: As) X P) (cq_Q v B A1) mc ms A1) (hA1 : ∀ a, A1 a → A0 a)
    (Sx : CallFix p m c cc nL s args lw_all own) (cw : CallB R s args own index y bytes maxL none (ws_ y bytes maxL none) rm mc ms n ∧ y.name = "<init>" ∧ (Cond.instanceMethod y).before args s = true)
    (hn : As.length = n) (hsize : ls.size = nL) (hst : st0 = As.reverse ++ .ref b :: rest) (hroom : (rest.map fun v => v.category).sum ≤ 8) (hdg : decode cc pc = .ok (.invokespecial index, 3)) (hf : cells + mc ≤ R.cells ∧ slots + ms ≤ R.slots)
    (kk : ∀ (H1 : Heap) (locs1 : List Loc), B H1 → H.size ≤ H1.size → (∀ q : Nat, q < H.size → ¬ A1 q → H1[q]? = H[q]?) → va_S A0 s.heap H1 locs1 → W p l e R s m args below meth c H1 locs1 (cells + mc) (slots + ms) Q (F0 m (pc + 3) ls (v.toList ++ rest))) : W p l e R s m args below meth c H locs cells slots Q (F0 m pc ls st0) :=
  cq_call (va_runI (As := As) (rest := rest) Sx hM cw ⟨cpc_blind, cpc_now hK hZ hA hAA hS hX hP⟩ rfl hn hsize hst (lv_room hroom) hdg hf) hS (fun q _ h => hA1 q h) hA1 kk
theorem cq_F {x : MethodName} {cC : ClassId} {count : Nat} (hK : ex_K E C s) (hZ : ex_H C A s s.heap) (hA : ∀ a, s.heap.size ≤ a → A a) (hAA : ∀ a, A0 a → A a) (hS : va_S A0 s.heap H locs) (hX : X H) (hP : P)
    (hM : Met l y (ws_ y bytes maxL ret) rm (cpc E C A H.size (.ref b :: As) X P) (cq_Q v B A1) mc ms A1) (hA1 : ∀ a, A1 a → A0 a)
    (hat : ClassAt s K cC) (Sx : CallFix p m c cc nL s args lw_all own) (cw : va_CI R s args own K index x y bytes maxL ret (ws_ y bytes maxL ret) rm mc ms n) (hrecv : ∃ cell : Cell, H[b]? = some cell ∧ cell.vm.isStatics = false ∧ s.vm.findClass K = some cell.cls)
    (hn : As.length = n) (hsize : ls.size = nL) (hst : st0 = As.reverse ++ .ref b :: rest) (hroom : (rest.map fun v => v.category).sum ≤ 8) (hdg : decode cc pc = .ok (.invokeinterface index count, 5)) (hf : cells + mc ≤ R.cells ∧ slots + ms ≤ R.slots)
    (kk : ∀ (H1 : Heap) (locs1 : List Loc), B H1 → H.size ≤ H1.size → (∀ q : Nat, q < H.size → ¬ A1 q → H1[q]? = H[q]?) → va_S A0 s.heap H1 locs1 → W p l e R s m args below meth c H1 locs1 (cells + mc) (slots + ms) Q (F0 m (pc + 5) ls (v.toList ++ rest))) : W p l e R s m args below meth c H locs cells slots Q (F0 m pc ls st0) :=
  cq_call5 (va_runF (As := As) (rest := rest) hat Sx hM cw ⟨cpc_blind, hrecv, cpc_now hK hZ hA hAA hS hX hP⟩ rfl hn hsize hst (lv_room hroom) hdg hf) hS (fun q _ h => hA1 q h) hA1 kk
theorem kw_recv {ok : Nat → Nat → Prop} {ad : kw_A} {en : Nat → Nat → va_E} {t i ci : Nat} {q : vw_C} {fs : List Value} (hK : en_K E s) (hR : kw E ok ad en A H) (ho : ok t i) (he : en t i = .inr (ci, fs)) (hc : vcl[ci]? = some q) : ∃ cell : Cell, H[ad t i]? = some cell ∧ cell.vm.isStatics = false ∧ s.vm.findClass q.1 = some cell.cls := by
  obtain ⟨L, f, h1, h2, h3, h4⟩ := hR
  obtain ⟨q0, hq⟩ := gl_at (f := f) (h3 t i ho).1
  rw [(h3 t i ho).2, he] at hq
  exact va_recv hK h1 hc hq
theorem en_at (hK : en_K E s) {ci : Nat} {q : vw_C} (hc : vcl[ci]? = some q) : ∃ cC, ClassAt s q.1 cC := ⟨_, (hK.1 ci q hc).2⟩
end RD
/-- what a call through an interface asks: va_cwF n hts (lw_F ..) -/
theorem lw_F {own : String} {idx : Nat} {C : String} {x y : MethodName} {b : ByteArray} {L : Nat} {r : Option FieldType} (h1 : Cond.methodLink own idx x ∈ lw_all) (h2 : Cond.selects C x y ∈ lw_all) (h3 : Cond.instanceMethod y ∈ lw_all) (h4 : Cond.initialized y.cls ∈ lw_all) (h5 : Cond.code y b L r ∈ lw_all) : GoodIn lw_all (va_wsF own idx C x y (ws_ y b L r)) := by
  refine lw_app ?_ (lw_meth h5)
  intro w hw
  simp only [List.mem_cons, List.not_mem_nil, or_false] at hw
  rcases hw with e | e | e | e
  · rw [e]; exact h1
  · rw [e]; exact h2
  · rw [e]; exact h3
  · rw [e]; exact h4
theorem lw_U {own : String} {idx : Nat} {C owner : String} {x y : MethodName} {b : ByteArray} {L : Nat} {r : Option FieldType} (h1 : Cond.methodLink own idx x ∈ lw_all) (h2 : Cond.sameMethod x.cls owner x.name x.desc ∈ lw_all) (h3 : Cond.selects C x y ∈ lw_all) (h4 : Cond.instanceMethod y ∈ lw_all) (h5 : Cond.initialized y.cls ∈ lw_all) (h6 : Cond.code y b L r ∈ lw_all) : GoodIn lw_all (va_wsU own idx C owner x y (ws_ y b L r)) := by
  refine lw_app ?_ (lw_meth h6)
  intro w hw
  simp only [List.mem_cons, List.not_mem_nil, or_false] at hw
  rcases hw with e | e | e | e | e
  · rw [e]; exact h1
  · rw [e]; exact h2
  · rw [e]; exact h3
  · rw [e]; exact h4
  · rw [e]; exact h5
section RU
variable {p : Program} {l : Launch} {e : Env} {R : Room} {s : State} {m : MethodId} {args : Array Value} {below : List Frame} {meth : Method} {c : Code} {H : Heap} {locs : List Loc} {cells slots : Nat} {Q : State → Prop}
variable {cc bytes : ByteArray} {pc nL maxL index n mc ms : Nat} {ls : Array Slot} {rest st0 As : List Value} {E : en_T} {C : ex_C} {A A0 A1 : Nat → Prop} {y : MethodName} {rm : Room} {ret : Option FieldType} {P : Prop} {own K : String} {X : Heap → Prop} {v : Option Value} {B : Heap → Prop} {b : Nat}
theorem cq_U {x : MethodName} {owner : String} (hK : ex_K E C s) (hZ : ex_H C A s s.heap) (hA : ∀ a, s.heap.size ≤ a → A a) (hAA : ∀ a, A0 a → A a) (hS : va_S A0 s.heap H locs) (hX : X H) (hP : P)
    (hM : Met l y (ws_ y bytes maxL ret) rm (cpc E C A H.size (.ref b :: As) X P) (cq_Q v B A1) mc ms A1) (hA1 : ∀ a, A1 a → A0 a)
    (Sx : CallFix p m c cc nL s args lw_all own) (cw : va_CU R s args own K owner index x y bytes maxL ret (ws_ y bytes maxL ret) rm mc ms n) (hrecv : ∃ cell : Cell, H[b]? = some cell ∧ cell.vm.isStatics = false ∧ s.vm.findClass K = some cell.cls)
    (hn : As.length = n) (hsize : ls.size = nL) (hst : st0 = As.reverse ++ .ref b :: rest) (hroom : (rest.map fun v => v.category).sum ≤ 8) (hdg : decode cc pc = .ok (.invokevirtual index, 3)) (hf : cells + mc ≤ R.cells ∧ slots + ms ≤ R.slots)
    (kk : ∀ (H1 : Heap) (locs1 : List Loc), B H1 → H.size ≤ H1.size → (∀ q : Nat, q < H.size → ¬ A1 q → H1[q]? = H[q]?) → va_S A0 s.heap H1 locs1 → W p l e R s m args below meth c H1 locs1 (cells + mc) (slots + ms) Q (F0 m (pc + 3) ls (v.toList ++ rest))) : W p l e R s m args below meth c H locs cells slots Q (F0 m pc ls st0) :=
  cq_call (va_runU (As := As) (rest := rest) Sx hM cw ⟨cpc_blind, hrecv, cpc_now hK hZ hA hAA hS hX hP⟩ rfl hn hsize hst (lv_room hroom) hdg hf) hS (fun q _ h => hA1 q h) hA1 kk
end RU
theorem ic_recv {C : ex_C} {A : Nat → Prop} {s : State} {H : Heap} {locs : List Loc} (hZ : ex_H C A s s.heap) (hS : va_S A s.heap H locs) {k : Nat} (hk : k < 256) : ∃ cell : Cell, H[C.1 k]? = some cell ∧ cell.vm.isStatics = false ∧ s.vm.findClass "java/lang/Integer" = some cell.cls := by
  obtain ⟨cell, h1, h2, h3, -⟩ := (hZ.2.2.2.1.1 k hk).kept hS.2.1
  exact ⟨cell, h1, h2, h3⟩
theorem vb_inj {a b : Nat} (ha : a < 256) (hb : b < 256) : vb_c a = vb_c b ↔ a = b := by
  refine ⟨fun h => ?_, fun h => by rw [h]⟩
  have h1 := congrArg Int32.toInt h
  have e : ∀ k, k < 256 → (vb_c k).toInt = (k : Int) - 128 := by
    intro k hk
    exact pk_sub_toInt (a := k) (b := 128) (by omega) (by decide)
  rw [e a ha, e b hb] at h1
  omega
def jf_idx (vs : Nat → Nat) (w : Nat) : Nat → Nat → Int32
  | 0, _ => -1
  | n + 1, i => if vs i = w then nI i else jf_idx vs w n (i + 1)
