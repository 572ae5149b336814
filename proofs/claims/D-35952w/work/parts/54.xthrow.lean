/-! methods that throw: contracts, calls -/
def cx_X (B : Heap → Prop) (A1 : Nat → Prop) (Xn : String) : String → State → State → Prop := fun X st t => (X = Xn ∧ B t.heap) ∧ va_F A1 st t
def cx_N : Array Value → State → Outcome → State → Prop := fun _ _ _ _ => False
abbrev cx_G (p : Program) (l : Launch) (e : Env) (R : Room) (s : State) (m : MethodId) (av : List Value) (below : List Frame) (meth : Method) (c : Code) (A1 : Nat → Prop) (Qc : Array Value → State → Outcome → State → Prop) (XC : String → State → State → Prop) (mc ms : Nat) (H : Heap) (locs : List Loc) (cells slots : Nat) (g : JFrame) : Prop := W p l e R s m av.toArray below meth c H locs cells slots (vx_MQ below Qc XC av.toArray s mc ms A1) g
theorem cx_start {l : Launch} {y : MethodName} {cc : ByteArray} {maxL : Nat} {ret : Option FieldType} {rm : Room} {E : en_T} {C : ex_C} {A A1 : Nat → Prop} {sz mc ms : Nat} {av : List Value} {X : Heap → Prop} {P : Prop} {Qc : Array Value → State → Outcome → State → Prop} {XC : String → State → State → Prop} (hy : plainName y.cls = true) (hlen : (lg_sl av).length ≤ maxL)
    (body : ∀ (p : Program) (e : Env) (s : State) (m : MethodId) (below : List Frame) (meth : Method) (c : Code) (ls : Array Slot), p.tables.exec = Jvm.exec → c.code = cc → meth.sig.returnType = ret → meth.locks = false → c.maxLocals = maxL → s.vm.findClass y.cls = some m.cls → meth.name = y.name → (∀ x ∈ c.exceptionTable.toList, False) → (∀ w ∈ lw_all, w.before av.toArray s = true) → sz = s.heap.size → ex_K E C s → ex_H C A s s.heap → (∀ a, s.heap.size ≤ a → A a) → X s.heap → P → lv_has ls maxL (lv_args 0 av) →
      cx_G p l e rm s m av below meth c A1 Qc XC mc ms s.heap [] 0 0 (F0 m 0 ls [])) :
    vx_Met l y (ws_ y cc maxL ret) rm (cpc E C A sz av X P) Qc XC mc ms A1 := by
  refine vx_ofW (cc := cc) (maxL := maxL) (ret := ret) hy rfl ?_
  intro p e s m args below meth c s₁ B hml ht9 hv
  obtain ⟨rfl, ⟨h1, h2, h3, h4⟩, h5, h6⟩ := hv
  have hts := atoms_spec (ws := ws_ y cc maxL ret) B.pre
  have hown : s.vm.findClass y.cls = some m.cls := findClass_of_methodNamed B.named
  have hl := lv_entry av hlen
  rw [lg_entry_eq]
  subst h1
  exact body p e s m below meth c _ B.exec B.bytes B.returns B.notSynchronized hml hown (name_of_methodNamed B.named B.method).1 ht9 (fun w h => hts w (List.mem_cons_of_mem _ h)) rfl h2 h3 h4 h5 h6 hl
section CX
variable {p : Program} {l : Launch} {e : Env} {R : Room} {s : State} {m : MethodId} {args : Array Value} {below : List Frame} {meth : Method} {c : Code} {H : Heap} {locs : List Loc} {cells slots : Nat} {Q : State → Prop}
variable {cc bytes : ByteArray} {pc nL maxL index n mc ms : Nat} {ls : Array Slot} {rest st0 As : List Value} {E : en_T} {C : ex_C} {A A0 A1 : Nat → Prop} {y : MethodName} {rm : Room} {ret : Option FieldType} {P : Prop} {own K Xn : String} {X : Heap → Prop} {B : Heap → Prop} {b : Nat} {H0 : Heap} {free : Addr → Prop} {a : Array Value}
theorem cx_call (hr : vx_Run p l e R s m args below meth c H locs cells slots mc ms (F0 m pc ls st0) rest (cx_N a) (cx_X B A1 Xn) free) (hS : va_S A0 H0 H locs) (hA : ∀ q, q < H.size → A1 q → A0 q) (hf : ∀ q, free q → A0 q)
    (kx : ∀ (ce : Cell) (q9 : Addr) (H1 : Heap) (locs1 : List Loc), B H1 → H.size ≤ H1.size → (∀ q : Nat, q < H.size → ¬ A1 q → H1[q]? = H[q]?) → va_S A0 H0 H1 locs1 → H1[q9]? = some ce → ce.vm = .none → s.vm.findClass Xn = some ce.cls → vx_W p l e R s m args below meth c H1 locs1 (cells + mc) (slots + ms) Q (F0 m pc ls rest) q9) : W p l e R s m args below meth c H locs cells slots Q (F0 m pc ls st0) := by
  intro T hT X
  rcases hr T hT X with ⟨v, st₀, t, T', L, h0, X', hL, e1, e2, hF, st⟩ | ⟨q, st₀, t, T', L, E, ce, h0, X', hL, e1, e2, ⟨⟨hp, hb⟩, hF⟩, hce, hcv, hcl, st⟩
  · exact hF.elim
  · subst hp
    obtain ⟨k1, k2, k3⟩ := vx_keep h0 e1 hS hA hf hL hF
    obtain ⟨t2, a1, b1⟩ := kx ce q T'.heap (locs ++ L) (by rw [e1]; exact hb) k1 k2 k3 (by rw [e1]; exact hce) hcv hcl T' rfl X'
    exact ⟨t2, st.trans a1, b1⟩
theorem cx_S (hK : ex_K E C s) (hZ : ex_H C A s s.heap) (hA : ∀ a, s.heap.size ≤ a → A a) (hAA : ∀ a, A0 a → A a) (hS : va_S A0 s.heap H locs) (hX : X H) (hP : P)
    (hM : vx_Met l y (ws_ y bytes maxL ret) rm (cpc E C A H.size As X P) cx_N (cx_X B A1 Xn) mc ms A1) (hA1 : ∀ a, A1 a → A0 a)
    (Sx : CallFix p m c cc nL s args lw_all own) (cw : CallB R s args own index y bytes maxL ret (ws_ y bytes maxL ret) rm mc ms n ∧ (Cond.static y).before args s = true)
    (hn : As.length = n) (hsize : ls.size = nL) (hst : st0 = As.reverse ++ rest) (hroom : (rest.map fun v => v.category).sum ≤ 8) (hdg : decode cc pc = .ok (.invokestatic index, 3)) (hf : cells + mc ≤ R.cells ∧ slots + ms ≤ R.slots)
    (kx : ∀ (ce : Cell) (q9 : Addr) (H1 : Heap) (locs1 : List Loc), B H1 → H.size ≤ H1.size → (∀ q : Nat, q < H.size → ¬ A1 q → H1[q]? = H[q]?) → va_S A0 s.heap H1 locs1 → H1[q9]? = some ce → ce.vm = .none → s.vm.findClass Xn = some ce.cls → vx_W p l e R s m args below meth c H1 locs1 (cells + mc) (slots + ms) Q (F0 m pc ls rest) q9) : W p l e R s m args below meth c H locs cells slots Q (F0 m pc ls st0) :=
  cx_call (vx_runS (As := As) (rest := rest) Sx hM cw ⟨cpc_blind, cpc_now hK hZ hA hAA hS hX hP⟩ rfl hn hsize hst (lv_room hroom) hdg hf) hS (fun q _ h => hA1 q h) hA1 kx
theorem cx_V (hK : ex_K E C s) (hZ : ex_H C A s s.heap) (hA : ∀ a, s.heap.size ≤ a → A a) (hAA : ∀ a, A0 a → A a) (hS : va_S A0 s.heap H locs) (hX : X H) (hP : P)
    (hM : vx_Met l y (ws_ y bytes maxL ret) rm (cpc E C A H.size (.ref b :: As) X P) cx_N (cx_X B A1 Xn) mc ms A1) (hA1 : ∀ a, A1 a → A0 a)
    (Sx : CallFix p m c cc nL s args lw_all own) (cw : CallW R s args own K index y bytes maxL ret (ws_ y bytes maxL ret) rm mc ms n) (hrecv : ∃ cell : Cell, H[b]? = some cell ∧ cell.vm.isStatics = false ∧ s.vm.findClass K = some cell.cls)
    (hn : As.length = n) (hsize : ls.size = nL) (hst : st0 = As.reverse ++ .ref b :: rest) (hroom : (rest.map fun v => v.category).sum ≤ 8) (hdg : decode cc pc = .ok (.invokevirtual index, 3)) (hf : cells + mc ≤ R.cells ∧ slots + ms ≤ R.slots)
    (kx : ∀ (ce : Cell) (q9 : Addr) (H1 : Heap) (locs1 : List Loc), B H1 → H.size ≤ H1.size → (∀ q : Nat, q < H.size → ¬ A1 q → H1[q]? = H[q]?) → va_S A0 s.heap H1 locs1 → H1[q9]? = some ce → ce.vm = .none → s.vm.findClass Xn = some ce.cls → vx_W p l e R s m args below meth c H1 locs1 (cells + mc) (slots + ms) Q (F0 m pc ls rest) q9) : W p l e R s m args below meth c H locs cells slots Q (F0 m pc ls st0) :=
  cx_call (vx_runV (As := As) (rest := rest) Sx hM cw ⟨cpc_blind, hrecv, cpc_now hK hZ hA hAA hS hX hP⟩ rfl hn hsize hst (lv_room hroom) hdg hf) hS (fun q _ h => hA1 q h) hA1 kx
/-- a static method of no world that returns nothing -/
def ps_Qv : Array Value → State → Outcome → State → Prop := va_Qv (fun (_ : Unit) => True) (fun _ _ => True) (fun _ => False)
theorem ps_callv (Sx : CallFix p m c cc nL s args lw_all own) (hM : Met l y (ws_ y bytes maxL ret) rm (ps_Pc As P) ps_Qv 0 0 (fun _ => False)) (cw : CallB R s args own index y bytes maxL ret (ws_ y bytes maxL ret) rm 0 0 n ∧ (Cond.static y).before args s = true) (hP : P) (hS : va_S A H0 H locs)
    (hn : As.length = n) (hsize : ls.size = nL) (hst : st0 = As.reverse ++ rest) (hroom : (rest.map fun v => v.category).sum ≤ 8) (hdg : decode cc pc = .ok (.invokestatic index, 3)) (hf : cells ≤ R.cells ∧ slots ≤ R.slots)
    (kk : ∀ (H1 : Heap) (locs1 : List Loc), H.size ≤ H1.size → (∀ a : Nat, a < H.size → H1[a]? = H[a]?) → va_S A H0 H1 locs1 → W p l e R s m args below meth c H1 locs1 cells slots Q (F0 m (pc + 3) ls rest)) : W p l e R s m args below meth c H locs cells slots Q (F0 m pc ls st0) := by
  refine va_callv (va_runS (As := As) (rest := rest) Sx hM cw ⟨fun a U g mk h => h, fun U hU hW => ⟨rfl, hP⟩⟩ rfl hn hsize hst (lv_room hroom) hdg hf) hS (fun a _ h => h.elim) (fun a h => h.elim) (fun u t H1 locs1 ht _ hw hB hz hk hS1 => ?_)
  exact kk H1 locs1 hz (fun a h => hk a h (fun z => z)) hS1
end CX
set_option maxHeartbeats 1000000 in
theorem xo_requireIndex (l : Launch) (p0 : Int32) : Met l yX1_requireIndex (ws_ yX1_requireIndex cX1_requireIndex 1 none) { frames := 0, cells := 0, slots := 0, locals := 0 } (ps_Pc [.int p0] (p0 = 1)) ps_Qv 0 0 (fun _ => False) := by
  refine ps_start (by decide) (Nat.le_of_ble_eq_true rfl) ?_
  intro p e s m below meth c ls hx hb hr hlocks hml hown hts hP hl
  subst hP
  have hl : lv_has ls 1 [(0, .int 1)] := hl
  have hS : va_S (fun _ => False) s.heap s.heap [] := va_S.rf
  refine lv_iload_n hx hb dX1_requireIndex_0 rfl (lv_at hl 0 rfl) ?_
  refine lv_if_ne (tgt := 12) hx hb dX1_requireIndex_1 (by decide) (fun _ => ?_) (fun h => absurd h (by decide))
  exact W.vret hx hb hr (fun t ht hW => ⟨⟨(), rfl, trivial, trivial⟩, hS.F ht⟩) hS.2.2 dX1_requireIndex_12
set_option maxHeartbeats 1000000 in
theorem xt_requireIndex (l : Launch) (hfl : l.stackTraces = false) (E : en_T) (C : ex_C) (A : Nat → Prop) (sz : Nat) : vx_Met l yX1_requireIndex (ws_ yX1_requireIndex cX1_requireIndex 1 none) { frames := 6, cells := 1, slots := 6, locals := 100 } (cpc E C A sz [.int 0] (fun _ => True) True) cx_N (cx_X (fun _ => True) (nw_A sz) "java/lang/IndexOutOfBoundsException") 1 6 (nw_A sz) := by
  refine cx_start (by decide) (Nat.le_of_ble_eq_true rfl) ?_
  intro p e s m below meth c ls hx hb hr hlocks hml hown hnm hnt hts hsz hK hZ hA hR hP hl
  subst hsz
  have hl : lv_has ls 1 [(0, .int 0)] := hl
  have hS : va_S (nw_A s.heap.size) s.heap s.heap [] := va_S.rf
  have hZr := hZ.fresh
  refine lv_iload_n hx hb dX1_requireIndex_0 rfl (lv_at hl 0 rfl) ?_
  refine lv_if_ne (tgt := 12) hx hb dX1_requireIndex_1 (by decide) (fun h => absurd rfl h) (fun _ => ?_)
  exact vx_throw0 hx hb hfl (own := "Lostroom") (cls := "java/lang/IndexOutOfBoundsException") (names := ["java/lang/RuntimeException", "java/lang/Exception"]) (ik := 1) (ic := 3) hown (by decide +kernel) (by decide +kernel) (hts _ q301) (hts _ q45) (th_I hts hK.2.1) th_I_g hZr.2.2.2.2.2.2.1 hZr.2.2.2.2.2.2.2 hS (hl.1.trans hml.symm) dX1_requireIndex_4 dX1_requireIndex_7 dX1_requireIndex_8 dX1_requireIndex_11 (fun x h => (hnt x h).elim) (Nat.le_of_ble_eq_true rfl) (Nat.le_of_ble_eq_true rfl) (Nat.le_of_ble_eq_true rfl) (Nat.le_of_ble_eq_true rfl) hlocks (fun t _ h1 h2 => ⟨⟨rfl, trivial⟩, h1, fun q h3 _ => h2 q h3⟩) hS.2.2 (Nat.le_of_ble_eq_true rfl) (Nat.le_of_ble_eq_true rfl)
set_option maxHeartbeats 1000000 in
theorem xo_requireArgument (l : Launch) (p0 : Int32) : Met l yX1_requireArgument (ws_ yX1_requireArgument cX1_requireArgument 1 none) { frames := 0, cells := 0, slots := 0, locals := 0 } (ps_Pc [.int p0] (p0 = 1)) ps_Qv 0 0 (fun _ => False) := by
  refine ps_start (by decide) (Nat.le_of_ble_eq_true rfl) ?_
  intro p e s m below meth c ls hx hb hr hlocks hml hown hts hP hl
  subst hP
  have hl : lv_has ls 1 [(0, .int 1)] := hl
  have hS : va_S (fun _ => False) s.heap s.heap [] := va_S.rf
  refine lv_iload_n hx hb dX1_requireArgument_0 rfl (lv_at hl 0 rfl) ?_
  refine lv_if_ne (tgt := 12) hx hb dX1_requireArgument_1 (by decide) (fun _ => ?_) (fun h => absurd h (by decide))
  exact W.vret hx hb hr (fun t ht hW => ⟨⟨(), rfl, trivial, trivial⟩, hS.F ht⟩) hS.2.2 dX1_requireArgument_12
set_option maxHeartbeats 1000000 in
theorem xt_requireArgument (l : Launch) (hfl : l.stackTraces = false) (E : en_T) (C : ex_C) (A : Nat → Prop) (sz : Nat) : vx_Met l yX1_requireArgument (ws_ yX1_requireArgument cX1_requireArgument 1 none) { frames := 6, cells := 1, slots := 6, locals := 100 } (cpc E C A sz [.int 0] (fun _ => True) True) cx_N (cx_X (fun _ => True) (nw_A sz) "java/lang/IllegalArgumentException") 1 6 (nw_A sz) := by
  refine cx_start (by decide) (Nat.le_of_ble_eq_true rfl) ?_
  intro p e s m below meth c ls hx hb hr hlocks hml hown hnm hnt hts hsz hK hZ hA hR hP hl
  subst hsz
  have hl : lv_has ls 1 [(0, .int 0)] := hl
  have hS : va_S (nw_A s.heap.size) s.heap s.heap [] := va_S.rf
  have hZr := hZ.fresh
  refine lv_iload_n hx hb dX1_requireArgument_0 rfl (lv_at hl 0 rfl) ?_
  refine lv_if_ne (tgt := 12) hx hb dX1_requireArgument_1 (by decide) (fun h => absurd rfl h) (fun _ => ?_)
  exact vx_throw0 hx hb hfl (own := "Lostroom") (cls := "java/lang/IllegalArgumentException") (names := ["java/lang/RuntimeException", "java/lang/Exception"]) (ik := 7) (ic := 9) hown (by decide +kernel) (by decide +kernel) (hts _ q325) (hts _ q48) (th_A hts hK.2.1) th_A_g hZr.2.2.2.2.2.2.1 hZr.2.2.2.2.2.2.2 hS (hl.1.trans hml.symm) dX1_requireArgument_4 dX1_requireArgument_7 dX1_requireArgument_8 dX1_requireArgument_11 (fun x h => (hnt x h).elim) (Nat.le_of_ble_eq_true rfl) (Nat.le_of_ble_eq_true rfl) (Nat.le_of_ble_eq_true rfl) (Nat.le_of_ble_eq_true rfl) hlocks (fun t _ h1 h2 => ⟨⟨rfl, trivial⟩, h1, fun q h3 _ => h2 q h3⟩) hS.2.2 (Nat.le_of_ble_eq_true rfl) (Nat.le_of_ble_eq_true rfl)
set_option maxHeartbeats 1000000 in
theorem xo_requireState (l : Launch) (p0 : Int32) : Met l yX1_requireState (ws_ yX1_requireState cX1_requireState 1 none) { frames := 0, cells := 0, slots := 0, locals := 0 } (ps_Pc [.int p0] (p0 = 1)) ps_Qv 0 0 (fun _ => False) := by
  refine ps_start (by decide) (Nat.le_of_ble_eq_true rfl) ?_
  intro p e s m below meth c ls hx hb hr hlocks hml hown hts hP hl
  subst hP
  have hl : lv_has ls 1 [(0, .int 1)] := hl
  have hS : va_S (fun _ => False) s.heap s.heap [] := va_S.rf
  refine lv_iload_n hx hb dX1_requireState_0 rfl (lv_at hl 0 rfl) ?_
  refine lv_if_ne (tgt := 12) hx hb dX1_requireState_1 (by decide) (fun _ => ?_) (fun h => absurd h (by decide))
  exact W.vret hx hb hr (fun t ht hW => ⟨⟨(), rfl, trivial, trivial⟩, hS.F ht⟩) hS.2.2 dX1_requireState_12
set_option maxHeartbeats 1000000 in
theorem xt_requireState (l : Launch) (hfl : l.stackTraces = false) (E : en_T) (C : ex_C) (A : Nat → Prop) (sz : Nat) : vx_Met l yX1_requireState (ws_ yX1_requireState cX1_requireState 1 none) { frames := 6, cells := 1, slots := 6, locals := 100 } (cpc E C A sz [.int 0] (fun _ => True) True) cx_N (cx_X (fun _ => True) (nw_A sz) "java/lang/IllegalStateException") 1 6 (nw_A sz) := by
  refine cx_start (by decide) (Nat.le_of_ble_eq_true rfl) ?_
  intro p e s m below meth c ls hx hb hr hlocks hml hown hnm hnt hts hsz hK hZ hA hR hP hl
  subst hsz
  have hl : lv_has ls 1 [(0, .int 0)] := hl
  have hS : va_S (nw_A s.heap.size) s.heap s.heap [] := va_S.rf
  have hZr := hZ.fresh
  refine lv_iload_n hx hb dX1_requireState_0 rfl (lv_at hl 0 rfl) ?_
  refine lv_if_ne (tgt := 12) hx hb dX1_requireState_1 (by decide) (fun h => absurd rfl h) (fun _ => ?_)
  exact vx_throw0 hx hb hfl (own := "Lostroom") (cls := "java/lang/IllegalStateException") (names := ["java/lang/RuntimeException", "java/lang/Exception"]) (ik := 10) (ic := 12) hown (by decide +kernel) (by decide +kernel) (hts _ q460) (hts _ q54) (th_S hts hK.2.1) th_S_g hZr.2.2.2.2.2.2.1 hZr.2.2.2.2.2.2.2 hS (hl.1.trans hml.symm) dX1_requireState_4 dX1_requireState_7 dX1_requireState_8 dX1_requireState_11 (fun x h => (hnt x h).elim) (Nat.le_of_ble_eq_true rfl) (Nat.le_of_ble_eq_true rfl) (Nat.le_of_ble_eq_true rfl) (Nat.le_of_ble_eq_true rfl) hlocks (fun t _ h1 h2 => ⟨⟨rfl, trivial⟩, h1, fun q h3 _ => h2 q h3⟩) hS.2.2 (Nat.le_of_ble_eq_true rfl) (Nat.le_of_ble_eq_true rfl)
