/-! LostroomModel: its one object and its arrays as a store S; rows and calls -/
def mr_arr (k : Nat) : Bool := match k with
  | 0 => false
  | 1 => false
  | 7 => false
  | 8 => false
  | 25 => false
  | 35 => false
  | 36 => false
  | 37 => false
  | k => decide (k < 38)
def mr_len (k : Nat) : Nat := if k = 2 then 24 else if k ≤ 5 then 8 else if k = 6 then 4 else if k ≤ 22 then 30 else if k ≤ 24 then 360 else 20
def mr_fs (ad : Nat → Nat) (S : gs_T) : List Value := (List.range 38).map fun k => if mr_arr k = true then .ref (ad k) else .int (S k 0)
theorem mr_fs_len (ad : Nat → Nat) (S : gs_T) : (mr_fs ad S).length = 38 := by simp [mr_fs]
theorem mr_fs_at (ad : Nat → Nat) (S : gs_T) {k : Nat} (hk : k < 38) : (mr_fs ad S)[k]? = some (if mr_arr k = true then .ref (ad k) else .int (S k 0)) := by
  simp [mr_fs, hk]
theorem mr_fs_put (ad : Nat → Nat) (S : gs_T) {k : Nat} (hk : k < 38) (ha : mr_arr k = false) (v : Int32) : (mr_fs ad S).set k (.int v) = mr_fs ad (gs_up S k 0 v) := by
  apply List.ext_getElem?
  intro j
  by_cases hj : j < 38
  · by_cases e : j = k
    · subst e
      rw [List.getElem?_set_self (by rw [mr_fs_len]; exact hj), mr_fs_at _ _ hj, if_neg (by rw [ha]; decide), gs_up_self]
    · rw [List.getElem?_set_ne (Ne.symm e), mr_fs_at _ _ hj, mr_fs_at _ _ hj, gs_up_row e]
  · rw [List.getElem?_eq_none (by rw [List.length_set, mr_fs_len]; omega), List.getElem?_eq_none (by rw [mr_fs_len]; omega)]
theorem mr_fs_ast (ad : Nat → Nat) (S : gs_T) {k : Nat} (ha : mr_arr k = true) (i : Nat) (v : Int32) : mr_fs ad (gs_up S k i v) = mr_fs ad S := by
  simp only [mr_fs]
  apply List.map_congr_left
  intro j _
  by_cases e : j = k
  · subst e
    rw [if_pos ha, if_pos ha]
  · rw [gs_up_row e]
/-- fields of ints: not final, of type int -/
theorem mr_tab : ∀ k, k < 38 → mr_arr k = false → (TX2 k).2.2.2 = false ∧ parseFieldDescriptor (TX2 k).2.2.1 = some .int := by decide +kernel
def mr_W (E : en_T) (q : Nat) (ad : Nat → Nat) (L : List Nat) (S : gs_T) (H : Heap) : Prop :=
  ∃ f : Nat → va_E, va_P E.1 vcl (va_pl L f) H ∧ va_D (fun a => a ∈ L) (va_pl L f) ∧ (q ∈ L ∧ f q = .inr (1, mr_fs ad S)) ∧
    (∀ k, mr_arr k = true → ad k ∈ L ∧ f (ad k) = .inl (if k = 19 then E.2.2.1 else E.2.1, (mr_len k, .inl (S k)))) ∧ ∀ j k, mr_arr j = true → mr_arr k = true → ad j = ad k → j = k
theorem mr_W.kept {E : en_T} {q : Nat} {ad : Nat → Nat} {L : List Nat} {S : gs_T} {H H1 : Heap} (h : mr_W E q ad L S H) (hq : ∀ a, a ∈ L → a < H.size → H1[a]? = H[a]?) : mr_W E q ad L S H1 := by
  obtain ⟨f, h1, h2, h3⟩ := h
  refine ⟨f, h1.kept (fun k x hx => ?_), h2, h3⟩
  exact hq _ (h2.2 k x hx) (h1 k x hx).lt
theorem mr_bt {E : en_T} {q : Nat} {ad : Nat → Nat} {L : List Nat} {S : gs_T} {H : Heap} {t : State} (ht : t.heap = H) (hR : mr_W E q ad L S H) : mr_W E q ad L S t.heap := by rw [ht]; exact hR
section MR
variable {p : Program} {l : Launch} {e : Env} {R : Room} {s : State} {m : MethodId} {args : Array Value} {below : List Frame} {meth : Method} {c : Code} {H : Heap} {locs : List Loc} {cells slots : Nat} {Q : State → Prop}
variable {cc : ByteArray} {pc : Nat} {ls : Array Slot} {rest : List Value} {E : en_T} {q : Nat} {ad : Nat → Nat} {L : List Nat} {S : gs_T} {H0 : Heap}
theorem mr_geti (hexec : p.tables.exec = Jvm.exec) (hb : c.code = cc) (hts : ∀ w ∈ lw_all, w.before args s = true) (hown : s.vm.findClass RX2 = some m.cls) (hK : en_K E s) (hR : mr_W E q ad L S H) (k : Nat) (hk : k < 38) (ha : mr_arr k = false) {index : Nat} (hlink : (Cond.fieldLink RX2 index RX2 (TX2 k).2.1 (TX2 k).2.2.1).before args s = true) (hsame : ∀ x, s.fieldFound? (TX2 k).1 (TX2 k).2.1 (TX2 k).2.2.1 = some x → s.fieldFound? RX2 (TX2 k).2.1 (TX2 k).2.2.1 = some x) {v : Int32} (hv : S k 0 = v) (hdg : decode cc pc = .ok (.getfield index, 3))
    (kk : W p l e R s m args below meth c H locs cells slots Q (F0 m (pc + 3) ls (.int v :: rest))) : W p l e R s m args below meth c H locs cells slots Q (F0 m pc ls (.ref q :: rest)) := by
  obtain ⟨f, h1, -, ⟨h3, h4⟩, -⟩ := hR
  subst hv
  exact gl_get hexec hb hts in_X2 hown hK h1 h3 h4 (C := RX2) (T := TX2) (N := 38) rfl k hk hlink hsame (by rw [mr_fs_at _ _ hk, if_neg (by rw [ha]; decide)]) hdg kk
theorem mr_geta (hexec : p.tables.exec = Jvm.exec) (hb : c.code = cc) (hts : ∀ w ∈ lw_all, w.before args s = true) (hown : s.vm.findClass RX2 = some m.cls) (hK : en_K E s) (hR : mr_W E q ad L S H) (k : Nat) (hk : k < 38) (ha : mr_arr k = true) {index : Nat} (hlink : (Cond.fieldLink RX2 index RX2 (TX2 k).2.1 (TX2 k).2.2.1).before args s = true) (hsame : ∀ x, s.fieldFound? (TX2 k).1 (TX2 k).2.1 (TX2 k).2.2.1 = some x → s.fieldFound? RX2 (TX2 k).2.1 (TX2 k).2.2.1 = some x) (hdg : decode cc pc = .ok (.getfield index, 3))
    (kk : W p l e R s m args below meth c H locs cells slots Q (F0 m (pc + 3) ls (.ref (ad k) :: rest))) : W p l e R s m args below meth c H locs cells slots Q (F0 m pc ls (.ref q :: rest)) := by
  obtain ⟨f, h1, -, ⟨h3, h4⟩, -⟩ := hR
  exact gl_get hexec hb hts in_X2 hown hK h1 h3 h4 (C := RX2) (T := TX2) (N := 38) rfl k hk hlink hsame (by rw [mr_fs_at _ _ hk, if_pos ha]) hdg kk
theorem mr_puti (hexec : p.tables.exec = Jvm.exec) (hb : c.code = cc) (hts : ∀ w ∈ lw_all, w.before args s = true) (hown : s.vm.findClass RX2 = some m.cls) (hK : en_K E s) (hR : mr_W E q ad L S H) (hS : va_S (fun a => a ∈ L) H0 H locs) (k : Nat) (hk : k < 38) (ha : mr_arr k = false) {index : Nat} (hlink : (Cond.fieldLink RX2 index RX2 (TX2 k).2.1 (TX2 k).2.2.1).before args s = true) (hsame : ∀ x, s.fieldFound? (TX2 k).1 (TX2 k).2.1 (TX2 k).2.2.1 = some x → s.fieldFound? RX2 (TX2 k).2.1 (TX2 k).2.2.1 = some x) {v : Int32} (hdg : decode cc pc = .ok (.putfield index, 3))
    (kk : ∀ (H1 : Heap) (locs1 : List Loc), mr_W E q ad L (gs_up S k 0 v) H1 → va_S (fun a => a ∈ L) H0 H1 locs1 → W p l e R s m args below meth c H1 locs1 cells slots Q (F0 m (pc + 3) ls rest)) : W p l e R s m args below meth c H locs cells slots Q (F0 m pc ls (.int v :: .ref q :: rest)) := by
  obtain ⟨f, h1, h2, ⟨h3, h4⟩, h5, h6⟩ := hR
  obtain ⟨t1, t2⟩ := mr_tab k hk ha
  refine gl_put hexec hb hts in_X2 tyX2 tyX2_ok nmX2 hown hK h1 h2 hS h3 h4 (C := RX2) (T := TX2) (N := 38) rfl k hk hlink hsame t1 t2 rfl rfl (by rw [mr_fs_len]; exact hk) hdg (fun H1 locs1 g1 g2 g3 => ?_)
  rw [mr_fs_put ad S hk ha v] at g1 g2
  refine kk H1 locs1 ⟨_, g1, g2, ⟨h3, va_up_self _ _ _⟩, fun j hj => ?_, h6⟩ g3
  obtain ⟨a1, a2⟩ := h5 j hj
  have hne : ad j ≠ q := by
    intro z
    rw [z, h4] at a2
    cases a2
  refine ⟨a1, ?_⟩
  rw [va_up_ne _ _ hne, a2, gs_up_row (by intro z; subst z; rw [hj] at ha; cases ha)]
theorem mr_ald (hexec : p.tables.exec = Jvm.exec) (hb : c.code = cc) (hK : en_K E s) (hR : mr_W E q ad L S H) (k n : Nat) (ha : mr_arr k = true) (hz : k ≠ 19) (hn : mr_len k = n) {i : Int32} (hin : vp_in i n) {v : Int32} (hv : S k i.toNatClampNeg = v) (hdg : decode cc pc = .ok (.iaload, 1))
    (kk : W p l e R s m args below meth c H locs cells slots Q (F0 m (pc + 1) ls (.int v :: rest))) : W p l e R s m args below meth c H locs cells slots Q (F0 m pc ls (.int i :: .ref (ad k) :: rest)) := by
  obtain ⟨f, h1, -, -, h5, -⟩ := hR
  subst hv
  obtain ⟨a1, a2⟩ := h5 k ha
  rw [if_neg hz, hn] at a2
  exact gl_iald hexec hb hK h1 a1 a2 hin hdg kk
theorem mr_zald (hexec : p.tables.exec = Jvm.exec) (hb : c.code = cc) (hK : en_K E s) (hR : mr_W E q ad L S H) {i : Int32} (hin : vp_in i 30) {v : Int32} (hv : S 19 i.toNatClampNeg = v) (hdg : decode cc pc = .ok (.baload, 1))
    (kk : W p l e R s m args below meth c H locs cells slots Q (F0 m (pc + 1) ls (.int v :: rest))) : W p l e R s m args below meth c H locs cells slots Q (F0 m pc ls (.int i :: .ref (ad 19) :: rest)) := by
  obtain ⟨f, h1, -, -, h5, -⟩ := hR
  subst hv
  obtain ⟨a1, a2⟩ := h5 19 rfl
  exact gl_zald hexec hb hK h1 a1 a2 hin hdg kk
theorem mr_ast (hexec : p.tables.exec = Jvm.exec) (hb : c.code = cc) (hK : en_K E s) (hR : mr_W E q ad L S H) (hS : va_S (fun a => a ∈ L) H0 H locs) (k n : Nat) (ha : mr_arr k = true) (hz : k ≠ 19) (hn : mr_len k = n) {i x : Int32} (hin : vp_in i n) {j : Nat} (hj : i.toNatClampNeg = j) (hdg : decode cc pc = .ok (.iastore, 1))
    (kk : ∀ (H1 : Heap) (locs1 : List Loc), mr_W E q ad L (gs_up S k j x) H1 → va_S (fun a => a ∈ L) H0 H1 locs1 → W p l e R s m args below meth c H1 locs1 cells slots Q (F0 m (pc + 1) ls rest)) : W p l e R s m args below meth c H locs cells slots Q (F0 m pc ls (.int x :: .int i :: .ref (ad k) :: rest)) := by
  obtain ⟨f, h1, h2, ⟨h3, h4⟩, h5, h6⟩ := hR
  subst hj
  obtain ⟨a1, a2⟩ := h5 k ha
  rw [if_neg hz, hn] at a2
  refine gl_iast hexec hb hK h1 h2 hS a1 a2 hin hdg (fun H1 locs1 g1 g2 g3 => ?_)
  have hne : q ≠ ad k := by
    intro z
    rw [← z, h4] at a2
    cases a2
  refine kk H1 locs1 ⟨_, g1, g2, ⟨h3, by rw [va_up_ne _ _ hne, h4, mr_fs_ast ad S ha]⟩, fun j hj => ⟨(h5 j hj).1, ?_⟩, h6⟩ g3
  by_cases e : j = k
  · subst e
    rw [va_up_self, if_neg hz, gs_up_at, hn]
  · rw [va_up_ne _ _ (fun z => e (h6 j k hj ha z)), (h5 j hj).2, gs_up_row e]
theorem mr_zast (hexec : p.tables.exec = Jvm.exec) (hb : c.code = cc) (hK : en_K E s) (hR : mr_W E q ad L S H) (hS : va_S (fun a => a ∈ L) H0 H locs) {i x : Int32} (hx01 : x = 0 ∨ x = 1) (hin : vp_in i 30) {j : Nat} (hj : i.toNatClampNeg = j) (hdg : decode cc pc = .ok (.bastore, 1))
    (kk : ∀ (H1 : Heap) (locs1 : List Loc), mr_W E q ad L (gs_up S 19 j x) H1 → va_S (fun a => a ∈ L) H0 H1 locs1 → W p l e R s m args below meth c H1 locs1 cells slots Q (F0 m (pc + 1) ls rest)) : W p l e R s m args below meth c H locs cells slots Q (F0 m pc ls (.int x :: .int i :: .ref (ad 19) :: rest)) := by
  obtain ⟨f, h1, h2, ⟨h3, h4⟩, h5, h6⟩ := hR
  subst hj
  obtain ⟨a1, a2⟩ := h5 19 rfl
  refine gl_zast hexec hb hK h1 h2 hS a1 a2 hx01 hin hdg (fun H1 locs1 g1 g2 g3 => ?_)
  have hne : q ≠ ad 19 := by
    intro z
    rw [← z, h4] at a2
    cases a2
  refine kk H1 locs1 ⟨_, g1, g2, ⟨h3, by rw [va_up_ne _ _ hne, h4, mr_fs_ast ad S rfl]⟩, fun j hj => ⟨(h5 j hj).1, ?_⟩, h6⟩ g3
  by_cases e : j = 19
  · subst e
    rw [va_up_self, gs_up_at]
    rfl
  · rw [va_up_ne _ _ (fun z => e (h6 j 19 hj rfl z)), (h5 j hj).2, gs_up_row e]
end MR
/-! contracts of the model's methods -/
def mr_Pc (E : en_T) (q : Nat) (ad : Nat → Nat) (L : List Nat) (S : gs_T) (As : List Value) (P : Prop) : Array Value → State → Prop := va_Pc (.ref q :: As) (fun U => mr_W E q ad L S U.heap ∧ en_K E U ∧ P)
def mr_Qi (E : en_T) (q : Nat) (ad : Nat → Nat) (L : List Nat) (v : Int32) (S2 : gs_T) : Array Value → State → Outcome → State → Prop := va_Qi (fun (r : Int32) (S' : gs_T) => r = v ∧ S' = S2) (fun S' t => mr_W E q ad L S' t.heap) (fun a => a ∈ L)
def mr_Qv (E : en_T) (q : Nat) (ad : Nat → Nat) (L : List Nat) (f : gs_T) : Array Value → State → Outcome → State → Prop := va_Qv (fun (S' : gs_T) => S' = f) (fun S' t => mr_W E q ad L S' t.heap) (fun a => a ∈ L)
def ps_Pc (As : List Value) (P : Prop) : Array Value → State → Prop := va_Pc As (fun _ => P)
def ps_Qi (f : Int32) : Array Value → State → Outcome → State → Prop := va_Qi (fun (r : Int32) (_ : Unit) => r = f) (fun _ _ => True) (fun _ => False)
abbrev mr_A (L : List Nat) : Nat → Prop := fun a => a ∈ L
abbrev mr_G (p : Program) (l : Launch) (e : Env) (R : Room) (s : State) (m : MethodId) (av : List Value) (below : List Frame) (meth : Method) (c : Code) (A : Nat → Prop) (Qc : Array Value → State → Outcome → State → Prop) (H : Heap) (locs : List Loc) (g : JFrame) : Prop := W p l e R s m av.toArray below meth c H locs 0 0 (MQ below Qc av.toArray s 0 0 A) g
theorem mr_start {l : Launch} {y : MethodName} {cc : ByteArray} {maxL : Nat} {ret : Option FieldType} {fr lo : Nat} {E : en_T} {q : Nat} {ad : Nat → Nat} {L : List Nat} {S : gs_T} {As : List Value} {P : Prop} {Qc : Array Value → State → Outcome → State → Prop} (hy : plainName y.cls = true) (hc : y.cls = RX2) (hlen : (lg_sl (.ref q :: As)).length ≤ maxL)
    (body : ∀ (p : Program) (e : Env) (s : State) (m : MethodId) (below : List Frame) (meth : Method) (c : Code) (ls : Array Slot), p.tables.exec = Jvm.exec → c.code = cc → meth.sig.returnType = ret → meth.locks = false → c.maxLocals = maxL → s.vm.findClass RX2 = some m.cls → (∀ w ∈ lw_all, w.before (Value.ref q :: As).toArray s = true) → en_K E s → P → lv_has ls maxL (lv_args 0 (.ref q :: As)) → mr_W E q ad L S s.heap →
      mr_G p l e { frames := fr, cells := 0, slots := 0, locals := lo } s m (.ref q :: As) below meth c (mr_A L) Qc s.heap [] (F0 m 0 ls [])) :
    Met l y (ws_ y cc maxL ret) { frames := fr, cells := 0, slots := 0, locals := lo } (mr_Pc E q ad L S As P) Qc 0 0 (mr_A L) := by
  refine Met.ofW (cc := cc) (maxL := maxL) (ret := ret) hy rfl ?_
  intro p e s m args below meth c s₁ B hml hv
  obtain ⟨rfl, hR, hK, hP⟩ := hv
  have hts := atoms_spec (ws := ws_ y cc maxL ret) B.pre
  have hown : s.vm.findClass y.cls = some m.cls := findClass_of_methodNamed B.named
  have hl := lv_entry (.ref q :: As) hlen
  rw [lg_entry_eq]
  rw [hc] at hown
  exact body p e s m below meth c _ B.exec B.bytes B.returns B.notSynchronized hml hown (fun w h => hts w (List.mem_cons_of_mem _ h)) hK hP hl hR
theorem ps_start {l : Launch} {y : MethodName} {cc : ByteArray} {maxL : Nat} {ret : Option FieldType} {fr lo : Nat} {As : List Value} {P : Prop} {Qc : Array Value → State → Outcome → State → Prop} (hy : plainName y.cls = true) (hlen : (lg_sl As).length ≤ maxL)
    (body : ∀ (p : Program) (e : Env) (s : State) (m : MethodId) (below : List Frame) (meth : Method) (c : Code) (ls : Array Slot), p.tables.exec = Jvm.exec → c.code = cc → meth.sig.returnType = ret → meth.locks = false → c.maxLocals = maxL → s.vm.findClass y.cls = some m.cls → (∀ w ∈ lw_all, w.before As.toArray s = true) → P → lv_has ls maxL (lv_args 0 As) →
      mr_G p l e { frames := fr, cells := 0, slots := 0, locals := lo } s m As below meth c (fun _ => False) Qc s.heap [] (F0 m 0 ls [])) :
    Met l y (ws_ y cc maxL ret) { frames := fr, cells := 0, slots := 0, locals := lo } (ps_Pc As P) Qc 0 0 (fun _ => False) := by
  refine Met.ofW (cc := cc) (maxL := maxL) (ret := ret) hy rfl ?_
  intro p e s m args below meth c s₁ B hml hv
  obtain ⟨rfl, hP⟩ := hv
  have hts := atoms_spec (ws := ws_ y cc maxL ret) B.pre
  have hown : s.vm.findClass y.cls = some m.cls := findClass_of_methodNamed B.named
  have hl := lv_entry As hlen
  rw [lg_entry_eq]
  exact body p e s m below meth c _ B.exec B.bytes B.returns B.notSynchronized hml hown (fun w h => hts w (List.mem_cons_of_mem _ h)) hP hl
section MC
variable {p : Program} {l : Launch} {e : Env} {R : Room} {s : State} {m : MethodId} {args : Array Value} {below : List Frame} {meth : Method} {c : Code} {H : Heap} {locs : List Loc} {cells slots : Nat} {Q : State → Prop}
variable {cc bytes : ByteArray} {pc nL maxL index n : Nat} {ls : Array Slot} {rest st0 As : List Value} {E : en_T} {q : Nat} {ad : Nat → Nat} {L : List Nat} {S : gs_T} {H0 : Heap} {A : Nat → Prop} {y : MethodName} {rm : Room} {ret : Option FieldType} {P : Prop} {own : String}
theorem mr_pre (hP : P) (hK : en_K E s) (hR : mr_W E q ad L S H) : PreV s H RX2 q (mr_Pc E q ad L S As P) As := by
  refine ⟨fun a U g mk h => ?_, ?_, fun U hU hW => ⟨rfl, by rw [hU]; exact hR, hK.moved hW.alike, hP⟩⟩
  · obtain ⟨h0, h1, h2, h3⟩ := h
    exact ⟨h0, h1, en_K.moved (u := U) (U := U.calling g mk a) (Vm.Alike.refl U.vm) h2, h3⟩
  · obtain ⟨f, h1, -, ⟨h3, h4⟩, -⟩ := hR
    obtain ⟨q0, hq⟩ := gl_at (f := f) h3
    rw [h4] at hq
    exact va_recv (q := (RX2, TX2, 38)) hK h1 rfl hq
theorem mr_calli {v : Int32} {S2 : gs_T} (Sx : CallFix p m c cc nL s args lw_all own) (hM : Met l y (ws_ y bytes maxL ret) rm (mr_Pc E q ad L S As P) (mr_Qi E q ad L v S2) 0 0 (mr_A L)) (cw : CallW R s args own RX2 index y bytes maxL ret (ws_ y bytes maxL ret) rm 0 0 n) (hP : P) (hK : en_K E s) (hR : mr_W E q ad L S H) (hLA : ∀ a, a ∈ L → A a) (hS : va_S A H0 H locs)
    (hn : As.length = n) (hsize : ls.size = nL) (hst : st0 = As.reverse ++ .ref q :: rest) (hroom : (rest.map fun v => v.category).sum ≤ 8) (hdg : decode cc pc = .ok (.invokevirtual index, 3)) (hf : cells ≤ R.cells ∧ slots ≤ R.slots)
    (kk : ∀ (H1 : Heap) (locs1 : List Loc), mr_W E q ad L S2 H1 → va_S A H0 H1 locs1 → H.size ≤ H1.size → (∀ a : Nat, a < H.size → ¬ a ∈ L → H1[a]? = H[a]?) → W p l e R s m args below meth c H1 locs1 cells slots Q (F0 m (pc + 3) ls (.int v :: rest))) : W p l e R s m args below meth c H locs cells slots Q (F0 m pc ls st0) := by
  refine va_calli (va_runV (As := As) (rest := rest) Sx hM cw (mr_pre hP hK hR) rfl hn hsize hst (lv_room hroom) hdg hf) hS (fun a _ h => hLA a h) (fun a h => hLA a h) (fun r u t H1 locs1 ht _ hw hB hz hk hS1 => ?_)
  obtain ⟨rfl, rfl⟩ := hw
  rw [ht] at hB
  exact kk H1 locs1 hB hS1 hz hk
theorem mr_callv {f : gs_T} (Sx : CallFix p m c cc nL s args lw_all own) (hM : Met l y (ws_ y bytes maxL ret) rm (mr_Pc E q ad L S As P) (mr_Qv E q ad L f) 0 0 (mr_A L)) (cw : CallW R s args own RX2 index y bytes maxL ret (ws_ y bytes maxL ret) rm 0 0 n) (hP : P) (hK : en_K E s) (hR : mr_W E q ad L S H) (hLA : ∀ a, a ∈ L → A a) (hS : va_S A H0 H locs)
    (hn : As.length = n) (hsize : ls.size = nL) (hst : st0 = As.reverse ++ .ref q :: rest) (hroom : (rest.map fun v => v.category).sum ≤ 8) (hdg : decode cc pc = .ok (.invokevirtual index, 3)) (hf : cells ≤ R.cells ∧ slots ≤ R.slots)
    (kk : ∀ (H1 : Heap) (locs1 : List Loc), mr_W E q ad L f H1 → va_S A H0 H1 locs1 → W p l e R s m args below meth c H1 locs1 cells slots Q (F0 m (pc + 3) ls rest)) : W p l e R s m args below meth c H locs cells slots Q (F0 m pc ls st0) := by
  refine va_callv (va_runV (As := As) (rest := rest) Sx hM cw (mr_pre hP hK hR) rfl hn hsize hst (lv_room hroom) hdg hf) hS (fun a _ h => hLA a h) (fun a h => hLA a h) (fun u t H1 locs1 ht _ hw hB hz hk hS1 => ?_)
  cases hw
  rw [ht] at hB
  exact kk H1 locs1 hB hS1
theorem ps_calli {f : Int32} (Sx : CallFix p m c cc nL s args lw_all own) (hM : Met l y (ws_ y bytes maxL ret) rm (ps_Pc As P) (ps_Qi f) 0 0 (fun _ => False)) (cw : CallB R s args own index y bytes maxL ret (ws_ y bytes maxL ret) rm 0 0 n ∧ (Cond.static y).before args s = true) (hP : P) (hS : va_S A H0 H locs)
    (hn : As.length = n) (hsize : ls.size = nL) (hst : st0 = As.reverse ++ rest) (hroom : (rest.map fun v => v.category).sum ≤ 8) (hdg : decode cc pc = .ok (.invokestatic index, 3)) (hf : cells ≤ R.cells ∧ slots ≤ R.slots)
    (kk : ∀ (H1 : Heap) (locs1 : List Loc), H.size ≤ H1.size → (∀ a : Nat, a < H.size → H1[a]? = H[a]?) → va_S A H0 H1 locs1 → W p l e R s m args below meth c H1 locs1 cells slots Q (F0 m (pc + 3) ls (.int f :: rest))) : W p l e R s m args below meth c H locs cells slots Q (F0 m pc ls st0) := by
  refine va_calli (va_runS (As := As) (rest := rest) Sx hM cw ⟨fun a U g mk h => h, fun U hU hW => ⟨rfl, hP⟩⟩ rfl hn hsize hst (lv_room hroom) hdg hf) hS (fun a _ h => h.elim) (fun a h => h.elim) (fun r u t H1 locs1 ht _ hw hB hz hk hS1 => ?_)
  cases hw
  exact kk H1 locs1 hz (fun a h => hk a h (fun z => z)) hS1
end MC
