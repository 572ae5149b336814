/-! arrays that grow: a new array under key (9, 0), the copy, the key of the list's array moved to it -/
def nk_ok (ok : Nat → Nat → Prop) : Nat → Nat → Prop := fun u j => bif Nat.beq u 9 then j = 0 else ok u j
def nk_ad (q : Nat) (ad : kw_A) : kw_A := fun u j => bif Nat.beq u 9 then q else ad u j
def nk_en (x : va_E) (en : Nat → Nat → va_E) : Nat → Nat → va_E := fun u j => bif Nat.beq u 9 then x else en u j
theorem nk_n {u : Nat} (h : u ≠ 9) : Nat.beq u 9 = false := by
  rcases e : Nat.beq u 9 with _ | _
  · rfl
  · exact absurd (Nat.eq_of_beq_eq_true e) h
section NK
variable {ok : Nat → Nat → Prop} {ad : kw_A} {en en' : Nat → Nat → va_E} {x x' : va_E} {q t i : Nat} {E : en_T} {A : Nat → Prop} {H : Heap}
theorem nk_hn : ∀ u j, nk_ok ok u j → ¬ (u = 9 ∧ j = 0) → nk_en x' en u j = nk_en x en u j := by
  intro u j ho hne
  by_cases h : u = 9
  · subst h
    exact absurd ⟨rfl, ho⟩ hne
  · show (bif Nat.beq u 9 then _ else _) = (bif Nat.beq u 9 then _ else _)
    rw [nk_n h]
    rfl
theorem nk_hc (h : ∀ u j, ok u j → ¬ (u = t ∧ j = i) → en' u j = en u j) : ∀ u j, nk_ok ok u j → ¬ (u = t ∧ j = i) → nk_en x en' u j = nk_en x en u j := by
  intro u j ho hne
  by_cases e : u = 9
  · subst e
    rfl
  · have h8 := nk_n e
    have ho' : ok u j := by
      have : nk_ok ok u j = ok u j := by show (bif Nat.beq u 9 then _ else _) = _; rw [h8]; rfl
      exact this ▸ ho
    show (bif Nat.beq u 9 then _ else _) = (bif Nat.beq u 9 then _ else _)
    rw [h8]
    exact h u j ho' hne
theorem nk_mk (h : kw E (fun u j => (u = 9 ∧ j = 0) ∨ ok u j) (fun u j => if u = 9 ∧ j = 0 then q else ad u j) (fun u j => if u = 9 ∧ j = 0 then x else en u j) A H) : kw E (nk_ok ok) (nk_ad q ad) (nk_en x en) A H := by
  refine h.less (fun u j ho => ?_)
  by_cases e : u = 9
  · subst e
    have hj : j = 0 := ho
    subst hj
    exact ⟨Or.inl ⟨rfl, rfl⟩, rfl, rfl⟩
  · have e8 := nk_n e
    have ho' : ok u j := by
      have : nk_ok ok u j = ok u j := by show (bif Nat.beq u 9 then _ else _) = _; rw [e8]; rfl
      exact this ▸ ho
    refine ⟨Or.inr ho', ?_, ?_⟩
    · rw [if_neg (fun z => e z.1)]
      show (bif Nat.beq u 9 then _ else _) = _
      rw [e8]; rfl
    · rw [if_neg (fun z => e z.1)]
      show (bif Nat.beq u 9 then _ else _) = _
      rw [e8]; rfl
/-- the list's array is the new one -/
def na_ok (z : Nat) (ok : Nat → Nat → Prop) : Nat → Nat → Prop := fun u j => (u = 2 ∧ j = z) ∨ ok u j
def na_ad (z q : Nat) (ad : kw_A) : kw_A := fun u j => if u = 2 ∧ j = z then q else ad u j
def na_en (z : Nat) (l x : va_E) (en : Nat → Nat → va_E) : Nat → Nat → va_E := fun u j => if u = 2 ∧ j = z then x else if u = 1 ∧ j = z then l else en u j
theorem na_mk {z : Nat} {l : va_E} (h9 : ∀ j, ¬ ok 9 j) (he : ∀ u j, en' u j = if u = 1 ∧ j = z then l else en u j) (h : kw E (nk_ok ok) (nk_ad q ad) (nk_en x en') A H) : kw E (na_ok z ok) (na_ad z q ad) (na_en z l x en) A H := by
  obtain ⟨L, f, h1, h2, h3, h4⟩ := h
  have k9 := h3 9 0 rfl
  have w : ∀ u j, na_ok z ok u j → ¬ (u = 2 ∧ j = z) → nk_ok ok u j ∧ na_ad z q ad u j = nk_ad q ad u j ∧ na_en z l x en u j = nk_en x en' u j ∧ u ≠ 9 := by
    intro u j ho hne
    have ho' := ho.resolve_left hne
    have e : u ≠ 9 := fun z => h9 j (z ▸ ho')
    refine ⟨?_, ?_, ?_, e⟩
    · show bif Nat.beq u 9 then _ else _
      rw [nk_n e]; exact ho'
    · show (if _ then _ else _) = bif Nat.beq u 9 then _ else _
      rw [nk_n e, if_neg hne]; rfl
    · show (if _ then _ else _) = bif Nat.beq u 9 then _ else _
      rw [nk_n e, if_neg hne]
      exact (he u j).symm
  refine ⟨L, f, h1, h2, fun u j ho => ?_, fun u j v k ho hv e => ?_⟩
  · by_cases c : u = 2 ∧ j = z
    · obtain ⟨rfl, rfl⟩ := c
      refine ⟨?_, ?_⟩
      · show (if _ then _ else _) ∈ L
        rw [if_pos ⟨rfl, rfl⟩]; exact k9.1
      · show f (if _ then _ else _) = (if _ then _ else _)
        rw [if_pos ⟨rfl, rfl⟩, if_pos ⟨rfl, rfl⟩]; exact k9.2
    · obtain ⟨a1, a2, a3, -⟩ := w u j ho c
      rw [a2, a3]
      exact h3 u j a1
  · by_cases c : u = 2 ∧ j = z <;> by_cases d : v = 2 ∧ k = z
    · exact ⟨c.1.trans d.1.symm, c.2.trans d.2.symm⟩
    · obtain ⟨b1, b2, -, b4⟩ := w v k hv d
      obtain ⟨rfl, rfl⟩ := c
      rw [b2] at e
      have e' : nk_ad q ad 9 0 = nk_ad q ad v k := by rw [← e]; show q = (if _ then _ else _); rw [if_pos ⟨rfl, rfl⟩]
      exact absurd (h4 9 0 v k rfl b1 e').1.symm b4
    · obtain ⟨a1, a2, -, a4⟩ := w u j ho c
      obtain ⟨rfl, rfl⟩ := d
      rw [a2] at e
      have e' : nk_ad q ad u j = nk_ad q ad 9 0 := by rw [e]; show (if _ then _ else _) = q; rw [if_pos ⟨rfl, rfl⟩]
      exact absurd (h4 u j 9 0 a1 rfl e').1 a4
    · obtain ⟨a1, a2, -, -⟩ := w u j ho c
      obtain ⟨b1, b2, -, -⟩ := w v k hv d
      rw [a2, b2] at e
      exact h4 u j v k a1 b1 e
end NK
section KA
variable {p : Program} {l : Launch} {e : Env} {R : Room} {s : State} {m : MethodId} {args : Array Value} {below : List Frame} {meth : Method} {c : Code} {H : Heap} {locs : List Loc} {cells slots : Nat} {Q : State → Prop}
variable {cc : ByteArray} {pc : Nat} {ls : Array Slot} {rest : List Value} {E : en_T} {A : Nat → Prop} {H0 : Heap} {ok : Nat → Nat → Prop} {ad : kw_A} {en : Nat → Nat → va_E}
/-- anewarray of Object, under key (9, 0) -/
theorem kw_anew (hexec : p.tables.exec = Jvm.exec) (hb : c.code = cc) {own : String} {index : Nat} (hown : s.vm.findClass own = some m.cls) (hclink : (Cond.classLink own index "java/lang/Object").before args s = true) (hover : va_AO "java/lang/Object" s) (hK : en_K E s) (hR : kw E ok ad en A H) (hS : va_S A H0 H locs) (hA : ∀ q, H0.size ≤ q → A q)
    {n : Int32} {N' : Nat} (hn : ¬ n < 0) (hN : n.toNatClampNeg = N') (hbytes : N' * 4 ≤ 536870912) (hcells : cells + 1 ≤ R.cells) (hslots : slots + N' ≤ R.slots) (hdg : decode cc pc = .ok (.anewarray index, 3))
    (kk : ∀ (q : Nat) (H1 : Heap), kw E (nk_ok ok) (nk_ad q ad) (nk_en (.inl (E.2.2.2.2, N', .inr (.inr (.inr (.inr (fun _ => none)))))) en) A H1 → va_S A H0 H1 locs →
      W p l e R s m args below meth c H1 locs (cells + 1) (slots + N') Q (F0 m (pc + 3) ls (.ref q :: rest))) : W p l e R s m args below meth c H locs cells slots Q (F0 m pc ls (.int n :: rest)) := by
  obtain ⟨L, f, h1, h2, h3, h4⟩ := hR
  refine va_newq hexec hb hown hclink hover hK h1 h2 hS hA hn hN hbytes hcells hslots hdg (fun q cA H1 g1 g2 g3 g4 => ?_)
  have hcA : cA = E.2.2.2.2 := by
    have r1 := (g1.2 4 (cA, .object "java/lang/Object") rfl).2
    have r2 := (hK.2 3 (E.2.2.2.2, .object "java/lang/Object") rfl).2
    have n1 := va_nmO r1 rfl
    have n2 := va_nmO r2 rfl
    exact Option.some.inj (n1.symm.trans n2)
  subst hcA
  have hq : q ∉ L := va_pl_fresh2 (X := []) g3
  rw [va_pl_push hq] at g2 g3
  obtain ⟨a1, a2⟩ := kw_push (t := 9) (i := 0) (a := q) (x := .inl (E.2.2.2.2, N', .inr (.inr (.inr (.inr (fun _ => none)))))) (ok' := fun u j => (u = 9 ∧ j = 0) ∨ ok u j) (ad' := fun u j => if u = 9 ∧ j = 0 then q else ad u j) (en' := fun u j => if u = 9 ∧ j = 0 then .inl (E.2.2.2.2, N', .inr (.inr (.inr (.inr (fun _ => none))))) else en u j) hq h3 h4 (by simp) (by simp) (fun u j ho hc => ⟨ho.resolve_left hc, if_neg hc, if_neg hc⟩)
  exact kk q H1 (nk_mk ⟨_, _, g2, g3, a1, a2⟩) g4
theorem obj_any {args : Array Value} {s : State} {H : Heap} {C : String} {a : Nat} (hc : (Cond.castable C "java/lang/Object").before args s = true) (hr : ∃ cell : Cell, H[a]? = some cell ∧ cell.vm.isStatics = false ∧ s.vm.findClass C = some cell.cls) : va_Any "java/lang/Object" s H a := by
  obtain ⟨cell, h1, h2, h3⟩ := hr
  obtain ⟨c3, c4, g1, g2, g3⟩ := Cond.castable_spec hc
  obtain ⟨kC, hkC, -⟩ := Vm.findClass_spec h3
  refine ⟨cell, h1, h2, ⟨kC, hkC⟩, fun comp h => ?_⟩
  cases Option.some.inj (g1.symm.trans h3)
  cases Option.some.inj (g2.symm.trans h)
  exact g3
/-- what lists hold: finds, hands, claims, lists, cached ints -/
def le_P (C : ex_C) (ok : Nat → Nat → Prop) (ad : kw_A) (en : Nat → Nat → va_E) (y : Nat) : Prop := (∃ t i ci fs, ok t i ∧ y = ad t i ∧ en t i = .inr (ci, fs) ∧ (ci = 2 ∨ ci = 3 ∨ ci = 4 ∨ ci = 5)) ∨ ∃ k, k < 256 ∧ y = C.1 k
theorem le_any {C : ex_C} {y : Nat} (hK : ex_K E C s) (hZ : ex_H C A s s.heap) (hS : va_S A s.heap H locs) (hR : kw E ok ad en A H) (h : le_P C ok ad en y) : va_Any "java/lang/Object" s H y := by
  rcases h with ⟨t, i, ci, fs, ho, rfl, he, hci⟩ | ⟨k, hk, rfl⟩
  · rcases hci with rfl | rfl | rfl | rfl
    · exact obj_any (args := #[]) (va_Nw.use rfl (hK.2.1 _ q1301 rfl)) (kw_recv (t := t) (i := i) hK.1 hR ho he rfl)
    · exact obj_any (args := #[]) (va_Nw.use rfl (hK.2.1 _ q1302 rfl)) (kw_recv (t := t) (i := i) hK.1 hR ho he rfl)
    · exact obj_any (args := #[]) (va_Nw.use rfl (hK.2.1 _ q1304 rfl)) (kw_recv (t := t) (i := i) hK.1 hR ho he rfl)
    · exact obj_any (args := #[]) (va_Nw.use rfl (hK.2.1 _ q1294 rfl)) (kw_recv (t := t) (i := i) hK.1 hR ho he rfl)
  · exact obj_any (args := #[]) (va_Nw.use rfl (hK.2.1 _ q1299 rfl)) (ic_recv hZ hS hk)
/-- System.arraycopy from key (t0, i0) to key (t1, i1) -/
theorem kw_copy (hexec : p.tables.exec = Jvm.exec) (hb : c.code = cc) (hml : c.maxLocals = ls.size) {own : String} {index : Nat} (hown : s.vm.findClass own = some m.cls) (hlink : (Cond.methodLink own index arraycopyName).before args s = true) (hnat : (Cond.native arraycopyName).before args s = true) (hstat : (Cond.static arraycopyName).before args s = true) (hini : (Cond.initialized "java/lang/System").before args s = true)
    (hK : en_K E s) (hR : kw E ok ad en A H) (hS : va_S A H0 H locs) (t0 i0 t1 i1 : Nat) {n0 n1 : Nat} {f g : Nat → Option Nat} (ho0 : ok t0 i0) (he0 : en t0 i0 = .inl (E.2.2.2.2, n0, .inr (.inr (.inr (.inr f))))) (ho1 : ok t1 i1) (he1 : en t1 i1 = .inl (E.2.2.2.2, n1, .inr (.inr (.inr (.inr g)))))
    {sp dp n : Int32} (h1 : ¬ sp < 0) (h2 : ¬ dp < 0) (h3 : ¬ n < 0) (h4 : sp.toNatClampNeg + n.toNatClampNeg ≤ n0) (h5 : dp.toNatClampNeg + n.toNatClampNeg ≤ n1) (hel : ∀ i : Nat, i < n.toNatClampNeg → ∀ y : Nat, f (sp.toNatClampNeg + i) = some y → va_Any "java/lang/Object" s H y)
    (hframes : 1 ≤ R.frames) (hlocals : (rest.map fun v => v.category).sum + (nativeFrameWords "java/lang/System" "arraycopy" 5 + 11) ≤ R.locals) (hdg : decode cc pc = .ok (.invokestatic index, 3))
    (en' : Nat → Nat → va_E) (he' : en' t1 i1 = .inl (E.2.2.2.2, n1, .inr (.inr (.inr (.inr (va_cpy f g sp.toNatClampNeg dp.toNatClampNeg n.toNatClampNeg)))))) (hn' : ∀ u j, ok u j → ¬ (u = t1 ∧ j = i1) → en' u j = en u j)
    (kk : ∀ (H1 : Heap) (locs1 : List Loc), kw E ok ad en' A H1 → va_S A H0 H1 locs1 → W p l e R s m args below meth c H1 locs1 cells slots Q (F0 m (pc + 3) ls rest)) : W p l e R s m args below meth c H locs cells slots Q (F0 m pc ls (.int n :: .int dp :: .ref (ad t1 i1) :: .int sp :: .ref (ad t0 i0) :: rest)) := by
  obtain ⟨L, w, k1, k2, k3, k4⟩ := hR
  obtain ⟨q0, hq0⟩ := gl_at (f := w) (k3 t0 i0 ho0).1
  obtain ⟨q1, hq1⟩ := gl_at (f := w) (k3 t1 i1 ho1).1
  have hs := gl_set (e := .inl (E.2.2.2.2, n1, .inr (.inr (.inr (.inr (va_cpy f g sp.toNatClampNeg dp.toNatClampNeg n.toNatClampNeg)))))) k2 (k3 t1 i1 ho1).1 hq1
  rw [(k3 t0 i0 ho0).2, he0] at hq0
  rw [(k3 t1 i1 ho1).2, he1] at hq1
  refine va_copyM hexec hb hml hown hlink hnat hstat hini hK k1 k2 hS q0 q1 3 3 hq0 hq1 rfl rfl h1 h2 h3 h4 h5 hel hframes hlocals hdg (fun H1 locs1 g1 g2 g3 => ?_)
  rw [hs] at g1 g2
  exact kk H1 locs1 ⟨L, _, g1, g2, kw_up ho1 k3 k4 he' hn', k4⟩ g3
end KA
section RA
variable {p : Program} {l : Launch} {e : Env} {R : Room} {s : State} {m : MethodId} {args : Array Value} {below : List Frame} {meth : Method} {c : Code} {H : Heap} {locs : List Loc} {cells slots : Nat} {Q : State → Prop}
variable {cc bytes : ByteArray} {pc nL maxL index n mc ms : Nat} {ls : Array Slot} {rest st0 As : List Value} {E : en_T} {C : ex_C} {A A0 A1 : Nat → Prop} {y : MethodName} {rm : Room} {ret : Option FieldType} {P : Prop} {own K : String} {X : Heap → Prop} {B : Nat → Heap → Prop} {b : Nat}
theorem kw_recvA {ok : Nat → Nat → Prop} {ad : kw_A} {en : Nat → Nat → va_E} {t i n : Nat} {h : Nat → Option Nat} (hK : en_K E s) (hR : kw E ok ad en A H) (ho : ok t i) (he : en t i = .inl (E.2.2.2.2, n, .inr (.inr (.inr (.inr h))))) : ∃ cell : Cell, H[ad t i]? = some cell ∧ cell.vm.isStatics = false ∧ s.vm.findClass "[Ljava/lang/Object;" = some cell.cls := by
  obtain ⟨L, f, h1, h2, h3, h4⟩ := hR
  obtain ⟨q0, hq⟩ := gl_at (f := f) (h3 t i ho).1
  rw [(h3 t i ho).2, he] at hq
  have h9 : H[ad t i]? = some (vp_cell E.2.2.2.2 (n, .inr (.inr (.inr (.inr h))))) := h1 q0 _ hq
  have r2 := (hK.2 3 (E.2.2.2.2, .object "java/lang/Object") rfl).2
  exact ⟨_, h9, rfl, va_nmO r2 rfl⟩
theorem cq_SE (hK : ex_K E C s) (hZ : ex_H C A s s.heap) (hA : ∀ a, s.heap.size ≤ a → A a) (hAA : ∀ a, A0 a → A a) (hS : va_S A0 s.heap H locs) (hX : X H) (hP : P)
    (hM : Met l y (ws_ y bytes maxL ret) rm (cpc E C A H.size As X P) (cq_E B A1) mc ms A1) (hA1 : ∀ a, A1 a → A0 a)
    (Sx : CallFix p m c cc nL s args lw_all own) (cw : CallB R s args own index y bytes maxL ret (ws_ y bytes maxL ret) rm mc ms n ∧ (Cond.static y).before args s = true)
    (hn : As.length = n) (hsize : ls.size = nL) (hst : st0 = As.reverse ++ rest) (hroom : (rest.map fun v => v.category).sum ≤ 8) (hdg : decode cc pc = .ok (.invokestatic index, 3)) (hf : cells + mc ≤ R.cells ∧ slots + ms ≤ R.slots)
    (kk : ∀ (ra : Nat) (H1 : Heap) (locs1 : List Loc), B ra H1 → H.size ≤ H1.size → (∀ q : Nat, q < H.size → ¬ A1 q → H1[q]? = H[q]?) → va_S A0 s.heap H1 locs1 → W p l e R s m args below meth c H1 locs1 (cells + mc) (slots + ms) Q (F0 m (pc + 3) ls (.ref ra :: rest))) : W p l e R s m args below meth c H locs cells slots Q (F0 m pc ls st0) :=
  cq_callE (va_runS (As := As) (rest := rest) Sx hM cw ⟨cpc_blind, cpc_now hK hZ hA hAA hS hX hP⟩ rfl hn hsize hst (lv_room hroom) hdg hf) hS (fun q _ h => hA1 q h) hA1 kk
theorem cq_VE (hK : ex_K E C s) (hZ : ex_H C A s s.heap) (hA : ∀ a, s.heap.size ≤ a → A a) (hAA : ∀ a, A0 a → A a) (hS : va_S A0 s.heap H locs) (hX : X H) (hP : P)
    (hM : Met l y (ws_ y bytes maxL ret) rm (cpc E C A H.size (.ref b :: As) X P) (cq_E B A1) mc ms A1) (hA1 : ∀ a, A1 a → A0 a)
    (Sx : CallFix p m c cc nL s args lw_all own) (cw : CallW R s args own K index y bytes maxL ret (ws_ y bytes maxL ret) rm mc ms n) (hrecv : ∃ cell : Cell, H[b]? = some cell ∧ cell.vm.isStatics = false ∧ s.vm.findClass K = some cell.cls)
    (hn : As.length = n) (hsize : ls.size = nL) (hst : st0 = As.reverse ++ .ref b :: rest) (hroom : (rest.map fun v => v.category).sum ≤ 8) (hdg : decode cc pc = .ok (.invokevirtual index, 3)) (hf : cells + mc ≤ R.cells ∧ slots + ms ≤ R.slots)
    (kk : ∀ (ra : Nat) (H1 : Heap) (locs1 : List Loc), B ra H1 → H.size ≤ H1.size → (∀ q : Nat, q < H.size → ¬ A1 q → H1[q]? = H[q]?) → va_S A0 s.heap H1 locs1 → W p l e R s m args below meth c H1 locs1 (cells + mc) (slots + ms) Q (F0 m (pc + 3) ls (.ref ra :: rest))) : W p l e R s m args below meth c H locs cells slots Q (F0 m pc ls st0) :=
  cq_callE (va_runV (As := As) (rest := rest) Sx hM cw ⟨cpc_blind, hrecv, cpc_now hK hZ hA hAA hS hX hP⟩ rfl hn hsize hst (lv_room hroom) hdg hf) hS (fun q _ h => hA1 q h) hA1 kk
end RA
