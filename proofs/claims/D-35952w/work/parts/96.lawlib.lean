/-! the law: what holds all through its loop, rules for its calls -/
theorem mr_lt {E : en_T} {q : Nat} {ad : Nat → Nat} {L : List Nat} {S : gs_T} {H : Heap} (h : mr_W E q ad L S H) : ∀ a, a ∈ L → a < H.size := by
  obtain ⟨f, h1, -⟩ := h
  intro a ha
  obtain ⟨q0, hq⟩ := gl_at (f := f) ha
  exact (h1 q0 _ hq).lt
/-- the component's area in the law: what is new, but the model's cells -/
abbrev la_A (s : State) (L : List Nat) : Nat → Prop := fun a => s.heap.size ≤ a ∧ ¬ a ∈ L
abbrev la_9 (s : State) : Nat → Prop := fun a => s.heap.size ≤ a
/-- the two worlds of a round -/
def LW (CP : gs_T → gs_T → Prop) (E : en_T) (C : ex_C) (s : State) (x0 y o : Nat) (ad : Nat → Nat) (L : List Nat) (S M : gs_T) (H : Heap) : Prop := CP S M ∧ (∃ (g : kw_A) (h : xh_T) (v : Nat → Int64), g 0 0 = x0 ∧ xh C g h S ∧ xo E C g h S o v (la_A s L) H) ∧ mr_W E y ad L M H
/-- a component's call and the model's call -/
def cl_P {α : Type} (CP : gs_T → gs_T → Prop) (Ln : List String) (f : String ⊕ (α × gs_T)) (v : α) (M' : gs_T) (S : gs_T) : Prop := (∀ X, f = .inl X → ∃ i, Ln[i]? = some X ∧ M' 0 0 = nI (i + 1) ∧ CP S M') ∧ ∀ r S', f = .inr (r, S') → M' 0 0 = 0 ∧ r = v ∧ CP S' M'
theorem li_ne {Ln : List String} {i j : Nat} {X : String} (hd : Ln.Nodup) (h1 : Ln[i]? = some X) (h2 : Ln[j]? = some X) : i = j := by
  obtain ⟨a1, a2⟩ := List.getElem?_eq_some_iff.mp h1
  obtain ⟨b1, b2⟩ := List.getElem?_eq_some_iff.mp h2
  rw [List.Nodup, List.pairwise_iff_getElem] at hd
  rcases Nat.lt_trichotomy i j with c | c | c
  · exact absurd (a2.trans b2.symm) (hd i j a1 b1 c)
  · exact c
  · exact absurd (b2.trans a2.symm) (hd j i b1 a1 c)
theorem li_n0 {Ln : List String} {i : Nat} {X : String} (h3 : Ln.length ≤ 3) (h1 : Ln[i]? = some X) : ¬ nI (i + 1) = 0 := by
  obtain ⟨a1, -⟩ := List.getElem?_eq_some_iff.mp h1
  exact nI_ne0 (by omega) (by omega)
section LS
variable {p : Program} {l : Launch} {e : Env} {R : Room} {s : State} {m : MethodId} {args : Array Value} {below : List Frame} {meth : Method} {c : Code} {H : Heap} {locs : List Loc} {cells slots : Nat} {Q : State → Prop}
variable {cc bytes : ByteArray} {pc nL maxL index n mc ms : Nat} {ls : Array Slot} {rest st0 As : List Value} {E : en_T} {C : ex_C} {A : Nat → Prop} {y : MethodName} {rm : Room} {ret : Option FieldType} {P : Prop} {own : String} {x0 o : Nat} {g : kw_A} {h : xh_T} {S : gs_T} {v : Nat → Int64} {hh : List (Nat × Nat × Nat × Nat)}
theorem ls_S {α : Type} {vl : α → Int32} {Ln : List String} {f : String ⊕ (α × gs_T)} (hK : ex_K E C s) (hN : nc_K s) (hZ : ex_H C (la_9 s) s s.heap) (hS : va_S (la_9 s) s.heap H locs) (hA9 : ∀ a, A a → la_9 s a) (hAn : ∀ a, H.size ≤ a → A a) (hX : xo E C g h S o v A H) (hP : P)
    (hM : vx_Met l y (wsW_ y bytes maxL ret hh) rm (cpw E C A H.size As (xo E C g h S o v A) P) (cw_Q vl Ln E C g h S o x0 A f) (fun _ _ _ => False) mc ms A)
    (Sx : CallFix p m c cc nL s args lw_all own) (cw : vx_CSW R s args own index y bytes maxL ret hh (wsW_ y bytes maxL ret hh) rm mc ms n)
    (hn : As.length = n) (hsize : ls.size = nL) (hst : st0 = As.reverse ++ rest) (hroom : (rest.map fun v => v.category).sum ≤ 8) (hdg : decode cc pc = .ok (.invokestatic index, 3)) (hf : cells + mc ≤ R.cells ∧ slots + ms ≤ R.slots)
    (kx : ∀ (Xn : String) (i : Nat) (v' : Nat → Int64) (H1 : Heap) (locs1 : List Loc), f = .inl Xn → Ln[i]? = some Xn → xo E C g h S o v' A H1 → H.size ≤ H1.size → (∀ q : Nat, q < H.size → ¬ A q → H1[q]? = H[q]?) → va_S (la_9 s) s.heap H1 locs1 → W p l e R s m args below meth c H1 locs1 (cells + mc) (slots + ms) Q (F0 m (pc + 3) ls (.int (nI (i + 1)) :: rest)))
    (kk : ∀ (r : α) (S' : gs_T) (g' : kw_A) (h' : xh_T) (v' : Nat → Int64) (H1 : Heap) (locs1 : List Loc), f = .inr (r, S') → g' 0 0 = x0 → xh C g' h' S' → v' 0 = (vl r).toInt64 → xo E C g' h' S' o v' A H1 → H.size ≤ H1.size → (∀ q : Nat, q < H.size → ¬ A q → H1[q]? = H[q]?) → va_S (la_9 s) s.heap H1 locs1 → W p l e R s m args below meth c H1 locs1 (cells + mc) (slots + ms) Q (F0 m (pc + 3) ls (.int 0 :: rest))) : W p l e R s m args below meth c H locs cells slots Q (F0 m pc ls st0) := by
  intro T hT X9
  rcases vx_runSX (As := As) (rest := rest) Sx hM cw ⟨cpw_blind, fun U hU hW => ⟨rfl, ⟨⟨by rw [hU], ex_K.warm hW hK, by
    rw [hU]
    exact ex_H.moved hW.alike ((hZ.kept (fun a h1 h2 => hS.2.1 a h1 h2)).narrow hA9), hAn⟩, hN.moved hW.alike⟩, by rw [hU]; exact hX, hP⟩⟩ rfl hn hsize hst (lv_room hroom) hdg hf T hT X9 with ⟨v9, st₀, t, T', L, h0, X', hL, e1, e2, ⟨hq, hF⟩, st⟩ | ⟨q, st₀, t, T', L, Xn, ce, h0, X', hL, e1, e2, hp, hce, hcv, hcl, st⟩
  · obtain ⟨k1, k2, k3⟩ := vx_keep h0 e1 hS (fun q _ h => hA9 q h) hA9 hL hF
    rcases hq with ⟨Xn, i, v', q1, q2, q3, q4⟩ | ⟨r, S', g', h', v', q1, q2, q3, q4, q5, q6⟩
    · cases q3
      obtain ⟨t2, a1, b1⟩ := kx Xn i v' T'.heap (locs ++ L) q1 q2 (by rw [e1]; exact q4) k1 k2 k3 T' rfl X'
      exact ⟨t2, st t2 a1, b1⟩
    · cases q2
      obtain ⟨t2, a1, b1⟩ := kk r S' g' h' v' T'.heap (locs ++ L) q1 q3 q4 q5 (by rw [e1]; exact q6) k1 k2 k3 T' rfl X'
      exact ⟨t2, st t2 a1, b1⟩
  · exact hp.elim
end LS
/-- what holds of the law's frame, from its entry on -/
def le_E (l : Launch) (p : Program) (s : State) (m : MethodId) (meth : Method) (c : Code) (b Ln : Nat) (xs : Nat → Int32) (E : en_T) (C : ex_C) (y : Nat) (L : List Nat) : Prop := p.tables.exec = Jvm.exec ∧ c.code = cL_law ∧ c.maxLocals = 7 ∧ s.vm.findClass RX0 = some m.cls ∧ (∀ w ∈ lw_all, w.before #[Value.ref b] s = true) ∧ va_X b Ln xs s s.heap ∧ b < s.heap.size ∧ ex_K E C s ∧ nc_K s ∧ ex_H C (la_9 s) s s.heap ∧ l.stackTraces = false ∧ (∀ a, a ∈ L → la_9 s a) ∧ Ln ≤ 512
theorem la_new {s : State} {L : List Nat} {H : Heap} (hz : s.heap.size ≤ H.size) (hL : ∀ a, a ∈ L → a < H.size) : ∀ a, H.size ≤ a → la_A s L a := fun a ha => ⟨Nat.le_trans hz ha, fun z => by have := hL a z; omega⟩
