/-! iterators: key 8 beside a world that has no key 8 -/
def it_ok (ok : Nat → Nat → Prop) : Nat → Nat → Prop := fun u j => bif Nat.beq u 8 then j = 0 else ok u j
def it_ad (q : Nat) (ad : kw_A) : kw_A := fun u j => bif Nat.beq u 8 then q else ad u j
def it_en (fs : List Value) (en : Nat → Nat → va_E) : Nat → Nat → va_E := fun u j => bif Nat.beq u 8 then .inr (6, fs) else en u j
section IT
variable {ok : Nat → Nat → Prop} {ad : kw_A} {en en' : Nat → Nat → va_E} {fs fs' : List Value} {q t i : Nat} {E : en_T} {A : Nat → Prop} {H : Heap}
theorem it_n8 {u : Nat} (h : u ≠ 8) : Nat.beq u 8 = false := by
  rcases e : Nat.beq u 8 with _ | _
  · rfl
  · exact absurd (Nat.eq_of_beq_eq_true e) h
theorem it_hn : ∀ u j, it_ok ok u j → ¬ (u = 8 ∧ j = 0) → it_en fs' en u j = it_en fs en u j := by
  intro u j ho hne
  by_cases h : u = 8
  · subst h
    exact absurd ⟨rfl, ho⟩ hne
  · show (bif Nat.beq u 8 then _ else _) = (bif Nat.beq u 8 then _ else _)
    rw [it_n8 h]
    rfl
theorem it_hc (h : ∀ u j, ok u j → ¬ (u = t ∧ j = i) → en' u j = en u j) : ∀ u j, it_ok ok u j → ¬ (u = t ∧ j = i) → it_en fs en' u j = it_en fs en u j := by
  intro u j ho hne
  by_cases e : u = 8
  · subst e
    rfl
  · have h8 := it_n8 e
    have ho' : ok u j := by
      have : it_ok ok u j = ok u j := by show (bif Nat.beq u 8 then _ else _) = _; rw [h8]; rfl
      exact this ▸ ho
    show (bif Nat.beq u 8 then _ else _) = (bif Nat.beq u 8 then _ else _)
    rw [h8]
    exact h u j ho' hne
theorem it_drop (h8 : ∀ j, ¬ ok 8 j) (h : kw E (it_ok ok) (it_ad q ad) (it_en fs en) A H) : kw E ok ad en A H := by
  refine h.less (fun u j ho => ?_)
  have e : u ≠ 8 := fun z => h8 j (z ▸ ho)
  have e8 := it_n8 e
  refine ⟨?_, ?_, ?_⟩
  · show bif Nat.beq u 8 then _ else _
    rw [e8]; exact ho
  · show _ = bif Nat.beq u 8 then _ else _
    rw [e8]; rfl
  · show _ = bif Nat.beq u 8 then _ else _
    rw [e8]; rfl
theorem it_mk (h : kw E (fun u j => (u = 8 ∧ j = 0) ∨ ok u j) (fun u j => if u = 8 ∧ j = 0 then q else ad u j) (fun u j => if u = 8 ∧ j = 0 then .inr (6, fs) else en u j) A H) : kw E (it_ok ok) (it_ad q ad) (it_en fs en) A H := by
  refine h.less (fun u j ho => ?_)
  by_cases e : u = 8
  · subst e
    have hj : j = 0 := ho
    subst hj
    exact ⟨Or.inl ⟨rfl, rfl⟩, rfl, rfl⟩
  · have e8 := it_n8 e
    have ho' : ok u j := by
      have : it_ok ok u j = ok u j := by show (bif Nat.beq u 8 then _ else _) = _; rw [e8]; rfl
      exact this ▸ ho
    refine ⟨Or.inr ho', ?_, ?_⟩
    · rw [if_neg (fun z => e z.1)]
      show (bif Nat.beq u 8 then _ else _) = _
      rw [e8]; rfl
    · rw [if_neg (fun z => e z.1)]
      show (bif Nat.beq u 8 then _ else _) = _
      rw [e8]; rfl
end IT
theorem xok_8 {S : gs_T} : ∀ j, ¬ xok S 8 j := fun _ h => h
abbrev xwi (E : en_T) (C : ex_C) (g : kw_A) (h : xh_T) (S : gs_T) (q k : Nat) (mc : Int32) (b : Nat) (A : Nat → Prop) (H : Heap) : Prop := kw E (it_ok (xok S)) (it_ad q g) (it_en [.int (nI k), .int (nI k - 1), .int mc, .ref b] (xen E C g h S)) A H
theorem xwi_x {E : en_T} {C : ex_C} {g : kw_A} {h : xh_T} {S : gs_T} {q k b : Nat} {mc : Int32} {A : Nat → Prop} {H : Heap} (hR : xwi E C g h S q k mc b A H) : xw E C g h S A H := it_drop xok_8 hR
theorem xwi_up {E : en_T} {C : ex_C} {g : kw_A} {h : xh_T} {S : gs_T} {q b : Nat} {fs : List Value} {A : Nat → Prop} {H : Heap} {k i : Nat} {v : Int32} (hk : (k != 21 && k != 22) = true) (hR : kw E (it_ok (xok S)) (it_ad q g) (it_en fs (xen E C g h (gs_up S k i v))) A H) : kw E (it_ok (xok (gs_up S k i v))) (it_ad q g) (it_en fs (xen E C g h (gs_up S k i v))) A H := by
  simp only [Bool.and_eq_true, bne_iff_ne, ne_eq] at hk
  rw [xok_up hk.1 hk.2]
  exact hR
/-- what next asks of a list that is walked -/
theorem xg_next {E : en_T} {C : ex_C} {g : kw_A} {h : xh_T} {S : gs_T} (hI : xi_ok S) (hh : xh C g h S) {z k : Nat} (hz : z < 7 + nz S 1) (hk : k < nz S z) :
    xok S 1 z ∧ xen E C g h S 1 z = .inr (5, [.int (S 20 z), .ref (g 2 z), .int (nI (nz S z))]) ∧ xok S 2 z ∧ xen E C g h S 2 z = .inl (E.2.2.2.2, cz S z, .inr (.inr (.inr (.inr (h z))))) ∧ h z k = some (xel C g S z k) ∧ k < nz S z ∧ nz S z ≤ cz S z ∧ cz S z ≤ 1000 := by
  obtain ⟨a1, a2, a3, a4, a5⟩ := xi_zz hI hz
  have hc : cz S z ≠ 0 := by omega
  refine ⟨hz, ?_, ⟨hz, hc⟩, rfl, hh z hz k hk, hk, a3, by omega⟩
  rw [xe_1 hc, ← a1]
theorem xg_hn {E : en_T} {C : ex_C} {g : kw_A} {h : xh_T} {S : gs_T} (hI : xi_ok S) {z k : Nat} (hz : z < 7 + nz S 1) (hk : k ≤ nz S z) :
    xok S 1 z ∧ xen E C g h S 1 z = .inr (5, [.int (S 20 z), .ref (if cz S z = 0 then C.2.1 else g 2 z), .int (nI (nz S z))]) ∧ k ≤ nz S z ∧ nz S z ≤ 1000 := by
  obtain ⟨a1, a2, a3, a4, a5⟩ := xi_zz hI hz
  refine ⟨hz, ?_, hk, by omega⟩
  show (Sum.inr (5, [.int (S 20 z), .ref (if cz S z = 0 then C.2.1 else g 2 z), .int (S 21 z)]) : va_E) = _
  rw [← a1]
theorem nI_ne {a b : Nat} (ha : a ≤ 1000) (hb : b ≤ 1000) : nI a = nI b ↔ a = b := by
  refine ⟨fun h => ?_, fun h => by rw [h]⟩
  have := congrArg Int32.toNatClampNeg h
  rwa [nI_clamp (by omega), nI_clamp (by omega)] at this
theorem it_0 : nI 0 = 0 := rfl
theorem it_m1 : nI 0 - 1 = (-1 : Int32) := by decide
theorem it_lt {k n : Nat} (h : k ≤ n) (hn : n ≤ 1000) : (if ¬ (nI k = nI n) then (1 : Int32) else 0) = gs_bz (decide (k < n)) := by
  rw [← gs_bz_dec]
  by_cases e : k < n
  · rw [if_pos e, if_pos (fun z => by have := (nI_ne (by omega) hn).mp z; omega)]
  · have : k = n := by omega
    subst this
    rw [if_neg e, if_neg (fun z => z rfl)]
theorem x_inj {E : en_T} {C : ex_C} {g : kw_A} {h : xh_T} {S : gs_T} {A : Nat → Prop} {H : Heap} (hR : xw E C g h S A H) {t i j : Nat} (hi : xok S t i) (hj : xok S t j) : some (g t i) = some (g t j) ↔ i = j := by
  obtain ⟨L, f, h1, h2, h3, h4⟩ := hR
  exact ⟨fun e => (h4 t i t j hi hj (Option.some.inj e)).2, fun e => by rw [e]⟩
section FE
variable {p : Program} {l : Launch} {e : Env} {R : Room} {s : State} {m : MethodId} {args : Array Value} {below : List Frame} {meth : Method} {c : Code} {H : Heap} {locs : List Loc} {cells slots : Nat} {Q : State → Prop}
variable {cc bytes : ByteArray} {pc nL maxL index n mc ms : Nat} {ls : Array Slot} {rest st0 As : List Value} {E : en_T} {C : ex_C} {A A0 A1 : Nat → Prop} {y : MethodName} {rm : Room} {ret : Option FieldType} {P : Prop} {own K : String} {X : Heap → Prop} {B : Nat → Heap → Prop} {b : Nat}
theorem cq_FE {x : MethodName} {cC : ClassId} {count : Nat} (hK : ex_K E C s) (hZ : ex_H C A s s.heap) (hA : ∀ a, s.heap.size ≤ a → A a) (hAA : ∀ a, A0 a → A a) (hS : va_S A0 s.heap H locs) (hX : X H) (hP : P)
    (hM : Met l y (ws_ y bytes maxL ret) rm (cpc E C A H.size (.ref b :: As) X P) (cq_E B A1) mc ms A1) (hA1 : ∀ a, A1 a → A0 a)
    (hat : ClassAt s K cC) (Sx : CallFix p m c cc nL s args lw_all own) (cw : va_CI R s args own K index x y bytes maxL ret (ws_ y bytes maxL ret) rm mc ms n) (hrecv : ∃ cell : Cell, H[b]? = some cell ∧ cell.vm.isStatics = false ∧ s.vm.findClass K = some cell.cls)
    (hn : As.length = n) (hsize : ls.size = nL) (hst : st0 = As.reverse ++ .ref b :: rest) (hroom : (rest.map fun v => v.category).sum ≤ 8) (hdg : decode cc pc = .ok (.invokeinterface index count, 5)) (hf : cells + mc ≤ R.cells ∧ slots + ms ≤ R.slots)
    (kk : ∀ (ra : Nat) (H1 : Heap) (locs1 : List Loc), B ra H1 → H.size ≤ H1.size → (∀ q : Nat, q < H.size → ¬ A1 q → H1[q]? = H[q]?) → va_S A0 s.heap H1 locs1 → W p l e R s m args below meth c H1 locs1 (cells + mc) (slots + ms) Q (F0 m (pc + 5) ls (.ref ra :: rest))) : W p l e R s m args below meth c H locs cells slots Q (F0 m pc ls st0) :=
  cq_callE5 (va_runF (As := As) (rest := rest) hat Sx hM cw ⟨cpc_blind, hrecv, cpc_now hK hZ hA hAA hS hX hP⟩ rfl hn hsize hst (lv_room hroom) hdg hf) hS (fun q _ h => hA1 q h) hA1 kk
end FE
/-- rows that bear no range keep xi_ok -/
theorem xi_up {S : gs_T} {k i : Nat} {v : Int32} (hk : (k != 21 && k != 22 && k != 30 && k != 31 && k != 38 && k != 50 && k != 51 && k != 72) = true) (hI : xi_ok S) : xi_ok (gs_up S k i v) := by
  simp only [Bool.and_eq_true, bne_iff_ne, ne_eq] at hk
  have e21 : (gs_up S k i v) 21 = S 21 := gs_up_row (by omega)
  have e22 : (gs_up S k i v) 22 = S 22 := gs_up_row (by omega)
  have e30 : (gs_up S k i v) 30 = S 30 := gs_up_row (by omega)
  have e31 : (gs_up S k i v) 31 = S 31 := gs_up_row (by omega)
  have e38 : (gs_up S k i v) 38 = S 38 := gs_up_row (by omega)
  have e50 : (gs_up S k i v) 50 = S 50 := gs_up_row (by omega)
  have e51 : (gs_up S k i v) 51 = S 51 := gs_up_row (by omega)
  have e72 : (gs_up S k i v) 72 = S 72 := gs_up_row (by omega)
  unfold xi_ok xi_z nz cz at hI ⊢
  rw [e21, e22, e30, e31, e38, e50, e51, e72]
  exact hI
theorem xe_x {E : en_T} {C : ex_C} {g : kw_A} {h : xh_T} {S : gs_T} {v : Int32} {k : Nat} (hk : (k == 0 || k == 6 || k == 9 || k == 10 || k == 11) = true) : xen E C g h (gs_up S k 0 v) 0 0 = .inr (0, (xfs g S).set k (.int v)) := by
  have w : ∀ r, (gs_up S k 0 v) r 0 = if r = k then v else S r 0 := by
    intro r
    by_cases e : r = k
    · subst e; rw [gs_up_self, if_pos rfl]
    · rw [gs_up_row e, if_neg e]
  have e : xfs g (gs_up S k 0 v) = (xfs g S).set k (.int v) := by
    simp only [Bool.or_eq_true, beq_iff_eq] at hk
    simp only [xfs]
    rw [w 0, w 6, w 9, w 10, w 11]
    rcases hk with (((rfl | rfl) | rfl) | rfl) | rfl <;> rfl
  exact congrArg (fun z => (Sum.inr (0, z) : va_E)) e
