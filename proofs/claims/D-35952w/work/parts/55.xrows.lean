/-! writes to Lostroom's world, by the store's rows -/
theorem xok_up {S : gs_T} {k i : Nat} {v : Int32} (h1 : k ≠ 21) (h2 : k ≠ 22) : xok (gs_up S k i v) = xok S := by
  have e1 : (gs_up S k i v) 21 = S 21 := gs_up_row (Ne.symm h1)
  have e2 : (gs_up S k i v) 22 = S 22 := gs_up_row (Ne.symm h2)
  funext t j
  unfold xok nz cz
  rw [e1, e2]
theorem xw_up {E : en_T} {C : ex_C} {g : kw_A} {h : xh_T} {S : gs_T} {A : Nat → Prop} {H : Heap} {k i : Nat} {v : Int32} (hk : (k != 21 && k != 22) = true) (hR : kw E (xok S) g (xen E C g h (gs_up S k i v)) A H) : xw E C g h (gs_up S k i v) A H := by
  simp only [Bool.and_eq_true, bne_iff_ne, ne_eq] at hk
  unfold xw
  rw [xok_up hk.1 hk.2]
  exact hR
theorem xh_up {C : ex_C} {g : kw_A} {h : xh_T} {S : gs_T} {k i : Nat} {v : Int32} (hk : (k != 21 && k != 72) = true) (hh : xh C g h S) : xh C g h (gs_up S k i v) := by
  simp only [Bool.and_eq_true, bne_iff_ne, ne_eq] at hk
  have e1 : (gs_up S k i v) 21 = S 21 := gs_up_row (Ne.symm hk.1)
  have e2 : (gs_up S k i v) 72 = S 72 := gs_up_row (Ne.symm hk.2)
  unfold xh nz xel
  rw [e1, e2]
  exact hh
/-- entries that a write leaves as they are -/
theorem xn_gen {E : en_T} {C : ex_C} {g : kw_A} {h : xh_T} {S S' : gs_T} {t i : Nat} (r0 : ¬ t = 0 → ∀ k, (k = 0 ∨ k = 6 ∨ k = 9 ∨ k = 10 ∨ k = 11) → S' k 0 = S k 0) (rl : ∀ k, 20 ≤ k → k ≤ 22 → S' k = S k) (rf : ∀ k j, k < 13 → ¬ (3 = t ∧ j = i) → S' (30 + k) j = S (30 + k) j) (rc : ∀ k j, k < 9 → ¬ (4 = t ∧ j = i) → S' (50 + k) j = S (50 + k) j) (rh : ∀ k, 70 ≤ k → k ≤ 71 → S' k = S k) (ra : ∀ k, 1 ≤ k → k ≤ 4 → ¬ (6 = t ∧ k = i) → S' k = S k) :
    ∀ u j, xok S u j → ¬ (u = t ∧ j = i) → t ≠ 0 ∨ i = 0 → xen E C g h S' u j = xen E C g h S u j := by
  intro u j ho hne h0
  match u, ho with
  | 0, ho =>
    have hj : j = 0 := ho
    subst hj
    have ht : ¬ t = 0 := fun e => hne ⟨e.symm, (h0.resolve_left (fun z => z e)).symm⟩
    show (Sum.inr (0, xfs g S') : va_E) = .inr (0, xfs g S)
    simp only [xfs]
    rw [r0 ht 0 (by simp), r0 ht 6 (by simp), r0 ht 9 (by simp), r0 ht 10 (by simp), r0 ht 11 (by simp)]
  | 1, ho =>
    show (Sum.inr (5, [.int (S' 20 j), .ref (if cz S' j = 0 then C.2.1 else g 2 j), .int (S' 21 j)]) : va_E) = .inr (5, [.int (S 20 j), .ref (if cz S j = 0 then C.2.1 else g 2 j), .int (S 21 j)])
    unfold cz
    rw [rl 20 (by decide) (by decide), rl 21 (by decide) (by decide), rl 22 (by decide) (by decide)]
  | 2, ho =>
    show (Sum.inl (E.2.2.2.2, cz S' j, .inr (.inr (.inr (.inr (h j))))) : va_E) = .inl (E.2.2.2.2, cz S j, .inr (.inr (.inr (.inr (h j)))))
    unfold cz
    rw [rl 22 (by decide) (by decide)]
  | 3, ho =>
    have w : ∀ k, k < 13 → S' (30 + k) j = S (30 + k) j := fun k hk => rf k j hk hne
    show (Sum.inr (2, ffs g S' j) : va_E) = .inr (2, ffs g S j)
    simp only [ffs]
    rw [w 0 (by decide), w 1 (by decide), w 2 (by decide), w 3 (by decide), w 4 (by decide), w 5 (by decide), w 6 (by decide), w 7 (by decide), w 8 (by decide), w 9 (by decide), w 10 (by decide), w 11 (by decide), w 12 (by decide)]
  | 4, ho =>
    have w : ∀ k, k < 9 → S' (50 + k) j = S (50 + k) j := fun k hk => rc k j hk hne
    show (Sum.inr (4, cfs g S' j) : va_E) = .inr (4, cfs g S j)
    simp only [cfs]
    rw [w 0 (by decide), w 1 (by decide), w 2 (by decide), w 3 (by decide), w 4 (by decide), w 5 (by decide), w 6 (by decide), w 7 (by decide), w 8 (by decide)]
  | 5, ho =>
    show (Sum.inr (3, [.int (S' 70 j), .int (S' 71 j)]) : va_E) = .inr (3, [.int (S 70 j), .int (S 71 j)])
    rw [rh 70 (by decide) (by decide), rh 71 (by decide) (by decide)]
  | 6, ho =>
    have hj : 1 ≤ j ∧ j ≤ 4 := ho
    show (Sum.inl (E.2.1, (if j = 1 then 24 else 8), .inl (S' j)) : va_E) = .inl (E.2.1, (if j = 1 then 24 else 8), .inl (S j))
    rw [ra j hj.1 hj.2 (fun z => hne ⟨z.1, z.2⟩)]
  | u + 7, ho => exact ho.elim
section XN
variable {E : en_T} {C : ex_C} {g : kw_A} {h : xh_T} {S : gs_T} {v : Int32}
theorem xn_x {k : Nat} (hk : (k == 0 || k == 6 || k == 9 || k == 10 || k == 11) = true) : ∀ u j, xok S u j → ¬ (u = 0 ∧ j = 0) → xen E C g h (gs_up S k 0 v) u j = xen E C g h S u j := by
  simp only [Bool.or_eq_true, beq_iff_eq] at hk
  exact fun u j ho hne => xn_gen (fun e => absurd rfl e) (fun r _ _ => gs_up_row (by omega)) (fun r j _ _ => by rw [gs_up_row (by omega)]) (fun r j _ _ => by rw [gs_up_row (by omega)]) (fun r _ _ => gs_up_row (by omega)) (fun r _ _ _ => gs_up_row (by omega)) u j ho hne (Or.inr rfl)
theorem xn_a {k x : Nat} (hk : (decide (1 ≤ k) && decide (k ≤ 4)) = true) : ∀ u j, xok S u j → ¬ (u = 6 ∧ j = k) → xen E C g h (gs_up S k x v) u j = xen E C g h S u j := by
  simp only [Bool.and_eq_true, decide_eq_true_eq] at hk
  exact fun u j ho hne => xn_gen (fun _ r hr => by rw [gs_up_row (by omega)]) (fun r _ _ => gs_up_row (by omega)) (fun r j _ _ => by rw [gs_up_row (by omega)]) (fun r j _ _ => by rw [gs_up_row (by omega)]) (fun r _ _ => gs_up_row (by omega)) (fun r _ _ hr => gs_up_row (fun z => hr ⟨rfl, z⟩)) u j ho hne (Or.inl (by decide))
theorem xn_f {k i : Nat} (hk : decide (k < 13) = true) : ∀ u j, xok S u j → ¬ (u = 3 ∧ j = i) → xen E C g h (gs_up S (30 + k) i v) u j = xen E C g h S u j := by
  have hk := of_decide_eq_true hk
  refine fun u j ho hne => xn_gen (fun _ r hr => by rw [gs_up_row (by omega)]) (fun r _ _ => gs_up_row (by omega)) (fun r j _ hr => ?_) (fun r j _ _ => by rw [gs_up_row (by omega)]) (fun r _ _ => gs_up_row (by omega)) (fun r _ _ hr => gs_up_row (by omega)) u j ho hne (Or.inl (by decide))
  by_cases e : r = k
  · subst e; rw [gs_up_at, pk_un (fun z => hr ⟨rfl, z⟩)]
  · rw [gs_up_row (by omega)]
theorem xn_c {k i : Nat} (hk : decide (k < 9) = true) : ∀ u j, xok S u j → ¬ (u = 4 ∧ j = i) → xen E C g h (gs_up S (50 + k) i v) u j = xen E C g h S u j := by
  have hk := of_decide_eq_true hk
  refine fun u j ho hne => xn_gen (fun _ r hr => by rw [gs_up_row (by omega)]) (fun r _ _ => gs_up_row (by omega)) (fun r j _ _ => by rw [gs_up_row (by omega)]) (fun r j _ hr => ?_) (fun r _ _ => gs_up_row (by omega)) (fun r _ _ hr => gs_up_row (by omega)) u j ho hne (Or.inl (by decide))
  by_cases e : r = k
  · subst e; rw [gs_up_at, pk_un (fun z => hr ⟨rfl, z⟩)]
  · rw [gs_up_row (by omega)]
theorem xe_f {k i : Nat} (hk : decide (k < 13) = true) : xen E C g h (gs_up S (30 + k) i v) 3 i = .inr (2, (ffs g S i).set k (.int v)) := by
  have hk := of_decide_eq_true hk
  have w : ∀ r, (gs_up S (30 + k) i v) (30 + r) i = if r = k then v else S (30 + r) i := by
    intro r
    by_cases e : r = k
    · subst e; rw [gs_up_self, if_pos rfl]
    · rw [gs_up_row (by omega), if_neg e]
  have e : ffs g (gs_up S (30 + k) i v) i = (ffs g S i).set k (.int v) := by
    simp only [ffs]
    rw [w 0, w 1, w 2, w 3, w 4, w 5, w 6, w 7, w 8, w 9, w 10, w 11, w 12]
    rcases (show k = 0 ∨ k = 1 ∨ k = 2 ∨ k = 3 ∨ k = 4 ∨ k = 5 ∨ k = 6 ∨ k = 7 ∨ k = 8 ∨ k = 9 ∨ k = 10 ∨ k = 11 ∨ k = 12 by omega) with rfl | rfl | rfl | rfl | rfl | rfl | rfl | rfl | rfl | rfl | rfl | rfl | rfl <;> rfl
  exact congrArg (fun z => (Sum.inr (2, z) : va_E)) e
theorem xe_c {k i : Nat} (hk : decide (k < 9) = true) : xen E C g h (gs_up S (50 + k) i v) 4 i = .inr (4, (cfs g S i).set k (.int v)) := by
  have hk := of_decide_eq_true hk
  have w : ∀ r, (gs_up S (50 + k) i v) (50 + r) i = if r = k then v else S (50 + r) i := by
    intro r
    by_cases e : r = k
    · subst e; rw [gs_up_self, if_pos rfl]
    · rw [gs_up_row (by omega), if_neg e]
  have e : cfs g (gs_up S (50 + k) i v) i = (cfs g S i).set k (.int v) := by
    simp only [cfs]
    rw [w 0, w 1, w 2, w 3, w 4, w 5, w 6, w 7, w 8]
    rcases (show k = 0 ∨ k = 1 ∨ k = 2 ∨ k = 3 ∨ k = 4 ∨ k = 5 ∨ k = 6 ∨ k = 7 ∨ k = 8 by omega) with rfl | rfl | rfl | rfl | rfl | rfl | rfl | rfl | rfl <;> rfl
  exact congrArg (fun z => (Sum.inr (4, z) : va_E)) e
end XN
/-- what a public method answers: an exception's name, or a value and the store behind it -/
def xq_Q {α : Type} (vl : α → Int32) (E : en_T) (C : ex_C) (x0 : Nat) (A : Nat → Prop) (f : String ⊕ (α × gs_T)) : Array Value → State → Outcome → State → Prop := fun _ st oc t => (∃ (r : α) (S' : gs_T), f = .inr (r, S') ∧ oc = .returned (some (.int (vl r))) ∧ ∃ (g' : kw_A) (h' : xh_T), g' 0 0 = x0 ∧ xh C g' h' S' ∧ xw E C g' h' S' A t.heap) ∧ va_F A st t
def xq_X {α : Type} (E : en_T) (C : ex_C) (g : kw_A) (h : xh_T) (S : gs_T) (A : Nat → Prop) (f : String ⊕ (α × gs_T)) : String → State → State → Prop := fun X st t => (f = .inl X ∧ xw E C g h S A t.heap) ∧ va_F A st t
