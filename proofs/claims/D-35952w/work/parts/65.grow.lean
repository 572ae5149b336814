/-! Arrays.copyOf, newLength, ArrayList.grow, add -/
abbrev na_x (E : en_T) (m : Nat) (h : Nat → Option Nat) : va_E := .inl (E.2.2.2.2, m, .inr (.inr (.inr (.inr h))))
def na_c (cap : Nat) (h : Nat → Option Nat) : Nat → Option Nat := va_cpy h (fun _ => none) 0 0 cap
abbrev nk_W (E : en_T) (ok : Nat → Nat → Prop) (ad : kw_A) (en : Nat → Nat → va_E) (A : Nat → Prop) (q m : Nat) (h : Nat → Option Nat) (H : Heap) : Prop := kw E (nk_ok ok) (nk_ad q ad) (nk_en (na_x E m h) en) A H
theorem le_nk {C : ex_C} {ok : Nat → Nat → Prop} {ad : kw_A} {en : Nat → Nat → va_E} {x : va_E} {q y : Nat} (h9 : ∀ j, ¬ ok 9 j) (h : le_P C ok ad en y) : le_P C (nk_ok ok) (nk_ad q ad) (nk_en x en) y := by
  rcases h with ⟨t, i, ci, fs, ho, e, he, hci⟩ | h
  · have n9 : t ≠ 9 := fun w => h9 i (w ▸ ho)
    refine Or.inl ⟨t, i, ci, fs, ?_, ?_, ?_, hci⟩
    · show bif Nat.beq t 9 then _ else _
      rw [nk_n n9]; exact ho
    · show y = bif Nat.beq t 9 then _ else _
      rw [nk_n n9]; exact e
    · show (bif Nat.beq t 9 then _ else _) = _
      rw [nk_n n9]; exact he
  · exact Or.inr h
set_option maxHeartbeats 2000000 in
set_option maxRecDepth 100000 in
theorem jt_copyOf2 (l : Launch) (E : en_T) (C : ex_C) (A : Nat → Prop) (sz : Nat) (ok : Nat → Nat → Prop) (ad : kw_A) (en : Nat → Nat → va_E) (z cap m9 : Nat) (h : Nat → Option Nat) : Met l yJ3_copyOf_2 (ws_ yJ3_copyOf_2 cJ3_copyOf_2 4 (some (.array (.object "java/lang/Object")))) { frames := 1, cells := 1, slots := m9, locals := 60 } (cpc E C A sz [.ref (ad 2 z), .int (nI m9), .ref C.2.2.2] (kw E ok ad en A) ((∀ j, ¬ ok 9 j) ∧ ok 2 z ∧ en 2 z = na_x E cap h ∧ cap ≤ m9 ∧ m9 ≤ 1000 ∧ ∀ j, j < cap → ∀ y, h j = some y → le_P C ok ad en y)) (cq_E (fun a H => nk_W E ok ad en A a m9 (na_c cap h) H) A) 1 m9 A := by
  refine cq_start (by decide) (Nat.le_of_ble_eq_true rfl) ?_
  intro p e s m below meth c ls hx hb hr hlocks hml hown hnm hts hsz hK hZ hA hR hP hl
  subst hsz
  have hAA : ∀ a, A a → A a := fun _ h => h
  have hl : lv_has ls 4 [(0, .ref (ad 2 z)), (1, .int (nI m9)), (2, .ref C.2.2.2)] := hl
  have hS : va_S A s.heap s.heap [] := va_S.rf
  obtain ⟨h_9, h_o2, h_e2, h_c, h_m, h_l⟩ := hP
  refine lv_aload_n hx hb dJ3_copyOf_2_0 rfl (lv_at hl 2 rfl) ?_
  refine va_ldcM hx hb hown (hts _ q155) hK.2.2.2.2.1 dJ3_copyOf_2_1 ?_
  refine lv_acmp_ne (rx := some C.2.2.2) (ry := some C.2.2.2) (tgt := 13) hx hb dJ3_copyOf_2_3 (by decide) (fun h9 => absurd rfl h9) (fun _ => ?_)
  refine lv_iload_n hx hb dJ3_copyOf_2_6 rfl (lv_at hl 1 rfl) ?_
  refine kw_anew (N' := m9) hx hb hown (hts _ q157) hK.2.2.2.1 hK.1 hR hS hA (nI_pos (by omega)) (nI_clamp (by omega)) (by omega) (Nat.le_of_ble_eq_true rfl) (Nat.le_of_eq (Nat.zero_add _)) dJ3_copyOf_2_7 (fun q H hR hS => ?_)
  refine lv_goto (tgt := 24) hx hb dJ3_copyOf_2_10 (by decide) ?_
  refine lv_astore_n (lv' := [(3, .ref q), (0, .ref (ad 2 z)), (1, .int (nI m9)), (2, .ref C.2.2.2)]) hx hb dJ3_copyOf_2_24 rfl hl (by decide) rfl (fun ls hl => ?_)
  refine lv_aload_n hx hb dJ3_copyOf_2_25 rfl (lv_at hl 1 rfl) ?_
  refine lv_iconst (v := 0) hx hb dJ3_copyOf_2_26 (by decide) ?_
  refine lv_aload_n hx hb dJ3_copyOf_2_27 rfl (lv_at hl 0 rfl) ?_
  refine lv_iconst (v := 0) hx hb dJ3_copyOf_2_28 (by decide) ?_
  refine lv_aload_n hx hb dJ3_copyOf_2_29 rfl (lv_at hl 1 rfl) ?_
  refine kw_alen (v := nI cap) hx hb hK.1 hR 2 z h_o2 (Or.inl h_e2) rfl dJ3_copyOf_2_30 ?_
  refine lv_iload_n hx hb dJ3_copyOf_2_31 rfl (lv_at hl 2 rfl) ?_
  refine va_mmin hx hb (hml.trans hl.1.symm) hown (hts _ q158) (hts _ q159) (hts _ q39) (hts _ q160) (Nat.le_of_ble_eq_true rfl) (Nat.le_of_ble_eq_true rfl) (Nat.le_of_ble_eq_true rfl) (Nat.le_of_eq (Nat.zero_add _)) dJ3_copyOf_2_32 ?_
  have hmin : ¬ nI m9 < nI cap := fun w => by have := (nI_ltI (by omega) (by omega)).mp w; omega
  refine W.eq (g2 := F0 m 35 ls [.int (nI cap), .int 0, .ref q, .int 0, .ref (ad 2 z)]) (congrArg (fun w => F0 m 35 ls [.int w, .int 0, .ref q, .int 0, .ref (ad 2 z)]) (if_neg hmin)) ?_
  refine kw_copy hx hb (hml.trans hl.1.symm) hown (hts _ q161) (hts _ q163) (hts _ q162) (hts _ q40) hK.1 hR hS 2 z 9 0 h_o2 h_e2 rfl rfl (by decide) (by decide) (nI_pos (by omega)) ?_ ?_ ?_ (Nat.le_of_ble_eq_true rfl) (Nat.le_of_ble_eq_true rfl) dJ3_copyOf_2_35 (nk_en (na_x E m9 (na_c cap h)) en) ?_ nk_hn (fun H locs hR hS => ?_)
  · rw [nI_clamp (by omega)]; exact Nat.le_of_eq (Nat.zero_add _)
  · rw [nI_clamp (by omega)]; exact Nat.le_trans (Nat.le_of_eq (Nat.zero_add _)) h_c
  · intro i hi y hy
    rw [nI_clamp (by omega)] at hi
    have hy : h (0 + i) = some y := hy
    rw [Nat.zero_add] at hy
    have hle := h_l i hi y hy
    exact le_any hK hZ hS hR (le_nk h_9 hle)
  · rw [nI_clamp (by omega)]; rfl
  refine lv_aload_n hx hb dJ3_copyOf_2_38 rfl (lv_at hl 0 rfl) ?_
  refine W.widen (k := 1) (n := m9) (Nat.le_of_ble_eq_true rfl) (Nat.le_of_eq (Nat.zero_add _)) ?_
  exact W.aret (v := .ref q) hx hb hr (Or.inr ⟨_, rfl⟩) (Or.inr ⟨_, rfl⟩) (fun t ht hW => ⟨⟨q, rfl, by rw [ht]; exact hR⟩, hS.F ht⟩) hS.2.2 dJ3_copyOf_2_39
set_option maxHeartbeats 2000000 in
set_option maxRecDepth 100000 in
theorem jt_copyOf (l : Launch) (E : en_T) (C : ex_C) (A : Nat → Prop) (sz : Nat) (ok : Nat → Nat → Prop) (ad : kw_A) (en : Nat → Nat → va_E) (z cap m9 : Nat) (h : Nat → Option Nat) : Met l yJ3_copyOf (ws_ yJ3_copyOf cJ3_copyOf 2 (some (.array (.object "java/lang/Object")))) { frames := 2, cells := 1, slots := m9, locals := 90 } (cpc E C A sz [.ref (ad 2 z), .int (nI m9)] (kw E ok ad en A) ((∀ j, ¬ ok 9 j) ∧ ok 2 z ∧ en 2 z = na_x E cap h ∧ cap ≤ m9 ∧ m9 ≤ 1000 ∧ ∀ j, j < cap → ∀ y, h j = some y → le_P C ok ad en y)) (cq_E (fun a H => nk_W E ok ad en A a m9 (na_c cap h) H) A) 1 m9 A := by
  refine cq_start (by decide) (Nat.le_of_ble_eq_true rfl) ?_
  intro p e s m below meth c ls hx hb hr hlocks hml hown hnm hts hsz hK hZ hA hR hP hl
  subst hsz
  have hAA : ∀ a, A a → A a := fun _ h => h
  have hl : lv_has ls 2 [(0, .ref (ad 2 z)), (1, .int (nI m9))] := hl
  have hS : va_S A s.heap s.heap [] := va_S.rf
  refine lv_aload_n hx hb dJ3_copyOf_0 rfl (lv_at hl 0 rfl) ?_
  refine lv_iload_n hx hb dJ3_copyOf_1 rfl (lv_at hl 1 rfl) ?_
  refine lv_aload_n hx hb dJ3_copyOf_2 rfl (lv_at hl 0 rfl) ?_
  refine va_getC hx hb (hml.trans hl.1.symm) hown (C := "[Ljava/lang/Object;") (hts _ q136) (va_Nw.use rfl (hK.2.1 _ q1309 rfl)) (hts _ q1308) (hts _ q137) (hts _ q151) hK.2.2.2.2.1 (kw_recvA hK.1 hR hP.2.1 hP.2.2.1) (Nat.le_of_ble_eq_true rfl) (Nat.le_of_ble_eq_true rfl) dJ3_copyOf_3 ?_
  refine cq_SE (As := [.ref (ad 2 z), .int (nI m9), .ref C.2.2.2]) (rest := []) hK hZ hA hAA hS hR hP (jt_copyOf2 l E C A s.heap.size ok ad en z cap m9 h) (fun _ h => h) ⟨hx, hb, hml, hown, hts⟩ (va_cwS 3 hts (lw_S q152 q153 q37 q154) rfl rfl rfl (by decide +kernel) ⟨Nat.le_of_ble_eq_true rfl, Nat.le_of_ble_eq_true rfl⟩) rfl hl.1 rfl (Nat.le_of_ble_eq_true rfl) dJ3_copyOf_6 ⟨Nat.le_of_ble_eq_true rfl, Nat.le_of_eq (Nat.zero_add _)⟩ (fun q H locs hB hz hk hS => ?_)
  refine W.widen (k := 1) (n := m9) (Nat.le_of_ble_eq_true rfl) (Nat.le_of_eq (Nat.zero_add _)) ?_
  exact W.aret (v := .ref q) hx hb hr (Or.inr ⟨_, rfl⟩) (Or.inr ⟨_, rfl⟩) (fun t ht hW => ⟨⟨q, rfl, by rw [ht]; exact hB⟩, hS.F ht⟩) hS.2.2 dJ3_copyOf_9
