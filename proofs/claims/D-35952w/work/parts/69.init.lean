/-! constructors of the JDK and of Hand -/
def ge_en (t i : Nat) (x : va_E) (en : Nat → Nat → va_E) : Nat → Nat → va_E := fun u j => if u = t ∧ j = i then x else en u j
theorem ge_hn {ok : Nat → Nat → Prop} {t i : Nat} {x : va_E} {en : Nat → Nat → va_E} : ∀ u j, ok u j → ¬ (u = t ∧ j = i) → ge_en t i x en u j = en u j := fun _ _ _ h => if_neg h
set_option maxHeartbeats 2000000 in
set_option maxRecDepth 100000 in
theorem jt_J0init (l : Launch) (E : en_T) (C : ex_C) (A : Nat → Prop) (sz : Nat) (a : Nat) : Met l yJ0_init (ws_ yJ0_init cJ0_init 1 none) { frames := 1, cells := 0, slots := 0, locals := 32 } (cpc E C A sz [.ref a] (fun _ => True) (True)) (cq_Q none (fun _ => True) (nw_A sz)) 0 0 (nw_A sz) := by
  refine cq_start (by decide) (Nat.le_of_ble_eq_true rfl) ?_
  intro p e s m below meth c ls hx hb hr hlocks hml hown hnm hts hsz hK hZ hA hR hP hl
  subst hsz
  have hAA : ∀ a, nw_A s.heap.size a → A a := hA
  have hS : va_S (nw_A s.heap.size) s.heap s.heap [] := va_S.rf
  have hl : lv_has ls 1 [(0, .ref a)] := hl
  refine lv_aload_n hx hb dJ0_init_0 rfl (lv_at hl 0 rfl) ?_
  refine W.objInit hx hb hown (hts _ q79) (hts _ q66) (hts _ q67) rfl (by rw [hml]; exact hl.1) rfl dJ0_init_1 (Nat.le_of_ble_eq_true rfl) (Nat.le_of_ble_eq_true rfl) ?_
  refine W.eq (g2 := F0 m 4 ls []) rfl ?_
  exact W.vret hx hb hr (fun t ht hW => ⟨⟨rfl, trivial⟩, hS.F ht⟩) hS.2.2 dJ0_init_4
set_option maxHeartbeats 2000000 in
set_option maxRecDepth 100000 in
theorem jt_J18init (l : Launch) (E : en_T) (C : ex_C) (A : Nat → Prop) (sz : Nat) (a : Nat) : Met l yJ18_init (ws_ yJ18_init cJ18_init 1 none) { frames := 1, cells := 0, slots := 0, locals := 32 } (cpc E C A sz [.ref a] (fun _ => True) (True)) (cq_Q none (fun _ => True) (nw_A sz)) 0 0 (nw_A sz) := by
  refine cq_start (by decide) (Nat.le_of_ble_eq_true rfl) ?_
  intro p e s m below meth c ls hx hb hr hlocks hml hown hnm hts hsz hK hZ hA hR hP hl
  subst hsz
  have hAA : ∀ a, nw_A s.heap.size a → A a := hA
  have hS : va_S (nw_A s.heap.size) s.heap s.heap [] := va_S.rf
  have hl : lv_has ls 1 [(0, .ref a)] := hl
  refine lv_aload_n hx hb dJ18_init_0 rfl (lv_at hl 0 rfl) ?_
  refine W.objInit hx hb hown (hts _ q512) (hts _ q66) (hts _ q67) rfl (by rw [hml]; exact hl.1) rfl dJ18_init_1 (Nat.le_of_ble_eq_true rfl) (Nat.le_of_ble_eq_true rfl) ?_
  refine W.eq (g2 := F0 m 4 ls []) rfl ?_
  exact W.vret hx hb hr (fun t ht hW => ⟨⟨rfl, trivial⟩, hS.F ht⟩) hS.2.2 dJ18_init_4
set_option maxHeartbeats 2000000 in
set_option maxRecDepth 100000 in
theorem jt_J1init (l : Launch) (E : en_T) (C : ex_C) (A : Nat → Prop) (sz : Nat) (ok : Nat → Nat → Prop) (ad : kw_A) (en : Nat → Nat → va_E) (z : Nat) (ea : Value) : Met l yJ1_init (ws_ yJ1_init cJ1_init 1 none) { frames := 2, cells := 0, slots := 0, locals := 60 } (cpc E C A sz [.ref (ad 1 z)] (kw E ok ad en A) (ok 1 z ∧ en 1 z = .inr (5, [.int 0, ea, .int 0]))) (cq_Q none (fun H => kw E ok ad en A H) A) 0 0 A := by
  refine cq_start (by decide) (Nat.le_of_ble_eq_true rfl) ?_
  intro p e s m below meth c ls hx hb hr hlocks hml hown hnm hts hsz hK hZ hA hR hP hl
  subst hsz
  have hAA : ∀ a, A a → A a := fun _ h => h
  have hS : va_S A s.heap s.heap [] := va_S.rf
  have hl : lv_has ls 1 [(0, .ref (ad 1 z))] := hl
  refine lv_aload_n hx hb dJ1_init_0 rfl (lv_at hl 0 rfl) ?_
  refine cq_I (v := none) (As := []) (rest := []) hK hZ hA hAA hS trivial trivial (jt_J0init l E C A s.heap.size (ad 1 z)) (fun _ h => hA _ (Nat.le_trans hS.1 h)) ⟨hx, hb, hml, hown, hts⟩ (cwI 0 hts (lw_meth q78) rfl rfl rfl (hts _ q34) (hts _ q76) (hts _ q77) rfl (by decide +kernel) ⟨Nat.le_of_ble_eq_true rfl, Nat.le_of_ble_eq_true rfl⟩) rfl hl.1 rfl (Nat.le_of_ble_eq_true rfl) dJ1_init_1 ⟨Nat.le_of_ble_eq_true rfl, Nat.le_of_ble_eq_true rfl⟩ (fun H locs hB hz hk hS => ?_)
  refine W.eq (g2 := F0 m 4 ls []) rfl ?_
  have hR := hR.kept (fun a _ h => hk a h (Nat.not_le.mpr h))
  refine lv_aload_n hx hb dJ1_init_4 rfl (lv_at hl 0 rfl) ?_
  refine lv_iconst (v := 0) hx hb dJ1_init_5 (by decide) ?_
  refine kw_put (C := RJ2) (T := TJ2) (N := 3) hx hb hts in_J2 tyJ2 tyJ2_ok nmJ2 hown hK.1 hR hS 1 z hP.1 hP.2 rfl 0 (by decide) (hts _ q86) (fun _ h9 => h9) (Or.inl rfl) rfl rfl rfl (Nat.le_of_ble_eq_true rfl) dJ1_init_6 en hP.2 (fun _ _ _ _ => rfl) (fun H locs hR hS => ?_)
  exact W.vret hx hb hr (fun t ht hW => ⟨⟨rfl, by rw [ht]; exact hR⟩, hS.F ht⟩) hS.2.2 dJ1_init_9
set_option maxHeartbeats 2000000 in
set_option maxRecDepth 100000 in
theorem jt_J2init (l : Launch) (E : en_T) (C : ex_C) (A : Nat → Prop) (sz : Nat) (ok : Nat → Nat → Prop) (ad : kw_A) (en : Nat → Nat → va_E) (z : Nat) : Met l yJ2_init (ws_ yJ2_init cJ2_init 1 none) { frames := 3, cells := 0, slots := 0, locals := 90 } (cpc E C A sz [.ref (ad 1 z)] (kw E ok ad en A) (ok 1 z ∧ en 1 z = .inr (5, [.int 0, .null, .int 0]))) (cq_Q none (fun H => kw E ok ad (la_en z (.inr (5, [.int 0, .ref C.2.1, .int 0])) en) A H) A) 0 0 A := by
  refine cq_start (by decide) (Nat.le_of_ble_eq_true rfl) ?_
  intro p e s m below meth c ls hx hb hr hlocks hml hown hnm hts hsz hK hZ hA hR hP hl
  subst hsz
  have hAA : ∀ a, A a → A a := fun _ h => h
  have hS : va_S A s.heap s.heap [] := va_S.rf
  have hl : lv_has ls 1 [(0, .ref (ad 1 z))] := hl
  refine lv_aload_n hx hb dJ2_init_0 rfl (lv_at hl 0 rfl) ?_
  refine cq_I (v := none) (As := []) (rest := []) hK hZ hA hAA hS hR hP (jt_J1init l E C A s.heap.size ok ad en z .null) (fun _ h => h) ⟨hx, hb, hml, hown, hts⟩ (cwI 0 hts (lw_meth q75) rfl rfl rfl (hts _ q35) (hts _ q73) (hts _ q74) rfl (by decide +kernel) ⟨Nat.le_of_ble_eq_true rfl, Nat.le_of_ble_eq_true rfl⟩) rfl hl.1 rfl (Nat.le_of_ble_eq_true rfl) dJ2_init_1 ⟨Nat.le_of_ble_eq_true rfl, Nat.le_of_ble_eq_true rfl⟩ (fun H locs hB hz hk hS => ?_)
  refine W.eq (g2 := F0 m 4 ls []) rfl ?_
  have hR : kw E ok ad en A H := hB
  refine lv_aload_n hx hb dJ2_init_4 rfl (lv_at hl 0 rfl) ?_
  refine va_gets (v := .ref C.2.1) hx hb hZ.2.2.2.2.1 hS hown (hts _ q80) (fun _ h9 => h9) dJ2_init_5 ?_
  refine kw_put (C := RJ2) (T := TJ2) (N := 3) hx hb hts in_J2 tyJ2 tyJ2_ok nmJ2 hown hK.1 hR hS 1 z hP.1 hP.2 rfl 1 (by decide) (hts _ q82) (fun _ h9 => h9) (Or.inl rfl) rfl rfl rfl (Nat.le_of_ble_eq_true rfl) dJ2_init_8 (la_en z (.inr (5, [.int 0, .ref C.2.1, .int 0])) en) (if_pos ⟨rfl, rfl⟩) la_hn (fun H locs hR hS => ?_)
  exact W.vret hx hb hr (fun t ht hW => ⟨⟨rfl, by rw [ht]; exact hR⟩, hS.F ht⟩) hS.2.2 dJ2_init_11
set_option maxHeartbeats 2000000 in
set_option maxRecDepth 100000 in
theorem xt_handInit (l : Launch) (E : en_T) (C : ex_C) (A : Nat → Prop) (sz : Nat) (ok : Nat → Nat → Prop) (ad : kw_A) (en : Nat → Nat → va_E) (i : Nat) (p1 p2 : Int32) : Met l yX4_init (ws_ yX4_init cX4_init 3 none) { frames := 2, cells := 0, slots := 0, locals := 60 } (cpc E C A sz [.ref (ad 5 i), .int p1, .int p2] (kw E ok ad en A) (ok 5 i ∧ en 5 i = .inr (3, [.int 0, .int 0]))) (cq_Q none (fun H => kw E ok ad (ge_en 5 i (.inr (3, [.int p1, .int p2])) en) A H) A) 0 0 A := by
  refine cq_start (by decide) (Nat.le_of_ble_eq_true rfl) ?_
  intro p e s m below meth c ls hx hb hr hlocks hml hown hnm hts hsz hK hZ hA hR hP hl
  subst hsz
  have hAA : ∀ a, A a → A a := fun _ h => h
  have hS : va_S A s.heap s.heap [] := va_S.rf
  have hl : lv_has ls 3 [(0, .ref (ad 5 i)), (1, .int p1), (2, .int p2)] := hl
  refine lv_aload_n hx hb dX4_init_0 rfl (lv_at hl 0 rfl) ?_
  refine cq_I (v := none) (As := []) (rest := []) hK hZ hA hAA hS trivial trivial (jt_J18init l E C A s.heap.size (ad 5 i)) (fun _ h => hA _ (Nat.le_trans hS.1 h)) ⟨hx, hb, hml, hown, hts⟩ (cwI 0 hts (lw_meth q511) rfl rfl rfl (hts _ q56) (hts _ q509) (hts _ q510) rfl (by decide +kernel) ⟨Nat.le_of_ble_eq_true rfl, Nat.le_of_ble_eq_true rfl⟩) rfl hl.1 rfl (Nat.le_of_ble_eq_true rfl) dX4_init_1 ⟨Nat.le_of_ble_eq_true rfl, Nat.le_of_ble_eq_true rfl⟩ (fun H locs hB hz hk hS => ?_)
  refine W.eq (g2 := F0 m 4 ls []) rfl ?_
  have hR := hR.kept (fun a _ h => hk a h (Nat.not_le.mpr h))
  refine lv_aload_n hx hb dX4_init_4 rfl (lv_at hl 0 rfl) ?_
  refine lv_iload_n hx hb dX4_init_5 rfl (lv_at hl 1 rfl) ?_
  refine kw_put (C := RX4) (T := TX4) (N := 2) hx hb hts in_X4 tyX4 tyX4_ok nmX4 hown hK.1 hR hS 5 i hP.1 hP.2 rfl 0 (by decide) (hts _ q513) (fun _ h9 => h9) (Or.inr ⟨rfl, hnm, rfl⟩) rfl rfl rfl (Nat.le_of_ble_eq_true rfl) dX4_init_6 (ge_en 5 i (.inr (3, [.int p1, .int 0])) en) (if_pos ⟨rfl, rfl⟩) ge_hn (fun H locs hR hS => ?_)
  refine lv_aload_n hx hb dX4_init_9 rfl (lv_at hl 0 rfl) ?_
  refine lv_iload_n hx hb dX4_init_10 rfl (lv_at hl 2 rfl) ?_
  refine kw_put (C := RX4) (T := TX4) (N := 2) hx hb hts in_X4 tyX4 tyX4_ok nmX4 hown hK.1 hR hS 5 i hP.1 (if_pos ⟨rfl, rfl⟩) rfl 1 (by decide) (hts _ q514) (fun _ h9 => h9) (Or.inr ⟨rfl, hnm, rfl⟩) rfl rfl rfl (Nat.le_of_ble_eq_true rfl) dX4_init_11 (ge_en 5 i (.inr (3, [.int p1, .int p2])) en) (if_pos ⟨rfl, rfl⟩) (fun u j _ h => by show (if _ then _ else _) = (if _ then _ else _); rw [if_neg h, if_neg h]) (fun H locs hR hS => ?_)
  exact W.vret hx hb hr (fun t ht hW => ⟨⟨rfl, by rw [ht]; exact hR⟩, hS.F ht⟩) hS.2.2 dX4_init_14
