set_option maxHeartbeats 2000000 in
set_option maxRecDepth 100000 in
theorem jt_itinit (l : Launch) (E : en_T) (C : ex_C) (A : Nat → Prop) (sz : Nat) (ok : Nat → Nat → Prop) (ad : kw_A) (en : Nat → Nat → va_E) (z q n : Nat) (mc : Int32) (ea : Value) : Met l yJ19_init (ws_ yJ19_init cJ19_init 2 none) { frames := 1, cells := 0, slots := 0, locals := 32 } (cpc E C A sz [.ref q, .ref (ad 1 z)] (kw E (it_ok ok) (it_ad q ad) (it_en [.int 0, .int 0, .int 0, .null] en) A) (ok 1 z ∧ en 1 z = .inr (5, [.int mc, ea, .int (nI n)]))) (cq_Q none (fun H => (kw E (it_ok ok) (it_ad q ad) (it_en [.int 0, .int (-1), .int mc, .ref (ad 1 z)] en) A) H) A) 0 0 A := by
  refine cq_start (by decide) (Nat.le_of_ble_eq_true rfl) ?_
  intro p e s m below meth c ls hx hb hr hlocks hml hown hnm hts hsz hK hZ hA hR hP hl
  subst hsz
  have hAA : ∀ a, A a → A a := fun _ h => h
  have hl : lv_has ls 2 [(0, .ref q), (1, .ref (ad 1 z))] := hl
  have hS : va_S A s.heap s.heap [] := va_S.rf
  have hZr := hZ
  obtain ⟨h_o1, h_e1⟩ := hP
  refine lv_aload_n hx hb dJ19_init_0 rfl (lv_at hl 0 rfl) ?_
  refine lv_aload_n hx hb dJ19_init_1 rfl (lv_at hl 1 rfl) ?_
  refine kw_put (C := RJ19) (T := TJ19) (N := 4) hx hb hts in_J19 tyJ19 tyJ19_ok nmJ19 hown hK.1 hR hS 8 0 rfl rfl rfl 3 (by decide) (hts _ q628) (fun _ h9 => h9) (Or.inr ⟨rfl, hnm, rfl⟩) rfl rfl rfl (Nat.le_of_ble_eq_true rfl) dJ19_init_2 (it_en [.int 0, .int 0, .int 0, .ref (ad 1 z)] en) rfl it_hn (fun H locs hR hS => ?_)
  refine lv_aload_n hx hb dJ19_init_5 rfl (lv_at hl 0 rfl) ?_
  refine W.objInit hx hb hown (hts _ q624) (hts _ q66) (hts _ q67) rfl (by rw [hml]; exact hl.1) rfl dJ19_init_6 (Nat.le_of_ble_eq_true rfl) (Nat.le_of_ble_eq_true rfl) ?_
  refine W.eq (g2 := F0 m 9 ls []) rfl ?_
  refine lv_aload_n hx hb dJ19_init_9 rfl (lv_at hl 0 rfl) ?_
  refine lv_iconst (v := (-1)) hx hb dJ19_init_10 (by decide) ?_
  refine kw_put (C := RJ19) (T := TJ19) (N := 4) hx hb hts in_J19 tyJ19 tyJ19_ok nmJ19 hown hK.1 hR hS 8 0 rfl rfl rfl 1 (by decide) (hts _ q626) (fun _ h9 => h9) (Or.inl rfl) rfl rfl rfl (Nat.le_of_ble_eq_true rfl) dJ19_init_11 (it_en [.int 0, .int (-1), .int 0, .ref (ad 1 z)] en) rfl it_hn (fun H locs hR hS => ?_)
  refine lv_aload_n hx hb dJ19_init_14 rfl (lv_at hl 0 rfl) ?_
  refine lv_aload_n hx hb dJ19_init_15 rfl (lv_at hl 0 rfl) ?_
  refine kw_get (C := RJ19) (T := TJ19) (N := 4) (v := .ref (ad 1 z)) hx hb hts in_J19 hown hK.1 hR 8 0 rfl rfl rfl 3 (by decide) (hts _ q628) (fun _ h9 => h9) rfl dJ19_init_16 ?_
  refine kw_get (C := RJ2) (T := TJ2) (N := 3) (v := .int mc) hx hb hts in_J2 hown hK.1 hR 1 z h_o1 h_e1 rfl 0 (by decide) (hts _ q87) (u_same (hts _ q88)) rfl dJ19_init_19 ?_
  refine kw_put (C := RJ19) (T := TJ19) (N := 4) hx hb hts in_J19 tyJ19 tyJ19_ok nmJ19 hown hK.1 hR hS 8 0 rfl rfl rfl 2 (by decide) (hts _ q627) (fun _ h9 => h9) (Or.inl rfl) rfl rfl rfl (Nat.le_of_ble_eq_true rfl) dJ19_init_22 (it_en [.int 0, .int (-1), .int mc, .ref (ad 1 z)] en) rfl it_hn (fun H locs hR hS => ?_)
  exact W.vret hx hb hr (fun t ht hW => ⟨⟨rfl, (by rw [ht]; exact hR)⟩, hS.F ht⟩) hS.2.2 dJ19_init_25
set_option maxHeartbeats 2000000 in
set_option maxRecDepth 100000 in
theorem jt_iterator (l : Launch) (E : en_T) (C : ex_C) (A : Nat → Prop) (sz : Nat) (ok : Nat → Nat → Prop) (ad : kw_A) (en : Nat → Nat → va_E) (z n : Nat) (mc : Int32) (ea : Value) : Met l yJ2_iterator (ws_ yJ2_iterator cJ2_iterator 1 (Option.some (Jvm.ClassFile.FieldType.object "java/util/Iterator"))) { frames := 2, cells := 1, slots := 4, locals := 53 } (cpc E C A sz [.ref (ad 1 z)] (kw E ok ad en A) ((∀ j, ¬ ok 8 j) ∧ ok 1 z ∧ en 1 z = .inr (5, [.int mc, ea, .int (nI n)]))) (cq_E (fun q H => sz ≤ q ∧ (kw E (it_ok ok) (it_ad q ad) (it_en [.int (nI 0), .int (nI 0 - 1), .int mc, .ref (ad 1 z)] en) A) H) A) 1 4 A := by
  refine cq_start (by decide) (Nat.le_of_ble_eq_true rfl) ?_
  intro p e s m below meth c ls hx hb hr hlocks hml hown hnm hts hsz hK hZ hA hR hP hl
  subst hsz
  have hAA : ∀ a, A a → A a := fun _ h => h
  have hl : lv_has ls 1 [(0, .ref (ad 1 z))] := hl
  have hS : va_S A s.heap s.heap [] := va_S.rf
  have hZr := hZ
  obtain ⟨h_8, h_o1, h_e1⟩ := hP
  refine kw_new (ci := 6) (C := RJ19) (T := TJ19) (N := 4) (fs := [.int 0, .int 0, .int 0, .null]) hx hb hts in_J19 tyJ19 tyJ19_ok hown (hts _ q619) (hts _ q620) (hts _ q58) hK.1 hR hS hA rfl (by intro j hj; rcases (show j = 0 ∨ j = 1 ∨ j = 2 ∨ j = 3 by omega) with rfl | rfl | rfl | rfl <;> rfl) (Nat.le_of_ble_eq_true rfl) (Nat.le_of_ble_eq_true rfl) dJ2_iterator_0 8 0 (h_8 0) (fun q H hq hz hR hS => ?_)
  have hR := it_mk hR
  have h_q : s.heap.size ≤ q := Nat.le_of_eq hq.symm
  refine lv_dup hx hb dJ2_iterator_3 rfl ?_
  refine lv_aload_n hx hb dJ2_iterator_4 rfl (lv_at hl 0 rfl) ?_
  refine cq_I (v := none) (As := [.ref (ad 1 z)]) (rest := [.ref q]) hK hZ hA hAA hS hR ⟨h_o1, h_e1⟩ (jt_itinit l E C A H.size ok ad en z q n mc ea) (fun _ h => h) ⟨hx, hb, hml, hown, hts⟩ (cwI 1 hts (lw_meth q623) rfl rfl rfl (hts _ q58) (hts _ q621) (hts _ q622) rfl (by decide +kernel) ⟨Nat.le_of_ble_eq_true rfl, Nat.le_of_ble_eq_true rfl⟩) rfl hl.1 rfl (Nat.le_of_ble_eq_true rfl) dJ2_iterator_5 ⟨Nat.le_of_ble_eq_true rfl, Nat.le_of_ble_eq_true rfl⟩ (fun H locs hB hz hk hS => ?_)
  have hR : (kw E (it_ok ok) (it_ad q ad) (it_en [.int 0, .int (-1), .int mc, .ref (ad 1 z)] en) A) H := hB
  refine W.eq (g2 := F0 m 8 ls [.ref q]) rfl ?_
  exact W.aret (v := .ref q) hx hb hr (Or.inl ⟨_, rfl⟩) (Or.inr ⟨_, rfl⟩) (fun t ht hW => ⟨⟨_, rfl, h_q, (by rw [ht, it_m1, it_0]; exact hR)⟩, hS.F ht⟩) hS.2.2 dJ2_iterator_8
set_option maxHeartbeats 2000000 in
set_option maxRecDepth 100000 in
theorem jt_hasNext (l : Launch) (E : en_T) (C : ex_C) (A : Nat → Prop) (sz : Nat) (ok : Nat → Nat → Prop) (ad : kw_A) (en : Nat → Nat → va_E) (z q k n : Nat) (mc : Int32) (ea : Value) : Met l yJ19_hasNext (ws_ yJ19_hasNext cJ19_hasNext 1 (some .boolean)) { frames := 0, cells := 0, slots := 0, locals := 0 } (cpc E C A sz [.ref q] (kw E (it_ok ok) (it_ad q ad) (it_en [.int (nI k), .int (nI k - 1), .int mc, .ref (ad 1 z)] en) A) (ok 1 z ∧ en 1 z = .inr (5, [.int mc, ea, .int (nI n)]) ∧ k ≤ n ∧ n ≤ 1000)) (cq_Q (some (.int (gs_bz (decide (k < n))))) (fun _ => True) (nw_A sz)) 0 0 (nw_A sz) := by
  refine cq_start (by decide) (Nat.le_of_ble_eq_true rfl) ?_
  intro p e s m below meth c ls hx hb hr hlocks hml hown hnm hts hsz hK hZ hA hR hP hl
  subst hsz
  have hAA : ∀ a, nw_A s.heap.size a → A a := hA
  have hl : lv_has ls 1 [(0, .ref q)] := hl
  have hS : va_S (nw_A s.heap.size) s.heap s.heap [] := va_S.rf
  have hZr := hZ.fresh
  obtain ⟨h_o1, h_e1, h_k, h_n⟩ := hP
  refine lv_aload_n hx hb dJ19_hasNext_0 rfl (lv_at hl 0 rfl) ?_
  refine kw_get (C := RJ19) (T := TJ19) (N := 4) (v := .int (nI k)) hx hb hts in_J19 hown hK.1 hR 8 0 rfl rfl rfl 0 (by decide) (hts _ q625) (fun _ h9 => h9) rfl dJ19_hasNext_1 ?_
  refine lv_aload_n hx hb dJ19_hasNext_4 rfl (lv_at hl 0 rfl) ?_
  refine kw_get (C := RJ19) (T := TJ19) (N := 4) (v := .ref (ad 1 z)) hx hb hts in_J19 hown hK.1 hR 8 0 rfl rfl rfl 3 (by decide) (hts _ q628) (fun _ h9 => h9) rfl dJ19_hasNext_5 ?_
  refine kw_getN (C := RJ2) (T := TJ2) (N := 3) (v := .int (nI n)) hx hb hts in_J2 hown hK.1 hR 1 z h_o1 h_e1 rfl 2 (by decide) (va_Nw.use rfl (hK.2.1 _ q84 rfl)) (fun _ h9 => h9) rfl dJ19_hasNext_8 ?_
  have hJ_19 : ∀ (H : Heap) (locs : List Loc) (ls : Array Slot) (v_19 : Int32), v_19 = (if ¬ ((nI k) = (nI n)) then 1 else 0) → (kw E (it_ok ok) (it_ad q ad) (it_en [.int (nI k), .int (nI k - 1), .int mc, .ref (ad 1 z)] en) A) H → va_S (nw_A s.heap.size) s.heap H locs → lv_has ls 1 [] → cq_G p l e { frames := 0, cells := 0, slots := 0, locals := 0 } s m [.ref q] below meth c (nw_A s.heap.size) (cq_Q (some (.int (gs_bz (decide (k < n))))) (fun _ => True) (nw_A s.heap.size)) 0 0 H locs 0 0 (F0 m 19 ls [.int v_19]) := by
    intro H locs ls v_19 e_v_19 hR hS hl
    subst e_v_19
    exact W.zret (v := (if ¬ ((nI k) = (nI n)) then 1 else 0)) hx hb hr gs_nar (fun t ht hW => ⟨⟨(congrArg (fun z => Outcome.returned (some (Value.int z))) (it_lt h_k h_n)), trivial⟩, hS.F ht⟩) hS.2.2 dJ19_hasNext_19
  refine lv_icmp_eq (tgt := 18) hx hb dJ19_hasNext_11 (by decide) (fun c_1 => ?_) (fun c_1 => ?_)
  · skip
    refine lv_iconst (v := 0) hx hb dJ19_hasNext_18 (by decide) ?_
    exact hJ_19 _ _ _ 0 (gi_0 (gi_nb_t c_1)) hR hS (lv_sub hl [] rfl)
  · skip
    refine lv_iconst (v := 1) hx hb dJ19_hasNext_14 (by decide) ?_
    refine lv_goto (tgt := 19) hx hb dJ19_hasNext_15 (by decide) ?_
    exact hJ_19 _ _ _ 1 (gi_1 (gi_nb_f c_1)) hR hS (lv_sub hl [] rfl)
set_option maxHeartbeats 2000000 in
set_option maxRecDepth 100000 in
theorem jt_check (l : Launch) (E : en_T) (C : ex_C) (A : Nat → Prop) (sz : Nat) (ok : Nat → Nat → Prop) (ad : kw_A) (en : Nat → Nat → va_E) (z q k n : Nat) (mc : Int32) (ea : Value) : Met l yJ19_checkForComodification (ws_ yJ19_checkForComodification cJ19_checkForComodification 1 none) { frames := 0, cells := 0, slots := 0, locals := 0 } (cpc E C A sz [.ref q] (kw E (it_ok ok) (it_ad q ad) (it_en [.int (nI k), .int (nI k - 1), .int mc, .ref (ad 1 z)] en) A) (ok 1 z ∧ en 1 z = .inr (5, [.int mc, ea, .int (nI n)]))) (cq_Q none (fun _ => True) (nw_A sz)) 0 0 (nw_A sz) := by
  refine cq_start (by decide) (Nat.le_of_ble_eq_true rfl) ?_
  intro p e s m below meth c ls hx hb hr hlocks hml hown hnm hts hsz hK hZ hA hR hP hl
  subst hsz
  have hAA : ∀ a, nw_A s.heap.size a → A a := hA
  have hl : lv_has ls 1 [(0, .ref q)] := hl
  have hS : va_S (nw_A s.heap.size) s.heap s.heap [] := va_S.rf
  have hZr := hZ.fresh
  obtain ⟨h_o1, h_e1⟩ := hP
  refine lv_aload_n hx hb dJ19_checkForComodification_0 rfl (lv_at hl 0 rfl) ?_
  refine kw_get (C := RJ19) (T := TJ19) (N := 4) (v := .ref (ad 1 z)) hx hb hts in_J19 hown hK.1 hR 8 0 rfl rfl rfl 3 (by decide) (hts _ q628) (fun _ h9 => h9) rfl dJ19_checkForComodification_1 ?_
  refine kw_get (C := RJ2) (T := TJ2) (N := 3) (v := .int mc) hx hb hts in_J2 hown hK.1 hR 1 z h_o1 h_e1 rfl 0 (by decide) (hts _ q87) (u_same (hts _ q88)) rfl dJ19_checkForComodification_4 ?_
  refine lv_aload_n hx hb dJ19_checkForComodification_7 rfl (lv_at hl 0 rfl) ?_
  refine kw_get (C := RJ19) (T := TJ19) (N := 4) (v := .int mc) hx hb hts in_J19 hown hK.1 hR 8 0 rfl rfl rfl 2 (by decide) (hts _ q627) (fun _ h9 => h9) rfl dJ19_checkForComodification_8 ?_
  refine lv_icmp_eq (tgt := 22) hx hb dJ19_checkForComodification_11 (by decide) (fun c_1 => ?_) (fun c_1 => absurd rfl c_1)
  exact W.vret hx hb hr (fun t ht hW => ⟨⟨rfl, trivial⟩, hS.F ht⟩) hS.2.2 dJ19_checkForComodification_22
set_option maxHeartbeats 2000000 in
set_option maxRecDepth 100000 in
theorem jt_next (l : Launch) (E : en_T) (C : ex_C) (A : Nat → Prop) (sz : Nat) (ok : Nat → Nat → Prop) (ad : kw_A) (en : Nat → Nat → va_E) (z q k n cap : Nat) (mc : Int32) (h : Nat → Option Nat) (y : Nat) : Met l yJ19_next (ws_ yJ19_next cJ19_next 3 (Option.some (Jvm.ClassFile.FieldType.object "java/lang/Object"))) { frames := 1, cells := 0, slots := 0, locals := 20 } (cpc E C A sz [.ref q] (kw E (it_ok ok) (it_ad q ad) (it_en [.int (nI k), .int (nI k - 1), .int mc, .ref (ad 1 z)] en) A) (ok 1 z ∧ en 1 z = .inr (5, [.int mc, .ref (ad 2 z), .int (nI n)]) ∧ ok 2 z ∧ en 2 z = .inl (E.2.2.2.2, cap, .inr (.inr (.inr (.inr h)))) ∧ h k = some y ∧ k < n ∧ n ≤ cap ∧ cap ≤ 1000)) (cq_Q (some (.ref y)) (fun H => (kw E (it_ok ok) (it_ad q ad) (it_en [.int (nI (k + 1)), .int (nI (k + 1) - 1), .int mc, .ref (ad 1 z)] en) A) H) A) 0 0 A := by
  refine cq_start (by decide) (Nat.le_of_ble_eq_true rfl) ?_
  intro p e s m below meth c ls hx hb hr hlocks hml hown hnm hts hsz hK hZ hA hR hP hl
  subst hsz
  have hAA : ∀ a, A a → A a := fun _ h => h
  have hl : lv_has ls 3 [(0, .ref q)] := hl
  have hS : va_S A s.heap s.heap [] := va_S.rf
  have hZr := hZ
  obtain ⟨h_o1, h_e1, h_o2, h_e2, h_y, h_k, h_n, h_c⟩ := hP
  refine lv_aload_n hx hb dJ19_next_0 rfl (lv_at hl 0 rfl) ?_
  refine cq_V (v := none) (As := []) (rest := []) hK hZ hA hAA hS hR ⟨h_o1, h_e1⟩ (jt_check l E C A s.heap.size ok ad en z q k n mc (.ref (ad 2 z))) (fun _ h => hA _ (Nat.le_trans hS.1 h)) ⟨hx, hb, hml, hown, hts⟩ (cwV 0 hts (lw_V q657 q658 q659 q58 q660) rfl rfl rfl (by decide +kernel) ⟨Nat.le_of_ble_eq_true rfl, Nat.le_of_ble_eq_true rfl⟩) (kw_recv (t := 8) (i := 0) hK.1 hR rfl rfl rfl) rfl hl.1 rfl (Nat.le_of_ble_eq_true rfl) dJ19_next_1 ⟨Nat.le_of_ble_eq_true rfl, Nat.le_of_ble_eq_true rfl⟩ (fun H locs hB hz hk hS => ?_)
  have hR := hR.kept (fun a _ h => hk a h (Nat.not_le.mpr h))
  refine W.eq (g2 := F0 m 4 ls []) rfl ?_
  refine lv_aload_n hx hb dJ19_next_4 rfl (lv_at hl 0 rfl) ?_
  refine kw_get (C := RJ19) (T := TJ19) (N := 4) (v := .int (nI k)) hx hb hts in_J19 hown hK.1 hR 8 0 rfl rfl rfl 0 (by decide) (hts _ q625) (fun _ h9 => h9) rfl dJ19_next_5 ?_
  refine lv_istore_n (lv' := [(1, .int (nI k)), (0, .ref q)]) hx hb dJ19_next_8 rfl hl (by decide) rfl (fun ls hl => ?_)
  refine lv_iload_n hx hb dJ19_next_9 rfl (lv_at hl 0 rfl) ?_
  refine lv_aload_n hx hb dJ19_next_10 rfl (lv_at hl 1 rfl) ?_
  refine kw_get (C := RJ19) (T := TJ19) (N := 4) (v := .ref (ad 1 z)) hx hb hts in_J19 hown hK.1 hR 8 0 rfl rfl rfl 3 (by decide) (hts _ q628) (fun _ h9 => h9) rfl dJ19_next_11 ?_
  refine kw_getN (C := RJ2) (T := TJ2) (N := 3) (v := .int (nI n)) hx hb hts in_J2 hown hK.1 hR 1 z h_o1 h_e1 rfl 2 (by decide) (va_Nw.use rfl (hK.2.1 _ q84 rfl)) (fun _ h9 => h9) rfl dJ19_next_14 ?_
  refine lv_icmp_lt (tgt := 28) hx hb dJ19_next_17 (by decide) (fun c_1 => ?_) (fun c_1 => absurd (nI_lt h_k (by omega)) c_1)
  refine lv_aload_n hx hb dJ19_next_28 rfl (lv_at hl 1 rfl) ?_
  refine kw_get (C := RJ19) (T := TJ19) (N := 4) (v := .ref (ad 1 z)) hx hb hts in_J19 hown hK.1 hR 8 0 rfl rfl rfl 3 (by decide) (hts _ q628) (fun _ h9 => h9) rfl dJ19_next_29 ?_
  refine kw_get (C := RJ2) (T := TJ2) (N := 3) (v := .ref (ad 2 z)) hx hb hts in_J2 hown hK.1 hR 1 z h_o1 h_e1 rfl 1 (by decide) (hts _ q83) (fun _ h9 => h9) rfl dJ19_next_32 ?_
  refine lv_astore_n (lv' := [(2, .ref (ad 2 z)), (1, .int (nI k)), (0, .ref q)]) hx hb dJ19_next_35 rfl hl (by decide) rfl (fun ls hl => ?_)
  refine lv_iload_n hx hb dJ19_next_36 rfl (lv_at hl 1 rfl) ?_
  refine lv_aload_n hx hb dJ19_next_37 rfl (lv_at hl 0 rfl) ?_
  refine kw_alen (v := (Int32.ofNat cap)) hx hb hK.1 hR 2 z h_o2 (Or.inl h_e2) rfl dJ19_next_38 ?_
  refine lv_icmp_lt (tgt := 50) hx hb dJ19_next_39 (by decide) (fun c_2 => ?_) (fun c_2 => absurd (nI_lt (show k < cap by omega) (by omega)) c_2)
  refine lv_aload_n hx hb dJ19_next_50 rfl (lv_at hl 2 rfl) ?_
  refine lv_iload_n hx hb dJ19_next_51 rfl (lv_at hl 1 rfl) ?_
  refine lv_iconst (v := 1) hx hb dJ19_next_52 (by decide) ?_
  refine lv_iadd hx hb dJ19_next_53 ?_
  refine kw_put (C := RJ19) (T := TJ19) (N := 4) hx hb hts in_J19 tyJ19 tyJ19_ok nmJ19 hown hK.1 hR hS 8 0 rfl rfl rfl 0 (by decide) (hts _ q625) (fun _ h9 => h9) (Or.inl rfl) rfl rfl rfl (Nat.le_of_ble_eq_true rfl) dJ19_next_54 (it_en [.int ((nI k) + 1), .int (nI k - 1), .int mc, .ref (ad 1 z)] en) rfl it_hn (fun H locs hR hS => ?_)
  refine lv_aload_n hx hb dJ19_next_57 rfl (lv_at hl 0 rfl) ?_
  refine lv_aload_n hx hb dJ19_next_58 rfl (lv_at hl 2 rfl) ?_
  refine lv_iload_n hx hb dJ19_next_59 rfl (lv_at hl 1 rfl) ?_
  refine lv_dup_x1 hx hb dJ19_next_60 rfl rfl ?_
  refine kw_put (C := RJ19) (T := TJ19) (N := 4) hx hb hts in_J19 tyJ19 tyJ19_ok nmJ19 hown hK.1 hR hS 8 0 rfl rfl rfl 1 (by decide) (hts _ q626) (fun _ h9 => h9) (Or.inl rfl) rfl rfl rfl (Nat.le_of_ble_eq_true rfl) dJ19_next_61 (it_en [.int ((nI k) + 1), .int (nI k), .int mc, .ref (ad 1 z)] en) rfl it_hn (fun H locs hR hS => ?_)
  refine kw_aald (v := .ref y) hx hb hK.1 hR 2 z h_o2 h_e2 (vp_in_nI (by omega) (by omega)) (by rw [nI_clamp (by omega), h_y]; rfl) dJ19_next_64 ?_
  exact W.aret (v := .ref y) hx hb hr (Or.inl ⟨_, rfl⟩) (Or.inr ⟨_, rfl⟩) (fun t ht hW => ⟨⟨rfl, (by rw [ht, lp_pred, ← nI_1 k]; exact hR)⟩, hS.F ht⟩) hS.2.2 dJ19_next_65
