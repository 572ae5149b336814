
set_option maxHeartbeats 2000000 in
set_option maxRecDepth 100000 in
theorem jt_size (l : Launch) (E : en_T) (C : ex_C) (A : Nat → Prop) (sz : Nat) (ok : Nat → Nat → Prop) (ad : kw_A) (en : Nat → Nat → va_E) (z : Nat) (mc n : Int32) (ea : Value) : Met l yJ2_size (ws_ yJ2_size cJ2_size 1 (some .int)) { frames := 0, cells := 0, slots := 0, locals := 0 } (cpc E C A sz [.ref (ad 1 z)] (kw E ok ad en A) (ok 1 z ∧ en 1 z = .inr (5, [.int mc, ea, .int n]))) (cq_Q (some (.int n)) (fun _ => True) (nw_A sz)) 0 0 (nw_A sz) := by
  refine cq_start (by decide) (Nat.le_of_ble_eq_true rfl) ?_
  intro p e s m below meth c ls hx hb hr hlocks hml hown hnm hts hsz hK hZ hA hR hP hl
  subst hsz
  have hAA : ∀ a, nw_A s.heap.size a → A a := hA
  have hl : lv_has ls 1 [(0, .ref (ad 1 z))] := hl
  have hS : va_S (nw_A s.heap.size) s.heap s.heap [] := va_S.rf
  have hZr := hZ.fresh
  obtain ⟨h_o1, h_e1⟩ := hP
  refine lv_aload_n hx hb dJ2_size_0 rfl (lv_at hl 0 rfl) ?_
  refine kw_get (C := RJ2) (T := TJ2) (N := 3) (v := .int n) hx hb hts in_J2 hown hK.1 hR 1 z h_o1 h_e1 rfl 2 (by decide) (hts _ q85) (fun _ h9 => h9) rfl dJ2_size_1 ?_
  exact W.iret (v := n) hx hb hr (fun t ht hW => ⟨⟨rfl, trivial⟩, hS.F ht⟩) hS.2.2 dJ2_size_4

set_option maxHeartbeats 2000000 in
set_option maxRecDepth 100000 in
theorem jt_elem (l : Launch) (E : en_T) (C : ex_C) (A : Nat → Prop) (sz : Nat) (ok : Nat → Nat → Prop) (ad : kw_A) (en : Nat → Nat → va_E) (z : Nat) (mc n : Int32) (cap : Nat) (h : Nat → Option Nat) (i : Int32) (y : Nat) : Met l yJ2_elementData (ws_ yJ2_elementData cJ2_elementData 2 (Option.some (Jvm.ClassFile.FieldType.object "java/lang/Object"))) { frames := 0, cells := 0, slots := 0, locals := 0 } (cpc E C A sz [.ref (ad 1 z), .int i] (kw E ok ad en A) (ok 1 z ∧ en 1 z = .inr (5, [.int mc, .ref (ad 2 z), .int n]) ∧ ok 2 z ∧ en 2 z = .inl (E.2.2.2.2, cap, .inr (.inr (.inr (.inr h)))) ∧ vp_in i cap ∧ h i.toNatClampNeg = some y)) (cq_Q (some (.ref y)) (fun _ => True) (nw_A sz)) 0 0 (nw_A sz) := by
  refine cq_start (by decide) (Nat.le_of_ble_eq_true rfl) ?_
  intro p e s m below meth c ls hx hb hr hlocks hml hown hnm hts hsz hK hZ hA hR hP hl
  subst hsz
  have hAA : ∀ a, nw_A s.heap.size a → A a := hA
  have hl : lv_has ls 2 [(0, .ref (ad 1 z)), (1, .int i)] := hl
  have hS : va_S (nw_A s.heap.size) s.heap s.heap [] := va_S.rf
  have hZr := hZ.fresh
  obtain ⟨h_o1, h_e1, h_o2, h_e2, h_in, h_y⟩ := hP
  refine lv_aload_n hx hb dJ2_elementData_0 rfl (lv_at hl 0 rfl) ?_
  refine kw_get (C := RJ2) (T := TJ2) (N := 3) (v := .ref (ad 2 z)) hx hb hts in_J2 hown hK.1 hR 1 z h_o1 h_e1 rfl 1 (by decide) (hts _ q82) (fun _ h9 => h9) rfl dJ2_elementData_1 ?_
  refine lv_iload_n hx hb dJ2_elementData_4 rfl (lv_at hl 1 rfl) ?_
  refine kw_aald (v := .ref y) hx hb hK.1 hR 2 z h_o2 h_e2 (h_in) (by rw [h_y]; rfl) dJ2_elementData_5 ?_
  exact W.aret (v := .ref y) hx hb hr (Or.inl ⟨_, rfl⟩) (Or.inr ⟨_, rfl⟩) (fun t ht hW => ⟨⟨rfl, trivial⟩, hS.F ht⟩) hS.2.2 dJ2_elementData_6

set_option maxHeartbeats 2000000 in
set_option maxRecDepth 100000 in
theorem jt_get (l : Launch) (E : en_T) (C : ex_C) (A : Nat → Prop) (sz : Nat) (ok : Nat → Nat → Prop) (ad : kw_A) (en : Nat → Nat → va_E) (z : Nat) (mc n : Int32) (cap : Nat) (h : Nat → Option Nat) (i : Int32) (y : Nat) : Met l yJ2_get (ws_ yJ2_get cJ2_get 2 (Option.some (Jvm.ClassFile.FieldType.object "java/lang/Object"))) { frames := 2, cells := 0, slots := 0, locals := 43 } (cpc E C A sz [.ref (ad 1 z), .int i] (kw E ok ad en A) (ok 1 z ∧ en 1 z = .inr (5, [.int mc, .ref (ad 2 z), .int n]) ∧ ok 2 z ∧ en 2 z = .inl (E.2.2.2.2, cap, .inr (.inr (.inr (.inr h)))) ∧ vp_in i cap ∧ h i.toNatClampNeg = some y ∧ ¬ i < 0 ∧ i < n)) (cq_Q (some (.ref y)) (fun _ => True) (nw_A sz)) 0 0 (nw_A sz) := by
  refine cq_start (by decide) (Nat.le_of_ble_eq_true rfl) ?_
  intro p e s m below meth c ls hx hb hr hlocks hml hown hnm hts hsz hK hZ hA hR hP hl
  subst hsz
  have hAA : ∀ a, nw_A s.heap.size a → A a := hA
  have hl : lv_has ls 2 [(0, .ref (ad 1 z)), (1, .int i)] := hl
  have hS : va_S (nw_A s.heap.size) s.heap s.heap [] := va_S.rf
  have hZr := hZ.fresh
  obtain ⟨h_o1, h_e1, h_o2, h_e2, h_in, h_y, h_0, h_n⟩ := hP
  refine lv_iload_n hx hb dJ2_get_0 rfl (lv_at hl 1 rfl) ?_
  refine lv_aload_n hx hb dJ2_get_1 rfl (lv_at hl 0 rfl) ?_
  refine kw_get (C := RJ2) (T := TJ2) (N := 3) (v := .int n) hx hb hts in_J2 hown hK.1 hR 1 z h_o1 h_e1 rfl 2 (by decide) (hts _ q85) (fun _ h9 => h9) rfl dJ2_get_2 ?_
  refine ps_calli (As := [.int i, .int n]) (rest := []) ⟨hx, hb, hml, hown, hts⟩ (jt_chk l i n) (va_cwS 2 hts (lw_S q377 q378 q49 q379) rfl rfl rfl (by decide +kernel) ⟨Nat.le_of_ble_eq_true rfl, Nat.le_of_ble_eq_true rfl⟩) ⟨h_0, h_n⟩ hS rfl hl.1 rfl (Nat.le_of_ble_eq_true rfl) dJ2_get_5 ⟨Nat.zero_le _, Nat.zero_le _⟩ (fun H locs hz hk hS => ?_)
  have hR := hR.kept (fun a _ h => hk a h)
  refine lv_pop hx hb dJ2_get_8 rfl ?_
  refine lv_aload_n hx hb dJ2_get_9 rfl (lv_at hl 0 rfl) ?_
  refine lv_iload_n hx hb dJ2_get_10 rfl (lv_at hl 1 rfl) ?_
  refine cq_V (v := (some (.ref y))) (As := [.int i]) (rest := []) hK hZ hA hAA hS hR ⟨h_o1, h_e1, h_o2, h_e2, h_in, h_y⟩ (jt_elem l E C A H.size ok ad en z mc n cap h i y) (fun _ h => Nat.le_trans hS.1 h) ⟨hx, hb, hml, hown, hts⟩ (cwV 1 hts (lw_V q383 q384 q385 q36 q386) rfl rfl rfl (by decide +kernel) ⟨Nat.le_of_ble_eq_true rfl, Nat.le_of_ble_eq_true rfl⟩) (kw_recv hK.1 hR h_o1 h_e1 rfl) rfl hl.1 rfl (Nat.le_of_ble_eq_true rfl) dJ2_get_11 ⟨Nat.le_of_ble_eq_true rfl, Nat.le_of_ble_eq_true rfl⟩ (fun H locs hB hz hk hS => ?_)
  have hR := hR.kept (fun a _ h => hk a h (Nat.not_le.mpr h))
  refine W.eq (g2 := F0 m 14 ls [.ref y]) rfl ?_
  exact W.aret (v := .ref y) hx hb hr (Or.inl ⟨_, rfl⟩) (Or.inr ⟨_, rfl⟩) (fun t ht hW => ⟨⟨rfl, trivial⟩, hS.F ht⟩) hS.2.2 dJ2_get_14

set_option maxHeartbeats 2000000 in
set_option maxRecDepth 100000 in
theorem jt_valueOf (l : Launch) (E : en_T) (C : ex_C) (A : Nat → Prop) (sz : Nat) (i : Int32) : Met l yJ16_valueOf (ws_ yJ16_valueOf cJ16_valueOf 1 (Option.some (Jvm.ClassFile.FieldType.object "java/lang/Integer"))) { frames := 0, cells := 0, slots := 0, locals := 0 } (cpc E C A sz [.int i] (fun _ => True) (¬ i < (-128) ∧ ¬ 127 < i ∧ vp_in (i + 128) 256)) (cq_Q (some (.ref (C.1 (i + 128).toNatClampNeg))) (fun _ => True) (nw_A sz)) 0 0 (nw_A sz) := by
  refine cq_start (by decide) (Nat.le_of_ble_eq_true rfl) ?_
  intro p e s m below meth c ls hx hb hr hlocks hml hown hnm hts hsz hK hZ hA hR hP hl
  subst hsz
  have hAA : ∀ a, nw_A s.heap.size a → A a := hA
  have hl : lv_has ls 1 [(0, .int i)] := hl
  have hS : va_S (nw_A s.heap.size) s.heap s.heap [] := va_S.rf
  have hZr := hZ.fresh
  obtain ⟨h_1, h_2, h_in⟩ := hP
  refine lv_iload_n hx hb dJ16_valueOf_0 rfl (lv_at hl 0 rfl) ?_
  refine lv_bipush (v := (-128)) hx hb dJ16_valueOf_1 (by decide) ?_
  refine lv_icmp_lt (tgt := 23) hx hb dJ16_valueOf_3 (by decide) (fun c_1 => absurd c_1 h_1) (fun c_1 => ?_)
  refine lv_iload_n hx hb dJ16_valueOf_6 rfl (lv_at hl 0 rfl) ?_
  refine va_gets (v := .int 127) hx hb hZr.1 hS hown (hts _ q400) (fun _ h9 => h9) dJ16_valueOf_7 ?_
  refine lv_icmp_gt (tgt := 23) hx hb dJ16_valueOf_10 (by decide) (fun c_2 => absurd c_2 h_2) (fun c_2 => ?_)
  refine va_gets (v := .ref C.2.2.1) hx hb hZr.2.1 hS hown (hts _ q402) (fun _ h9 => h9) dJ16_valueOf_13 ?_
  refine lv_iload_n hx hb dJ16_valueOf_16 rfl (lv_at hl 0 rfl) ?_
  refine lv_sipush (v := 128) hx hb dJ16_valueOf_17 (by decide) ?_
  refine lv_iadd hx hb dJ16_valueOf_20 ?_
  refine vb_tq (v := .ref (C.1 (i + 128).toNatClampNeg)) hx hb hZr.2.2.1 hS h_in rfl dJ16_valueOf_21 ?_
  exact W.aret (v := .ref (C.1 (i + 128).toNatClampNeg)) hx hb hr (Or.inl ⟨_, rfl⟩) (Or.inr ⟨_, rfl⟩) (fun t ht hW => ⟨⟨rfl, trivial⟩, hS.F ht⟩) hS.2.2 dJ16_valueOf_22

set_option maxHeartbeats 2000000 in
set_option maxRecDepth 100000 in
theorem jt_intValue (l : Launch) (E : en_T) (C : ex_C) (A : Nat → Prop) (sz : Nat) (k : Nat) : Met l yJ16_intValue (ws_ yJ16_intValue cJ16_intValue 1 (some .int)) { frames := 0, cells := 0, slots := 0, locals := 0 } (cpc E C A sz [.ref (C.1 k)] (fun _ => True) (k < 256)) (cq_Q (some (.int (vb_c k))) (fun _ => True) (nw_A sz)) 0 0 (nw_A sz) := by
  refine cq_start (by decide) (Nat.le_of_ble_eq_true rfl) ?_
  intro p e s m below meth c ls hx hb hr hlocks hml hown hnm hts hsz hK hZ hA hR hP hl
  subst hsz
  have hAA : ∀ a, nw_A s.heap.size a → A a := hA
  have hl : lv_has ls 1 [(0, .ref (C.1 k))] := hl
  have hS : va_S (nw_A s.heap.size) s.heap s.heap [] := va_S.rf
  have hZr := hZ.fresh
  have hk := hP
  refine lv_aload_n hx hb dJ16_intValue_0 rfl (lv_at hl 0 rfl) ?_
  refine va_getX (i := k) (v := fun k => .int (vb_c k)) hx hb hZr.2.2.2.1.2 hk hS hown (hts _ q413) (fun _ h9 => h9) dJ16_intValue_1 ?_
  exact W.iret (v := (vb_c k)) hx hb hr (fun t ht hW => ⟨⟨rfl, trivial⟩, hS.F ht⟩) hS.2.2 dJ16_intValue_4

set_option maxHeartbeats 2000000 in
set_option maxRecDepth 100000 in
theorem jt_equalsI (l : Launch) (E : en_T) (C : ex_C) (A : Nat → Prop) (sz : Nat) (a b : Nat) : Met l yJ16_equals (ws_ yJ16_equals cJ16_equals 2 (some .boolean)) { frames := 1, cells := 0, slots := 0, locals := 20 } (cpc E C A sz [.ref (C.1 a), .ref (C.1 b)] (fun _ => True) (a < 256 ∧ b < 256)) (cq_Q (some (.int (gs_bz (decide ((vb_c a) = (vb_c b)))))) (fun _ => True) (nw_A sz)) 0 0 (nw_A sz) := by
  refine cq_start (by decide) (Nat.le_of_ble_eq_true rfl) ?_
  intro p e s m below meth c ls hx hb hr hlocks hml hown hnm hts hsz hK hZ hA hR hP hl
  subst hsz
  have hAA : ∀ a, nw_A s.heap.size a → A a := hA
  have hl : lv_has ls 2 [(0, .ref (C.1 a)), (1, .ref (C.1 b))] := hl
  have hS : va_S (nw_A s.heap.size) s.heap s.heap [] := va_S.rf
  have hZr := hZ.fresh
  obtain ⟨h_a, h_b⟩ := hP
  refine lv_aload_n hx hb dJ16_equals_0 rfl (lv_at hl 1 rfl) ?_
  refine va_instS hx hb hown (hts _ q404) (hK.1.1 7 _ rfl).2 (ic_recv hZr hS h_b) dJ16_equals_1 ?_
  refine lv_if_eq (tgt := 27) hx hb dJ16_equals_4 (by decide) (fun c_1 => absurd c_1 (by decide)) (fun c_1 => ?_)
  refine lv_aload_n hx hb dJ16_equals_7 rfl (lv_at hl 0 rfl) ?_
  refine va_getX (i := a) (v := fun k => .int (vb_c k)) hx hb hZr.2.2.2.1.2 h_a hS hown (hts _ q413) (fun _ h9 => h9) dJ16_equals_8 ?_
  refine lv_aload_n hx hb dJ16_equals_11 rfl (lv_at hl 1 rfl) ?_
  refine va_castS hx hb hown (hts _ q404) (hK.1.1 7 _ rfl).2 (ic_recv hZr hS h_b) dJ16_equals_12 ?_
  refine cq_V (v := (some (.int (vb_c b)))) (As := []) (rest := [.int (vb_c a)]) hK hZ hA hAA hS trivial h_b (jt_intValue l E C A s.heap.size b) (fun _ h => Nat.le_trans hS.1 h) ⟨hx, hb, hml, hown, hts⟩ (cwV 0 hts (lw_V q452 q453 q454 q52 q455) rfl rfl rfl (by decide +kernel) ⟨Nat.le_of_ble_eq_true rfl, Nat.le_of_ble_eq_true rfl⟩) (ic_recv hZr hS h_b) rfl hl.1 rfl (Nat.le_of_ble_eq_true rfl) dJ16_equals_15 ⟨Nat.le_of_ble_eq_true rfl, Nat.le_of_ble_eq_true rfl⟩ (fun H locs hB hz hk hS => ?_)
  refine W.eq (g2 := F0 m 18 ls [.int (vb_c b), .int (vb_c a)]) rfl ?_
  have hJ_26 : ∀ (H : Heap) (locs : List Loc) (ls : Array Slot) (v_26 : Int32), v_26 = (if (vb_c a) = (vb_c b) then 1 else 0) → va_S (nw_A s.heap.size) s.heap H locs → lv_has ls 2 [] → cq_G p l e { frames := 1, cells := 0, slots := 0, locals := 20 } s m [.ref (C.1 a), .ref (C.1 b)] below meth c (nw_A s.heap.size) (cq_Q (some (.int (gs_bz (decide ((vb_c a) = (vb_c b)))))) (fun _ => True) (nw_A s.heap.size)) 0 0 H locs 0 0 (F0 m 26 ls [.int v_26]) := by
    intro H locs ls v_26 e_v_26 hS hl
    subst e_v_26
    exact W.zret (v := (if (vb_c a) = (vb_c b) then 1 else 0)) hx hb hr gs_nar (fun t ht hW => ⟨⟨(congrArg (fun z => Outcome.returned (some (Value.int z))) (gs_bz_dec)), trivial⟩, hS.F ht⟩) hS.2.2 dJ16_equals_26
  refine lv_icmp_ne (tgt := 25) hx hb dJ16_equals_18 (by decide) (fun c_2 => ?_) (fun c_2 => ?_)
  · skip
    refine lv_iconst (v := 0) hx hb dJ16_equals_25 (by decide) ?_
    exact hJ_26 _ _ _ 0 (gi_0 (gi_cb_f c_2)) hS (lv_sub hl [] rfl)
  · skip
    refine lv_iconst (v := 1) hx hb dJ16_equals_21 (by decide) ?_
    refine lv_goto (tgt := 26) hx hb dJ16_equals_22 (by decide) ?_
    exact hJ_26 _ _ _ 1 (gi_1 (gi_cb_t c_2)) hS (lv_sub hl [] rfl)
