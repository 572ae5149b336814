
set_option maxHeartbeats 2000000 in
set_option maxRecDepth 100000 in
theorem jt_indexOf (l : Launch) (E : en_T) (C : ex_C) (A : Nat → Prop) (sz : Nat) (ok : Nat → Nat → Prop) (ad : kw_A) (en : Nat → Nat → va_E) (z : Nat) (mc : Int32) (k ea cap : Nat) (h : Nat → Option Nat) (vs : Nat → Nat) (w : Nat) : Met l yJ2_indexOf (ws_ yJ2_indexOf cJ2_indexOf 2 (some .int)) { frames := 3, cells := 0, slots := 0, locals := 66 } (cpc E C A sz [.ref (ad 1 z), .ref (C.1 w)] (kw E ok ad en A) (il_P E C ok ad en z mc k ea cap h vs ∧ w < 256)) (cq_Q (some (.int (jf_idx vs w k 0))) (fun _ => True) (nw_A sz)) 0 0 (nw_A sz) := by
  refine cq_start (by decide) (Nat.le_of_ble_eq_true rfl) ?_
  intro p e s m below meth c ls hx hb hr hlocks hml hown hnm hts hsz hK hZ hA hR hP hl
  subst hsz
  have hAA : ∀ a, nw_A s.heap.size a → A a := hA
  have hl : lv_has ls 2 [(0, .ref (ad 1 z)), (1, .ref (C.1 w))] := hl
  have hS : va_S (nw_A s.heap.size) s.heap s.heap [] := va_S.rf
  have hZr := hZ.fresh
  obtain ⟨h_i, h_w⟩ := hP
  refine lv_aload_n hx hb dJ2_indexOf_0 rfl (lv_at hl 0 rfl) ?_
  refine lv_aload_n hx hb dJ2_indexOf_1 rfl (lv_at hl 1 rfl) ?_
  refine lv_iconst (v := 0) hx hb dJ2_indexOf_2 (by decide) ?_
  refine lv_aload_n hx hb dJ2_indexOf_3 rfl (lv_at hl 0 rfl) ?_
  refine kw_get (C := RJ2) (T := TJ2) (N := 3) (v := .int (nI k)) hx hb hts in_J2 hown hK.1 hR 1 z h_i.1 h_i.2.1 rfl 2 (by decide) (hts _ q85) (fun _ h9 => h9) rfl dJ2_indexOf_4 ?_
  refine cq_V (v := (some (.int (jf_idx vs w k 0)))) (As := [.ref (C.1 w), .int 0, .int (nI k)]) (rest := []) hK hZ hA hAA hS hR ⟨h_i, h_w⟩ (jt_idxR l E C A s.heap.size ok ad en z mc k ea cap h vs w) (fun _ h => Nat.le_trans hS.1 h) ⟨hx, hb, hml, hown, hts⟩ (cwV 3 hts (lw_V q430 q431 q432 q36 q433) rfl rfl rfl (by decide +kernel) ⟨Nat.le_of_ble_eq_true rfl, Nat.le_of_ble_eq_true rfl⟩) (kw_recv hK.1 hR h_i.1 h_i.2.1 rfl) rfl hl.1 rfl (Nat.le_of_ble_eq_true rfl) dJ2_indexOf_7 ⟨Nat.le_of_ble_eq_true rfl, Nat.le_of_ble_eq_true rfl⟩ (fun H locs hB hz hk hS => ?_)
  have hR := hR.kept (fun a _ h => hk a h (Nat.not_le.mpr h))
  refine W.eq (g2 := F0 m 10 ls [.int (jf_idx vs w k 0)]) rfl ?_
  exact W.iret (v := (jf_idx vs w k 0)) hx hb hr (fun t ht hW => ⟨⟨rfl, trivial⟩, hS.F ht⟩) hS.2.2 dJ2_indexOf_10

set_option maxHeartbeats 2000000 in
set_option maxRecDepth 100000 in
theorem jt_contains (l : Launch) (E : en_T) (C : ex_C) (A : Nat → Prop) (sz : Nat) (ok : Nat → Nat → Prop) (ad : kw_A) (en : Nat → Nat → va_E) (z : Nat) (mc : Int32) (k ea cap : Nat) (h : Nat → Option Nat) (vs : Nat → Nat) (w : Nat) : Met l yJ2_contains (ws_ yJ2_contains cJ2_contains 2 (some .boolean)) { frames := 4, cells := 0, slots := 0, locals := 87 } (cpc E C A sz [.ref (ad 1 z), .ref (C.1 w)] (kw E ok ad en A) (il_P E C ok ad en z mc k ea cap h vs ∧ w < 256)) (cq_Q (some (.int (gs_bz (decide (¬ (jf_idx vs w k 0) < 0))))) (fun _ => True) (nw_A sz)) 0 0 (nw_A sz) := by
  refine cq_start (by decide) (Nat.le_of_ble_eq_true rfl) ?_
  intro p e s m below meth c ls hx hb hr hlocks hml hown hnm hts hsz hK hZ hA hR hP hl
  subst hsz
  have hAA : ∀ a, nw_A s.heap.size a → A a := hA
  have hl : lv_has ls 2 [(0, .ref (ad 1 z)), (1, .ref (C.1 w))] := hl
  have hS : va_S (nw_A s.heap.size) s.heap s.heap [] := va_S.rf
  have hZr := hZ.fresh
  obtain ⟨h_i, h_w⟩ := hP
  refine lv_aload_n hx hb dJ2_contains_0 rfl (lv_at hl 0 rfl) ?_
  refine lv_aload_n hx hb dJ2_contains_1 rfl (lv_at hl 1 rfl) ?_
  refine cq_V (v := (some (.int (jf_idx vs w k 0)))) (As := [.ref (C.1 w)]) (rest := []) hK hZ hA hAA hS hR ⟨h_i, h_w⟩ (jt_indexOf l E C A s.heap.size ok ad en z mc k ea cap h vs w) (fun _ h => Nat.le_trans hS.1 h) ⟨hx, hb, hml, hown, hts⟩ (cwV 1 hts (lw_V q426 q427 q428 q36 q429) rfl rfl rfl (by decide +kernel) ⟨Nat.le_of_ble_eq_true rfl, Nat.le_of_ble_eq_true rfl⟩) (kw_recv hK.1 hR h_i.1 h_i.2.1 rfl) rfl hl.1 rfl (Nat.le_of_ble_eq_true rfl) dJ2_contains_2 ⟨Nat.le_of_ble_eq_true rfl, Nat.le_of_ble_eq_true rfl⟩ (fun H locs hB hz hk hS => ?_)
  have hR := hR.kept (fun a _ h => hk a h (Nat.not_le.mpr h))
  refine W.eq (g2 := F0 m 5 ls [.int (jf_idx vs w k 0)]) rfl ?_
  have hJ_13 : ∀ (H : Heap) (locs : List Loc) (ls : Array Slot) (v_13 : Int32), v_13 = (if ¬ ((jf_idx vs w k 0) < 0) then 1 else 0) → (kw E ok ad en A) H → va_S (nw_A s.heap.size) s.heap H locs → lv_has ls 2 [] → cq_G p l e { frames := 4, cells := 0, slots := 0, locals := 87 } s m [.ref (ad 1 z), .ref (C.1 w)] below meth c (nw_A s.heap.size) (cq_Q (some (.int (gs_bz (decide (¬ (jf_idx vs w k 0) < 0))))) (fun _ => True) (nw_A s.heap.size)) 0 0 H locs 0 0 (F0 m 13 ls [.int v_13]) := by
    intro H locs ls v_13 e_v_13 hR hS hl
    subst e_v_13
    exact W.zret (v := (if ¬ ((jf_idx vs w k 0) < 0) then 1 else 0)) hx hb hr gs_nar (fun t ht hW => ⟨⟨(congrArg (fun z => Outcome.returned (some (Value.int z))) (gs_bz_dec)), trivial⟩, hS.F ht⟩) hS.2.2 dJ2_contains_13
  refine lv_if_lt (tgt := 12) hx hb dJ2_contains_5 (by decide) (fun c_1 => ?_) (fun c_1 => ?_)
  · skip
    refine lv_iconst (v := 0) hx hb dJ2_contains_12 (by decide) ?_
    exact hJ_13 _ _ _ 0 (gi_0 (gi_nb_t c_1)) hR hS (lv_sub hl [] rfl)
  · skip
    refine lv_iconst (v := 1) hx hb dJ2_contains_8 (by decide) ?_
    refine lv_goto (tgt := 13) hx hb dJ2_contains_9 (by decide) ?_
    exact hJ_13 _ _ _ 1 (gi_1 (gi_nb_f c_1)) hR hS (lv_sub hl [] rfl)
