set_option maxHeartbeats 2000000 in
set_option maxRecDepth 100000 in
theorem xt_isHere (l : Launch) (E : en_T) (C : ex_C) (A : Nat → Prop) (sz : Nat) (g : kw_A) (h : xh_T) (S : gs_T) (i : Nat) : Met l yX3_isHere (ws_ yX3_isHere cX3_isHere 1 (some .boolean)) { frames := 0, cells := 0, slots := 0, locals := 0 } (cpc E C A sz [.ref (g 3 i)] (xw E C g h S A) (xi_ok S ∧ xh C g h S ∧ i < nz S 1)) (cq_Q (some (.int (gs_bz (xf_isHere S i)))) (fun _ => True) (nw_A sz)) 0 0 (nw_A sz) := by
  refine cq_start (by decide) (Nat.le_of_ble_eq_true rfl) ?_
  intro p e s m below meth c ls hx hb hr hlocks hml hown hnm hts hsz hK hZ hA hR hP hl
  subst hsz
  have hAA : ∀ a, nw_A s.heap.size a → A a := hA
  have hl : lv_has ls 1 [(0, .ref (g 3 i))] := hl
  have hS : va_S (nw_A s.heap.size) s.heap s.heap [] := va_S.rf
  have hZr := hZ.fresh
  obtain ⟨hI, hh, h_i⟩ := hP
  have hf : (xf_isHere S i) = (xf_isHere S i) := rfl
  refine lv_aload_n hx hb dX3_isHere_0 rfl (lv_at hl 0 rfl) ?_
  refine kw_get (C := RX3) (T := TX3) (N := 15) (v := .int (S 36 i)) hx hb hts in_X3 hown hK.1 hR 3 i h_i rfl rfl 6 (by decide) (hts _ q535) (fun _ h9 => h9) rfl dX3_isHere_1 ?_
  have hJ_28 : ∀ (H : Heap) (locs : List Loc) (ls : Array Slot) (v_28 : Int32), v_28 = (if ((S 36 i) = 0) ∨ (((S 36 i) = 1) ∨ ((S 36 i) = 2)) then 1 else 0) → (xw E C g h S A) H → va_S (nw_A s.heap.size) s.heap H locs → lv_has ls 1 [] → cq_G p l e { frames := 0, cells := 0, slots := 0, locals := 0 } s m [.ref (g 3 i)] below meth c (nw_A s.heap.size) (cq_Q (some (.int (gs_bz (xf_isHere S i)))) (fun _ => True) (nw_A s.heap.size)) 0 0 H locs 0 0 (F0 m 28 ls [.int v_28]) := by
    intro H locs ls v_28 e_v_28 hR hS hl
    subst e_v_28
    exact W.zret (v := (if ((S 36 i) = 0) ∨ (((S 36 i) = 1) ∨ ((S 36 i) = 2)) then 1 else 0)) hx hb hr gs_nar (fun t ht hW => ⟨⟨(congrArg (fun z => Outcome.returned (some (Value.int z))) (gs_bz_dec.trans (congrArg gs_bz hf))), trivial⟩, hS.F ht⟩) hS.2.2 dX3_isHere_28
  refine lv_if_eq (tgt := 23) hx hb dX3_isHere_4 (by decide) (fun c_1 => ?_) (fun c_1 => ?_)
  · skip
    refine lv_iconst (v := 1) hx hb dX3_isHere_23 (by decide) ?_
    refine lv_goto (tgt := 28) hx hb dX3_isHere_24 (by decide) ?_
    exact hJ_28 _ _ _ 1 (gi_1 (gi_co_t c_1)) hR hS (lv_sub hl [] rfl)
  · skip
    refine lv_aload_n hx hb dX3_isHere_7 rfl (lv_at hl 0 rfl) ?_
    refine kw_get (C := RX3) (T := TX3) (N := 15) (v := .int (S 36 i)) hx hb hts in_X3 hown hK.1 hR 3 i h_i rfl rfl 6 (by decide) (hts _ q535) (fun _ h9 => h9) rfl dX3_isHere_8 ?_
    refine lv_iconst (v := 1) hx hb dX3_isHere_11 (by decide) ?_
    refine lv_icmp_eq (tgt := 23) hx hb dX3_isHere_12 (by decide) (fun c_2 => ?_) (fun c_2 => ?_)
    · skip
      refine lv_iconst (v := 1) hx hb dX3_isHere_23 (by decide) ?_
      refine lv_goto (tgt := 28) hx hb dX3_isHere_24 (by decide) ?_
      exact hJ_28 _ _ _ 1 (gi_1 ((gi_co_t c_2).trans (gi_co_f c_1))) hR hS (lv_sub hl [] rfl)
    · skip
      refine lv_aload_n hx hb dX3_isHere_15 rfl (lv_at hl 0 rfl) ?_
      refine kw_get (C := RX3) (T := TX3) (N := 15) (v := .int (S 36 i)) hx hb hts in_X3 hown hK.1 hR 3 i h_i rfl rfl 6 (by decide) (hts _ q535) (fun _ h9 => h9) rfl dX3_isHere_16 ?_
      refine lv_iconst (v := 2) hx hb dX3_isHere_19 (by decide) ?_
      refine lv_icmp_ne (tgt := 27) hx hb dX3_isHere_20 (by decide) (fun c_3 => ?_) (fun c_3 => ?_)
      · skip
        refine lv_iconst (v := 0) hx hb dX3_isHere_27 (by decide) ?_
        exact hJ_28 _ _ _ 0 (gi_0 (((gi_cb_f c_3).trans (gi_co_f c_2)).trans (gi_co_f c_1))) hR hS (lv_sub hl [] rfl)
      · skip
        refine lv_iconst (v := 1) hx hb dX3_isHere_23 (by decide) ?_
        refine lv_goto (tgt := 28) hx hb dX3_isHere_24 (by decide) ?_
        exact hJ_28 _ _ _ 1 (gi_1 (((gi_cb_t c_3).trans (gi_co_f c_2)).trans (gi_co_f c_1))) hR hS (lv_sub hl [] rfl)
set_option maxHeartbeats 2000000 in
set_option maxRecDepth 100000 in
theorem xt_proves (l : Launch) (E : en_T) (C : ex_C) (A : Nat → Prop) (sz : Nat) (g : kw_A) (h : xh_T) (S : gs_T) (j : Nat) (i : Nat) : Met l yX5_proves (ws_ yX5_proves cX5_proves 3 (some .boolean)) { frames := 1, cells := 0, slots := 0, locals := 20 } (cpc E C A sz [.ref (g 4 j), .ref (g 3 i)] (xw E C g h S A) (xi_ok S ∧ xh C g h S ∧ j < nz S 2 ∧ i < nz S 1)) (cq_Q (some (.int (gs_bz (xf_proves S j i)))) (fun _ => True) (nw_A sz)) 0 0 (nw_A sz) := by
  refine cq_start (by decide) (Nat.le_of_ble_eq_true rfl) ?_
  intro p e s m below meth c ls hx hb hr hlocks hml hown hnm hts hsz hK hZ hA hR hP hl
  subst hsz
  have hAA : ∀ a, nw_A s.heap.size a → A a := hA
  have hl : lv_has ls 3 [(0, .ref (g 4 j)), (1, .ref (g 3 i))] := hl
  have hS : va_S (nw_A s.heap.size) s.heap s.heap [] := va_S.rf
  have hZr := hZ.fresh
  obtain ⟨hI, hh, h_j, h_i⟩ := hP
  have hf : (xf_proves S j i) = (xf_proves S j i) := rfl
  refine lv_aload_n hx hb dX5_proves_0 rfl (lv_at hl 1 rfl) ?_
  refine kw_getN (C := RX3) (T := TX3) (N := 15) (v := .int (S 34 i)) hx hb hts in_X3 hown hK.1 hR 3 i h_i rfl rfl 4 (by decide) (va_Nw.use rfl (hK.2.1 _ q531 rfl)) (fun _ h9 => h9) rfl dX5_proves_1 ?_
  refine ps_calli (As := [.int (S 34 i)]) (rest := []) ⟨hx, hb, hml, hown, hts⟩ (jt_bits l (S 34 i)) (va_cwS 1 hts (lw_S q813 q591 q52 q592) rfl rfl rfl (by decide +kernel) ⟨Nat.le_of_ble_eq_true rfl, Nat.le_of_ble_eq_true rfl⟩) trivial hS rfl hl.1 rfl (Nat.le_of_ble_eq_true rfl) dX5_proves_4 ⟨Nat.zero_le _, Nat.zero_le _⟩ (fun H locs hz hk hS => ?_)
  have hR := hR.kept (fun a _ h => hk a h)
  refine lv_istore_n (lv' := [(2, .int (jf_bits (S 34 i))), (0, .ref (g 4 j)), (1, .ref (g 3 i))]) hx hb dX5_proves_7 rfl hl (by decide) rfl (fun ls hl => ?_)
  refine lv_aload_n hx hb dX5_proves_8 rfl (lv_at hl 1 rfl) ?_
  refine kw_get (C := RX5) (T := TX5) (N := 10) (v := .int (S 55 j)) hx hb hts in_X5 hown hK.1 hR 4 j h_j rfl rfl 5 (by decide) (hts _ q722) (fun _ h9 => h9) rfl dX5_proves_9 ?_
  refine lv_aload_n hx hb dX5_proves_12 rfl (lv_at hl 2 rfl) ?_
  refine kw_getN (C := RX3) (T := TX3) (N := 15) (v := .int (S 34 i)) hx hb hts in_X3 hown hK.1 hR 3 i h_i rfl rfl 4 (by decide) (va_Nw.use rfl (hK.2.1 _ q531 rfl)) (fun _ h9 => h9) rfl dX5_proves_13 ?_
  refine lv_iand hx hb dX5_proves_16 ?_
  refine ps_calli (As := [.int ((S 55 j) &&& (S 34 i))]) (rest := []) ⟨hx, hb, hml, hown, hts⟩ (jt_bits l ((S 55 j) &&& (S 34 i))) (va_cwS 1 hts (lw_S q813 q591 q52 q592) rfl rfl rfl (by decide +kernel) ⟨Nat.le_of_ble_eq_true rfl, Nat.le_of_ble_eq_true rfl⟩) trivial hS rfl hl.1 rfl (Nat.le_of_ble_eq_true rfl) dX5_proves_17 ⟨Nat.zero_le _, Nat.zero_le _⟩ (fun H locs hz hk hS => ?_)
  have hR := hR.kept (fun a _ h => hk a h)
  refine lv_iconst (v := 2) hx hb dX5_proves_20 (by decide) ?_
  refine lv_iload_n hx hb dX5_proves_21 rfl (lv_at hl 0 rfl) ?_
  refine va_mmin hx hb (hml.trans hl.1.symm) hown (hts _ q814) (hts _ q159) (hts _ q39) (hts _ q160) (Nat.le_of_ble_eq_true rfl) (Nat.le_of_ble_eq_true rfl) (Nat.le_of_ble_eq_true rfl) (Nat.le_of_ble_eq_true rfl) dX5_proves_22 ?_
  have hJ_51 : ∀ (H : Heap) (locs : List Loc) (ls : Array Slot) (v_51 : Int32), v_51 = (if (¬ ((jf_bits ((S 55 j) &&& (S 34 i))) < (if (jf_bits (S 34 i)) < 2 then (jf_bits (S 34 i)) else 2))) ∧ (¬ (1 < (jf_bits ((S 55 j) &&& ((S 34 i) ^^^ (-1)))))) then 1 else 0) → (xw E C g h S A) H → va_S (nw_A s.heap.size) s.heap H locs → lv_has ls 3 [] → cq_G p l e { frames := 1, cells := 0, slots := 0, locals := 20 } s m [.ref (g 4 j), .ref (g 3 i)] below meth c (nw_A s.heap.size) (cq_Q (some (.int (gs_bz (xf_proves S j i)))) (fun _ => True) (nw_A s.heap.size)) 0 0 H locs 0 0 (F0 m 51 ls [.int v_51]) := by
    intro H locs ls v_51 e_v_51 hR hS hl
    subst e_v_51
    exact W.zret (v := (if (¬ ((jf_bits ((S 55 j) &&& (S 34 i))) < (if (jf_bits (S 34 i)) < 2 then (jf_bits (S 34 i)) else 2))) ∧ (¬ (1 < (jf_bits ((S 55 j) &&& ((S 34 i) ^^^ (-1)))))) then 1 else 0)) hx hb hr gs_nar (fun t ht hW => ⟨⟨(congrArg (fun z => Outcome.returned (some (Value.int z))) (gs_bz_dec.trans (congrArg gs_bz hf))), trivial⟩, hS.F ht⟩) hS.2.2 dX5_proves_51
  refine lv_icmp_lt (tgt := 50) hx hb dX5_proves_25 (by decide) (fun c_1 => ?_) (fun c_1 => ?_)
  · skip
    refine lv_iconst (v := 0) hx hb dX5_proves_50 (by decide) ?_
    exact hJ_51 _ _ _ 0 (gi_0 (gi_na_t c_1)) hR hS (lv_sub hl [] rfl)
  · skip
    refine lv_aload_n hx hb dX5_proves_28 rfl (lv_at hl 1 rfl) ?_
    refine kw_get (C := RX5) (T := TX5) (N := 10) (v := .int (S 55 j)) hx hb hts in_X5 hown hK.1 hR 4 j h_j rfl rfl 5 (by decide) (hts _ q722) (fun _ h9 => h9) rfl dX5_proves_29 ?_
    refine lv_aload_n hx hb dX5_proves_32 rfl (lv_at hl 2 rfl) ?_
    refine kw_getN (C := RX3) (T := TX3) (N := 15) (v := .int (S 34 i)) hx hb hts in_X3 hown hK.1 hR 3 i h_i rfl rfl 4 (by decide) (va_Nw.use rfl (hK.2.1 _ q531 rfl)) (fun _ h9 => h9) rfl dX5_proves_33 ?_
    refine lv_iconst (v := (-1)) hx hb dX5_proves_36 (by decide) ?_
    refine lv_ixor hx hb dX5_proves_37 ?_
    refine lv_iand hx hb dX5_proves_38 ?_
    refine ps_calli (As := [.int ((S 55 j) &&& ((S 34 i) ^^^ (-1)))]) (rest := []) ⟨hx, hb, hml, hown, hts⟩ (jt_bits l ((S 55 j) &&& ((S 34 i) ^^^ (-1)))) (va_cwS 1 hts (lw_S q813 q591 q52 q592) rfl rfl rfl (by decide +kernel) ⟨Nat.le_of_ble_eq_true rfl, Nat.le_of_ble_eq_true rfl⟩) trivial hS rfl hl.1 rfl (Nat.le_of_ble_eq_true rfl) dX5_proves_39 ⟨Nat.zero_le _, Nat.zero_le _⟩ (fun H locs hz hk hS => ?_)
    have hR := hR.kept (fun a _ h => hk a h)
    refine lv_iconst (v := 1) hx hb dX5_proves_42 (by decide) ?_
    refine lv_icmp_gt (tgt := 50) hx hb dX5_proves_43 (by decide) (fun c_2 => ?_) (fun c_2 => ?_)
    · skip
      refine lv_iconst (v := 0) hx hb dX5_proves_50 (by decide) ?_
      exact hJ_51 _ _ _ 0 (gi_0 ((gi_nb_t c_2).trans (gi_na_f c_1))) hR hS (lv_sub hl [] rfl)
    · skip
      refine lv_iconst (v := 1) hx hb dX5_proves_46 (by decide) ?_
      refine lv_goto (tgt := 51) hx hb dX5_proves_47 (by decide) ?_
      exact hJ_51 _ _ _ 1 (gi_1 ((gi_nb_f c_2).trans (gi_na_f c_1))) hR hS (lv_sub hl [] rfl)
set_option maxHeartbeats 2000000 in
set_option maxRecDepth 100000 in
theorem xt_stopsAt (l : Launch) (E : en_T) (C : ex_C) (A : Nat → Prop) (sz : Nat) (g : kw_A) (h : xh_T) (S : gs_T) (p1 : Int32) (p2 : Int32) : Met l yX1_stopsAt (ws_ yX1_stopsAt cX1_stopsAt 3 (some .boolean)) { frames := 5, cells := 0, slots := 0, locals := 108 } (cpc E C A sz [.ref (g 0 0), .int p1, .int p2] (xw E C g h S A) (xi_ok S ∧ xh C g h S ∧ vp_in p1 10 ∧ vp_in p2 6)) (cq_Q (some (.int (gs_bz (xf_stopsAt S p1 p2)))) (fun _ => True) (nw_A sz)) 0 0 (nw_A sz) := by
  refine cq_start (by decide) (Nat.le_of_ble_eq_true rfl) ?_
  intro p e s m below meth c ls hx hb hr hlocks hml hown hnm hts hsz hK hZ hA hR hP hl
  subst hsz
  have hAA : ∀ a, nw_A s.heap.size a → A a := hA
  have hl : lv_has ls 3 [(0, .ref (g 0 0)), (1, .int p1), (2, .int p2)] := hl
  have hS : va_S (nw_A s.heap.size) s.heap s.heap [] := va_S.rf
  have hZr := hZ.fresh
  obtain ⟨hI, hh, h_p1, h_p2⟩ := hP
  have hf : (xf_stopsAt S p1 p2) = (xf_stopsAt S p1 p2) := rfl
  refine lv_iload_n hx hb dX1_stopsAt_0 rfl (lv_at hl 1 rfl) ?_
  refine lv_iload_n hx hb dX1_stopsAt_1 rfl (lv_at hl 2 rfl) ?_
  have hJ_44 : ∀ (H : Heap) (locs : List Loc) (ls : Array Slot) (v_44 : Int32), v_44 = (if (p1 = p2) ∨ ((¬ (p1 < 6)) ∧ (¬ ((jf_idx (fun j => (S 72 (8 * (p1 - 6).toNatClampNeg + j) + 128).toNatClampNeg) ((p2 + 128).toNatClampNeg) (nz S (3 + (p1 - 6).toNatClampNeg)) 0) < 0))) then 1 else 0) → (xw E C g h S A) H → va_S (nw_A s.heap.size) s.heap H locs → lv_has ls 3 [] → cq_G p l e { frames := 5, cells := 0, slots := 0, locals := 108 } s m [.ref (g 0 0), .int p1, .int p2] below meth c (nw_A s.heap.size) (cq_Q (some (.int (gs_bz (xf_stopsAt S p1 p2)))) (fun _ => True) (nw_A s.heap.size)) 0 0 H locs 0 0 (F0 m 44 ls [.int v_44]) := by
    intro H locs ls v_44 e_v_44 hR hS hl
    subst e_v_44
    exact W.zret (v := (if (p1 = p2) ∨ ((¬ (p1 < 6)) ∧ (¬ ((jf_idx (fun j => (S 72 (8 * (p1 - 6).toNatClampNeg + j) + 128).toNatClampNeg) ((p2 + 128).toNatClampNeg) (nz S (3 + (p1 - 6).toNatClampNeg)) 0) < 0))) then 1 else 0)) hx hb hr gs_nar (fun t ht hW => ⟨⟨(congrArg (fun z => Outcome.returned (some (Value.int z))) (gs_bz_dec.trans (congrArg gs_bz hf))), trivial⟩, hS.F ht⟩) hS.2.2 dX1_stopsAt_44
  refine lv_icmp_eq (tgt := 39) hx hb dX1_stopsAt_2 (by decide) (fun c_1 => ?_) (fun c_1 => ?_)
  · skip
    refine lv_iconst (v := 1) hx hb dX1_stopsAt_39 (by decide) ?_
    refine lv_goto (tgt := 44) hx hb dX1_stopsAt_40 (by decide) ?_
    exact hJ_44 _ _ _ 1 (gi_1 (gi_co_t c_1)) hR hS (lv_sub hl [] rfl)
  · skip
    refine lv_iload_n hx hb dX1_stopsAt_5 rfl (lv_at hl 1 rfl) ?_
    refine lv_bipush (v := 6) hx hb dX1_stopsAt_6 (by decide) ?_
    refine lv_icmp_lt (tgt := 43) hx hb dX1_stopsAt_8 (by decide) (fun c_2 => ?_) (fun c_2 => ?_)
    · skip
      refine lv_iconst (v := 0) hx hb dX1_stopsAt_43 (by decide) ?_
      exact hJ_44 _ _ _ 0 (gi_0 ((gi_na_t c_2).trans (gi_co_f c_1))) hR hS (lv_sub hl [] rfl)
    · skip
      have e6 := xp_6 h_p1 c_2
      refine lv_aload_n hx hb dX1_stopsAt_11 rfl (lv_at hl 0 rfl) ?_
      refine kw_get (C := RX1) (T := TX1) (N := 12) (v := .ref (g 1 0)) hx hb hts in_X1 hown hK.1 hR 0 0 rfl rfl rfl 5 (by decide) (hts _ q174) (fun _ h9 => h9) rfl dX1_stopsAt_12 ?_
      refine lv_iload_n hx hb dX1_stopsAt_15 rfl (lv_at hl 1 rfl) ?_
      refine lv_bipush (v := 6) hx hb dX1_stopsAt_16 (by decide) ?_
      refine lv_isub hx hb dX1_stopsAt_18 ?_
      refine cq_F (v := (some (.ref (g 1 (3 + (p1 - 6).toNatClampNeg))))) (As := [.int (p1 - 6)]) (rest := []) hK hZ hA hAA hS hR (xg_get hI hh (Nat.lt_of_lt_of_le (by decide) (Nat.le_add_right 7 _)) (by rw [e6.2]; exact nI_nn (by have := e6.1; omega)) (by rw [xi_tr hI, e6.2]; exact nI_lt e6.1 (by decide)) rfl) (jt_get l E C A s.heap.size (xok S) g (xen E C g h S) 0 (S 20 0) (S 21 0) (cz S 0) (h 0) (p1 - 6) (g 1 (3 + (p1 - 6).toNatClampNeg))) (fun _ h => Nat.le_trans hS.1 h) (hK.1.1 5 _ rfl).2 ⟨hx, hb, hml, hown, hts⟩ (va_cwF 1 hts (lw_F q369 q372 q374 q36 q376) rfl rfl rfl (hK.2.2.1 1 _ rfl) (by decide +kernel) ⟨Nat.le_of_ble_eq_true rfl, Nat.le_of_ble_eq_true rfl⟩) (kw_recv (t := 1) (i := 0) hK.1 hR (Nat.lt_of_lt_of_le (by decide) (Nat.le_add_right 7 _)) rfl rfl) rfl hl.1 rfl (Nat.le_of_ble_eq_true rfl) dX1_stopsAt_19 ⟨Nat.le_of_ble_eq_true rfl, Nat.le_of_ble_eq_true rfl⟩ (fun H locs hB hz hk hS => ?_)
      have hR := hR.kept (fun a _ h => hk a h (Nat.not_le.mpr h))
      refine W.eq (g2 := F0 m 24 ls [.ref (g 1 (3 + (p1 - 6).toNatClampNeg))]) rfl ?_
      refine va_castY (C := RJ2) hx hb hown (hts _ q387) (hK.2.1 _ q105 rfl) (kw_recv (t := 1) (i := (3 + (p1 - 6).toNatClampNeg)) hK.1 hR (show 3 + (p1 - 6).toNatClampNeg < 7 + nz S 1 by have := e6.1; omega) rfl rfl) dX1_stopsAt_24 ?_
      refine lv_iload_n hx hb dX1_stopsAt_27 rfl (lv_at hl 2 rfl) ?_
      refine cq_S (v := (some (.ref (C.1 (p2 + 128).toNatClampNeg)))) (As := [.int p2]) (rest := [.ref (g 1 (3 + (p1 - 6).toNatClampNeg))]) hK hZ hA hAA hS trivial (xr_w h_p2).2 (jt_valueOf l E C A H.size p2) (fun _ h => Nat.le_trans hS.1 h) ⟨hx, hb, hml, hown, hts⟩ (va_cwS 1 hts (lw_S q397 q398 q52 q399) rfl rfl rfl (by decide +kernel) ⟨Nat.le_of_ble_eq_true rfl, Nat.le_of_ble_eq_true rfl⟩) rfl hl.1 rfl (Nat.le_of_ble_eq_true rfl) dX1_stopsAt_28 ⟨Nat.le_of_ble_eq_true rfl, Nat.le_of_ble_eq_true rfl⟩ (fun H locs hB hz hk hS => ?_)
      have hR := hR.kept (fun a _ h => hk a h (Nat.not_le.mpr h))
      refine W.eq (g2 := F0 m 31 ls [.ref (C.1 (p2 + 128).toNatClampNeg), .ref (g 1 (3 + (p1 - 6).toNatClampNeg))]) rfl ?_
      refine cq_F (v := (some (.int (gs_bz (decide (¬ ((jf_idx (fun j => (S 72 (8 * (p1 - 6).toNatClampNeg + j) + 128).toNatClampNeg) ((p2 + 128).toNatClampNeg) (nz S (3 + (p1 - 6).toNatClampNeg)) 0) < 0))))))) (As := [.ref (C.1 (p2 + 128).toNatClampNeg)]) (rest := []) hK hZ hA hAA hS hR ⟨xg_has hI hh e6.1, (xr_w h_p2).1⟩ (jt_contains l E C A H.size (xok S) g (xen E C g h S) (3 + (p1 - 6).toNatClampNeg) (S 20 (3 + (p1 - 6).toNatClampNeg)) (nz S (3 + (p1 - 6).toNatClampNeg)) (if cz S (3 + (p1 - 6).toNatClampNeg) = 0 then C.2.1 else g 2 (3 + (p1 - 6).toNatClampNeg)) (cz S (3 + (p1 - 6).toNatClampNeg)) (h (3 + (p1 - 6).toNatClampNeg)) (fun j => (S 72 (8 * (p1 - 6).toNatClampNeg + j) + 128).toNatClampNeg) ((p2 + 128).toNatClampNeg)) (fun _ h => Nat.le_trans hS.1 h) (hK.1.1 5 _ rfl).2 ⟨hx, hb, hml, hown, hts⟩ (va_cwF 1 hts (lw_F q418 q421 q423 q36 q425) rfl rfl rfl (hK.2.2.1 3 _ rfl) (by decide +kernel) ⟨Nat.le_of_ble_eq_true rfl, Nat.le_of_ble_eq_true rfl⟩) (kw_recv (t := 1) (i := (3 + (p1 - 6).toNatClampNeg)) hK.1 hR (show 3 + (p1 - 6).toNatClampNeg < 7 + nz S 1 by have := e6.1; omega) rfl rfl) rfl hl.1 rfl (Nat.le_of_ble_eq_true rfl) dX1_stopsAt_31 ⟨Nat.le_of_ble_eq_true rfl, Nat.le_of_ble_eq_true rfl⟩ (fun H locs hB hz hk hS => ?_)
      have hR := hR.kept (fun a _ h => hk a h (Nat.not_le.mpr h))
      refine W.eq (g2 := F0 m 36 ls [.int (if ¬ ((jf_idx (fun j => (S 72 (8 * (p1 - 6).toNatClampNeg + j) + 128).toNatClampNeg) ((p2 + 128).toNatClampNeg) (nz S (3 + (p1 - 6).toNatClampNeg)) 0) < 0) then 1 else 0)]) (by rw [gs_bz_dec]; rfl) ?_
      refine lv_if_eq (tgt := 43) hx hb dX1_stopsAt_36 (by decide) (fun c_3 => ?_) (fun c_3 => ?_)
      · skip
        have c_3 : ¬ (¬ ((jf_idx (fun j => (S 72 (8 * (p1 - 6).toNatClampNeg + j) + 128).toNatClampNeg) ((p2 + 128).toNatClampNeg) (nz S (3 + (p1 - 6).toNatClampNeg)) 0) < 0)) := gs_zf (φ := ¬ ((jf_idx (fun j => (S 72 (8 * (p1 - 6).toNatClampNeg + j) + 128).toNatClampNeg) ((p2 + 128).toNatClampNeg) (nz S (3 + (p1 - 6).toNatClampNeg)) 0) < 0)) c_3
        have c_4 := Decidable.not_not.mp c_3
        refine lv_iconst (v := 0) hx hb dX1_stopsAt_43 (by decide) ?_
        exact hJ_44 _ _ _ 0 (gi_0 (((gi_cb_f c_3).trans (gi_na_f c_2)).trans (gi_co_f c_1))) hR hS (lv_sub hl [] rfl)
      · skip
        have c_3 : ¬ ((jf_idx (fun j => (S 72 (8 * (p1 - 6).toNatClampNeg + j) + 128).toNatClampNeg) ((p2 + 128).toNatClampNeg) (nz S (3 + (p1 - 6).toNatClampNeg)) 0) < 0) := gs_zt (φ := ¬ ((jf_idx (fun j => (S 72 (8 * (p1 - 6).toNatClampNeg + j) + 128).toNatClampNeg) ((p2 + 128).toNatClampNeg) (nz S (3 + (p1 - 6).toNatClampNeg)) 0) < 0)) c_3
        refine lv_iconst (v := 1) hx hb dX1_stopsAt_39 (by decide) ?_
        refine lv_goto (tgt := 44) hx hb dX1_stopsAt_40 (by decide) ?_
        exact hJ_44 _ _ _ 1 (gi_1 (((gi_cb_t c_3).trans (gi_na_f c_2)).trans (gi_co_f c_1))) hR hS (lv_sub hl [] rfl)
set_option maxHeartbeats 2000000 in
set_option maxRecDepth 100000 in
theorem xt_placeScore (l : Launch) (E : en_T) (C : ex_C) (A : Nat → Prop) (sz : Nat) (g : kw_A) (h : xh_T) (S : gs_T) (p1 : Int32) (p2 : Int32) : Met l yX1_placeScore (ws_ yX1_placeScore cX1_placeScore 5 (some .int)) { frames := 6, cells := 0, slots := 0, locals := 130 } (cpc E C A sz [.ref (g 0 0), .int p1, .int p2] (xw E C g h S A) (xi_ok S ∧ xh C g h S ∧ vp_in p1 10 ∧ vp_in p2 10)) (cq_Q (some (.int (xf_placeScore S p1 p2))) (fun _ => True) (nw_A sz)) 0 0 (nw_A sz) := by
  refine cq_start (by decide) (Nat.le_of_ble_eq_true rfl) ?_
  intro p e s m below meth c ls hx hb hr hlocks hml hown hnm hts hsz hK hZ hA hR hP hl
  subst hsz
  have hAA : ∀ a, nw_A s.heap.size a → A a := hA
  have hl : lv_has ls 5 [(0, .ref (g 0 0)), (1, .int p1), (2, .int p2)] := hl
  have hS : va_S (nw_A s.heap.size) s.heap s.heap [] := va_S.rf
  have hZr := hZ.fresh
  obtain ⟨hI, hh, h_p1, h_p2⟩ := hP
  have hf : (xf_placeScore S p1 p2) = (xf_placeScore S p1 p2) := rfl
  refine lv_iload_n hx hb dX1_placeScore_0 rfl (lv_at hl 1 rfl) ?_
  refine lv_iload_n hx hb dX1_placeScore_1 rfl (lv_at hl 2 rfl) ?_
  refine lv_icmp_ne (tgt := 8) hx hb dX1_placeScore_2 (by decide) (fun c_1 => ?_) (fun c_1 => ?_)
  · skip
    have hf := (if_neg c_1).symm.trans hf
    refine lv_iconst (v := 0) hx hb dX1_placeScore_8 (by decide) ?_
    refine lv_istore_n (lv' := [(3, .int 0), (0, .ref (g 0 0)), (1, .int p1), (2, .int p2)]) hx hb dX1_placeScore_9 rfl hl (by decide) rfl (fun ls hl => ?_)
    refine lv_iconst (v := 0) hx hb dX1_placeScore_10 (by decide) ?_
    refine lv_istore (lv' := [(4, .int 0), (3, .int 0), (0, .ref (g 0 0)), (1, .int p1), (2, .int p2)]) hx hb dX1_placeScore_11 hl (by decide) rfl (fun ls hl => ?_)
    have hL_13 : ∀ (n_13 i_13 : Nat) (x3_13 : Bool) (H : Heap) (locs : List Loc) (ls : Array Slot), i_13 + n_13 = 6 → xf_placeScore_R13 S p1 p2 n_13 i_13 x3_13 = (xf_placeScore_R13 S p1 p2 6 0 false) → (xw E C g h S A) H → va_S (nw_A s.heap.size) s.heap H locs → lv_has ls 5 [(0, .ref (g 0 0)), (1, .int p1), (2, .int p2), (3, .int (if x3_13 = true then 1 else 0)), (4, .int (nI i_13))] → cq_G p l e { frames := 6, cells := 0, slots := 0, locals := 130 } s m [.ref (g 0 0), .int p1, .int p2] below meth c (nw_A s.heap.size) (cq_Q (some (.int (xf_placeScore S p1 p2))) (fun _ => True) (nw_A s.heap.size)) 0 0 H locs 0 0 (F0 m 13 ls []) := by
      intro n_13
      induction n_13 with
      | zero =>
        intro i_13 x3_13 H locs ls hi_13 hg_13 hR hS hl
        have hi_13 : i_13 = 6 := hi_13
        subst hi_13
        have e_x3_13 : x3_13 = (xf_placeScore_R13 S p1 p2 6 0 false) := congrArg (fun z => z) hg_13
        subst e_x3_13
        refine lv_iload hx hb dX1_placeScore_13 (lv_at hl 4 rfl) ?_
        refine lv_bipush (v := 6) hx hb dX1_placeScore_15 (by decide) ?_
        refine lv_icmp_ge (tgt := 56) hx hb dX1_placeScore_17 (by decide) (fun c_2 => ?_) (fun c_2 => absurd (lp_x0 (rfl : (6 : Int32) = nI 6)) c_2)
        refine lv_iload_n hx hb dX1_placeScore_56 rfl (lv_at hl 3 rfl) ?_
        have hJ_66 : ∀ (H : Heap) (locs : List Loc) (ls : Array Slot) (v_66 : Int32), v_66 = (if (xf_placeScore_R13 S p1 p2 6 0 false) = true then (10 : Int32) else 0) → (v_66 = 0 ↔ (¬ ((xf_placeScore_R13 S p1 p2 6 0 false) = true))) → (xw E C g h S A) H → va_S (nw_A s.heap.size) s.heap H locs → lv_has ls 5 [] → cq_G p l e { frames := 6, cells := 0, slots := 0, locals := 130 } s m [.ref (g 0 0), .int p1, .int p2] below meth c (nw_A s.heap.size) (cq_Q (some (.int (xf_placeScore S p1 p2))) (fun _ => True) (nw_A s.heap.size)) 0 0 H locs 0 0 (F0 m 66 ls [.int v_66]) := by
          intro H locs ls v_66 e_v_66 e0_v_66 hR hS hl
          subst e_v_66
          exact W.iret (v := (if (xf_placeScore_R13 S p1 p2 6 0 false) = true then (10 : Int32) else 0)) hx hb hr (fun t ht hW => ⟨⟨(congrArg (fun z => Outcome.returned (some (Value.int z))) hf), trivial⟩, hS.F ht⟩) hS.2.2 dX1_placeScore_66
        refine lv_if_eq (tgt := 65) hx hb dX1_placeScore_57 (by decide) (fun c_3 => ?_) (fun c_3 => ?_)
        · skip
          have c_3 : ¬ ((xf_placeScore_R13 S p1 p2 6 0 false) = true) := gs_zf (φ := (xf_placeScore_R13 S p1 p2 6 0 false) = true) c_3
          refine lv_iconst (v := 0) hx hb dX1_placeScore_65 (by decide) ?_
          exact hJ_66 _ _ _ 0 ((if_neg c_3).symm) (gi_z1 (gi_nb_f c_3)) hR hS (lv_sub hl [] rfl)
        · skip
          have c_3 : (xf_placeScore_R13 S p1 p2 6 0 false) = true := gs_zt (φ := (xf_placeScore_R13 S p1 p2 6 0 false) = true) c_3
          refine lv_bipush (v := 10) hx hb dX1_placeScore_60 (by decide) ?_
          refine lv_goto (tgt := 66) hx hb dX1_placeScore_62 (by decide) ?_
          exact hJ_66 _ _ _ 10 ((if_pos c_3).symm) (gi_z0 (by decide) (gi_nb_t c_3)) hR hS (lv_sub hl [] rfl)
      | succ n_13 ih_13 =>
        intro i_13 x3_13 H locs ls hi_13 hg_13 hR hS hl
        have hlt_13 : i_13 < 6 := by omega
        have hf_13 : xf_placeScore_L13 S p1 p2 i_13 x3_13 = xf_placeScore_L13 S p1 p2 i_13 x3_13 := rfl
        refine lv_iload hx hb dX1_placeScore_13 (lv_at hl 4 rfl) ?_
        refine lv_bipush (v := 6) hx hb dX1_placeScore_15 (by decide) ?_
        refine lv_icmp_ge (tgt := 56) hx hb dX1_placeScore_17 (by decide) (fun c_4 => absurd c_4 (lp_x1 (rfl : (6 : Int32) = nI 6) hlt_13 (by decide))) (fun c_4 => ?_)
        refine lv_iload_n hx hb dX1_placeScore_20 rfl (lv_at hl 3 rfl) ?_
        have hJ_49 : ∀ (H : Heap) (locs : List Loc) (ls : Array Slot) (v_49 : Int32), v_49 = (if (x3_13 = true) ∨ (((xf_stopsAt S p1 (nI i_13)) = true) ∧ ((xf_stopsAt S p2 (nI i_13)) = true)) then 1 else 0) → (xw E C g h S A) H → va_S (nw_A s.heap.size) s.heap H locs → lv_has ls 5 [(0, .ref (g 0 0)), (1, .int p1), (2, .int p2), (4, .int (nI i_13))] → cq_G p l e { frames := 6, cells := 0, slots := 0, locals := 130 } s m [.ref (g 0 0), .int p1, .int p2] below meth c (nw_A s.heap.size) (cq_Q (some (.int (xf_placeScore S p1 p2))) (fun _ => True) (nw_A s.heap.size)) 0 0 H locs 0 0 (F0 m 49 ls [.int v_49]) := by
          intro H locs ls v_49 e_v_49 hR hS hl
          subst e_v_49
          refine lv_istore_n (lv' := [(3, .int (if (x3_13 = true) ∨ (((xf_stopsAt S p1 (nI i_13)) = true) ∧ ((xf_stopsAt S p2 (nI i_13)) = true)) then 1 else 0)), (0, .ref (g 0 0)), (1, .int p1), (2, .int p2), (4, .int (nI i_13))]) hx hb dX1_placeScore_49 rfl hl (by decide) rfl (fun ls hl => ?_)
          refine lv_iinc (v := (nI (i_13 + 1))) (lv' := [(4, .int (nI (i_13 + 1))), (3, .int (if (x3_13 = true) ∨ (((xf_stopsAt S p1 (nI i_13)) = true) ∧ ((xf_stopsAt S p2 (nI i_13)) = true)) then 1 else 0)), (0, .ref (g 0 0)), (1, .int p1), (2, .int p2)]) hx hb dX1_placeScore_50 hl (k := 4) rfl (nI_1 i_13) (by decide) rfl (fun ls hl => ?_)
          refine lv_goto (tgt := 13) hx hb dX1_placeScore_53 (by decide) ?_
          exact ih_13 (i_13 + 1) (decide ((x3_13 = true) ∨ (((xf_stopsAt S p1 (nI i_13)) = true) ∧ ((xf_stopsAt S p2 (nI i_13)) = true)))) _ _ _ (by omega) ((congrArg (fun z => xf_placeScore_R13 S p1 p2 n_13 (i_13 + 1) z) hf_13).trans hg_13) hR hS (by rw [gs_dd (φ := (x3_13 = true) ∨ (((xf_stopsAt S p1 (nI i_13)) = true) ∧ ((xf_stopsAt S p2 (nI i_13)) = true)))]; exact lv_sub hl [2, 3, 4, 1, 0] rfl)
        refine lv_if_ne (tgt := 44) hx hb dX1_placeScore_21 (by decide) (fun c_5 => ?_) (fun c_5 => ?_)
        · skip
          have c_5 : x3_13 = true := gs_zt (φ := x3_13 = true) c_5
          refine lv_iconst (v := 1) hx hb dX1_placeScore_44 (by decide) ?_
          refine lv_goto (tgt := 49) hx hb dX1_placeScore_45 (by decide) ?_
          exact hJ_49 _ _ _ 1 (gi_1 (gi_co_t c_5)) hR hS (lv_sub hl [0, 1, 2, 4] rfl)
        · skip
          have c_5 : ¬ (x3_13 = true) := gs_zf (φ := x3_13 = true) c_5
          refine lv_aload_n hx hb dX1_placeScore_24 rfl (lv_at hl 0 rfl) ?_
          refine lv_iload_n hx hb dX1_placeScore_25 rfl (lv_at hl 1 rfl) ?_
          refine lv_iload hx hb dX1_placeScore_26 (lv_at hl 4 rfl) ?_
          refine cq_V (v := (some (.int (gs_bz (xf_stopsAt S p1 (nI i_13)))))) (As := [.int p1, .int (nI i_13)]) (rest := []) hK hZ hA hAA hS hR ⟨hI, hh, (by first | assumption | exact (hI.2.2.2.2.2.1 _ (by assumption)).2.1 | exact (hI.2.2.2.2.2.2.1 _ (by assumption)).2), (by first | assumption | exact vp_in_nI (show i_13 < 6 by omega) (by decide))⟩ (xt_stopsAt l E C A H.size g h S p1 (nI i_13)) (fun _ h => Nat.le_trans hS.1 h) ⟨hx, hb, hml, hown, hts⟩ (cwV 2 hts (lw_V q801 q803 qs10 q33 q804) rfl rfl rfl (by decide +kernel) ⟨Nat.le_of_ble_eq_true rfl, Nat.le_of_ble_eq_true rfl⟩) (kw_recv (t := 0) (i := 0) hK.1 hR rfl rfl rfl) rfl hl.1 rfl (Nat.le_of_ble_eq_true rfl) dX1_placeScore_28 ⟨Nat.le_of_ble_eq_true rfl, Nat.le_of_ble_eq_true rfl⟩ (fun H locs hB hz hk hS => ?_)
          have hR := hR.kept (fun a _ h => hk a h (Nat.not_le.mpr h))
          refine W.eq (g2 := F0 m 31 ls [.int (if (xf_stopsAt S p1 (nI i_13)) = true then 1 else 0)]) rfl ?_
          refine lv_if_eq (tgt := 48) hx hb dX1_placeScore_31 (by decide) (fun c_6 => ?_) (fun c_6 => ?_)
          · skip
            have c_6 : ¬ ((xf_stopsAt S p1 (nI i_13)) = true) := gs_zf (φ := (xf_stopsAt S p1 (nI i_13)) = true) c_6
            refine lv_iconst (v := 0) hx hb dX1_placeScore_48 (by decide) ?_
            exact hJ_49 _ _ _ 0 (gi_0 ((gi_ca_f c_6).trans (gi_co_f c_5))) hR hS (lv_sub hl [0, 1, 2, 4] rfl)
          · skip
            have c_6 : (xf_stopsAt S p1 (nI i_13)) = true := gs_zt (φ := (xf_stopsAt S p1 (nI i_13)) = true) c_6
            refine lv_aload_n hx hb dX1_placeScore_34 rfl (lv_at hl 0 rfl) ?_
            refine lv_iload_n hx hb dX1_placeScore_35 rfl (lv_at hl 2 rfl) ?_
            refine lv_iload hx hb dX1_placeScore_36 (lv_at hl 4 rfl) ?_
            refine cq_V (v := (some (.int (gs_bz (xf_stopsAt S p2 (nI i_13)))))) (As := [.int p2, .int (nI i_13)]) (rest := []) hK hZ hA hAA hS hR ⟨hI, hh, (by first | assumption | exact (hI.2.2.2.2.2.1 _ (by assumption)).2.1 | exact (hI.2.2.2.2.2.2.1 _ (by assumption)).2), (by first | assumption | exact vp_in_nI (show i_13 < 6 by omega) (by decide))⟩ (xt_stopsAt l E C A H.size g h S p2 (nI i_13)) (fun _ h => Nat.le_trans hS.1 h) ⟨hx, hb, hml, hown, hts⟩ (cwV 2 hts (lw_V q801 q803 qs10 q33 q804) rfl rfl rfl (by decide +kernel) ⟨Nat.le_of_ble_eq_true rfl, Nat.le_of_ble_eq_true rfl⟩) (kw_recv (t := 0) (i := 0) hK.1 hR rfl rfl rfl) rfl hl.1 rfl (Nat.le_of_ble_eq_true rfl) dX1_placeScore_38 ⟨Nat.le_of_ble_eq_true rfl, Nat.le_of_ble_eq_true rfl⟩ (fun H locs hB hz hk hS => ?_)
            have hR := hR.kept (fun a _ h => hk a h (Nat.not_le.mpr h))
            refine W.eq (g2 := F0 m 41 ls [.int (if (xf_stopsAt S p2 (nI i_13)) = true then 1 else 0)]) rfl ?_
            refine lv_if_eq (tgt := 48) hx hb dX1_placeScore_41 (by decide) (fun c_7 => ?_) (fun c_7 => ?_)
            · skip
              have c_7 : ¬ ((xf_stopsAt S p2 (nI i_13)) = true) := gs_zf (φ := (xf_stopsAt S p2 (nI i_13)) = true) c_7
              refine lv_iconst (v := 0) hx hb dX1_placeScore_48 (by decide) ?_
              exact hJ_49 _ _ _ 0 (gi_0 (((gi_cb_f c_7).trans (gi_ca_t c_6)).trans (gi_co_f c_5))) hR hS (lv_sub hl [0, 1, 2, 4] rfl)
            · skip
              have c_7 : (xf_stopsAt S p2 (nI i_13)) = true := gs_zt (φ := (xf_stopsAt S p2 (nI i_13)) = true) c_7
              refine lv_iconst (v := 1) hx hb dX1_placeScore_44 (by decide) ?_
              refine lv_goto (tgt := 49) hx hb dX1_placeScore_45 (by decide) ?_
              exact hJ_49 _ _ _ 1 (gi_1 (((gi_cb_t c_7).trans (gi_ca_t c_6)).trans (gi_co_f c_5))) hR hS (lv_sub hl [0, 1, 2, 4] rfl)
    exact hL_13 6 0 false _ _ _ (by omega) rfl hR hS (lv_sub hl [2, 3, 4, 1, 0] rfl)
  · skip
    have hf := (if_pos c_1).symm.trans hf
    refine lv_bipush (v := 20) hx hb dX1_placeScore_5 (by decide) ?_
    exact W.iret (v := 20) hx hb hr (fun t ht hW => ⟨⟨(congrArg (fun z => Outcome.returned (some (Value.int z))) hf), trivial⟩, hS.F ht⟩) hS.2.2 dX1_placeScore_7
set_option maxHeartbeats 2000000 in
set_option maxRecDepth 100000 in
theorem xt_wordScore (l : Launch) (E : en_T) (C : ex_C) (A : Nat → Prop) (sz : Nat) (g : kw_A) (h : xh_T) (S : gs_T) (p1 : Int32) (p2 : Int32) : Met l yX1_wordScore (ws_ yX1_wordScore cX1_wordScore 5 (some .int)) { frames := 1, cells := 0, slots := 0, locals := 21 } (cpc E C A sz [.ref (g 0 0), .int p1, .int p2] (xw E C g h S A) (xi_ok S ∧ xh C g h S)) (cq_Q (some (.int (xf_wordScore S p1 p2))) (fun _ => True) (nw_A sz)) 0 0 (nw_A sz) := by
  refine cq_start (by decide) (Nat.le_of_ble_eq_true rfl) ?_
  intro p e s m below meth c ls hx hb hr hlocks hml hown hnm hts hsz hK hZ hA hR hP hl
  subst hsz
  have hAA : ∀ a, nw_A s.heap.size a → A a := hA
  have hl : lv_has ls 5 [(0, .ref (g 0 0)), (1, .int p1), (2, .int p2)] := hl
  have hS : va_S (nw_A s.heap.size) s.heap s.heap [] := va_S.rf
  have hZr := hZ.fresh
  obtain ⟨hI, hh⟩ := hP
  have hf : (xf_wordScore S p1 p2) = (xf_wordScore S p1 p2) := rfl
  refine lv_iconst (v := 0) hx hb dX1_wordScore_0 (by decide) ?_
  refine lv_istore_n (lv' := [(3, .int 0), (0, .ref (g 0 0)), (1, .int p1), (2, .int p2)]) hx hb dX1_wordScore_1 rfl hl (by decide) rfl (fun ls hl => ?_)
  refine lv_iconst (v := 0) hx hb dX1_wordScore_2 (by decide) ?_
  refine lv_istore (lv' := [(4, .int 0), (3, .int 0), (0, .ref (g 0 0)), (1, .int p1), (2, .int p2)]) hx hb dX1_wordScore_3 hl (by decide) rfl (fun ls hl => ?_)
  have hL_5 : ∀ (n_5 i_5 : Nat) (x3_5 : Int32) (H : Heap) (locs : List Loc) (ls : Array Slot), i_5 + n_5 = 24 → xf_wordScore_R5 S p1 p2 n_5 i_5 x3_5 = (xf_wordScore_R5 S p1 p2 24 0 0) → (xw E C g h S A) H → va_S (nw_A s.heap.size) s.heap H locs → lv_has ls 5 [(0, .ref (g 0 0)), (1, .int p1), (2, .int p2), (3, .int x3_5), (4, .int (nI i_5))] → cq_G p l e { frames := 1, cells := 0, slots := 0, locals := 21 } s m [.ref (g 0 0), .int p1, .int p2] below meth c (nw_A s.heap.size) (cq_Q (some (.int (xf_wordScore S p1 p2))) (fun _ => True) (nw_A s.heap.size)) 0 0 H locs 0 0 (F0 m 5 ls []) := by
    intro n_5
    induction n_5 with
    | zero =>
      intro i_5 x3_5 H locs ls hi_5 hg_5 hR hS hl
      have hi_5 : i_5 = 24 := hi_5
      subst hi_5
      have e_x3_5 : x3_5 = (xf_wordScore_R5 S p1 p2 24 0 0) := congrArg (fun z => z) hg_5
      subst e_x3_5
      refine lv_iload hx hb dX1_wordScore_5 (lv_at hl 4 rfl) ?_
      refine lv_bipush (v := 24) hx hb dX1_wordScore_7 (by decide) ?_
      refine lv_icmp_ge (tgt := 65) hx hb dX1_wordScore_9 (by decide) (fun c_1 => ?_) (fun c_1 => absurd (lp_x0 (rfl : (24 : Int32) = nI 24)) c_1)
      refine lv_iload_n hx hb dX1_wordScore_65 rfl (lv_at hl 3 rfl) ?_
      exact W.iret (v := (xf_wordScore_R5 S p1 p2 24 0 0)) hx hb hr (fun t ht hW => ⟨⟨(congrArg (fun z => Outcome.returned (some (Value.int z))) hf), trivial⟩, hS.F ht⟩) hS.2.2 dX1_wordScore_66
    | succ n_5 ih_5 =>
      intro i_5 x3_5 H locs ls hi_5 hg_5 hR hS hl
      have hlt_5 : i_5 < 24 := by omega
      have hf_5 : xf_wordScore_L5 S p1 p2 i_5 x3_5 = xf_wordScore_L5 S p1 p2 i_5 x3_5 := rfl
      refine lv_iload hx hb dX1_wordScore_5 (lv_at hl 4 rfl) ?_
      refine lv_bipush (v := 24) hx hb dX1_wordScore_7 (by decide) ?_
      refine lv_icmp_ge (tgt := 65) hx hb dX1_wordScore_9 (by decide) (fun c_2 => absurd c_2 (lp_x1 (rfl : (24 : Int32) = nI 24) hlt_5 (by decide))) (fun c_2 => ?_)
      refine lv_iload_n hx hb dX1_wordScore_12 rfl (lv_at hl 3 rfl) ?_
      refine lv_iload_n hx hb dX1_wordScore_13 rfl (lv_at hl 1 rfl) ?_
      refine lv_iload hx hb dX1_wordScore_14 (lv_at hl 4 rfl) ?_
      refine ps_calli (As := [.int p1, .int (nI i_5)]) (rest := [.int x3_5]) ⟨hx, hb, hml, hown, hts⟩ (xt_has l p1 (nI i_5)) (va_cwS 2 hts (lw_S q340 q341 q33 q342) rfl rfl rfl (by decide +kernel) ⟨Nat.le_of_ble_eq_true rfl, Nat.le_of_ble_eq_true rfl⟩) trivial hS rfl hl.1 rfl (Nat.le_of_ble_eq_true rfl) dX1_wordScore_16 ⟨Nat.zero_le _, Nat.zero_le _⟩ (fun H locs hz hk hS => ?_)
      have hR := hR.kept (fun a _ h => hk a h)
      have hJ_57 : ∀ (H : Heap) (locs : List Loc) (ls : Array Slot) (v_57 : Int32), v_57 = (if (xf_has p1 (nI i_5)) = true then (if (xf_has p2 (nI i_5)) = true then (6 : Int32) else (if ((S 1 i_5) &&& p2) = 0 then (-1 : Int32) else 3)) else 0) → (v_57 = 0 ↔ (¬ ((xf_has p1 (nI i_5)) = true))) → (xw E C g h S A) H → va_S (nw_A s.heap.size) s.heap H locs → lv_has ls 5 [(0, .ref (g 0 0)), (1, .int p1), (2, .int p2), (4, .int (nI i_5))] → cq_G p l e { frames := 1, cells := 0, slots := 0, locals := 21 } s m [.ref (g 0 0), .int p1, .int p2] below meth c (nw_A s.heap.size) (cq_Q (some (.int (xf_wordScore S p1 p2))) (fun _ => True) (nw_A s.heap.size)) 0 0 H locs 0 0 (F0 m 57 ls [.int v_57, .int x3_5]) := by
        intro H locs ls v_57 e_v_57 e0_v_57 hR hS hl
        subst e_v_57
        refine lv_iadd hx hb dX1_wordScore_57 ?_
        refine lv_istore_n (lv' := [(3, .int (x3_5 + (if (xf_has p1 (nI i_5)) = true then (if (xf_has p2 (nI i_5)) = true then (6 : Int32) else (if ((S 1 i_5) &&& p2) = 0 then (-1 : Int32) else 3)) else 0))), (0, .ref (g 0 0)), (1, .int p1), (2, .int p2), (4, .int (nI i_5))]) hx hb dX1_wordScore_58 rfl hl (by decide) rfl (fun ls hl => ?_)
        refine lv_iinc (v := (nI (i_5 + 1))) (lv' := [(4, .int (nI (i_5 + 1))), (3, .int (x3_5 + (if (xf_has p1 (nI i_5)) = true then (if (xf_has p2 (nI i_5)) = true then (6 : Int32) else (if ((S 1 i_5) &&& p2) = 0 then (-1 : Int32) else 3)) else 0))), (0, .ref (g 0 0)), (1, .int p1), (2, .int p2)]) hx hb dX1_wordScore_59 hl (k := 4) rfl (nI_1 i_5) (by decide) rfl (fun ls hl => ?_)
        refine lv_goto (tgt := 5) hx hb dX1_wordScore_62 (by decide) ?_
        exact ih_5 (i_5 + 1) (x3_5 + (if (xf_has p1 (nI i_5)) = true then (if (xf_has p2 (nI i_5)) = true then (6 : Int32) else (if ((S 1 i_5) &&& p2) = 0 then (-1 : Int32) else 3)) else 0)) _ _ _ (by omega) ((congrArg (fun z => xf_wordScore_R5 S p1 p2 n_5 (i_5 + 1) z) hf_5).trans hg_5) hR hS (lv_sub hl [2, 3, 4, 1, 0] rfl)
      refine lv_if_ne (tgt := 26) hx hb dX1_wordScore_19 (by decide) (fun c_3 => ?_) (fun c_3 => ?_)
      · skip
        have c_3 : (xf_has p1 (nI i_5)) = true := gs_zt (φ := (xf_has p1 (nI i_5)) = true) c_3
        refine lv_iload_n hx hb dX1_wordScore_26 rfl (lv_at hl 2 rfl) ?_
        refine lv_iload hx hb dX1_wordScore_27 (lv_at hl 4 rfl) ?_
        refine ps_calli (As := [.int p2, .int (nI i_5)]) (rest := [.int x3_5]) ⟨hx, hb, hml, hown, hts⟩ (xt_has l p2 (nI i_5)) (va_cwS 2 hts (lw_S q340 q341 q33 q342) rfl rfl rfl (by decide +kernel) ⟨Nat.le_of_ble_eq_true rfl, Nat.le_of_ble_eq_true rfl⟩) trivial hS rfl hl.1 rfl (Nat.le_of_ble_eq_true rfl) dX1_wordScore_29 ⟨Nat.zero_le _, Nat.zero_le _⟩ (fun H locs hz hk hS => ?_)
        have hR := hR.kept (fun a _ h => hk a h)
        refine lv_if_eq (tgt := 40) hx hb dX1_wordScore_32 (by decide) (fun c_4 => ?_) (fun c_4 => ?_)
        · skip
          have c_4 : ¬ ((xf_has p2 (nI i_5)) = true) := gs_zf (φ := (xf_has p2 (nI i_5)) = true) c_4
          refine lv_aload_n hx hb dX1_wordScore_40 rfl (lv_at hl 0 rfl) ?_
          refine kw_get (C := RX1) (T := TX1) (N := 12) (v := .ref (g 6 1)) hx hb hts in_X1 hown hK.1 hR 0 0 rfl rfl rfl 1 (by decide) (hts _ q169) (fun _ h9 => h9) rfl dX1_wordScore_41 ?_
          refine lv_iload hx hb dX1_wordScore_44 (lv_at hl 4 rfl) ?_
          refine kw_iald (n := 24) (v := (S 1 i_5)) hx hb hK.1 hR 6 1 ⟨by decide, by decide⟩ rfl (vp_in_nI (show i_5 < 24 by omega) (by decide)) ((congrArg (fun z => S 1 z) (nI_clamp (show i_5 < 2 ^ 31 by omega))).trans rfl) dX1_wordScore_46 ?_
          refine lv_iload_n hx hb dX1_wordScore_47 rfl (lv_at hl 2 rfl) ?_
          refine lv_iand hx hb dX1_wordScore_48 ?_
          refine lv_if_eq (tgt := 56) hx hb dX1_wordScore_49 (by decide) (fun c_5 => ?_) (fun c_5 => ?_)
          · skip
            refine lv_iconst (v := (-1)) hx hb dX1_wordScore_56 (by decide) ?_
            exact hJ_57 _ _ _ (-1) ((((if_pos c_5).symm).trans (if_neg c_4).symm).trans (if_pos c_3).symm) (gi_z0 (by decide) (gi_nb_t c_3)) hR hS (lv_sub hl [0, 1, 2, 4] rfl)
          · skip
            refine lv_iconst (v := 3) hx hb dX1_wordScore_52 (by decide) ?_
            refine lv_goto (tgt := 57) hx hb dX1_wordScore_53 (by decide) ?_
            exact hJ_57 _ _ _ 3 ((((if_neg c_5).symm).trans (if_neg c_4).symm).trans (if_pos c_3).symm) (gi_z0 (by decide) (gi_nb_t c_3)) hR hS (lv_sub hl [0, 1, 2, 4] rfl)
        · skip
          have c_4 : (xf_has p2 (nI i_5)) = true := gs_zt (φ := (xf_has p2 (nI i_5)) = true) c_4
          refine lv_bipush (v := 6) hx hb dX1_wordScore_35 (by decide) ?_
          refine lv_goto (tgt := 57) hx hb dX1_wordScore_37 (by decide) ?_
          exact hJ_57 _ _ _ 6 (((if_pos c_4).symm).trans (if_pos c_3).symm) (gi_z0 (by decide) (gi_nb_t c_3)) hR hS (lv_sub hl [0, 1, 2, 4] rfl)
      · skip
        have c_3 : ¬ ((xf_has p1 (nI i_5)) = true) := gs_zf (φ := (xf_has p1 (nI i_5)) = true) c_3
        refine lv_iconst (v := 0) hx hb dX1_wordScore_22 (by decide) ?_
        refine lv_goto (tgt := 57) hx hb dX1_wordScore_23 (by decide) ?_
        exact hJ_57 _ _ _ 0 ((if_neg c_3).symm) (gi_z1 (gi_nb_f c_3)) hR hS (lv_sub hl [0, 1, 2, 4] rfl)
  exact hL_5 24 0 0 _ _ _ (by omega) rfl hR hS (lv_sub hl [2, 3, 4, 1, 0] rfl)
set_option maxHeartbeats 2000000 in
set_option maxRecDepth 100000 in
theorem xt_score (l : Launch) (E : en_T) (C : ex_C) (A : Nat → Prop) (sz : Nat) (g : kw_A) (h : xh_T) (S : gs_T) (i : Nat) (j : Nat) : Met l yX1_score (ws_ yX1_score cX1_score 5 (some .int)) { frames := 7, cells := 0, slots := 0, locals := 154 } (cpc E C A sz [.ref (g 0 0), .ref (g 3 i), .ref (g 4 j)] (xw E C g h S A) (xi_ok S ∧ xh C g h S ∧ i < nz S 1 ∧ j < nz S 2)) (cq_Q (some (.int (xf_score S i j))) (fun _ => True) (nw_A sz)) 0 0 (nw_A sz) := by
  refine cq_start (by decide) (Nat.le_of_ble_eq_true rfl) ?_
  intro p e s m below meth c ls hx hb hr hlocks hml hown hnm hts hsz hK hZ hA hR hP hl
  subst hsz
  have hAA : ∀ a, nw_A s.heap.size a → A a := hA
  have hl : lv_has ls 5 [(0, .ref (g 0 0)), (1, .ref (g 3 i)), (2, .ref (g 4 j))] := hl
  have hS : va_S (nw_A s.heap.size) s.heap s.heap [] := va_S.rf
  have hZr := hZ.fresh
  obtain ⟨hI, hh, h_i, h_j⟩ := hP
  have hf : (xf_score S i j) = (xf_score S i j) := rfl
  refine lv_aload_n hx hb dX1_score_0 rfl (lv_at hl 1 rfl) ?_
  refine kw_getN (C := RX3) (T := TX3) (N := 15) (v := .int (S 30 i)) hx hb hts in_X3 hown hK.1 hR 3 i h_i rfl rfl 0 (by decide) (va_Nw.use rfl (hK.2.1 _ q523 rfl)) (fun _ h9 => h9) rfl dX1_score_1 ?_
  refine lv_aload_n hx hb dX1_score_4 rfl (lv_at hl 2 rfl) ?_
  refine kw_getN (C := RX5) (T := TX5) (N := 10) (v := .int (S 50 j)) hx hb hts in_X5 hown hK.1 hR 4 j h_j rfl rfl 0 (by decide) (va_Nw.use rfl (hK.2.1 _ q713 rfl)) (fun _ h9 => h9) rfl dX1_score_5 ?_
  have hJ_41 : ∀ (H : Heap) (locs : List Loc) (ls : Array Slot) (v_41 : Int32), v_41 = (if (S 30 i) = (S 50 j) then (40 : Int32) else (if (xf_has (S 2 ((S 30 i).toNatClampNeg)) (S 50 j)) = true then (15 : Int32) else (-1))) → (xw E C g h S A) H → va_S (nw_A s.heap.size) s.heap H locs → lv_has ls 5 [(0, .ref (g 0 0)), (1, .ref (g 3 i)), (2, .ref (g 4 j))] → cq_G p l e { frames := 7, cells := 0, slots := 0, locals := 154 } s m [.ref (g 0 0), .ref (g 3 i), .ref (g 4 j)] below meth c (nw_A s.heap.size) (cq_Q (some (.int (xf_score S i j))) (fun _ => True) (nw_A s.heap.size)) 0 0 H locs 0 0 (F0 m 41 ls [.int v_41]) := by
    intro H locs ls v_41 e_v_41 hR hS hl
    subst e_v_41
    refine lv_istore_n (lv' := [(3, .int (if (S 30 i) = (S 50 j) then (40 : Int32) else (if (xf_has (S 2 ((S 30 i).toNatClampNeg)) (S 50 j)) = true then (15 : Int32) else (-1)))), (0, .ref (g 0 0)), (1, .ref (g 3 i)), (2, .ref (g 4 j))]) hx hb dX1_score_41 rfl hl (by decide) rfl (fun ls hl => ?_)
    refine lv_iload_n hx hb dX1_score_42 rfl (lv_at hl 0 rfl) ?_
    refine lv_iconst (v := (-1)) hx hb dX1_score_43 (by decide) ?_
    refine lv_icmp_ne (tgt := 49) hx hb dX1_score_44 (by decide) (fun c_1 => ?_) (fun c_1 => ?_)
    · skip
      have hf := (if_neg c_1).symm.trans hf
      refine lv_aload_n hx hb dX1_score_49 rfl (lv_at hl 2 rfl) ?_
      refine kw_getN (C := RX3) (T := TX3) (N := 15) (v := .int (S 32 i)) hx hb hts in_X3 hown hK.1 hR 3 i h_i rfl rfl 2 (by decide) (va_Nw.use rfl (hK.2.1 _ q527 rfl)) (fun _ h9 => h9) rfl dX1_score_50 ?_
      refine lv_aload_n hx hb dX1_score_53 rfl (lv_at hl 3 rfl) ?_
      refine kw_getN (C := RX5) (T := TX5) (N := 10) (v := .int (S 52 j)) hx hb hts in_X5 hown hK.1 hR 4 j h_j rfl rfl 2 (by decide) (va_Nw.use rfl (hK.2.1 _ q717 rfl)) (fun _ h9 => h9) rfl dX1_score_54 ?_
      have hJ_86 : ∀ (H : Heap) (locs : List Loc) (ls : Array Slot) (v_86 : Int32), v_86 = (if (S 52 j) ≤ (S 32 i) then (if 0 < (20 - (2 * (if 0 < ((S 32 i) - (S 53 j)) then ((S 32 i) - (S 53 j)) else 0))) then (20 - (2 * (if 0 < ((S 32 i) - (S 53 j)) then ((S 32 i) - (S 53 j)) else 0))) else 0) else 0) → (xw E C g h S A) H → va_S (nw_A s.heap.size) s.heap H locs → lv_has ls 5 [(0, .ref (g 0 0)), (1, .ref (g 3 i)), (2, .ref (g 4 j)), (3, .int (if (S 30 i) = (S 50 j) then (40 : Int32) else (if (xf_has (S 2 ((S 30 i).toNatClampNeg)) (S 50 j)) = true then (15 : Int32) else (-1))))] → cq_G p l e { frames := 7, cells := 0, slots := 0, locals := 154 } s m [.ref (g 0 0), .ref (g 3 i), .ref (g 4 j)] below meth c (nw_A s.heap.size) (cq_Q (some (.int (xf_score S i j))) (fun _ => True) (nw_A s.heap.size)) 0 0 H locs 0 0 (F0 m 86 ls [.int v_86]) := by
        intro H locs ls v_86 e_v_86 hR hS hl
        subst e_v_86
        refine lv_istore (lv' := [(4, .int (if (S 52 j) ≤ (S 32 i) then (if 0 < (20 - (2 * (if 0 < ((S 32 i) - (S 53 j)) then ((S 32 i) - (S 53 j)) else 0))) then (20 - (2 * (if 0 < ((S 32 i) - (S 53 j)) then ((S 32 i) - (S 53 j)) else 0))) else 0) else 0)), (0, .ref (g 0 0)), (1, .ref (g 3 i)), (2, .ref (g 4 j)), (3, .int (if (S 30 i) = (S 50 j) then (40 : Int32) else (if (xf_has (S 2 ((S 30 i).toNatClampNeg)) (S 50 j)) = true then (15 : Int32) else (-1))))]) hx hb dX1_score_86 hl (by decide) rfl (fun ls hl => ?_)
        refine lv_iconst (v := 0) hx hb dX1_score_88 (by decide) ?_
        refine lv_iload_n hx hb dX1_score_89 rfl (lv_at hl 4 rfl) ?_
        refine lv_aload_n hx hb dX1_score_90 rfl (lv_at hl 1 rfl) ?_
        refine lv_aload_n hx hb dX1_score_91 rfl (lv_at hl 2 rfl) ?_
        refine kw_getN (C := RX3) (T := TX3) (N := 15) (v := .int (S 31 i)) hx hb hts in_X3 hown hK.1 hR 3 i h_i rfl rfl 1 (by decide) (va_Nw.use rfl (hK.2.1 _ q525 rfl)) (fun _ h9 => h9) rfl dX1_score_92 ?_
        refine lv_aload_n hx hb dX1_score_95 rfl (lv_at hl 3 rfl) ?_
        refine kw_getN (C := RX5) (T := TX5) (N := 10) (v := .int (S 51 j)) hx hb hts in_X5 hown hK.1 hR 4 j h_j rfl rfl 1 (by decide) (va_Nw.use rfl (hK.2.1 _ q715 rfl)) (fun _ h9 => h9) rfl dX1_score_96 ?_
        refine cq_V (v := (some (.int (xf_placeScore S (S 31 i) (S 51 j))))) (As := [.int (S 31 i), .int (S 51 j)]) (rest := [.int (if (S 30 i) = (S 50 j) then (40 : Int32) else (if (xf_has (S 2 ((S 30 i).toNatClampNeg)) (S 50 j)) = true then (15 : Int32) else (-1))), .int 0]) hK hZ hA hAA hS hR ⟨hI, hh, (by first | assumption | exact (hI.2.2.2.2.2.1 _ (by assumption)).2.1 | exact (hI.2.2.2.2.2.2.1 _ (by assumption)).2), (by first | assumption | exact (hI.2.2.2.2.2.1 _ (by assumption)).2.1 | exact (hI.2.2.2.2.2.2.1 _ (by assumption)).2)⟩ (xt_placeScore l E C A H.size g h S (S 31 i) (S 51 j)) (fun _ h => Nat.le_trans hS.1 h) ⟨hx, hb, hml, hown, hts⟩ (cwV 2 hts (lw_V q797 q799 qs9 q33 q800) rfl rfl rfl (by decide +kernel) ⟨Nat.le_of_ble_eq_true rfl, Nat.le_of_ble_eq_true rfl⟩) (kw_recv (t := 0) (i := 0) hK.1 hR rfl rfl rfl) rfl hl.1 rfl (Nat.le_of_ble_eq_true rfl) dX1_score_99 ⟨Nat.le_of_ble_eq_true rfl, Nat.le_of_ble_eq_true rfl⟩ (fun H locs hB hz hk hS => ?_)
        have hR := hR.kept (fun a _ h => hk a h (Nat.not_le.mpr h))
        refine W.eq (g2 := F0 m 102 ls [.int (xf_placeScore S (S 31 i) (S 51 j)), .int (if (S 30 i) = (S 50 j) then (40 : Int32) else (if (xf_has (S 2 ((S 30 i).toNatClampNeg)) (S 50 j)) = true then (15 : Int32) else (-1))), .int 0]) rfl ?_
        refine lv_iadd hx hb dX1_score_102 ?_
        refine lv_iload hx hb dX1_score_103 (lv_at hl 0 rfl) ?_
        refine lv_iadd hx hb dX1_score_105 ?_
        refine lv_aload_n hx hb dX1_score_106 rfl (lv_at hl 1 rfl) ?_
        refine lv_aload_n hx hb dX1_score_107 rfl (lv_at hl 3 rfl) ?_
        refine kw_getN (C := RX5) (T := TX5) (N := 10) (v := .int (S 54 j)) hx hb hts in_X5 hown hK.1 hR 4 j h_j rfl rfl 4 (by decide) (va_Nw.use rfl (hK.2.1 _ q721 rfl)) (fun _ h9 => h9) rfl dX1_score_108 ?_
        refine lv_aload_n hx hb dX1_score_111 rfl (lv_at hl 2 rfl) ?_
        refine kw_getN (C := RX3) (T := TX3) (N := 15) (v := .int (S 33 i)) hx hb hts in_X3 hown hK.1 hR 3 i h_i rfl rfl 3 (by decide) (va_Nw.use rfl (hK.2.1 _ q529 rfl)) (fun _ h9 => h9) rfl dX1_score_112 ?_
        refine lv_aload_n hx hb dX1_score_115 rfl (lv_at hl 2 rfl) ?_
        refine kw_getN (C := RX3) (T := TX3) (N := 15) (v := .int (S 34 i)) hx hb hts in_X3 hown hK.1 hR 3 i h_i rfl rfl 4 (by decide) (va_Nw.use rfl (hK.2.1 _ q532 rfl)) (fun _ h9 => h9) rfl dX1_score_116 ?_
        refine lv_aload_n hx hb dX1_score_119 rfl (lv_at hl 3 rfl) ?_
        refine kw_getN (C := RX5) (T := TX5) (N := 10) (v := .int (S 55 j)) hx hb hts in_X5 hown hK.1 hR 4 j h_j rfl rfl 5 (by decide) (va_Nw.use rfl (hK.2.1 _ q723 rfl)) (fun _ h9 => h9) rfl dX1_score_120 ?_
        refine lv_iand hx hb dX1_score_123 ?_
        refine lv_ior hx hb dX1_score_124 ?_
        refine cq_V (v := (some (.int (xf_wordScore S (S 54 j) ((S 33 i) ||| ((S 34 i) &&& (S 55 j))))))) (As := [.int (S 54 j), .int ((S 33 i) ||| ((S 34 i) &&& (S 55 j)))]) (rest := [.int (((if (S 30 i) = (S 50 j) then (40 : Int32) else (if (xf_has (S 2 ((S 30 i).toNatClampNeg)) (S 50 j)) = true then (15 : Int32) else (-1))) + (xf_placeScore S (S 31 i) (S 51 j))) + (if (S 52 j) ≤ (S 32 i) then (if 0 < (20 - (2 * (if 0 < ((S 32 i) - (S 53 j)) then ((S 32 i) - (S 53 j)) else 0))) then (20 - (2 * (if 0 < ((S 32 i) - (S 53 j)) then ((S 32 i) - (S 53 j)) else 0))) else 0) else 0)), .int 0]) hK hZ hA hAA hS hR ⟨hI, hh⟩ (xt_wordScore l E C A H.size g h S (S 54 j) ((S 33 i) ||| ((S 34 i) &&& (S 55 j)))) (fun _ h => Nat.le_trans hS.1 h) ⟨hx, hb, hml, hown, hts⟩ (cwV 2 hts (lw_V q805 q807 qs11 q33 q808) rfl rfl rfl (by decide +kernel) ⟨Nat.le_of_ble_eq_true rfl, Nat.le_of_ble_eq_true rfl⟩) (kw_recv (t := 0) (i := 0) hK.1 hR rfl rfl rfl) rfl hl.1 rfl (Nat.le_of_ble_eq_true rfl) dX1_score_125 ⟨Nat.le_of_ble_eq_true rfl, Nat.le_of_ble_eq_true rfl⟩ (fun H locs hB hz hk hS => ?_)
        have hR := hR.kept (fun a _ h => hk a h (Nat.not_le.mpr h))
        refine W.eq (g2 := F0 m 128 ls [.int (xf_wordScore S (S 54 j) ((S 33 i) ||| ((S 34 i) &&& (S 55 j)))), .int (((if (S 30 i) = (S 50 j) then (40 : Int32) else (if (xf_has (S 2 ((S 30 i).toNatClampNeg)) (S 50 j)) = true then (15 : Int32) else (-1))) + (xf_placeScore S (S 31 i) (S 51 j))) + (if (S 52 j) ≤ (S 32 i) then (if 0 < (20 - (2 * (if 0 < ((S 32 i) - (S 53 j)) then ((S 32 i) - (S 53 j)) else 0))) then (20 - (2 * (if 0 < ((S 32 i) - (S 53 j)) then ((S 32 i) - (S 53 j)) else 0))) else 0) else 0)), .int 0]) rfl ?_
        refine lv_iadd hx hb dX1_score_128 ?_
        refine va_mmax hx hb (hml.trans hl.1.symm) hown (hts _ q796) (hts _ q127) (hts _ q39) (hts _ q128) (Nat.le_of_ble_eq_true rfl) (Nat.le_of_ble_eq_true rfl) (Nat.le_of_ble_eq_true rfl) (Nat.le_of_ble_eq_true rfl) dX1_score_129 ?_
        exact W.iret (v := (if 0 < ((((if (S 30 i) = (S 50 j) then (40 : Int32) else (if (xf_has (S 2 ((S 30 i).toNatClampNeg)) (S 50 j)) = true then (15 : Int32) else (-1))) + (xf_placeScore S (S 31 i) (S 51 j))) + (if (S 52 j) ≤ (S 32 i) then (if 0 < (20 - (2 * (if 0 < ((S 32 i) - (S 53 j)) then ((S 32 i) - (S 53 j)) else 0))) then (20 - (2 * (if 0 < ((S 32 i) - (S 53 j)) then ((S 32 i) - (S 53 j)) else 0))) else 0) else 0)) + (xf_wordScore S (S 54 j) ((S 33 i) ||| ((S 34 i) &&& (S 55 j))))) then ((((if (S 30 i) = (S 50 j) then (40 : Int32) else (if (xf_has (S 2 ((S 30 i).toNatClampNeg)) (S 50 j)) = true then (15 : Int32) else (-1))) + (xf_placeScore S (S 31 i) (S 51 j))) + (if (S 52 j) ≤ (S 32 i) then (if 0 < (20 - (2 * (if 0 < ((S 32 i) - (S 53 j)) then ((S 32 i) - (S 53 j)) else 0))) then (20 - (2 * (if 0 < ((S 32 i) - (S 53 j)) then ((S 32 i) - (S 53 j)) else 0))) else 0) else 0)) + (xf_wordScore S (S 54 j) ((S 33 i) ||| ((S 34 i) &&& (S 55 j))))) else 0)) hx hb hr (fun t ht hW => ⟨⟨(congrArg (fun z => Outcome.returned (some (Value.int z))) hf), trivial⟩, hS.F ht⟩) hS.2.2 dX1_score_132
      refine lv_icmp_ge (tgt := 64) hx hb dX1_score_57 (by decide) (fun c_2 => ?_) (fun c_2 => ?_)
      · skip
        refine lv_iconst (v := 0) hx hb dX1_score_64 (by decide) ?_
        refine lv_bipush (v := 20) hx hb dX1_score_65 (by decide) ?_
        refine lv_iconst (v := 2) hx hb dX1_score_67 (by decide) ?_
        refine lv_iconst (v := 0) hx hb dX1_score_68 (by decide) ?_
        refine lv_aload_n hx hb dX1_score_69 rfl (lv_at hl 2 rfl) ?_
        refine kw_getN (C := RX3) (T := TX3) (N := 15) (v := .int (S 32 i)) hx hb hts in_X3 hown hK.1 hR 3 i h_i rfl rfl 2 (by decide) (va_Nw.use rfl (hK.2.1 _ q527 rfl)) (fun _ h9 => h9) rfl dX1_score_70 ?_
        refine lv_aload_n hx hb dX1_score_73 rfl (lv_at hl 3 rfl) ?_
        refine kw_getN (C := RX5) (T := TX5) (N := 10) (v := .int (S 53 j)) hx hb hts in_X5 hown hK.1 hR 4 j h_j rfl rfl 3 (by decide) (va_Nw.use rfl (hK.2.1 _ q719 rfl)) (fun _ h9 => h9) rfl dX1_score_74 ?_
        refine lv_isub hx hb dX1_score_77 ?_
        refine va_mmax hx hb (hml.trans hl.1.symm) hown (hts _ q796) (hts _ q127) (hts _ q39) (hts _ q128) (Nat.le_of_ble_eq_true rfl) (Nat.le_of_ble_eq_true rfl) (Nat.le_of_ble_eq_true rfl) (Nat.le_of_ble_eq_true rfl) dX1_score_78 ?_
        refine lv_imul hx hb dX1_score_81 ?_
        refine lv_isub hx hb dX1_score_82 ?_
        refine va_mmax hx hb (hml.trans hl.1.symm) hown (hts _ q796) (hts _ q127) (hts _ q39) (hts _ q128) (Nat.le_of_ble_eq_true rfl) (Nat.le_of_ble_eq_true rfl) (Nat.le_of_ble_eq_true rfl) (Nat.le_of_ble_eq_true rfl) dX1_score_83 ?_
        exact hJ_86 _ _ _ (if 0 < (20 - (2 * (if 0 < ((S 32 i) - (S 53 j)) then ((S 32 i) - (S 53 j)) else 0))) then (20 - (2 * (if 0 < ((S 32 i) - (S 53 j)) then ((S 32 i) - (S 53 j)) else 0))) else 0) ((if_pos c_2).symm) hR hS (lv_sub hl [1, 2, 3, 0] rfl)
      · skip
        refine lv_iconst (v := 0) hx hb dX1_score_60 (by decide) ?_
        refine lv_goto (tgt := 86) hx hb dX1_score_61 (by decide) ?_
        exact hJ_86 _ _ _ 0 ((if_neg c_2).symm) hR hS (lv_sub hl [1, 2, 3, 0] rfl)
    · skip
      have hf := (if_pos c_1).symm.trans hf
      refine lv_iconst (v := (-1)) hx hb dX1_score_47 (by decide) ?_
      exact W.iret (v := (-1)) hx hb hr (fun t ht hW => ⟨⟨(congrArg (fun z => Outcome.returned (some (Value.int z))) hf), trivial⟩, hS.F ht⟩) hS.2.2 dX1_score_48
  refine lv_icmp_ne (tgt := 16) hx hb dX1_score_8 (by decide) (fun c_3 => ?_) (fun c_3 => ?_)
  · skip
    refine lv_aload_n hx hb dX1_score_16 rfl (lv_at hl 0 rfl) ?_
    refine kw_get (C := RX1) (T := TX1) (N := 12) (v := .ref (g 6 2)) hx hb hts in_X1 hown hK.1 hR 0 0 rfl rfl rfl 2 (by decide) (hts _ q170) (fun _ h9 => h9) rfl dX1_score_17 ?_
    refine lv_aload_n hx hb dX1_score_20 rfl (lv_at hl 1 rfl) ?_
    refine kw_getN (C := RX3) (T := TX3) (N := 15) (v := .int (S 30 i)) hx hb hts in_X3 hown hK.1 hR 3 i h_i rfl rfl 0 (by decide) (va_Nw.use rfl (hK.2.1 _ q523 rfl)) (fun _ h9 => h9) rfl dX1_score_21 ?_
    refine kw_iald (n := 8) (v := (S 2 ((S 30 i).toNatClampNeg))) hx hb hK.1 hR 6 2 ⟨by decide, by decide⟩ rfl ((hI.2.2.2.2.2.1 i h_i).1) rfl dX1_score_24 ?_
    refine lv_aload_n hx hb dX1_score_25 rfl (lv_at hl 2 rfl) ?_
    refine kw_getN (C := RX5) (T := TX5) (N := 10) (v := .int (S 50 j)) hx hb hts in_X5 hown hK.1 hR 4 j h_j rfl rfl 0 (by decide) (va_Nw.use rfl (hK.2.1 _ q713 rfl)) (fun _ h9 => h9) rfl dX1_score_26 ?_
    refine ps_calli (As := [.int (S 2 ((S 30 i).toNatClampNeg)), .int (S 50 j)]) (rest := []) ⟨hx, hb, hml, hown, hts⟩ (xt_has l (S 2 ((S 30 i).toNatClampNeg)) (S 50 j)) (va_cwS 2 hts (lw_S q340 q341 q33 q342) rfl rfl rfl (by decide +kernel) ⟨Nat.le_of_ble_eq_true rfl, Nat.le_of_ble_eq_true rfl⟩) trivial hS rfl hl.1 rfl (Nat.le_of_ble_eq_true rfl) dX1_score_29 ⟨Nat.zero_le _, Nat.zero_le _⟩ (fun H locs hz hk hS => ?_)
    have hR := hR.kept (fun a _ h => hk a h)
    refine lv_if_eq (tgt := 40) hx hb dX1_score_32 (by decide) (fun c_4 => ?_) (fun c_4 => ?_)
    · skip
      have c_4 : ¬ ((xf_has (S 2 ((S 30 i).toNatClampNeg)) (S 50 j)) = true) := gs_zf (φ := (xf_has (S 2 ((S 30 i).toNatClampNeg)) (S 50 j)) = true) c_4
      refine lv_iconst (v := (-1)) hx hb dX1_score_40 (by decide) ?_
      exact hJ_41 _ _ _ (-1) (((if_neg c_4).symm).trans (if_neg c_3).symm) hR hS (lv_sub hl [0, 1, 2] rfl)
    · skip
      have c_4 : (xf_has (S 2 ((S 30 i).toNatClampNeg)) (S 50 j)) = true := gs_zt (φ := (xf_has (S 2 ((S 30 i).toNatClampNeg)) (S 50 j)) = true) c_4
      refine lv_bipush (v := 15) hx hb dX1_score_35 (by decide) ?_
      refine lv_goto (tgt := 41) hx hb dX1_score_37 (by decide) ?_
      exact hJ_41 _ _ _ 15 (((if_pos c_4).symm).trans (if_neg c_3).symm) hR hS (lv_sub hl [0, 1, 2] rfl)
  · skip
    refine lv_bipush (v := 40) hx hb dX1_score_11 (by decide) ?_
    refine lv_goto (tgt := 41) hx hb dX1_score_13 (by decide) ?_
    exact hJ_41 _ _ _ 40 ((if_pos c_3).symm) hR hS (lv_sub hl [0, 1, 2] rfl)
set_option maxHeartbeats 2000000 in
set_option maxRecDepth 100000 in
theorem xt_isCandidate (l : Launch) (E : en_T) (C : ex_C) (A : Nat → Prop) (sz : Nat) (g : kw_A) (h : xh_T) (S : gs_T) (i : Nat) (j : Nat) : Met l yX1_isCandidate (ws_ yX1_isCandidate cX1_isCandidate 3 (some .boolean)) { frames := 8, cells := 0, slots := 0, locals := 178 } (cpc E C A sz [.ref (g 0 0), .ref (g 3 i), .ref (g 4 j)] (xw E C g h S A) (xi_ok S ∧ xh C g h S ∧ i < nz S 1 ∧ j < nz S 2)) (cq_Q (some (.int (gs_bz (xf_isCandidate S i j)))) (fun _ => True) (nw_A sz)) 0 0 (nw_A sz) := by
  refine cq_start (by decide) (Nat.le_of_ble_eq_true rfl) ?_
  intro p e s m below meth c ls hx hb hr hlocks hml hown hnm hts hsz hK hZ hA hR hP hl
  subst hsz
  have hAA : ∀ a, nw_A s.heap.size a → A a := hA
  have hl : lv_has ls 3 [(0, .ref (g 0 0)), (1, .ref (g 3 i)), (2, .ref (g 4 j))] := hl
  have hS : va_S (nw_A s.heap.size) s.heap s.heap [] := va_S.rf
  have hZr := hZ.fresh
  obtain ⟨hI, hh, h_i, h_j⟩ := hP
  have hf : (xf_isCandidate S i j) = (xf_isCandidate S i j) := rfl
  refine lv_aload_n hx hb dX1_isCandidate_0 rfl (lv_at hl 2 rfl) ?_
  refine kw_getN (C := RX5) (T := TX5) (N := 10) (v := .int (S 56 j)) hx hb hts in_X5 hown hK.1 hR 4 j h_j rfl rfl 6 (by decide) (va_Nw.use rfl (hK.2.1 _ q725 rfl)) (fun _ h9 => h9) rfl dX1_isCandidate_1 ?_
  have hJ_25 : ∀ (H : Heap) (locs : List Loc) (ls : Array Slot) (v_25 : Int32), v_25 = (if ((S 56 j) = 0) ∧ (¬ ((xf_score S i j) < (S 6 0))) then 1 else 0) → (xw E C g h S A) H → va_S (nw_A s.heap.size) s.heap H locs → lv_has ls 3 [] → cq_G p l e { frames := 8, cells := 0, slots := 0, locals := 178 } s m [.ref (g 0 0), .ref (g 3 i), .ref (g 4 j)] below meth c (nw_A s.heap.size) (cq_Q (some (.int (gs_bz (xf_isCandidate S i j)))) (fun _ => True) (nw_A s.heap.size)) 0 0 H locs 0 0 (F0 m 25 ls [.int v_25]) := by
    intro H locs ls v_25 e_v_25 hR hS hl
    subst e_v_25
    exact W.zret (v := (if ((S 56 j) = 0) ∧ (¬ ((xf_score S i j) < (S 6 0))) then 1 else 0)) hx hb hr gs_nar (fun t ht hW => ⟨⟨(congrArg (fun z => Outcome.returned (some (Value.int z))) (gs_bz_dec.trans (congrArg gs_bz hf))), trivial⟩, hS.F ht⟩) hS.2.2 dX1_isCandidate_25
  refine lv_if_ne (tgt := 24) hx hb dX1_isCandidate_4 (by decide) (fun c_1 => ?_) (fun c_1 => ?_)
  · skip
    refine lv_iconst (v := 0) hx hb dX1_isCandidate_24 (by decide) ?_
    exact hJ_25 _ _ _ 0 (gi_0 (gi_ca_f c_1)) hR hS (lv_sub hl [] rfl)
  · skip
    refine lv_aload_n hx hb dX1_isCandidate_7 rfl (lv_at hl 0 rfl) ?_
    refine lv_aload_n hx hb dX1_isCandidate_8 rfl (lv_at hl 1 rfl) ?_
    refine lv_aload_n hx hb dX1_isCandidate_9 rfl (lv_at hl 2 rfl) ?_
    refine cq_V (v := (some (.int (xf_score S i j)))) (As := [.ref (g 3 i), .ref (g 4 j)]) (rest := []) hK hZ hA hAA hS hR ⟨hI, hh, (by first | assumption | omega), (by first | assumption | omega)⟩ (xt_score l E C A s.heap.size g h S i j) (fun _ h => Nat.le_trans hS.1 h) ⟨hx, hb, hml, hown, hts⟩ (cwV 2 hts (lw_V q792 q794 qs8 q33 q795) rfl rfl rfl (by decide +kernel) ⟨Nat.le_of_ble_eq_true rfl, Nat.le_of_ble_eq_true rfl⟩) (kw_recv (t := 0) (i := 0) hK.1 hR rfl rfl rfl) rfl hl.1 rfl (Nat.le_of_ble_eq_true rfl) dX1_isCandidate_10 ⟨Nat.le_of_ble_eq_true rfl, Nat.le_of_ble_eq_true rfl⟩ (fun H locs hB hz hk hS => ?_)
    have hR := hR.kept (fun a _ h => hk a h (Nat.not_le.mpr h))
    refine W.eq (g2 := F0 m 13 ls [.int (xf_score S i j)]) rfl ?_
    refine lv_aload_n hx hb dX1_isCandidate_13 rfl (lv_at hl 0 rfl) ?_
    refine kw_get (C := RX1) (T := TX1) (N := 12) (v := .int (S 6 0)) hx hb hts in_X1 hown hK.1 hR 0 0 rfl rfl rfl 6 (by decide) (hts _ q175) (fun _ h9 => h9) rfl dX1_isCandidate_14 ?_
    refine lv_icmp_lt (tgt := 24) hx hb dX1_isCandidate_17 (by decide) (fun c_2 => ?_) (fun c_2 => ?_)
    · skip
      refine lv_iconst (v := 0) hx hb dX1_isCandidate_24 (by decide) ?_
      exact hJ_25 _ _ _ 0 (gi_0 ((gi_nb_t c_2).trans (gi_ca_t c_1))) hR hS (lv_sub hl [] rfl)
    · skip
      refine lv_iconst (v := 1) hx hb dX1_isCandidate_20 (by decide) ?_
      refine lv_goto (tgt := 25) hx hb dX1_isCandidate_21 (by decide) ?_
      exact hJ_25 _ _ _ 1 (gi_1 ((gi_nb_f c_2).trans (gi_ca_t c_1))) hR hS (lv_sub hl [] rfl)
