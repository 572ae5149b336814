set_option maxHeartbeats 2000000 in
set_option maxRecDepth 100000 in
theorem xx_findAt (l : Launch) (hfl : l.stackTraces = false) (E : en_T) (C : ex_C) (A : Nat → Prop) (sz : Nat) (g : kw_A) (h : xh_T) (S : gs_T) (p1 : Int32) : vx_Met l yX1_findAt (ws_ yX1_findAt cX1_findAt 2 (Option.some (Jvm.ClassFile.FieldType.object "Lostroom$Find"))) { frames := 7, cells := 1, slots := 6, locals := 120 } (cpc E C A sz [.ref (g 0 0), .int p1] (xw E C g h S A) (xi_ok S ∧ xh C g h S ∧ ¬ (xf_isIn p1 0 ((S 21 1) - 1)) = true)) cx_N (cx_X (fun _ => True) (nw_A sz) "java/lang/IndexOutOfBoundsException") 1 6 (nw_A sz) := by
  refine cx_start (by decide) (Nat.le_of_ble_eq_true rfl) ?_
  intro p e s m below meth c ls hx hb hr hlocks hml hown hnm hnt hts hsz hK hZ hA hR hP hl
  subst hsz
  have hAA : ∀ a, nw_A s.heap.size a → A a := hA
  have hl : lv_has ls 2 [(0, .ref (g 0 0)), (1, .int p1)] := hl
  have hS : va_S (nw_A s.heap.size) s.heap s.heap [] := va_S.rf
  have hZr := hZ.fresh
  obtain ⟨hI, hh, h_r⟩ := hP
  refine lv_iload_n hx hb dX1_findAt_0 rfl (lv_at hl 1 rfl) ?_
  refine lv_iconst (v := 0) hx hb dX1_findAt_1 (by decide) ?_
  refine lv_aload_n hx hb dX1_findAt_2 rfl (lv_at hl 0 rfl) ?_
  refine kw_get (C := RX1) (T := TX1) (N := 12) (v := .ref (g 1 1)) hx hb hts in_X1 hown hK.1 hR 0 0 rfl rfl rfl 7 (by decide) (hts _ q176) (fun _ h9 => h9) rfl dX1_findAt_3 ?_
  refine cq_F (v := (some (.int (S 21 1)))) (As := []) (rest := [.int 0, .int p1]) hK hZ hA hAA hS hR ⟨(Nat.lt_of_lt_of_le (by decide) (Nat.le_add_right 7 _)), rfl⟩ (jt_size l E C A s.heap.size (xok S) g (xen E C g h S) 1 (S 20 1) (S 21 1) (.ref (if cz S 1 = 0 then C.2.1 else g 2 1))) (fun _ h => Nat.le_trans hS.1 h) (hK.1.1 5 _ rfl).2 ⟨hx, hb, hml, hown, hts⟩ (va_cwF 0 hts (lw_F q389 q392 q394 q36 q396) rfl rfl rfl (fw_size hK) (by decide +kernel) ⟨Nat.le_of_ble_eq_true rfl, Nat.le_of_ble_eq_true rfl⟩) (kw_recv (t := 1) (i := 1) hK.1 hR (Nat.lt_of_lt_of_le (by decide) (Nat.le_add_right 7 _)) rfl rfl) rfl hl.1 rfl (Nat.le_of_ble_eq_true rfl) dX1_findAt_6 ⟨Nat.le_of_ble_eq_true rfl, Nat.le_of_ble_eq_true rfl⟩ (fun H locs hB hz hk hS => ?_)
  have hR := hR.kept (fun a _ h => hk a h (Nat.not_le.mpr h))
  refine W.eq (g2 := F0 m 11 ls [.int (S 21 1), .int 0, .int p1]) rfl ?_
  refine lv_iconst (v := 1) hx hb dX1_findAt_11 (by decide) ?_
  refine lv_isub hx hb dX1_findAt_12 ?_
  refine ps_calli (As := [.int p1, .int 0, .int ((S 21 1) - 1)]) (rest := []) ⟨hx, hb, hml, hown, hts⟩ (xt_isIn l p1 0 ((S 21 1) - 1)) (va_cwS 3 hts (lw_S q295 q296 q33 q297) rfl rfl rfl (by decide +kernel) ⟨Nat.le_of_ble_eq_true rfl, Nat.le_of_ble_eq_true rfl⟩) trivial hS rfl hl.1 rfl (Nat.le_of_ble_eq_true rfl) dX1_findAt_13 ⟨Nat.zero_le _, Nat.zero_le _⟩ (fun H locs hz hk hS => ?_)
  have hR := hR.kept (fun a _ h => hk a h)
  refine W.eq (g2 := F0 m 16 ls [.int 0]) (congrArg (fun z => F0 m 16 ls (.int z :: [])) (if_neg h_r)) ?_
  refine cx_S (X := fun _ => True) (P := True) (As := [.int 0]) (rest := []) hK hZ hA hAA hS trivial trivial (xt_requireIndex l hfl E C A H.size) (fun _ h => Nat.le_trans hS.1 h) ⟨hx, hb, hml, hown, hts⟩ (va_cwS 1 hts (lw_S q298 q299 q33 q300) rfl rfl rfl (by decide +kernel) ⟨Nat.le_of_ble_eq_true rfl, Nat.le_of_ble_eq_true rfl⟩) rfl hl.1 rfl (Nat.le_of_ble_eq_true rfl) dX1_findAt_16 ⟨Nat.le_of_ble_eq_true rfl, Nat.le_of_ble_eq_true rfl⟩ (fun ce q9 H locs hB hz hk hS hc9 hv9 hcl => ?_)
  exact vx_out (fun x h => (hnt x h).elim) hlocks hc9 hv9 hcl (fun t ht _ => ⟨⟨rfl, trivial⟩, hS.F ht⟩) hS.2.2 (Nat.le_of_ble_eq_true rfl) (Nat.le_of_ble_eq_true rfl)
set_option maxHeartbeats 2000000 in
set_option maxRecDepth 100000 in
theorem xt_findAt (l : Launch) (E : en_T) (C : ex_C) (A : Nat → Prop) (sz : Nat) (g : kw_A) (h : xh_T) (S : gs_T) (p1 : Int32) : Met l yX1_findAt (ws_ yX1_findAt cX1_findAt 2 (Option.some (Jvm.ClassFile.FieldType.object "Lostroom$Find"))) { frames := 3, cells := 0, slots := 0, locals := 64 } (cpc E C A sz [.ref (g 0 0), .int p1] (xw E C g h S A) (xi_ok S ∧ xh C g h S ∧ (xf_isIn p1 0 ((S 21 1) - 1)) = true)) (cq_Q (some (.ref (g 3 p1.toNatClampNeg))) (fun _ => True) (nw_A sz)) 0 0 (nw_A sz) := by
  refine cq_start (by decide) (Nat.le_of_ble_eq_true rfl) ?_
  intro p e s m below meth c ls hx hb hr hlocks hml hown hnm hts hsz hK hZ hA hR hP hl
  subst hsz
  have hAA : ∀ a, nw_A s.heap.size a → A a := hA
  have hl : lv_has ls 2 [(0, .ref (g 0 0)), (1, .int p1)] := hl
  have hS : va_S (nw_A s.heap.size) s.heap s.heap [] := va_S.rf
  have hZr := hZ.fresh
  obtain ⟨hI, hh, h_r⟩ := hP
  obtain ⟨o_1, h_e, h_0⟩ := xq_f hI h_r
  refine lv_iload_n hx hb dX1_findAt_0 rfl (lv_at hl 1 rfl) ?_
  refine lv_iconst (v := 0) hx hb dX1_findAt_1 (by decide) ?_
  refine lv_aload_n hx hb dX1_findAt_2 rfl (lv_at hl 0 rfl) ?_
  refine kw_get (C := RX1) (T := TX1) (N := 12) (v := .ref (g 1 1)) hx hb hts in_X1 hown hK.1 hR 0 0 rfl rfl rfl 7 (by decide) (hts _ q176) (fun _ h9 => h9) rfl dX1_findAt_3 ?_
  refine cq_F (v := (some (.int (S 21 1)))) (As := []) (rest := [.int 0, .int p1]) hK hZ hA hAA hS hR ⟨(Nat.lt_of_lt_of_le (by decide) (Nat.le_add_right 7 _)), rfl⟩ (jt_size l E C A s.heap.size (xok S) g (xen E C g h S) 1 (S 20 1) (S 21 1) (.ref (if cz S 1 = 0 then C.2.1 else g 2 1))) (fun _ h => Nat.le_trans hS.1 h) (hK.1.1 5 _ rfl).2 ⟨hx, hb, hml, hown, hts⟩ (va_cwF 0 hts (lw_F q389 q392 q394 q36 q396) rfl rfl rfl (fw_size hK) (by decide +kernel) ⟨Nat.le_of_ble_eq_true rfl, Nat.le_of_ble_eq_true rfl⟩) (kw_recv (t := 1) (i := 1) hK.1 hR (Nat.lt_of_lt_of_le (by decide) (Nat.le_add_right 7 _)) rfl rfl) rfl hl.1 rfl (Nat.le_of_ble_eq_true rfl) dX1_findAt_6 ⟨Nat.le_of_ble_eq_true rfl, Nat.le_of_ble_eq_true rfl⟩ (fun H locs hB hz hk hS => ?_)
  have hR := hR.kept (fun a _ h => hk a h (Nat.not_le.mpr h))
  refine W.eq (g2 := F0 m 11 ls [.int (S 21 1), .int 0, .int p1]) rfl ?_
  refine lv_iconst (v := 1) hx hb dX1_findAt_11 (by decide) ?_
  refine lv_isub hx hb dX1_findAt_12 ?_
  refine ps_calli (As := [.int p1, .int 0, .int ((S 21 1) - 1)]) (rest := []) ⟨hx, hb, hml, hown, hts⟩ (xt_isIn l p1 0 ((S 21 1) - 1)) (va_cwS 3 hts (lw_S q295 q296 q33 q297) rfl rfl rfl (by decide +kernel) ⟨Nat.le_of_ble_eq_true rfl, Nat.le_of_ble_eq_true rfl⟩) trivial hS rfl hl.1 rfl (Nat.le_of_ble_eq_true rfl) dX1_findAt_13 ⟨Nat.zero_le _, Nat.zero_le _⟩ (fun H locs hz hk hS => ?_)
  have hR := hR.kept (fun a _ h => hk a h)
  refine ps_callv (As := [.int (if (xf_isIn p1 0 ((S 21 1) - 1)) = true then 1 else 0)]) (rest := []) ⟨hx, hb, hml, hown, hts⟩ (xo_requireIndex l _) (va_cwS 1 hts (lw_S q298 q299 q33 q300) rfl rfl rfl (by decide +kernel) ⟨Nat.le_of_ble_eq_true rfl, Nat.le_of_ble_eq_true rfl⟩) (if_pos h_r) hS rfl hl.1 rfl (Nat.le_of_ble_eq_true rfl) dX1_findAt_16 ⟨Nat.le_of_ble_eq_true rfl, Nat.le_of_ble_eq_true rfl⟩ (fun H locs hz hk hS => ?_)
  have hR := hR.kept (fun a _ h => hk a h)
  refine lv_aload_n hx hb dX1_findAt_19 rfl (lv_at hl 0 rfl) ?_
  refine kw_get (C := RX1) (T := TX1) (N := 12) (v := .ref (g 1 1)) hx hb hts in_X1 hown hK.1 hR 0 0 rfl rfl rfl 7 (by decide) (hts _ q176) (fun _ h9 => h9) rfl dX1_findAt_20 ?_
  refine lv_iload_n hx hb dX1_findAt_23 rfl (lv_at hl 1 rfl) ?_
  refine cq_F (v := (some (.ref (g 3 p1.toNatClampNeg)))) (As := [.int p1]) (rest := []) hK hZ hA hAA hS hR (xg_get hI hh (Nat.lt_of_lt_of_le (by decide) (Nat.le_add_right 7 _)) h_0 (by rw [(xi_fn hI).1, h_e]; exact nI_lt o_1 (by have := (xi_fn hI).2; omega)) rfl) (jt_get l E C A H.size (xok S) g (xen E C g h S) 1 (S 20 1) (S 21 1) (cz S 1) (h 1) p1 (g 3 p1.toNatClampNeg)) (fun _ h => Nat.le_trans hS.1 h) (hK.1.1 5 _ rfl).2 ⟨hx, hb, hml, hown, hts⟩ (va_cwF 1 hts (lw_F q369 q372 q374 q36 q376) rfl rfl rfl (fw_get hK) (by decide +kernel) ⟨Nat.le_of_ble_eq_true rfl, Nat.le_of_ble_eq_true rfl⟩) (kw_recv (t := 1) (i := 1) hK.1 hR (Nat.lt_of_lt_of_le (by decide) (Nat.le_add_right 7 _)) rfl rfl) rfl hl.1 rfl (Nat.le_of_ble_eq_true rfl) dX1_findAt_24 ⟨Nat.le_of_ble_eq_true rfl, Nat.le_of_ble_eq_true rfl⟩ (fun H locs hB hz hk hS => ?_)
  have hR := hR.kept (fun a _ h => hk a h (Nat.not_le.mpr h))
  refine W.eq (g2 := F0 m 29 ls [.ref (g 3 p1.toNatClampNeg)]) rfl ?_
  refine va_castS hx hb hown (hts _ q496) (hK.1.1 2 _ rfl).2 (kw_recv (t := 3) (i := p1.toNatClampNeg) hK.1 hR o_1 rfl rfl) dX1_findAt_29 ?_
  exact W.aret (v := .ref (g 3 p1.toNatClampNeg)) hx hb hr (Or.inl ⟨_, rfl⟩) (Or.inr ⟨_, rfl⟩) (fun t ht hW => ⟨⟨rfl, trivial⟩, hS.F ht⟩) hS.2.2 dX1_findAt_32
set_option maxHeartbeats 2000000 in
set_option maxRecDepth 100000 in
theorem xx_claimAt (l : Launch) (hfl : l.stackTraces = false) (E : en_T) (C : ex_C) (A : Nat → Prop) (sz : Nat) (g : kw_A) (h : xh_T) (S : gs_T) (p1 : Int32) : vx_Met l yX1_claimAt (ws_ yX1_claimAt cX1_claimAt 2 (Option.some (Jvm.ClassFile.FieldType.object "Lostroom$Claim"))) { frames := 7, cells := 1, slots := 6, locals := 120 } (cpc E C A sz [.ref (g 0 0), .int p1] (xw E C g h S A) (xi_ok S ∧ xh C g h S ∧ ¬ (xf_isIn p1 0 ((S 21 2) - 1)) = true)) cx_N (cx_X (fun _ => True) (nw_A sz) "java/lang/IndexOutOfBoundsException") 1 6 (nw_A sz) := by
  refine cx_start (by decide) (Nat.le_of_ble_eq_true rfl) ?_
  intro p e s m below meth c ls hx hb hr hlocks hml hown hnm hnt hts hsz hK hZ hA hR hP hl
  subst hsz
  have hAA : ∀ a, nw_A s.heap.size a → A a := hA
  have hl : lv_has ls 2 [(0, .ref (g 0 0)), (1, .int p1)] := hl
  have hS : va_S (nw_A s.heap.size) s.heap s.heap [] := va_S.rf
  have hZr := hZ.fresh
  obtain ⟨hI, hh, h_r⟩ := hP
  refine lv_iload_n hx hb dX1_claimAt_0 rfl (lv_at hl 1 rfl) ?_
  refine lv_iconst (v := 0) hx hb dX1_claimAt_1 (by decide) ?_
  refine lv_aload_n hx hb dX1_claimAt_2 rfl (lv_at hl 0 rfl) ?_
  refine kw_get (C := RX1) (T := TX1) (N := 12) (v := .ref (g 1 2)) hx hb hts in_X1 hown hK.1 hR 0 0 rfl rfl rfl 8 (by decide) (hts _ q177) (fun _ h9 => h9) rfl dX1_claimAt_3 ?_
  refine cq_F (v := (some (.int (S 21 2)))) (As := []) (rest := [.int 0, .int p1]) hK hZ hA hAA hS hR ⟨(Nat.lt_of_lt_of_le (by decide) (Nat.le_add_right 7 _)), rfl⟩ (jt_size l E C A s.heap.size (xok S) g (xen E C g h S) 2 (S 20 2) (S 21 2) (.ref (if cz S 2 = 0 then C.2.1 else g 2 2))) (fun _ h => Nat.le_trans hS.1 h) (hK.1.1 5 _ rfl).2 ⟨hx, hb, hml, hown, hts⟩ (va_cwF 0 hts (lw_F q389 q392 q394 q36 q396) rfl rfl rfl (fw_size hK) (by decide +kernel) ⟨Nat.le_of_ble_eq_true rfl, Nat.le_of_ble_eq_true rfl⟩) (kw_recv (t := 1) (i := 2) hK.1 hR (Nat.lt_of_lt_of_le (by decide) (Nat.le_add_right 7 _)) rfl rfl) rfl hl.1 rfl (Nat.le_of_ble_eq_true rfl) dX1_claimAt_6 ⟨Nat.le_of_ble_eq_true rfl, Nat.le_of_ble_eq_true rfl⟩ (fun H locs hB hz hk hS => ?_)
  have hR := hR.kept (fun a _ h => hk a h (Nat.not_le.mpr h))
  refine W.eq (g2 := F0 m 11 ls [.int (S 21 2), .int 0, .int p1]) rfl ?_
  refine lv_iconst (v := 1) hx hb dX1_claimAt_11 (by decide) ?_
  refine lv_isub hx hb dX1_claimAt_12 ?_
  refine ps_calli (As := [.int p1, .int 0, .int ((S 21 2) - 1)]) (rest := []) ⟨hx, hb, hml, hown, hts⟩ (xt_isIn l p1 0 ((S 21 2) - 1)) (va_cwS 3 hts (lw_S q295 q296 q33 q297) rfl rfl rfl (by decide +kernel) ⟨Nat.le_of_ble_eq_true rfl, Nat.le_of_ble_eq_true rfl⟩) trivial hS rfl hl.1 rfl (Nat.le_of_ble_eq_true rfl) dX1_claimAt_13 ⟨Nat.zero_le _, Nat.zero_le _⟩ (fun H locs hz hk hS => ?_)
  have hR := hR.kept (fun a _ h => hk a h)
  refine W.eq (g2 := F0 m 16 ls [.int 0]) (congrArg (fun z => F0 m 16 ls (.int z :: [])) (if_neg h_r)) ?_
  refine cx_S (X := fun _ => True) (P := True) (As := [.int 0]) (rest := []) hK hZ hA hAA hS trivial trivial (xt_requireIndex l hfl E C A H.size) (fun _ h => Nat.le_trans hS.1 h) ⟨hx, hb, hml, hown, hts⟩ (va_cwS 1 hts (lw_S q298 q299 q33 q300) rfl rfl rfl (by decide +kernel) ⟨Nat.le_of_ble_eq_true rfl, Nat.le_of_ble_eq_true rfl⟩) rfl hl.1 rfl (Nat.le_of_ble_eq_true rfl) dX1_claimAt_16 ⟨Nat.le_of_ble_eq_true rfl, Nat.le_of_ble_eq_true rfl⟩ (fun ce q9 H locs hB hz hk hS hc9 hv9 hcl => ?_)
  exact vx_out (fun x h => (hnt x h).elim) hlocks hc9 hv9 hcl (fun t ht _ => ⟨⟨rfl, trivial⟩, hS.F ht⟩) hS.2.2 (Nat.le_of_ble_eq_true rfl) (Nat.le_of_ble_eq_true rfl)
set_option maxHeartbeats 2000000 in
set_option maxRecDepth 100000 in
theorem xt_claimAt (l : Launch) (E : en_T) (C : ex_C) (A : Nat → Prop) (sz : Nat) (g : kw_A) (h : xh_T) (S : gs_T) (p1 : Int32) : Met l yX1_claimAt (ws_ yX1_claimAt cX1_claimAt 2 (Option.some (Jvm.ClassFile.FieldType.object "Lostroom$Claim"))) { frames := 3, cells := 0, slots := 0, locals := 64 } (cpc E C A sz [.ref (g 0 0), .int p1] (xw E C g h S A) (xi_ok S ∧ xh C g h S ∧ (xf_isIn p1 0 ((S 21 2) - 1)) = true)) (cq_Q (some (.ref (g 4 p1.toNatClampNeg))) (fun _ => True) (nw_A sz)) 0 0 (nw_A sz) := by
  refine cq_start (by decide) (Nat.le_of_ble_eq_true rfl) ?_
  intro p e s m below meth c ls hx hb hr hlocks hml hown hnm hts hsz hK hZ hA hR hP hl
  subst hsz
  have hAA : ∀ a, nw_A s.heap.size a → A a := hA
  have hl : lv_has ls 2 [(0, .ref (g 0 0)), (1, .int p1)] := hl
  have hS : va_S (nw_A s.heap.size) s.heap s.heap [] := va_S.rf
  have hZr := hZ.fresh
  obtain ⟨hI, hh, h_r⟩ := hP
  obtain ⟨o_1, h_e, h_0⟩ := xq_c hI h_r
  refine lv_iload_n hx hb dX1_claimAt_0 rfl (lv_at hl 1 rfl) ?_
  refine lv_iconst (v := 0) hx hb dX1_claimAt_1 (by decide) ?_
  refine lv_aload_n hx hb dX1_claimAt_2 rfl (lv_at hl 0 rfl) ?_
  refine kw_get (C := RX1) (T := TX1) (N := 12) (v := .ref (g 1 2)) hx hb hts in_X1 hown hK.1 hR 0 0 rfl rfl rfl 8 (by decide) (hts _ q177) (fun _ h9 => h9) rfl dX1_claimAt_3 ?_
  refine cq_F (v := (some (.int (S 21 2)))) (As := []) (rest := [.int 0, .int p1]) hK hZ hA hAA hS hR ⟨(Nat.lt_of_lt_of_le (by decide) (Nat.le_add_right 7 _)), rfl⟩ (jt_size l E C A s.heap.size (xok S) g (xen E C g h S) 2 (S 20 2) (S 21 2) (.ref (if cz S 2 = 0 then C.2.1 else g 2 2))) (fun _ h => Nat.le_trans hS.1 h) (hK.1.1 5 _ rfl).2 ⟨hx, hb, hml, hown, hts⟩ (va_cwF 0 hts (lw_F q389 q392 q394 q36 q396) rfl rfl rfl (fw_size hK) (by decide +kernel) ⟨Nat.le_of_ble_eq_true rfl, Nat.le_of_ble_eq_true rfl⟩) (kw_recv (t := 1) (i := 2) hK.1 hR (Nat.lt_of_lt_of_le (by decide) (Nat.le_add_right 7 _)) rfl rfl) rfl hl.1 rfl (Nat.le_of_ble_eq_true rfl) dX1_claimAt_6 ⟨Nat.le_of_ble_eq_true rfl, Nat.le_of_ble_eq_true rfl⟩ (fun H locs hB hz hk hS => ?_)
  have hR := hR.kept (fun a _ h => hk a h (Nat.not_le.mpr h))
  refine W.eq (g2 := F0 m 11 ls [.int (S 21 2), .int 0, .int p1]) rfl ?_
  refine lv_iconst (v := 1) hx hb dX1_claimAt_11 (by decide) ?_
  refine lv_isub hx hb dX1_claimAt_12 ?_
  refine ps_calli (As := [.int p1, .int 0, .int ((S 21 2) - 1)]) (rest := []) ⟨hx, hb, hml, hown, hts⟩ (xt_isIn l p1 0 ((S 21 2) - 1)) (va_cwS 3 hts (lw_S q295 q296 q33 q297) rfl rfl rfl (by decide +kernel) ⟨Nat.le_of_ble_eq_true rfl, Nat.le_of_ble_eq_true rfl⟩) trivial hS rfl hl.1 rfl (Nat.le_of_ble_eq_true rfl) dX1_claimAt_13 ⟨Nat.zero_le _, Nat.zero_le _⟩ (fun H locs hz hk hS => ?_)
  have hR := hR.kept (fun a _ h => hk a h)
  refine ps_callv (As := [.int (if (xf_isIn p1 0 ((S 21 2) - 1)) = true then 1 else 0)]) (rest := []) ⟨hx, hb, hml, hown, hts⟩ (xo_requireIndex l _) (va_cwS 1 hts (lw_S q298 q299 q33 q300) rfl rfl rfl (by decide +kernel) ⟨Nat.le_of_ble_eq_true rfl, Nat.le_of_ble_eq_true rfl⟩) (if_pos h_r) hS rfl hl.1 rfl (Nat.le_of_ble_eq_true rfl) dX1_claimAt_16 ⟨Nat.le_of_ble_eq_true rfl, Nat.le_of_ble_eq_true rfl⟩ (fun H locs hz hk hS => ?_)
  have hR := hR.kept (fun a _ h => hk a h)
  refine lv_aload_n hx hb dX1_claimAt_19 rfl (lv_at hl 0 rfl) ?_
  refine kw_get (C := RX1) (T := TX1) (N := 12) (v := .ref (g 1 2)) hx hb hts in_X1 hown hK.1 hR 0 0 rfl rfl rfl 8 (by decide) (hts _ q177) (fun _ h9 => h9) rfl dX1_claimAt_20 ?_
  refine lv_iload_n hx hb dX1_claimAt_23 rfl (lv_at hl 1 rfl) ?_
  refine cq_F (v := (some (.ref (g 4 p1.toNatClampNeg)))) (As := [.int p1]) (rest := []) hK hZ hA hAA hS hR (xg_get hI hh (Nat.lt_of_lt_of_le (by decide) (Nat.le_add_right 7 _)) h_0 (by rw [(xi_cn hI).1, h_e]; exact nI_lt o_1 (by have := (xi_cn hI).2; omega)) rfl) (jt_get l E C A H.size (xok S) g (xen E C g h S) 2 (S 20 2) (S 21 2) (cz S 2) (h 2) p1 (g 4 p1.toNatClampNeg)) (fun _ h => Nat.le_trans hS.1 h) (hK.1.1 5 _ rfl).2 ⟨hx, hb, hml, hown, hts⟩ (va_cwF 1 hts (lw_F q369 q372 q374 q36 q376) rfl rfl rfl (fw_get hK) (by decide +kernel) ⟨Nat.le_of_ble_eq_true rfl, Nat.le_of_ble_eq_true rfl⟩) (kw_recv (t := 1) (i := 2) hK.1 hR (Nat.lt_of_lt_of_le (by decide) (Nat.le_add_right 7 _)) rfl rfl) rfl hl.1 rfl (Nat.le_of_ble_eq_true rfl) dX1_claimAt_24 ⟨Nat.le_of_ble_eq_true rfl, Nat.le_of_ble_eq_true rfl⟩ (fun H locs hB hz hk hS => ?_)
  have hR := hR.kept (fun a _ h => hk a h (Nat.not_le.mpr h))
  refine W.eq (g2 := F0 m 29 ls [.ref (g 4 p1.toNatClampNeg)]) rfl ?_
  refine va_castS hx hb hown (hts _ q706) (hK.1.1 4 _ rfl).2 (kw_recv (t := 4) (i := p1.toNatClampNeg) hK.1 hR o_1 rfl rfl) dX1_claimAt_29 ?_
  exact W.aret (v := .ref (g 4 p1.toNatClampNeg)) hx hb hr (Or.inl ⟨_, rfl⟩) (Or.inr ⟨_, rfl⟩) (fun t ht hW => ⟨⟨rfl, trivial⟩, hS.F ht⟩) hS.2.2 dX1_claimAt_32
