def xp_stop (S : gs_T) (p1 : Int32) (p2 : Int32) : String ⊕ (Int32 × gs_T) := (if ((xf_isIn p1 0 3) = true) ∧ ((xf_isIn p2 0 5) = true) then (if (¬ (6 ≤ (S 21 (3 + p1.toNatClampNeg)))) ∧ (¬ (¬ ((jf_idx (fun j => (S 72 (8 * p1.toNatClampNeg + j) + 128).toNatClampNeg) ((p2 + 128).toNatClampNeg) (nz S (3 + p1.toNatClampNeg)) 0) < 0))) then (.inr (((gs_up (xs_add S (3 + p1.toNatClampNeg)) 72 (8 * p1.toNatClampNeg + nz S (3 + p1.toNatClampNeg)) p2) 21 (3 + p1.toNatClampNeg)), (gs_up (xs_add S (3 + p1.toNatClampNeg)) 72 (8 * p1.toNatClampNeg + nz S (3 + p1.toNatClampNeg)) p2))) else (.inl "java/lang/IllegalStateException")) else (.inl "java/lang/IndexOutOfBoundsException"))
set_option maxHeartbeats 2000000 in
set_option maxRecDepth 100000 in
theorem xs_stop (l : Launch) (hfl : l.stackTraces = false) (E : en_T) (C : ex_C) (A : Nat → Prop) (sz : Nat) (g : kw_A) (h : xh_T) (S : gs_T) (p1 : Int32) (p2 : Int32) : vx_Met l yX1_stop (ws_ yX1_stop cX1_stop 3 (some .int)) { frames := 7, cells := 1, slots := 10, locals := 241 } (cpc E C A sz [.ref (g 0 0), .int p1, .int p2] (xw E C g h S A) (xi_ok S ∧ xh C g h S)) (xq_Q (fun z => z) E C (g 0 0) A (xp_stop S p1 p2)) (xq_X E C g h S A (xp_stop S p1 p2)) 1 10 A := by
  refine cx_start (by decide) (Nat.le_of_ble_eq_true rfl) ?_
  intro p e s m below meth c ls hx hb hr hlocks hml hown hnm hnt hts hsz hK hZ hA hR hP hl
  subst hsz
  have hAA : ∀ a, A a → A a := fun _ h => h
  have hl : lv_has ls 3 [(0, .ref (g 0 0)), (1, .int p1), (2, .int p2)] := hl
  have hS : va_S A s.heap s.heap [] := va_S.rf
  have hZr := hZ
  obtain ⟨hI, hh⟩ := hP
  have hf : (xp_stop S p1 p2) = (xp_stop S p1 p2) := rfl
  refine lv_iload_n hx hb dX1_stop_0 rfl (lv_at hl 1 rfl) ?_
  refine lv_iconst (v := 0) hx hb dX1_stop_1 (by decide) ?_
  refine lv_iconst (v := 3) hx hb dX1_stop_2 (by decide) ?_
  refine ps_calli (As := [.int p1, .int 0, .int 3]) (rest := []) ⟨hx, hb, hml, hown, hts⟩ (xt_isIn l p1 0 3) (va_cwS 3 hts (lw_S q295 q296 q33 q297) rfl rfl rfl (by decide +kernel) ⟨Nat.le_of_ble_eq_true rfl, Nat.le_of_ble_eq_true rfl⟩) trivial hS rfl hl.1 rfl (Nat.le_of_ble_eq_true rfl) dX1_stop_3 ⟨Nat.zero_le _, Nat.zero_le _⟩ (fun H locs hz hk hS => ?_)
  have hR := hR.kept (fun a _ h => hk a h)
  have hJ_23 : ∀ (H : Heap) (locs : List Loc) (ls : Array Slot) (v_23 : Int32), v_23 = (if ((xf_isIn p1 0 3) = true) ∧ ((xf_isIn p2 0 5) = true) then 1 else 0) → (xw E C g h S A) H → va_S A s.heap H locs → lv_has ls 3 [(0, .ref (g 0 0)), (1, .int p1), (2, .int p2)] → cx_G p l e { frames := 7, cells := 1, slots := 10, locals := 241 } s m [.ref (g 0 0), .int p1, .int p2] below meth c A (xq_Q (fun z => z) E C (g 0 0) A (xp_stop S p1 p2)) (xq_X E C g h S A (xp_stop S p1 p2)) 1 10 H locs 0 0 (F0 m 23 ls [.int v_23]) := by
    intro H locs ls v_23 e_v_23 hR hS hl
    subst e_v_23
    by_cases c_1 : ((xf_isIn p1 0 3) = true) ∧ ((xf_isIn p2 0 5) = true)
    · skip
      have hf := (if_pos c_1).symm.trans hf
      have c_2 := c_1.1
      have c_3 := c_1.2
      have e4 := xq_st c_2
      have c_4 := xq_vp4 c_2
      have hp2 := xq_vp6 c_3
      have c_5 := xq_vp6 c_3
      refine ps_callv (As := [.int (if ((xf_isIn p1 0 3) = true) ∧ ((xf_isIn p2 0 5) = true) then 1 else 0)]) (rest := []) ⟨hx, hb, hml, hown, hts⟩ (xo_requireIndex l _) (va_cwS 1 hts (lw_S q298 q299 q33 q300) rfl rfl rfl (by decide +kernel) ⟨Nat.le_of_ble_eq_true rfl, Nat.le_of_ble_eq_true rfl⟩) (if_pos c_1) hS rfl hl.1 rfl (Nat.le_of_ble_eq_true rfl) dX1_stop_23 ⟨Nat.le_of_ble_eq_true rfl, Nat.le_of_ble_eq_true rfl⟩ (fun H locs hz hk hS => ?_)
      have hR := hR.kept (fun a _ h => hk a h)
      refine lv_aload_n hx hb dX1_stop_26 rfl (lv_at hl 0 rfl) ?_
      refine kw_get (C := RX1) (T := TX1) (N := 12) (v := .ref (g 1 0)) hx hb hts in_X1 hown hK.1 hR 0 0 rfl rfl rfl 5 (by decide) (hts _ q174) (fun _ h9 => h9) rfl dX1_stop_27 ?_
      refine lv_iload_n hx hb dX1_stop_30 rfl (lv_at hl 1 rfl) ?_
      refine cq_F (v := (some (.ref (g 1 (3 + p1.toNatClampNeg))))) (As := [.int p1]) (rest := []) hK hZ hA hAA hS hR (xg_get hI hh (Nat.lt_of_lt_of_le (by decide) (Nat.le_add_right 7 _)) (by rw [e4.2]; exact nI_nn (by have := e4.1; omega)) (by rw [xi_tr hI, e4.2]; exact nI_lt e4.1 (by decide)) rfl) (jt_get l E C A H.size (xok S) g (xen E C g h S) 0 (S 20 0) (S 21 0) (cz S 0) (h 0) p1 (g 1 (3 + p1.toNatClampNeg))) (fun _ h => hA _ (Nat.le_trans hS.1 h)) (hK.1.1 5 _ rfl).2 ⟨hx, hb, hml, hown, hts⟩ (va_cwF 1 hts (lw_F q369 q372 q374 q36 q376) rfl rfl rfl (fw_get hK) (by decide +kernel) ⟨Nat.le_of_ble_eq_true rfl, Nat.le_of_ble_eq_true rfl⟩) (kw_recv (t := 1) (i := 0) hK.1 hR (Nat.lt_of_lt_of_le (by decide) (Nat.le_add_right 7 _)) rfl rfl) rfl hl.1 rfl (Nat.le_of_ble_eq_true rfl) dX1_stop_31 ⟨Nat.le_of_ble_eq_true rfl, Nat.le_of_ble_eq_true rfl⟩ (fun H locs hB hz hk hS => ?_)
      have hR := hR.kept (fun a _ h => hk a h (Nat.not_le.mpr h))
      refine W.eq (g2 := F0 m 36 ls [.ref (g 1 (3 + p1.toNatClampNeg))]) rfl ?_
      refine va_castY (C := RJ2) hx hb hown (hts _ q387) (hK.2.1 _ q105 rfl) (kw_recv (t := 1) (i := (3 + p1.toNatClampNeg)) hK.1 hR (show 3 + p1.toNatClampNeg < 7 + nz S 1 by have := e4.1; omega) rfl rfl) dX1_stop_36 ?_
      refine cq_F (v := (some (.int (S 21 (3 + p1.toNatClampNeg))))) (As := []) (rest := []) hK hZ hA hAA hS hR ⟨(show 3 + p1.toNatClampNeg < 7 + nz S 1 by have := e4.1; omega), rfl⟩ (jt_size l E C A H.size (xok S) g (xen E C g h S) (3 + p1.toNatClampNeg) (S 20 (3 + p1.toNatClampNeg)) (S 21 (3 + p1.toNatClampNeg)) (.ref (if cz S (3 + p1.toNatClampNeg) = 0 then C.2.1 else g 2 (3 + p1.toNatClampNeg)))) (fun _ h => hA _ (Nat.le_trans hS.1 h)) (hK.1.1 5 _ rfl).2 ⟨hx, hb, hml, hown, hts⟩ (va_cwF 0 hts (lw_F q389 q392 q394 q36 q396) rfl rfl rfl (fw_size hK) (by decide +kernel) ⟨Nat.le_of_ble_eq_true rfl, Nat.le_of_ble_eq_true rfl⟩) (kw_recv (t := 1) (i := (3 + p1.toNatClampNeg)) hK.1 hR (show 3 + p1.toNatClampNeg < 7 + nz S 1 by have := e4.1; omega) rfl rfl) rfl hl.1 rfl (Nat.le_of_ble_eq_true rfl) dX1_stop_39 ⟨Nat.le_of_ble_eq_true rfl, Nat.le_of_ble_eq_true rfl⟩ (fun H locs hB hz hk hS => ?_)
      have hR := hR.kept (fun a _ h => hk a h (Nat.not_le.mpr h))
      refine W.eq (g2 := F0 m 44 ls [.int (S 21 (3 + p1.toNatClampNeg))]) rfl ?_
      refine lv_bipush (v := 6) hx hb dX1_stop_44 (by decide) ?_
      have hJ_79 : ∀ (H : Heap) (locs : List Loc) (ls : Array Slot) (v_79 : Int32), v_79 = (if (¬ (6 ≤ (S 21 (3 + p1.toNatClampNeg)))) ∧ (¬ (¬ ((jf_idx (fun j => (S 72 (8 * p1.toNatClampNeg + j) + 128).toNatClampNeg) ((p2 + 128).toNatClampNeg) (nz S (3 + p1.toNatClampNeg)) 0) < 0))) then 1 else 0) → (xw E C g h S A) H → va_S A s.heap H locs → lv_has ls 3 [(0, .ref (g 0 0)), (1, .int p1), (2, .int p2)] → cx_G p l e { frames := 7, cells := 1, slots := 10, locals := 241 } s m [.ref (g 0 0), .int p1, .int p2] below meth c A (xq_Q (fun z => z) E C (g 0 0) A (xp_stop S p1 p2)) (xq_X E C g h S A (xp_stop S p1 p2)) 1 10 H locs 0 0 (F0 m 79 ls [.int v_79]) := by
        intro H locs ls v_79 e_v_79 hR hS hl
        subst e_v_79
        by_cases c_6 : (¬ (6 ≤ (S 21 (3 + p1.toNatClampNeg)))) ∧ (¬ (¬ ((jf_idx (fun j => (S 72 (8 * p1.toNatClampNeg + j) + 128).toNatClampNeg) ((p2 + 128).toNatClampNeg) (nz S (3 + p1.toNatClampNeg)) 0) < 0)))
        · skip
          have hf := (if_pos c_6).symm.trans hf
          have c_7 := c_6.1
          have c_8 := c_6.2
          have hn6 := xq_n6 hI e4.1 c_7
          have c_9 := Decidable.not_not.mp c_8
          refine ps_callv (As := [.int (if (¬ (6 ≤ (S 21 (3 + p1.toNatClampNeg)))) ∧ (¬ (¬ ((jf_idx (fun j => (S 72 (8 * p1.toNatClampNeg + j) + 128).toNatClampNeg) ((p2 + 128).toNatClampNeg) (nz S (3 + p1.toNatClampNeg)) 0) < 0))) then 1 else 0)]) (rest := []) ⟨hx, hb, hml, hown, hts⟩ (xo_requireState l _) (va_cwS 1 hts (lw_S q457 q458 q33 q459) rfl rfl rfl (by decide +kernel) ⟨Nat.le_of_ble_eq_true rfl, Nat.le_of_ble_eq_true rfl⟩) (if_pos c_6) hS rfl hl.1 rfl (Nat.le_of_ble_eq_true rfl) dX1_stop_79 ⟨Nat.le_of_ble_eq_true rfl, Nat.le_of_ble_eq_true rfl⟩ (fun H locs hz hk hS => ?_)
          have hR := hR.kept (fun a _ h => hk a h)
          refine lv_aload_n hx hb dX1_stop_82 rfl (lv_at hl 0 rfl) ?_
          refine kw_get (C := RX1) (T := TX1) (N := 12) (v := .ref (g 1 0)) hx hb hts in_X1 hown hK.1 hR 0 0 rfl rfl rfl 5 (by decide) (hts _ q174) (fun _ h9 => h9) rfl dX1_stop_83 ?_
          refine lv_iload_n hx hb dX1_stop_86 rfl (lv_at hl 1 rfl) ?_
          refine cq_F (v := (some (.ref (g 1 (3 + p1.toNatClampNeg))))) (As := [.int p1]) (rest := []) hK hZ hA hAA hS hR (xg_get hI hh (Nat.lt_of_lt_of_le (by decide) (Nat.le_add_right 7 _)) (by rw [e4.2]; exact nI_nn (by have := e4.1; omega)) (by rw [xi_tr hI, e4.2]; exact nI_lt e4.1 (by decide)) rfl) (jt_get l E C A H.size (xok S) g (xen E C g h S) 0 (S 20 0) (S 21 0) (cz S 0) (h 0) p1 (g 1 (3 + p1.toNatClampNeg))) (fun _ h => hA _ (Nat.le_trans hS.1 h)) (hK.1.1 5 _ rfl).2 ⟨hx, hb, hml, hown, hts⟩ (va_cwF 1 hts (lw_F q369 q372 q374 q36 q376) rfl rfl rfl (fw_get hK) (by decide +kernel) ⟨Nat.le_of_ble_eq_true rfl, Nat.le_of_ble_eq_true rfl⟩) (kw_recv (t := 1) (i := 0) hK.1 hR (Nat.lt_of_lt_of_le (by decide) (Nat.le_add_right 7 _)) rfl rfl) rfl hl.1 rfl (Nat.le_of_ble_eq_true rfl) dX1_stop_87 ⟨Nat.le_of_ble_eq_true rfl, Nat.le_of_ble_eq_true rfl⟩ (fun H locs hB hz hk hS => ?_)
          have hR := hR.kept (fun a _ h => hk a h (Nat.not_le.mpr h))
          refine W.eq (g2 := F0 m 92 ls [.ref (g 1 (3 + p1.toNatClampNeg))]) rfl ?_
          refine va_castY (C := RJ2) hx hb hown (hts _ q387) (hK.2.1 _ q105 rfl) (kw_recv (t := 1) (i := (3 + p1.toNatClampNeg)) hK.1 hR (show 3 + p1.toNatClampNeg < 7 + nz S 1 by have := e4.1; omega) rfl rfl) dX1_stop_92 ?_
          refine lv_iload_n hx hb dX1_stop_95 rfl (lv_at hl 2 rfl) ?_
          refine cq_S (v := (some (.ref (C.1 (p2 + 128).toNatClampNeg)))) (As := [.int p2]) (rest := [.ref (g 1 (3 + p1.toNatClampNeg))]) hK hZ hA hAA hS trivial (xr_w hp2).2 (jt_valueOf l E C A H.size p2) (fun _ h => hA _ (Nat.le_trans hS.1 h)) ⟨hx, hb, hml, hown, hts⟩ (va_cwS 1 hts (lw_S q397 q398 q52 q399) rfl rfl rfl (by decide +kernel) ⟨Nat.le_of_ble_eq_true rfl, Nat.le_of_ble_eq_true rfl⟩) rfl hl.1 rfl (Nat.le_of_ble_eq_true rfl) dX1_stop_96 ⟨Nat.le_of_ble_eq_true rfl, Nat.le_of_ble_eq_true rfl⟩ (fun H locs hB hz hk hS => ?_)
          have hR := hR.kept (fun a _ h => hk a h (Nat.not_le.mpr h))
          refine W.eq (g2 := F0 m 99 ls [.ref (C.1 (p2 + 128).toNatClampNeg), .ref (g 1 (3 + p1.toNatClampNeg))]) rfl ?_
          refine cq_F (v := (some (.int 1))) (As := [.ref (C.1 (p2 + 128).toNatClampNeg)]) (rest := []) hK hZ hA hAA hS hR (xg_ad hI hh (show 3 + p1.toNatClampNeg < 7 + nz S 1 by have := e4.1; omega) xok_9 (fun _ _ ho => ⟨ho, rfl, rfl⟩) (Or.inr ⟨_, (xr_w hp2).1, rfl⟩)) (jt_add l E C A H.size (xok S) g (xen E C g h S) (3 + p1.toNatClampNeg) (nz S (3 + p1.toNatClampNeg)) (cz S (3 + p1.toNatClampNeg)) (S 20 (3 + p1.toNatClampNeg)) (h (3 + p1.toNatClampNeg)) (C.1 (p2 + 128).toNatClampNeg)) (fun _ h => h) (hK.1.1 5 _ rfl).2 ⟨hx, hb, hml, hown, hts⟩ (va_cwF 1 hts (lw_F q102 q106 q108 q36 q110) rfl rfl rfl (fw_add hK) (by decide +kernel) ⟨Nat.le_of_ble_eq_true rfl, Nat.le_of_ble_eq_true rfl⟩) (kw_recv (t := 1) (i := (3 + p1.toNatClampNeg)) hK.1 hR (show 3 + p1.toNatClampNeg < 7 + nz S 1 by have := e4.1; omega) rfl rfl) rfl hl.1 rfl (Nat.le_of_ble_eq_true rfl) dX1_stop_99 ⟨Nat.le_of_ble_eq_true rfl, (by rw [Nat.zero_add]; exact na_S6 hn6)⟩ (fun H locs hB hz hk hS => ?_)
          refine W.widen (k := 1) (n := 10) (Nat.le_of_ble_eq_true rfl) (by rw [Nat.zero_add]; exact na_S6 hn6) ?_
          obtain ⟨g, h, hg0, hh, hR⟩ := x_stopped hI hh e4.1 hB
          have hI := xi_stopped hI e4.1 hn6 hp2
          rw [← hg0] at hl
          generalize hS2 : (gs_up (xs_add S (3 + p1.toNatClampNeg)) 72 (8 * p1.toNatClampNeg + nz S (3 + p1.toNatClampNeg)) p2) = S2 at hR hh hI
          refine W.eq (g2 := F0 m 104 ls [.int 1]) rfl ?_
          refine lv_pop hx hb dX1_stop_104 rfl ?_
          refine lv_aload_n hx hb dX1_stop_105 rfl (lv_at hl 0 rfl) ?_
          refine kw_get (C := RX1) (T := TX1) (N := 12) (v := .ref (g 1 0)) hx hb hts in_X1 hown hK.1 hR 0 0 rfl rfl rfl 5 (by decide) (hts _ q174) (fun _ h9 => h9) rfl dX1_stop_106 ?_
          refine lv_iload_n hx hb dX1_stop_109 rfl (lv_at hl 1 rfl) ?_
          refine cq_F (v := (some (.ref (g 1 (3 + p1.toNatClampNeg))))) (As := [.int p1]) (rest := []) hK hZ hA hAA hS hR (xg_get hI hh (Nat.lt_of_lt_of_le (by decide) (Nat.le_add_right 7 _)) (by rw [e4.2]; exact nI_nn (by have := e4.1; omega)) (by rw [xi_tr hI, e4.2]; exact nI_lt e4.1 (by decide)) rfl) (jt_get l E C A H.size (xok S2) g (xen E C g h S2) 0 (S2 20 0) (S2 21 0) (cz S2 0) (h 0) p1 (g 1 (3 + p1.toNatClampNeg))) (fun _ h => hA _ (Nat.le_trans hS.1 h)) (hK.1.1 5 _ rfl).2 ⟨hx, hb, hml, hown, hts⟩ (va_cwF 1 hts (lw_F q369 q372 q374 q36 q376) rfl rfl rfl (fw_get hK) (by decide +kernel) ⟨Nat.le_of_ble_eq_true rfl, Nat.le_of_ble_eq_true rfl⟩) (kw_recv (t := 1) (i := 0) hK.1 hR (Nat.lt_of_lt_of_le (by decide) (Nat.le_add_right 7 _)) rfl rfl) rfl hl.1 rfl (Nat.le_of_ble_eq_true rfl) dX1_stop_110 ⟨Nat.le_of_ble_eq_true rfl, Nat.le_of_ble_eq_true rfl⟩ (fun H locs hB hz hk hS => ?_)
          have hR := hR.kept (fun a _ h => hk a h (Nat.not_le.mpr h))
          refine W.eq (g2 := F0 m 115 ls [.ref (g 1 (3 + p1.toNatClampNeg))]) rfl ?_
          refine va_castY (C := RJ2) hx hb hown (hts _ q387) (hK.2.1 _ q105 rfl) (kw_recv (t := 1) (i := (3 + p1.toNatClampNeg)) hK.1 hR (show 3 + p1.toNatClampNeg < 7 + nz S2 1 by have := e4.1; omega) rfl rfl) dX1_stop_115 ?_
          refine cq_F (v := (some (.int (S2 21 (3 + p1.toNatClampNeg))))) (As := []) (rest := []) hK hZ hA hAA hS hR ⟨(show 3 + p1.toNatClampNeg < 7 + nz S2 1 by have := e4.1; omega), rfl⟩ (jt_size l E C A H.size (xok S2) g (xen E C g h S2) (3 + p1.toNatClampNeg) (S2 20 (3 + p1.toNatClampNeg)) (S2 21 (3 + p1.toNatClampNeg)) (.ref (if cz S2 (3 + p1.toNatClampNeg) = 0 then C.2.1 else g 2 (3 + p1.toNatClampNeg)))) (fun _ h => hA _ (Nat.le_trans hS.1 h)) (hK.1.1 5 _ rfl).2 ⟨hx, hb, hml, hown, hts⟩ (va_cwF 0 hts (lw_F q389 q392 q394 q36 q396) rfl rfl rfl (fw_size hK) (by decide +kernel) ⟨Nat.le_of_ble_eq_true rfl, Nat.le_of_ble_eq_true rfl⟩) (kw_recv (t := 1) (i := (3 + p1.toNatClampNeg)) hK.1 hR (show 3 + p1.toNatClampNeg < 7 + nz S2 1 by have := e4.1; omega) rfl rfl) rfl hl.1 rfl (Nat.le_of_ble_eq_true rfl) dX1_stop_118 ⟨Nat.le_of_ble_eq_true rfl, Nat.le_of_ble_eq_true rfl⟩ (fun H locs hB hz hk hS => ?_)
          have hR := hR.kept (fun a _ h => hk a h (Nat.not_le.mpr h))
          refine W.eq (g2 := F0 m 123 ls [.int (S2 21 (3 + p1.toNatClampNeg))]) rfl ?_
          subst hS2
          exact vx_ret (W.iret (v := ((gs_up (xs_add S (3 + p1.toNatClampNeg)) 72 (8 * p1.toNatClampNeg + nz S (3 + p1.toNatClampNeg)) p2) 21 (3 + p1.toNatClampNeg))) hx hb hr (fun t ht hW => ⟨⟨_, _, hf.symm, rfl, g, h, hg0, hh, by rw [ht]; exact hR⟩, hS.F ht⟩) hS.2.2 dX1_stop_123)
        · skip
          have hf := (if_neg c_6).symm.trans hf
          refine W.eq (g2 := F0 m 79 ls [.int 0]) (congrArg (fun z => F0 m 79 ls (.int z :: [])) (if_neg c_6)) ?_
          refine cx_S (X := fun _ => True) (P := True) (As := [.int 0]) (rest := []) hK hZ hA hAA hS trivial trivial (xt_requireState l hfl E C A H.size) (fun _ h => hA _ (Nat.le_trans hS.1 h)) ⟨hx, hb, hml, hown, hts⟩ (va_cwS 1 hts (lw_S q457 q458 q33 q459) rfl rfl rfl (by decide +kernel) ⟨Nat.le_of_ble_eq_true rfl, Nat.le_of_ble_eq_true rfl⟩) rfl hl.1 rfl (Nat.le_of_ble_eq_true rfl) dX1_stop_79 ⟨Nat.le_of_ble_eq_true rfl, Nat.le_of_ble_eq_true rfl⟩ (fun ce q9 H locs hB hz hk hS hc9 hv9 hcl => ?_)
          have hR := hR.kept (fun a _ h => hk a h (Nat.not_le.mpr h))
          exact vx_out (fun x h => (hnt x h).elim) hlocks hc9 hv9 hcl (fun t ht _ => ⟨⟨hf.symm, by rw [ht]; exact hR⟩, hS.F ht⟩) hS.2.2 (Nat.le_of_ble_eq_true rfl) (Nat.le_of_ble_eq_true rfl)
      refine lv_icmp_ge (tgt := 78) hx hb dX1_stop_46 (by decide) (fun c_10 => ?_) (fun c_10 => ?_)
      · skip
        refine lv_iconst (v := 0) hx hb dX1_stop_78 (by decide) ?_
        exact hJ_79 _ _ _ 0 (gi_0 (gi_na_t c_10)) hR hS (lv_sub hl [0, 1, 2] rfl)
      · skip
        have hn6 := xq_n6 hI e4.1 c_10
        refine lv_aload_n hx hb dX1_stop_49 rfl (lv_at hl 0 rfl) ?_
        refine kw_get (C := RX1) (T := TX1) (N := 12) (v := .ref (g 1 0)) hx hb hts in_X1 hown hK.1 hR 0 0 rfl rfl rfl 5 (by decide) (hts _ q174) (fun _ h9 => h9) rfl dX1_stop_50 ?_
        refine lv_iload_n hx hb dX1_stop_53 rfl (lv_at hl 1 rfl) ?_
        refine cq_F (v := (some (.ref (g 1 (3 + p1.toNatClampNeg))))) (As := [.int p1]) (rest := []) hK hZ hA hAA hS hR (xg_get hI hh (Nat.lt_of_lt_of_le (by decide) (Nat.le_add_right 7 _)) (by rw [e4.2]; exact nI_nn (by have := e4.1; omega)) (by rw [xi_tr hI, e4.2]; exact nI_lt e4.1 (by decide)) rfl) (jt_get l E C A H.size (xok S) g (xen E C g h S) 0 (S 20 0) (S 21 0) (cz S 0) (h 0) p1 (g 1 (3 + p1.toNatClampNeg))) (fun _ h => hA _ (Nat.le_trans hS.1 h)) (hK.1.1 5 _ rfl).2 ⟨hx, hb, hml, hown, hts⟩ (va_cwF 1 hts (lw_F q369 q372 q374 q36 q376) rfl rfl rfl (fw_get hK) (by decide +kernel) ⟨Nat.le_of_ble_eq_true rfl, Nat.le_of_ble_eq_true rfl⟩) (kw_recv (t := 1) (i := 0) hK.1 hR (Nat.lt_of_lt_of_le (by decide) (Nat.le_add_right 7 _)) rfl rfl) rfl hl.1 rfl (Nat.le_of_ble_eq_true rfl) dX1_stop_54 ⟨Nat.le_of_ble_eq_true rfl, Nat.le_of_ble_eq_true rfl⟩ (fun H locs hB hz hk hS => ?_)
        have hR := hR.kept (fun a _ h => hk a h (Nat.not_le.mpr h))
        refine W.eq (g2 := F0 m 59 ls [.ref (g 1 (3 + p1.toNatClampNeg))]) rfl ?_
        refine va_castY (C := RJ2) hx hb hown (hts _ q387) (hK.2.1 _ q105 rfl) (kw_recv (t := 1) (i := (3 + p1.toNatClampNeg)) hK.1 hR (show 3 + p1.toNatClampNeg < 7 + nz S 1 by have := e4.1; omega) rfl rfl) dX1_stop_59 ?_
        refine lv_iload_n hx hb dX1_stop_62 rfl (lv_at hl 2 rfl) ?_
        refine cq_S (v := (some (.ref (C.1 (p2 + 128).toNatClampNeg)))) (As := [.int p2]) (rest := [.ref (g 1 (3 + p1.toNatClampNeg))]) hK hZ hA hAA hS trivial (xr_w hp2).2 (jt_valueOf l E C A H.size p2) (fun _ h => hA _ (Nat.le_trans hS.1 h)) ⟨hx, hb, hml, hown, hts⟩ (va_cwS 1 hts (lw_S q397 q398 q52 q399) rfl rfl rfl (by decide +kernel) ⟨Nat.le_of_ble_eq_true rfl, Nat.le_of_ble_eq_true rfl⟩) rfl hl.1 rfl (Nat.le_of_ble_eq_true rfl) dX1_stop_63 ⟨Nat.le_of_ble_eq_true rfl, Nat.le_of_ble_eq_true rfl⟩ (fun H locs hB hz hk hS => ?_)
        have hR := hR.kept (fun a _ h => hk a h (Nat.not_le.mpr h))
        refine W.eq (g2 := F0 m 66 ls [.ref (C.1 (p2 + 128).toNatClampNeg), .ref (g 1 (3 + p1.toNatClampNeg))]) rfl ?_
        refine cq_F (v := (some (.int (gs_bz (decide (¬ ((jf_idx (fun j => (S 72 (8 * p1.toNatClampNeg + j) + 128).toNatClampNeg) ((p2 + 128).toNatClampNeg) (nz S (3 + p1.toNatClampNeg)) 0) < 0))))))) (As := [.ref (C.1 (p2 + 128).toNatClampNeg)]) (rest := []) hK hZ hA hAA hS hR ⟨xg_has hI hh e4.1, (xr_w hp2).1⟩ (jt_contains l E C A H.size (xok S) g (xen E C g h S) (3 + p1.toNatClampNeg) (S 20 (3 + p1.toNatClampNeg)) (nz S (3 + p1.toNatClampNeg)) (if cz S (3 + p1.toNatClampNeg) = 0 then C.2.1 else g 2 (3 + p1.toNatClampNeg)) (cz S (3 + p1.toNatClampNeg)) (h (3 + p1.toNatClampNeg)) (fun j => (S 72 (8 * p1.toNatClampNeg + j) + 128).toNatClampNeg) ((p2 + 128).toNatClampNeg)) (fun _ h => hA _ (Nat.le_trans hS.1 h)) (hK.1.1 5 _ rfl).2 ⟨hx, hb, hml, hown, hts⟩ (va_cwF 1 hts (lw_F q418 q421 q423 q36 q425) rfl rfl rfl (fw_contains hK) (by decide +kernel) ⟨Nat.le_of_ble_eq_true rfl, Nat.le_of_ble_eq_true rfl⟩) (kw_recv (t := 1) (i := (3 + p1.toNatClampNeg)) hK.1 hR (show 3 + p1.toNatClampNeg < 7 + nz S 1 by have := e4.1; omega) rfl rfl) rfl hl.1 rfl (Nat.le_of_ble_eq_true rfl) dX1_stop_66 ⟨Nat.le_of_ble_eq_true rfl, Nat.le_of_ble_eq_true rfl⟩ (fun H locs hB hz hk hS => ?_)
        have hR := hR.kept (fun a _ h => hk a h (Nat.not_le.mpr h))
        refine W.eq (g2 := F0 m 71 ls [.int (if ¬ ((jf_idx (fun j => (S 72 (8 * p1.toNatClampNeg + j) + 128).toNatClampNeg) ((p2 + 128).toNatClampNeg) (nz S (3 + p1.toNatClampNeg)) 0) < 0) then 1 else 0)]) (by rw [gs_bz_dec]; rfl) ?_
        refine lv_if_ne (tgt := 78) hx hb dX1_stop_71 (by decide) (fun c_11 => ?_) (fun c_11 => ?_)
        · skip
          have c_11 : ¬ ((jf_idx (fun j => (S 72 (8 * p1.toNatClampNeg + j) + 128).toNatClampNeg) ((p2 + 128).toNatClampNeg) (nz S (3 + p1.toNatClampNeg)) 0) < 0) := gs_zt (φ := ¬ ((jf_idx (fun j => (S 72 (8 * p1.toNatClampNeg + j) + 128).toNatClampNeg) ((p2 + 128).toNatClampNeg) (nz S (3 + p1.toNatClampNeg)) 0) < 0)) c_11
          refine lv_iconst (v := 0) hx hb dX1_stop_78 (by decide) ?_
          exact hJ_79 _ _ _ 0 (gi_0 ((gi_nb_t c_11).trans (gi_na_f c_10))) hR hS (lv_sub hl [0, 1, 2] rfl)
        · skip
          have c_11 : ¬ (¬ ((jf_idx (fun j => (S 72 (8 * p1.toNatClampNeg + j) + 128).toNatClampNeg) ((p2 + 128).toNatClampNeg) (nz S (3 + p1.toNatClampNeg)) 0) < 0)) := gs_zf (φ := ¬ ((jf_idx (fun j => (S 72 (8 * p1.toNatClampNeg + j) + 128).toNatClampNeg) ((p2 + 128).toNatClampNeg) (nz S (3 + p1.toNatClampNeg)) 0) < 0)) c_11
          have c_12 := Decidable.not_not.mp c_11
          refine lv_iconst (v := 1) hx hb dX1_stop_74 (by decide) ?_
          refine lv_goto (tgt := 79) hx hb dX1_stop_75 (by decide) ?_
          exact hJ_79 _ _ _ 1 (gi_1 ((gi_nb_f c_11).trans (gi_na_f c_10))) hR hS (lv_sub hl [0, 1, 2] rfl)
    · skip
      have hf := (if_neg c_1).symm.trans hf
      refine W.eq (g2 := F0 m 23 ls [.int 0]) (congrArg (fun z => F0 m 23 ls (.int z :: [])) (if_neg c_1)) ?_
      refine cx_S (X := fun _ => True) (P := True) (As := [.int 0]) (rest := []) hK hZ hA hAA hS trivial trivial (xt_requireIndex l hfl E C A H.size) (fun _ h => hA _ (Nat.le_trans hS.1 h)) ⟨hx, hb, hml, hown, hts⟩ (va_cwS 1 hts (lw_S q298 q299 q33 q300) rfl rfl rfl (by decide +kernel) ⟨Nat.le_of_ble_eq_true rfl, Nat.le_of_ble_eq_true rfl⟩) rfl hl.1 rfl (Nat.le_of_ble_eq_true rfl) dX1_stop_23 ⟨Nat.le_of_ble_eq_true rfl, Nat.le_of_ble_eq_true rfl⟩ (fun ce q9 H locs hB hz hk hS hc9 hv9 hcl => ?_)
      have hR := hR.kept (fun a _ h => hk a h (Nat.not_le.mpr h))
      exact vx_out (fun x h => (hnt x h).elim) hlocks hc9 hv9 hcl (fun t ht _ => ⟨⟨hf.symm, by rw [ht]; exact hR⟩, hS.F ht⟩) hS.2.2 (Nat.le_of_ble_eq_true rfl) (Nat.le_of_ble_eq_true rfl)
  refine lv_if_eq (tgt := 22) hx hb dX1_stop_6 (by decide) (fun c_13 => ?_) (fun c_13 => ?_)
  · skip
    have c_13 : ¬ ((xf_isIn p1 0 3) = true) := gs_zf (φ := (xf_isIn p1 0 3) = true) c_13
    refine lv_iconst (v := 0) hx hb dX1_stop_22 (by decide) ?_
    exact hJ_23 _ _ _ 0 (gi_0 (gi_ca_f c_13)) hR hS (lv_sub hl [0, 1, 2] rfl)
  · skip
    have c_13 : (xf_isIn p1 0 3) = true := gs_zt (φ := (xf_isIn p1 0 3) = true) c_13
    have e4 := xq_st c_13
    have c_14 := xq_vp4 c_13
    refine lv_iload_n hx hb dX1_stop_9 rfl (lv_at hl 2 rfl) ?_
    refine lv_iconst (v := 0) hx hb dX1_stop_10 (by decide) ?_
    refine lv_iconst (v := 5) hx hb dX1_stop_11 (by decide) ?_
    refine ps_calli (As := [.int p2, .int 0, .int 5]) (rest := []) ⟨hx, hb, hml, hown, hts⟩ (xt_isIn l p2 0 5) (va_cwS 3 hts (lw_S q295 q296 q33 q297) rfl rfl rfl (by decide +kernel) ⟨Nat.le_of_ble_eq_true rfl, Nat.le_of_ble_eq_true rfl⟩) trivial hS rfl hl.1 rfl (Nat.le_of_ble_eq_true rfl) dX1_stop_12 ⟨Nat.zero_le _, Nat.zero_le _⟩ (fun H locs hz hk hS => ?_)
    have hR := hR.kept (fun a _ h => hk a h)
    refine lv_if_eq (tgt := 22) hx hb dX1_stop_15 (by decide) (fun c_15 => ?_) (fun c_15 => ?_)
    · skip
      have c_15 : ¬ ((xf_isIn p2 0 5) = true) := gs_zf (φ := (xf_isIn p2 0 5) = true) c_15
      refine lv_iconst (v := 0) hx hb dX1_stop_22 (by decide) ?_
      exact hJ_23 _ _ _ 0 (gi_0 ((gi_cb_f c_15).trans (gi_ca_t c_13))) hR hS (lv_sub hl [0, 1, 2] rfl)
    · skip
      have c_15 : (xf_isIn p2 0 5) = true := gs_zt (φ := (xf_isIn p2 0 5) = true) c_15
      have hp2 := xq_vp6 c_15
      have c_16 := xq_vp6 c_15
      refine lv_iconst (v := 1) hx hb dX1_stop_18 (by decide) ?_
      refine lv_goto (tgt := 23) hx hb dX1_stop_19 (by decide) ?_
      exact hJ_23 _ _ _ 1 (gi_1 ((gi_cb_t c_15).trans (gi_ca_t c_13))) hR hS (lv_sub hl [0, 1, 2] rfl)
