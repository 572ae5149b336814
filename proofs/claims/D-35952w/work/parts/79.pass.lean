def xp_turnUp (S : gs_T) (p1 : Int32) (p2 : Int32) : String ⊕ (Int32 × gs_T) := (if (xf_isIn p1 0 ((S 21 1) - 1)) = true then (if (xf_isIn p2 0 5) = true then (if (S 36 p1.toNatClampNeg) = 2 then (.inr (((xc_come S p1.toNatClampNeg p2) 21 (7 + p1.toNatClampNeg)), (xc_come S p1.toNatClampNeg p2))) else (.inl "java/lang/IllegalStateException")) else (.inl "java/lang/IndexOutOfBoundsException")) else (.inl "java/lang/IndexOutOfBoundsException"))
def xp_pass_L58 (i_58 : Nat) (S_58 : gs_T) : gs_T := (if (S_58 36 i_58) = 1 then (if (S_58 40 i_58) = (S_58 0 0) then (xc_come S_58 i_58 (S_58 39 i_58)) else S_58) else S_58)
def xp_pass_R58 (n i : Nat) (a : gs_T) : gs_T := lp_up (fun i a => xp_pass_L58 i a) n i a
def xp_pass_L122 (i_122 : Nat) (S_122 : gs_T) : gs_T := (if (S_122 56 i_122) = 1 then (if ((S_122 0 0) - (S_122 57 i_122)) = 90 then (gs_up (gs_up (gs_up S_122 56 i_122 3) 54 i_122 0) 55 i_122 0) else S_122) else (if (S_122 56 i_122) = 2 then (if ((S_122 0 0) - (S_122 57 i_122)) = 90 then (gs_up (gs_up (gs_up S_122 56 i_122 3) 54 i_122 0) 55 i_122 0) else S_122) else S_122))
def xp_pass_R122 (n i : Nat) (a : gs_T) : gs_T := lp_up (fun i a => xp_pass_L122 i a) n i a
def xp_pass_L33 (S : gs_T) (i_33 : Nat) (S_33 : gs_T) : gs_T := (xp_pass_R122 (nz S 2) 0 (xp_pass_R58 (nz S 1) 0 (gs_up S_33 0 0 ((S_33 0 0) + 1))))
def xp_pass_R33 (S : gs_T) (n i : Nat) (a : gs_T) : gs_T := lp_up (fun i a => xp_pass_L33 S i a) n i a
def xp_pass (S : gs_T) (p1 : Int32) : String ⊕ (Int32 × gs_T) := (if (xf_isIn p1 1 400) = true then (if ¬ (9999 < ((S 0 0) + p1)) then (.inr (((xp_pass_R33 S p1.toNatClampNeg 0 S) 0 0), (xp_pass_R33 S p1.toNatClampNeg 0 S))) else (.inl "java/lang/IllegalStateException")) else (.inl "java/lang/IllegalArgumentException"))
set_option maxHeartbeats 2000000 in
set_option maxRecDepth 100000 in
theorem xs_turnUp (l : Launch) (hfl : l.stackTraces = false) (E : en_T) (C : ex_C) (A : Nat → Prop) (sz : Nat) (g : kw_A) (h : xh_T) (S : gs_T) (p1 : Int32) (p2 : Int32) : vx_Met l yX1_turnUp (ws_ yX1_turnUp cX1_turnUp 4 (some .int)) { frames := 8, cells := 2, slots := 20, locals := 262 } (cpc E C A sz [.ref (g 0 0), .int p1, .int p2] (xw E C g h S A) (xi_ok S ∧ xh C g h S)) (xq_Q (fun z => z) E C (g 0 0) A (xp_turnUp S p1 p2)) (xq_X E C g h S A (xp_turnUp S p1 p2)) 2 20 A := by
  refine cx_start (by decide) (Nat.le_of_ble_eq_true rfl) ?_
  intro p e s m below meth c ls hx hb hr hlocks hml hown hnm hnt hts hsz hK hZ hA hR hP hl
  subst hsz
  have hAA : ∀ a, A a → A a := fun _ h => h
  have hl : lv_has ls 4 [(0, .ref (g 0 0)), (1, .int p1), (2, .int p2)] := hl
  have hS : va_S A s.heap s.heap [] := va_S.rf
  have hZr := hZ
  obtain ⟨hI, hh⟩ := hP
  have hf : (xp_turnUp S p1 p2) = (xp_turnUp S p1 p2) := rfl
  refine lv_aload_n hx hb dX1_turnUp_0 rfl (lv_at hl 0 rfl) ?_
  refine lv_iload_n hx hb dX1_turnUp_1 rfl (lv_at hl 1 rfl) ?_
  by_cases c_1 : (xf_isIn p1 0 ((S 21 1) - 1)) = true
  · skip
    have hf := (if_pos c_1).symm.trans hf
    have of_2 := (xq_f hI c_1).1
    refine cq_V (v := (some (.ref (g 3 p1.toNatClampNeg)))) (As := [.int p1]) (rest := []) hK hZ hA hAA hS hR ⟨hI, hh, c_1⟩ (xt_findAt l E C A s.heap.size g h S p1) (fun _ h => hA _ (Nat.le_trans hS.1 h)) ⟨hx, hb, hml, hown, hts⟩ (cwV 1 hts (lw_V q586 q588 qs4 q33 q589) rfl rfl rfl (by decide +kernel) ⟨Nat.le_of_ble_eq_true rfl, Nat.le_of_ble_eq_true rfl⟩) (kw_recv (t := 0) (i := 0) hK.1 hR rfl rfl rfl) rfl hl.1 rfl (Nat.le_of_ble_eq_true rfl) dX1_turnUp_2 ⟨Nat.le_of_ble_eq_true rfl, Nat.le_of_ble_eq_true rfl⟩ (fun H locs hB hz hk hS => ?_)
    have hR := hR.kept (fun a _ h => hk a h (Nat.not_le.mpr h))
    refine W.eq (g2 := F0 m 5 ls [.ref (g 3 p1.toNatClampNeg)]) rfl ?_
    refine lv_astore_n (lv' := [(3, .ref (g 3 p1.toNatClampNeg)), (0, .ref (g 0 0)), (1, .int p1), (2, .int p2)]) hx hb dX1_turnUp_5 rfl hl (by decide) rfl (fun ls hl => ?_)
    refine lv_iload_n hx hb dX1_turnUp_6 rfl (lv_at hl 3 rfl) ?_
    refine lv_iconst (v := 0) hx hb dX1_turnUp_7 (by decide) ?_
    refine lv_iconst (v := 5) hx hb dX1_turnUp_8 (by decide) ?_
    refine ps_calli (As := [.int p2, .int 0, .int 5]) (rest := []) ⟨hx, hb, hml, hown, hts⟩ (xt_isIn l p2 0 5) (va_cwS 3 hts (lw_S q295 q296 q33 q297) rfl rfl rfl (by decide +kernel) ⟨Nat.le_of_ble_eq_true rfl, Nat.le_of_ble_eq_true rfl⟩) trivial hS rfl hl.1 rfl (Nat.le_of_ble_eq_true rfl) dX1_turnUp_9 ⟨Nat.zero_le _, Nat.zero_le _⟩ (fun H locs hz hk hS => ?_)
    have hR := hR.kept (fun a _ h => hk a h)
    by_cases c_2 : (xf_isIn p2 0 5) = true
    · skip
      have hf := (if_pos c_2).symm.trans hf
      have c_3 := xq_vp6 c_2
      refine ps_callv (As := [.int (if (xf_isIn p2 0 5) = true then 1 else 0)]) (rest := []) ⟨hx, hb, hml, hown, hts⟩ (xo_requireIndex l _) (va_cwS 1 hts (lw_S q298 q299 q33 q300) rfl rfl rfl (by decide +kernel) ⟨Nat.le_of_ble_eq_true rfl, Nat.le_of_ble_eq_true rfl⟩) (if_pos c_2) hS rfl hl.1 rfl (Nat.le_of_ble_eq_true rfl) dX1_turnUp_12 ⟨Nat.le_of_ble_eq_true rfl, Nat.le_of_ble_eq_true rfl⟩ (fun H locs hz hk hS => ?_)
      have hR := hR.kept (fun a _ h => hk a h)
      refine lv_aload_n hx hb dX1_turnUp_15 rfl (lv_at hl 0 rfl) ?_
      refine kw_getN (C := RX3) (T := TX3) (N := 15) (v := .int (S 36 p1.toNatClampNeg)) hx hb hts in_X3 hown hK.1 hR 3 p1.toNatClampNeg of_2 rfl rfl 6 (by decide) (va_Nw.use rfl (hK.2.1 _ q536 rfl)) (fun _ h9 => h9) rfl dX1_turnUp_16 ?_
      refine lv_iconst (v := 2) hx hb dX1_turnUp_19 (by decide) ?_
      have hJ_28 : ∀ (H : Heap) (locs : List Loc) (ls : Array Slot) (v_28 : Int32), v_28 = (if (S 36 p1.toNatClampNeg) = 2 then 1 else 0) → (xw E C g h S A) H → va_S A s.heap H locs → lv_has ls 4 [(2, .int p2), (3, .ref (g 3 p1.toNatClampNeg))] → cx_G p l e { frames := 8, cells := 2, slots := 20, locals := 262 } s m [.ref (g 0 0), .int p1, .int p2] below meth c A (xq_Q (fun z => z) E C (g 0 0) A (xp_turnUp S p1 p2)) (xq_X E C g h S A (xp_turnUp S p1 p2)) 2 20 H locs 0 0 (F0 m 28 ls [.int v_28]) := by
        intro H locs ls v_28 e_v_28 hR hS hl
        subst e_v_28
        by_cases c_4 : (S 36 p1.toNatClampNeg) = 2
        · skip
          have hf := (if_pos c_4).symm.trans hf
          refine ps_callv (As := [.int (if (S 36 p1.toNatClampNeg) = 2 then 1 else 0)]) (rest := []) ⟨hx, hb, hml, hown, hts⟩ (xo_requireState l _) (va_cwS 1 hts (lw_S q457 q458 q33 q459) rfl rfl rfl (by decide +kernel) ⟨Nat.le_of_ble_eq_true rfl, Nat.le_of_ble_eq_true rfl⟩) (if_pos c_4) hS rfl hl.1 rfl (Nat.le_of_ble_eq_true rfl) dX1_turnUp_28 ⟨Nat.le_of_ble_eq_true rfl, Nat.le_of_ble_eq_true rfl⟩ (fun H locs hz hk hS => ?_)
          have hR := hR.kept (fun a _ h => hk a h)
          refine lv_aload_n hx hb dX1_turnUp_31 rfl (lv_at hl 1 rfl) ?_
          refine lv_iload_n hx hb dX1_turnUp_32 rfl (lv_at hl 0 rfl) ?_
          refine cq_V (v := none) (As := [.int p2]) (rest := []) hK hZ hA hAA hS hR ⟨hI, hh, of_2⟩ (xt_come l E C A H.size g h S p1.toNatClampNeg p2) (fun _ h => h) ⟨hx, hb, hml, hown, hts⟩ (cwV 1 hts (lw_V q668 q669 q670 q55 q671) rfl rfl rfl (by decide +kernel) ⟨Nat.le_of_ble_eq_true rfl, Nat.le_of_ble_eq_true rfl⟩) (kw_recv (t := 3) (i := p1.toNatClampNeg) hK.1 hR of_2 rfl rfl) rfl hl.1 rfl (Nat.le_of_ble_eq_true rfl) dX1_turnUp_33 ⟨Nat.le_of_ble_eq_true rfl, Nat.le_of_ble_eq_true rfl⟩ (fun H locs hB hz hk hS => ?_)
          obtain ⟨g, h, hgo, hh, hR⟩ := hB
          try rw [← hgo 0 0 (by decide) (by decide)] at hl
          rw [← hgo 3 p1.toNatClampNeg (by decide) (by decide)] at hl
          have h_i2 : p1.toNatClampNeg < nz (xc_come S p1.toNatClampNeg p2) 1 := by rw [xc_nz (by omega)]; exact of_2
          generalize hS2 : xc_come S p1.toNatClampNeg p2 = S2 at hR hh h_i2
          refine W.eq (g2 := F0 m 36 ls []) rfl ?_
          refine lv_aload_n hx hb dX1_turnUp_36 rfl (lv_at hl 1 rfl) ?_
          refine kw_getN (C := RX3) (T := TX3) (N := 15) (v := .ref (g 1 (7 + p1.toNatClampNeg))) hx hb hts in_X3 hown hK.1 hR 3 p1.toNatClampNeg h_i2 rfl rfl 13 (by decide) (va_Nw.use rfl (hK.2.1 _ q546 rfl)) (fun _ h9 => h9) rfl dX1_turnUp_37 ?_
          refine cq_F (v := (some (.int (S2 21 (7 + p1.toNatClampNeg))))) (As := []) (rest := []) hK hZ hA hAA hS hR ⟨(Nat.add_lt_add_left h_i2 7), rfl⟩ (jt_size l E C A H.size (xok S2) g (xen E C g h S2) (7 + p1.toNatClampNeg) (S2 20 (7 + p1.toNatClampNeg)) (S2 21 (7 + p1.toNatClampNeg)) (.ref (if cz S2 (7 + p1.toNatClampNeg) = 0 then C.2.1 else g 2 (7 + p1.toNatClampNeg)))) (fun _ h => hA _ (Nat.le_trans hS.1 h)) (hK.1.1 5 _ rfl).2 ⟨hx, hb, hml, hown, hts⟩ (va_cwF 0 hts (lw_F q389 q392 q394 q36 q396) rfl rfl rfl (fw_size hK) (by decide +kernel) ⟨Nat.le_of_ble_eq_true rfl, Nat.le_of_ble_eq_true rfl⟩) (kw_recv (t := 1) (i := (7 + p1.toNatClampNeg)) hK.1 hR (Nat.add_lt_add_left h_i2 7) rfl rfl) rfl hl.1 rfl (Nat.le_of_ble_eq_true rfl) dX1_turnUp_40 ⟨Nat.le_of_ble_eq_true rfl, Nat.le_of_ble_eq_true rfl⟩ (fun H locs hB hz hk hS => ?_)
          have hR := hR.kept (fun a _ h => hk a h (Nat.not_le.mpr h))
          refine W.eq (g2 := F0 m 45 ls [.int (S2 21 (7 + p1.toNatClampNeg))]) rfl ?_
          subst hS2
          exact vx_ret (W.iret (v := ((xc_come S p1.toNatClampNeg p2) 21 (7 + p1.toNatClampNeg))) hx hb hr (fun t ht hW => ⟨⟨_, _, hf.symm, rfl, g, h, (hgo 0 0 (by decide) (by decide)), hh, by rw [ht]; exact hR⟩, hS.F ht⟩) hS.2.2 dX1_turnUp_45)
        · skip
          have hf := (if_neg c_4).symm.trans hf
          refine W.eq (g2 := F0 m 28 ls [.int 0]) (congrArg (fun z => F0 m 28 ls (.int z :: [])) (if_neg c_4)) ?_
          refine cx_S (X := fun _ => True) (P := True) (As := [.int 0]) (rest := []) hK hZ hA hAA hS trivial trivial (xt_requireState l hfl E C A H.size) (fun _ h => hA _ (Nat.le_trans hS.1 h)) ⟨hx, hb, hml, hown, hts⟩ (va_cwS 1 hts (lw_S q457 q458 q33 q459) rfl rfl rfl (by decide +kernel) ⟨Nat.le_of_ble_eq_true rfl, Nat.le_of_ble_eq_true rfl⟩) rfl hl.1 rfl (Nat.le_of_ble_eq_true rfl) dX1_turnUp_28 ⟨Nat.le_of_ble_eq_true rfl, Nat.le_of_ble_eq_true rfl⟩ (fun ce q9 H locs hB hz hk hS hc9 hv9 hcl => ?_)
          have hR := hR.kept (fun a _ h => hk a h (Nat.not_le.mpr h))
          exact vx_out (fun x h => (hnt x h).elim) hlocks hc9 hv9 hcl (fun t ht _ => ⟨⟨hf.symm, by rw [ht]; exact hR⟩, hS.F ht⟩) hS.2.2 (Nat.le_of_ble_eq_true rfl) (Nat.le_of_ble_eq_true rfl)
      refine lv_icmp_ne (tgt := 27) hx hb dX1_turnUp_20 (by decide) (fun c_5 => ?_) (fun c_5 => ?_)
      · skip
        refine lv_iconst (v := 0) hx hb dX1_turnUp_27 (by decide) ?_
        exact hJ_28 _ _ _ 0 (gi_0 (gi_cb_f c_5)) hR hS (lv_sub hl [3, 0] rfl)
      · skip
        refine lv_iconst (v := 1) hx hb dX1_turnUp_23 (by decide) ?_
        refine lv_goto (tgt := 28) hx hb dX1_turnUp_24 (by decide) ?_
        exact hJ_28 _ _ _ 1 (gi_1 (gi_cb_t c_5)) hR hS (lv_sub hl [3, 0] rfl)
    · skip
      have hf := (if_neg c_2).symm.trans hf
      refine W.eq (g2 := F0 m 12 ls [.int 0]) (congrArg (fun z => F0 m 12 ls (.int z :: [])) (if_neg c_2)) ?_
      refine cx_S (X := fun _ => True) (P := True) (As := [.int 0]) (rest := []) hK hZ hA hAA hS trivial trivial (xt_requireIndex l hfl E C A H.size) (fun _ h => hA _ (Nat.le_trans hS.1 h)) ⟨hx, hb, hml, hown, hts⟩ (va_cwS 1 hts (lw_S q298 q299 q33 q300) rfl rfl rfl (by decide +kernel) ⟨Nat.le_of_ble_eq_true rfl, Nat.le_of_ble_eq_true rfl⟩) rfl hl.1 rfl (Nat.le_of_ble_eq_true rfl) dX1_turnUp_12 ⟨Nat.le_of_ble_eq_true rfl, Nat.le_of_ble_eq_true rfl⟩ (fun ce q9 H locs hB hz hk hS hc9 hv9 hcl => ?_)
      have hR := hR.kept (fun a _ h => hk a h (Nat.not_le.mpr h))
      exact vx_out (fun x h => (hnt x h).elim) hlocks hc9 hv9 hcl (fun t ht _ => ⟨⟨hf.symm, by rw [ht]; exact hR⟩, hS.F ht⟩) hS.2.2 (Nat.le_of_ble_eq_true rfl) (Nat.le_of_ble_eq_true rfl)
  · skip
    have hf := (if_neg c_1).symm.trans hf
    refine cx_V (As := [.int p1]) (rest := []) hK hZ hA hAA hS hR ⟨hI, hh, c_1⟩ (xx_findAt l hfl E C A s.heap.size g h S p1) (fun _ h => hA _ (Nat.le_trans hS.1 h)) ⟨hx, hb, hml, hown, hts⟩ (cwV 1 hts (lw_V q586 q588 qs4 q33 q589) rfl rfl rfl (by decide +kernel) ⟨Nat.le_of_ble_eq_true rfl, Nat.le_of_ble_eq_true rfl⟩) (kw_recv (t := 0) (i := 0) hK.1 hR rfl rfl rfl) rfl hl.1 rfl (Nat.le_of_ble_eq_true rfl) dX1_turnUp_2 ⟨Nat.le_of_ble_eq_true rfl, Nat.le_of_ble_eq_true rfl⟩ (fun ce q9 H locs hB hz hk hS hc9 hv9 hcl => ?_)
    have hR := hR.kept (fun a _ h => hk a h (Nat.not_le.mpr h))
    exact vx_out (fun x h => (hnt x h).elim) hlocks hc9 hv9 hcl (fun t ht _ => ⟨⟨hf.symm, by rw [ht]; exact hR⟩, hS.F ht⟩) hS.2.2 (Nat.le_of_ble_eq_true rfl) (Nat.le_of_ble_eq_true rfl)
set_option maxHeartbeats 2000000 in
set_option maxRecDepth 100000 in
theorem xs_pass (l : Launch) (hfl : l.stackTraces = false) (E : en_T) (C : ex_C) (A : Nat → Prop) (sz : Nat) (g : kw_A) (h : xh_T) (S : gs_T) (p1 : Int32) (x0 : Nat) : vx_Met l yX1_pass (ws_ yX1_pass cX1_pass 5 (some .int)) { frames := 8, cells := 870, slots := 3850, locals := 262 } (cpc E C A sz [.ref x0, .int p1] (xw E C g h S A) (xi_ok S ∧ xh C g h S ∧ g 0 0 = x0)) (xq_Q (fun z => z) E C x0 A (xp_pass S p1)) (xq_X E C g h S A (xp_pass S p1)) 870 3850 A := by
  refine cx_start (by decide) (Nat.le_of_ble_eq_true rfl) ?_
  intro p e s m below meth c ls hx hb hr hlocks hml hown hnm hnt hts hsz hK hZ hA hR hP hl
  subst hsz
  have hAA : ∀ a, A a → A a := fun _ h => h
  have hl : lv_has ls 5 [(0, .ref x0), (1, .int p1)] := hl
  have hS : va_S A s.heap s.heap [] := va_S.rf
  have hZr := hZ
  obtain ⟨hI, hh, hg0⟩ := hP
  rw [← hg0] at hl
  have hf : (xp_pass S p1) = (xp_pass S p1) := rfl
  refine lv_iload_n hx hb dX1_pass_0 rfl (lv_at hl 1 rfl) ?_
  refine lv_iconst (v := 1) hx hb dX1_pass_1 (by decide) ?_
  refine lv_sipush (v := 400) hx hb dX1_pass_2 (by decide) ?_
  refine ps_calli (As := [.int p1, .int 1, .int 400]) (rest := []) ⟨hx, hb, hml, hown, hts⟩ (xt_isIn l p1 1 400) (va_cwS 3 hts (lw_S q295 q296 q33 q297) rfl rfl rfl (by decide +kernel) ⟨Nat.le_of_ble_eq_true rfl, Nat.le_of_ble_eq_true rfl⟩) trivial hS rfl hl.1 rfl (Nat.le_of_ble_eq_true rfl) dX1_pass_5 ⟨Nat.zero_le _, Nat.zero_le _⟩ (fun H locs hz hk hS => ?_)
  have hR := hR.kept (fun a _ h => hk a h)
  by_cases c_1 : (xf_isIn p1 1 400) = true
  · skip
    have hf := (if_pos c_1).symm.trans hf
    have h400 := xq_400 c_1
    refine ps_callv (As := [.int (if (xf_isIn p1 1 400) = true then 1 else 0)]) (rest := []) ⟨hx, hb, hml, hown, hts⟩ (xo_requireArgument l _) (va_cwS 1 hts (lw_S q322 q323 q33 q324) rfl rfl rfl (by decide +kernel) ⟨Nat.le_of_ble_eq_true rfl, Nat.le_of_ble_eq_true rfl⟩) (if_pos c_1) hS rfl hl.1 rfl (Nat.le_of_ble_eq_true rfl) dX1_pass_8 ⟨Nat.le_of_ble_eq_true rfl, Nat.le_of_ble_eq_true rfl⟩ (fun H locs hz hk hS => ?_)
    have hR := hR.kept (fun a _ h => hk a h)
    refine lv_aload_n hx hb dX1_pass_11 rfl (lv_at hl 0 rfl) ?_
    refine kw_get (C := RX1) (T := TX1) (N := 12) (v := .int (S 0 0)) hx hb hts in_X1 hown hK.1 hR 0 0 rfl rfl rfl 0 (by decide) (hts _ q168) (fun _ h9 => h9) rfl dX1_pass_12 ?_
    refine lv_iload_n hx hb dX1_pass_15 rfl (lv_at hl 1 rfl) ?_
    refine lv_iadd hx hb dX1_pass_16 ?_
    refine lv_sipush (v := 9999) hx hb dX1_pass_17 (by decide) ?_
    have hJ_28 : ∀ (H : Heap) (locs : List Loc) (ls : Array Slot) (v_28 : Int32), v_28 = (if ¬ (9999 < ((S 0 0) + p1)) then 1 else 0) → g 0 0 = x0 → (xw E C g h S A) H → xh C g h S → va_S A s.heap H locs → lv_has ls 5 [(0, .ref (g 0 0)), (1, .int p1)] → cx_G p l e { frames := 8, cells := 870, slots := 3850, locals := 262 } s m [.ref x0, .int p1] below meth c A (xq_Q (fun z => z) E C x0 A (xp_pass S p1)) (xq_X E C g h S A (xp_pass S p1)) 870 3850 H locs 0 0 (F0 m 28 ls [.int v_28]) := by
      intro H locs ls v_28 e_v_28 hg0 hR hh hS hl
      subst e_v_28
      by_cases c_2 : ¬ (9999 < ((S 0 0) + p1))
      · skip
        have hf := (if_pos c_2).symm.trans hf
        refine ps_callv (As := [.int (if ¬ (9999 < ((S 0 0) + p1)) then 1 else 0)]) (rest := []) ⟨hx, hb, hml, hown, hts⟩ (xo_requireState l _) (va_cwS 1 hts (lw_S q457 q458 q33 q459) rfl rfl rfl (by decide +kernel) ⟨Nat.le_of_ble_eq_true rfl, Nat.le_of_ble_eq_true rfl⟩) (if_pos c_2) hS rfl hl.1 rfl (Nat.le_of_ble_eq_true rfl) dX1_pass_28 ⟨Nat.le_of_ble_eq_true rfl, Nat.le_of_ble_eq_true rfl⟩ (fun H locs hz hk hS => ?_)
        have hR := hR.kept (fun a _ h => hk a h)
        generalize (xq_X E C g h S A (xp_pass S p1)) = XX
        have h401 := h400.1
        refine lv_iconst (v := 0) hx hb dX1_pass_31 (by decide) ?_
        refine lv_istore_n (lv' := [(2, .int 0), (0, .ref (g 0 0)), (1, .int p1)]) hx hb dX1_pass_32 rfl hl (by decide) rfl (fun ls hl => ?_)
        have hL_33 : ∀ (n_33 i_33 : Nat) (S_33 : gs_T) (g : kw_A) (h : xh_T) (H : Heap) (locs : List Loc) (ls : Array Slot), i_33 + n_33 = p1.toNatClampNeg → xp_pass_R33 S n_33 i_33 S_33 = (xp_pass_R33 S p1.toNatClampNeg 0 S) → xi_ok S_33 ∧ nz S_33 1 = nz S 1 ∧ nz S_33 2 = nz S 2 → g 0 0 = x0 → (xw E C g h S_33 A) H → xh C g h S_33 → va_S A s.heap H locs → lv_has ls 5 [(0, .ref (g 0 0)), (1, .int p1), (2, .int (nI i_33))] → cx_G p l e { frames := 8, cells := 870, slots := 3850, locals := 262 } s m [.ref x0, .int p1] below meth c A (xq_Q (fun z => z) E C x0 A (xp_pass S p1)) XX 870 3850 H locs (2 * i_33 + 2 * (30 - ct S_33)) (8 * i_33 + 20 * (30 - ct S_33)) (F0 m 33 ls []) := by
          intro n_33
          induction n_33 with
          | zero =>
            intro i_33 S_33 g h H locs ls hi_33 hg_33 hI_33 hg0 hR hh hS hl
            have hi_33 : i_33 = p1.toNatClampNeg := hi_33
            subst hi_33
            have e_S_33 : S_33 = (xp_pass_R33 S p1.toNatClampNeg 0 S) := congrArg (fun z => z) hg_33
            subst e_S_33
            refine lv_iload_n hx hb dX1_pass_33 rfl (lv_at hl 2 rfl) ?_
            refine lv_iload_n hx hb dX1_pass_34 rfl (lv_at hl 1 rfl) ?_
            refine lv_icmp_ge (tgt := 202) hx hb dX1_pass_35 (by decide) (fun c_3 => ?_) (fun c_3 => absurd (lp_x0 h400.2) c_3)
            refine lv_aload_n hx hb dX1_pass_202 rfl (lv_at hl 0 rfl) ?_
            refine kw_get (C := RX1) (T := TX1) (N := 12) (v := .int ((xp_pass_R33 S p1.toNatClampNeg 0 S) 0 0)) hx hb hts in_X1 hown hK.1 hR 0 0 rfl rfl rfl 0 (by decide) (hts _ q168) (fun _ h9 => h9) rfl dX1_pass_203 ?_
            refine W.widen (k := 870) (n := 3850) (by omega) (by omega) ?_
            exact vx_ret (W.iret (v := ((xp_pass_R33 S p1.toNatClampNeg 0 S) 0 0)) hx hb hr (fun t ht hW => ⟨⟨_, _, hf.symm, rfl, g, h, hg0, hh, by rw [ht]; exact hR⟩, hS.F ht⟩) hS.2.2 dX1_pass_206)
          | succ n_33 ih_33 =>
            intro i_33 S_33 g h H locs ls hi_33 hg_33 hI_33 hg0 hR hh hS hl
            have hlt_33 : i_33 < p1.toNatClampNeg := by omega
            have hf_33 : xp_pass_L33 S i_33 S_33 = xp_pass_L33 S i_33 S_33 := rfl
            refine lv_iload_n hx hb dX1_pass_33 rfl (lv_at hl 2 rfl) ?_
            refine lv_iload_n hx hb dX1_pass_34 rfl (lv_at hl 1 rfl) ?_
            refine lv_icmp_ge (tgt := 202) hx hb dX1_pass_35 (by decide) (fun c_4 => absurd c_4 (lp_x1 h400.2 hlt_33 (by omega))) (fun c_4 => ?_)
            refine lv_aload_n hx hb dX1_pass_38 rfl (lv_at hl 0 rfl) ?_
            refine lv_dup hx hb dX1_pass_39 rfl ?_
            refine kw_get (C := RX1) (T := TX1) (N := 12) (v := .int (S_33 0 0)) hx hb hts in_X1 hown hK.1 hR 0 0 rfl rfl rfl 0 (by decide) (hts _ q168) (fun _ h9 => h9) rfl dX1_pass_40 ?_
            refine lv_iconst (v := 1) hx hb dX1_pass_43 (by decide) ?_
            refine lv_iadd hx hb dX1_pass_44 ?_
            refine kw_put (C := RX1) (T := TX1) (N := 12) hx hb hts in_X1 tyX1 tyX1_ok nmX1 hown hK.1 hR hS 0 0 rfl rfl rfl 0 (by decide) (hts _ q168) (fun _ h9 => h9) (Or.inl rfl) rfl rfl rfl (Nat.le_of_ble_eq_true rfl) dX1_pass_45 (xen E C g h (gs_up S_33 0 0 ((S_33 0 0) + 1))) rfl (xn_x (k := 0) rfl) (fun H locs hR hS => ?_)
            have hR := xw_up rfl hR
            have hh := xh_up (k := 0) (i := 0) (v := ((S_33 0 0) + 1)) rfl hh
            refine lv_aload_n hx hb dX1_pass_48 rfl (lv_at hl 0 rfl) ?_
            refine kw_get (C := RX1) (T := TX1) (N := 12) (v := .ref (g 1 1)) hx hb hts in_X1 hown hK.1 hR 0 0 rfl rfl rfl 7 (by decide) (hts _ q176) (fun _ h9 => h9) rfl dX1_pass_49 ?_
            refine cq_FE (As := []) (rest := []) hK hZ hA hAA hS hR ⟨xok_8, (xg_hn (E := E) (C := C) (g := g) (h := h) (k := 0) (xi_up rfl hI_33.1) (Nat.lt_of_lt_of_le (by decide) (Nat.le_add_right 7 _)) (Nat.zero_le _)).1, (xg_hn (E := E) (C := C) (g := g) (h := h) (k := 0) (xi_up rfl hI_33.1) (Nat.lt_of_lt_of_le (by decide) (Nat.le_add_right 7 _)) (Nat.zero_le _)).2.1⟩ (jt_iterator l E C A H.size (xok (gs_up S_33 0 0 ((S_33 0 0) + 1))) g (xen E C g h (gs_up S_33 0 0 ((S_33 0 0) + 1))) 1 (nz (gs_up S_33 0 0 ((S_33 0 0) + 1)) 1) ((gs_up S_33 0 0 ((S_33 0 0) + 1)) 20 1) (.ref (if cz (gs_up S_33 0 0 ((S_33 0 0) + 1)) 1 = 0 then C.2.1 else g 2 1))) (fun _ h => h) (hK.1.1 5 _ rfl).2 ⟨hx, hb, hml, hown, hts⟩ (va_cwF 0 hts (lw_F q611 q614 q616 q36 q618) rfl rfl rfl (fw_iterator hK) (by decide +kernel) ⟨Nat.le_of_ble_eq_true rfl, Nat.le_of_ble_eq_true rfl⟩) (kw_recv (t := 1) (i := 1) hK.1 hR (Nat.lt_of_lt_of_le (by decide) (Nat.le_add_right 7 _)) rfl rfl) rfl hl.1 rfl (Nat.le_of_ble_eq_true rfl) dX1_pass_52 ⟨(show (2 * i_33 + 2 * (30 - ct S_33)) + 1 ≤ 870 by omega), (show (8 * i_33 + 20 * (30 - ct S_33)) + 4 ≤ 3850 by omega)⟩ (fun q_52 H locs hB hz hk hS => ?_)
            have hR : (xwi E C g h (gs_up S_33 0 0 ((S_33 0 0) + 1)) q_52 0 ((gs_up S_33 0 0 ((S_33 0 0) + 1)) 20 1) (g 1 1) A) H := hB.2
            refine W.eq (g2 := F0 m 57 ls [.ref q_52]) rfl ?_
            refine lv_astore_n (lv' := [(3, .ref q_52), (0, .ref (g 0 0)), (1, .int p1), (2, .int (nI i_33))]) hx hb dX1_pass_57 rfl hl (by decide) rfl (fun ls hl => ?_)
            have hL_58 : ∀ (n_58 i_58 : Nat) (S_58 : gs_T) (g : kw_A) (h : xh_T) (H : Heap) (locs : List Loc) (ls : Array Slot), i_58 + n_58 = (nz S 1) → xp_pass_R58 n_58 i_58 S_58 = (xp_pass_R58 (nz S 1) 0 (gs_up S_33 0 0 ((S_33 0 0) + 1))) → xi_ok S_58 ∧ nz S_58 1 = nz S 1 ∧ nz S_58 2 = nz S 2 → g 0 0 = x0 → (xwi E C g h S_58 q_52 i_58 (S_58 20 1) (g 1 1) A) H → xh C g h S_58 → va_S A s.heap H locs → lv_has ls 5 [(0, .ref (g 0 0)), (1, .int p1), (2, .int (nI i_33)), (3, .ref q_52)] → cx_G p l e { frames := 8, cells := 870, slots := 3850, locals := 262 } s m [.ref x0, .int p1] below meth c A (xq_Q (fun z => z) E C x0 A (xp_pass S p1)) XX 870 3850 H locs (2 * i_33 + 2 * (30 - ct S_58) + 1) (8 * i_33 + 20 * (30 - ct S_58) + 4) (F0 m 58 ls []) := by
              intro n_58
              induction n_58 with
              | zero =>
                intro i_58 S_58 g h H locs ls hi_58 hg_58 hI_58 hg0 hR hh hS hl
                have hi_58 : i_58 = (nz S 1) := hi_58
                subst hi_58
                have e_S_58 : S_58 = (xp_pass_R58 (nz S 1) 0 (gs_up S_33 0 0 ((S_33 0 0) + 1))) := congrArg (fun z => z) hg_58
                subst e_S_58
                refine lv_aload_n hx hb dX1_pass_58 rfl (lv_at hl 3 rfl) ?_
                refine cq_F (v := (some (.int (gs_bz (decide ((nz S 1) < nz (xp_pass_R58 (nz S 1) 0 (gs_up S_33 0 0 ((S_33 0 0) + 1))) 1)))))) (As := []) (rest := []) hK hZ hA hAA hS hR (xg_hn hI_58.1 (Nat.lt_of_lt_of_le (by decide) (Nat.le_add_right 7 _)) (Nat.le_of_eq hI_58.2.1.symm)) (jt_hasNext l E C A H.size (xok (xp_pass_R58 (nz S 1) 0 (gs_up S_33 0 0 ((S_33 0 0) + 1)))) g (xen E C g h (xp_pass_R58 (nz S 1) 0 (gs_up S_33 0 0 ((S_33 0 0) + 1)))) 1 q_52 (nz S 1) (nz (xp_pass_R58 (nz S 1) 0 (gs_up S_33 0 0 ((S_33 0 0) + 1))) 1) ((xp_pass_R58 (nz S 1) 0 (gs_up S_33 0 0 ((S_33 0 0) + 1))) 20 1) (.ref (if cz (xp_pass_R58 (nz S 1) 0 (gs_up S_33 0 0 ((S_33 0 0) + 1))) 1 = 0 then C.2.1 else g 2 1))) (fun _ h => hA _ (Nat.le_trans hS.1 h)) (hK.1.1 6 _ rfl).2 ⟨hx, hb, hml, hown, hts⟩ (va_cwF 0 hts (lw_F q639 q643 q645 q58 q647) rfl rfl rfl (fw_hasNext hK) (by decide +kernel) ⟨Nat.le_of_ble_eq_true rfl, Nat.le_of_ble_eq_true rfl⟩) (kw_recv (t := 8) (i := 0) hK.1 hR rfl rfl rfl) rfl hl.1 rfl (Nat.le_of_ble_eq_true rfl) dX1_pass_59 ⟨(show (2 * i_33 + 2 * (30 - ct (xp_pass_R58 (nz S 1) 0 (gs_up S_33 0 0 ((S_33 0 0) + 1)))) + 1) + 0 ≤ 870 by omega), (show (8 * i_33 + 20 * (30 - ct (xp_pass_R58 (nz S 1) 0 (gs_up S_33 0 0 ((S_33 0 0) + 1)))) + 4) + 0 ≤ 3850 by omega)⟩ (fun H locs hB hz hk hS => ?_)
                have hR := hR.kept (fun a _ h => hk a h (Nat.not_le.mpr h))
                refine W.eq (g2 := F0 m 64 ls [.int (if (nz S 1) < nz (xp_pass_R58 (nz S 1) 0 (gs_up S_33 0 0 ((S_33 0 0) + 1))) 1 then 1 else 0)]) (by rw [gs_bz_dec]; rfl) ?_
                refine lv_if_eq (tgt := 112) hx hb dX1_pass_64 (by decide) (fun c_5 => ?_) (fun c_5 => absurd (gs_zt c_5) (by rw [hI_58.2.1]; exact Nat.lt_irrefl _))
                refine lv_aload_n hx hb dX1_pass_112 rfl (lv_at hl 0 rfl) ?_
                refine kw_get (C := RX1) (T := TX1) (N := 12) (v := .ref (g 1 2)) hx hb hts in_X1 hown hK.1 (xwi_x hR) 0 0 rfl rfl rfl 8 (by decide) (hts _ q177) (fun _ h9 => h9) rfl dX1_pass_113 ?_
                have hR := xwi_x hR
                refine cq_FE (As := []) (rest := []) hK hZ hA hAA hS hR ⟨xok_8, (xg_hn (E := E) (C := C) (g := g) (h := h) (k := 0) hI_58.1 (Nat.lt_of_lt_of_le (by decide) (Nat.le_add_right 7 _)) (Nat.zero_le _)).1, (xg_hn (E := E) (C := C) (g := g) (h := h) (k := 0) hI_58.1 (Nat.lt_of_lt_of_le (by decide) (Nat.le_add_right 7 _)) (Nat.zero_le _)).2.1⟩ (jt_iterator l E C A H.size (xok (xp_pass_R58 (nz S 1) 0 (gs_up S_33 0 0 ((S_33 0 0) + 1)))) g (xen E C g h (xp_pass_R58 (nz S 1) 0 (gs_up S_33 0 0 ((S_33 0 0) + 1)))) 2 (nz (xp_pass_R58 (nz S 1) 0 (gs_up S_33 0 0 ((S_33 0 0) + 1))) 2) ((xp_pass_R58 (nz S 1) 0 (gs_up S_33 0 0 ((S_33 0 0) + 1))) 20 2) (.ref (if cz (xp_pass_R58 (nz S 1) 0 (gs_up S_33 0 0 ((S_33 0 0) + 1))) 2 = 0 then C.2.1 else g 2 2))) (fun _ h => h) (hK.1.1 5 _ rfl).2 ⟨hx, hb, hml, hown, hts⟩ (va_cwF 0 hts (lw_F q611 q614 q616 q36 q618) rfl rfl rfl (fw_iterator hK) (by decide +kernel) ⟨Nat.le_of_ble_eq_true rfl, Nat.le_of_ble_eq_true rfl⟩) (kw_recv (t := 1) (i := 2) hK.1 hR (Nat.lt_of_lt_of_le (by decide) (Nat.le_add_right 7 _)) rfl rfl) rfl hl.1 rfl (Nat.le_of_ble_eq_true rfl) dX1_pass_116 ⟨(show ((2 * i_33 + 2 * (30 - ct (xp_pass_R58 (nz S 1) 0 (gs_up S_33 0 0 ((S_33 0 0) + 1)))) + 1) + 0) + 1 ≤ 870 by omega), (show ((8 * i_33 + 20 * (30 - ct (xp_pass_R58 (nz S 1) 0 (gs_up S_33 0 0 ((S_33 0 0) + 1)))) + 4) + 0) + 4 ≤ 3850 by omega)⟩ (fun q_116 H locs hB hz hk hS => ?_)
                have hR : (xwi E C g h (xp_pass_R58 (nz S 1) 0 (gs_up S_33 0 0 ((S_33 0 0) + 1))) q_116 0 ((xp_pass_R58 (nz S 1) 0 (gs_up S_33 0 0 ((S_33 0 0) + 1))) 20 2) (g 1 2) A) H := hB.2
                refine W.eq (g2 := F0 m 121 ls [.ref q_116]) rfl ?_
                refine lv_astore_n (lv' := [(3, .ref q_116), (0, .ref (g 0 0)), (1, .int p1), (2, .int (nI i_33))]) hx hb dX1_pass_121 rfl hl (by decide) rfl (fun ls hl => ?_)
                have hL_122 : ∀ (n_122 i_122 : Nat) (S_122 : gs_T) (g : kw_A) (h : xh_T) (H : Heap) (locs : List Loc) (ls : Array Slot), i_122 + n_122 = (nz S 2) → xp_pass_R122 n_122 i_122 S_122 = (xp_pass_R122 (nz S 2) 0 (xp_pass_R58 (nz S 1) 0 (gs_up S_33 0 0 ((S_33 0 0) + 1)))) → xi_ok S_122 ∧ nz S_122 1 = nz S 1 ∧ nz S_122 2 = nz S 2 → g 0 0 = x0 → (xwi E C g h S_122 q_116 i_122 (S_122 20 2) (g 1 2) A) H → xh C g h S_122 → va_S A s.heap H locs → lv_has ls 5 [(0, .ref (g 0 0)), (1, .int p1), (2, .int (nI i_33)), (3, .ref q_116)] → cx_G p l e { frames := 8, cells := 870, slots := 3850, locals := 262 } s m [.ref x0, .int p1] below meth c A (xq_Q (fun z => z) E C x0 A (xp_pass S p1)) XX 870 3850 H locs (2 * i_33 + 2 * (30 - ct S_122) + 2) (8 * i_33 + 20 * (30 - ct S_122) + 8) (F0 m 122 ls []) := by
                  intro n_122
                  induction n_122 with
                  | zero =>
                    intro i_122 S_122 g h H locs ls hi_122 hg_122 hI_122 hg0 hR hh hS hl
                    have hi_122 : i_122 = (nz S 2) := hi_122
                    subst hi_122
                    have e_S_122 : S_122 = (xp_pass_R122 (nz S 2) 0 (xp_pass_R58 (nz S 1) 0 (gs_up S_33 0 0 ((S_33 0 0) + 1)))) := congrArg (fun z => z) hg_122
                    subst e_S_122
                    refine lv_aload_n hx hb dX1_pass_122 rfl (lv_at hl 3 rfl) ?_
                    refine cq_F (v := (some (.int (gs_bz (decide ((nz S 2) < nz (xp_pass_R122 (nz S 2) 0 (xp_pass_R58 (nz S 1) 0 (gs_up S_33 0 0 ((S_33 0 0) + 1)))) 2)))))) (As := []) (rest := []) hK hZ hA hAA hS hR (xg_hn hI_122.1 (Nat.lt_of_lt_of_le (by decide) (Nat.le_add_right 7 _)) (Nat.le_of_eq hI_122.2.2.symm)) (jt_hasNext l E C A H.size (xok (xp_pass_R122 (nz S 2) 0 (xp_pass_R58 (nz S 1) 0 (gs_up S_33 0 0 ((S_33 0 0) + 1))))) g (xen E C g h (xp_pass_R122 (nz S 2) 0 (xp_pass_R58 (nz S 1) 0 (gs_up S_33 0 0 ((S_33 0 0) + 1))))) 2 q_116 (nz S 2) (nz (xp_pass_R122 (nz S 2) 0 (xp_pass_R58 (nz S 1) 0 (gs_up S_33 0 0 ((S_33 0 0) + 1)))) 2) ((xp_pass_R122 (nz S 2) 0 (xp_pass_R58 (nz S 1) 0 (gs_up S_33 0 0 ((S_33 0 0) + 1)))) 20 2) (.ref (if cz (xp_pass_R122 (nz S 2) 0 (xp_pass_R58 (nz S 1) 0 (gs_up S_33 0 0 ((S_33 0 0) + 1)))) 2 = 0 then C.2.1 else g 2 2))) (fun _ h => hA _ (Nat.le_trans hS.1 h)) (hK.1.1 6 _ rfl).2 ⟨hx, hb, hml, hown, hts⟩ (va_cwF 0 hts (lw_F q639 q643 q645 q58 q647) rfl rfl rfl (fw_hasNext hK) (by decide +kernel) ⟨Nat.le_of_ble_eq_true rfl, Nat.le_of_ble_eq_true rfl⟩) (kw_recv (t := 8) (i := 0) hK.1 hR rfl rfl rfl) rfl hl.1 rfl (Nat.le_of_ble_eq_true rfl) dX1_pass_123 ⟨(show (2 * i_33 + 2 * (30 - ct (xp_pass_R122 (nz S 2) 0 (xp_pass_R58 (nz S 1) 0 (gs_up S_33 0 0 ((S_33 0 0) + 1))))) + 2) + 0 ≤ 870 by omega), (show (8 * i_33 + 20 * (30 - ct (xp_pass_R122 (nz S 2) 0 (xp_pass_R58 (nz S 1) 0 (gs_up S_33 0 0 ((S_33 0 0) + 1))))) + 8) + 0 ≤ 3850 by omega)⟩ (fun H locs hB hz hk hS => ?_)
                    have hR := hR.kept (fun a _ h => hk a h (Nat.not_le.mpr h))
                    refine W.eq (g2 := F0 m 128 ls [.int (if (nz S 2) < nz (xp_pass_R122 (nz S 2) 0 (xp_pass_R58 (nz S 1) 0 (gs_up S_33 0 0 ((S_33 0 0) + 1)))) 2 then 1 else 0)]) (by rw [gs_bz_dec]; rfl) ?_
                    refine lv_if_eq (tgt := 196) hx hb dX1_pass_128 (by decide) (fun c_6 => ?_) (fun c_6 => absurd (gs_zt c_6) (by rw [hI_122.2.2]; exact Nat.lt_irrefl _))
                    refine lv_iinc (v := (nI (i_33 + 1))) (lv' := [(2, .int (nI (i_33 + 1))), (0, .ref (g 0 0)), (1, .int p1), (3, .ref q_116)]) hx hb dX1_pass_196 hl (k := 2) rfl (nI_1 i_33) (by decide) rfl (fun ls hl => ?_)
                    refine lv_goto (tgt := 33) hx hb dX1_pass_199 (by decide) ?_
                    have hR := xwi_x hR
                    refine W.widen (k := (2 * (i_33 + 1) + 2 * (30 - ct (xp_pass_R122 (nz S 2) 0 (xp_pass_R58 (nz S 1) 0 (gs_up S_33 0 0 ((S_33 0 0) + 1))))))) (n := (8 * (i_33 + 1) + 20 * (30 - ct (xp_pass_R122 (nz S 2) 0 (xp_pass_R58 (nz S 1) 0 (gs_up S_33 0 0 ((S_33 0 0) + 1))))))) (by omega) (by omega) ?_
                    exact ih_33 (i_33 + 1) (xp_pass_R122 (nz S 2) 0 (xp_pass_R58 (nz S 1) 0 (gs_up S_33 0 0 ((S_33 0 0) + 1)))) _ _ _ _ _ (by omega) ((congrArg (fun z => xp_pass_R33 S n_33 (i_33 + 1) z) hf_33).trans hg_33) hI_122 hg0 hR hh hS (lv_sub hl [1, 2, 0] rfl)
                  | succ n_122 ih_122 =>
                    intro i_122 S_122 g h H locs ls hi_122 hg_122 hI_122 hg0 hR hh hS hl
                    have hlt_122 : i_122 < (nz S 2) := by omega
                    have hf_122 : xp_pass_L122 i_122 S_122 = xp_pass_L122 i_122 S_122 := rfl
                    have hl2_122 : i_122 < nz S_122 2 := by rw [hI_122.2.2]; exact hlt_122
                    refine lv_aload_n hx hb dX1_pass_122 rfl (lv_at hl 3 rfl) ?_
                    refine cq_F (v := (some (.int (gs_bz (decide (i_122 < nz S_122 2)))))) (As := []) (rest := []) hK hZ hA hAA hS hR (xg_hn hI_122.1 (Nat.lt_of_lt_of_le (by decide) (Nat.le_add_right 7 _)) (Nat.le_of_lt hl2_122)) (jt_hasNext l E C A H.size (xok S_122) g (xen E C g h S_122) 2 q_116 i_122 (nz S_122 2) (S_122 20 2) (.ref (if cz S_122 2 = 0 then C.2.1 else g 2 2))) (fun _ h => hA _ (Nat.le_trans hS.1 h)) (hK.1.1 6 _ rfl).2 ⟨hx, hb, hml, hown, hts⟩ (va_cwF 0 hts (lw_F q639 q643 q645 q58 q647) rfl rfl rfl (fw_hasNext hK) (by decide +kernel) ⟨Nat.le_of_ble_eq_true rfl, Nat.le_of_ble_eq_true rfl⟩) (kw_recv (t := 8) (i := 0) hK.1 hR rfl rfl rfl) rfl hl.1 rfl (Nat.le_of_ble_eq_true rfl) dX1_pass_123 ⟨(show (2 * i_33 + 2 * (30 - ct S_122) + 2) + 0 ≤ 870 by omega), (show (8 * i_33 + 20 * (30 - ct S_122) + 8) + 0 ≤ 3850 by omega)⟩ (fun H locs hB hz hk hS => ?_)
                    have hR := hR.kept (fun a _ h => hk a h (Nat.not_le.mpr h))
                    refine W.eq (g2 := F0 m 128 ls [.int (if i_122 < nz S_122 2 then 1 else 0)]) (by rw [gs_bz_dec]; rfl) ?_
                    refine lv_if_eq (tgt := 196) hx hb dX1_pass_128 (by decide) (fun c_7 => absurd hl2_122 (gs_zf c_7)) (fun c_7 => ?_)
                    refine lv_aload_n hx hb dX1_pass_131 rfl (lv_at hl 3 rfl) ?_
                    refine cq_F (v := (some (.ref (g 4 i_122)))) (As := []) (rest := []) hK hZ hA hAA hS hR (xg_next hI_122.1 hh (Nat.lt_of_lt_of_le (by decide) (Nat.le_add_right 7 _)) hl2_122) (jt_next l E C A H.size (xok S_122) g (xen E C g h S_122) 2 q_116 i_122 (nz S_122 2) (cz S_122 2) (S_122 20 2) (h 2) (g 4 i_122)) (fun _ h => h) (hK.1.1 6 _ rfl).2 ⟨hx, hb, hml, hown, hts⟩ (va_cwF 0 hts (lw_F q649 q652 q654 q58 q656) rfl rfl rfl (fw_next hK) (by decide +kernel) ⟨Nat.le_of_ble_eq_true rfl, Nat.le_of_ble_eq_true rfl⟩) (kw_recv (t := 8) (i := 0) hK.1 hR rfl rfl rfl) rfl hl.1 rfl (Nat.le_of_ble_eq_true rfl) dX1_pass_132 ⟨(show ((2 * i_33 + 2 * (30 - ct S_122) + 2) + 0) + 0 ≤ 870 by omega), (show ((8 * i_33 + 20 * (30 - ct S_122) + 8) + 0) + 0 ≤ 3850 by omega)⟩ (fun H locs hB hz hk hS => ?_)
                    have hR : (xwi E C g h S_122 q_116 (i_122 + 1) (S_122 20 2) (g 1 2) A) H := hB
                    refine W.eq (g2 := F0 m 137 ls [.ref (g 4 i_122)]) rfl ?_
                    refine va_castS hx hb hown (hts _ q706) (hK.1.1 4 _ rfl).2 (kw_recv (t := 4) (i := i_122) hK.1 (xwi_x hR) hl2_122 rfl rfl) dX1_pass_137 ?_
                    refine lv_astore (lv' := [(4, .ref (g 4 i_122)), (0, .ref (g 0 0)), (1, .int p1), (2, .int (nI i_33)), (3, .ref q_116)]) hx hb dX1_pass_140 hl (by decide) rfl (fun ls hl => ?_)
                    refine lv_aload hx hb dX1_pass_142 (lv_at hl 0 rfl) ?_
                    refine kw_getN (C := RX5) (T := TX5) (N := 10) (v := .int (S_122 56 i_122)) hx hb hts in_X5 hown hK.1 (xwi_x hR) 4 i_122 hl2_122 rfl rfl 6 (by decide) (va_Nw.use rfl (hK.2.1 _ q725 rfl)) (fun _ h9 => h9) rfl dX1_pass_144 ?_
                    refine lv_iconst (v := 1) hx hb dX1_pass_147 (by decide) ?_
                    refine lv_icmp_eq (tgt := 160) hx hb dX1_pass_148 (by decide) (fun c_8 => ?_) (fun c_8 => ?_)
                    · skip
                      have hf_122 := (if_pos c_8).symm.trans hf_122
                      refine lv_aload_n hx hb dX1_pass_160 rfl (lv_at hl 1 rfl) ?_
                      refine kw_get (C := RX1) (T := TX1) (N := 12) (v := .int (S_122 0 0)) hx hb hts in_X1 hown hK.1 (xwi_x hR) 0 0 rfl rfl rfl 0 (by decide) (hts _ q168) (fun _ h9 => h9) rfl dX1_pass_161 ?_
                      refine lv_aload hx hb dX1_pass_164 (lv_at hl 0 rfl) ?_
                      refine kw_getN (C := RX5) (T := TX5) (N := 10) (v := .int (S_122 57 i_122)) hx hb hts in_X5 hown hK.1 (xwi_x hR) 4 i_122 hl2_122 rfl rfl 7 (by decide) (va_Nw.use rfl (hK.2.1 _ q727 rfl)) (fun _ h9 => h9) rfl dX1_pass_166 ?_
                      refine lv_isub hx hb dX1_pass_169 ?_
                      refine lv_bipush (v := 90) hx hb dX1_pass_170 (by decide) ?_
                      refine lv_icmp_ne (tgt := 193) hx hb dX1_pass_172 (by decide) (fun c_9 => ?_) (fun c_9 => ?_)
                      · skip
                        have hf_122 := (if_neg c_9).symm.trans hf_122
                        refine lv_goto (tgt := 122) hx hb dX1_pass_193 (by decide) ?_
                        refine W.widen (k := (2 * i_33 + 2 * (30 - ct S_122) + 2)) (n := (8 * i_33 + 20 * (30 - ct S_122) + 8)) (by first | omega | exact Nat.le_of_eq (by rw [ct_up rfl rfl, ct_up rfl rfl, ct_up rfl rfl])) (by first | omega | exact Nat.le_of_eq (by rw [ct_up rfl rfl, ct_up rfl rfl, ct_up rfl rfl])) ?_
                        exact ih_122 (i_122 + 1) S_122 _ _ _ _ _ (by omega) ((congrArg (fun z => xp_pass_R122 n_122 (i_122 + 1) z) hf_122).trans hg_122) (by first | exact hI_122 | exact ⟨xi_up rfl (xi_up rfl (xi_up rfl hI_122.1)), by rw [nz_up rfl, nz_up rfl, nz_up rfl]; exact hI_122.2.1, by rw [nz_up rfl, nz_up rfl, nz_up rfl]; exact hI_122.2.2⟩) hg0 hR hh hS (lv_sub hl [1, 2, 3, 4] rfl)
                      · skip
                        have hf_122 := (if_pos c_9).symm.trans hf_122
                        refine lv_aload hx hb dX1_pass_175 (lv_at hl 0 rfl) ?_
                        refine lv_iconst (v := 3) hx hb dX1_pass_177 (by decide) ?_
                        refine kw_putN (C := RX5) (T := TX5) (N := 10) hx hb hts in_X5 tyX5 tyX5_ok nmX5 hown hK.1 hR hS 4 i_122 hl2_122 rfl rfl 6 (by decide) (va_Nw.use rfl (hK.2.1 _ q725 rfl)) (fun _ h9 => h9) rfl rfl rfl rfl (Nat.le_of_ble_eq_true rfl) dX1_pass_178 (it_en [.int (nI (i_122 + 1)), .int (nI (i_122 + 1) - 1), .int (S_122 20 2), .ref (g 1 2)] (xen E C g h (gs_up S_122 56 i_122 3))) (xe_c (E := E) (C := C) (h := h) (k := 6) rfl) (it_hc (xn_c (E := E) (C := C) (g := g) (h := h) (k := 6) rfl)) (fun H locs hR hS => ?_)
                        have hR := xwi_up (b := 0) rfl hR
                        have hh := xh_up (k := 56) (i := i_122) (v := 3) rfl hh
                        refine lv_aload hx hb dX1_pass_181 (lv_at hl 0 rfl) ?_
                        refine lv_iconst (v := 0) hx hb dX1_pass_183 (by decide) ?_
                        refine kw_putN (C := RX5) (T := TX5) (N := 10) hx hb hts in_X5 tyX5 tyX5_ok nmX5 hown hK.1 hR hS 4 i_122 hl2_122 rfl rfl 4 (by decide) (va_Nw.use rfl (hK.2.1 _ q721 rfl)) (fun _ h9 => h9) rfl rfl rfl rfl (Nat.le_of_ble_eq_true rfl) dX1_pass_184 (it_en [.int (nI (i_122 + 1)), .int (nI (i_122 + 1) - 1), .int ((gs_up S_122 56 i_122 3) 20 2), .ref (g 1 2)] (xen E C g h (gs_up (gs_up S_122 56 i_122 3) 54 i_122 0))) (xe_c (E := E) (C := C) (h := h) (k := 4) rfl) (it_hc (xn_c (E := E) (C := C) (g := g) (h := h) (k := 4) rfl)) (fun H locs hR hS => ?_)
                        have hR := xwi_up (b := 0) rfl hR
                        have hh := xh_up (k := 54) (i := i_122) (v := 0) rfl hh
                        refine lv_aload hx hb dX1_pass_187 (lv_at hl 0 rfl) ?_
                        refine lv_iconst (v := 0) hx hb dX1_pass_189 (by decide) ?_
                        refine kw_putN (C := RX5) (T := TX5) (N := 10) hx hb hts in_X5 tyX5 tyX5_ok nmX5 hown hK.1 hR hS 4 i_122 hl2_122 rfl rfl 5 (by decide) (va_Nw.use rfl (hK.2.1 _ q723 rfl)) (fun _ h9 => h9) rfl rfl rfl rfl (Nat.le_of_ble_eq_true rfl) dX1_pass_190 (it_en [.int (nI (i_122 + 1)), .int (nI (i_122 + 1) - 1), .int ((gs_up (gs_up S_122 56 i_122 3) 54 i_122 0) 20 2), .ref (g 1 2)] (xen E C g h (gs_up (gs_up (gs_up S_122 56 i_122 3) 54 i_122 0) 55 i_122 0))) (xe_c (E := E) (C := C) (h := h) (k := 5) rfl) (it_hc (xn_c (E := E) (C := C) (g := g) (h := h) (k := 5) rfl)) (fun H locs hR hS => ?_)
                        have hR := xwi_up (b := 0) rfl hR
                        have hh := xh_up (k := 55) (i := i_122) (v := 0) rfl hh
                        refine lv_goto (tgt := 122) hx hb dX1_pass_193 (by decide) ?_
                        refine W.widen (k := (2 * i_33 + 2 * (30 - ct (gs_up (gs_up (gs_up S_122 56 i_122 3) 54 i_122 0) 55 i_122 0)) + 2)) (n := (8 * i_33 + 20 * (30 - ct (gs_up (gs_up (gs_up S_122 56 i_122 3) 54 i_122 0) 55 i_122 0)) + 8)) (by first | omega | exact Nat.le_of_eq (by rw [ct_up rfl rfl, ct_up rfl rfl, ct_up rfl rfl])) (by first | omega | exact Nat.le_of_eq (by rw [ct_up rfl rfl, ct_up rfl rfl, ct_up rfl rfl])) ?_
                        exact ih_122 (i_122 + 1) (gs_up (gs_up (gs_up S_122 56 i_122 3) 54 i_122 0) 55 i_122 0) _ _ _ _ _ (by omega) ((congrArg (fun z => xp_pass_R122 n_122 (i_122 + 1) z) hf_122).trans hg_122) (by first | exact hI_122 | exact ⟨xi_up rfl (xi_up rfl (xi_up rfl hI_122.1)), by rw [nz_up rfl, nz_up rfl, nz_up rfl]; exact hI_122.2.1, by rw [nz_up rfl, nz_up rfl, nz_up rfl]; exact hI_122.2.2⟩) hg0 hR hh hS (lv_sub hl [1, 2, 3, 4] rfl)
                    · skip
                      have hf_122 := (if_neg c_8).symm.trans hf_122
                      refine lv_aload hx hb dX1_pass_151 (lv_at hl 0 rfl) ?_
                      refine kw_getN (C := RX5) (T := TX5) (N := 10) (v := .int (S_122 56 i_122)) hx hb hts in_X5 hown hK.1 (xwi_x hR) 4 i_122 hl2_122 rfl rfl 6 (by decide) (va_Nw.use rfl (hK.2.1 _ q725 rfl)) (fun _ h9 => h9) rfl dX1_pass_153 ?_
                      refine lv_iconst (v := 2) hx hb dX1_pass_156 (by decide) ?_
                      refine lv_icmp_ne (tgt := 193) hx hb dX1_pass_157 (by decide) (fun c_10 => ?_) (fun c_10 => ?_)
                      · skip
                        have hf_122 := (if_neg c_10).symm.trans hf_122
                        refine lv_goto (tgt := 122) hx hb dX1_pass_193 (by decide) ?_
                        refine W.widen (k := (2 * i_33 + 2 * (30 - ct S_122) + 2)) (n := (8 * i_33 + 20 * (30 - ct S_122) + 8)) (by first | omega | exact Nat.le_of_eq (by rw [ct_up rfl rfl, ct_up rfl rfl, ct_up rfl rfl])) (by first | omega | exact Nat.le_of_eq (by rw [ct_up rfl rfl, ct_up rfl rfl, ct_up rfl rfl])) ?_
                        exact ih_122 (i_122 + 1) S_122 _ _ _ _ _ (by omega) ((congrArg (fun z => xp_pass_R122 n_122 (i_122 + 1) z) hf_122).trans hg_122) (by first | exact hI_122 | exact ⟨xi_up rfl (xi_up rfl (xi_up rfl hI_122.1)), by rw [nz_up rfl, nz_up rfl, nz_up rfl]; exact hI_122.2.1, by rw [nz_up rfl, nz_up rfl, nz_up rfl]; exact hI_122.2.2⟩) hg0 hR hh hS (lv_sub hl [1, 2, 3, 4] rfl)
                      · skip
                        have hf_122 := (if_pos c_10).symm.trans hf_122
                        refine lv_aload_n hx hb dX1_pass_160 rfl (lv_at hl 1 rfl) ?_
                        refine kw_get (C := RX1) (T := TX1) (N := 12) (v := .int (S_122 0 0)) hx hb hts in_X1 hown hK.1 (xwi_x hR) 0 0 rfl rfl rfl 0 (by decide) (hts _ q168) (fun _ h9 => h9) rfl dX1_pass_161 ?_
                        refine lv_aload hx hb dX1_pass_164 (lv_at hl 0 rfl) ?_
                        refine kw_getN (C := RX5) (T := TX5) (N := 10) (v := .int (S_122 57 i_122)) hx hb hts in_X5 hown hK.1 (xwi_x hR) 4 i_122 hl2_122 rfl rfl 7 (by decide) (va_Nw.use rfl (hK.2.1 _ q727 rfl)) (fun _ h9 => h9) rfl dX1_pass_166 ?_
                        refine lv_isub hx hb dX1_pass_169 ?_
                        refine lv_bipush (v := 90) hx hb dX1_pass_170 (by decide) ?_
                        refine lv_icmp_ne (tgt := 193) hx hb dX1_pass_172 (by decide) (fun c_11 => ?_) (fun c_11 => ?_)
                        · skip
                          have hf_122 := (if_neg c_11).symm.trans hf_122
                          refine lv_goto (tgt := 122) hx hb dX1_pass_193 (by decide) ?_
                          refine W.widen (k := (2 * i_33 + 2 * (30 - ct S_122) + 2)) (n := (8 * i_33 + 20 * (30 - ct S_122) + 8)) (by first | omega | exact Nat.le_of_eq (by rw [ct_up rfl rfl, ct_up rfl rfl, ct_up rfl rfl])) (by first | omega | exact Nat.le_of_eq (by rw [ct_up rfl rfl, ct_up rfl rfl, ct_up rfl rfl])) ?_
                          exact ih_122 (i_122 + 1) S_122 _ _ _ _ _ (by omega) ((congrArg (fun z => xp_pass_R122 n_122 (i_122 + 1) z) hf_122).trans hg_122) (by first | exact hI_122 | exact ⟨xi_up rfl (xi_up rfl (xi_up rfl hI_122.1)), by rw [nz_up rfl, nz_up rfl, nz_up rfl]; exact hI_122.2.1, by rw [nz_up rfl, nz_up rfl, nz_up rfl]; exact hI_122.2.2⟩) hg0 hR hh hS (lv_sub hl [1, 2, 3, 4] rfl)
                        · skip
                          have hf_122 := (if_pos c_11).symm.trans hf_122
                          refine lv_aload hx hb dX1_pass_175 (lv_at hl 0 rfl) ?_
                          refine lv_iconst (v := 3) hx hb dX1_pass_177 (by decide) ?_
                          refine kw_putN (C := RX5) (T := TX5) (N := 10) hx hb hts in_X5 tyX5 tyX5_ok nmX5 hown hK.1 hR hS 4 i_122 hl2_122 rfl rfl 6 (by decide) (va_Nw.use rfl (hK.2.1 _ q725 rfl)) (fun _ h9 => h9) rfl rfl rfl rfl (Nat.le_of_ble_eq_true rfl) dX1_pass_178 (it_en [.int (nI (i_122 + 1)), .int (nI (i_122 + 1) - 1), .int (S_122 20 2), .ref (g 1 2)] (xen E C g h (gs_up S_122 56 i_122 3))) (xe_c (E := E) (C := C) (h := h) (k := 6) rfl) (it_hc (xn_c (E := E) (C := C) (g := g) (h := h) (k := 6) rfl)) (fun H locs hR hS => ?_)
                          have hR := xwi_up (b := 0) rfl hR
                          have hh := xh_up (k := 56) (i := i_122) (v := 3) rfl hh
                          refine lv_aload hx hb dX1_pass_181 (lv_at hl 0 rfl) ?_
                          refine lv_iconst (v := 0) hx hb dX1_pass_183 (by decide) ?_
                          refine kw_putN (C := RX5) (T := TX5) (N := 10) hx hb hts in_X5 tyX5 tyX5_ok nmX5 hown hK.1 hR hS 4 i_122 hl2_122 rfl rfl 4 (by decide) (va_Nw.use rfl (hK.2.1 _ q721 rfl)) (fun _ h9 => h9) rfl rfl rfl rfl (Nat.le_of_ble_eq_true rfl) dX1_pass_184 (it_en [.int (nI (i_122 + 1)), .int (nI (i_122 + 1) - 1), .int ((gs_up S_122 56 i_122 3) 20 2), .ref (g 1 2)] (xen E C g h (gs_up (gs_up S_122 56 i_122 3) 54 i_122 0))) (xe_c (E := E) (C := C) (h := h) (k := 4) rfl) (it_hc (xn_c (E := E) (C := C) (g := g) (h := h) (k := 4) rfl)) (fun H locs hR hS => ?_)
                          have hR := xwi_up (b := 0) rfl hR
                          have hh := xh_up (k := 54) (i := i_122) (v := 0) rfl hh
                          refine lv_aload hx hb dX1_pass_187 (lv_at hl 0 rfl) ?_
                          refine lv_iconst (v := 0) hx hb dX1_pass_189 (by decide) ?_
                          refine kw_putN (C := RX5) (T := TX5) (N := 10) hx hb hts in_X5 tyX5 tyX5_ok nmX5 hown hK.1 hR hS 4 i_122 hl2_122 rfl rfl 5 (by decide) (va_Nw.use rfl (hK.2.1 _ q723 rfl)) (fun _ h9 => h9) rfl rfl rfl rfl (Nat.le_of_ble_eq_true rfl) dX1_pass_190 (it_en [.int (nI (i_122 + 1)), .int (nI (i_122 + 1) - 1), .int ((gs_up (gs_up S_122 56 i_122 3) 54 i_122 0) 20 2), .ref (g 1 2)] (xen E C g h (gs_up (gs_up (gs_up S_122 56 i_122 3) 54 i_122 0) 55 i_122 0))) (xe_c (E := E) (C := C) (h := h) (k := 5) rfl) (it_hc (xn_c (E := E) (C := C) (g := g) (h := h) (k := 5) rfl)) (fun H locs hR hS => ?_)
                          have hR := xwi_up (b := 0) rfl hR
                          have hh := xh_up (k := 55) (i := i_122) (v := 0) rfl hh
                          refine lv_goto (tgt := 122) hx hb dX1_pass_193 (by decide) ?_
                          refine W.widen (k := (2 * i_33 + 2 * (30 - ct (gs_up (gs_up (gs_up S_122 56 i_122 3) 54 i_122 0) 55 i_122 0)) + 2)) (n := (8 * i_33 + 20 * (30 - ct (gs_up (gs_up (gs_up S_122 56 i_122 3) 54 i_122 0) 55 i_122 0)) + 8)) (by first | omega | exact Nat.le_of_eq (by rw [ct_up rfl rfl, ct_up rfl rfl, ct_up rfl rfl])) (by first | omega | exact Nat.le_of_eq (by rw [ct_up rfl rfl, ct_up rfl rfl, ct_up rfl rfl])) ?_
                          exact ih_122 (i_122 + 1) (gs_up (gs_up (gs_up S_122 56 i_122 3) 54 i_122 0) 55 i_122 0) _ _ _ _ _ (by omega) ((congrArg (fun z => xp_pass_R122 n_122 (i_122 + 1) z) hf_122).trans hg_122) (by first | exact hI_122 | exact ⟨xi_up rfl (xi_up rfl (xi_up rfl hI_122.1)), by rw [nz_up rfl, nz_up rfl, nz_up rfl]; exact hI_122.2.1, by rw [nz_up rfl, nz_up rfl, nz_up rfl]; exact hI_122.2.2⟩) hg0 hR hh hS (lv_sub hl [1, 2, 3, 4] rfl)
                refine W.widen (k := (2 * i_33 + 2 * (30 - ct (xp_pass_R58 (nz S 1) 0 (gs_up S_33 0 0 ((S_33 0 0) + 1)))) + 2)) (n := (8 * i_33 + 20 * (30 - ct (xp_pass_R58 (nz S 1) 0 (gs_up S_33 0 0 ((S_33 0 0) + 1)))) + 8)) (by omega) (by omega) ?_
                exact hL_122 (nz S 2) 0 (xp_pass_R58 (nz S 1) 0 (gs_up S_33 0 0 ((S_33 0 0) + 1))) _ _ _ _ _ (by omega) rfl hI_58 hg0 hR hh hS (lv_sub hl [1, 2, 3, 0] rfl)
              | succ n_58 ih_58 =>
                intro i_58 S_58 g h H locs ls hi_58 hg_58 hI_58 hg0 hR hh hS hl
                have hlt_58 : i_58 < (nz S 1) := by omega
                have hf_58 : xp_pass_L58 i_58 S_58 = xp_pass_L58 i_58 S_58 := rfl
                have hl2_58 : i_58 < nz S_58 1 := by rw [hI_58.2.1]; exact hlt_58
                refine lv_aload_n hx hb dX1_pass_58 rfl (lv_at hl 3 rfl) ?_
                refine cq_F (v := (some (.int (gs_bz (decide (i_58 < nz S_58 1)))))) (As := []) (rest := []) hK hZ hA hAA hS hR (xg_hn hI_58.1 (Nat.lt_of_lt_of_le (by decide) (Nat.le_add_right 7 _)) (Nat.le_of_lt hl2_58)) (jt_hasNext l E C A H.size (xok S_58) g (xen E C g h S_58) 1 q_52 i_58 (nz S_58 1) (S_58 20 1) (.ref (if cz S_58 1 = 0 then C.2.1 else g 2 1))) (fun _ h => hA _ (Nat.le_trans hS.1 h)) (hK.1.1 6 _ rfl).2 ⟨hx, hb, hml, hown, hts⟩ (va_cwF 0 hts (lw_F q639 q643 q645 q58 q647) rfl rfl rfl (fw_hasNext hK) (by decide +kernel) ⟨Nat.le_of_ble_eq_true rfl, Nat.le_of_ble_eq_true rfl⟩) (kw_recv (t := 8) (i := 0) hK.1 hR rfl rfl rfl) rfl hl.1 rfl (Nat.le_of_ble_eq_true rfl) dX1_pass_59 ⟨(show (2 * i_33 + 2 * (30 - ct S_58) + 1) + 0 ≤ 870 by omega), (show (8 * i_33 + 20 * (30 - ct S_58) + 4) + 0 ≤ 3850 by omega)⟩ (fun H locs hB hz hk hS => ?_)
                have hR := hR.kept (fun a _ h => hk a h (Nat.not_le.mpr h))
                refine W.eq (g2 := F0 m 64 ls [.int (if i_58 < nz S_58 1 then 1 else 0)]) (by rw [gs_bz_dec]; rfl) ?_
                refine lv_if_eq (tgt := 112) hx hb dX1_pass_64 (by decide) (fun c_12 => absurd hl2_58 (gs_zf c_12)) (fun c_12 => ?_)
                refine lv_aload_n hx hb dX1_pass_67 rfl (lv_at hl 3 rfl) ?_
                refine cq_F (v := (some (.ref (g 3 i_58)))) (As := []) (rest := []) hK hZ hA hAA hS hR (xg_next hI_58.1 hh (Nat.lt_of_lt_of_le (by decide) (Nat.le_add_right 7 _)) hl2_58) (jt_next l E C A H.size (xok S_58) g (xen E C g h S_58) 1 q_52 i_58 (nz S_58 1) (cz S_58 1) (S_58 20 1) (h 1) (g 3 i_58)) (fun _ h => h) (hK.1.1 6 _ rfl).2 ⟨hx, hb, hml, hown, hts⟩ (va_cwF 0 hts (lw_F q649 q652 q654 q58 q656) rfl rfl rfl (fw_next hK) (by decide +kernel) ⟨Nat.le_of_ble_eq_true rfl, Nat.le_of_ble_eq_true rfl⟩) (kw_recv (t := 8) (i := 0) hK.1 hR rfl rfl rfl) rfl hl.1 rfl (Nat.le_of_ble_eq_true rfl) dX1_pass_68 ⟨(show ((2 * i_33 + 2 * (30 - ct S_58) + 1) + 0) + 0 ≤ 870 by omega), (show ((8 * i_33 + 20 * (30 - ct S_58) + 4) + 0) + 0 ≤ 3850 by omega)⟩ (fun H locs hB hz hk hS => ?_)
                have hR : (xwi E C g h S_58 q_52 (i_58 + 1) (S_58 20 1) (g 1 1) A) H := hB
                refine W.eq (g2 := F0 m 73 ls [.ref (g 3 i_58)]) rfl ?_
                refine va_castS hx hb hown (hts _ q496) (hK.1.1 2 _ rfl).2 (kw_recv (t := 3) (i := i_58) hK.1 (xwi_x hR) hl2_58 rfl rfl) dX1_pass_73 ?_
                refine lv_astore (lv' := [(4, .ref (g 3 i_58)), (0, .ref (g 0 0)), (1, .int p1), (2, .int (nI i_33)), (3, .ref q_52)]) hx hb dX1_pass_76 hl (by decide) rfl (fun ls hl => ?_)
                refine lv_aload hx hb dX1_pass_78 (lv_at hl 0 rfl) ?_
                refine kw_getN (C := RX3) (T := TX3) (N := 15) (v := .int (S_58 36 i_58)) hx hb hts in_X3 hown hK.1 (xwi_x hR) 3 i_58 hl2_58 rfl rfl 6 (by decide) (va_Nw.use rfl (hK.2.1 _ q536 rfl)) (fun _ h9 => h9) rfl dX1_pass_80 ?_
                refine lv_iconst (v := 1) hx hb dX1_pass_83 (by decide) ?_
                refine lv_icmp_ne (tgt := 109) hx hb dX1_pass_84 (by decide) (fun c_13 => ?_) (fun c_13 => ?_)
                · skip
                  have hf_58 := (if_neg c_13).symm.trans hf_58
                  refine lv_goto (tgt := 58) hx hb dX1_pass_109 (by decide) ?_
                  refine W.widen (k := (2 * i_33 + 2 * (30 - ct S_58) + 1)) (n := (8 * i_33 + 20 * (30 - ct S_58) + 4)) (by omega) (by omega) ?_
                  exact ih_58 (i_58 + 1) S_58 _ _ _ _ _ (by omega) ((congrArg (fun z => xp_pass_R58 n_58 (i_58 + 1) z) hf_58).trans hg_58) (by first | exact hI_58 | exact ⟨xi_come hI_58.1 hl2_58, (xc_nz (by omega)).trans hI_58.2.1, (xc_nz (by omega)).trans hI_58.2.2⟩) hg0 hR hh hS (lv_sub hl [1, 2, 3, 4] rfl)
                · skip
                  have hf_58 := (if_pos c_13).symm.trans hf_58
                  have hs1 := c_13
                  refine lv_aload hx hb dX1_pass_87 (lv_at hl 0 rfl) ?_
                  refine kw_getN (C := RX3) (T := TX3) (N := 15) (v := .int (S_58 40 i_58)) hx hb hts in_X3 hown hK.1 (xwi_x hR) 3 i_58 hl2_58 rfl rfl 10 (by decide) (va_Nw.use rfl (hK.2.1 _ q542 rfl)) (fun _ h9 => h9) rfl dX1_pass_89 ?_
                  refine lv_aload_n hx hb dX1_pass_92 rfl (lv_at hl 1 rfl) ?_
                  refine kw_get (C := RX1) (T := TX1) (N := 12) (v := .int (S_58 0 0)) hx hb hts in_X1 hown hK.1 (xwi_x hR) 0 0 rfl rfl rfl 0 (by decide) (hts _ q168) (fun _ h9 => h9) rfl dX1_pass_93 ?_
                  refine lv_icmp_ne (tgt := 109) hx hb dX1_pass_96 (by decide) (fun c_14 => ?_) (fun c_14 => ?_)
                  · skip
                    have hf_58 := (if_neg c_14).symm.trans hf_58
                    refine lv_goto (tgt := 58) hx hb dX1_pass_109 (by decide) ?_
                    refine W.widen (k := (2 * i_33 + 2 * (30 - ct S_58) + 1)) (n := (8 * i_33 + 20 * (30 - ct S_58) + 4)) (by omega) (by omega) ?_
                    exact ih_58 (i_58 + 1) S_58 _ _ _ _ _ (by omega) ((congrArg (fun z => xp_pass_R58 n_58 (i_58 + 1) z) hf_58).trans hg_58) (by first | exact hI_58 | exact ⟨xi_come hI_58.1 hl2_58, (xc_nz (by omega)).trans hI_58.2.1, (xc_nz (by omega)).trans hI_58.2.2⟩) hg0 hR hh hS (lv_sub hl [1, 2, 3, 4] rfl)
                  · skip
                    have hf_58 := (if_pos c_14).symm.trans hf_58
                    refine lv_aload hx hb dX1_pass_99 (lv_at hl 0 rfl) ?_
                    refine lv_aload hx hb dX1_pass_101 (lv_at hl 0 rfl) ?_
                    refine kw_getN (C := RX3) (T := TX3) (N := 15) (v := .int (S_58 39 i_58)) hx hb hts in_X3 hown hK.1 (xwi_x hR) 3 i_58 hl2_58 rfl rfl 9 (by decide) (va_Nw.use rfl (hK.2.1 _ q541 rfl)) (fun _ h9 => h9) rfl dX1_pass_103 ?_
                    refine cq_VA (v := none) (As := [.int (S_58 39 i_58)]) (rest := []) hK hZ hAA hS (fun _ h => h.1) (it_new hA hS.1 hR) (it_x xok_8 hR) ⟨hI_58.1, hh, hl2_58⟩ (xt_come l E C (fun a => A a ∧ a ≠ q_52) H.size g h S_58 i_58 (S_58 39 i_58)) (fun _ h => h.1) ⟨hx, hb, hml, hown, hts⟩ (cwV 1 hts (lw_V q668 q669 q670 q55 q671) rfl rfl rfl (by decide +kernel) ⟨Nat.le_of_ble_eq_true rfl, Nat.le_of_ble_eq_true rfl⟩) (kw_recv (t := 3) (i := i_58) hK.1 (xwi_x hR) hl2_58 rfl rfl) rfl hl.1 rfl (Nat.le_of_ble_eq_true rfl) dX1_pass_106 ⟨(show (((2 * i_33 + 2 * (30 - ct S_58) + 1) + 0) + 0) + 2 ≤ 870 by omega), (show (((8 * i_33 + 20 * (30 - ct S_58) + 4) + 0) + 0) + 20 ≤ 3850 by omega)⟩ (fun H locs hB hz hk hS => ?_)
                    obtain ⟨g, h, hgo, hh, hRn⟩ := hB
                    rw [← hgo 0 0 (by decide) (by decide)] at hl
                    have hg0 := (hgo 0 0 (by decide) (by decide)).trans hg0
                    have hct := ct_come (r := (S_58 39 i_58)) hl2_58 hs1
                    have hc30 := ct_le hI_58.1
                    have hR : (xwi E C g h (xc_come S_58 i_58 (S_58 39 i_58)) q_52 (i_58 + 1) ((xc_come S_58 i_58 (S_58 39 i_58)) 20 1) (g 1 1) A) H := by have h9 := it_join hR hRn hk; rw [← hgo 1 1 (by decide) (by decide), ← xc_l (S := S_58) (i := i_58) (z := 1) (r := (S_58 39 i_58)) (k := 20) (by omega) (by simp)] at h9; exact h9
                    refine W.eq (g2 := F0 m 109 ls []) rfl ?_
                    refine lv_goto (tgt := 58) hx hb dX1_pass_109 (by decide) ?_
                    refine W.widen (k := (2 * i_33 + 2 * (30 - ct (xc_come S_58 i_58 (S_58 39 i_58))) + 1)) (n := (8 * i_33 + 20 * (30 - ct (xc_come S_58 i_58 (S_58 39 i_58))) + 4)) (by omega) (by omega) ?_
                    exact ih_58 (i_58 + 1) (xc_come S_58 i_58 (S_58 39 i_58)) _ _ _ _ _ (by omega) ((congrArg (fun z => xp_pass_R58 n_58 (i_58 + 1) z) hf_58).trans hg_58) (by first | exact hI_58 | exact ⟨xi_come hI_58.1 hl2_58, (xc_nz (by omega)).trans hI_58.2.1, (xc_nz (by omega)).trans hI_58.2.2⟩) hg0 hR hh hS (lv_sub hl [1, 2, 3, 4] rfl)
            refine W.widen (k := (2 * i_33 + 2 * (30 - ct (gs_up S_33 0 0 ((S_33 0 0) + 1))) + 1)) (n := (8 * i_33 + 20 * (30 - ct (gs_up S_33 0 0 ((S_33 0 0) + 1))) + 4)) (by have e9 := ct_up (S := S_33) (k := 0) (i := 0) (v := S_33 0 0 + 1) rfl rfl; omega) (by have e9 := ct_up (S := S_33) (k := 0) (i := 0) (v := S_33 0 0 + 1) rfl rfl; omega) ?_
            exact hL_58 (nz S 1) 0 (gs_up S_33 0 0 ((S_33 0 0) + 1)) _ _ _ _ _ (by omega) rfl ⟨xi_up rfl hI_33.1, (nz_up rfl).trans hI_33.2.1, (nz_up rfl).trans hI_33.2.2⟩ hg0 hR hh hS (lv_sub hl [1, 2, 3, 0] rfl)
        refine W.widen (k := (2 * 0 + 2 * (30 - ct S))) (n := (8 * 0 + 20 * (30 - ct S))) (Nat.zero_le _) (Nat.zero_le _) ?_
        exact hL_33 p1.toNatClampNeg 0 S _ _ _ _ _ (by omega) rfl ⟨hI, rfl, rfl⟩ hg0 hR hh hS (lv_sub hl [1, 2, 0] rfl)
      · skip
        have hf := (if_neg c_2).symm.trans hf
        refine W.eq (g2 := F0 m 28 ls [.int 0]) (congrArg (fun z => F0 m 28 ls (.int z :: [])) (if_neg c_2)) ?_
        refine cx_S (X := fun _ => True) (P := True) (As := [.int 0]) (rest := []) hK hZ hA hAA hS trivial trivial (xt_requireState l hfl E C A H.size) (fun _ h => hA _ (Nat.le_trans hS.1 h)) ⟨hx, hb, hml, hown, hts⟩ (va_cwS 1 hts (lw_S q457 q458 q33 q459) rfl rfl rfl (by decide +kernel) ⟨Nat.le_of_ble_eq_true rfl, Nat.le_of_ble_eq_true rfl⟩) rfl hl.1 rfl (Nat.le_of_ble_eq_true rfl) dX1_pass_28 ⟨Nat.le_of_ble_eq_true rfl, Nat.le_of_ble_eq_true rfl⟩ (fun ce q9 H locs hB hz hk hS hc9 hv9 hcl => ?_)
        have hR := hR.kept (fun a _ h => hk a h (Nat.not_le.mpr h))
        exact vx_out (fun x h => (hnt x h).elim) hlocks hc9 hv9 hcl (fun t ht _ => ⟨⟨hf.symm, by rw [ht]; exact hR⟩, hS.F ht⟩) hS.2.2 (Nat.le_of_ble_eq_true rfl) (Nat.le_of_ble_eq_true rfl)
    refine lv_icmp_gt (tgt := 27) hx hb dX1_pass_20 (by decide) (fun c_15 => ?_) (fun c_15 => ?_)
    · skip
      refine lv_iconst (v := 0) hx hb dX1_pass_27 (by decide) ?_
      exact hJ_28 _ _ _ 0 (gi_0 (gi_nb_t c_15)) hg0 hR hh hS (lv_sub hl [0, 1] rfl)
    · skip
      refine lv_iconst (v := 1) hx hb dX1_pass_23 (by decide) ?_
      refine lv_goto (tgt := 28) hx hb dX1_pass_24 (by decide) ?_
      exact hJ_28 _ _ _ 1 (gi_1 (gi_nb_f c_15)) hg0 hR hh hS (lv_sub hl [0, 1] rfl)
  · skip
    have hf := (if_neg c_1).symm.trans hf
    refine W.eq (g2 := F0 m 8 ls [.int 0]) (congrArg (fun z => F0 m 8 ls (.int z :: [])) (if_neg c_1)) ?_
    refine cx_S (X := fun _ => True) (P := True) (As := [.int 0]) (rest := []) hK hZ hA hAA hS trivial trivial (xt_requireArgument l hfl E C A H.size) (fun _ h => hA _ (Nat.le_trans hS.1 h)) ⟨hx, hb, hml, hown, hts⟩ (va_cwS 1 hts (lw_S q322 q323 q33 q324) rfl rfl rfl (by decide +kernel) ⟨Nat.le_of_ble_eq_true rfl, Nat.le_of_ble_eq_true rfl⟩) rfl hl.1 rfl (Nat.le_of_ble_eq_true rfl) dX1_pass_8 ⟨Nat.le_of_ble_eq_true rfl, Nat.le_of_ble_eq_true rfl⟩ (fun ce q9 H locs hB hz hk hS hc9 hv9 hcl => ?_)
    have hR := hR.kept (fun a _ h => hk a h (Nat.not_le.mpr h))
    exact vx_out (fun x h => (hnt x h).elim) hlocks hc9 hv9 hcl (fun t ht _ => ⟨⟨hf.symm, by rw [ht]; exact hR⟩, hS.F ht⟩) hS.2.2 (Nat.le_of_ble_eq_true rfl) (Nat.le_of_ble_eq_true rfl)
