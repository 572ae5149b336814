def xp_hand (S : gs_T) (p1 : Int32) (p2 : Int32) (p3 : Int32) : String ⊕ (Int32 × gs_T) := (if (xf_isIn p1 0 ((S 21 1) - 1)) = true then (if (xf_isIn p2 0 ((S 21 (7 + p1.toNatClampNeg)) - 1)) = true then (.inr ((if p3 = 0 then (S 71 (16 * p1.toNatClampNeg + p2.toNatClampNeg)) else (S 70 (16 * p1.toNatClampNeg + p2.toNatClampNeg))), S)) else (.inl "java/lang/IndexOutOfBoundsException")) else (.inl "java/lang/IndexOutOfBoundsException"))
def xp_question_L41 (S : gs_T) (p1 : Int32) (i_28 : Nat) (i_41 : Nat) (x8_41 : Int32) : Int32 := (x8_41 + (if ((xf_has (xf_candidates S p1.toNatClampNeg) (nI i_41)) = true) ∧ ((xf_has ((S 33 i_41) ||| (S 34 i_41)) (nI i_28)) = true) then 1 else 0))
def xp_question_R41 (S : gs_T) (p1 : Int32) (i_28 : Nat) (n i : Nat) (a : Int32) : Int32 := lp_up (fun i a => xp_question_L41 S p1 i_28 i a) n i a
def xp_question_L28 (S : gs_T) (p1 : Int32) (i_28 : Nat) (x5_28 : Int32) (x6_28 : Int32) : Int32 × Int32 := ((if (xf_has ((S 54 p1.toNatClampNeg) ||| (S 55 p1.toNatClampNeg)) (nI i_28)) = true then x5_28 else (if x6_28 ≤ (if 0 ≤ ((jf_bits (xf_candidates S p1.toNatClampNeg)) - (2 * (xp_question_R41 S p1 i_28 (nz S 1) 0 0))) then ((jf_bits (xf_candidates S p1.toNatClampNeg)) - (2 * (xp_question_R41 S p1 i_28 (nz S 1) 0 0))) else (0 - ((jf_bits (xf_candidates S p1.toNatClampNeg)) - (2 * (xp_question_R41 S p1 i_28 (nz S 1) 0 0))))) then x5_28 else (nI i_28))), (if (xf_has ((S 54 p1.toNatClampNeg) ||| (S 55 p1.toNatClampNeg)) (nI i_28)) = true then x6_28 else (if x6_28 ≤ (if 0 ≤ ((jf_bits (xf_candidates S p1.toNatClampNeg)) - (2 * (xp_question_R41 S p1 i_28 (nz S 1) 0 0))) then ((jf_bits (xf_candidates S p1.toNatClampNeg)) - (2 * (xp_question_R41 S p1 i_28 (nz S 1) 0 0))) else (0 - ((jf_bits (xf_candidates S p1.toNatClampNeg)) - (2 * (xp_question_R41 S p1 i_28 (nz S 1) 0 0))))) then x6_28 else (if 0 ≤ ((jf_bits (xf_candidates S p1.toNatClampNeg)) - (2 * (xp_question_R41 S p1 i_28 (nz S 1) 0 0))) then ((jf_bits (xf_candidates S p1.toNatClampNeg)) - (2 * (xp_question_R41 S p1 i_28 (nz S 1) 0 0))) else (0 - ((jf_bits (xf_candidates S p1.toNatClampNeg)) - (2 * (xp_question_R41 S p1 i_28 (nz S 1) 0 0))))))))
def xp_question_R28 (S : gs_T) (p1 : Int32) (n i : Nat) (a : Int32 × Int32) : Int32 × Int32 := lp_up (fun i a => xp_question_L28 S p1 i a.1 a.2) n i a
def xp_question (S : gs_T) (p1 : Int32) : String ⊕ (Int32 × gs_T) := (if (xf_isIn p1 0 ((S 21 2) - 1)) = true then (.inr ((xp_question_R28 S p1 24 0 ((-1), (jf_bits (xf_candidates S p1.toNatClampNeg)))).1, S)) else (.inl "java/lang/IndexOutOfBoundsException"))
def xp_candidate_L50 (S : gs_T) (p1 : Int32) (x4_31 : Int32) (i_50 : Nat) (x5_50 : Int32) : Int32 := (if (xf_has x4_31 (nI i_50)) = true then (if x5_50 = (-1) then (nI i_50) else (if (xf_score S i_50 p1.toNatClampNeg) ≤ (xf_score S x5_50.toNatClampNeg p1.toNatClampNeg) then x5_50 else (nI i_50))) else x5_50)
def xp_candidate_R50 (S : gs_T) (p1 : Int32) (x4_31 : Int32) (n i : Nat) (a : Int32) : Int32 := lp_up (fun i a => xp_candidate_L50 S p1 x4_31 i a) n i a
def xp_candidate_L31 (S : gs_T) (p1 : Int32) (i_31 : Nat) (x4_31 : Int32) (x5_31 : Int32) : Int32 × Int32 := ((x4_31 &&& (if (xp_candidate_R50 S p1 x4_31 (nz S 1) 0 (-1)) = (-1) then x4_31 else ((1 <<< ((xp_candidate_R50 S p1 x4_31 (nz S 1) 0 (-1)) &&& 31)) ^^^ (-1)))), (xp_candidate_R50 S p1 x4_31 (nz S 1) 0 (-1)))
def xp_candidate_R31 (S : gs_T) (p1 : Int32) (n i : Nat) (a : Int32 × Int32) : Int32 × Int32 := lp_up (fun i a => xp_candidate_L31 S p1 i a.1 a.2) n i a
def xp_candidate (S : gs_T) (p1 : Int32) (p2 : Int32) : String ⊕ (Int32 × gs_T) := (if (xf_isIn p1 0 ((S 21 2) - 1)) = true then (if ¬ (p2 < 0) then (.inr ((xp_candidate_R31 S p1 (cd_N p2) 0 ((xf_candidates S p1.toNatClampNeg), (-1))).2, S)) else (.inl "java/lang/IndexOutOfBoundsException")) else (.inl "java/lang/IndexOutOfBoundsException"))
set_option maxHeartbeats 2000000 in
set_option maxRecDepth 100000 in
theorem xs_hand (l : Launch) (hfl : l.stackTraces = false) (E : en_T) (C : ex_C) (A : Nat → Prop) (sz : Nat) (g : kw_A) (h : xh_T) (S : gs_T) (p1 : Int32) (p2 : Int32) (p3 : Int32) : vx_Met l yX1_hand (ws_ yX1_hand cX1_hand 6 (some .int)) { frames := 8, cells := 1, slots := 6, locals := 141 } (cpc E C A sz [.ref (g 0 0), .int p1, .int p2, .int p3] (xw E C g h S A) (xi_ok S ∧ xh C g h S)) (xq_Q (fun z => z) E C (g 0 0) A (xp_hand S p1 p2 p3)) (xq_X E C g h S A (xp_hand S p1 p2 p3)) 1 6 A := by
  refine cx_start (by decide) (Nat.le_of_ble_eq_true rfl) ?_
  intro p e s m below meth c ls hx hb hr hlocks hml hown hnm hnt hts hsz hK hZ hA hR hP hl
  subst hsz
  have hAA : ∀ a, A a → A a := fun _ h => h
  have hl : lv_has ls 6 [(0, .ref (g 0 0)), (1, .int p1), (2, .int p2), (3, .int p3)] := hl
  have hS : va_S A s.heap s.heap [] := va_S.rf
  have hZr := hZ
  obtain ⟨hI, hh⟩ := hP
  have hf : (xp_hand S p1 p2 p3) = (xp_hand S p1 p2 p3) := rfl
  refine lv_aload_n hx hb dX1_hand_0 rfl (lv_at hl 0 rfl) ?_
  refine lv_iload_n hx hb dX1_hand_1 rfl (lv_at hl 1 rfl) ?_
  by_cases c_1 : (xf_isIn p1 0 ((S 21 1) - 1)) = true
  · skip
    have hf := (if_pos c_1).symm.trans hf
    have of_2 := (xq_f hI c_1).1
    refine cq_V (v := (some (.ref (g 3 p1.toNatClampNeg)))) (As := [.int p1]) (rest := []) hK hZ hA hAA hS hR ⟨hI, hh, c_1⟩ (xt_findAt l E C A s.heap.size g h S p1) (fun _ h => hA _ (Nat.le_trans hS.1 h)) ⟨hx, hb, hml, hown, hts⟩ (cwV 1 hts (lw_V q586 q588 qs4 q33 q589) rfl rfl rfl (by decide +kernel) ⟨Nat.le_of_ble_eq_true rfl, Nat.le_of_ble_eq_true rfl⟩) (kw_recv (t := 0) (i := 0) hK.1 hR rfl rfl rfl) rfl hl.1 rfl (Nat.le_of_ble_eq_true rfl) dX1_hand_2 ⟨Nat.le_of_ble_eq_true rfl, Nat.le_of_ble_eq_true rfl⟩ (fun H locs hB hz hk hS => ?_)
    have hR := hR.kept (fun a _ h => hk a h (Nat.not_le.mpr h))
    refine W.eq (g2 := F0 m 5 ls [.ref (g 3 p1.toNatClampNeg)]) rfl ?_
    refine lv_astore (lv' := [(4, .ref (g 3 p1.toNatClampNeg)), (0, .ref (g 0 0)), (1, .int p1), (2, .int p2), (3, .int p3)]) hx hb dX1_hand_5 hl (by decide) rfl (fun ls hl => ?_)
    refine lv_iload_n hx hb dX1_hand_7 rfl (lv_at hl 3 rfl) ?_
    refine lv_iconst (v := 0) hx hb dX1_hand_8 (by decide) ?_
    refine lv_aload hx hb dX1_hand_9 (lv_at hl 0 rfl) ?_
    refine kw_getN (C := RX3) (T := TX3) (N := 15) (v := .ref (g 1 (7 + p1.toNatClampNeg))) hx hb hts in_X3 hown hK.1 hR 3 p1.toNatClampNeg of_2 rfl rfl 13 (by decide) (va_Nw.use rfl (hK.2.1 _ q546 rfl)) (fun _ h9 => h9) rfl dX1_hand_11 ?_
    refine cq_F (v := (some (.int (S 21 (7 + p1.toNatClampNeg))))) (As := []) (rest := [.int 0, .int p2]) hK hZ hA hAA hS hR ⟨(Nat.add_lt_add_left of_2 7), rfl⟩ (jt_size l E C A H.size (xok S) g (xen E C g h S) (7 + p1.toNatClampNeg) (S 20 (7 + p1.toNatClampNeg)) (S 21 (7 + p1.toNatClampNeg)) (.ref (if cz S (7 + p1.toNatClampNeg) = 0 then C.2.1 else g 2 (7 + p1.toNatClampNeg)))) (fun _ h => hA _ (Nat.le_trans hS.1 h)) (hK.1.1 5 _ rfl).2 ⟨hx, hb, hml, hown, hts⟩ (va_cwF 0 hts (lw_F q389 q392 q394 q36 q396) rfl rfl rfl (fw_size hK) (by decide +kernel) ⟨Nat.le_of_ble_eq_true rfl, Nat.le_of_ble_eq_true rfl⟩) (kw_recv (t := 1) (i := (7 + p1.toNatClampNeg)) hK.1 hR (Nat.add_lt_add_left of_2 7) rfl rfl) rfl hl.1 rfl (Nat.le_of_ble_eq_true rfl) dX1_hand_14 ⟨Nat.le_of_ble_eq_true rfl, Nat.le_of_ble_eq_true rfl⟩ (fun H locs hB hz hk hS => ?_)
    have hR := hR.kept (fun a _ h => hk a h (Nat.not_le.mpr h))
    refine W.eq (g2 := F0 m 19 ls [.int (S 21 (7 + p1.toNatClampNeg)), .int 0, .int p2]) rfl ?_
    refine lv_iconst (v := 1) hx hb dX1_hand_19 (by decide) ?_
    refine lv_isub hx hb dX1_hand_20 ?_
    refine ps_calli (As := [.int p2, .int 0, .int ((S 21 (7 + p1.toNatClampNeg)) - 1)]) (rest := []) ⟨hx, hb, hml, hown, hts⟩ (xt_isIn l p2 0 ((S 21 (7 + p1.toNatClampNeg)) - 1)) (va_cwS 3 hts (lw_S q295 q296 q33 q297) rfl rfl rfl (by decide +kernel) ⟨Nat.le_of_ble_eq_true rfl, Nat.le_of_ble_eq_true rfl⟩) trivial hS rfl hl.1 rfl (Nat.le_of_ble_eq_true rfl) dX1_hand_21 ⟨Nat.zero_le _, Nat.zero_le _⟩ (fun H locs hz hk hS => ?_)
    have hR := hR.kept (fun a _ h => hk a h)
    by_cases c_2 : (xf_isIn p2 0 ((S 21 (7 + p1.toNatClampNeg)) - 1)) = true
    · skip
      have hf := (if_pos c_2).symm.trans hf
      have o_h := xq_h hI of_2 c_2
      refine ps_callv (As := [.int (if (xf_isIn p2 0 ((S 21 (7 + p1.toNatClampNeg)) - 1)) = true then 1 else 0)]) (rest := []) ⟨hx, hb, hml, hown, hts⟩ (xo_requireIndex l _) (va_cwS 1 hts (lw_S q298 q299 q33 q300) rfl rfl rfl (by decide +kernel) ⟨Nat.le_of_ble_eq_true rfl, Nat.le_of_ble_eq_true rfl⟩) (if_pos c_2) hS rfl hl.1 rfl (Nat.le_of_ble_eq_true rfl) dX1_hand_24 ⟨Nat.le_of_ble_eq_true rfl, Nat.le_of_ble_eq_true rfl⟩ (fun H locs hz hk hS => ?_)
      have hR := hR.kept (fun a _ h => hk a h)
      refine lv_aload hx hb dX1_hand_27 (lv_at hl 0 rfl) ?_
      refine kw_getN (C := RX3) (T := TX3) (N := 15) (v := .ref (g 1 (7 + p1.toNatClampNeg))) hx hb hts in_X3 hown hK.1 hR 3 p1.toNatClampNeg of_2 rfl rfl 13 (by decide) (va_Nw.use rfl (hK.2.1 _ q546 rfl)) (fun _ h9 => h9) rfl dX1_hand_29 ?_
      refine lv_iload_n hx hb dX1_hand_32 rfl (lv_at hl 3 rfl) ?_
      refine cq_F (v := (some (.ref (g 5 (16 * p1.toNatClampNeg + p2.toNatClampNeg))))) (As := [.int p2]) (rest := []) hK hZ hA hAA hS hR (xg_get hI hh (Nat.add_lt_add_left of_2 7) o_h.2.1 o_h.2.2.1 (o_h.2.2.2 C g)) (jt_get l E C A H.size (xok S) g (xen E C g h S) (7 + p1.toNatClampNeg) (S 20 (7 + p1.toNatClampNeg)) (S 21 (7 + p1.toNatClampNeg)) (cz S (7 + p1.toNatClampNeg)) (h (7 + p1.toNatClampNeg)) p2 (g 5 (16 * p1.toNatClampNeg + p2.toNatClampNeg))) (fun _ h => hA _ (Nat.le_trans hS.1 h)) (hK.1.1 5 _ rfl).2 ⟨hx, hb, hml, hown, hts⟩ (va_cwF 1 hts (lw_F q369 q372 q374 q36 q376) rfl rfl rfl (fw_get hK) (by decide +kernel) ⟨Nat.le_of_ble_eq_true rfl, Nat.le_of_ble_eq_true rfl⟩) (kw_recv (t := 1) (i := (7 + p1.toNatClampNeg)) hK.1 hR (Nat.add_lt_add_left of_2 7) rfl rfl) rfl hl.1 rfl (Nat.le_of_ble_eq_true rfl) dX1_hand_33 ⟨Nat.le_of_ble_eq_true rfl, Nat.le_of_ble_eq_true rfl⟩ (fun H locs hB hz hk hS => ?_)
      have hR := hR.kept (fun a _ h => hk a h (Nat.not_le.mpr h))
      refine W.eq (g2 := F0 m 38 ls [.ref (g 5 (16 * p1.toNatClampNeg + p2.toNatClampNeg))]) rfl ?_
      refine va_castS hx hb hown (hts _ q915) (hK.1.1 3 _ rfl).2 (kw_recv (t := 5) (i := (16 * p1.toNatClampNeg + p2.toNatClampNeg)) hK.1 hR o_h.1 rfl rfl) dX1_hand_38 ?_
      refine lv_astore (lv' := [(5, .ref (g 5 (16 * p1.toNatClampNeg + p2.toNatClampNeg))), (4, .ref (g 3 p1.toNatClampNeg)), (0, .ref (g 0 0)), (1, .int p1), (2, .int p2), (3, .int p3)]) hx hb dX1_hand_41 hl (by decide) rfl (fun ls hl => ?_)
      refine lv_iload_n hx hb dX1_hand_43 rfl (lv_at hl 5 rfl) ?_
      have hJ_60 : ∀ (H : Heap) (locs : List Loc) (ls : Array Slot) (v_60 : Int32), v_60 = (if p3 = 0 then (S 71 (16 * p1.toNatClampNeg + p2.toNatClampNeg)) else (S 70 (16 * p1.toNatClampNeg + p2.toNatClampNeg))) → (xw E C g h S A) H → va_S A s.heap H locs → lv_has ls 6 [] → cx_G p l e { frames := 8, cells := 1, slots := 6, locals := 141 } s m [.ref (g 0 0), .int p1, .int p2, .int p3] below meth c A (xq_Q (fun z => z) E C (g 0 0) A (xp_hand S p1 p2 p3)) (xq_X E C g h S A (xp_hand S p1 p2 p3)) 1 6 H locs 0 0 (F0 m 60 ls [.int v_60]) := by
        intro H locs ls v_60 e_v_60 hR hS hl
        subst e_v_60
        refine W.widen (k := 1) (n := 6) (Nat.le_of_ble_eq_true rfl) (Nat.le_of_ble_eq_true rfl) ?_
        exact vx_ret (W.iret (v := (if p3 = 0 then (S 71 (16 * p1.toNatClampNeg + p2.toNatClampNeg)) else (S 70 (16 * p1.toNatClampNeg + p2.toNatClampNeg)))) hx hb hr (fun t ht hW => ⟨⟨_, _, hf.symm, rfl, g, h, rfl, hh, by rw [ht]; exact hR⟩, hS.F ht⟩) hS.2.2 dX1_hand_60)
      refine lv_if_eq (tgt := 55) hx hb dX1_hand_44 (by decide) (fun c_3 => ?_) (fun c_3 => ?_)
      · skip
        refine lv_aload hx hb dX1_hand_55 (lv_at hl 0 rfl) ?_
        refine cq_V (v := (some (.int (S 71 (16 * p1.toNatClampNeg + p2.toNatClampNeg))))) (As := []) (rest := []) hK hZ hA hAA hS hR o_h.1 (xt_hand_room l E C A H.size g h S (16 * p1.toNatClampNeg + p2.toNatClampNeg)) (fun _ h => hA _ (Nat.le_trans hS.1 h)) ⟨hx, hb, hml, hown, hts⟩ (cwV 0 hts (lw_V q920 q921 q922 q57 q923) rfl rfl rfl (by decide +kernel) ⟨Nat.le_of_ble_eq_true rfl, Nat.le_of_ble_eq_true rfl⟩) (kw_recv (t := 5) (i := (16 * p1.toNatClampNeg + p2.toNatClampNeg)) hK.1 hR o_h.1 rfl rfl) rfl hl.1 rfl (Nat.le_of_ble_eq_true rfl) dX1_hand_57 ⟨Nat.le_of_ble_eq_true rfl, Nat.le_of_ble_eq_true rfl⟩ (fun H locs hB hz hk hS => ?_)
        have hR := hR.kept (fun a _ h => hk a h (Nat.not_le.mpr h))
        refine W.eq (g2 := F0 m 60 ls [.int (S 71 (16 * p1.toNatClampNeg + p2.toNatClampNeg))]) rfl ?_
        exact hJ_60 _ _ _ (S 71 (16 * p1.toNatClampNeg + p2.toNatClampNeg)) ((if_pos c_3).symm) hR hS (lv_sub hl [] rfl)
      · skip
        refine lv_aload hx hb dX1_hand_47 (lv_at hl 0 rfl) ?_
        refine cq_V (v := (some (.int (S 70 (16 * p1.toNatClampNeg + p2.toNatClampNeg))))) (As := []) (rest := []) hK hZ hA hAA hS hR o_h.1 (xt_hand_day l E C A H.size g h S (16 * p1.toNatClampNeg + p2.toNatClampNeg)) (fun _ h => hA _ (Nat.le_trans hS.1 h)) ⟨hx, hb, hml, hown, hts⟩ (cwV 0 hts (lw_V q916 q917 q918 q57 q919) rfl rfl rfl (by decide +kernel) ⟨Nat.le_of_ble_eq_true rfl, Nat.le_of_ble_eq_true rfl⟩) (kw_recv (t := 5) (i := (16 * p1.toNatClampNeg + p2.toNatClampNeg)) hK.1 hR o_h.1 rfl rfl) rfl hl.1 rfl (Nat.le_of_ble_eq_true rfl) dX1_hand_49 ⟨Nat.le_of_ble_eq_true rfl, Nat.le_of_ble_eq_true rfl⟩ (fun H locs hB hz hk hS => ?_)
        have hR := hR.kept (fun a _ h => hk a h (Nat.not_le.mpr h))
        refine W.eq (g2 := F0 m 52 ls [.int (S 70 (16 * p1.toNatClampNeg + p2.toNatClampNeg))]) rfl ?_
        refine lv_goto (tgt := 60) hx hb dX1_hand_52 (by decide) ?_
        exact hJ_60 _ _ _ (S 70 (16 * p1.toNatClampNeg + p2.toNatClampNeg)) ((if_neg c_3).symm) hR hS (lv_sub hl [] rfl)
    · skip
      have hf := (if_neg c_2).symm.trans hf
      refine W.eq (g2 := F0 m 24 ls [.int 0]) (congrArg (fun z => F0 m 24 ls (.int z :: [])) (if_neg c_2)) ?_
      refine cx_S (X := fun _ => True) (P := True) (As := [.int 0]) (rest := []) hK hZ hA hAA hS trivial trivial (xt_requireIndex l hfl E C A H.size) (fun _ h => hA _ (Nat.le_trans hS.1 h)) ⟨hx, hb, hml, hown, hts⟩ (va_cwS 1 hts (lw_S q298 q299 q33 q300) rfl rfl rfl (by decide +kernel) ⟨Nat.le_of_ble_eq_true rfl, Nat.le_of_ble_eq_true rfl⟩) rfl hl.1 rfl (Nat.le_of_ble_eq_true rfl) dX1_hand_24 ⟨Nat.le_of_ble_eq_true rfl, Nat.le_of_ble_eq_true rfl⟩ (fun ce q9 H locs hB hz hk hS hc9 hv9 hcl => ?_)
      have hR := hR.kept (fun a _ h => hk a h (Nat.not_le.mpr h))
      exact vx_out (fun x h => (hnt x h).elim) hlocks hc9 hv9 hcl (fun t ht _ => ⟨⟨hf.symm, by rw [ht]; exact hR⟩, hS.F ht⟩) hS.2.2 (Nat.le_of_ble_eq_true rfl) (Nat.le_of_ble_eq_true rfl)
  · skip
    have hf := (if_neg c_1).symm.trans hf
    refine cx_V (As := [.int p1]) (rest := []) hK hZ hA hAA hS hR ⟨hI, hh, c_1⟩ (xx_findAt l hfl E C A s.heap.size g h S p1) (fun _ h => hA _ (Nat.le_trans hS.1 h)) ⟨hx, hb, hml, hown, hts⟩ (cwV 1 hts (lw_V q586 q588 qs4 q33 q589) rfl rfl rfl (by decide +kernel) ⟨Nat.le_of_ble_eq_true rfl, Nat.le_of_ble_eq_true rfl⟩) (kw_recv (t := 0) (i := 0) hK.1 hR rfl rfl rfl) rfl hl.1 rfl (Nat.le_of_ble_eq_true rfl) dX1_hand_2 ⟨Nat.le_of_ble_eq_true rfl, Nat.le_of_ble_eq_true rfl⟩ (fun ce q9 H locs hB hz hk hS hc9 hv9 hcl => ?_)
    have hR := hR.kept (fun a _ h => hk a h (Nat.not_le.mpr h))
    exact vx_out (fun x h => (hnt x h).elim) hlocks hc9 hv9 hcl (fun t ht _ => ⟨⟨hf.symm, by rw [ht]; exact hR⟩, hS.F ht⟩) hS.2.2 (Nat.le_of_ble_eq_true rfl) (Nat.le_of_ble_eq_true rfl)
set_option maxHeartbeats 2000000 in
set_option maxRecDepth 100000 in
theorem xt_today (l : Launch) (E : en_T) (C : ex_C) (A : Nat → Prop) (sz : Nat) (g : kw_A) (h : xh_T) (S : gs_T) : Met l yX1_today (ws_ yX1_today cX1_today 1 (some .int)) { frames := 0, cells := 0, slots := 0, locals := 0 } (cpc E C A sz [.ref (g 0 0)] (xw E C g h S A) (True)) (cq_Q (some (.int (S 0 0))) (fun _ => True) (nw_A sz)) 0 0 (nw_A sz) := by
  refine cq_start (by decide) (Nat.le_of_ble_eq_true rfl) ?_
  intro p e s m below meth c ls hx hb hr hlocks hml hown hnm hts hsz hK hZ hA hR hP hl
  subst hsz
  have hAA : ∀ a, nw_A s.heap.size a → A a := hA
  have hl : lv_has ls 1 [(0, .ref (g 0 0))] := hl
  have hS : va_S (nw_A s.heap.size) s.heap s.heap [] := va_S.rf
  have hZr := hZ.fresh
  have hP9 := hP
  refine lv_aload_n hx hb dX1_today_0 rfl (lv_at hl 0 rfl) ?_
  refine kw_get (C := RX1) (T := TX1) (N := 12) (v := .int (S 0 0)) hx hb hts in_X1 hown hK.1 hR 0 0 rfl rfl rfl 0 (by decide) (hts _ q168) (fun _ h9 => h9) rfl dX1_today_1 ?_
  exact W.iret (v := (S 0 0)) hx hb hr (fun t ht hW => ⟨⟨rfl, trivial⟩, hS.F ht⟩) hS.2.2 dX1_today_4
set_option maxHeartbeats 2000000 in
set_option maxRecDepth 100000 in
theorem xs_question (l : Launch) (hfl : l.stackTraces = false) (E : en_T) (C : ex_C) (A : Nat → Prop) (sz : Nat) (g : kw_A) (h : xh_T) (S : gs_T) (p1 : Int32) : vx_Met l yX1_question (ws_ yX1_question cX1_question 10 (some .int)) { frames := 10, cells := 1, slots := 6, locals := 223 } (cpc E C A sz [.ref (g 0 0), .int p1] (xw E C g h S A) (xi_ok S ∧ xh C g h S)) (xq_Q (fun z => z) E C (g 0 0) A (xp_question S p1)) (xq_X E C g h S A (xp_question S p1)) 1 6 A := by
  refine cx_start (by decide) (Nat.le_of_ble_eq_true rfl) ?_
  intro p e s m below meth c ls hx hb hr hlocks hml hown hnm hnt hts hsz hK hZ hA hR hP hl
  subst hsz
  have hAA : ∀ a, A a → A a := fun _ h => h
  have hl : lv_has ls 10 [(0, .ref (g 0 0)), (1, .int p1)] := hl
  have hS : va_S A s.heap s.heap [] := va_S.rf
  have hZr := hZ
  obtain ⟨hI, hh⟩ := hP
  have hn1 := (xi_fn hI).2
  have hf : (xp_question S p1) = (xp_question S p1) := rfl
  refine lv_aload_n hx hb dX1_question_0 rfl (lv_at hl 0 rfl) ?_
  refine lv_iload_n hx hb dX1_question_1 rfl (lv_at hl 1 rfl) ?_
  by_cases c_1 : (xf_isIn p1 0 ((S 21 2) - 1)) = true
  · skip
    have hf := (if_pos c_1).symm.trans hf
    have oc_2 := (xq_c hI c_1).1
    refine cq_V (v := (some (.ref (g 4 p1.toNatClampNeg)))) (As := [.int p1]) (rest := []) hK hZ hA hAA hS hR ⟨hI, hh, c_1⟩ (xt_claimAt l E C A s.heap.size g h S p1) (fun _ h => hA _ (Nat.le_trans hS.1 h)) ⟨hx, hb, hml, hown, hts⟩ (cwV 1 hts (lw_V q759 q761 qs6 q33 q762) rfl rfl rfl (by decide +kernel) ⟨Nat.le_of_ble_eq_true rfl, Nat.le_of_ble_eq_true rfl⟩) (kw_recv (t := 0) (i := 0) hK.1 hR rfl rfl rfl) rfl hl.1 rfl (Nat.le_of_ble_eq_true rfl) dX1_question_2 ⟨Nat.le_of_ble_eq_true rfl, Nat.le_of_ble_eq_true rfl⟩ (fun H locs hB hz hk hS => ?_)
    have hR := hR.kept (fun a _ h => hk a h (Nat.not_le.mpr h))
    refine W.eq (g2 := F0 m 5 ls [.ref (g 4 p1.toNatClampNeg)]) rfl ?_
    refine lv_astore_n (lv' := [(2, .ref (g 4 p1.toNatClampNeg)), (0, .ref (g 0 0)), (1, .int p1)]) hx hb dX1_question_5 rfl hl (by decide) rfl (fun ls hl => ?_)
    refine lv_aload_n hx hb dX1_question_6 rfl (lv_at hl 1 rfl) ?_
    refine lv_aload_n hx hb dX1_question_7 rfl (lv_at hl 0 rfl) ?_
    refine cq_V (v := (some (.int (xf_candidates S p1.toNatClampNeg)))) (As := [.ref (g 4 p1.toNatClampNeg)]) (rest := []) hK hZ hA hAA hS hR ⟨hI, hh, (by first | assumption | omega)⟩ (xt_candidates l E C A H.size g h S p1.toNatClampNeg) (fun _ h => hA _ (Nat.le_trans hS.1 h)) ⟨hx, hb, hml, hown, hts⟩ (cwV 1 hts (lw_V q873 q875 qs14 q33 q876) rfl rfl rfl (by decide +kernel) ⟨Nat.le_of_ble_eq_true rfl, Nat.le_of_ble_eq_true rfl⟩) (kw_recv (t := 0) (i := 0) hK.1 hR rfl rfl rfl) rfl hl.1 rfl (Nat.le_of_ble_eq_true rfl) dX1_question_8 ⟨Nat.le_of_ble_eq_true rfl, Nat.le_of_ble_eq_true rfl⟩ (fun H locs hB hz hk hS => ?_)
    have hR := hR.kept (fun a _ h => hk a h (Nat.not_le.mpr h))
    refine W.eq (g2 := F0 m 11 ls [.int (xf_candidates S p1.toNatClampNeg)]) rfl ?_
    refine lv_istore_n (lv' := [(3, .int (xf_candidates S p1.toNatClampNeg)), (2, .ref (g 4 p1.toNatClampNeg)), (0, .ref (g 0 0)), (1, .int p1)]) hx hb dX1_question_11 rfl hl (by decide) rfl (fun ls hl => ?_)
    refine lv_iload_n hx hb dX1_question_12 rfl (lv_at hl 0 rfl) ?_
    refine ps_calli (As := [.int (xf_candidates S p1.toNatClampNeg)]) (rest := []) ⟨hx, hb, hml, hown, hts⟩ (jt_bits l (xf_candidates S p1.toNatClampNeg)) (va_cwS 1 hts (lw_S q590 q591 q52 q592) rfl rfl rfl (by decide +kernel) ⟨Nat.le_of_ble_eq_true rfl, Nat.le_of_ble_eq_true rfl⟩) trivial hS rfl hl.1 rfl (Nat.le_of_ble_eq_true rfl) dX1_question_13 ⟨Nat.zero_le _, Nat.zero_le _⟩ (fun H locs hz hk hS => ?_)
    have hR := hR.kept (fun a _ h => hk a h)
    refine lv_istore (lv' := [(4, .int (jf_bits (xf_candidates S p1.toNatClampNeg))), (3, .int (xf_candidates S p1.toNatClampNeg)), (2, .ref (g 4 p1.toNatClampNeg)), (0, .ref (g 0 0)), (1, .int p1)]) hx hb dX1_question_16 hl (by decide) rfl (fun ls hl => ?_)
    refine lv_iconst (v := (-1)) hx hb dX1_question_18 (by decide) ?_
    refine lv_istore (lv' := [(5, .int (-1)), (4, .int (jf_bits (xf_candidates S p1.toNatClampNeg))), (3, .int (xf_candidates S p1.toNatClampNeg)), (2, .ref (g 4 p1.toNatClampNeg)), (0, .ref (g 0 0)), (1, .int p1)]) hx hb dX1_question_19 hl (by decide) rfl (fun ls hl => ?_)
    refine lv_iload hx hb dX1_question_21 (lv_at hl 1 rfl) ?_
    refine lv_istore (lv' := [(6, .int (jf_bits (xf_candidates S p1.toNatClampNeg))), (5, .int (-1)), (4, .int (jf_bits (xf_candidates S p1.toNatClampNeg))), (3, .int (xf_candidates S p1.toNatClampNeg)), (2, .ref (g 4 p1.toNatClampNeg)), (0, .ref (g 0 0)), (1, .int p1)]) hx hb dX1_question_23 hl (by decide) rfl (fun ls hl => ?_)
    refine lv_iconst (v := 0) hx hb dX1_question_25 (by decide) ?_
    refine lv_istore (lv' := [(7, .int 0), (6, .int (jf_bits (xf_candidates S p1.toNatClampNeg))), (5, .int (-1)), (4, .int (jf_bits (xf_candidates S p1.toNatClampNeg))), (3, .int (xf_candidates S p1.toNatClampNeg)), (2, .ref (g 4 p1.toNatClampNeg)), (0, .ref (g 0 0)), (1, .int p1)]) hx hb dX1_question_26 hl (by decide) rfl (fun ls hl => ?_)
    have hL_28 : ∀ (n_28 i_28 : Nat) (x5_28 : Int32) (x6_28 : Int32) (H : Heap) (locs : List Loc) (ls : Array Slot), i_28 + n_28 = 24 → xp_question_R28 S p1 n_28 i_28 (x5_28, x6_28) = (xp_question_R28 S p1 24 0 ((-1), (jf_bits (xf_candidates S p1.toNatClampNeg)))) → (xw E C g h S A) H → va_S A s.heap H locs → lv_has ls 10 [(0, .ref (g 0 0)), (2, .ref (g 4 p1.toNatClampNeg)), (3, .int (xf_candidates S p1.toNatClampNeg)), (4, .int (jf_bits (xf_candidates S p1.toNatClampNeg))), (5, .int x5_28), (6, .int x6_28), (7, .int (nI i_28))] → cx_G p l e { frames := 10, cells := 1, slots := 6, locals := 223 } s m [.ref (g 0 0), .int p1] below meth c A (xq_Q (fun z => z) E C (g 0 0) A (xp_question S p1)) (xq_X E C g h S A (xp_question S p1)) 1 6 H locs 0 0 (F0 m 28 ls []) := by
      intro n_28
      induction n_28 with
      | zero =>
        intro i_28 x5_28 x6_28 H locs ls hi_28 hg_28 hR hS hl
        have hi_28 : i_28 = 24 := hi_28
        subst hi_28
        have e_x5_28 : x5_28 = (xp_question_R28 S p1 24 0 ((-1), (jf_bits (xf_candidates S p1.toNatClampNeg)))).1 := congrArg (fun z => z.1) hg_28
        have e_x6_28 : x6_28 = (xp_question_R28 S p1 24 0 ((-1), (jf_bits (xf_candidates S p1.toNatClampNeg)))).2 := congrArg (fun z => z.2) hg_28
        subst e_x5_28
        subst e_x6_28
        refine lv_iload hx hb dX1_question_28 (lv_at hl 6 rfl) ?_
        refine lv_bipush (v := 24) hx hb dX1_question_30 (by decide) ?_
        refine lv_icmp_ge (tgt := 173) hx hb dX1_question_32 (by decide) (fun c_2 => ?_) (fun c_2 => absurd (lp_x0 (rfl : (24 : Int32) = nI 24)) c_2)
        refine lv_iload hx hb dX1_question_173 (lv_at hl 4 rfl) ?_
        refine W.widen (k := 1) (n := 6) (Nat.le_of_ble_eq_true rfl) (Nat.le_of_ble_eq_true rfl) ?_
        exact vx_ret (W.iret (v := (xp_question_R28 S p1 24 0 ((-1), (jf_bits (xf_candidates S p1.toNatClampNeg)))).1) hx hb hr (fun t ht hW => ⟨⟨_, _, hf.symm, rfl, g, h, rfl, hh, by rw [ht]; exact hR⟩, hS.F ht⟩) hS.2.2 dX1_question_175)
      | succ n_28 ih_28 =>
        intro i_28 x5_28 x6_28 H locs ls hi_28 hg_28 hR hS hl
        have hlt_28 : i_28 < 24 := by omega
        have hf_28 : xp_question_L28 S p1 i_28 x5_28 x6_28 = xp_question_L28 S p1 i_28 x5_28 x6_28 := rfl
        refine lv_iload hx hb dX1_question_28 (lv_at hl 6 rfl) ?_
        refine lv_bipush (v := 24) hx hb dX1_question_30 (by decide) ?_
        refine lv_icmp_ge (tgt := 173) hx hb dX1_question_32 (by decide) (fun c_3 => absurd c_3 (lp_x1 (rfl : (24 : Int32) = nI 24) hlt_28 (by decide))) (fun c_3 => ?_)
        refine lv_iconst (v := 0) hx hb dX1_question_35 (by decide) ?_
        refine lv_istore (lv' := [(8, .int 0), (0, .ref (g 0 0)), (2, .ref (g 4 p1.toNatClampNeg)), (3, .int (xf_candidates S p1.toNatClampNeg)), (4, .int (jf_bits (xf_candidates S p1.toNatClampNeg))), (5, .int x5_28), (6, .int x6_28), (7, .int (nI i_28))]) hx hb dX1_question_36 hl (by decide) rfl (fun ls hl => ?_)
        refine lv_iconst (v := 0) hx hb dX1_question_38 (by decide) ?_
        refine lv_istore (lv' := [(9, .int 0), (8, .int 0), (0, .ref (g 0 0)), (2, .ref (g 4 p1.toNatClampNeg)), (3, .int (xf_candidates S p1.toNatClampNeg)), (4, .int (jf_bits (xf_candidates S p1.toNatClampNeg))), (5, .int x5_28), (6, .int x6_28), (7, .int (nI i_28))]) hx hb dX1_question_39 hl (by decide) rfl (fun ls hl => ?_)
        have hL_41 : ∀ (n_41 i_41 : Nat) (x8_41 : Int32) (H : Heap) (locs : List Loc) (ls : Array Slot), i_41 + n_41 = (nz S 1) → xp_question_R41 S p1 i_28 n_41 i_41 x8_41 = (xp_question_R41 S p1 i_28 (nz S 1) 0 0) → (xw E C g h S A) H → va_S A s.heap H locs → lv_has ls 10 [(0, .ref (g 0 0)), (2, .ref (g 4 p1.toNatClampNeg)), (3, .int (xf_candidates S p1.toNatClampNeg)), (4, .int (jf_bits (xf_candidates S p1.toNatClampNeg))), (5, .int x5_28), (6, .int x6_28), (7, .int (nI i_28)), (8, .int x8_41), (9, .int (nI i_41))] → cx_G p l e { frames := 10, cells := 1, slots := 6, locals := 223 } s m [.ref (g 0 0), .int p1] below meth c A (xq_Q (fun z => z) E C (g 0 0) A (xp_question S p1)) (xq_X E C g h S A (xp_question S p1)) 1 6 H locs 0 0 (F0 m 41 ls []) := by
          intro n_41
          induction n_41 with
          | zero =>
            intro i_41 x8_41 H locs ls hi_41 hg_41 hR hS hl
            have hi_41 : i_41 = (nz S 1) := hi_41
            subst hi_41
            have e_x8_41 : x8_41 = (xp_question_R41 S p1 i_28 (nz S 1) 0 0) := congrArg (fun z => z) hg_41
            subst e_x8_41
            refine lv_iload hx hb dX1_question_41 (lv_at hl 8 rfl) ?_
            refine lv_aload_n hx hb dX1_question_43 rfl (lv_at hl 0 rfl) ?_
            refine kw_get (C := RX1) (T := TX1) (N := 12) (v := .ref (g 1 1)) hx hb hts in_X1 hown hK.1 hR 0 0 rfl rfl rfl 7 (by decide) (hts _ q176) (fun _ h9 => h9) rfl dX1_question_44 ?_
            refine cq_F (v := (some (.int (S 21 1)))) (As := []) (rest := [.int (nI (nz S 1))]) hK hZ hA hAA hS hR ⟨(Nat.lt_of_lt_of_le (by decide) (Nat.le_add_right 7 _)), rfl⟩ (jt_size l E C A H.size (xok S) g (xen E C g h S) 1 (S 20 1) (S 21 1) (.ref (if cz S 1 = 0 then C.2.1 else g 2 1))) (fun _ h => hA _ (Nat.le_trans hS.1 h)) (hK.1.1 5 _ rfl).2 ⟨hx, hb, hml, hown, hts⟩ (va_cwF 0 hts (lw_F q389 q392 q394 q36 q396) rfl rfl rfl (fw_size hK) (by decide +kernel) ⟨Nat.le_of_ble_eq_true rfl, Nat.le_of_ble_eq_true rfl⟩) (kw_recv (t := 1) (i := 1) hK.1 hR (Nat.lt_of_lt_of_le (by decide) (Nat.le_add_right 7 _)) rfl rfl) rfl hl.1 rfl (Nat.le_of_ble_eq_true rfl) dX1_question_47 ⟨Nat.le_of_ble_eq_true rfl, Nat.le_of_ble_eq_true rfl⟩ (fun H locs hB hz hk hS => ?_)
            have hR := hR.kept (fun a _ h => hk a h (Nat.not_le.mpr h))
            refine W.eq (g2 := F0 m 52 ls [.int (S 21 1), .int (nI (nz S 1))]) rfl ?_
            refine lv_icmp_ge (tgt := 123) hx hb dX1_question_52 (by decide) (fun c_4 => ?_) (fun c_4 => absurd (lp_x0 ((xi_fn hI).1)) c_4)
            refine lv_iload hx hb dX1_question_123 (lv_at hl 3 rfl) ?_
            refine lv_iconst (v := 2) hx hb dX1_question_125 (by decide) ?_
            refine lv_iload hx hb dX1_question_126 (lv_at hl 7 rfl) ?_
            refine lv_imul hx hb dX1_question_128 ?_
            refine lv_isub hx hb dX1_question_129 ?_
            refine va_mabs hx hb (hml.trans hl.1.symm) hown (hts _ q884) (hts _ q885) (hts _ q39) (hts _ q886) (Nat.le_of_ble_eq_true rfl) (Nat.le_of_ble_eq_true rfl) (Nat.le_of_ble_eq_true rfl) (Nat.le_of_ble_eq_true rfl) dX1_question_130 ?_
            refine lv_istore (lv' := [(9, .int (if 0 ≤ ((jf_bits (xf_candidates S p1.toNatClampNeg)) - (2 * (xp_question_R41 S p1 i_28 (nz S 1) 0 0))) then ((jf_bits (xf_candidates S p1.toNatClampNeg)) - (2 * (xp_question_R41 S p1 i_28 (nz S 1) 0 0))) else (0 - ((jf_bits (xf_candidates S p1.toNatClampNeg)) - (2 * (xp_question_R41 S p1 i_28 (nz S 1) 0 0)))))), (0, .ref (g 0 0)), (2, .ref (g 4 p1.toNatClampNeg)), (3, .int (xf_candidates S p1.toNatClampNeg)), (4, .int (jf_bits (xf_candidates S p1.toNatClampNeg))), (5, .int x5_28), (6, .int x6_28), (7, .int (nI i_28)), (8, .int (xp_question_R41 S p1 i_28 (nz S 1) 0 0))]) hx hb dX1_question_133 hl (by decide) rfl (fun ls hl => ?_)
            refine lv_aload_n hx hb dX1_question_135 rfl (lv_at hl 2 rfl) ?_
            refine kw_getN (C := RX5) (T := TX5) (N := 10) (v := .int (S 54 p1.toNatClampNeg)) hx hb hts in_X5 hown hK.1 hR 4 p1.toNatClampNeg oc_2 rfl rfl 4 (by decide) (va_Nw.use rfl (hK.2.1 _ q721 rfl)) (fun _ h9 => h9) rfl dX1_question_136 ?_
            refine lv_aload_n hx hb dX1_question_139 rfl (lv_at hl 2 rfl) ?_
            refine kw_getN (C := RX5) (T := TX5) (N := 10) (v := .int (S 55 p1.toNatClampNeg)) hx hb hts in_X5 hown hK.1 hR 4 p1.toNatClampNeg oc_2 rfl rfl 5 (by decide) (va_Nw.use rfl (hK.2.1 _ q723 rfl)) (fun _ h9 => h9) rfl dX1_question_140 ?_
            refine lv_ior hx hb dX1_question_143 ?_
            refine lv_iload hx hb dX1_question_144 (lv_at hl 7 rfl) ?_
            refine ps_calli (As := [.int ((S 54 p1.toNatClampNeg) ||| (S 55 p1.toNatClampNeg)), .int (nI i_28)]) (rest := []) ⟨hx, hb, hml, hown, hts⟩ (xt_has l ((S 54 p1.toNatClampNeg) ||| (S 55 p1.toNatClampNeg)) (nI i_28)) (va_cwS 2 hts (lw_S q340 q341 q33 q342) rfl rfl rfl (by decide +kernel) ⟨Nat.le_of_ble_eq_true rfl, Nat.le_of_ble_eq_true rfl⟩) trivial hS rfl hl.1 rfl (Nat.le_of_ble_eq_true rfl) dX1_question_146 ⟨Nat.zero_le _, Nat.zero_le _⟩ (fun H locs hz hk hS => ?_)
            have hR := hR.kept (fun a _ h => hk a h)
            have hJ_167 : ∀ (H : Heap) (locs : List Loc) (ls : Array Slot) (v_167 : Int32) (v_167b : Int32), v_167 = (if (xf_has ((S 54 p1.toNatClampNeg) ||| (S 55 p1.toNatClampNeg)) (nI i_28)) = true then x5_28 else (if x6_28 ≤ (if 0 ≤ ((jf_bits (xf_candidates S p1.toNatClampNeg)) - (2 * (xp_question_R41 S p1 i_28 (nz S 1) 0 0))) then ((jf_bits (xf_candidates S p1.toNatClampNeg)) - (2 * (xp_question_R41 S p1 i_28 (nz S 1) 0 0))) else (0 - ((jf_bits (xf_candidates S p1.toNatClampNeg)) - (2 * (xp_question_R41 S p1 i_28 (nz S 1) 0 0))))) then x5_28 else (nI i_28))) → v_167b = (if (xf_has ((S 54 p1.toNatClampNeg) ||| (S 55 p1.toNatClampNeg)) (nI i_28)) = true then x6_28 else (if x6_28 ≤ (if 0 ≤ ((jf_bits (xf_candidates S p1.toNatClampNeg)) - (2 * (xp_question_R41 S p1 i_28 (nz S 1) 0 0))) then ((jf_bits (xf_candidates S p1.toNatClampNeg)) - (2 * (xp_question_R41 S p1 i_28 (nz S 1) 0 0))) else (0 - ((jf_bits (xf_candidates S p1.toNatClampNeg)) - (2 * (xp_question_R41 S p1 i_28 (nz S 1) 0 0))))) then x6_28 else (if 0 ≤ ((jf_bits (xf_candidates S p1.toNatClampNeg)) - (2 * (xp_question_R41 S p1 i_28 (nz S 1) 0 0))) then ((jf_bits (xf_candidates S p1.toNatClampNeg)) - (2 * (xp_question_R41 S p1 i_28 (nz S 1) 0 0))) else (0 - ((jf_bits (xf_candidates S p1.toNatClampNeg)) - (2 * (xp_question_R41 S p1 i_28 (nz S 1) 0 0))))))) → (xw E C g h S A) H → va_S A s.heap H locs → lv_has ls 10 [(0, .ref (g 0 0)), (2, .ref (g 4 p1.toNatClampNeg)), (3, .int (xf_candidates S p1.toNatClampNeg)), (4, .int (jf_bits (xf_candidates S p1.toNatClampNeg))), (5, .int v_167), (6, .int v_167b), (7, .int (nI i_28))] → cx_G p l e { frames := 10, cells := 1, slots := 6, locals := 223 } s m [.ref (g 0 0), .int p1] below meth c A (xq_Q (fun z => z) E C (g 0 0) A (xp_question S p1)) (xq_X E C g h S A (xp_question S p1)) 1 6 H locs 0 0 (F0 m 167 ls []) := by
              intro H locs ls v_167 v_167b e_v_167 e_v_167b hR hS hl
              subst e_v_167
              subst e_v_167b
              refine lv_iinc (v := (nI (i_28 + 1))) (lv' := [(7, .int (nI (i_28 + 1))), (0, .ref (g 0 0)), (2, .ref (g 4 p1.toNatClampNeg)), (3, .int (xf_candidates S p1.toNatClampNeg)), (4, .int (jf_bits (xf_candidates S p1.toNatClampNeg))), (5, .int (if (xf_has ((S 54 p1.toNatClampNeg) ||| (S 55 p1.toNatClampNeg)) (nI i_28)) = true then x5_28 else (if x6_28 ≤ (if 0 ≤ ((jf_bits (xf_candidates S p1.toNatClampNeg)) - (2 * (xp_question_R41 S p1 i_28 (nz S 1) 0 0))) then ((jf_bits (xf_candidates S p1.toNatClampNeg)) - (2 * (xp_question_R41 S p1 i_28 (nz S 1) 0 0))) else (0 - ((jf_bits (xf_candidates S p1.toNatClampNeg)) - (2 * (xp_question_R41 S p1 i_28 (nz S 1) 0 0))))) then x5_28 else (nI i_28)))), (6, .int (if (xf_has ((S 54 p1.toNatClampNeg) ||| (S 55 p1.toNatClampNeg)) (nI i_28)) = true then x6_28 else (if x6_28 ≤ (if 0 ≤ ((jf_bits (xf_candidates S p1.toNatClampNeg)) - (2 * (xp_question_R41 S p1 i_28 (nz S 1) 0 0))) then ((jf_bits (xf_candidates S p1.toNatClampNeg)) - (2 * (xp_question_R41 S p1 i_28 (nz S 1) 0 0))) else (0 - ((jf_bits (xf_candidates S p1.toNatClampNeg)) - (2 * (xp_question_R41 S p1 i_28 (nz S 1) 0 0))))) then x6_28 else (if 0 ≤ ((jf_bits (xf_candidates S p1.toNatClampNeg)) - (2 * (xp_question_R41 S p1 i_28 (nz S 1) 0 0))) then ((jf_bits (xf_candidates S p1.toNatClampNeg)) - (2 * (xp_question_R41 S p1 i_28 (nz S 1) 0 0))) else (0 - ((jf_bits (xf_candidates S p1.toNatClampNeg)) - (2 * (xp_question_R41 S p1 i_28 (nz S 1) 0 0))))))))]) hx hb dX1_question_167 hl (k := 6) rfl (nI_1 i_28) (by decide) rfl (fun ls hl => ?_)
              refine lv_goto (tgt := 28) hx hb dX1_question_170 (by decide) ?_
              exact ih_28 (i_28 + 1) (if (xf_has ((S 54 p1.toNatClampNeg) ||| (S 55 p1.toNatClampNeg)) (nI i_28)) = true then x5_28 else (if x6_28 ≤ (if 0 ≤ ((jf_bits (xf_candidates S p1.toNatClampNeg)) - (2 * (xp_question_R41 S p1 i_28 (nz S 1) 0 0))) then ((jf_bits (xf_candidates S p1.toNatClampNeg)) - (2 * (xp_question_R41 S p1 i_28 (nz S 1) 0 0))) else (0 - ((jf_bits (xf_candidates S p1.toNatClampNeg)) - (2 * (xp_question_R41 S p1 i_28 (nz S 1) 0 0))))) then x5_28 else (nI i_28))) (if (xf_has ((S 54 p1.toNatClampNeg) ||| (S 55 p1.toNatClampNeg)) (nI i_28)) = true then x6_28 else (if x6_28 ≤ (if 0 ≤ ((jf_bits (xf_candidates S p1.toNatClampNeg)) - (2 * (xp_question_R41 S p1 i_28 (nz S 1) 0 0))) then ((jf_bits (xf_candidates S p1.toNatClampNeg)) - (2 * (xp_question_R41 S p1 i_28 (nz S 1) 0 0))) else (0 - ((jf_bits (xf_candidates S p1.toNatClampNeg)) - (2 * (xp_question_R41 S p1 i_28 (nz S 1) 0 0))))) then x6_28 else (if 0 ≤ ((jf_bits (xf_candidates S p1.toNatClampNeg)) - (2 * (xp_question_R41 S p1 i_28 (nz S 1) 0 0))) then ((jf_bits (xf_candidates S p1.toNatClampNeg)) - (2 * (xp_question_R41 S p1 i_28 (nz S 1) 0 0))) else (0 - ((jf_bits (xf_candidates S p1.toNatClampNeg)) - (2 * (xp_question_R41 S p1 i_28 (nz S 1) 0 0))))))) _ _ _ (by omega) ((congrArg (fun z => xp_question_R28 S p1 n_28 (i_28 + 1) z) hf_28).trans hg_28) hR hS (lv_sub hl [1, 2, 3, 4, 5, 6, 0] rfl)
            refine lv_if_ne (tgt := 167) hx hb dX1_question_149 (by decide) (fun c_5 => ?_) (fun c_5 => ?_)
            · skip
              have c_5 : (xf_has ((S 54 p1.toNatClampNeg) ||| (S 55 p1.toNatClampNeg)) (nI i_28)) = true := gs_zt (φ := (xf_has ((S 54 p1.toNatClampNeg) ||| (S 55 p1.toNatClampNeg)) (nI i_28)) = true) c_5
              exact hJ_167 _ _ _ x5_28 x6_28 ((if_pos c_5).symm) ((if_pos c_5).symm) hR hS (lv_sub hl [1, 2, 3, 4, 5, 6, 7] rfl)
            · skip
              have c_5 : ¬ ((xf_has ((S 54 p1.toNatClampNeg) ||| (S 55 p1.toNatClampNeg)) (nI i_28)) = true) := gs_zf (φ := (xf_has ((S 54 p1.toNatClampNeg) ||| (S 55 p1.toNatClampNeg)) (nI i_28)) = true) c_5
              refine lv_iload hx hb dX1_question_152 (lv_at hl 0 rfl) ?_
              refine lv_iload hx hb dX1_question_154 (lv_at hl 6 rfl) ?_
              refine lv_icmp_ge (tgt := 167) hx hb dX1_question_156 (by decide) (fun c_6 => ?_) (fun c_6 => ?_)
              · skip
                exact hJ_167 _ _ _ x5_28 x6_28 (((if_pos c_6).symm).trans (if_neg c_5).symm) (((if_pos c_6).symm).trans (if_neg c_5).symm) hR hS (lv_sub hl [1, 2, 3, 4, 5, 6, 7] rfl)
              · skip
                refine lv_iload hx hb dX1_question_159 (lv_at hl 7 rfl) ?_
                refine lv_istore (lv' := [(5, .int (nI i_28)), (9, .int (if 0 ≤ ((jf_bits (xf_candidates S p1.toNatClampNeg)) - (2 * (xp_question_R41 S p1 i_28 (nz S 1) 0 0))) then ((jf_bits (xf_candidates S p1.toNatClampNeg)) - (2 * (xp_question_R41 S p1 i_28 (nz S 1) 0 0))) else (0 - ((jf_bits (xf_candidates S p1.toNatClampNeg)) - (2 * (xp_question_R41 S p1 i_28 (nz S 1) 0 0)))))), (0, .ref (g 0 0)), (2, .ref (g 4 p1.toNatClampNeg)), (3, .int (xf_candidates S p1.toNatClampNeg)), (4, .int (jf_bits (xf_candidates S p1.toNatClampNeg))), (6, .int x6_28), (7, .int (nI i_28)), (8, .int (xp_question_R41 S p1 i_28 (nz S 1) 0 0))]) hx hb dX1_question_161 hl (by decide) rfl (fun ls hl => ?_)
                refine lv_iload hx hb dX1_question_163 (lv_at hl 1 rfl) ?_
                refine lv_istore (lv' := [(6, .int (if 0 ≤ ((jf_bits (xf_candidates S p1.toNatClampNeg)) - (2 * (xp_question_R41 S p1 i_28 (nz S 1) 0 0))) then ((jf_bits (xf_candidates S p1.toNatClampNeg)) - (2 * (xp_question_R41 S p1 i_28 (nz S 1) 0 0))) else (0 - ((jf_bits (xf_candidates S p1.toNatClampNeg)) - (2 * (xp_question_R41 S p1 i_28 (nz S 1) 0 0)))))), (5, .int (nI i_28)), (9, .int (if 0 ≤ ((jf_bits (xf_candidates S p1.toNatClampNeg)) - (2 * (xp_question_R41 S p1 i_28 (nz S 1) 0 0))) then ((jf_bits (xf_candidates S p1.toNatClampNeg)) - (2 * (xp_question_R41 S p1 i_28 (nz S 1) 0 0))) else (0 - ((jf_bits (xf_candidates S p1.toNatClampNeg)) - (2 * (xp_question_R41 S p1 i_28 (nz S 1) 0 0)))))), (0, .ref (g 0 0)), (2, .ref (g 4 p1.toNatClampNeg)), (3, .int (xf_candidates S p1.toNatClampNeg)), (4, .int (jf_bits (xf_candidates S p1.toNatClampNeg))), (7, .int (nI i_28)), (8, .int (xp_question_R41 S p1 i_28 (nz S 1) 0 0))]) hx hb dX1_question_165 hl (by decide) rfl (fun ls hl => ?_)
                exact hJ_167 _ _ _ (nI i_28) (if 0 ≤ ((jf_bits (xf_candidates S p1.toNatClampNeg)) - (2 * (xp_question_R41 S p1 i_28 (nz S 1) 0 0))) then ((jf_bits (xf_candidates S p1.toNatClampNeg)) - (2 * (xp_question_R41 S p1 i_28 (nz S 1) 0 0))) else (0 - ((jf_bits (xf_candidates S p1.toNatClampNeg)) - (2 * (xp_question_R41 S p1 i_28 (nz S 1) 0 0))))) (((if_neg c_6).symm).trans (if_neg c_5).symm) (((if_neg c_6).symm).trans (if_neg c_5).symm) hR hS (lv_sub hl [3, 4, 5, 6, 1, 0, 7] rfl)
          | succ n_41 ih_41 =>
            intro i_41 x8_41 H locs ls hi_41 hg_41 hR hS hl
            have hlt_41 : i_41 < (nz S 1) := by omega
            have hf_41 : xp_question_L41 S p1 i_28 i_41 x8_41 = xp_question_L41 S p1 i_28 i_41 x8_41 := rfl
            refine lv_iload hx hb dX1_question_41 (lv_at hl 8 rfl) ?_
            refine lv_aload_n hx hb dX1_question_43 rfl (lv_at hl 0 rfl) ?_
            refine kw_get (C := RX1) (T := TX1) (N := 12) (v := .ref (g 1 1)) hx hb hts in_X1 hown hK.1 hR 0 0 rfl rfl rfl 7 (by decide) (hts _ q176) (fun _ h9 => h9) rfl dX1_question_44 ?_
            refine cq_F (v := (some (.int (S 21 1)))) (As := []) (rest := [.int (nI i_41)]) hK hZ hA hAA hS hR ⟨(Nat.lt_of_lt_of_le (by decide) (Nat.le_add_right 7 _)), rfl⟩ (jt_size l E C A H.size (xok S) g (xen E C g h S) 1 (S 20 1) (S 21 1) (.ref (if cz S 1 = 0 then C.2.1 else g 2 1))) (fun _ h => hA _ (Nat.le_trans hS.1 h)) (hK.1.1 5 _ rfl).2 ⟨hx, hb, hml, hown, hts⟩ (va_cwF 0 hts (lw_F q389 q392 q394 q36 q396) rfl rfl rfl (fw_size hK) (by decide +kernel) ⟨Nat.le_of_ble_eq_true rfl, Nat.le_of_ble_eq_true rfl⟩) (kw_recv (t := 1) (i := 1) hK.1 hR (Nat.lt_of_lt_of_le (by decide) (Nat.le_add_right 7 _)) rfl rfl) rfl hl.1 rfl (Nat.le_of_ble_eq_true rfl) dX1_question_47 ⟨Nat.le_of_ble_eq_true rfl, Nat.le_of_ble_eq_true rfl⟩ (fun H locs hB hz hk hS => ?_)
            have hR := hR.kept (fun a _ h => hk a h (Nat.not_le.mpr h))
            refine W.eq (g2 := F0 m 52 ls [.int (S 21 1), .int (nI i_41)]) rfl ?_
            refine lv_icmp_ge (tgt := 123) hx hb dX1_question_52 (by decide) (fun c_7 => absurd c_7 (lp_x1 ((xi_fn hI).1) hlt_41 (by omega))) (fun c_7 => ?_)
            refine lv_iload hx hb dX1_question_55 (lv_at hl 7 rfl) ?_
            refine lv_iload_n hx hb dX1_question_57 rfl (lv_at hl 2 rfl) ?_
            refine lv_iload hx hb dX1_question_58 (lv_at hl 8 rfl) ?_
            refine ps_calli (As := [.int (xf_candidates S p1.toNatClampNeg), .int (nI i_41)]) (rest := [.int x8_41]) ⟨hx, hb, hml, hown, hts⟩ (xt_has l (xf_candidates S p1.toNatClampNeg) (nI i_41)) (va_cwS 2 hts (lw_S q340 q341 q33 q342) rfl rfl rfl (by decide +kernel) ⟨Nat.le_of_ble_eq_true rfl, Nat.le_of_ble_eq_true rfl⟩) trivial hS rfl hl.1 rfl (Nat.le_of_ble_eq_true rfl) dX1_question_60 ⟨Nat.zero_le _, Nat.zero_le _⟩ (fun H locs hz hk hS => ?_)
            have hR := hR.kept (fun a _ h => hk a h)
            have hJ_114 : ∀ (H : Heap) (locs : List Loc) (ls : Array Slot) (v_114 : Int32), v_114 = (if ((xf_has (xf_candidates S p1.toNatClampNeg) (nI i_41)) = true) ∧ ((xf_has ((S 33 i_41) ||| (S 34 i_41)) (nI i_28)) = true) then 1 else 0) → (xw E C g h S A) H → va_S A s.heap H locs → lv_has ls 10 [(0, .ref (g 0 0)), (2, .ref (g 4 p1.toNatClampNeg)), (3, .int (xf_candidates S p1.toNatClampNeg)), (4, .int (jf_bits (xf_candidates S p1.toNatClampNeg))), (5, .int x5_28), (6, .int x6_28), (7, .int (nI i_28)), (9, .int (nI i_41))] → cx_G p l e { frames := 10, cells := 1, slots := 6, locals := 223 } s m [.ref (g 0 0), .int p1] below meth c A (xq_Q (fun z => z) E C (g 0 0) A (xp_question S p1)) (xq_X E C g h S A (xp_question S p1)) 1 6 H locs 0 0 (F0 m 114 ls [.int v_114, .int x8_41]) := by
              intro H locs ls v_114 e_v_114 hR hS hl
              subst e_v_114
              refine lv_iadd hx hb dX1_question_114 ?_
              refine lv_istore (lv' := [(8, .int (x8_41 + (if ((xf_has (xf_candidates S p1.toNatClampNeg) (nI i_41)) = true) ∧ ((xf_has ((S 33 i_41) ||| (S 34 i_41)) (nI i_28)) = true) then 1 else 0))), (0, .ref (g 0 0)), (2, .ref (g 4 p1.toNatClampNeg)), (3, .int (xf_candidates S p1.toNatClampNeg)), (4, .int (jf_bits (xf_candidates S p1.toNatClampNeg))), (5, .int x5_28), (6, .int x6_28), (7, .int (nI i_28)), (9, .int (nI i_41))]) hx hb dX1_question_115 hl (by decide) rfl (fun ls hl => ?_)
              refine lv_iinc (v := (nI (i_41 + 1))) (lv' := [(9, .int (nI (i_41 + 1))), (8, .int (x8_41 + (if ((xf_has (xf_candidates S p1.toNatClampNeg) (nI i_41)) = true) ∧ ((xf_has ((S 33 i_41) ||| (S 34 i_41)) (nI i_28)) = true) then 1 else 0))), (0, .ref (g 0 0)), (2, .ref (g 4 p1.toNatClampNeg)), (3, .int (xf_candidates S p1.toNatClampNeg)), (4, .int (jf_bits (xf_candidates S p1.toNatClampNeg))), (5, .int x5_28), (6, .int x6_28), (7, .int (nI i_28))]) hx hb dX1_question_117 hl (k := 8) rfl (nI_1 i_41) (by decide) rfl (fun ls hl => ?_)
              refine lv_goto (tgt := 41) hx hb dX1_question_120 (by decide) ?_
              exact ih_41 (i_41 + 1) (x8_41 + (if ((xf_has (xf_candidates S p1.toNatClampNeg) (nI i_41)) = true) ∧ ((xf_has ((S 33 i_41) ||| (S 34 i_41)) (nI i_28)) = true) then 1 else 0)) _ _ _ (by omega) ((congrArg (fun z => xp_question_R41 S p1 i_28 n_41 (i_41 + 1) z) hf_41).trans hg_41) hR hS (lv_sub hl [2, 3, 4, 5, 6, 7, 8, 1, 0] rfl)
            refine lv_if_eq (tgt := 113) hx hb dX1_question_63 (by decide) (fun c_8 => ?_) (fun c_8 => ?_)
            · skip
              have c_8 : ¬ ((xf_has (xf_candidates S p1.toNatClampNeg) (nI i_41)) = true) := gs_zf (φ := (xf_has (xf_candidates S p1.toNatClampNeg) (nI i_41)) = true) c_8
              refine lv_iconst (v := 0) hx hb dX1_question_113 (by decide) ?_
              exact hJ_114 _ _ _ 0 (gi_0 (gi_ca_f c_8)) hR hS (lv_sub hl [0, 1, 2, 3, 4, 5, 6, 8] rfl)
            · skip
              have c_8 : (xf_has (xf_candidates S p1.toNatClampNeg) (nI i_41)) = true := gs_zt (φ := (xf_has (xf_candidates S p1.toNatClampNeg) (nI i_41)) = true) c_8
              refine lv_aload_n hx hb dX1_question_66 rfl (lv_at hl 0 rfl) ?_
              refine kw_get (C := RX1) (T := TX1) (N := 12) (v := .ref (g 1 1)) hx hb hts in_X1 hown hK.1 hR 0 0 rfl rfl rfl 7 (by decide) (hts _ q176) (fun _ h9 => h9) rfl dX1_question_67 ?_
              refine lv_iload hx hb dX1_question_70 (lv_at hl 8 rfl) ?_
              refine cq_F (v := (some (.ref (g 3 i_41)))) (As := [.int (nI i_41)]) (rest := [.int x8_41]) hK hZ hA hAA hS hR (xg_get hI hh (Nat.lt_of_lt_of_le (by decide) (Nat.le_add_right 7 _)) (nI_nn (by omega)) (by rw [(xi_fn hI).1]; exact nI_lt hlt_41 (by omega)) (by rw [nI_clamp (by omega)]; rfl)) (jt_get l E C A H.size (xok S) g (xen E C g h S) 1 (S 20 1) (S 21 1) (cz S 1) (h 1) (nI i_41) (g 3 i_41)) (fun _ h => hA _ (Nat.le_trans hS.1 h)) (hK.1.1 5 _ rfl).2 ⟨hx, hb, hml, hown, hts⟩ (va_cwF 1 hts (lw_F q369 q372 q374 q36 q376) rfl rfl rfl (fw_get hK) (by decide +kernel) ⟨Nat.le_of_ble_eq_true rfl, Nat.le_of_ble_eq_true rfl⟩) (kw_recv (t := 1) (i := 1) hK.1 hR (Nat.lt_of_lt_of_le (by decide) (Nat.le_add_right 7 _)) rfl rfl) rfl hl.1 rfl (Nat.le_of_ble_eq_true rfl) dX1_question_72 ⟨Nat.le_of_ble_eq_true rfl, Nat.le_of_ble_eq_true rfl⟩ (fun H locs hB hz hk hS => ?_)
              have hR := hR.kept (fun a _ h => hk a h (Nat.not_le.mpr h))
              refine W.eq (g2 := F0 m 77 ls [.ref (g 3 i_41), .int x8_41]) rfl ?_
              refine va_castS hx hb hown (hts _ q496) (hK.1.1 2 _ rfl).2 (kw_recv (t := 3) (i := i_41) hK.1 hR hlt_41 rfl rfl) dX1_question_77 ?_
              refine kw_getN (C := RX3) (T := TX3) (N := 15) (v := .int (S 33 i_41)) hx hb hts in_X3 hown hK.1 hR 3 i_41 hlt_41 rfl rfl 3 (by decide) (va_Nw.use rfl (hK.2.1 _ q529 rfl)) (fun _ h9 => h9) rfl dX1_question_80 ?_
              refine lv_aload_n hx hb dX1_question_83 rfl (lv_at hl 0 rfl) ?_
              refine kw_get (C := RX1) (T := TX1) (N := 12) (v := .ref (g 1 1)) hx hb hts in_X1 hown hK.1 hR 0 0 rfl rfl rfl 7 (by decide) (hts _ q176) (fun _ h9 => h9) rfl dX1_question_84 ?_
              refine lv_iload hx hb dX1_question_87 (lv_at hl 8 rfl) ?_
              refine cq_F (v := (some (.ref (g 3 i_41)))) (As := [.int (nI i_41)]) (rest := [.int (S 33 i_41), .int x8_41]) hK hZ hA hAA hS hR (xg_get hI hh (Nat.lt_of_lt_of_le (by decide) (Nat.le_add_right 7 _)) (nI_nn (by omega)) (by rw [(xi_fn hI).1]; exact nI_lt hlt_41 (by omega)) (by rw [nI_clamp (by omega)]; rfl)) (jt_get l E C A H.size (xok S) g (xen E C g h S) 1 (S 20 1) (S 21 1) (cz S 1) (h 1) (nI i_41) (g 3 i_41)) (fun _ h => hA _ (Nat.le_trans hS.1 h)) (hK.1.1 5 _ rfl).2 ⟨hx, hb, hml, hown, hts⟩ (va_cwF 1 hts (lw_F q369 q372 q374 q36 q376) rfl rfl rfl (fw_get hK) (by decide +kernel) ⟨Nat.le_of_ble_eq_true rfl, Nat.le_of_ble_eq_true rfl⟩) (kw_recv (t := 1) (i := 1) hK.1 hR (Nat.lt_of_lt_of_le (by decide) (Nat.le_add_right 7 _)) rfl rfl) rfl hl.1 rfl (Nat.le_of_ble_eq_true rfl) dX1_question_89 ⟨Nat.le_of_ble_eq_true rfl, Nat.le_of_ble_eq_true rfl⟩ (fun H locs hB hz hk hS => ?_)
              have hR := hR.kept (fun a _ h => hk a h (Nat.not_le.mpr h))
              refine W.eq (g2 := F0 m 94 ls [.ref (g 3 i_41), .int (S 33 i_41), .int x8_41]) rfl ?_
              refine va_castS hx hb hown (hts _ q496) (hK.1.1 2 _ rfl).2 (kw_recv (t := 3) (i := i_41) hK.1 hR hlt_41 rfl rfl) dX1_question_94 ?_
              refine kw_getN (C := RX3) (T := TX3) (N := 15) (v := .int (S 34 i_41)) hx hb hts in_X3 hown hK.1 hR 3 i_41 hlt_41 rfl rfl 4 (by decide) (va_Nw.use rfl (hK.2.1 _ q532 rfl)) (fun _ h9 => h9) rfl dX1_question_97 ?_
              refine lv_ior hx hb dX1_question_100 ?_
              refine lv_iload hx hb dX1_question_101 (lv_at hl 6 rfl) ?_
              refine ps_calli (As := [.int ((S 33 i_41) ||| (S 34 i_41)), .int (nI i_28)]) (rest := [.int x8_41]) ⟨hx, hb, hml, hown, hts⟩ (xt_has l ((S 33 i_41) ||| (S 34 i_41)) (nI i_28)) (va_cwS 2 hts (lw_S q340 q341 q33 q342) rfl rfl rfl (by decide +kernel) ⟨Nat.le_of_ble_eq_true rfl, Nat.le_of_ble_eq_true rfl⟩) trivial hS rfl hl.1 rfl (Nat.le_of_ble_eq_true rfl) dX1_question_103 ⟨Nat.zero_le _, Nat.zero_le _⟩ (fun H locs hz hk hS => ?_)
              have hR := hR.kept (fun a _ h => hk a h)
              refine lv_if_eq (tgt := 113) hx hb dX1_question_106 (by decide) (fun c_9 => ?_) (fun c_9 => ?_)
              · skip
                have c_9 : ¬ ((xf_has ((S 33 i_41) ||| (S 34 i_41)) (nI i_28)) = true) := gs_zf (φ := (xf_has ((S 33 i_41) ||| (S 34 i_41)) (nI i_28)) = true) c_9
                refine lv_iconst (v := 0) hx hb dX1_question_113 (by decide) ?_
                exact hJ_114 _ _ _ 0 (gi_0 ((gi_cb_f c_9).trans (gi_ca_t c_8))) hR hS (lv_sub hl [0, 1, 2, 3, 4, 5, 6, 8] rfl)
              · skip
                have c_9 : (xf_has ((S 33 i_41) ||| (S 34 i_41)) (nI i_28)) = true := gs_zt (φ := (xf_has ((S 33 i_41) ||| (S 34 i_41)) (nI i_28)) = true) c_9
                refine lv_iconst (v := 1) hx hb dX1_question_109 (by decide) ?_
                refine lv_goto (tgt := 114) hx hb dX1_question_110 (by decide) ?_
                exact hJ_114 _ _ _ 1 (gi_1 ((gi_cb_t c_9).trans (gi_ca_t c_8))) hR hS (lv_sub hl [0, 1, 2, 3, 4, 5, 6, 8] rfl)
        exact hL_41 (nz S 1) 0 0 _ _ _ (by omega) rfl hR hS (lv_sub hl [2, 3, 4, 5, 6, 7, 8, 1, 0] rfl)
    exact hL_28 24 0 (-1) (jf_bits (xf_candidates S p1.toNatClampNeg)) _ _ _ (by omega) rfl hR hS (lv_sub hl [6, 5, 4, 3, 2, 1, 0] rfl)
  · skip
    have hf := (if_neg c_1).symm.trans hf
    refine cx_V (As := [.int p1]) (rest := []) hK hZ hA hAA hS hR ⟨hI, hh, c_1⟩ (xx_claimAt l hfl E C A s.heap.size g h S p1) (fun _ h => hA _ (Nat.le_trans hS.1 h)) ⟨hx, hb, hml, hown, hts⟩ (cwV 1 hts (lw_V q759 q761 qs6 q33 q762) rfl rfl rfl (by decide +kernel) ⟨Nat.le_of_ble_eq_true rfl, Nat.le_of_ble_eq_true rfl⟩) (kw_recv (t := 0) (i := 0) hK.1 hR rfl rfl rfl) rfl hl.1 rfl (Nat.le_of_ble_eq_true rfl) dX1_question_2 ⟨Nat.le_of_ble_eq_true rfl, Nat.le_of_ble_eq_true rfl⟩ (fun ce q9 H locs hB hz hk hS hc9 hv9 hcl => ?_)
    have hR := hR.kept (fun a _ h => hk a h (Nat.not_le.mpr h))
    exact vx_out (fun x h => (hnt x h).elim) hlocks hc9 hv9 hcl (fun t ht _ => ⟨⟨hf.symm, by rw [ht]; exact hR⟩, hS.F ht⟩) hS.2.2 (Nat.le_of_ble_eq_true rfl) (Nat.le_of_ble_eq_true rfl)
set_option maxHeartbeats 2000000 in
set_option maxRecDepth 100000 in
theorem xs_candidate (l : Launch) (hfl : l.stackTraces = false) (E : en_T) (C : ex_C) (A : Nat → Prop) (sz : Nat) (g : kw_A) (h : xh_T) (S : gs_T) (p1 : Int32) (p2 : Int32) : vx_Met l yX1_candidate (ws_ yX1_candidate cX1_candidate 8 (some .int)) { frames := 10, cells := 1, slots := 6, locals := 223 } (cpc E C A sz [.ref (g 0 0), .int p1, .int p2] (xw E C g h S A) (xi_ok S ∧ xh C g h S)) (xq_Q (fun z => z) E C (g 0 0) A (xp_candidate S p1 p2)) (xq_X E C g h S A (xp_candidate S p1 p2)) 1 6 A := by
  refine cx_start (by decide) (Nat.le_of_ble_eq_true rfl) ?_
  intro p e s m below meth c ls hx hb hr hlocks hml hown hnm hnt hts hsz hK hZ hA hR hP hl
  subst hsz
  have hAA : ∀ a, A a → A a := fun _ h => h
  have hl : lv_has ls 8 [(0, .ref (g 0 0)), (1, .int p1), (2, .int p2)] := hl
  have hS : va_S A s.heap s.heap [] := va_S.rf
  have hZr := hZ
  obtain ⟨hI, hh⟩ := hP
  have hn1 := (xi_fn hI).2
  have hf : (xp_candidate S p1 p2) = (xp_candidate S p1 p2) := rfl
  refine lv_aload_n hx hb dX1_candidate_0 rfl (lv_at hl 0 rfl) ?_
  refine lv_iload_n hx hb dX1_candidate_1 rfl (lv_at hl 1 rfl) ?_
  by_cases c_1 : (xf_isIn p1 0 ((S 21 2) - 1)) = true
  · skip
    have hf := (if_pos c_1).symm.trans hf
    have oc_2 := (xq_c hI c_1).1
    refine cq_V (v := (some (.ref (g 4 p1.toNatClampNeg)))) (As := [.int p1]) (rest := []) hK hZ hA hAA hS hR ⟨hI, hh, c_1⟩ (xt_claimAt l E C A s.heap.size g h S p1) (fun _ h => hA _ (Nat.le_trans hS.1 h)) ⟨hx, hb, hml, hown, hts⟩ (cwV 1 hts (lw_V q759 q761 qs6 q33 q762) rfl rfl rfl (by decide +kernel) ⟨Nat.le_of_ble_eq_true rfl, Nat.le_of_ble_eq_true rfl⟩) (kw_recv (t := 0) (i := 0) hK.1 hR rfl rfl rfl) rfl hl.1 rfl (Nat.le_of_ble_eq_true rfl) dX1_candidate_2 ⟨Nat.le_of_ble_eq_true rfl, Nat.le_of_ble_eq_true rfl⟩ (fun H locs hB hz hk hS => ?_)
    have hR := hR.kept (fun a _ h => hk a h (Nat.not_le.mpr h))
    refine W.eq (g2 := F0 m 5 ls [.ref (g 4 p1.toNatClampNeg)]) rfl ?_
    refine lv_astore_n (lv' := [(3, .ref (g 4 p1.toNatClampNeg)), (0, .ref (g 0 0)), (1, .int p1), (2, .int p2)]) hx hb dX1_candidate_5 rfl hl (by decide) rfl (fun ls hl => ?_)
    refine lv_iload_n hx hb dX1_candidate_6 rfl (lv_at hl 3 rfl) ?_
    have hJ_15 : ∀ (H : Heap) (locs : List Loc) (ls : Array Slot) (v_15 : Int32), v_15 = (if ¬ (p2 < 0) then 1 else 0) → (xw E C g h S A) H → va_S A s.heap H locs → lv_has ls 8 [(0, .ref (g 0 0)), (2, .int p2), (3, .ref (g 4 p1.toNatClampNeg))] → cx_G p l e { frames := 10, cells := 1, slots := 6, locals := 223 } s m [.ref (g 0 0), .int p1, .int p2] below meth c A (xq_Q (fun z => z) E C (g 0 0) A (xp_candidate S p1 p2)) (xq_X E C g h S A (xp_candidate S p1 p2)) 1 6 H locs 0 0 (F0 m 15 ls [.int v_15]) := by
      intro H locs ls v_15 e_v_15 hR hS hl
      subst e_v_15
      by_cases c_2 : ¬ (p2 < 0)
      · skip
        have hf := (if_pos c_2).symm.trans hf
        have h0_c := c_2
        refine ps_callv (As := [.int (if ¬ (p2 < 0) then 1 else 0)]) (rest := []) ⟨hx, hb, hml, hown, hts⟩ (xo_requireIndex l _) (va_cwS 1 hts (lw_S q298 q299 q33 q300) rfl rfl rfl (by decide +kernel) ⟨Nat.le_of_ble_eq_true rfl, Nat.le_of_ble_eq_true rfl⟩) (if_pos c_2) hS rfl hl.1 rfl (Nat.le_of_ble_eq_true rfl) dX1_candidate_15 ⟨Nat.le_of_ble_eq_true rfl, Nat.le_of_ble_eq_true rfl⟩ (fun H locs hz hk hS => ?_)
        have hR := hR.kept (fun a _ h => hk a h)
        refine lv_aload_n hx hb dX1_candidate_18 rfl (lv_at hl 0 rfl) ?_
        refine lv_aload_n hx hb dX1_candidate_19 rfl (lv_at hl 2 rfl) ?_
        refine cq_V (v := (some (.int (xf_candidates S p1.toNatClampNeg)))) (As := [.ref (g 4 p1.toNatClampNeg)]) (rest := []) hK hZ hA hAA hS hR ⟨hI, hh, (by first | assumption | omega)⟩ (xt_candidates l E C A H.size g h S p1.toNatClampNeg) (fun _ h => hA _ (Nat.le_trans hS.1 h)) ⟨hx, hb, hml, hown, hts⟩ (cwV 1 hts (lw_V q873 q875 qs14 q33 q876) rfl rfl rfl (by decide +kernel) ⟨Nat.le_of_ble_eq_true rfl, Nat.le_of_ble_eq_true rfl⟩) (kw_recv (t := 0) (i := 0) hK.1 hR rfl rfl rfl) rfl hl.1 rfl (Nat.le_of_ble_eq_true rfl) dX1_candidate_20 ⟨Nat.le_of_ble_eq_true rfl, Nat.le_of_ble_eq_true rfl⟩ (fun H locs hB hz hk hS => ?_)
        have hR := hR.kept (fun a _ h => hk a h (Nat.not_le.mpr h))
        refine W.eq (g2 := F0 m 23 ls [.int (xf_candidates S p1.toNatClampNeg)]) rfl ?_
        refine lv_istore (lv' := [(4, .int (xf_candidates S p1.toNatClampNeg)), (0, .ref (g 0 0)), (2, .int p2), (3, .ref (g 4 p1.toNatClampNeg))]) hx hb dX1_candidate_23 hl (by decide) rfl (fun ls hl => ?_)
        refine lv_iconst (v := (-1)) hx hb dX1_candidate_25 (by decide) ?_
        refine lv_istore (lv' := [(5, .int (-1)), (4, .int (xf_candidates S p1.toNatClampNeg)), (0, .ref (g 0 0)), (2, .int p2), (3, .ref (g 4 p1.toNatClampNeg))]) hx hb dX1_candidate_26 hl (by decide) rfl (fun ls hl => ?_)
        refine lv_iconst (v := 0) hx hb dX1_candidate_28 (by decide) ?_
        refine lv_istore (lv' := [(6, .int 0), (5, .int (-1)), (4, .int (xf_candidates S p1.toNatClampNeg)), (0, .ref (g 0 0)), (2, .int p2), (3, .ref (g 4 p1.toNatClampNeg))]) hx hb dX1_candidate_29 hl (by decide) rfl (fun ls hl => ?_)
        have hL_31 : ∀ (n_31 i_31 : Nat) (x4_31 : Int32) (x5_31 : Int32) (H : Heap) (locs : List Loc) (ls : Array Slot), i_31 + n_31 = (cd_N p2) → xp_candidate_R31 S p1 n_31 i_31 (x4_31, x5_31) = (xp_candidate_R31 S p1 (cd_N p2) 0 ((xf_candidates S p1.toNatClampNeg), (-1))) → (xw E C g h S A) H → va_S A s.heap H locs → lv_has ls 8 [(0, .ref (g 0 0)), (2, .int p2), (3, .ref (g 4 p1.toNatClampNeg)), (4, .int x4_31), (5, .int x5_31), (6, .int (nI i_31))] → cx_G p l e { frames := 10, cells := 1, slots := 6, locals := 223 } s m [.ref (g 0 0), .int p1, .int p2] below meth c A (xq_Q (fun z => z) E C (g 0 0) A (xp_candidate S p1 p2)) (xq_X E C g h S A (xp_candidate S p1 p2)) 1 6 H locs 0 0 (F0 m 31 ls []) := by
          intro n_31
          induction n_31 with
          | zero =>
            intro i_31 x4_31 x5_31 H locs ls hi_31 hg_31 hR hS hl
            have hi_31 : i_31 = (cd_N p2) := hi_31
            subst hi_31
            have e_x4_31 : x4_31 = (xp_candidate_R31 S p1 (cd_N p2) 0 ((xf_candidates S p1.toNatClampNeg), (-1))).1 := congrArg (fun z => z.1) hg_31
            have e_x5_31 : x5_31 = (xp_candidate_R31 S p1 (cd_N p2) 0 ((xf_candidates S p1.toNatClampNeg), (-1))).2 := congrArg (fun z => z.2) hg_31
            subst e_x4_31
            subst e_x5_31
            refine lv_iload hx hb dX1_candidate_31 (lv_at hl 5 rfl) ?_
            refine lv_iload_n hx hb dX1_candidate_33 rfl (lv_at hl 1 rfl) ?_
            refine lv_icmp_gt (tgt := 164) hx hb dX1_candidate_34 (by decide) (fun c_3 => ?_) (fun c_3 => ?_)
            · skip
              refine lv_iload hx hb dX1_candidate_164 (lv_at hl 4 rfl) ?_
              refine W.widen (k := 1) (n := 6) (Nat.le_of_ble_eq_true rfl) (Nat.le_of_ble_eq_true rfl) ?_
              exact vx_ret (W.iret (v := (xp_candidate_R31 S p1 (cd_N p2) 0 ((xf_candidates S p1.toNatClampNeg), (-1))).2) hx hb hr (fun t ht hW => ⟨⟨_, _, hf.symm, rfl, g, h, rfl, hh, by rw [ht]; exact hR⟩, hS.F ht⟩) hS.2.2 dX1_candidate_166)
            · skip
              have h2_31 := c_3
              refine lv_iload hx hb dX1_candidate_37 (lv_at hl 5 rfl) ?_
              refine lv_bipush (v := 30) hx hb dX1_candidate_39 (by decide) ?_
              refine lv_icmp_gt (tgt := 164) hx hb dX1_candidate_41 (by decide) (fun c_4 => ?_) (fun c_4 => absurd (cd_3 h0_c h2_31) c_4)
              refine lv_iload hx hb dX1_candidate_164 (lv_at hl 4 rfl) ?_
              refine W.widen (k := 1) (n := 6) (Nat.le_of_ble_eq_true rfl) (Nat.le_of_ble_eq_true rfl) ?_
              exact vx_ret (W.iret (v := (xp_candidate_R31 S p1 (cd_N p2) 0 ((xf_candidates S p1.toNatClampNeg), (-1))).2) hx hb hr (fun t ht hW => ⟨⟨_, _, hf.symm, rfl, g, h, rfl, hh, by rw [ht]; exact hR⟩, hS.F ht⟩) hS.2.2 dX1_candidate_166)
          | succ n_31 ih_31 =>
            intro i_31 x4_31 x5_31 H locs ls hi_31 hg_31 hR hS hl
            have hlt_31 : i_31 < (cd_N p2) := by omega
            have hf_31 : xp_candidate_L31 S p1 i_31 x4_31 x5_31 = xp_candidate_L31 S p1 i_31 x4_31 x5_31 := rfl
            refine lv_iload hx hb dX1_candidate_31 (lv_at hl 5 rfl) ?_
            refine lv_iload_n hx hb dX1_candidate_33 rfl (lv_at hl 1 rfl) ?_
            refine lv_icmp_gt (tgt := 164) hx hb dX1_candidate_34 (by decide) (fun c_5 => absurd c_5 (cd_1 h0_c hlt_31)) (fun c_5 => ?_)
            refine lv_iload hx hb dX1_candidate_37 (lv_at hl 5 rfl) ?_
            refine lv_bipush (v := 30) hx hb dX1_candidate_39 (by decide) ?_
            refine lv_icmp_gt (tgt := 164) hx hb dX1_candidate_41 (by decide) (fun c_6 => absurd c_6 (cd_2 hlt_31)) (fun c_6 => ?_)
            refine lv_iconst (v := (-1)) hx hb dX1_candidate_44 (by decide) ?_
            refine lv_istore (lv' := [(5, .int (-1)), (0, .ref (g 0 0)), (2, .int p2), (3, .ref (g 4 p1.toNatClampNeg)), (4, .int x4_31), (6, .int (nI i_31))]) hx hb dX1_candidate_45 hl (by decide) rfl (fun ls hl => ?_)
            refine lv_iconst (v := 0) hx hb dX1_candidate_47 (by decide) ?_
            refine lv_istore (lv' := [(7, .int 0), (5, .int (-1)), (0, .ref (g 0 0)), (2, .int p2), (3, .ref (g 4 p1.toNatClampNeg)), (4, .int x4_31), (6, .int (nI i_31))]) hx hb dX1_candidate_48 hl (by decide) rfl (fun ls hl => ?_)
            have hL_50 : ∀ (n_50 i_50 : Nat) (x5_50 : Int32) (H : Heap) (locs : List Loc) (ls : Array Slot), i_50 + n_50 = (nz S 1) → xp_candidate_R50 S p1 x4_31 n_50 i_50 x5_50 = (xp_candidate_R50 S p1 x4_31 (nz S 1) 0 (-1)) → (x5_50 = -1 ∨ ∃ b, b < nz S 1 ∧ x5_50 = nI b) → (xw E C g h S A) H → va_S A s.heap H locs → lv_has ls 8 [(0, .ref (g 0 0)), (2, .int p2), (3, .ref (g 4 p1.toNatClampNeg)), (4, .int x4_31), (5, .int x5_50), (6, .int (nI i_31)), (7, .int (nI i_50))] → cx_G p l e { frames := 10, cells := 1, slots := 6, locals := 223 } s m [.ref (g 0 0), .int p1, .int p2] below meth c A (xq_Q (fun z => z) E C (g 0 0) A (xp_candidate S p1 p2)) (xq_X E C g h S A (xp_candidate S p1 p2)) 1 6 H locs 0 0 (F0 m 50 ls []) := by
              intro n_50
              induction n_50 with
              | zero =>
                intro i_50 x5_50 H locs ls hi_50 hg_50 hI_50 hR hS hl
                have hi_50 : i_50 = (nz S 1) := hi_50
                subst hi_50
                have e_x5_50 : x5_50 = (xp_candidate_R50 S p1 x4_31 (nz S 1) 0 (-1)) := congrArg (fun z => z) hg_50
                subst e_x5_50
                refine lv_iload hx hb dX1_candidate_50 (lv_at hl 6 rfl) ?_
                refine lv_aload_n hx hb dX1_candidate_52 rfl (lv_at hl 0 rfl) ?_
                refine kw_get (C := RX1) (T := TX1) (N := 12) (v := .ref (g 1 1)) hx hb hts in_X1 hown hK.1 hR 0 0 rfl rfl rfl 7 (by decide) (hts _ q176) (fun _ h9 => h9) rfl dX1_candidate_53 ?_
                refine cq_F (v := (some (.int (S 21 1)))) (As := []) (rest := [.int (nI (nz S 1))]) hK hZ hA hAA hS hR ⟨(Nat.lt_of_lt_of_le (by decide) (Nat.le_add_right 7 _)), rfl⟩ (jt_size l E C A H.size (xok S) g (xen E C g h S) 1 (S 20 1) (S 21 1) (.ref (if cz S 1 = 0 then C.2.1 else g 2 1))) (fun _ h => hA _ (Nat.le_trans hS.1 h)) (hK.1.1 5 _ rfl).2 ⟨hx, hb, hml, hown, hts⟩ (va_cwF 0 hts (lw_F q389 q392 q394 q36 q396) rfl rfl rfl (fw_size hK) (by decide +kernel) ⟨Nat.le_of_ble_eq_true rfl, Nat.le_of_ble_eq_true rfl⟩) (kw_recv (t := 1) (i := 1) hK.1 hR (Nat.lt_of_lt_of_le (by decide) (Nat.le_add_right 7 _)) rfl rfl) rfl hl.1 rfl (Nat.le_of_ble_eq_true rfl) dX1_candidate_56 ⟨Nat.le_of_ble_eq_true rfl, Nat.le_of_ble_eq_true rfl⟩ (fun H locs hB hz hk hS => ?_)
                have hR := hR.kept (fun a _ h => hk a h (Nat.not_le.mpr h))
                refine W.eq (g2 := F0 m 61 ls [.int (S 21 1), .int (nI (nz S 1))]) rfl ?_
                refine lv_icmp_ge (tgt := 136) hx hb dX1_candidate_61 (by decide) (fun c_7 => ?_) (fun c_7 => absurd (lp_x0 ((xi_fn hI).1)) c_7)
                refine lv_iload hx hb dX1_candidate_136 (lv_at hl 3 rfl) ?_
                refine lv_iload hx hb dX1_candidate_138 (lv_at hl 4 rfl) ?_
                refine lv_iconst (v := (-1)) hx hb dX1_candidate_140 (by decide) ?_
                have hJ_155 : ∀ (H : Heap) (locs : List Loc) (ls : Array Slot) (v_155 : Int32), v_155 = (if (xp_candidate_R50 S p1 x4_31 (nz S 1) 0 (-1)) = (-1) then x4_31 else ((1 <<< ((xp_candidate_R50 S p1 x4_31 (nz S 1) 0 (-1)) &&& 31)) ^^^ (-1))) → (xw E C g h S A) H → va_S A s.heap H locs → lv_has ls 8 [(0, .ref (g 0 0)), (2, .int p2), (3, .ref (g 4 p1.toNatClampNeg)), (5, .int (xp_candidate_R50 S p1 x4_31 (nz S 1) 0 (-1))), (6, .int (nI i_31))] → cx_G p l e { frames := 10, cells := 1, slots := 6, locals := 223 } s m [.ref (g 0 0), .int p1, .int p2] below meth c A (xq_Q (fun z => z) E C (g 0 0) A (xp_candidate S p1 p2)) (xq_X E C g h S A (xp_candidate S p1 p2)) 1 6 H locs 0 0 (F0 m 155 ls [.int v_155, .int x4_31]) := by
                  intro H locs ls v_155 e_v_155 hR hS hl
                  subst e_v_155
                  refine lv_iand hx hb dX1_candidate_155 ?_
                  refine lv_istore (lv' := [(4, .int (x4_31 &&& (if (xp_candidate_R50 S p1 x4_31 (nz S 1) 0 (-1)) = (-1) then x4_31 else ((1 <<< ((xp_candidate_R50 S p1 x4_31 (nz S 1) 0 (-1)) &&& 31)) ^^^ (-1))))), (0, .ref (g 0 0)), (2, .int p2), (3, .ref (g 4 p1.toNatClampNeg)), (5, .int (xp_candidate_R50 S p1 x4_31 (nz S 1) 0 (-1))), (6, .int (nI i_31))]) hx hb dX1_candidate_156 hl (by decide) rfl (fun ls hl => ?_)
                  refine lv_iinc (v := (nI (i_31 + 1))) (lv' := [(6, .int (nI (i_31 + 1))), (4, .int (x4_31 &&& (if (xp_candidate_R50 S p1 x4_31 (nz S 1) 0 (-1)) = (-1) then x4_31 else ((1 <<< ((xp_candidate_R50 S p1 x4_31 (nz S 1) 0 (-1)) &&& 31)) ^^^ (-1))))), (0, .ref (g 0 0)), (2, .int p2), (3, .ref (g 4 p1.toNatClampNeg)), (5, .int (xp_candidate_R50 S p1 x4_31 (nz S 1) 0 (-1)))]) hx hb dX1_candidate_158 hl (k := 5) rfl (nI_1 i_31) (by decide) rfl (fun ls hl => ?_)
                  refine lv_goto (tgt := 31) hx hb dX1_candidate_161 (by decide) ?_
                  exact ih_31 (i_31 + 1) (x4_31 &&& (if (xp_candidate_R50 S p1 x4_31 (nz S 1) 0 (-1)) = (-1) then x4_31 else ((1 <<< ((xp_candidate_R50 S p1 x4_31 (nz S 1) 0 (-1)) &&& 31)) ^^^ (-1)))) (xp_candidate_R50 S p1 x4_31 (nz S 1) 0 (-1)) _ _ _ (by omega) ((congrArg (fun z => xp_candidate_R31 S p1 n_31 (i_31 + 1) z) hf_31).trans hg_31) hR hS (lv_sub hl [2, 3, 4, 1, 5, 0] rfl)
                refine lv_icmp_ne (tgt := 149) hx hb dX1_candidate_141 (by decide) (fun c_8 => ?_) (fun c_8 => ?_)
                · skip
                  refine lv_iconst (v := 1) hx hb dX1_candidate_149 (by decide) ?_
                  refine lv_iload hx hb dX1_candidate_150 (lv_at hl 4 rfl) ?_
                  refine lv_ishl hx hb dX1_candidate_152 ?_
                  refine lv_iconst (v := (-1)) hx hb dX1_candidate_153 (by decide) ?_
                  refine lv_ixor hx hb dX1_candidate_154 ?_
                  exact hJ_155 _ _ _ ((1 <<< ((xp_candidate_R50 S p1 x4_31 (nz S 1) 0 (-1)) &&& 31)) ^^^ (-1)) ((if_neg c_8).symm) hR hS (lv_sub hl [0, 1, 2, 4, 5] rfl)
                · skip
                  refine lv_iload hx hb dX1_candidate_144 (lv_at hl 3 rfl) ?_
                  refine lv_goto (tgt := 155) hx hb dX1_candidate_146 (by decide) ?_
                  exact hJ_155 _ _ _ x4_31 ((if_pos c_8).symm) hR hS (lv_sub hl [0, 1, 2, 4, 5] rfl)
              | succ n_50 ih_50 =>
                intro i_50 x5_50 H locs ls hi_50 hg_50 hI_50 hR hS hl
                have hlt_50 : i_50 < (nz S 1) := by omega
                have hf_50 : xp_candidate_L50 S p1 x4_31 i_50 x5_50 = xp_candidate_L50 S p1 x4_31 i_50 x5_50 := rfl
                refine lv_iload hx hb dX1_candidate_50 (lv_at hl 6 rfl) ?_
                refine lv_aload_n hx hb dX1_candidate_52 rfl (lv_at hl 0 rfl) ?_
                refine kw_get (C := RX1) (T := TX1) (N := 12) (v := .ref (g 1 1)) hx hb hts in_X1 hown hK.1 hR 0 0 rfl rfl rfl 7 (by decide) (hts _ q176) (fun _ h9 => h9) rfl dX1_candidate_53 ?_
                refine cq_F (v := (some (.int (S 21 1)))) (As := []) (rest := [.int (nI i_50)]) hK hZ hA hAA hS hR ⟨(Nat.lt_of_lt_of_le (by decide) (Nat.le_add_right 7 _)), rfl⟩ (jt_size l E C A H.size (xok S) g (xen E C g h S) 1 (S 20 1) (S 21 1) (.ref (if cz S 1 = 0 then C.2.1 else g 2 1))) (fun _ h => hA _ (Nat.le_trans hS.1 h)) (hK.1.1 5 _ rfl).2 ⟨hx, hb, hml, hown, hts⟩ (va_cwF 0 hts (lw_F q389 q392 q394 q36 q396) rfl rfl rfl (fw_size hK) (by decide +kernel) ⟨Nat.le_of_ble_eq_true rfl, Nat.le_of_ble_eq_true rfl⟩) (kw_recv (t := 1) (i := 1) hK.1 hR (Nat.lt_of_lt_of_le (by decide) (Nat.le_add_right 7 _)) rfl rfl) rfl hl.1 rfl (Nat.le_of_ble_eq_true rfl) dX1_candidate_56 ⟨Nat.le_of_ble_eq_true rfl, Nat.le_of_ble_eq_true rfl⟩ (fun H locs hB hz hk hS => ?_)
                have hR := hR.kept (fun a _ h => hk a h (Nat.not_le.mpr h))
                refine W.eq (g2 := F0 m 61 ls [.int (S 21 1), .int (nI i_50)]) rfl ?_
                refine lv_icmp_ge (tgt := 136) hx hb dX1_candidate_61 (by decide) (fun c_9 => absurd c_9 (lp_x1 ((xi_fn hI).1) hlt_50 (by omega))) (fun c_9 => ?_)
                refine lv_iload hx hb dX1_candidate_64 (lv_at hl 3 rfl) ?_
                refine lv_iload hx hb dX1_candidate_66 (lv_at hl 6 rfl) ?_
                refine ps_calli (As := [.int x4_31, .int (nI i_50)]) (rest := []) ⟨hx, hb, hml, hown, hts⟩ (xt_has l x4_31 (nI i_50)) (va_cwS 2 hts (lw_S q340 q341 q33 q342) rfl rfl rfl (by decide +kernel) ⟨Nat.le_of_ble_eq_true rfl, Nat.le_of_ble_eq_true rfl⟩) trivial hS rfl hl.1 rfl (Nat.le_of_ble_eq_true rfl) dX1_candidate_68 ⟨Nat.zero_le _, Nat.zero_le _⟩ (fun H locs hz hk hS => ?_)
                have hR := hR.kept (fun a _ h => hk a h)
                have hJ_128 : ∀ (H : Heap) (locs : List Loc) (ls : Array Slot) (v_128 : Int32), v_128 = (if (xf_has x4_31 (nI i_50)) = true then (if x5_50 = (-1) then (nI i_50) else (if (xf_score S i_50 p1.toNatClampNeg) ≤ (xf_score S x5_50.toNatClampNeg p1.toNatClampNeg) then x5_50 else (nI i_50))) else x5_50) → (xw E C g h S A) H → va_S A s.heap H locs → lv_has ls 8 [(0, .ref (g 0 0)), (2, .int p2), (3, .ref (g 4 p1.toNatClampNeg)), (4, .int x4_31), (6, .int (nI i_31)), (7, .int (nI i_50))] → cx_G p l e { frames := 10, cells := 1, slots := 6, locals := 223 } s m [.ref (g 0 0), .int p1, .int p2] below meth c A (xq_Q (fun z => z) E C (g 0 0) A (xp_candidate S p1 p2)) (xq_X E C g h S A (xp_candidate S p1 p2)) 1 6 H locs 0 0 (F0 m 128 ls [.int v_128]) := by
                  intro H locs ls v_128 e_v_128 hR hS hl
                  subst e_v_128
                  refine lv_istore (lv' := [(5, .int (if (xf_has x4_31 (nI i_50)) = true then (if x5_50 = (-1) then (nI i_50) else (if (xf_score S i_50 p1.toNatClampNeg) ≤ (xf_score S x5_50.toNatClampNeg p1.toNatClampNeg) then x5_50 else (nI i_50))) else x5_50)), (0, .ref (g 0 0)), (2, .int p2), (3, .ref (g 4 p1.toNatClampNeg)), (4, .int x4_31), (6, .int (nI i_31)), (7, .int (nI i_50))]) hx hb dX1_candidate_128 hl (by decide) rfl (fun ls hl => ?_)
                  refine lv_iinc (v := (nI (i_50 + 1))) (lv' := [(7, .int (nI (i_50 + 1))), (5, .int (if (xf_has x4_31 (nI i_50)) = true then (if x5_50 = (-1) then (nI i_50) else (if (xf_score S i_50 p1.toNatClampNeg) ≤ (xf_score S x5_50.toNatClampNeg p1.toNatClampNeg) then x5_50 else (nI i_50))) else x5_50)), (0, .ref (g 0 0)), (2, .int p2), (3, .ref (g 4 p1.toNatClampNeg)), (4, .int x4_31), (6, .int (nI i_31))]) hx hb dX1_candidate_130 hl (k := 6) rfl (nI_1 i_50) (by decide) rfl (fun ls hl => ?_)
                  refine lv_goto (tgt := 50) hx hb dX1_candidate_133 (by decide) ?_
                  exact ih_50 (i_50 + 1) (if (xf_has x4_31 (nI i_50)) = true then (if x5_50 = (-1) then (nI i_50) else (if (xf_score S i_50 p1.toNatClampNeg) ≤ (xf_score S x5_50.toNatClampNeg p1.toNatClampNeg) then x5_50 else (nI i_50))) else x5_50) _ _ _ (by omega) ((congrArg (fun z => xp_candidate_R50 S p1 x4_31 n_50 (i_50 + 1) z) hf_50).trans hg_50) (by (repeat' split) <;> first | exact hI_50 | exact Or.inr ⟨i_50, hlt_50, rfl⟩) hR hS (lv_sub hl [2, 3, 4, 5, 1, 6, 0] rfl)
                refine lv_if_eq (tgt := 126) hx hb dX1_candidate_71 (by decide) (fun c_10 => ?_) (fun c_10 => ?_)
                · skip
                  have c_10 : ¬ ((xf_has x4_31 (nI i_50)) = true) := gs_zf (φ := (xf_has x4_31 (nI i_50)) = true) c_10
                  refine lv_iload hx hb dX1_candidate_126 (lv_at hl 4 rfl) ?_
                  exact hJ_128 _ _ _ x5_50 ((if_neg c_10).symm) hR hS (lv_sub hl [0, 1, 2, 3, 5, 6] rfl)
                · skip
                  have c_10 : (xf_has x4_31 (nI i_50)) = true := gs_zt (φ := (xf_has x4_31 (nI i_50)) = true) c_10
                  refine lv_iload hx hb dX1_candidate_74 (lv_at hl 4 rfl) ?_
                  refine lv_iconst (v := (-1)) hx hb dX1_candidate_76 (by decide) ?_
                  refine lv_icmp_eq (tgt := 121) hx hb dX1_candidate_77 (by decide) (fun c_11 => ?_) (fun c_11 => ?_)
                  · skip
                    refine lv_iload hx hb dX1_candidate_121 (lv_at hl 6 rfl) ?_
                    refine lv_goto (tgt := 128) hx hb dX1_candidate_123 (by decide) ?_
                    exact hJ_128 _ _ _ (nI i_50) (((if_pos c_11).symm).trans (if_pos c_10).symm) hR hS (lv_sub hl [0, 1, 2, 3, 5, 6] rfl)
                  · skip
                    have e6 := cd_ix hI_50 c_11 (by omega)
                    refine lv_aload_n hx hb dX1_candidate_80 rfl (lv_at hl 0 rfl) ?_
                    refine lv_aload_n hx hb dX1_candidate_81 rfl (lv_at hl 0 rfl) ?_
                    refine kw_get (C := RX1) (T := TX1) (N := 12) (v := .ref (g 1 1)) hx hb hts in_X1 hown hK.1 hR 0 0 rfl rfl rfl 7 (by decide) (hts _ q176) (fun _ h9 => h9) rfl dX1_candidate_82 ?_
                    refine lv_iload hx hb dX1_candidate_85 (lv_at hl 6 rfl) ?_
                    refine cq_F (v := (some (.ref (g 3 i_50)))) (As := [.int (nI i_50)]) (rest := [.ref (g 0 0)]) hK hZ hA hAA hS hR (xg_get hI hh (Nat.lt_of_lt_of_le (by decide) (Nat.le_add_right 7 _)) (nI_nn (by omega)) (by rw [(xi_fn hI).1]; exact nI_lt hlt_50 (by omega)) (by rw [nI_clamp (by omega)]; rfl)) (jt_get l E C A H.size (xok S) g (xen E C g h S) 1 (S 20 1) (S 21 1) (cz S 1) (h 1) (nI i_50) (g 3 i_50)) (fun _ h => hA _ (Nat.le_trans hS.1 h)) (hK.1.1 5 _ rfl).2 ⟨hx, hb, hml, hown, hts⟩ (va_cwF 1 hts (lw_F q369 q372 q374 q36 q376) rfl rfl rfl (fw_get hK) (by decide +kernel) ⟨Nat.le_of_ble_eq_true rfl, Nat.le_of_ble_eq_true rfl⟩) (kw_recv (t := 1) (i := 1) hK.1 hR (Nat.lt_of_lt_of_le (by decide) (Nat.le_add_right 7 _)) rfl rfl) rfl hl.1 rfl (Nat.le_of_ble_eq_true rfl) dX1_candidate_87 ⟨Nat.le_of_ble_eq_true rfl, Nat.le_of_ble_eq_true rfl⟩ (fun H locs hB hz hk hS => ?_)
                    have hR := hR.kept (fun a _ h => hk a h (Nat.not_le.mpr h))
                    refine W.eq (g2 := F0 m 92 ls [.ref (g 3 i_50), .ref (g 0 0)]) rfl ?_
                    refine va_castS hx hb hown (hts _ q496) (hK.1.1 2 _ rfl).2 (kw_recv (t := 3) (i := i_50) hK.1 hR hlt_50 rfl rfl) dX1_candidate_92 ?_
                    refine lv_aload_n hx hb dX1_candidate_95 rfl (lv_at hl 2 rfl) ?_
                    refine cq_V (v := (some (.int (xf_score S i_50 p1.toNatClampNeg)))) (As := [.ref (g 3 i_50), .ref (g 4 p1.toNatClampNeg)]) (rest := []) hK hZ hA hAA hS hR ⟨hI, hh, (by first | assumption | omega), (by first | assumption | omega)⟩ (xt_score l E C A H.size g h S i_50 p1.toNatClampNeg) (fun _ h => hA _ (Nat.le_trans hS.1 h)) ⟨hx, hb, hml, hown, hts⟩ (cwV 2 hts (lw_V q792 q794 qs8 q33 q795) rfl rfl rfl (by decide +kernel) ⟨Nat.le_of_ble_eq_true rfl, Nat.le_of_ble_eq_true rfl⟩) (kw_recv (t := 0) (i := 0) hK.1 hR rfl rfl rfl) rfl hl.1 rfl (Nat.le_of_ble_eq_true rfl) dX1_candidate_96 ⟨Nat.le_of_ble_eq_true rfl, Nat.le_of_ble_eq_true rfl⟩ (fun H locs hB hz hk hS => ?_)
                    have hR := hR.kept (fun a _ h => hk a h (Nat.not_le.mpr h))
                    refine W.eq (g2 := F0 m 99 ls [.int (xf_score S i_50 p1.toNatClampNeg)]) rfl ?_
                    refine lv_aload_n hx hb dX1_candidate_99 rfl (lv_at hl 0 rfl) ?_
                    refine lv_aload_n hx hb dX1_candidate_100 rfl (lv_at hl 0 rfl) ?_
                    refine kw_get (C := RX1) (T := TX1) (N := 12) (v := .ref (g 1 1)) hx hb hts in_X1 hown hK.1 hR 0 0 rfl rfl rfl 7 (by decide) (hts _ q176) (fun _ h9 => h9) rfl dX1_candidate_101 ?_
                    refine lv_iload hx hb dX1_candidate_104 (lv_at hl 4 rfl) ?_
                    refine cq_F (v := (some (.ref (g 3 x5_50.toNatClampNeg)))) (As := [.int x5_50]) (rest := [.ref (g 0 0), .int (xf_score S i_50 p1.toNatClampNeg)]) hK hZ hA hAA hS hR (xg_get hI hh (Nat.lt_of_lt_of_le (by decide) (Nat.le_add_right 7 _)) e6.2.1 (by rw [(xi_fn hI).1]; exact e6.2.2) rfl) (jt_get l E C A H.size (xok S) g (xen E C g h S) 1 (S 20 1) (S 21 1) (cz S 1) (h 1) x5_50 (g 3 x5_50.toNatClampNeg)) (fun _ h => hA _ (Nat.le_trans hS.1 h)) (hK.1.1 5 _ rfl).2 ⟨hx, hb, hml, hown, hts⟩ (va_cwF 1 hts (lw_F q369 q372 q374 q36 q376) rfl rfl rfl (fw_get hK) (by decide +kernel) ⟨Nat.le_of_ble_eq_true rfl, Nat.le_of_ble_eq_true rfl⟩) (kw_recv (t := 1) (i := 1) hK.1 hR (Nat.lt_of_lt_of_le (by decide) (Nat.le_add_right 7 _)) rfl rfl) rfl hl.1 rfl (Nat.le_of_ble_eq_true rfl) dX1_candidate_106 ⟨Nat.le_of_ble_eq_true rfl, Nat.le_of_ble_eq_true rfl⟩ (fun H locs hB hz hk hS => ?_)
                    have hR := hR.kept (fun a _ h => hk a h (Nat.not_le.mpr h))
                    refine W.eq (g2 := F0 m 111 ls [.ref (g 3 x5_50.toNatClampNeg), .ref (g 0 0), .int (xf_score S i_50 p1.toNatClampNeg)]) rfl ?_
                    refine va_castS hx hb hown (hts _ q496) (hK.1.1 2 _ rfl).2 (kw_recv (t := 3) (i := x5_50.toNatClampNeg) hK.1 hR e6.1 rfl rfl) dX1_candidate_111 ?_
                    refine lv_aload_n hx hb dX1_candidate_114 rfl (lv_at hl 2 rfl) ?_
                    refine cq_V (v := (some (.int (xf_score S x5_50.toNatClampNeg p1.toNatClampNeg)))) (As := [.ref (g 3 x5_50.toNatClampNeg), .ref (g 4 p1.toNatClampNeg)]) (rest := [.int (xf_score S i_50 p1.toNatClampNeg)]) hK hZ hA hAA hS hR ⟨hI, hh, (by first | assumption | omega), (by first | assumption | omega)⟩ (xt_score l E C A H.size g h S x5_50.toNatClampNeg p1.toNatClampNeg) (fun _ h => hA _ (Nat.le_trans hS.1 h)) ⟨hx, hb, hml, hown, hts⟩ (cwV 2 hts (lw_V q792 q794 qs8 q33 q795) rfl rfl rfl (by decide +kernel) ⟨Nat.le_of_ble_eq_true rfl, Nat.le_of_ble_eq_true rfl⟩) (kw_recv (t := 0) (i := 0) hK.1 hR rfl rfl rfl) rfl hl.1 rfl (Nat.le_of_ble_eq_true rfl) dX1_candidate_115 ⟨Nat.le_of_ble_eq_true rfl, Nat.le_of_ble_eq_true rfl⟩ (fun H locs hB hz hk hS => ?_)
                    have hR := hR.kept (fun a _ h => hk a h (Nat.not_le.mpr h))
                    refine W.eq (g2 := F0 m 118 ls [.int (xf_score S x5_50.toNatClampNeg p1.toNatClampNeg), .int (xf_score S i_50 p1.toNatClampNeg)]) rfl ?_
                    refine lv_icmp_le (tgt := 126) hx hb dX1_candidate_118 (by decide) (fun c_12 => ?_) (fun c_12 => ?_)
                    · skip
                      refine lv_iload hx hb dX1_candidate_126 (lv_at hl 4 rfl) ?_
                      exact hJ_128 _ _ _ x5_50 ((((if_pos c_12).symm).trans (if_neg c_11).symm).trans (if_pos c_10).symm) hR hS (lv_sub hl [0, 1, 2, 3, 5, 6] rfl)
                    · skip
                      refine lv_iload hx hb dX1_candidate_121 (lv_at hl 6 rfl) ?_
                      refine lv_goto (tgt := 128) hx hb dX1_candidate_123 (by decide) ?_
                      exact hJ_128 _ _ _ (nI i_50) ((((if_neg c_12).symm).trans (if_neg c_11).symm).trans (if_pos c_10).symm) hR hS (lv_sub hl [0, 1, 2, 3, 5, 6] rfl)
            exact hL_50 (nz S 1) 0 (-1) _ _ _ (by omega) rfl (Or.inl rfl) hR hS (lv_sub hl [2, 3, 4, 5, 1, 6, 0] rfl)
        exact hL_31 (cd_N p2) 0 (xf_candidates S p1.toNatClampNeg) (-1) _ _ _ (by omega) rfl hR hS (lv_sub hl [3, 4, 5, 2, 1, 0] rfl)
      · skip
        have hf := (if_neg c_2).symm.trans hf
        refine W.eq (g2 := F0 m 15 ls [.int 0]) (congrArg (fun z => F0 m 15 ls (.int z :: [])) (if_neg c_2)) ?_
        refine cx_S (X := fun _ => True) (P := True) (As := [.int 0]) (rest := []) hK hZ hA hAA hS trivial trivial (xt_requireIndex l hfl E C A H.size) (fun _ h => hA _ (Nat.le_trans hS.1 h)) ⟨hx, hb, hml, hown, hts⟩ (va_cwS 1 hts (lw_S q298 q299 q33 q300) rfl rfl rfl (by decide +kernel) ⟨Nat.le_of_ble_eq_true rfl, Nat.le_of_ble_eq_true rfl⟩) rfl hl.1 rfl (Nat.le_of_ble_eq_true rfl) dX1_candidate_15 ⟨Nat.le_of_ble_eq_true rfl, Nat.le_of_ble_eq_true rfl⟩ (fun ce q9 H locs hB hz hk hS hc9 hv9 hcl => ?_)
        have hR := hR.kept (fun a _ h => hk a h (Nat.not_le.mpr h))
        exact vx_out (fun x h => (hnt x h).elim) hlocks hc9 hv9 hcl (fun t ht _ => ⟨⟨hf.symm, by rw [ht]; exact hR⟩, hS.F ht⟩) hS.2.2 (Nat.le_of_ble_eq_true rfl) (Nat.le_of_ble_eq_true rfl)
    refine lv_if_lt (tgt := 14) hx hb dX1_candidate_7 (by decide) (fun c_13 => ?_) (fun c_13 => ?_)
    · skip
      refine lv_iconst (v := 0) hx hb dX1_candidate_14 (by decide) ?_
      exact hJ_15 _ _ _ 0 (gi_0 (gi_nb_t c_13)) hR hS (lv_sub hl [1, 3, 0] rfl)
    · skip
      have h0_c := c_13
      refine lv_iconst (v := 1) hx hb dX1_candidate_10 (by decide) ?_
      refine lv_goto (tgt := 15) hx hb dX1_candidate_11 (by decide) ?_
      exact hJ_15 _ _ _ 1 (gi_1 (gi_nb_f c_13)) hR hS (lv_sub hl [1, 3, 0] rfl)
  · skip
    have hf := (if_neg c_1).symm.trans hf
    refine cx_V (As := [.int p1]) (rest := []) hK hZ hA hAA hS hR ⟨hI, hh, c_1⟩ (xx_claimAt l hfl E C A s.heap.size g h S p1) (fun _ h => hA _ (Nat.le_trans hS.1 h)) ⟨hx, hb, hml, hown, hts⟩ (cwV 1 hts (lw_V q759 q761 qs6 q33 q762) rfl rfl rfl (by decide +kernel) ⟨Nat.le_of_ble_eq_true rfl, Nat.le_of_ble_eq_true rfl⟩) (kw_recv (t := 0) (i := 0) hK.1 hR rfl rfl rfl) rfl hl.1 rfl (Nat.le_of_ble_eq_true rfl) dX1_candidate_2 ⟨Nat.le_of_ble_eq_true rfl, Nat.le_of_ble_eq_true rfl⟩ (fun ce q9 H locs hB hz hk hS hc9 hv9 hcl => ?_)
    have hR := hR.kept (fun a _ h => hk a h (Nat.not_le.mpr h))
    exact vx_out (fun x h => (hnt x h).elim) hlocks hc9 hv9 hcl (fun t ht _ => ⟨⟨hf.symm, by rw [ht]; exact hR⟩, hS.F ht⟩) hS.2.2 (Nat.le_of_ble_eq_true rfl) (Nat.le_of_ble_eq_true rfl)
