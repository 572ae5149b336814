def xf_isBeaten_L24 (S : gs_T) (i : Nat) (j : Nat) (i_24 : Nat) (x3_24 : Bool) (x5_24 : Bool) : Bool × Bool := ((decide ((x3_24 = true) ∨ (((¬ (i_24 = j)) ∧ (((S 56 i_24) = 0) ∧ ((xf_proves S i_24 i) = true))) ∧ (((xf_score S i j) < (xf_score S i i_24)) ∨ (((xf_score S i i_24) = (xf_score S i j)) ∧ ((x5_24 = true) ∧ (¬ (i_24 = j)))))))), (decide ((x5_24 = true) ∧ (¬ (i_24 = j)))))
def xf_isBeaten_R24 (S : gs_T) (i : Nat) (j : Nat) (n0 i0 : Nat) (a0 : Bool × Bool) : Bool × Bool := lp_up (fun i0 a0 => xf_isBeaten_L24 S i j i0 a0.1 a0.2) n0 i0 a0
def xf_isBeaten (S : gs_T) (i : Nat) (j : Nat) : Bool := (decide ((xf_isBeaten_R24 S i j (nz S 2) 0 (false, true)).1 = true))
def xf_isOver_L41 (S : gs_T) (i : Nat) (i_41 : Nat) (x2_41 : Bool) : Bool := (decide ((x2_41 = true) ∧ (¬ ((xf_isCandidate S i i_41) = true))))
def xf_isOver_R41 (S : gs_T) (i : Nat) (n0 i0 : Nat) (a0 : Bool) : Bool := lp_up (fun i0 a0 => xf_isOver_L41 S i i0 a0) n0 i0 a0
def xf_isOver (S : gs_T) (i : Nat) : Bool := (decide ((xf_isOver_R41 S i (nz S 2) 0 (decide (((S 36 i) = 0) ∧ ((¬ ((S 0 0) ≤ (S 37 i))) ∧ ((S 38 i) = 0))))) = true))
set_option maxHeartbeats 2000000 in
set_option maxRecDepth 100000 in
theorem xt_isBeaten (l : Launch) (E : en_T) (C : ex_C) (A : Nat → Prop) (sz : Nat) (g : kw_A) (h : xh_T) (S : gs_T) (i : Nat) (j : Nat) : Met l yX1_isBeaten (ws_ yX1_isBeaten cX1_isBeaten 9 (some .boolean)) { frames := 8, cells := 1, slots := 4, locals := 178 } (cpc E C A sz [.ref (g 0 0), .ref (g 3 i), .ref (g 4 j)] (xw E C g h S A) (xi_ok S ∧ xh C g h S ∧ i < nz S 1 ∧ j < nz S 2)) (cq_Q (some (.int (gs_bz (xf_isBeaten S i j)))) (fun H => xw E C g h S A H) A) 1 4 A := by
  refine cq_start (by decide) (Nat.le_of_ble_eq_true rfl) ?_
  intro p e s m below meth c ls hx hb hr hlocks hml hown hnm hts hsz hK hZ hA hR hP hl
  subst hsz
  have hAA : ∀ a, A a → A a := fun _ h => h
  have hl : lv_has ls 9 [(0, .ref (g 0 0)), (1, .ref (g 3 i)), (2, .ref (g 4 j))] := hl
  have hS : va_S A s.heap s.heap [] := va_S.rf
  have hZr := hZ
  obtain ⟨hI, hh, h_i, h_j⟩ := hP
  have hf : (xf_isBeaten S i j) = (xf_isBeaten S i j) := rfl
  refine lv_iconst (v := 0) hx hb dX1_isBeaten_0 (by decide) ?_
  refine lv_istore_n (lv' := [(3, .int 0), (0, .ref (g 0 0)), (1, .ref (g 3 i)), (2, .ref (g 4 j))]) hx hb dX1_isBeaten_1 rfl hl (by decide) rfl (fun ls hl => ?_)
  refine lv_aload_n hx hb dX1_isBeaten_2 rfl (lv_at hl 1 rfl) ?_
  refine lv_aload_n hx hb dX1_isBeaten_3 rfl (lv_at hl 2 rfl) ?_
  refine lv_aload_n hx hb dX1_isBeaten_4 rfl (lv_at hl 3 rfl) ?_
  refine cq_V (v := (some (.int (xf_score S i j)))) (As := [.ref (g 3 i), .ref (g 4 j)]) (rest := []) hK hZ hA hAA hS hR ⟨hI, hh, (by first | assumption | omega), (by first | assumption | omega)⟩ (xt_score l E C A s.heap.size g h S i j) (fun _ h => hA _ (Nat.le_trans hS.1 h)) ⟨hx, hb, hml, hown, hts⟩ (cwV 2 hts (lw_V q792 q794 qs8 q33 q795) rfl rfl rfl (by decide +kernel) ⟨Nat.le_of_ble_eq_true rfl, Nat.le_of_ble_eq_true rfl⟩) (kw_recv (t := 0) (i := 0) hK.1 hR rfl rfl rfl) rfl hl.1 rfl (Nat.le_of_ble_eq_true rfl) dX1_isBeaten_5 ⟨Nat.le_of_ble_eq_true rfl, Nat.le_of_ble_eq_true rfl⟩ (fun H locs hB hz hk hS => ?_)
  have hR := hR.kept (fun a _ h => hk a h (Nat.not_le.mpr h))
  refine W.eq (g2 := F0 m 8 ls [.int (xf_score S i j)]) rfl ?_
  refine lv_istore (lv' := [(4, .int (xf_score S i j)), (3, .int 0), (0, .ref (g 0 0)), (1, .ref (g 3 i)), (2, .ref (g 4 j))]) hx hb dX1_isBeaten_8 hl (by decide) rfl (fun ls hl => ?_)
  refine lv_iconst (v := 1) hx hb dX1_isBeaten_10 (by decide) ?_
  refine lv_istore (lv' := [(5, .int 1), (4, .int (xf_score S i j)), (3, .int 0), (0, .ref (g 0 0)), (1, .ref (g 3 i)), (2, .ref (g 4 j))]) hx hb dX1_isBeaten_11 hl (by decide) rfl (fun ls hl => ?_)
  refine lv_aload_n hx hb dX1_isBeaten_13 rfl (lv_at hl 3 rfl) ?_
  refine kw_get (C := RX1) (T := TX1) (N := 12) (v := .ref (g 1 2)) hx hb hts in_X1 hown hK.1 hR 0 0 rfl rfl rfl 8 (by decide) (hts _ q177) (fun _ h9 => h9) rfl dX1_isBeaten_14 ?_
  refine cq_FE (As := []) (rest := []) hK hZ hA hAA hS hR ⟨xok_8, (xg_hn (E := E) (C := C) (g := g) (h := h) (k := 0) hI (Nat.lt_of_lt_of_le (by decide) (Nat.le_add_right 7 _)) (Nat.zero_le _)).1, (xg_hn (E := E) (C := C) (g := g) (h := h) (k := 0) hI (Nat.lt_of_lt_of_le (by decide) (Nat.le_add_right 7 _)) (Nat.zero_le _)).2.1⟩ (jt_iterator l E C A H.size (xok S) g (xen E C g h S) 2 (nz S 2) (S 20 2) (.ref (if cz S 2 = 0 then C.2.1 else g 2 2))) (fun _ h => h) (hK.1.1 5 _ rfl).2 ⟨hx, hb, hml, hown, hts⟩ (va_cwF 0 hts (lw_F q611 q614 q616 q36 q618) rfl rfl rfl (fw_iterator hK) (by decide +kernel) ⟨Nat.le_of_ble_eq_true rfl, Nat.le_of_ble_eq_true rfl⟩) (kw_recv (t := 1) (i := 2) hK.1 hR (Nat.lt_of_lt_of_le (by decide) (Nat.le_add_right 7 _)) rfl rfl) rfl hl.1 rfl (Nat.le_of_ble_eq_true rfl) dX1_isBeaten_17 ⟨Nat.le_of_ble_eq_true rfl, Nat.le_of_ble_eq_true rfl⟩ (fun q_17 H locs hB hz hk hS => ?_)
  have hR : (xwi E C g h S q_17 0 (S 20 2) (g 1 2) A) H := hB.2
  refine W.eq (g2 := F0 m 22 ls [.ref q_17]) rfl ?_
  refine lv_astore (lv' := [(6, .ref q_17), (5, .int 1), (4, .int (xf_score S i j)), (3, .int 0), (0, .ref (g 0 0)), (1, .ref (g 3 i)), (2, .ref (g 4 j))]) hx hb dX1_isBeaten_22 hl (by decide) rfl (fun ls hl => ?_)
  have hL_24 : ∀ (n_24 i_24 : Nat) (x3_24 : Bool) (x5_24 : Bool) (H : Heap) (locs : List Loc) (ls : Array Slot), i_24 + n_24 = (nz S 2) → xf_isBeaten_R24 S i j n_24 i_24 (x3_24, x5_24) = (xf_isBeaten_R24 S i j (nz S 2) 0 (false, true)) → (xwi E C g h S q_17 i_24 (S 20 2) (g 1 2) A) H → va_S A s.heap H locs → lv_has ls 9 [(0, .ref (g 0 0)), (1, .ref (g 3 i)), (2, .ref (g 4 j)), (3, .int (if x3_24 = true then 1 else 0)), (4, .int (xf_score S i j)), (5, .int (if x5_24 = true then 1 else 0)), (6, .ref q_17)] → cq_G p l e { frames := 8, cells := 1, slots := 4, locals := 178 } s m [.ref (g 0 0), .ref (g 3 i), .ref (g 4 j)] below meth c A (cq_Q (some (.int (gs_bz (xf_isBeaten S i j)))) (fun H => xw E C g h S A H) A) 1 4 H locs 1 4 (F0 m 24 ls []) := by
    intro n_24
    induction n_24 with
    | zero =>
      intro i_24 x3_24 x5_24 H locs ls hi_24 hg_24 hR hS hl
      have hi_24 : i_24 = (nz S 2) := hi_24
      subst hi_24
      have e_x3_24 : x3_24 = (xf_isBeaten_R24 S i j (nz S 2) 0 (false, true)).1 := congrArg (fun z => z.1) hg_24
      have e_x5_24 : x5_24 = (xf_isBeaten_R24 S i j (nz S 2) 0 (false, true)).2 := congrArg (fun z => z.2) hg_24
      subst e_x3_24
      subst e_x5_24
      refine lv_aload hx hb dX1_isBeaten_24 (lv_at hl 6 rfl) ?_
      refine cq_F (v := (some (.int (gs_bz (decide ((nz S 2) < nz S 2)))))) (As := []) (rest := []) hK hZ hA hAA hS hR (xg_hn hI (Nat.lt_of_lt_of_le (by decide) (Nat.le_add_right 7 _)) (Nat.le_refl _)) (jt_hasNext l E C A H.size (xok S) g (xen E C g h S) 2 q_17 (nz S 2) (nz S 2) (S 20 2) (.ref (if cz S 2 = 0 then C.2.1 else g 2 2))) (fun _ h => hA _ (Nat.le_trans hS.1 h)) (hK.1.1 6 _ rfl).2 ⟨hx, hb, hml, hown, hts⟩ (va_cwF 0 hts (lw_F q639 q643 q645 q58 q647) rfl rfl rfl (fw_hasNext hK) (by decide +kernel) ⟨Nat.le_of_ble_eq_true rfl, Nat.le_of_ble_eq_true rfl⟩) (kw_recv (t := 8) (i := 0) hK.1 hR rfl rfl rfl) rfl hl.1 rfl (Nat.le_of_ble_eq_true rfl) dX1_isBeaten_26 ⟨Nat.le_of_ble_eq_true rfl, Nat.le_of_ble_eq_true rfl⟩ (fun H locs hB hz hk hS => ?_)
      have hR := hR.kept (fun a _ h => hk a h (Nat.not_le.mpr h))
      refine W.eq (g2 := F0 m 31 ls [.int (if (nz S 2) < nz S 2 then 1 else 0)]) (by rw [gs_bz_dec]; rfl) ?_
      refine lv_if_eq (tgt := 141) hx hb dX1_isBeaten_31 (by decide) (fun c_1 => ?_) (fun c_1 => absurd (gs_zt (φ := (nz S 2) < (nz S 2)) c_1) (Nat.lt_irrefl _))
      refine lv_iload_n hx hb dX1_isBeaten_141 rfl (lv_at hl 3 rfl) ?_
      exact W.zret (v := (if (xf_isBeaten_R24 S i j (nz S 2) 0 (false, true)).1 = true then 1 else 0)) hx hb hr gs_nar (fun t ht hW => ⟨⟨(congrArg (fun z => Outcome.returned (some (Value.int z))) (gs_bz_dec.trans (congrArg gs_bz hf))), (by rw [ht]; exact (xwi_x hR))⟩, hS.F ht⟩) hS.2.2 dX1_isBeaten_142
    | succ n_24 ih_24 =>
      intro i_24 x3_24 x5_24 H locs ls hi_24 hg_24 hR hS hl
      have hlt_24 : i_24 < (nz S 2) := by omega
      have hf_24 : xf_isBeaten_L24 S i j i_24 x3_24 x5_24 = xf_isBeaten_L24 S i j i_24 x3_24 x5_24 := rfl
      refine lv_aload hx hb dX1_isBeaten_24 (lv_at hl 6 rfl) ?_
      refine cq_F (v := (some (.int (gs_bz (decide (i_24 < nz S 2)))))) (As := []) (rest := []) hK hZ hA hAA hS hR (xg_hn hI (Nat.lt_of_lt_of_le (by decide) (Nat.le_add_right 7 _)) (Nat.le_of_lt hlt_24)) (jt_hasNext l E C A H.size (xok S) g (xen E C g h S) 2 q_17 i_24 (nz S 2) (S 20 2) (.ref (if cz S 2 = 0 then C.2.1 else g 2 2))) (fun _ h => hA _ (Nat.le_trans hS.1 h)) (hK.1.1 6 _ rfl).2 ⟨hx, hb, hml, hown, hts⟩ (va_cwF 0 hts (lw_F q639 q643 q645 q58 q647) rfl rfl rfl (fw_hasNext hK) (by decide +kernel) ⟨Nat.le_of_ble_eq_true rfl, Nat.le_of_ble_eq_true rfl⟩) (kw_recv (t := 8) (i := 0) hK.1 hR rfl rfl rfl) rfl hl.1 rfl (Nat.le_of_ble_eq_true rfl) dX1_isBeaten_26 ⟨Nat.le_of_ble_eq_true rfl, Nat.le_of_ble_eq_true rfl⟩ (fun H locs hB hz hk hS => ?_)
      have hR := hR.kept (fun a _ h => hk a h (Nat.not_le.mpr h))
      refine W.eq (g2 := F0 m 31 ls [.int (if i_24 < nz S 2 then 1 else 0)]) (by rw [gs_bz_dec]; rfl) ?_
      refine lv_if_eq (tgt := 141) hx hb dX1_isBeaten_31 (by decide) (fun c_2 => absurd hlt_24 (gs_zf c_2)) (fun c_2 => ?_)
      refine lv_aload hx hb dX1_isBeaten_34 (lv_at hl 6 rfl) ?_
      refine cq_F (v := (some (.ref (g 4 i_24)))) (As := []) (rest := []) hK hZ hA hAA hS hR (xg_next hI hh (Nat.lt_of_lt_of_le (by decide) (Nat.le_add_right 7 _)) hlt_24) (jt_next l E C A H.size (xok S) g (xen E C g h S) 2 q_17 i_24 (nz S 2) (cz S 2) (S 20 2) (h 2) (g 4 i_24)) (fun _ h => h) (hK.1.1 6 _ rfl).2 ⟨hx, hb, hml, hown, hts⟩ (va_cwF 0 hts (lw_F q649 q652 q654 q58 q656) rfl rfl rfl (fw_next hK) (by decide +kernel) ⟨Nat.le_of_ble_eq_true rfl, Nat.le_of_ble_eq_true rfl⟩) (kw_recv (t := 8) (i := 0) hK.1 hR rfl rfl rfl) rfl hl.1 rfl (Nat.le_of_ble_eq_true rfl) dX1_isBeaten_36 ⟨Nat.le_of_ble_eq_true rfl, Nat.le_of_ble_eq_true rfl⟩ (fun H locs hB hz hk hS => ?_)
      have hR : (xwi E C g h S q_17 (i_24 + 1) (S 20 2) (g 1 2) A) H := hB
      refine W.eq (g2 := F0 m 41 ls [.ref (g 4 i_24)]) rfl ?_
      refine va_castS hx hb hown (hts _ q706) (hK.1.1 4 _ rfl).2 (kw_recv (t := 4) (i := i_24) hK.1 (xwi_x hR) hlt_24 rfl rfl) dX1_isBeaten_41 ?_
      refine lv_astore (lv' := [(7, .ref (g 4 i_24)), (0, .ref (g 0 0)), (1, .ref (g 3 i)), (2, .ref (g 4 j)), (3, .int (if x3_24 = true then 1 else 0)), (4, .int (xf_score S i j)), (5, .int (if x5_24 = true then 1 else 0)), (6, .ref q_17)]) hx hb dX1_isBeaten_44 hl (by decide) rfl (fun ls hl => ?_)
      refine lv_iload hx hb dX1_isBeaten_46 (lv_at hl 6 rfl) ?_
      have hJ_62 : ∀ (H : Heap) (locs : List Loc) (ls : Array Slot) (v_62 : Int32), v_62 = (if (x5_24 = true) ∧ (¬ (i_24 = j)) then 1 else 0) → (xwi E C g h S q_17 (i_24 + 1) (S 20 2) (g 1 2) A) H → va_S A s.heap H locs → lv_has ls 9 [(0, .ref (g 0 0)), (1, .ref (g 3 i)), (2, .ref (g 4 j)), (3, .int (if x3_24 = true then 1 else 0)), (4, .int (xf_score S i j)), (6, .ref q_17), (7, .ref (g 4 i_24))] → cq_G p l e { frames := 8, cells := 1, slots := 4, locals := 178 } s m [.ref (g 0 0), .ref (g 3 i), .ref (g 4 j)] below meth c A (cq_Q (some (.int (gs_bz (xf_isBeaten S i j)))) (fun H => xw E C g h S A H) A) 1 4 H locs 1 4 (F0 m 62 ls [.int v_62]) := by
        intro H locs ls v_62 e_v_62 hR hS hl
        subst e_v_62
        refine lv_istore (lv' := [(5, .int (if (x5_24 = true) ∧ (¬ (i_24 = j)) then 1 else 0)), (0, .ref (g 0 0)), (1, .ref (g 3 i)), (2, .ref (g 4 j)), (3, .int (if x3_24 = true then 1 else 0)), (4, .int (xf_score S i j)), (6, .ref q_17), (7, .ref (g 4 i_24))]) hx hb dX1_isBeaten_62 hl (by decide) rfl (fun ls hl => ?_)
        refine lv_aload hx hb dX1_isBeaten_64 (lv_at hl 7 rfl) ?_
        refine lv_aload_n hx hb dX1_isBeaten_66 rfl (lv_at hl 3 rfl) ?_
        have hJ_92 : ∀ (H : Heap) (locs : List Loc) (ls : Array Slot) (v_92 : Int32), v_92 = (if (¬ (i_24 = j)) ∧ (((S 56 i_24) = 0) ∧ ((xf_proves S i_24 i) = true)) then 1 else 0) → (xwi E C g h S q_17 (i_24 + 1) (S 20 2) (g 1 2) A) H → va_S A s.heap H locs → lv_has ls 9 [(0, .ref (g 0 0)), (1, .ref (g 3 i)), (2, .ref (g 4 j)), (3, .int (if x3_24 = true then 1 else 0)), (4, .int (xf_score S i j)), (5, .int (if (x5_24 = true) ∧ (¬ (i_24 = j)) then 1 else 0)), (6, .ref q_17), (7, .ref (g 4 i_24))] → cq_G p l e { frames := 8, cells := 1, slots := 4, locals := 178 } s m [.ref (g 0 0), .ref (g 3 i), .ref (g 4 j)] below meth c A (cq_Q (some (.int (gs_bz (xf_isBeaten S i j)))) (fun H => xw E C g h S A H) A) 1 4 H locs 1 4 (F0 m 92 ls [.int v_92]) := by
          intro H locs ls v_92 e_v_92 hR hS hl
          subst e_v_92
          refine lv_istore (lv' := [(8, .int (if (¬ (i_24 = j)) ∧ (((S 56 i_24) = 0) ∧ ((xf_proves S i_24 i) = true)) then 1 else 0)), (0, .ref (g 0 0)), (1, .ref (g 3 i)), (2, .ref (g 4 j)), (3, .int (if x3_24 = true then 1 else 0)), (4, .int (xf_score S i j)), (5, .int (if (x5_24 = true) ∧ (¬ (i_24 = j)) then 1 else 0)), (6, .ref q_17), (7, .ref (g 4 i_24))]) hx hb dX1_isBeaten_92 hl (by decide) rfl (fun ls hl => ?_)
          refine lv_iload_n hx hb dX1_isBeaten_94 rfl (lv_at hl 4 rfl) ?_
          have hJ_137 : ∀ (H : Heap) (locs : List Loc) (ls : Array Slot) (v_137 : Int32), v_137 = (if (x3_24 = true) ∨ (((¬ (i_24 = j)) ∧ (((S 56 i_24) = 0) ∧ ((xf_proves S i_24 i) = true))) ∧ (((xf_score S i j) < (xf_score S i i_24)) ∨ (((xf_score S i i_24) = (xf_score S i j)) ∧ ((x5_24 = true) ∧ (¬ (i_24 = j)))))) then 1 else 0) → (xwi E C g h S q_17 (i_24 + 1) (S 20 2) (g 1 2) A) H → va_S A s.heap H locs → lv_has ls 9 [(0, .ref (g 0 0)), (1, .ref (g 3 i)), (2, .ref (g 4 j)), (4, .int (xf_score S i j)), (5, .int (if (x5_24 = true) ∧ (¬ (i_24 = j)) then 1 else 0)), (6, .ref q_17)] → cq_G p l e { frames := 8, cells := 1, slots := 4, locals := 178 } s m [.ref (g 0 0), .ref (g 3 i), .ref (g 4 j)] below meth c A (cq_Q (some (.int (gs_bz (xf_isBeaten S i j)))) (fun H => xw E C g h S A H) A) 1 4 H locs 1 4 (F0 m 137 ls [.int v_137]) := by
            intro H locs ls v_137 e_v_137 hR hS hl
            subst e_v_137
            refine lv_istore_n (lv' := [(3, .int (if (x3_24 = true) ∨ (((¬ (i_24 = j)) ∧ (((S 56 i_24) = 0) ∧ ((xf_proves S i_24 i) = true))) ∧ (((xf_score S i j) < (xf_score S i i_24)) ∨ (((xf_score S i i_24) = (xf_score S i j)) ∧ ((x5_24 = true) ∧ (¬ (i_24 = j)))))) then 1 else 0)), (0, .ref (g 0 0)), (1, .ref (g 3 i)), (2, .ref (g 4 j)), (4, .int (xf_score S i j)), (5, .int (if (x5_24 = true) ∧ (¬ (i_24 = j)) then 1 else 0)), (6, .ref q_17)]) hx hb dX1_isBeaten_137 rfl hl (by decide) rfl (fun ls hl => ?_)
            refine lv_goto (tgt := 24) hx hb dX1_isBeaten_138 (by decide) ?_
            exact ih_24 (i_24 + 1) (decide ((x3_24 = true) ∨ (((¬ (i_24 = j)) ∧ (((S 56 i_24) = 0) ∧ ((xf_proves S i_24 i) = true))) ∧ (((xf_score S i j) < (xf_score S i i_24)) ∨ (((xf_score S i i_24) = (xf_score S i j)) ∧ ((x5_24 = true) ∧ (¬ (i_24 = j)))))))) (decide ((x5_24 = true) ∧ (¬ (i_24 = j)))) _ _ _ (by omega) ((congrArg (fun z => xf_isBeaten_R24 S i j n_24 (i_24 + 1) z) hf_24).trans hg_24) hR hS (by rw [gs_dd (φ := (x3_24 = true) ∨ (((¬ (i_24 = j)) ∧ (((S 56 i_24) = 0) ∧ ((xf_proves S i_24 i) = true))) ∧ (((xf_score S i j) < (xf_score S i i_24)) ∨ (((xf_score S i i_24) = (xf_score S i j)) ∧ ((x5_24 = true) ∧ (¬ (i_24 = j))))))), gs_dd (φ := (x5_24 = true) ∧ (¬ (i_24 = j)))]; exact lv_sub hl [1, 2, 3, 0, 4, 5, 6] rfl)
          refine lv_if_ne (tgt := 132) hx hb dX1_isBeaten_95 (by decide) (fun c_3 => ?_) (fun c_3 => ?_)
          · skip
            have c_3 : x3_24 = true := gs_zt (φ := x3_24 = true) c_3
            refine lv_iconst (v := 1) hx hb dX1_isBeaten_132 (by decide) ?_
            refine lv_goto (tgt := 137) hx hb dX1_isBeaten_133 (by decide) ?_
            exact hJ_137 _ _ _ 1 (gi_1 (gi_co_t c_3)) hR hS (lv_sub hl [1, 2, 3, 5, 6, 7] rfl)
          · skip
            have c_3 : ¬ (x3_24 = true) := gs_zf (φ := x3_24 = true) c_3
            refine lv_iload hx hb dX1_isBeaten_98 (lv_at hl 0 rfl) ?_
            refine lv_if_eq (tgt := 136) hx hb dX1_isBeaten_100 (by decide) (fun c_4 => ?_) (fun c_4 => ?_)
            · skip
              have c_4 : ¬ ((¬ (i_24 = j)) ∧ (((S 56 i_24) = 0) ∧ ((xf_proves S i_24 i) = true))) := gs_zf (φ := (¬ (i_24 = j)) ∧ (((S 56 i_24) = 0) ∧ ((xf_proves S i_24 i) = true))) c_4
              refine lv_iconst (v := 0) hx hb dX1_isBeaten_136 (by decide) ?_
              exact hJ_137 _ _ _ 0 (gi_0 ((gi_ca_f c_4).trans (gi_co_f c_3))) hR hS (lv_sub hl [1, 2, 3, 5, 6, 7] rfl)
            · skip
              have c_4 : (¬ (i_24 = j)) ∧ (((S 56 i_24) = 0) ∧ ((xf_proves S i_24 i) = true)) := gs_zt (φ := (¬ (i_24 = j)) ∧ (((S 56 i_24) = 0) ∧ ((xf_proves S i_24 i) = true))) c_4
              have c_5 := c_4.1
              have c_6 := c_4.2
              have c_7 := c_6.1
              have c_8 := c_6.2
              refine lv_aload_n hx hb dX1_isBeaten_103 rfl (lv_at hl 1 rfl) ?_
              refine lv_aload_n hx hb dX1_isBeaten_104 rfl (lv_at hl 2 rfl) ?_
              refine lv_aload hx hb dX1_isBeaten_105 (lv_at hl 8 rfl) ?_
              refine cq_V (v := (some (.int (xf_score S i i_24)))) (As := [.ref (g 3 i), .ref (g 4 i_24)]) (rest := []) hK hZ hA hAA hS (xwi_x hR) ⟨hI, hh, (by first | assumption | omega), (by first | assumption | omega)⟩ (xt_score l E C A H.size g h S i i_24) (fun _ h => hA _ (Nat.le_trans hS.1 h)) ⟨hx, hb, hml, hown, hts⟩ (cwV 2 hts (lw_V q792 q794 qs8 q33 q795) rfl rfl rfl (by decide +kernel) ⟨Nat.le_of_ble_eq_true rfl, Nat.le_of_ble_eq_true rfl⟩) (kw_recv (t := 0) (i := 0) hK.1 (xwi_x hR) rfl rfl rfl) rfl hl.1 rfl (Nat.le_of_ble_eq_true rfl) dX1_isBeaten_107 ⟨Nat.le_of_ble_eq_true rfl, Nat.le_of_ble_eq_true rfl⟩ (fun H locs hB hz hk hS => ?_)
              have hR := hR.kept (fun a _ h => hk a h (Nat.not_le.mpr h))
              refine W.eq (g2 := F0 m 110 ls [.int (xf_score S i i_24)]) rfl ?_
              refine lv_iload hx hb dX1_isBeaten_110 (lv_at hl 5 rfl) ?_
              refine lv_icmp_gt (tgt := 132) hx hb dX1_isBeaten_112 (by decide) (fun c_9 => ?_) (fun c_9 => ?_)
              · skip
                refine lv_iconst (v := 1) hx hb dX1_isBeaten_132 (by decide) ?_
                refine lv_goto (tgt := 137) hx hb dX1_isBeaten_133 (by decide) ?_
                exact hJ_137 _ _ _ 1 (gi_1 (((gi_co_t c_9).trans (gi_ca_t c_4)).trans (gi_co_f c_3))) hR hS (lv_sub hl [1, 2, 3, 5, 6, 7] rfl)
              · skip
                refine lv_aload_n hx hb dX1_isBeaten_115 rfl (lv_at hl 1 rfl) ?_
                refine lv_aload_n hx hb dX1_isBeaten_116 rfl (lv_at hl 2 rfl) ?_
                refine lv_aload hx hb dX1_isBeaten_117 (lv_at hl 8 rfl) ?_
                refine cq_V (v := (some (.int (xf_score S i i_24)))) (As := [.ref (g 3 i), .ref (g 4 i_24)]) (rest := []) hK hZ hA hAA hS (xwi_x hR) ⟨hI, hh, (by first | assumption | omega), (by first | assumption | omega)⟩ (xt_score l E C A H.size g h S i i_24) (fun _ h => hA _ (Nat.le_trans hS.1 h)) ⟨hx, hb, hml, hown, hts⟩ (cwV 2 hts (lw_V q792 q794 qs8 q33 q795) rfl rfl rfl (by decide +kernel) ⟨Nat.le_of_ble_eq_true rfl, Nat.le_of_ble_eq_true rfl⟩) (kw_recv (t := 0) (i := 0) hK.1 (xwi_x hR) rfl rfl rfl) rfl hl.1 rfl (Nat.le_of_ble_eq_true rfl) dX1_isBeaten_119 ⟨Nat.le_of_ble_eq_true rfl, Nat.le_of_ble_eq_true rfl⟩ (fun H locs hB hz hk hS => ?_)
                have hR := hR.kept (fun a _ h => hk a h (Nat.not_le.mpr h))
                refine W.eq (g2 := F0 m 122 ls [.int (xf_score S i i_24)]) rfl ?_
                refine lv_iload hx hb dX1_isBeaten_122 (lv_at hl 5 rfl) ?_
                refine lv_icmp_ne (tgt := 136) hx hb dX1_isBeaten_124 (by decide) (fun c_10 => ?_) (fun c_10 => ?_)
                · skip
                  refine lv_iconst (v := 0) hx hb dX1_isBeaten_136 (by decide) ?_
                  exact hJ_137 _ _ _ 0 (gi_0 ((((gi_ca_f c_10).trans (gi_co_f c_9)).trans (gi_ca_t c_4)).trans (gi_co_f c_3))) hR hS (lv_sub hl [1, 2, 3, 5, 6, 7] rfl)
                · skip
                  refine lv_iload hx hb dX1_isBeaten_127 (lv_at hl 6 rfl) ?_
                  refine lv_if_eq (tgt := 136) hx hb dX1_isBeaten_129 (by decide) (fun c_11 => ?_) (fun c_11 => ?_)
                  · skip
                    have c_11 : ¬ ((x5_24 = true) ∧ (¬ (i_24 = j))) := gs_zf (φ := (x5_24 = true) ∧ (¬ (i_24 = j))) c_11
                    refine lv_iconst (v := 0) hx hb dX1_isBeaten_136 (by decide) ?_
                    exact hJ_137 _ _ _ 0 (gi_0 (((((gi_cb_f c_11).trans (gi_ca_t c_10)).trans (gi_co_f c_9)).trans (gi_ca_t c_4)).trans (gi_co_f c_3))) hR hS (lv_sub hl [1, 2, 3, 5, 6, 7] rfl)
                  · skip
                    have c_11 : (x5_24 = true) ∧ (¬ (i_24 = j)) := gs_zt (φ := (x5_24 = true) ∧ (¬ (i_24 = j))) c_11
                    have c_12 := c_11.1
                    have c_13 := c_11.2
                    refine lv_iconst (v := 1) hx hb dX1_isBeaten_132 (by decide) ?_
                    refine lv_goto (tgt := 137) hx hb dX1_isBeaten_133 (by decide) ?_
                    exact hJ_137 _ _ _ 1 (gi_1 (((((gi_cb_t c_11).trans (gi_ca_t c_10)).trans (gi_co_f c_9)).trans (gi_ca_t c_4)).trans (gi_co_f c_3))) hR hS (lv_sub hl [1, 2, 3, 5, 6, 7] rfl)
        refine lv_acmp_eq (rx := some (g 4 i_24)) (ry := some (g 4 j)) (tgt := 91) hx hb dX1_isBeaten_67 (by decide) (fun c_14 => ?_) (fun c_14 => ?_)
        · skip
          have c_14 : i_24 = j := (x_inj (xwi_x hR) (t := 4) (i := i_24) (j := j) hlt_24 h_j).mp c_14
          refine lv_iconst (v := 0) hx hb dX1_isBeaten_91 (by decide) ?_
          exact hJ_92 _ _ _ 0 (gi_0 (gi_na_t c_14)) hR hS (lv_sub hl [1, 2, 3, 4, 5, 0, 6, 7] rfl)
        · skip
          have c_14 : ¬ (i_24 = j) := fun z => c_14 ((x_inj (xwi_x hR) (t := 4) (i := i_24) (j := j) hlt_24 h_j).mpr z)
          refine lv_aload hx hb dX1_isBeaten_70 (lv_at hl 7 rfl) ?_
          refine kw_getN (C := RX5) (T := TX5) (N := 10) (v := .int (S 56 i_24)) hx hb hts in_X5 hown hK.1 (xwi_x hR) 4 i_24 hlt_24 rfl rfl 6 (by decide) (va_Nw.use rfl (hK.2.1 _ q725 rfl)) (fun _ h9 => h9) rfl dX1_isBeaten_72 ?_
          refine lv_if_ne (tgt := 91) hx hb dX1_isBeaten_75 (by decide) (fun c_15 => ?_) (fun c_15 => ?_)
          · skip
            refine lv_iconst (v := 0) hx hb dX1_isBeaten_91 (by decide) ?_
            exact hJ_92 _ _ _ 0 (gi_0 ((gi_ca_f c_15).trans (gi_na_f c_14))) hR hS (lv_sub hl [1, 2, 3, 4, 5, 0, 6, 7] rfl)
          · skip
            refine lv_aload hx hb dX1_isBeaten_78 (lv_at hl 7 rfl) ?_
            refine lv_aload_n hx hb dX1_isBeaten_80 rfl (lv_at hl 2 rfl) ?_
            refine cq_V (v := (some (.int (gs_bz (xf_proves S i_24 i))))) (As := [.ref (g 3 i)]) (rest := []) hK hZ hA hAA hS (xwi_x hR) ⟨hI, hh, (by first | assumption | omega), (by first | assumption | omega)⟩ (xt_proves l E C A H.size g h S i_24 i) (fun _ h => hA _ (Nat.le_trans hS.1 h)) ⟨hx, hb, hml, hown, hts⟩ (cwV 1 hts (lw_V q809 q810 q811 q59 q812) rfl rfl rfl (by decide +kernel) ⟨Nat.le_of_ble_eq_true rfl, Nat.le_of_ble_eq_true rfl⟩) (kw_recv (t := 4) (i := i_24) hK.1 (xwi_x hR) hlt_24 rfl rfl) rfl hl.1 rfl (Nat.le_of_ble_eq_true rfl) dX1_isBeaten_81 ⟨Nat.le_of_ble_eq_true rfl, Nat.le_of_ble_eq_true rfl⟩ (fun H locs hB hz hk hS => ?_)
            have hR := hR.kept (fun a _ h => hk a h (Nat.not_le.mpr h))
            refine W.eq (g2 := F0 m 84 ls [.int (if (xf_proves S i_24 i) = true then 1 else 0)]) rfl ?_
            refine lv_if_eq (tgt := 91) hx hb dX1_isBeaten_84 (by decide) (fun c_16 => ?_) (fun c_16 => ?_)
            · skip
              have c_16 : ¬ ((xf_proves S i_24 i) = true) := gs_zf (φ := (xf_proves S i_24 i) = true) c_16
              refine lv_iconst (v := 0) hx hb dX1_isBeaten_91 (by decide) ?_
              exact hJ_92 _ _ _ 0 (gi_0 (((gi_cb_f c_16).trans (gi_ca_t c_15)).trans (gi_na_f c_14))) hR hS (lv_sub hl [1, 2, 3, 4, 5, 0, 6, 7] rfl)
            · skip
              have c_16 : (xf_proves S i_24 i) = true := gs_zt (φ := (xf_proves S i_24 i) = true) c_16
              refine lv_iconst (v := 1) hx hb dX1_isBeaten_87 (by decide) ?_
              refine lv_goto (tgt := 92) hx hb dX1_isBeaten_88 (by decide) ?_
              exact hJ_92 _ _ _ 1 (gi_1 (((gi_cb_t c_16).trans (gi_ca_t c_15)).trans (gi_na_f c_14))) hR hS (lv_sub hl [1, 2, 3, 4, 5, 0, 6, 7] rfl)
      refine lv_if_eq (tgt := 61) hx hb dX1_isBeaten_48 (by decide) (fun c_17 => ?_) (fun c_17 => ?_)
      · skip
        have c_17 : ¬ (x5_24 = true) := gs_zf (φ := x5_24 = true) c_17
        refine lv_iconst (v := 0) hx hb dX1_isBeaten_61 (by decide) ?_
        exact hJ_62 _ _ _ 0 (gi_0 (gi_ca_f c_17)) hR hS (lv_sub hl [1, 2, 3, 4, 5, 7, 0] rfl)
      · skip
        have c_17 : x5_24 = true := gs_zt (φ := x5_24 = true) c_17
        refine lv_aload hx hb dX1_isBeaten_51 (lv_at hl 0 rfl) ?_
        refine lv_aload_n hx hb dX1_isBeaten_53 rfl (lv_at hl 3 rfl) ?_
        refine lv_acmp_eq (rx := some (g 4 i_24)) (ry := some (g 4 j)) (tgt := 61) hx hb dX1_isBeaten_54 (by decide) (fun c_18 => ?_) (fun c_18 => ?_)
        · skip
          have c_18 : i_24 = j := (x_inj (xwi_x hR) (t := 4) (i := i_24) (j := j) hlt_24 h_j).mp c_18
          refine lv_iconst (v := 0) hx hb dX1_isBeaten_61 (by decide) ?_
          exact hJ_62 _ _ _ 0 (gi_0 ((gi_nb_t c_18).trans (gi_ca_t c_17))) hR hS (lv_sub hl [1, 2, 3, 4, 5, 7, 0] rfl)
        · skip
          have c_18 : ¬ (i_24 = j) := fun z => c_18 ((x_inj (xwi_x hR) (t := 4) (i := i_24) (j := j) hlt_24 h_j).mpr z)
          refine lv_iconst (v := 1) hx hb dX1_isBeaten_57 (by decide) ?_
          refine lv_goto (tgt := 62) hx hb dX1_isBeaten_58 (by decide) ?_
          exact hJ_62 _ _ _ 1 (gi_1 ((gi_nb_f c_18).trans (gi_ca_t c_17))) hR hS (lv_sub hl [1, 2, 3, 4, 5, 7, 0] rfl)
  exact hL_24 (nz S 2) 0 false true _ _ _ (by omega) rfl hR hS (lv_sub hl [4, 5, 6, 3, 2, 1, 0] rfl)
set_option maxHeartbeats 2000000 in
set_option maxRecDepth 100000 in
theorem xt_isOver (l : Launch) (E : en_T) (C : ex_C) (A : Nat → Prop) (sz : Nat) (g : kw_A) (h : xh_T) (S : gs_T) (i : Nat) : Met l yX1_isOver (ws_ yX1_isOver cX1_isOver 5 (some .boolean)) { frames := 9, cells := 1, slots := 4, locals := 200 } (cpc E C A sz [.ref (g 0 0), .ref (g 3 i)] (xw E C g h S A) (xi_ok S ∧ xh C g h S ∧ i < nz S 1)) (cq_Q (some (.int (gs_bz (xf_isOver S i)))) (fun H => xw E C g h S A H) A) 1 4 A := by
  refine cq_start (by decide) (Nat.le_of_ble_eq_true rfl) ?_
  intro p e s m below meth c ls hx hb hr hlocks hml hown hnm hts hsz hK hZ hA hR hP hl
  subst hsz
  have hAA : ∀ a, A a → A a := fun _ h => h
  have hl : lv_has ls 5 [(0, .ref (g 0 0)), (1, .ref (g 3 i))] := hl
  have hS : va_S A s.heap s.heap [] := va_S.rf
  have hZr := hZ
  obtain ⟨hI, hh, h_i⟩ := hP
  have hf : (xf_isOver S i) = (xf_isOver S i) := rfl
  refine lv_aload_n hx hb dX1_isOver_0 rfl (lv_at hl 1 rfl) ?_
  refine kw_getN (C := RX3) (T := TX3) (N := 15) (v := .int (S 36 i)) hx hb hts in_X3 hown hK.1 hR 3 i h_i rfl rfl 6 (by decide) (va_Nw.use rfl (hK.2.1 _ q536 rfl)) (fun _ h9 => h9) rfl dX1_isOver_1 ?_
  have hJ_30 : ∀ (H : Heap) (locs : List Loc) (ls : Array Slot) (v_30 : Int32), v_30 = (if ((S 36 i) = 0) ∧ ((¬ ((S 0 0) ≤ (S 37 i))) ∧ ((S 38 i) = 0)) then 1 else 0) → (xw E C g h S A) H → va_S A s.heap H locs → lv_has ls 5 [(0, .ref (g 0 0)), (1, .ref (g 3 i))] → cq_G p l e { frames := 9, cells := 1, slots := 4, locals := 200 } s m [.ref (g 0 0), .ref (g 3 i)] below meth c A (cq_Q (some (.int (gs_bz (xf_isOver S i)))) (fun H => xw E C g h S A H) A) 1 4 H locs 0 0 (F0 m 30 ls [.int v_30]) := by
    intro H locs ls v_30 e_v_30 hR hS hl
    subst e_v_30
    refine lv_istore_n (lv' := [(2, .int (if ((S 36 i) = 0) ∧ ((¬ ((S 0 0) ≤ (S 37 i))) ∧ ((S 38 i) = 0)) then 1 else 0)), (0, .ref (g 0 0)), (1, .ref (g 3 i))]) hx hb dX1_isOver_30 rfl hl (by decide) rfl (fun ls hl => ?_)
    refine lv_aload_n hx hb dX1_isOver_31 rfl (lv_at hl 1 rfl) ?_
    refine kw_get (C := RX1) (T := TX1) (N := 12) (v := .ref (g 1 2)) hx hb hts in_X1 hown hK.1 hR 0 0 rfl rfl rfl 8 (by decide) (hts _ q177) (fun _ h9 => h9) rfl dX1_isOver_32 ?_
    refine cq_FE (As := []) (rest := []) hK hZ hA hAA hS hR ⟨xok_8, (xg_hn (E := E) (C := C) (g := g) (h := h) (k := 0) hI (Nat.lt_of_lt_of_le (by decide) (Nat.le_add_right 7 _)) (Nat.zero_le _)).1, (xg_hn (E := E) (C := C) (g := g) (h := h) (k := 0) hI (Nat.lt_of_lt_of_le (by decide) (Nat.le_add_right 7 _)) (Nat.zero_le _)).2.1⟩ (jt_iterator l E C A H.size (xok S) g (xen E C g h S) 2 (nz S 2) (S 20 2) (.ref (if cz S 2 = 0 then C.2.1 else g 2 2))) (fun _ h => h) (hK.1.1 5 _ rfl).2 ⟨hx, hb, hml, hown, hts⟩ (va_cwF 0 hts (lw_F q611 q614 q616 q36 q618) rfl rfl rfl (fw_iterator hK) (by decide +kernel) ⟨Nat.le_of_ble_eq_true rfl, Nat.le_of_ble_eq_true rfl⟩) (kw_recv (t := 1) (i := 2) hK.1 hR (Nat.lt_of_lt_of_le (by decide) (Nat.le_add_right 7 _)) rfl rfl) rfl hl.1 rfl (Nat.le_of_ble_eq_true rfl) dX1_isOver_35 ⟨Nat.le_of_ble_eq_true rfl, Nat.le_of_ble_eq_true rfl⟩ (fun q_35 H locs hB hz hk hS => ?_)
    have hR : (xwi E C g h S q_35 0 (S 20 2) (g 1 2) A) H := hB.2
    refine W.eq (g2 := F0 m 40 ls [.ref q_35]) rfl ?_
    refine lv_astore_n (lv' := [(3, .ref q_35), (2, .int (if ((S 36 i) = 0) ∧ ((¬ ((S 0 0) ≤ (S 37 i))) ∧ ((S 38 i) = 0)) then 1 else 0)), (0, .ref (g 0 0)), (1, .ref (g 3 i))]) hx hb dX1_isOver_40 rfl hl (by decide) rfl (fun ls hl => ?_)
    have hL_41 : ∀ (n_41 i_41 : Nat) (x2_41 : Bool) (H : Heap) (locs : List Loc) (ls : Array Slot), i_41 + n_41 = (nz S 2) → xf_isOver_R41 S i n_41 i_41 x2_41 = (xf_isOver_R41 S i (nz S 2) 0 (decide (((S 36 i) = 0) ∧ ((¬ ((S 0 0) ≤ (S 37 i))) ∧ ((S 38 i) = 0))))) → (xwi E C g h S q_35 i_41 (S 20 2) (g 1 2) A) H → va_S A s.heap H locs → lv_has ls 5 [(0, .ref (g 0 0)), (1, .ref (g 3 i)), (2, .int (if x2_41 = true then 1 else 0)), (3, .ref q_35)] → cq_G p l e { frames := 9, cells := 1, slots := 4, locals := 200 } s m [.ref (g 0 0), .ref (g 3 i)] below meth c A (cq_Q (some (.int (gs_bz (xf_isOver S i)))) (fun H => xw E C g h S A H) A) 1 4 H locs 1 4 (F0 m 41 ls []) := by
      intro n_41
      induction n_41 with
      | zero =>
        intro i_41 x2_41 H locs ls hi_41 hg_41 hR hS hl
        have hi_41 : i_41 = (nz S 2) := hi_41
        subst hi_41
        have e_x2_41 : x2_41 = (xf_isOver_R41 S i (nz S 2) 0 (decide (((S 36 i) = 0) ∧ ((¬ ((S 0 0) ≤ (S 37 i))) ∧ ((S 38 i) = 0))))) := congrArg (fun z => z) hg_41
        subst e_x2_41
        refine lv_aload_n hx hb dX1_isOver_41 rfl (lv_at hl 3 rfl) ?_
        refine cq_F (v := (some (.int (gs_bz (decide ((nz S 2) < nz S 2)))))) (As := []) (rest := []) hK hZ hA hAA hS hR (xg_hn hI (Nat.lt_of_lt_of_le (by decide) (Nat.le_add_right 7 _)) (Nat.le_refl _)) (jt_hasNext l E C A H.size (xok S) g (xen E C g h S) 2 q_35 (nz S 2) (nz S 2) (S 20 2) (.ref (if cz S 2 = 0 then C.2.1 else g 2 2))) (fun _ h => hA _ (Nat.le_trans hS.1 h)) (hK.1.1 6 _ rfl).2 ⟨hx, hb, hml, hown, hts⟩ (va_cwF 0 hts (lw_F q639 q643 q645 q58 q647) rfl rfl rfl (fw_hasNext hK) (by decide +kernel) ⟨Nat.le_of_ble_eq_true rfl, Nat.le_of_ble_eq_true rfl⟩) (kw_recv (t := 8) (i := 0) hK.1 hR rfl rfl rfl) rfl hl.1 rfl (Nat.le_of_ble_eq_true rfl) dX1_isOver_42 ⟨Nat.le_of_ble_eq_true rfl, Nat.le_of_ble_eq_true rfl⟩ (fun H locs hB hz hk hS => ?_)
        have hR := hR.kept (fun a _ h => hk a h (Nat.not_le.mpr h))
        refine W.eq (g2 := F0 m 47 ls [.int (if (nz S 2) < nz S 2 then 1 else 0)]) (by rw [gs_bz_dec]; rfl) ?_
        refine lv_if_eq (tgt := 84) hx hb dX1_isOver_47 (by decide) (fun c_1 => ?_) (fun c_1 => absurd (gs_zt (φ := (nz S 2) < (nz S 2)) c_1) (Nat.lt_irrefl _))
        refine lv_iload_n hx hb dX1_isOver_84 rfl (lv_at hl 2 rfl) ?_
        exact W.zret (v := (if (xf_isOver_R41 S i (nz S 2) 0 (decide (((S 36 i) = 0) ∧ ((¬ ((S 0 0) ≤ (S 37 i))) ∧ ((S 38 i) = 0))))) = true then 1 else 0)) hx hb hr gs_nar (fun t ht hW => ⟨⟨(congrArg (fun z => Outcome.returned (some (Value.int z))) (gs_bz_dec.trans (congrArg gs_bz hf))), (by rw [ht]; exact (xwi_x hR))⟩, hS.F ht⟩) hS.2.2 dX1_isOver_85
      | succ n_41 ih_41 =>
        intro i_41 x2_41 H locs ls hi_41 hg_41 hR hS hl
        have hlt_41 : i_41 < (nz S 2) := by omega
        have hf_41 : xf_isOver_L41 S i i_41 x2_41 = xf_isOver_L41 S i i_41 x2_41 := rfl
        refine lv_aload_n hx hb dX1_isOver_41 rfl (lv_at hl 3 rfl) ?_
        refine cq_F (v := (some (.int (gs_bz (decide (i_41 < nz S 2)))))) (As := []) (rest := []) hK hZ hA hAA hS hR (xg_hn hI (Nat.lt_of_lt_of_le (by decide) (Nat.le_add_right 7 _)) (Nat.le_of_lt hlt_41)) (jt_hasNext l E C A H.size (xok S) g (xen E C g h S) 2 q_35 i_41 (nz S 2) (S 20 2) (.ref (if cz S 2 = 0 then C.2.1 else g 2 2))) (fun _ h => hA _ (Nat.le_trans hS.1 h)) (hK.1.1 6 _ rfl).2 ⟨hx, hb, hml, hown, hts⟩ (va_cwF 0 hts (lw_F q639 q643 q645 q58 q647) rfl rfl rfl (fw_hasNext hK) (by decide +kernel) ⟨Nat.le_of_ble_eq_true rfl, Nat.le_of_ble_eq_true rfl⟩) (kw_recv (t := 8) (i := 0) hK.1 hR rfl rfl rfl) rfl hl.1 rfl (Nat.le_of_ble_eq_true rfl) dX1_isOver_42 ⟨Nat.le_of_ble_eq_true rfl, Nat.le_of_ble_eq_true rfl⟩ (fun H locs hB hz hk hS => ?_)
        have hR := hR.kept (fun a _ h => hk a h (Nat.not_le.mpr h))
        refine W.eq (g2 := F0 m 47 ls [.int (if i_41 < nz S 2 then 1 else 0)]) (by rw [gs_bz_dec]; rfl) ?_
        refine lv_if_eq (tgt := 84) hx hb dX1_isOver_47 (by decide) (fun c_2 => absurd hlt_41 (gs_zf c_2)) (fun c_2 => ?_)
        refine lv_aload_n hx hb dX1_isOver_50 rfl (lv_at hl 3 rfl) ?_
        refine cq_F (v := (some (.ref (g 4 i_41)))) (As := []) (rest := []) hK hZ hA hAA hS hR (xg_next hI hh (Nat.lt_of_lt_of_le (by decide) (Nat.le_add_right 7 _)) hlt_41) (jt_next l E C A H.size (xok S) g (xen E C g h S) 2 q_35 i_41 (nz S 2) (cz S 2) (S 20 2) (h 2) (g 4 i_41)) (fun _ h => h) (hK.1.1 6 _ rfl).2 ⟨hx, hb, hml, hown, hts⟩ (va_cwF 0 hts (lw_F q649 q652 q654 q58 q656) rfl rfl rfl (fw_next hK) (by decide +kernel) ⟨Nat.le_of_ble_eq_true rfl, Nat.le_of_ble_eq_true rfl⟩) (kw_recv (t := 8) (i := 0) hK.1 hR rfl rfl rfl) rfl hl.1 rfl (Nat.le_of_ble_eq_true rfl) dX1_isOver_51 ⟨Nat.le_of_ble_eq_true rfl, Nat.le_of_ble_eq_true rfl⟩ (fun H locs hB hz hk hS => ?_)
        have hR : (xwi E C g h S q_35 (i_41 + 1) (S 20 2) (g 1 2) A) H := hB
        refine W.eq (g2 := F0 m 56 ls [.ref (g 4 i_41)]) rfl ?_
        refine va_castS hx hb hown (hts _ q706) (hK.1.1 4 _ rfl).2 (kw_recv (t := 4) (i := i_41) hK.1 (xwi_x hR) hlt_41 rfl rfl) dX1_isOver_56 ?_
        refine lv_astore (lv' := [(4, .ref (g 4 i_41)), (0, .ref (g 0 0)), (1, .ref (g 3 i)), (2, .int (if x2_41 = true then 1 else 0)), (3, .ref q_35)]) hx hb dX1_isOver_59 hl (by decide) rfl (fun ls hl => ?_)
        refine lv_iload_n hx hb dX1_isOver_61 rfl (lv_at hl 3 rfl) ?_
        have hJ_80 : ∀ (H : Heap) (locs : List Loc) (ls : Array Slot) (v_80 : Int32), v_80 = (if (x2_41 = true) ∧ (¬ ((xf_isCandidate S i i_41) = true)) then 1 else 0) → (xwi E C g h S q_35 (i_41 + 1) (S 20 2) (g 1 2) A) H → va_S A s.heap H locs → lv_has ls 5 [(0, .ref (g 0 0)), (1, .ref (g 3 i)), (3, .ref q_35)] → cq_G p l e { frames := 9, cells := 1, slots := 4, locals := 200 } s m [.ref (g 0 0), .ref (g 3 i)] below meth c A (cq_Q (some (.int (gs_bz (xf_isOver S i)))) (fun H => xw E C g h S A H) A) 1 4 H locs 1 4 (F0 m 80 ls [.int v_80]) := by
          intro H locs ls v_80 e_v_80 hR hS hl
          subst e_v_80
          refine lv_istore_n (lv' := [(2, .int (if (x2_41 = true) ∧ (¬ ((xf_isCandidate S i i_41) = true)) then 1 else 0)), (0, .ref (g 0 0)), (1, .ref (g 3 i)), (3, .ref q_35)]) hx hb dX1_isOver_80 rfl hl (by decide) rfl (fun ls hl => ?_)
          refine lv_goto (tgt := 41) hx hb dX1_isOver_81 (by decide) ?_
          exact ih_41 (i_41 + 1) (decide ((x2_41 = true) ∧ (¬ ((xf_isCandidate S i i_41) = true)))) _ _ _ (by omega) ((congrArg (fun z => xf_isOver_R41 S i n_41 (i_41 + 1) z) hf_41).trans hg_41) hR hS (by rw [gs_dd (φ := (x2_41 = true) ∧ (¬ ((xf_isCandidate S i i_41) = true)))]; exact lv_sub hl [1, 2, 0, 3] rfl)
        refine lv_if_eq (tgt := 79) hx hb dX1_isOver_62 (by decide) (fun c_3 => ?_) (fun c_3 => ?_)
        · skip
          have c_3 : ¬ (x2_41 = true) := gs_zf (φ := x2_41 = true) c_3
          refine lv_iconst (v := 0) hx hb dX1_isOver_79 (by decide) ?_
          exact hJ_80 _ _ _ 0 (gi_0 (gi_ca_f c_3)) hR hS (lv_sub hl [1, 2, 4] rfl)
        · skip
          have c_3 : x2_41 = true := gs_zt (φ := x2_41 = true) c_3
          refine lv_aload_n hx hb dX1_isOver_65 rfl (lv_at hl 1 rfl) ?_
          refine lv_aload_n hx hb dX1_isOver_66 rfl (lv_at hl 2 rfl) ?_
          refine lv_aload hx hb dX1_isOver_67 (lv_at hl 0 rfl) ?_
          refine cq_V (v := (some (.int (gs_bz (xf_isCandidate S i i_41))))) (As := [.ref (g 3 i), .ref (g 4 i_41)]) (rest := []) hK hZ hA hAA hS (xwi_x hR) ⟨hI, hh, (by first | assumption | omega), (by first | assumption | omega)⟩ (xt_isCandidate l E C A H.size g h S i i_41) (fun _ h => hA _ (Nat.le_trans hS.1 h)) ⟨hx, hb, hml, hown, hts⟩ (cwV 2 hts (lw_V q788 q790 qs7 q33 q791) rfl rfl rfl (by decide +kernel) ⟨Nat.le_of_ble_eq_true rfl, Nat.le_of_ble_eq_true rfl⟩) (kw_recv (t := 0) (i := 0) hK.1 (xwi_x hR) rfl rfl rfl) rfl hl.1 rfl (Nat.le_of_ble_eq_true rfl) dX1_isOver_69 ⟨Nat.le_of_ble_eq_true rfl, Nat.le_of_ble_eq_true rfl⟩ (fun H locs hB hz hk hS => ?_)
          have hR := hR.kept (fun a _ h => hk a h (Nat.not_le.mpr h))
          refine W.eq (g2 := F0 m 72 ls [.int (if (xf_isCandidate S i i_41) = true then 1 else 0)]) rfl ?_
          refine lv_if_ne (tgt := 79) hx hb dX1_isOver_72 (by decide) (fun c_4 => ?_) (fun c_4 => ?_)
          · skip
            have c_4 : (xf_isCandidate S i i_41) = true := gs_zt (φ := (xf_isCandidate S i i_41) = true) c_4
            refine lv_iconst (v := 0) hx hb dX1_isOver_79 (by decide) ?_
            exact hJ_80 _ _ _ 0 (gi_0 ((gi_nb_t c_4).trans (gi_ca_t c_3))) hR hS (lv_sub hl [1, 2, 4] rfl)
          · skip
            have c_4 : ¬ ((xf_isCandidate S i i_41) = true) := gs_zf (φ := (xf_isCandidate S i i_41) = true) c_4
            refine lv_iconst (v := 1) hx hb dX1_isOver_75 (by decide) ?_
            refine lv_goto (tgt := 80) hx hb dX1_isOver_76 (by decide) ?_
            exact hJ_80 _ _ _ 1 (gi_1 ((gi_nb_f c_4).trans (gi_ca_t c_3))) hR hS (lv_sub hl [1, 2, 4] rfl)
    exact hL_41 (nz S 2) 0 (decide (((S 36 i) = 0) ∧ ((¬ ((S 0 0) ≤ (S 37 i))) ∧ ((S 38 i) = 0)))) _ _ _ (by omega) rfl hR hS (by rw [gs_dd (φ := ((S 36 i) = 0) ∧ ((¬ ((S 0 0) ≤ (S 37 i))) ∧ ((S 38 i) = 0)))]; exact lv_sub hl [2, 3, 1, 0] rfl)
  refine lv_if_ne (tgt := 29) hx hb dX1_isOver_4 (by decide) (fun c_5 => ?_) (fun c_5 => ?_)
  · skip
    refine lv_iconst (v := 0) hx hb dX1_isOver_29 (by decide) ?_
    exact hJ_30 _ _ _ 0 (gi_0 (gi_ca_f c_5)) hR hS (lv_sub hl [0, 1] rfl)
  · skip
    refine lv_aload_n hx hb dX1_isOver_7 rfl (lv_at hl 0 rfl) ?_
    refine kw_get (C := RX1) (T := TX1) (N := 12) (v := .int (S 0 0)) hx hb hts in_X1 hown hK.1 hR 0 0 rfl rfl rfl 0 (by decide) (hts _ q168) (fun _ h9 => h9) rfl dX1_isOver_8 ?_
    refine lv_aload_n hx hb dX1_isOver_11 rfl (lv_at hl 1 rfl) ?_
    refine kw_getN (C := RX3) (T := TX3) (N := 15) (v := .int (S 37 i)) hx hb hts in_X3 hown hK.1 hR 3 i h_i rfl rfl 7 (by decide) (va_Nw.use rfl (hK.2.1 _ q538 rfl)) (fun _ h9 => h9) rfl dX1_isOver_12 ?_
    refine lv_icmp_le (tgt := 29) hx hb dX1_isOver_15 (by decide) (fun c_6 => ?_) (fun c_6 => ?_)
    · skip
      refine lv_iconst (v := 0) hx hb dX1_isOver_29 (by decide) ?_
      exact hJ_30 _ _ _ 0 (gi_0 ((gi_na_t c_6).trans (gi_ca_t c_5))) hR hS (lv_sub hl [0, 1] rfl)
    · skip
      refine lv_aload_n hx hb dX1_isOver_18 rfl (lv_at hl 1 rfl) ?_
      refine kw_getN (C := RX3) (T := TX3) (N := 15) (v := .int (S 38 i)) hx hb hts in_X3 hown hK.1 hR 3 i h_i rfl rfl 8 (by decide) (va_Nw.use rfl (hK.2.1 _ q539 rfl)) (fun _ h9 => h9) rfl dX1_isOver_19 ?_
      refine lv_if_ne (tgt := 29) hx hb dX1_isOver_22 (by decide) (fun c_7 => ?_) (fun c_7 => ?_)
      · skip
        refine lv_iconst (v := 0) hx hb dX1_isOver_29 (by decide) ?_
        exact hJ_30 _ _ _ 0 (gi_0 (((gi_cb_f c_7).trans (gi_na_f c_6)).trans (gi_ca_t c_5))) hR hS (lv_sub hl [0, 1] rfl)
      · skip
        refine lv_iconst (v := 1) hx hb dX1_isOver_25 (by decide) ?_
        refine lv_goto (tgt := 30) hx hb dX1_isOver_26 (by decide) ?_
        exact hJ_30 _ _ _ 1 (gi_1 (((gi_cb_t c_7).trans (gi_na_f c_6)).trans (gi_ca_t c_5))) hR hS (lv_sub hl [0, 1] rfl)
