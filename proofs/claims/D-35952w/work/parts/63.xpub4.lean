def xp_release (S : gs_T) (p1 : Int32) (p2 : Int32) : String ⊕ (Int32 × gs_T) := (if (xf_isIn p1 0 ((S 21 1) - 1)) = true then (if (xf_isIn p2 0 ((S 21 2) - 1)) = true then (if ((S 36 p1.toNatClampNeg) = 0) ∧ (((S 38 p1.toNatClampNeg) = 0) ∧ (((xf_isCandidate S p1.toNatClampNeg p2.toNatClampNeg) = true) ∧ (((xf_proves S p2.toNatClampNeg p1.toNatClampNeg) = true) ∧ (¬ ((xf_isBeaten S p1.toNatClampNeg p2.toNatClampNeg) = true))))) then (.inr ((5 + (((S 35 p1.toNatClampNeg) * (S 4 ((S 30 p1.toNatClampNeg).toNatClampNeg))) / 100)), (gs_up (gs_up (gs_up (gs_up (gs_up (gs_up S 36 p1.toNatClampNeg 3) 58 p2.toNatClampNeg p1) 56 p2.toNatClampNeg 1) 57 p2.toNatClampNeg (S 0 0)) 9 0 ((S 9 0) + 5)) 10 0 ((S 10 0) + (((S 35 p1.toNatClampNeg) * (S 4 ((S 30 p1.toNatClampNeg).toNatClampNeg))) / 100))))) else (.inl "java/lang/IllegalStateException")) else (.inl "java/lang/IndexOutOfBoundsException")) else (.inl "java/lang/IndexOutOfBoundsException"))
def xp_sell (S : gs_T) (p1 : Int32) (p2 : Int32) : String ⊕ (Int32 × gs_T) := (if (xf_isIn p1 0 ((S 21 1) - 1)) = true then (if (xf_isIn p2 1 9999) = true then (if ((xf_isOver S p1.toNatClampNeg) = true) ∧ (¬ ((S 30 p1.toNatClampNeg) = 7)) then (.inr (((S 11 0) + p2), (gs_up (gs_up (gs_up (gs_up S 36 p1.toNatClampNeg 4) 41 p1.toNatClampNeg p2) 42 p1.toNatClampNeg (S 0 0)) 11 0 ((S 11 0) + p2)))) else (.inl "java/lang/IllegalStateException")) else (.inl "java/lang/IllegalArgumentException")) else (.inl "java/lang/IndexOutOfBoundsException"))
def xp_destroy (S : gs_T) (p1 : Int32) : String ⊕ (Int32 × gs_T) := (if (xf_isIn p1 0 ((S 21 1) - 1)) = true then (if (xf_isOver S p1.toNatClampNeg) = true then (.inr ((S 39 p1.toNatClampNeg), (gs_up S 36 p1.toNatClampNeg 5))) else (.inl "java/lang/IllegalStateException")) else (.inl "java/lang/IndexOutOfBoundsException"))
def xp_payOut (S : gs_T) (p1 : Int32) (p2 : Int32) : String ⊕ (Int32 × gs_T) := (if (xf_isIn p1 0 ((S 21 1) - 1)) = true then (if (xf_isIn p2 0 ((S 21 2) - 1)) = true then (if ((S 36 p1.toNatClampNeg) = 4) ∧ ((¬ (365 < ((S 0 0) - (S 42 p1.toNatClampNeg)))) ∧ (((xf_isCandidate S p1.toNatClampNeg p2.toNatClampNeg) = true) ∧ (((xf_proves S p2.toNatClampNeg p1.toNatClampNeg) = true) ∧ (¬ ((xf_isBeaten S p1.toNatClampNeg p2.toNatClampNeg) = true))))) then (.inr (((S 41 p1.toNatClampNeg) - (if (S 41 p1.toNatClampNeg) < 5 then (S 41 p1.toNatClampNeg) else 5)), (gs_up (gs_up (gs_up (gs_up (gs_up (gs_up S 36 p1.toNatClampNeg 6) 58 p2.toNatClampNeg p1) 56 p2.toNatClampNeg 1) 57 p2.toNatClampNeg (S 0 0)) 9 0 ((S 9 0) + (if (S 41 p1.toNatClampNeg) < 5 then (S 41 p1.toNatClampNeg) else 5))) 11 0 ((S 11 0) - (S 41 p1.toNatClampNeg))))) else (.inl "java/lang/IllegalStateException")) else (.inl "java/lang/IndexOutOfBoundsException")) else (.inl "java/lang/IndexOutOfBoundsException"))
def xp_isDue (S : gs_T) (p1 : Int32) : String ⊕ (Bool × gs_T) := (if (xf_isIn p1 0 ((S 21 1) - 1)) = true then (.inr ((decide ((xf_isOver S p1.toNatClampNeg) = true)), S)) else (.inl "java/lang/IndexOutOfBoundsException"))
def xp_lose_L21 (p1 : Int32) (i_21 : Nat) (x2_21 : Int32) (S_21 : gs_T) : Int32 × gs_T := (if (S_21 36 i_21) = 1 then (if (S_21 39 i_21) = p1 then ((x2_21 + 1), (gs_up S_21 36 i_21 2)) else (x2_21, S_21)) else (x2_21, S_21))
def xp_lose_R21 (p1 : Int32) (n i : Nat) (a : Int32 × gs_T) : Int32 × gs_T := lp_up (fun i a => xp_lose_L21 p1 i a.1 a.2) n i a
def xp_lose (S : gs_T) (p1 : Int32) : String ⊕ (Int32 × gs_T) := (if (xf_isIn p1 0 5) = true then (.inr ((xp_lose_R21 p1 (nz S 1) 0 (0, S)).1, (xp_lose_R21 p1 (nz S 1) 0 (0, S)).2)) else (.inl "java/lang/IndexOutOfBoundsException"))
set_option maxHeartbeats 2000000 in
set_option maxRecDepth 100000 in
theorem xs_release (l : Launch) (hfl : l.stackTraces = false) (E : en_T) (C : ex_C) (A : Nat → Prop) (sz : Nat) (g : kw_A) (h : xh_T) (S : gs_T) (p1 : Int32) (p2 : Int32) : vx_Met l yX1_release (ws_ yX1_release cX1_release 6 (some .int)) { frames := 9, cells := 2, slots := 10, locals := 206 } (cpc E C A sz [.ref (g 0 0), .int p1, .int p2] (xw E C g h S A) (xi_ok S ∧ xh C g h S)) (xq_Q (fun z => z) E C (g 0 0) A (xp_release S p1 p2)) (xq_X E C g h S A (xp_release S p1 p2)) 2 10 A := by
  refine cx_start (by decide) (Nat.le_of_ble_eq_true rfl) ?_
  intro p e s m below meth c ls hx hb hr hlocks hml hown hnm hnt hts hsz hK hZ hA hR hP hl
  subst hsz
  have hAA : ∀ a, A a → A a := fun _ h => h
  have hl : lv_has ls 6 [(0, .ref (g 0 0)), (1, .int p1), (2, .int p2)] := hl
  have hS : va_S A s.heap s.heap [] := va_S.rf
  have hZr := hZ
  obtain ⟨hI, hh⟩ := hP
  have hf : (xp_release S p1 p2) = (xp_release S p1 p2) := rfl
  refine lv_aload_n hx hb dX1_release_0 rfl (lv_at hl 0 rfl) ?_
  refine lv_iload_n hx hb dX1_release_1 rfl (lv_at hl 1 rfl) ?_
  by_cases c_1 : (xf_isIn p1 0 ((S 21 1) - 1)) = true
  · skip
    have hf := (if_pos c_1).symm.trans hf
    have of_2 := (xq_f hI c_1).1
    refine cq_V (v := (some (.ref (g 3 p1.toNatClampNeg)))) (As := [.int p1]) (rest := []) hK hZ hA hAA hS hR ⟨hI, hh, c_1⟩ (xt_findAt l E C A s.heap.size g h S p1) (fun _ h => hA _ (Nat.le_trans hS.1 h)) ⟨hx, hb, hml, hown, hts⟩ (cwV 1 hts (lw_V q586 q588 qs4 q33 q589) rfl rfl rfl (by decide +kernel) ⟨Nat.le_of_ble_eq_true rfl, Nat.le_of_ble_eq_true rfl⟩) (kw_recv (t := 0) (i := 0) hK.1 hR rfl rfl rfl) rfl hl.1 rfl (Nat.le_of_ble_eq_true rfl) dX1_release_2 ⟨Nat.le_of_ble_eq_true rfl, Nat.le_of_ble_eq_true rfl⟩ (fun H locs hB hz hk hS => ?_)
    have hR := hR.kept (fun a _ h => hk a h (Nat.not_le.mpr h))
    refine W.eq (g2 := F0 m 5 ls [.ref (g 3 p1.toNatClampNeg)]) rfl ?_
    refine lv_astore_n (lv' := [(3, .ref (g 3 p1.toNatClampNeg)), (0, .ref (g 0 0)), (1, .int p1), (2, .int p2)]) hx hb dX1_release_5 rfl hl (by decide) rfl (fun ls hl => ?_)
    refine lv_aload_n hx hb dX1_release_6 rfl (lv_at hl 1 rfl) ?_
    refine lv_iload_n hx hb dX1_release_7 rfl (lv_at hl 3 rfl) ?_
    by_cases c_2 : (xf_isIn p2 0 ((S 21 2) - 1)) = true
    · skip
      have hf := (if_pos c_2).symm.trans hf
      have oc_8 := (xq_c hI c_2).1
      refine cq_V (v := (some (.ref (g 4 p2.toNatClampNeg)))) (As := [.int p2]) (rest := []) hK hZ hA hAA hS hR ⟨hI, hh, c_2⟩ (xt_claimAt l E C A H.size g h S p2) (fun _ h => hA _ (Nat.le_trans hS.1 h)) ⟨hx, hb, hml, hown, hts⟩ (cwV 1 hts (lw_V q759 q761 qs6 q33 q762) rfl rfl rfl (by decide +kernel) ⟨Nat.le_of_ble_eq_true rfl, Nat.le_of_ble_eq_true rfl⟩) (kw_recv (t := 0) (i := 0) hK.1 hR rfl rfl rfl) rfl hl.1 rfl (Nat.le_of_ble_eq_true rfl) dX1_release_8 ⟨Nat.le_of_ble_eq_true rfl, Nat.le_of_ble_eq_true rfl⟩ (fun H locs hB hz hk hS => ?_)
      have hR := hR.kept (fun a _ h => hk a h (Nat.not_le.mpr h))
      refine W.eq (g2 := F0 m 11 ls [.ref (g 4 p2.toNatClampNeg)]) rfl ?_
      refine lv_astore (lv' := [(4, .ref (g 4 p2.toNatClampNeg)), (3, .ref (g 3 p1.toNatClampNeg)), (0, .ref (g 0 0)), (1, .int p1), (2, .int p2)]) hx hb dX1_release_11 hl (by decide) rfl (fun ls hl => ?_)
      refine lv_aload_n hx hb dX1_release_13 rfl (lv_at hl 1 rfl) ?_
      refine kw_getN (C := RX3) (T := TX3) (N := 15) (v := .int (S 36 p1.toNatClampNeg)) hx hb hts in_X3 hown hK.1 hR 3 p1.toNatClampNeg of_2 rfl rfl 6 (by decide) (va_Nw.use rfl (hK.2.1 _ q536 rfl)) (fun _ h9 => h9) rfl dX1_release_14 ?_
      have hJ_61 : ∀ (H : Heap) (locs : List Loc) (ls : Array Slot) (v_61 : Int32), v_61 = (if ((S 36 p1.toNatClampNeg) = 0) ∧ (((S 38 p1.toNatClampNeg) = 0) ∧ (((xf_isCandidate S p1.toNatClampNeg p2.toNatClampNeg) = true) ∧ (((xf_proves S p2.toNatClampNeg p1.toNatClampNeg) = true) ∧ (¬ ((xf_isBeaten S p1.toNatClampNeg p2.toNatClampNeg) = true))))) then 1 else 0) → (xw E C g h S A) H → va_S A s.heap H locs → lv_has ls 6 [(0, .ref (g 0 0)), (1, .int p1), (3, .ref (g 3 p1.toNatClampNeg)), (4, .ref (g 4 p2.toNatClampNeg))] → cx_G p l e { frames := 9, cells := 2, slots := 10, locals := 206 } s m [.ref (g 0 0), .int p1, .int p2] below meth c A (xq_Q (fun z => z) E C (g 0 0) A (xp_release S p1 p2)) (xq_X E C g h S A (xp_release S p1 p2)) 2 10 H locs 1 4 (F0 m 61 ls [.int v_61]) := by
        intro H locs ls v_61 e_v_61 hR hS hl
        subst e_v_61
        by_cases c_3 : ((S 36 p1.toNatClampNeg) = 0) ∧ (((S 38 p1.toNatClampNeg) = 0) ∧ (((xf_isCandidate S p1.toNatClampNeg p2.toNatClampNeg) = true) ∧ (((xf_proves S p2.toNatClampNeg p1.toNatClampNeg) = true) ∧ (¬ ((xf_isBeaten S p1.toNatClampNeg p2.toNatClampNeg) = true)))))
        · skip
          have hf := (if_pos c_3).symm.trans hf
          have c_4 := c_3.1
          have c_5 := c_3.2
          have c_6 := c_5.1
          have c_7 := c_5.2
          have c_8 := c_7.1
          have c_9 := c_7.2
          have c_10 := c_9.1
          have c_11 := c_9.2
          refine ps_callv (As := [.int (if ((S 36 p1.toNatClampNeg) = 0) ∧ (((S 38 p1.toNatClampNeg) = 0) ∧ (((xf_isCandidate S p1.toNatClampNeg p2.toNatClampNeg) = true) ∧ (((xf_proves S p2.toNatClampNeg p1.toNatClampNeg) = true) ∧ (¬ ((xf_isBeaten S p1.toNatClampNeg p2.toNatClampNeg) = true))))) then 1 else 0)]) (rest := []) ⟨hx, hb, hml, hown, hts⟩ (xo_requireState l _) (va_cwS 1 hts (lw_S q457 q458 q33 q459) rfl rfl rfl (by decide +kernel) ⟨Nat.le_of_ble_eq_true rfl, Nat.le_of_ble_eq_true rfl⟩) (if_pos c_3) hS rfl hl.1 rfl (Nat.le_of_ble_eq_true rfl) dX1_release_61 ⟨Nat.le_of_ble_eq_true rfl, Nat.le_of_ble_eq_true rfl⟩ (fun H locs hz hk hS => ?_)
          have hR := hR.kept (fun a _ h => hk a h)
          refine lv_aload_n hx hb dX1_release_64 rfl (lv_at hl 2 rfl) ?_
          refine kw_getN (C := RX3) (T := TX3) (N := 15) (v := .int (S 35 p1.toNatClampNeg)) hx hb hts in_X3 hown hK.1 hR 3 p1.toNatClampNeg of_2 rfl rfl 5 (by decide) (va_Nw.use rfl (hK.2.1 _ q534 rfl)) (fun _ h9 => h9) rfl dX1_release_65 ?_
          refine lv_aload_n hx hb dX1_release_68 rfl (lv_at hl 0 rfl) ?_
          refine kw_get (C := RX1) (T := TX1) (N := 12) (v := .ref (g 6 4)) hx hb hts in_X1 hown hK.1 hR 0 0 rfl rfl rfl 4 (by decide) (hts _ q173) (fun _ h9 => h9) rfl dX1_release_69 ?_
          refine lv_aload_n hx hb dX1_release_72 rfl (lv_at hl 2 rfl) ?_
          refine kw_getN (C := RX3) (T := TX3) (N := 15) (v := .int (S 30 p1.toNatClampNeg)) hx hb hts in_X3 hown hK.1 hR 3 p1.toNatClampNeg of_2 rfl rfl 0 (by decide) (va_Nw.use rfl (hK.2.1 _ q523 rfl)) (fun _ h9 => h9) rfl dX1_release_73 ?_
          refine kw_iald (n := 8) (v := (S 4 ((S 30 p1.toNatClampNeg).toNatClampNeg))) hx hb hK.1 hR 6 4 ⟨by decide, by decide⟩ rfl ((hI.2.2.2.2.2.1 _ of_2).1) rfl dX1_release_76 ?_
          refine lv_imul hx hb dX1_release_77 ?_
          refine lv_bipush (v := 100) hx hb dX1_release_78 (by decide) ?_
          refine lv_idiv hx hb dX1_release_80 (by decide) ?_
          refine lv_istore (lv' := [(5, .int (((S 35 p1.toNatClampNeg) * (S 4 ((S 30 p1.toNatClampNeg).toNatClampNeg))) / 100)), (0, .ref (g 0 0)), (1, .int p1), (3, .ref (g 3 p1.toNatClampNeg)), (4, .ref (g 4 p2.toNatClampNeg))]) hx hb dX1_release_81 hl (by decide) rfl (fun ls hl => ?_)
          refine lv_aload_n hx hb dX1_release_83 rfl (lv_at hl 3 rfl) ?_
          refine lv_iconst (v := 3) hx hb dX1_release_84 (by decide) ?_
          refine kw_putN (C := RX3) (T := TX3) (N := 15) hx hb hts in_X3 tyX3 tyX3_ok nmX3 hown hK.1 hR hS 3 p1.toNatClampNeg of_2 rfl rfl 6 (by decide) (va_Nw.use rfl (hK.2.1 _ q536 rfl)) (fun _ h9 => h9) rfl rfl rfl rfl (Nat.le_of_ble_eq_true rfl) dX1_release_85 (xen E C g h (gs_up S 36 p1.toNatClampNeg 3)) (xe_f (k := 6) rfl) (xn_f (k := 6) rfl) (fun H locs hR hS => ?_)
          have hR := xw_up rfl hR
          have hh := xh_up (k := 36) (i := p1.toNatClampNeg) (v := 3) rfl hh
          refine lv_aload hx hb dX1_release_88 (lv_at hl 4 rfl) ?_
          refine lv_iload_n hx hb dX1_release_90 rfl (lv_at hl 2 rfl) ?_
          refine kw_putN (C := RX5) (T := TX5) (N := 10) hx hb hts in_X5 tyX5 tyX5_ok nmX5 hown hK.1 hR hS 4 p2.toNatClampNeg oc_8 rfl rfl 8 (by decide) (va_Nw.use rfl (hK.2.1 _ q729 rfl)) (fun _ h9 => h9) rfl rfl rfl rfl (Nat.le_of_ble_eq_true rfl) dX1_release_91 (xen E C g h (gs_up (gs_up S 36 p1.toNatClampNeg 3) 58 p2.toNatClampNeg p1)) (xe_c (k := 8) rfl) (xn_c (k := 8) rfl) (fun H locs hR hS => ?_)
          have hR := xw_up rfl hR
          have hh := xh_up (k := 58) (i := p2.toNatClampNeg) (v := p1) rfl hh
          refine lv_aload hx hb dX1_release_94 (lv_at hl 4 rfl) ?_
          refine lv_iconst (v := 1) hx hb dX1_release_96 (by decide) ?_
          refine cq_V (v := none) (As := [.int 1]) (rest := []) hK hZ hA hAA hS hR (by rw [nz_up rfl, nz_up rfl]; exact oc_8) (xt_end l E C A H.size g h (gs_up (gs_up S 36 p1.toNatClampNeg 3) 58 p2.toNatClampNeg p1) p2.toNatClampNeg 1) (fun _ h => h) ⟨hx, hb, hml, hown, hts⟩ (cwV 1 hts (lw_V q777 q778 q779 q59 q780) rfl rfl rfl (by decide +kernel) ⟨Nat.le_of_ble_eq_true rfl, Nat.le_of_ble_eq_true rfl⟩) (kw_recv (t := 4) (i := p2.toNatClampNeg) hK.1 hR oc_8 rfl rfl) rfl hl.1 rfl (Nat.le_of_ble_eq_true rfl) dX1_release_97 ⟨Nat.le_of_ble_eq_true rfl, Nat.le_of_ble_eq_true rfl⟩ (fun H locs hB hz hk hS => ?_)
          have hR : xw E C g h (gs_up (gs_up (gs_up (gs_up S 36 p1.toNatClampNeg 3) 58 p2.toNatClampNeg p1) 56 p2.toNatClampNeg 1) 57 p2.toNatClampNeg (S 0 0)) A H := hB
          have hh := xh_up (k := 56) (i := p2.toNatClampNeg) (v := 1) rfl hh
          have hh := xh_up (k := 57) (i := p2.toNatClampNeg) (v := (S 0 0)) rfl hh
          refine W.eq (g2 := F0 m 100 ls []) rfl ?_
          refine lv_aload_n hx hb dX1_release_100 rfl (lv_at hl 1 rfl) ?_
          refine lv_dup hx hb dX1_release_101 rfl ?_
          refine kw_get (C := RX1) (T := TX1) (N := 12) (v := .int (S 9 0)) hx hb hts in_X1 hown hK.1 hR 0 0 rfl rfl rfl 9 (by decide) (hts _ q178) (fun _ h9 => h9) (congrArg (fun z => some (Value.int z)) (congrFun ((gs_sk rfl).trans ((gs_sk rfl).trans ((gs_sk rfl).trans (gs_sk rfl)))) 0)) dX1_release_102 ?_
          refine lv_iconst (v := 5) hx hb dX1_release_105 (by decide) ?_
          refine lv_iadd hx hb dX1_release_106 ?_
          refine kw_put (C := RX1) (T := TX1) (N := 12) hx hb hts in_X1 tyX1 tyX1_ok nmX1 hown hK.1 hR hS 0 0 rfl rfl rfl 9 (by decide) (hts _ q178) (fun _ h9 => h9) (Or.inl rfl) rfl rfl rfl (Nat.le_of_ble_eq_true rfl) dX1_release_107 (xen E C g h (gs_up (gs_up (gs_up (gs_up (gs_up S 36 p1.toNatClampNeg 3) 58 p2.toNatClampNeg p1) 56 p2.toNatClampNeg 1) 57 p2.toNatClampNeg (S 0 0)) 9 0 ((S 9 0) + 5))) (xe_x (k := 9) rfl) (xn_x (k := 9) rfl) (fun H locs hR hS => ?_)
          have hR := xw_up rfl hR
          have hh := xh_up (k := 9) (i := 0) (v := ((S 9 0) + 5)) rfl hh
          refine lv_aload_n hx hb dX1_release_110 rfl (lv_at hl 1 rfl) ?_
          refine lv_dup hx hb dX1_release_111 rfl ?_
          refine kw_get (C := RX1) (T := TX1) (N := 12) (v := .int (S 10 0)) hx hb hts in_X1 hown hK.1 hR 0 0 rfl rfl rfl 10 (by decide) (hts _ q179) (fun _ h9 => h9) (congrArg (fun z => some (Value.int z)) (congrFun ((gs_sk rfl).trans ((gs_sk rfl).trans ((gs_sk rfl).trans ((gs_sk rfl).trans (gs_sk rfl))))) 0)) dX1_release_112 ?_
          refine lv_iload hx hb dX1_release_115 (lv_at hl 0 rfl) ?_
          refine lv_iadd hx hb dX1_release_117 ?_
          refine kw_put (C := RX1) (T := TX1) (N := 12) hx hb hts in_X1 tyX1 tyX1_ok nmX1 hown hK.1 hR hS 0 0 rfl rfl rfl 10 (by decide) (hts _ q179) (fun _ h9 => h9) (Or.inl rfl) rfl rfl rfl (Nat.le_of_ble_eq_true rfl) dX1_release_118 (xen E C g h (gs_up (gs_up (gs_up (gs_up (gs_up (gs_up S 36 p1.toNatClampNeg 3) 58 p2.toNatClampNeg p1) 56 p2.toNatClampNeg 1) 57 p2.toNatClampNeg (S 0 0)) 9 0 ((S 9 0) + 5)) 10 0 ((S 10 0) + (((S 35 p1.toNatClampNeg) * (S 4 ((S 30 p1.toNatClampNeg).toNatClampNeg))) / 100)))) (xe_x (k := 10) rfl) (xn_x (k := 10) rfl) (fun H locs hR hS => ?_)
          have hR := xw_up rfl hR
          have hh := xh_up (k := 10) (i := 0) (v := ((S 10 0) + (((S 35 p1.toNatClampNeg) * (S 4 ((S 30 p1.toNatClampNeg).toNatClampNeg))) / 100))) rfl hh
          refine lv_iconst (v := 5) hx hb dX1_release_121 (by decide) ?_
          refine lv_iload hx hb dX1_release_122 (lv_at hl 0 rfl) ?_
          refine lv_iadd hx hb dX1_release_124 ?_
          refine W.widen (k := 2) (n := 10) (Nat.le_of_ble_eq_true rfl) (Nat.le_of_ble_eq_true rfl) ?_
          exact vx_ret (W.iret (v := (5 + (((S 35 p1.toNatClampNeg) * (S 4 ((S 30 p1.toNatClampNeg).toNatClampNeg))) / 100))) hx hb hr (fun t ht hW => ⟨⟨_, _, hf.symm, rfl, g, h, rfl, hh, by rw [ht]; exact hR⟩, hS.F ht⟩) hS.2.2 dX1_release_125)
        · skip
          have hf := (if_neg c_3).symm.trans hf
          refine W.eq (g2 := F0 m 61 ls [.int 0]) (congrArg (fun z => F0 m 61 ls (.int z :: [])) (if_neg c_3)) ?_
          refine cx_S (X := fun _ => True) (P := True) (As := [.int 0]) (rest := []) hK hZ hA hAA hS trivial trivial (xt_requireState l hfl E C A H.size) (fun _ h => hA _ (Nat.le_trans hS.1 h)) ⟨hx, hb, hml, hown, hts⟩ (va_cwS 1 hts (lw_S q457 q458 q33 q459) rfl rfl rfl (by decide +kernel) ⟨Nat.le_of_ble_eq_true rfl, Nat.le_of_ble_eq_true rfl⟩) rfl hl.1 rfl (Nat.le_of_ble_eq_true rfl) dX1_release_61 ⟨Nat.le_of_ble_eq_true rfl, Nat.le_of_ble_eq_true rfl⟩ (fun ce q9 H locs hB hz hk hS hc9 hv9 hcl => ?_)
          have hR := hR.kept (fun a _ h => hk a h (Nat.not_le.mpr h))
          exact vx_out (fun x h => (hnt x h).elim) hlocks hc9 hv9 hcl (fun t ht _ => ⟨⟨hf.symm, by rw [ht]; exact hR⟩, hS.F ht⟩) hS.2.2 (Nat.le_of_ble_eq_true rfl) (Nat.le_of_ble_eq_true rfl)
      refine lv_if_ne (tgt := 60) hx hb dX1_release_17 (by decide) (fun c_12 => ?_) (fun c_12 => ?_)
      · skip
        refine lv_iconst (v := 0) hx hb dX1_release_60 (by decide) ?_
        refine W.widen (k := 1) (n := 4) (Nat.le_of_ble_eq_true rfl) (Nat.le_of_ble_eq_true rfl) ?_
        exact hJ_61 _ _ _ 0 (gi_0 (gi_ca_f c_12)) hR hS (lv_sub hl [2, 3, 1, 0] rfl)
      · skip
        refine lv_aload_n hx hb dX1_release_20 rfl (lv_at hl 1 rfl) ?_
        refine kw_getN (C := RX3) (T := TX3) (N := 15) (v := .int (S 38 p1.toNatClampNeg)) hx hb hts in_X3 hown hK.1 hR 3 p1.toNatClampNeg of_2 rfl rfl 8 (by decide) (va_Nw.use rfl (hK.2.1 _ q539 rfl)) (fun _ h9 => h9) rfl dX1_release_21 ?_
        refine lv_if_ne (tgt := 60) hx hb dX1_release_24 (by decide) (fun c_13 => ?_) (fun c_13 => ?_)
        · skip
          refine lv_iconst (v := 0) hx hb dX1_release_60 (by decide) ?_
          refine W.widen (k := 1) (n := 4) (Nat.le_of_ble_eq_true rfl) (Nat.le_of_ble_eq_true rfl) ?_
          exact hJ_61 _ _ _ 0 (gi_0 ((gi_ca_f c_13).trans (gi_ca_t c_12))) hR hS (lv_sub hl [2, 3, 1, 0] rfl)
        · skip
          refine lv_aload_n hx hb dX1_release_27 rfl (lv_at hl 2 rfl) ?_
          refine lv_aload_n hx hb dX1_release_28 rfl (lv_at hl 1 rfl) ?_
          refine lv_aload hx hb dX1_release_29 (lv_at hl 0 rfl) ?_
          refine cq_V (v := (some (.int (gs_bz (xf_isCandidate S p1.toNatClampNeg p2.toNatClampNeg))))) (As := [.ref (g 3 p1.toNatClampNeg), .ref (g 4 p2.toNatClampNeg)]) (rest := []) hK hZ hA hAA hS hR ⟨hI, hh, (by first | assumption | omega), (by first | assumption | omega)⟩ (xt_isCandidate l E C A H.size g h S p1.toNatClampNeg p2.toNatClampNeg) (fun _ h => hA _ (Nat.le_trans hS.1 h)) ⟨hx, hb, hml, hown, hts⟩ (cwV 2 hts (lw_V q788 q790 qs7 q33 q791) rfl rfl rfl (by decide +kernel) ⟨Nat.le_of_ble_eq_true rfl, Nat.le_of_ble_eq_true rfl⟩) (kw_recv (t := 0) (i := 0) hK.1 hR rfl rfl rfl) rfl hl.1 rfl (Nat.le_of_ble_eq_true rfl) dX1_release_31 ⟨Nat.le_of_ble_eq_true rfl, Nat.le_of_ble_eq_true rfl⟩ (fun H locs hB hz hk hS => ?_)
          have hR := hR.kept (fun a _ h => hk a h (Nat.not_le.mpr h))
          refine W.eq (g2 := F0 m 34 ls [.int (if (xf_isCandidate S p1.toNatClampNeg p2.toNatClampNeg) = true then 1 else 0)]) rfl ?_
          refine lv_if_eq (tgt := 60) hx hb dX1_release_34 (by decide) (fun c_14 => ?_) (fun c_14 => ?_)
          · skip
            have c_14 : ¬ ((xf_isCandidate S p1.toNatClampNeg p2.toNatClampNeg) = true) := gs_zf (φ := (xf_isCandidate S p1.toNatClampNeg p2.toNatClampNeg) = true) c_14
            refine lv_iconst (v := 0) hx hb dX1_release_60 (by decide) ?_
            refine W.widen (k := 1) (n := 4) (Nat.le_of_ble_eq_true rfl) (Nat.le_of_ble_eq_true rfl) ?_
            exact hJ_61 _ _ _ 0 (gi_0 (((gi_ca_f c_14).trans (gi_ca_t c_13)).trans (gi_ca_t c_12))) hR hS (lv_sub hl [2, 3, 1, 0] rfl)
          · skip
            have c_14 : (xf_isCandidate S p1.toNatClampNeg p2.toNatClampNeg) = true := gs_zt (φ := (xf_isCandidate S p1.toNatClampNeg p2.toNatClampNeg) = true) c_14
            refine lv_aload hx hb dX1_release_37 (lv_at hl 0 rfl) ?_
            refine lv_aload_n hx hb dX1_release_39 rfl (lv_at hl 1 rfl) ?_
            refine cq_V (v := (some (.int (gs_bz (xf_proves S p2.toNatClampNeg p1.toNatClampNeg))))) (As := [.ref (g 3 p1.toNatClampNeg)]) (rest := []) hK hZ hA hAA hS hR ⟨hI, hh, (by first | assumption | omega), (by first | assumption | omega)⟩ (xt_proves l E C A H.size g h S p2.toNatClampNeg p1.toNatClampNeg) (fun _ h => hA _ (Nat.le_trans hS.1 h)) ⟨hx, hb, hml, hown, hts⟩ (cwV 1 hts (lw_V q809 q810 q811 q59 q812) rfl rfl rfl (by decide +kernel) ⟨Nat.le_of_ble_eq_true rfl, Nat.le_of_ble_eq_true rfl⟩) (kw_recv (t := 4) (i := p2.toNatClampNeg) hK.1 hR oc_8 rfl rfl) rfl hl.1 rfl (Nat.le_of_ble_eq_true rfl) dX1_release_40 ⟨Nat.le_of_ble_eq_true rfl, Nat.le_of_ble_eq_true rfl⟩ (fun H locs hB hz hk hS => ?_)
            have hR := hR.kept (fun a _ h => hk a h (Nat.not_le.mpr h))
            refine W.eq (g2 := F0 m 43 ls [.int (if (xf_proves S p2.toNatClampNeg p1.toNatClampNeg) = true then 1 else 0)]) rfl ?_
            refine lv_if_eq (tgt := 60) hx hb dX1_release_43 (by decide) (fun c_15 => ?_) (fun c_15 => ?_)
            · skip
              have c_15 : ¬ ((xf_proves S p2.toNatClampNeg p1.toNatClampNeg) = true) := gs_zf (φ := (xf_proves S p2.toNatClampNeg p1.toNatClampNeg) = true) c_15
              refine lv_iconst (v := 0) hx hb dX1_release_60 (by decide) ?_
              refine W.widen (k := 1) (n := 4) (Nat.le_of_ble_eq_true rfl) (Nat.le_of_ble_eq_true rfl) ?_
              exact hJ_61 _ _ _ 0 (gi_0 ((((gi_ca_f c_15).trans (gi_ca_t c_14)).trans (gi_ca_t c_13)).trans (gi_ca_t c_12))) hR hS (lv_sub hl [2, 3, 1, 0] rfl)
            · skip
              have c_15 : (xf_proves S p2.toNatClampNeg p1.toNatClampNeg) = true := gs_zt (φ := (xf_proves S p2.toNatClampNeg p1.toNatClampNeg) = true) c_15
              refine lv_aload_n hx hb dX1_release_46 rfl (lv_at hl 2 rfl) ?_
              refine lv_aload_n hx hb dX1_release_47 rfl (lv_at hl 1 rfl) ?_
              refine lv_aload hx hb dX1_release_48 (lv_at hl 0 rfl) ?_
              refine cq_V (v := (some (.int (gs_bz (xf_isBeaten S p1.toNatClampNeg p2.toNatClampNeg))))) (As := [.ref (g 3 p1.toNatClampNeg), .ref (g 4 p2.toNatClampNeg)]) (rest := []) hK hZ hA hAA hS hR ⟨hI, hh, (by first | assumption | omega), (by first | assumption | omega)⟩ (xt_isBeaten l E C A H.size g h S p1.toNatClampNeg p2.toNatClampNeg) (fun _ h => h) ⟨hx, hb, hml, hown, hts⟩ (cwV 2 hts (lw_V q815 q817 qs12 q33 q818) rfl rfl rfl (by decide +kernel) ⟨Nat.le_of_ble_eq_true rfl, Nat.le_of_ble_eq_true rfl⟩) (kw_recv (t := 0) (i := 0) hK.1 hR rfl rfl rfl) rfl hl.1 rfl (Nat.le_of_ble_eq_true rfl) dX1_release_50 ⟨Nat.le_of_ble_eq_true rfl, Nat.le_of_ble_eq_true rfl⟩ (fun H locs hB hz hk hS => ?_)
              have hR : (xw E C g h S A) H := hB
              refine W.eq (g2 := F0 m 53 ls [.int (if (xf_isBeaten S p1.toNatClampNeg p2.toNatClampNeg) = true then 1 else 0)]) rfl ?_
              refine lv_if_ne (tgt := 60) hx hb dX1_release_53 (by decide) (fun c_16 => ?_) (fun c_16 => ?_)
              · skip
                have c_16 : (xf_isBeaten S p1.toNatClampNeg p2.toNatClampNeg) = true := gs_zt (φ := (xf_isBeaten S p1.toNatClampNeg p2.toNatClampNeg) = true) c_16
                refine lv_iconst (v := 0) hx hb dX1_release_60 (by decide) ?_
                exact hJ_61 _ _ _ 0 (gi_0 (((((gi_nb_t c_16).trans (gi_ca_t c_15)).trans (gi_ca_t c_14)).trans (gi_ca_t c_13)).trans (gi_ca_t c_12))) hR hS (lv_sub hl [2, 3, 1, 0] rfl)
              · skip
                have c_16 : ¬ ((xf_isBeaten S p1.toNatClampNeg p2.toNatClampNeg) = true) := gs_zf (φ := (xf_isBeaten S p1.toNatClampNeg p2.toNatClampNeg) = true) c_16
                refine lv_iconst (v := 1) hx hb dX1_release_56 (by decide) ?_
                refine lv_goto (tgt := 61) hx hb dX1_release_57 (by decide) ?_
                exact hJ_61 _ _ _ 1 (gi_1 (((((gi_nb_f c_16).trans (gi_ca_t c_15)).trans (gi_ca_t c_14)).trans (gi_ca_t c_13)).trans (gi_ca_t c_12))) hR hS (lv_sub hl [2, 3, 1, 0] rfl)
    · skip
      have hf := (if_neg c_2).symm.trans hf
      refine cx_V (As := [.int p2]) (rest := []) hK hZ hA hAA hS hR ⟨hI, hh, c_2⟩ (xx_claimAt l hfl E C A H.size g h S p2) (fun _ h => hA _ (Nat.le_trans hS.1 h)) ⟨hx, hb, hml, hown, hts⟩ (cwV 1 hts (lw_V q759 q761 qs6 q33 q762) rfl rfl rfl (by decide +kernel) ⟨Nat.le_of_ble_eq_true rfl, Nat.le_of_ble_eq_true rfl⟩) (kw_recv (t := 0) (i := 0) hK.1 hR rfl rfl rfl) rfl hl.1 rfl (Nat.le_of_ble_eq_true rfl) dX1_release_8 ⟨Nat.le_of_ble_eq_true rfl, Nat.le_of_ble_eq_true rfl⟩ (fun ce q9 H locs hB hz hk hS hc9 hv9 hcl => ?_)
      have hR := hR.kept (fun a _ h => hk a h (Nat.not_le.mpr h))
      exact vx_out (fun x h => (hnt x h).elim) hlocks hc9 hv9 hcl (fun t ht _ => ⟨⟨hf.symm, by rw [ht]; exact hR⟩, hS.F ht⟩) hS.2.2 (Nat.le_of_ble_eq_true rfl) (Nat.le_of_ble_eq_true rfl)
  · skip
    have hf := (if_neg c_1).symm.trans hf
    refine cx_V (As := [.int p1]) (rest := []) hK hZ hA hAA hS hR ⟨hI, hh, c_1⟩ (xx_findAt l hfl E C A s.heap.size g h S p1) (fun _ h => hA _ (Nat.le_trans hS.1 h)) ⟨hx, hb, hml, hown, hts⟩ (cwV 1 hts (lw_V q586 q588 qs4 q33 q589) rfl rfl rfl (by decide +kernel) ⟨Nat.le_of_ble_eq_true rfl, Nat.le_of_ble_eq_true rfl⟩) (kw_recv (t := 0) (i := 0) hK.1 hR rfl rfl rfl) rfl hl.1 rfl (Nat.le_of_ble_eq_true rfl) dX1_release_2 ⟨Nat.le_of_ble_eq_true rfl, Nat.le_of_ble_eq_true rfl⟩ (fun ce q9 H locs hB hz hk hS hc9 hv9 hcl => ?_)
    have hR := hR.kept (fun a _ h => hk a h (Nat.not_le.mpr h))
    exact vx_out (fun x h => (hnt x h).elim) hlocks hc9 hv9 hcl (fun t ht _ => ⟨⟨hf.symm, by rw [ht]; exact hR⟩, hS.F ht⟩) hS.2.2 (Nat.le_of_ble_eq_true rfl) (Nat.le_of_ble_eq_true rfl)
set_option maxHeartbeats 2000000 in
set_option maxRecDepth 100000 in
theorem xs_sell (l : Launch) (hfl : l.stackTraces = false) (E : en_T) (C : ex_C) (A : Nat → Prop) (sz : Nat) (g : kw_A) (h : xh_T) (S : gs_T) (p1 : Int32) (p2 : Int32) : vx_Met l yX1_sell (ws_ yX1_sell cX1_sell 4 (some .int)) { frames := 10, cells := 2, slots := 10, locals := 224 } (cpc E C A sz [.ref (g 0 0), .int p1, .int p2] (xw E C g h S A) (xi_ok S ∧ xh C g h S)) (xq_Q (fun z => z) E C (g 0 0) A (xp_sell S p1 p2)) (xq_X E C g h S A (xp_sell S p1 p2)) 2 10 A := by
  refine cx_start (by decide) (Nat.le_of_ble_eq_true rfl) ?_
  intro p e s m below meth c ls hx hb hr hlocks hml hown hnm hnt hts hsz hK hZ hA hR hP hl
  subst hsz
  have hAA : ∀ a, A a → A a := fun _ h => h
  have hl : lv_has ls 4 [(0, .ref (g 0 0)), (1, .int p1), (2, .int p2)] := hl
  have hS : va_S A s.heap s.heap [] := va_S.rf
  have hZr := hZ
  obtain ⟨hI, hh⟩ := hP
  have hf : (xp_sell S p1 p2) = (xp_sell S p1 p2) := rfl
  refine lv_aload_n hx hb dX1_sell_0 rfl (lv_at hl 0 rfl) ?_
  refine lv_iload_n hx hb dX1_sell_1 rfl (lv_at hl 1 rfl) ?_
  by_cases c_1 : (xf_isIn p1 0 ((S 21 1) - 1)) = true
  · skip
    have hf := (if_pos c_1).symm.trans hf
    have of_2 := (xq_f hI c_1).1
    refine cq_V (v := (some (.ref (g 3 p1.toNatClampNeg)))) (As := [.int p1]) (rest := []) hK hZ hA hAA hS hR ⟨hI, hh, c_1⟩ (xt_findAt l E C A s.heap.size g h S p1) (fun _ h => hA _ (Nat.le_trans hS.1 h)) ⟨hx, hb, hml, hown, hts⟩ (cwV 1 hts (lw_V q586 q588 qs4 q33 q589) rfl rfl rfl (by decide +kernel) ⟨Nat.le_of_ble_eq_true rfl, Nat.le_of_ble_eq_true rfl⟩) (kw_recv (t := 0) (i := 0) hK.1 hR rfl rfl rfl) rfl hl.1 rfl (Nat.le_of_ble_eq_true rfl) dX1_sell_2 ⟨Nat.le_of_ble_eq_true rfl, Nat.le_of_ble_eq_true rfl⟩ (fun H locs hB hz hk hS => ?_)
    have hR := hR.kept (fun a _ h => hk a h (Nat.not_le.mpr h))
    refine W.eq (g2 := F0 m 5 ls [.ref (g 3 p1.toNatClampNeg)]) rfl ?_
    refine lv_astore_n (lv' := [(3, .ref (g 3 p1.toNatClampNeg)), (0, .ref (g 0 0)), (1, .int p1), (2, .int p2)]) hx hb dX1_sell_5 rfl hl (by decide) rfl (fun ls hl => ?_)
    refine lv_iload_n hx hb dX1_sell_6 rfl (lv_at hl 3 rfl) ?_
    refine lv_iconst (v := 1) hx hb dX1_sell_7 (by decide) ?_
    refine lv_sipush (v := 9999) hx hb dX1_sell_8 (by decide) ?_
    refine ps_calli (As := [.int p2, .int 1, .int 9999]) (rest := []) ⟨hx, hb, hml, hown, hts⟩ (xt_isIn l p2 1 9999) (va_cwS 3 hts (lw_S q295 q296 q33 q297) rfl rfl rfl (by decide +kernel) ⟨Nat.le_of_ble_eq_true rfl, Nat.le_of_ble_eq_true rfl⟩) trivial hS rfl hl.1 rfl (Nat.le_of_ble_eq_true rfl) dX1_sell_11 ⟨Nat.zero_le _, Nat.zero_le _⟩ (fun H locs hz hk hS => ?_)
    have hR := hR.kept (fun a _ h => hk a h)
    by_cases c_2 : (xf_isIn p2 1 9999) = true
    · skip
      have hf := (if_pos c_2).symm.trans hf
      refine ps_callv (As := [.int (if (xf_isIn p2 1 9999) = true then 1 else 0)]) (rest := []) ⟨hx, hb, hml, hown, hts⟩ (xo_requireArgument l _) (va_cwS 1 hts (lw_S q322 q323 q33 q324) rfl rfl rfl (by decide +kernel) ⟨Nat.le_of_ble_eq_true rfl, Nat.le_of_ble_eq_true rfl⟩) (if_pos c_2) hS rfl hl.1 rfl (Nat.le_of_ble_eq_true rfl) dX1_sell_14 ⟨Nat.le_of_ble_eq_true rfl, Nat.le_of_ble_eq_true rfl⟩ (fun H locs hz hk hS => ?_)
      have hR := hR.kept (fun a _ h => hk a h)
      refine lv_aload_n hx hb dX1_sell_17 rfl (lv_at hl 1 rfl) ?_
      refine lv_aload_n hx hb dX1_sell_18 rfl (lv_at hl 0 rfl) ?_
      refine cq_V (v := (some (.int (gs_bz (xf_isOver S p1.toNatClampNeg))))) (As := [.ref (g 3 p1.toNatClampNeg)]) (rest := []) hK hZ hA hAA hS hR ⟨hI, hh, (by first | assumption | omega)⟩ (xt_isOver l E C A H.size g h S p1.toNatClampNeg) (fun _ h => h) ⟨hx, hb, hml, hown, hts⟩ (cwV 1 hts (lw_V q833 q835 qs13 q33 q836) rfl rfl rfl (by decide +kernel) ⟨Nat.le_of_ble_eq_true rfl, Nat.le_of_ble_eq_true rfl⟩) (kw_recv (t := 0) (i := 0) hK.1 hR rfl rfl rfl) rfl hl.1 rfl (Nat.le_of_ble_eq_true rfl) dX1_sell_19 ⟨Nat.le_of_ble_eq_true rfl, Nat.le_of_ble_eq_true rfl⟩ (fun H locs hB hz hk hS => ?_)
      have hR : (xw E C g h S A) H := hB
      refine W.eq (g2 := F0 m 22 ls [.int (if (xf_isOver S p1.toNatClampNeg) = true then 1 else 0)]) rfl ?_
      have hJ_39 : ∀ (H : Heap) (locs : List Loc) (ls : Array Slot) (v_39 : Int32), v_39 = (if ((xf_isOver S p1.toNatClampNeg) = true) ∧ (¬ ((S 30 p1.toNatClampNeg) = 7)) then 1 else 0) → (xw E C g h S A) H → va_S A s.heap H locs → lv_has ls 4 [(0, .ref (g 0 0)), (2, .int p2), (3, .ref (g 3 p1.toNatClampNeg))] → cx_G p l e { frames := 10, cells := 2, slots := 10, locals := 224 } s m [.ref (g 0 0), .int p1, .int p2] below meth c A (xq_Q (fun z => z) E C (g 0 0) A (xp_sell S p1 p2)) (xq_X E C g h S A (xp_sell S p1 p2)) 2 10 H locs 1 4 (F0 m 39 ls [.int v_39]) := by
        intro H locs ls v_39 e_v_39 hR hS hl
        subst e_v_39
        by_cases c_3 : ((xf_isOver S p1.toNatClampNeg) = true) ∧ (¬ ((S 30 p1.toNatClampNeg) = 7))
        · skip
          have hf := (if_pos c_3).symm.trans hf
          have c_4 := c_3.1
          have c_5 := c_3.2
          refine ps_callv (As := [.int (if ((xf_isOver S p1.toNatClampNeg) = true) ∧ (¬ ((S 30 p1.toNatClampNeg) = 7)) then 1 else 0)]) (rest := []) ⟨hx, hb, hml, hown, hts⟩ (xo_requireState l _) (va_cwS 1 hts (lw_S q457 q458 q33 q459) rfl rfl rfl (by decide +kernel) ⟨Nat.le_of_ble_eq_true rfl, Nat.le_of_ble_eq_true rfl⟩) (if_pos c_3) hS rfl hl.1 rfl (Nat.le_of_ble_eq_true rfl) dX1_sell_39 ⟨Nat.le_of_ble_eq_true rfl, Nat.le_of_ble_eq_true rfl⟩ (fun H locs hz hk hS => ?_)
          have hR := hR.kept (fun a _ h => hk a h)
          refine lv_aload_n hx hb dX1_sell_42 rfl (lv_at hl 2 rfl) ?_
          refine lv_iconst (v := 4) hx hb dX1_sell_43 (by decide) ?_
          refine kw_putN (C := RX3) (T := TX3) (N := 15) hx hb hts in_X3 tyX3 tyX3_ok nmX3 hown hK.1 hR hS 3 p1.toNatClampNeg of_2 rfl rfl 6 (by decide) (va_Nw.use rfl (hK.2.1 _ q536 rfl)) (fun _ h9 => h9) rfl rfl rfl rfl (Nat.le_of_ble_eq_true rfl) dX1_sell_44 (xen E C g h (gs_up S 36 p1.toNatClampNeg 4)) (xe_f (k := 6) rfl) (xn_f (k := 6) rfl) (fun H locs hR hS => ?_)
          have hR := xw_up rfl hR
          have hh := xh_up (k := 36) (i := p1.toNatClampNeg) (v := 4) rfl hh
          refine lv_aload_n hx hb dX1_sell_47 rfl (lv_at hl 2 rfl) ?_
          refine lv_iload_n hx hb dX1_sell_48 rfl (lv_at hl 1 rfl) ?_
          refine kw_putN (C := RX3) (T := TX3) (N := 15) hx hb hts in_X3 tyX3 tyX3_ok nmX3 hown hK.1 hR hS 3 p1.toNatClampNeg of_2 rfl rfl 11 (by decide) (va_Nw.use rfl (hK.2.1 _ q543 rfl)) (fun _ h9 => h9) rfl rfl rfl rfl (Nat.le_of_ble_eq_true rfl) dX1_sell_49 (xen E C g h (gs_up (gs_up S 36 p1.toNatClampNeg 4) 41 p1.toNatClampNeg p2)) (xe_f (k := 11) rfl) (xn_f (k := 11) rfl) (fun H locs hR hS => ?_)
          have hR := xw_up rfl hR
          have hh := xh_up (k := 41) (i := p1.toNatClampNeg) (v := p2) rfl hh
          refine lv_aload_n hx hb dX1_sell_52 rfl (lv_at hl 2 rfl) ?_
          refine lv_aload_n hx hb dX1_sell_53 rfl (lv_at hl 0 rfl) ?_
          refine kw_get (C := RX1) (T := TX1) (N := 12) (v := .int (S 0 0)) hx hb hts in_X1 hown hK.1 hR 0 0 rfl rfl rfl 0 (by decide) (hts _ q168) (fun _ h9 => h9) (congrArg (fun z => some (Value.int z)) (congrFun ((gs_sk rfl).trans (gs_sk rfl)) 0)) dX1_sell_54 ?_
          refine kw_putN (C := RX3) (T := TX3) (N := 15) hx hb hts in_X3 tyX3 tyX3_ok nmX3 hown hK.1 hR hS 3 p1.toNatClampNeg of_2 rfl rfl 12 (by decide) (va_Nw.use rfl (hK.2.1 _ q544 rfl)) (fun _ h9 => h9) rfl rfl rfl rfl (Nat.le_of_ble_eq_true rfl) dX1_sell_57 (xen E C g h (gs_up (gs_up (gs_up S 36 p1.toNatClampNeg 4) 41 p1.toNatClampNeg p2) 42 p1.toNatClampNeg (S 0 0))) (xe_f (k := 12) rfl) (xn_f (k := 12) rfl) (fun H locs hR hS => ?_)
          have hR := xw_up rfl hR
          have hh := xh_up (k := 42) (i := p1.toNatClampNeg) (v := (S 0 0)) rfl hh
          refine lv_aload_n hx hb dX1_sell_60 rfl (lv_at hl 0 rfl) ?_
          refine lv_dup hx hb dX1_sell_61 rfl ?_
          refine kw_get (C := RX1) (T := TX1) (N := 12) (v := .int (S 11 0)) hx hb hts in_X1 hown hK.1 hR 0 0 rfl rfl rfl 11 (by decide) (hts _ q180) (fun _ h9 => h9) (congrArg (fun z => some (Value.int z)) (congrFun ((gs_sk rfl).trans ((gs_sk rfl).trans (gs_sk rfl))) 0)) dX1_sell_62 ?_
          refine lv_iload_n hx hb dX1_sell_65 rfl (lv_at hl 1 rfl) ?_
          refine lv_iadd hx hb dX1_sell_66 ?_
          refine kw_put (C := RX1) (T := TX1) (N := 12) hx hb hts in_X1 tyX1 tyX1_ok nmX1 hown hK.1 hR hS 0 0 rfl rfl rfl 11 (by decide) (hts _ q180) (fun _ h9 => h9) (Or.inl rfl) rfl rfl rfl (Nat.le_of_ble_eq_true rfl) dX1_sell_67 (xen E C g h (gs_up (gs_up (gs_up (gs_up S 36 p1.toNatClampNeg 4) 41 p1.toNatClampNeg p2) 42 p1.toNatClampNeg (S 0 0)) 11 0 ((S 11 0) + p2))) (xe_x (k := 11) rfl) (xn_x (k := 11) rfl) (fun H locs hR hS => ?_)
          have hR := xw_up rfl hR
          have hh := xh_up (k := 11) (i := 0) (v := ((S 11 0) + p2)) rfl hh
          refine lv_aload_n hx hb dX1_sell_70 rfl (lv_at hl 0 rfl) ?_
          refine kw_get (C := RX1) (T := TX1) (N := 12) (v := .int ((S 11 0) + p2)) hx hb hts in_X1 hown hK.1 hR 0 0 rfl rfl rfl 11 (by decide) (hts _ q180) (fun _ h9 => h9) (congrArg (fun z => some (Value.int z)) ((congrFun (gs_up_at.trans (congrArg (fun z => upd z 0 ((S 11 0) + p2)) ((gs_sk rfl).trans ((gs_sk rfl).trans (gs_sk rfl))))) 0).trans pk_us)) dX1_sell_71 ?_
          refine W.widen (k := 2) (n := 10) (Nat.le_of_ble_eq_true rfl) (Nat.le_of_ble_eq_true rfl) ?_
          exact vx_ret (W.iret (v := ((S 11 0) + p2)) hx hb hr (fun t ht hW => ⟨⟨_, _, hf.symm, rfl, g, h, rfl, hh, by rw [ht]; exact hR⟩, hS.F ht⟩) hS.2.2 dX1_sell_74)
        · skip
          have hf := (if_neg c_3).symm.trans hf
          refine W.eq (g2 := F0 m 39 ls [.int 0]) (congrArg (fun z => F0 m 39 ls (.int z :: [])) (if_neg c_3)) ?_
          refine cx_S (X := fun _ => True) (P := True) (As := [.int 0]) (rest := []) hK hZ hA hAA hS trivial trivial (xt_requireState l hfl E C A H.size) (fun _ h => hA _ (Nat.le_trans hS.1 h)) ⟨hx, hb, hml, hown, hts⟩ (va_cwS 1 hts (lw_S q457 q458 q33 q459) rfl rfl rfl (by decide +kernel) ⟨Nat.le_of_ble_eq_true rfl, Nat.le_of_ble_eq_true rfl⟩) rfl hl.1 rfl (Nat.le_of_ble_eq_true rfl) dX1_sell_39 ⟨Nat.le_of_ble_eq_true rfl, Nat.le_of_ble_eq_true rfl⟩ (fun ce q9 H locs hB hz hk hS hc9 hv9 hcl => ?_)
          have hR := hR.kept (fun a _ h => hk a h (Nat.not_le.mpr h))
          exact vx_out (fun x h => (hnt x h).elim) hlocks hc9 hv9 hcl (fun t ht _ => ⟨⟨hf.symm, by rw [ht]; exact hR⟩, hS.F ht⟩) hS.2.2 (Nat.le_of_ble_eq_true rfl) (Nat.le_of_ble_eq_true rfl)
      refine lv_if_eq (tgt := 38) hx hb dX1_sell_22 (by decide) (fun c_6 => ?_) (fun c_6 => ?_)
      · skip
        have c_6 : ¬ ((xf_isOver S p1.toNatClampNeg) = true) := gs_zf (φ := (xf_isOver S p1.toNatClampNeg) = true) c_6
        refine lv_iconst (v := 0) hx hb dX1_sell_38 (by decide) ?_
        exact hJ_39 _ _ _ 0 (gi_0 (gi_ca_f c_6)) hR hS (lv_sub hl [1, 3, 0] rfl)
      · skip
        have c_6 : (xf_isOver S p1.toNatClampNeg) = true := gs_zt (φ := (xf_isOver S p1.toNatClampNeg) = true) c_6
        refine lv_aload_n hx hb dX1_sell_25 rfl (lv_at hl 0 rfl) ?_
        refine kw_getN (C := RX3) (T := TX3) (N := 15) (v := .int (S 30 p1.toNatClampNeg)) hx hb hts in_X3 hown hK.1 hR 3 p1.toNatClampNeg of_2 rfl rfl 0 (by decide) (va_Nw.use rfl (hK.2.1 _ q523 rfl)) (fun _ h9 => h9) rfl dX1_sell_26 ?_
        refine lv_bipush (v := 7) hx hb dX1_sell_29 (by decide) ?_
        refine lv_icmp_eq (tgt := 38) hx hb dX1_sell_31 (by decide) (fun c_7 => ?_) (fun c_7 => ?_)
        · skip
          refine lv_iconst (v := 0) hx hb dX1_sell_38 (by decide) ?_
          exact hJ_39 _ _ _ 0 (gi_0 ((gi_nb_t c_7).trans (gi_ca_t c_6))) hR hS (lv_sub hl [1, 3, 0] rfl)
        · skip
          refine lv_iconst (v := 1) hx hb dX1_sell_34 (by decide) ?_
          refine lv_goto (tgt := 39) hx hb dX1_sell_35 (by decide) ?_
          exact hJ_39 _ _ _ 1 (gi_1 ((gi_nb_f c_7).trans (gi_ca_t c_6))) hR hS (lv_sub hl [1, 3, 0] rfl)
    · skip
      have hf := (if_neg c_2).symm.trans hf
      refine W.eq (g2 := F0 m 14 ls [.int 0]) (congrArg (fun z => F0 m 14 ls (.int z :: [])) (if_neg c_2)) ?_
      refine cx_S (X := fun _ => True) (P := True) (As := [.int 0]) (rest := []) hK hZ hA hAA hS trivial trivial (xt_requireArgument l hfl E C A H.size) (fun _ h => hA _ (Nat.le_trans hS.1 h)) ⟨hx, hb, hml, hown, hts⟩ (va_cwS 1 hts (lw_S q322 q323 q33 q324) rfl rfl rfl (by decide +kernel) ⟨Nat.le_of_ble_eq_true rfl, Nat.le_of_ble_eq_true rfl⟩) rfl hl.1 rfl (Nat.le_of_ble_eq_true rfl) dX1_sell_14 ⟨Nat.le_of_ble_eq_true rfl, Nat.le_of_ble_eq_true rfl⟩ (fun ce q9 H locs hB hz hk hS hc9 hv9 hcl => ?_)
      have hR := hR.kept (fun a _ h => hk a h (Nat.not_le.mpr h))
      exact vx_out (fun x h => (hnt x h).elim) hlocks hc9 hv9 hcl (fun t ht _ => ⟨⟨hf.symm, by rw [ht]; exact hR⟩, hS.F ht⟩) hS.2.2 (Nat.le_of_ble_eq_true rfl) (Nat.le_of_ble_eq_true rfl)
  · skip
    have hf := (if_neg c_1).symm.trans hf
    refine cx_V (As := [.int p1]) (rest := []) hK hZ hA hAA hS hR ⟨hI, hh, c_1⟩ (xx_findAt l hfl E C A s.heap.size g h S p1) (fun _ h => hA _ (Nat.le_trans hS.1 h)) ⟨hx, hb, hml, hown, hts⟩ (cwV 1 hts (lw_V q586 q588 qs4 q33 q589) rfl rfl rfl (by decide +kernel) ⟨Nat.le_of_ble_eq_true rfl, Nat.le_of_ble_eq_true rfl⟩) (kw_recv (t := 0) (i := 0) hK.1 hR rfl rfl rfl) rfl hl.1 rfl (Nat.le_of_ble_eq_true rfl) dX1_sell_2 ⟨Nat.le_of_ble_eq_true rfl, Nat.le_of_ble_eq_true rfl⟩ (fun ce q9 H locs hB hz hk hS hc9 hv9 hcl => ?_)
    have hR := hR.kept (fun a _ h => hk a h (Nat.not_le.mpr h))
    exact vx_out (fun x h => (hnt x h).elim) hlocks hc9 hv9 hcl (fun t ht _ => ⟨⟨hf.symm, by rw [ht]; exact hR⟩, hS.F ht⟩) hS.2.2 (Nat.le_of_ble_eq_true rfl) (Nat.le_of_ble_eq_true rfl)
set_option maxHeartbeats 2000000 in
set_option maxRecDepth 100000 in
theorem xs_destroy (l : Launch) (hfl : l.stackTraces = false) (E : en_T) (C : ex_C) (A : Nat → Prop) (sz : Nat) (g : kw_A) (h : xh_T) (S : gs_T) (p1 : Int32) : vx_Met l yX1_destroy (ws_ yX1_destroy cX1_destroy 3 (some .int)) { frames := 10, cells := 2, slots := 10, locals := 224 } (cpc E C A sz [.ref (g 0 0), .int p1] (xw E C g h S A) (xi_ok S ∧ xh C g h S)) (xq_Q (fun z => z) E C (g 0 0) A (xp_destroy S p1)) (xq_X E C g h S A (xp_destroy S p1)) 2 10 A := by
  refine cx_start (by decide) (Nat.le_of_ble_eq_true rfl) ?_
  intro p e s m below meth c ls hx hb hr hlocks hml hown hnm hnt hts hsz hK hZ hA hR hP hl
  subst hsz
  have hAA : ∀ a, A a → A a := fun _ h => h
  have hl : lv_has ls 3 [(0, .ref (g 0 0)), (1, .int p1)] := hl
  have hS : va_S A s.heap s.heap [] := va_S.rf
  have hZr := hZ
  obtain ⟨hI, hh⟩ := hP
  have hf : (xp_destroy S p1) = (xp_destroy S p1) := rfl
  refine lv_aload_n hx hb dX1_destroy_0 rfl (lv_at hl 0 rfl) ?_
  refine lv_iload_n hx hb dX1_destroy_1 rfl (lv_at hl 1 rfl) ?_
  by_cases c_1 : (xf_isIn p1 0 ((S 21 1) - 1)) = true
  · skip
    have hf := (if_pos c_1).symm.trans hf
    have of_2 := (xq_f hI c_1).1
    refine cq_V (v := (some (.ref (g 3 p1.toNatClampNeg)))) (As := [.int p1]) (rest := []) hK hZ hA hAA hS hR ⟨hI, hh, c_1⟩ (xt_findAt l E C A s.heap.size g h S p1) (fun _ h => hA _ (Nat.le_trans hS.1 h)) ⟨hx, hb, hml, hown, hts⟩ (cwV 1 hts (lw_V q586 q588 qs4 q33 q589) rfl rfl rfl (by decide +kernel) ⟨Nat.le_of_ble_eq_true rfl, Nat.le_of_ble_eq_true rfl⟩) (kw_recv (t := 0) (i := 0) hK.1 hR rfl rfl rfl) rfl hl.1 rfl (Nat.le_of_ble_eq_true rfl) dX1_destroy_2 ⟨Nat.le_of_ble_eq_true rfl, Nat.le_of_ble_eq_true rfl⟩ (fun H locs hB hz hk hS => ?_)
    have hR := hR.kept (fun a _ h => hk a h (Nat.not_le.mpr h))
    refine W.eq (g2 := F0 m 5 ls [.ref (g 3 p1.toNatClampNeg)]) rfl ?_
    refine lv_astore_n (lv' := [(2, .ref (g 3 p1.toNatClampNeg)), (0, .ref (g 0 0)), (1, .int p1)]) hx hb dX1_destroy_5 rfl hl (by decide) rfl (fun ls hl => ?_)
    refine lv_aload_n hx hb dX1_destroy_6 rfl (lv_at hl 1 rfl) ?_
    refine lv_aload_n hx hb dX1_destroy_7 rfl (lv_at hl 0 rfl) ?_
    refine cq_V (v := (some (.int (gs_bz (xf_isOver S p1.toNatClampNeg))))) (As := [.ref (g 3 p1.toNatClampNeg)]) (rest := []) hK hZ hA hAA hS hR ⟨hI, hh, (by first | assumption | omega)⟩ (xt_isOver l E C A H.size g h S p1.toNatClampNeg) (fun _ h => h) ⟨hx, hb, hml, hown, hts⟩ (cwV 1 hts (lw_V q833 q835 qs13 q33 q836) rfl rfl rfl (by decide +kernel) ⟨Nat.le_of_ble_eq_true rfl, Nat.le_of_ble_eq_true rfl⟩) (kw_recv (t := 0) (i := 0) hK.1 hR rfl rfl rfl) rfl hl.1 rfl (Nat.le_of_ble_eq_true rfl) dX1_destroy_8 ⟨Nat.le_of_ble_eq_true rfl, Nat.le_of_ble_eq_true rfl⟩ (fun H locs hB hz hk hS => ?_)
    have hR : (xw E C g h S A) H := hB
    refine W.eq (g2 := F0 m 11 ls [.int (if (xf_isOver S p1.toNatClampNeg) = true then 1 else 0)]) rfl ?_
    by_cases c_2 : (xf_isOver S p1.toNatClampNeg) = true
    · skip
      have hf := (if_pos c_2).symm.trans hf
      refine ps_callv (As := [.int (if (xf_isOver S p1.toNatClampNeg) = true then 1 else 0)]) (rest := []) ⟨hx, hb, hml, hown, hts⟩ (xo_requireState l _) (va_cwS 1 hts (lw_S q457 q458 q33 q459) rfl rfl rfl (by decide +kernel) ⟨Nat.le_of_ble_eq_true rfl, Nat.le_of_ble_eq_true rfl⟩) (if_pos c_2) hS rfl hl.1 rfl (Nat.le_of_ble_eq_true rfl) dX1_destroy_11 ⟨Nat.le_of_ble_eq_true rfl, Nat.le_of_ble_eq_true rfl⟩ (fun H locs hz hk hS => ?_)
      have hR := hR.kept (fun a _ h => hk a h)
      refine lv_aload_n hx hb dX1_destroy_14 rfl (lv_at hl 0 rfl) ?_
      refine lv_iconst (v := 5) hx hb dX1_destroy_15 (by decide) ?_
      refine kw_putN (C := RX3) (T := TX3) (N := 15) hx hb hts in_X3 tyX3 tyX3_ok nmX3 hown hK.1 hR hS 3 p1.toNatClampNeg of_2 rfl rfl 6 (by decide) (va_Nw.use rfl (hK.2.1 _ q536 rfl)) (fun _ h9 => h9) rfl rfl rfl rfl (Nat.le_of_ble_eq_true rfl) dX1_destroy_16 (xen E C g h (gs_up S 36 p1.toNatClampNeg 5)) (xe_f (k := 6) rfl) (xn_f (k := 6) rfl) (fun H locs hR hS => ?_)
      have hR := xw_up rfl hR
      have hh := xh_up (k := 36) (i := p1.toNatClampNeg) (v := 5) rfl hh
      refine lv_aload_n hx hb dX1_destroy_19 rfl (lv_at hl 0 rfl) ?_
      refine kw_getN (C := RX3) (T := TX3) (N := 15) (v := .int (S 39 p1.toNatClampNeg)) hx hb hts in_X3 hown hK.1 hR 3 p1.toNatClampNeg of_2 rfl rfl 9 (by decide) (va_Nw.use rfl (hK.2.1 _ q541 rfl)) (fun _ h9 => h9) (congrArg (fun z => some (Value.int z)) (congrFun (gs_sk rfl) p1.toNatClampNeg)) dX1_destroy_20 ?_
      refine W.widen (k := 2) (n := 10) (Nat.le_of_ble_eq_true rfl) (Nat.le_of_ble_eq_true rfl) ?_
      exact vx_ret (W.iret (v := (S 39 p1.toNatClampNeg)) hx hb hr (fun t ht hW => ⟨⟨_, _, hf.symm, rfl, g, h, rfl, hh, by rw [ht]; exact hR⟩, hS.F ht⟩) hS.2.2 dX1_destroy_23)
    · skip
      have hf := (if_neg c_2).symm.trans hf
      refine W.eq (g2 := F0 m 11 ls [.int 0]) (congrArg (fun z => F0 m 11 ls (.int z :: [])) (if_neg c_2)) ?_
      refine cx_S (X := fun _ => True) (P := True) (As := [.int 0]) (rest := []) hK hZ hA hAA hS trivial trivial (xt_requireState l hfl E C A H.size) (fun _ h => hA _ (Nat.le_trans hS.1 h)) ⟨hx, hb, hml, hown, hts⟩ (va_cwS 1 hts (lw_S q457 q458 q33 q459) rfl rfl rfl (by decide +kernel) ⟨Nat.le_of_ble_eq_true rfl, Nat.le_of_ble_eq_true rfl⟩) rfl hl.1 rfl (Nat.le_of_ble_eq_true rfl) dX1_destroy_11 ⟨Nat.le_of_ble_eq_true rfl, Nat.le_of_ble_eq_true rfl⟩ (fun ce q9 H locs hB hz hk hS hc9 hv9 hcl => ?_)
      have hR := hR.kept (fun a _ h => hk a h (Nat.not_le.mpr h))
      exact vx_out (fun x h => (hnt x h).elim) hlocks hc9 hv9 hcl (fun t ht _ => ⟨⟨hf.symm, by rw [ht]; exact hR⟩, hS.F ht⟩) hS.2.2 (Nat.le_of_ble_eq_true rfl) (Nat.le_of_ble_eq_true rfl)
  · skip
    have hf := (if_neg c_1).symm.trans hf
    refine cx_V (As := [.int p1]) (rest := []) hK hZ hA hAA hS hR ⟨hI, hh, c_1⟩ (xx_findAt l hfl E C A s.heap.size g h S p1) (fun _ h => hA _ (Nat.le_trans hS.1 h)) ⟨hx, hb, hml, hown, hts⟩ (cwV 1 hts (lw_V q586 q588 qs4 q33 q589) rfl rfl rfl (by decide +kernel) ⟨Nat.le_of_ble_eq_true rfl, Nat.le_of_ble_eq_true rfl⟩) (kw_recv (t := 0) (i := 0) hK.1 hR rfl rfl rfl) rfl hl.1 rfl (Nat.le_of_ble_eq_true rfl) dX1_destroy_2 ⟨Nat.le_of_ble_eq_true rfl, Nat.le_of_ble_eq_true rfl⟩ (fun ce q9 H locs hB hz hk hS hc9 hv9 hcl => ?_)
    have hR := hR.kept (fun a _ h => hk a h (Nat.not_le.mpr h))
    exact vx_out (fun x h => (hnt x h).elim) hlocks hc9 hv9 hcl (fun t ht _ => ⟨⟨hf.symm, by rw [ht]; exact hR⟩, hS.F ht⟩) hS.2.2 (Nat.le_of_ble_eq_true rfl) (Nat.le_of_ble_eq_true rfl)
set_option maxHeartbeats 2000000 in
set_option maxRecDepth 100000 in
theorem xs_payOut (l : Launch) (hfl : l.stackTraces = false) (E : en_T) (C : ex_C) (A : Nat → Prop) (sz : Nat) (g : kw_A) (h : xh_T) (S : gs_T) (p1 : Int32) (p2 : Int32) : vx_Met l yX1_payOut (ws_ yX1_payOut cX1_payOut 6 (some .int)) { frames := 9, cells := 2, slots := 10, locals := 206 } (cpc E C A sz [.ref (g 0 0), .int p1, .int p2] (xw E C g h S A) (xi_ok S ∧ xh C g h S)) (xq_Q (fun z => z) E C (g 0 0) A (xp_payOut S p1 p2)) (xq_X E C g h S A (xp_payOut S p1 p2)) 2 10 A := by
  refine cx_start (by decide) (Nat.le_of_ble_eq_true rfl) ?_
  intro p e s m below meth c ls hx hb hr hlocks hml hown hnm hnt hts hsz hK hZ hA hR hP hl
  subst hsz
  have hAA : ∀ a, A a → A a := fun _ h => h
  have hl : lv_has ls 6 [(0, .ref (g 0 0)), (1, .int p1), (2, .int p2)] := hl
  have hS : va_S A s.heap s.heap [] := va_S.rf
  have hZr := hZ
  obtain ⟨hI, hh⟩ := hP
  have hf : (xp_payOut S p1 p2) = (xp_payOut S p1 p2) := rfl
  refine lv_aload_n hx hb dX1_payOut_0 rfl (lv_at hl 0 rfl) ?_
  refine lv_iload_n hx hb dX1_payOut_1 rfl (lv_at hl 1 rfl) ?_
  by_cases c_1 : (xf_isIn p1 0 ((S 21 1) - 1)) = true
  · skip
    have hf := (if_pos c_1).symm.trans hf
    have of_2 := (xq_f hI c_1).1
    refine cq_V (v := (some (.ref (g 3 p1.toNatClampNeg)))) (As := [.int p1]) (rest := []) hK hZ hA hAA hS hR ⟨hI, hh, c_1⟩ (xt_findAt l E C A s.heap.size g h S p1) (fun _ h => hA _ (Nat.le_trans hS.1 h)) ⟨hx, hb, hml, hown, hts⟩ (cwV 1 hts (lw_V q586 q588 qs4 q33 q589) rfl rfl rfl (by decide +kernel) ⟨Nat.le_of_ble_eq_true rfl, Nat.le_of_ble_eq_true rfl⟩) (kw_recv (t := 0) (i := 0) hK.1 hR rfl rfl rfl) rfl hl.1 rfl (Nat.le_of_ble_eq_true rfl) dX1_payOut_2 ⟨Nat.le_of_ble_eq_true rfl, Nat.le_of_ble_eq_true rfl⟩ (fun H locs hB hz hk hS => ?_)
    have hR := hR.kept (fun a _ h => hk a h (Nat.not_le.mpr h))
    refine W.eq (g2 := F0 m 5 ls [.ref (g 3 p1.toNatClampNeg)]) rfl ?_
    refine lv_astore_n (lv' := [(3, .ref (g 3 p1.toNatClampNeg)), (0, .ref (g 0 0)), (1, .int p1), (2, .int p2)]) hx hb dX1_payOut_5 rfl hl (by decide) rfl (fun ls hl => ?_)
    refine lv_aload_n hx hb dX1_payOut_6 rfl (lv_at hl 1 rfl) ?_
    refine lv_iload_n hx hb dX1_payOut_7 rfl (lv_at hl 3 rfl) ?_
    by_cases c_2 : (xf_isIn p2 0 ((S 21 2) - 1)) = true
    · skip
      have hf := (if_pos c_2).symm.trans hf
      have oc_8 := (xq_c hI c_2).1
      refine cq_V (v := (some (.ref (g 4 p2.toNatClampNeg)))) (As := [.int p2]) (rest := []) hK hZ hA hAA hS hR ⟨hI, hh, c_2⟩ (xt_claimAt l E C A H.size g h S p2) (fun _ h => hA _ (Nat.le_trans hS.1 h)) ⟨hx, hb, hml, hown, hts⟩ (cwV 1 hts (lw_V q759 q761 qs6 q33 q762) rfl rfl rfl (by decide +kernel) ⟨Nat.le_of_ble_eq_true rfl, Nat.le_of_ble_eq_true rfl⟩) (kw_recv (t := 0) (i := 0) hK.1 hR rfl rfl rfl) rfl hl.1 rfl (Nat.le_of_ble_eq_true rfl) dX1_payOut_8 ⟨Nat.le_of_ble_eq_true rfl, Nat.le_of_ble_eq_true rfl⟩ (fun H locs hB hz hk hS => ?_)
      have hR := hR.kept (fun a _ h => hk a h (Nat.not_le.mpr h))
      refine W.eq (g2 := F0 m 11 ls [.ref (g 4 p2.toNatClampNeg)]) rfl ?_
      refine lv_astore (lv' := [(4, .ref (g 4 p2.toNatClampNeg)), (3, .ref (g 3 p1.toNatClampNeg)), (0, .ref (g 0 0)), (1, .int p1), (2, .int p2)]) hx hb dX1_payOut_11 hl (by decide) rfl (fun ls hl => ?_)
      refine lv_aload_n hx hb dX1_payOut_13 rfl (lv_at hl 1 rfl) ?_
      refine kw_getN (C := RX3) (T := TX3) (N := 15) (v := .int (S 36 p1.toNatClampNeg)) hx hb hts in_X3 hown hK.1 hR 3 p1.toNatClampNeg of_2 rfl rfl 6 (by decide) (va_Nw.use rfl (hK.2.1 _ q536 rfl)) (fun _ h9 => h9) rfl dX1_payOut_14 ?_
      refine lv_iconst (v := 4) hx hb dX1_payOut_17 (by decide) ?_
      have hJ_70 : ∀ (H : Heap) (locs : List Loc) (ls : Array Slot) (v_70 : Int32), v_70 = (if ((S 36 p1.toNatClampNeg) = 4) ∧ ((¬ (365 < ((S 0 0) - (S 42 p1.toNatClampNeg)))) ∧ (((xf_isCandidate S p1.toNatClampNeg p2.toNatClampNeg) = true) ∧ (((xf_proves S p2.toNatClampNeg p1.toNatClampNeg) = true) ∧ (¬ ((xf_isBeaten S p1.toNatClampNeg p2.toNatClampNeg) = true))))) then 1 else 0) → (xw E C g h S A) H → va_S A s.heap H locs → lv_has ls 6 [(0, .ref (g 0 0)), (1, .int p1), (3, .ref (g 3 p1.toNatClampNeg)), (4, .ref (g 4 p2.toNatClampNeg))] → cx_G p l e { frames := 9, cells := 2, slots := 10, locals := 206 } s m [.ref (g 0 0), .int p1, .int p2] below meth c A (xq_Q (fun z => z) E C (g 0 0) A (xp_payOut S p1 p2)) (xq_X E C g h S A (xp_payOut S p1 p2)) 2 10 H locs 1 4 (F0 m 70 ls [.int v_70]) := by
        intro H locs ls v_70 e_v_70 hR hS hl
        subst e_v_70
        by_cases c_3 : ((S 36 p1.toNatClampNeg) = 4) ∧ ((¬ (365 < ((S 0 0) - (S 42 p1.toNatClampNeg)))) ∧ (((xf_isCandidate S p1.toNatClampNeg p2.toNatClampNeg) = true) ∧ (((xf_proves S p2.toNatClampNeg p1.toNatClampNeg) = true) ∧ (¬ ((xf_isBeaten S p1.toNatClampNeg p2.toNatClampNeg) = true)))))
        · skip
          have hf := (if_pos c_3).symm.trans hf
          have c_4 := c_3.1
          have c_5 := c_3.2
          have c_6 := c_5.1
          have c_7 := c_5.2
          have c_8 := c_7.1
          have c_9 := c_7.2
          have c_10 := c_9.1
          have c_11 := c_9.2
          refine ps_callv (As := [.int (if ((S 36 p1.toNatClampNeg) = 4) ∧ ((¬ (365 < ((S 0 0) - (S 42 p1.toNatClampNeg)))) ∧ (((xf_isCandidate S p1.toNatClampNeg p2.toNatClampNeg) = true) ∧ (((xf_proves S p2.toNatClampNeg p1.toNatClampNeg) = true) ∧ (¬ ((xf_isBeaten S p1.toNatClampNeg p2.toNatClampNeg) = true))))) then 1 else 0)]) (rest := []) ⟨hx, hb, hml, hown, hts⟩ (xo_requireState l _) (va_cwS 1 hts (lw_S q457 q458 q33 q459) rfl rfl rfl (by decide +kernel) ⟨Nat.le_of_ble_eq_true rfl, Nat.le_of_ble_eq_true rfl⟩) (if_pos c_3) hS rfl hl.1 rfl (Nat.le_of_ble_eq_true rfl) dX1_payOut_70 ⟨Nat.le_of_ble_eq_true rfl, Nat.le_of_ble_eq_true rfl⟩ (fun H locs hz hk hS => ?_)
          have hR := hR.kept (fun a _ h => hk a h)
          refine lv_iconst (v := 5) hx hb dX1_payOut_73 (by decide) ?_
          refine lv_aload_n hx hb dX1_payOut_74 rfl (lv_at hl 2 rfl) ?_
          refine kw_getN (C := RX3) (T := TX3) (N := 15) (v := .int (S 41 p1.toNatClampNeg)) hx hb hts in_X3 hown hK.1 hR 3 p1.toNatClampNeg of_2 rfl rfl 11 (by decide) (va_Nw.use rfl (hK.2.1 _ q543 rfl)) (fun _ h9 => h9) rfl dX1_payOut_75 ?_
          refine va_mmin hx hb (hml.trans hl.1.symm) hown (hts _ q851) (hts _ q159) (hts _ q39) (hts _ q160) (Nat.le_of_ble_eq_true rfl) (Nat.le_of_ble_eq_true rfl) (Nat.le_of_ble_eq_true rfl) (Nat.le_of_ble_eq_true rfl) dX1_payOut_78 ?_
          refine lv_istore (lv' := [(5, .int (if (S 41 p1.toNatClampNeg) < 5 then (S 41 p1.toNatClampNeg) else 5)), (0, .ref (g 0 0)), (1, .int p1), (3, .ref (g 3 p1.toNatClampNeg)), (4, .ref (g 4 p2.toNatClampNeg))]) hx hb dX1_payOut_81 hl (by decide) rfl (fun ls hl => ?_)
          refine lv_aload_n hx hb dX1_payOut_83 rfl (lv_at hl 3 rfl) ?_
          refine lv_bipush (v := 6) hx hb dX1_payOut_84 (by decide) ?_
          refine kw_putN (C := RX3) (T := TX3) (N := 15) hx hb hts in_X3 tyX3 tyX3_ok nmX3 hown hK.1 hR hS 3 p1.toNatClampNeg of_2 rfl rfl 6 (by decide) (va_Nw.use rfl (hK.2.1 _ q536 rfl)) (fun _ h9 => h9) rfl rfl rfl rfl (Nat.le_of_ble_eq_true rfl) dX1_payOut_86 (xen E C g h (gs_up S 36 p1.toNatClampNeg 6)) (xe_f (k := 6) rfl) (xn_f (k := 6) rfl) (fun H locs hR hS => ?_)
          have hR := xw_up rfl hR
          have hh := xh_up (k := 36) (i := p1.toNatClampNeg) (v := 6) rfl hh
          refine lv_aload hx hb dX1_payOut_89 (lv_at hl 4 rfl) ?_
          refine lv_iload_n hx hb dX1_payOut_91 rfl (lv_at hl 2 rfl) ?_
          refine kw_putN (C := RX5) (T := TX5) (N := 10) hx hb hts in_X5 tyX5 tyX5_ok nmX5 hown hK.1 hR hS 4 p2.toNatClampNeg oc_8 rfl rfl 8 (by decide) (va_Nw.use rfl (hK.2.1 _ q729 rfl)) (fun _ h9 => h9) rfl rfl rfl rfl (Nat.le_of_ble_eq_true rfl) dX1_payOut_92 (xen E C g h (gs_up (gs_up S 36 p1.toNatClampNeg 6) 58 p2.toNatClampNeg p1)) (xe_c (k := 8) rfl) (xn_c (k := 8) rfl) (fun H locs hR hS => ?_)
          have hR := xw_up rfl hR
          have hh := xh_up (k := 58) (i := p2.toNatClampNeg) (v := p1) rfl hh
          refine lv_aload hx hb dX1_payOut_95 (lv_at hl 4 rfl) ?_
          refine lv_iconst (v := 1) hx hb dX1_payOut_97 (by decide) ?_
          refine cq_V (v := none) (As := [.int 1]) (rest := []) hK hZ hA hAA hS hR (by rw [nz_up rfl, nz_up rfl]; exact oc_8) (xt_end l E C A H.size g h (gs_up (gs_up S 36 p1.toNatClampNeg 6) 58 p2.toNatClampNeg p1) p2.toNatClampNeg 1) (fun _ h => h) ⟨hx, hb, hml, hown, hts⟩ (cwV 1 hts (lw_V q777 q778 q779 q59 q780) rfl rfl rfl (by decide +kernel) ⟨Nat.le_of_ble_eq_true rfl, Nat.le_of_ble_eq_true rfl⟩) (kw_recv (t := 4) (i := p2.toNatClampNeg) hK.1 hR oc_8 rfl rfl) rfl hl.1 rfl (Nat.le_of_ble_eq_true rfl) dX1_payOut_98 ⟨Nat.le_of_ble_eq_true rfl, Nat.le_of_ble_eq_true rfl⟩ (fun H locs hB hz hk hS => ?_)
          have hR : xw E C g h (gs_up (gs_up (gs_up (gs_up S 36 p1.toNatClampNeg 6) 58 p2.toNatClampNeg p1) 56 p2.toNatClampNeg 1) 57 p2.toNatClampNeg (S 0 0)) A H := hB
          have hh := xh_up (k := 56) (i := p2.toNatClampNeg) (v := 1) rfl hh
          have hh := xh_up (k := 57) (i := p2.toNatClampNeg) (v := (S 0 0)) rfl hh
          refine W.eq (g2 := F0 m 101 ls []) rfl ?_
          refine lv_aload_n hx hb dX1_payOut_101 rfl (lv_at hl 1 rfl) ?_
          refine lv_dup hx hb dX1_payOut_102 rfl ?_
          refine kw_get (C := RX1) (T := TX1) (N := 12) (v := .int (S 9 0)) hx hb hts in_X1 hown hK.1 hR 0 0 rfl rfl rfl 9 (by decide) (hts _ q178) (fun _ h9 => h9) (congrArg (fun z => some (Value.int z)) (congrFun ((gs_sk rfl).trans ((gs_sk rfl).trans ((gs_sk rfl).trans (gs_sk rfl)))) 0)) dX1_payOut_103 ?_
          refine lv_iload hx hb dX1_payOut_106 (lv_at hl 0 rfl) ?_
          refine lv_iadd hx hb dX1_payOut_108 ?_
          refine kw_put (C := RX1) (T := TX1) (N := 12) hx hb hts in_X1 tyX1 tyX1_ok nmX1 hown hK.1 hR hS 0 0 rfl rfl rfl 9 (by decide) (hts _ q178) (fun _ h9 => h9) (Or.inl rfl) rfl rfl rfl (Nat.le_of_ble_eq_true rfl) dX1_payOut_109 (xen E C g h (gs_up (gs_up (gs_up (gs_up (gs_up S 36 p1.toNatClampNeg 6) 58 p2.toNatClampNeg p1) 56 p2.toNatClampNeg 1) 57 p2.toNatClampNeg (S 0 0)) 9 0 ((S 9 0) + (if (S 41 p1.toNatClampNeg) < 5 then (S 41 p1.toNatClampNeg) else 5)))) (xe_x (k := 9) rfl) (xn_x (k := 9) rfl) (fun H locs hR hS => ?_)
          have hR := xw_up rfl hR
          have hh := xh_up (k := 9) (i := 0) (v := ((S 9 0) + (if (S 41 p1.toNatClampNeg) < 5 then (S 41 p1.toNatClampNeg) else 5))) rfl hh
          refine lv_aload_n hx hb dX1_payOut_112 rfl (lv_at hl 1 rfl) ?_
          refine lv_dup hx hb dX1_payOut_113 rfl ?_
          refine kw_get (C := RX1) (T := TX1) (N := 12) (v := .int (S 11 0)) hx hb hts in_X1 hown hK.1 hR 0 0 rfl rfl rfl 11 (by decide) (hts _ q180) (fun _ h9 => h9) (congrArg (fun z => some (Value.int z)) (congrFun ((gs_sk rfl).trans ((gs_sk rfl).trans ((gs_sk rfl).trans ((gs_sk rfl).trans (gs_sk rfl))))) 0)) dX1_payOut_114 ?_
          refine lv_aload_n hx hb dX1_payOut_117 rfl (lv_at hl 3 rfl) ?_
          refine kw_getN (C := RX3) (T := TX3) (N := 15) (v := .int (S 41 p1.toNatClampNeg)) hx hb hts in_X3 hown hK.1 hR 3 p1.toNatClampNeg of_2 rfl rfl 11 (by decide) (va_Nw.use rfl (hK.2.1 _ q543 rfl)) (fun _ h9 => h9) (congrArg (fun z => some (Value.int z)) (congrFun ((gs_sk rfl).trans ((gs_sk rfl).trans ((gs_sk rfl).trans ((gs_sk rfl).trans (gs_sk rfl))))) p1.toNatClampNeg)) dX1_payOut_118 ?_
          refine lv_isub hx hb dX1_payOut_121 ?_
          refine kw_put (C := RX1) (T := TX1) (N := 12) hx hb hts in_X1 tyX1 tyX1_ok nmX1 hown hK.1 hR hS 0 0 rfl rfl rfl 11 (by decide) (hts _ q180) (fun _ h9 => h9) (Or.inl rfl) rfl rfl rfl (Nat.le_of_ble_eq_true rfl) dX1_payOut_122 (xen E C g h (gs_up (gs_up (gs_up (gs_up (gs_up (gs_up S 36 p1.toNatClampNeg 6) 58 p2.toNatClampNeg p1) 56 p2.toNatClampNeg 1) 57 p2.toNatClampNeg (S 0 0)) 9 0 ((S 9 0) + (if (S 41 p1.toNatClampNeg) < 5 then (S 41 p1.toNatClampNeg) else 5))) 11 0 ((S 11 0) - (S 41 p1.toNatClampNeg)))) (xe_x (k := 11) rfl) (xn_x (k := 11) rfl) (fun H locs hR hS => ?_)
          have hR := xw_up rfl hR
          have hh := xh_up (k := 11) (i := 0) (v := ((S 11 0) - (S 41 p1.toNatClampNeg))) rfl hh
          refine lv_aload_n hx hb dX1_payOut_125 rfl (lv_at hl 3 rfl) ?_
          refine kw_getN (C := RX3) (T := TX3) (N := 15) (v := .int (S 41 p1.toNatClampNeg)) hx hb hts in_X3 hown hK.1 hR 3 p1.toNatClampNeg of_2 rfl rfl 11 (by decide) (va_Nw.use rfl (hK.2.1 _ q543 rfl)) (fun _ h9 => h9) (congrArg (fun z => some (Value.int z)) (congrFun ((gs_sk rfl).trans ((gs_sk rfl).trans ((gs_sk rfl).trans ((gs_sk rfl).trans ((gs_sk rfl).trans (gs_sk rfl)))))) p1.toNatClampNeg)) dX1_payOut_126 ?_
          refine lv_iload hx hb dX1_payOut_129 (lv_at hl 0 rfl) ?_
          refine lv_isub hx hb dX1_payOut_131 ?_
          refine W.widen (k := 2) (n := 10) (Nat.le_of_ble_eq_true rfl) (Nat.le_of_ble_eq_true rfl) ?_
          exact vx_ret (W.iret (v := ((S 41 p1.toNatClampNeg) - (if (S 41 p1.toNatClampNeg) < 5 then (S 41 p1.toNatClampNeg) else 5))) hx hb hr (fun t ht hW => ⟨⟨_, _, hf.symm, rfl, g, h, rfl, hh, by rw [ht]; exact hR⟩, hS.F ht⟩) hS.2.2 dX1_payOut_132)
        · skip
          have hf := (if_neg c_3).symm.trans hf
          refine W.eq (g2 := F0 m 70 ls [.int 0]) (congrArg (fun z => F0 m 70 ls (.int z :: [])) (if_neg c_3)) ?_
          refine cx_S (X := fun _ => True) (P := True) (As := [.int 0]) (rest := []) hK hZ hA hAA hS trivial trivial (xt_requireState l hfl E C A H.size) (fun _ h => hA _ (Nat.le_trans hS.1 h)) ⟨hx, hb, hml, hown, hts⟩ (va_cwS 1 hts (lw_S q457 q458 q33 q459) rfl rfl rfl (by decide +kernel) ⟨Nat.le_of_ble_eq_true rfl, Nat.le_of_ble_eq_true rfl⟩) rfl hl.1 rfl (Nat.le_of_ble_eq_true rfl) dX1_payOut_70 ⟨Nat.le_of_ble_eq_true rfl, Nat.le_of_ble_eq_true rfl⟩ (fun ce q9 H locs hB hz hk hS hc9 hv9 hcl => ?_)
          have hR := hR.kept (fun a _ h => hk a h (Nat.not_le.mpr h))
          exact vx_out (fun x h => (hnt x h).elim) hlocks hc9 hv9 hcl (fun t ht _ => ⟨⟨hf.symm, by rw [ht]; exact hR⟩, hS.F ht⟩) hS.2.2 (Nat.le_of_ble_eq_true rfl) (Nat.le_of_ble_eq_true rfl)
      refine lv_icmp_ne (tgt := 69) hx hb dX1_payOut_18 (by decide) (fun c_12 => ?_) (fun c_12 => ?_)
      · skip
        refine lv_iconst (v := 0) hx hb dX1_payOut_69 (by decide) ?_
        refine W.widen (k := 1) (n := 4) (Nat.le_of_ble_eq_true rfl) (Nat.le_of_ble_eq_true rfl) ?_
        exact hJ_70 _ _ _ 0 (gi_0 (gi_ca_f c_12)) hR hS (lv_sub hl [2, 3, 1, 0] rfl)
      · skip
        refine lv_aload_n hx hb dX1_payOut_21 rfl (lv_at hl 2 rfl) ?_
        refine kw_get (C := RX1) (T := TX1) (N := 12) (v := .int (S 0 0)) hx hb hts in_X1 hown hK.1 hR 0 0 rfl rfl rfl 0 (by decide) (hts _ q168) (fun _ h9 => h9) rfl dX1_payOut_22 ?_
        refine lv_aload_n hx hb dX1_payOut_25 rfl (lv_at hl 1 rfl) ?_
        refine kw_getN (C := RX3) (T := TX3) (N := 15) (v := .int (S 42 p1.toNatClampNeg)) hx hb hts in_X3 hown hK.1 hR 3 p1.toNatClampNeg of_2 rfl rfl 12 (by decide) (va_Nw.use rfl (hK.2.1 _ q544 rfl)) (fun _ h9 => h9) rfl dX1_payOut_26 ?_
        refine lv_isub hx hb dX1_payOut_29 ?_
        refine lv_sipush (v := 365) hx hb dX1_payOut_30 (by decide) ?_
        refine lv_icmp_gt (tgt := 69) hx hb dX1_payOut_33 (by decide) (fun c_13 => ?_) (fun c_13 => ?_)
        · skip
          refine lv_iconst (v := 0) hx hb dX1_payOut_69 (by decide) ?_
          refine W.widen (k := 1) (n := 4) (Nat.le_of_ble_eq_true rfl) (Nat.le_of_ble_eq_true rfl) ?_
          exact hJ_70 _ _ _ 0 (gi_0 ((gi_na_t c_13).trans (gi_ca_t c_12))) hR hS (lv_sub hl [2, 3, 1, 0] rfl)
        · skip
          refine lv_aload_n hx hb dX1_payOut_36 rfl (lv_at hl 2 rfl) ?_
          refine lv_aload_n hx hb dX1_payOut_37 rfl (lv_at hl 1 rfl) ?_
          refine lv_aload hx hb dX1_payOut_38 (lv_at hl 0 rfl) ?_
          refine cq_V (v := (some (.int (gs_bz (xf_isCandidate S p1.toNatClampNeg p2.toNatClampNeg))))) (As := [.ref (g 3 p1.toNatClampNeg), .ref (g 4 p2.toNatClampNeg)]) (rest := []) hK hZ hA hAA hS hR ⟨hI, hh, (by first | assumption | omega), (by first | assumption | omega)⟩ (xt_isCandidate l E C A H.size g h S p1.toNatClampNeg p2.toNatClampNeg) (fun _ h => hA _ (Nat.le_trans hS.1 h)) ⟨hx, hb, hml, hown, hts⟩ (cwV 2 hts (lw_V q788 q790 qs7 q33 q791) rfl rfl rfl (by decide +kernel) ⟨Nat.le_of_ble_eq_true rfl, Nat.le_of_ble_eq_true rfl⟩) (kw_recv (t := 0) (i := 0) hK.1 hR rfl rfl rfl) rfl hl.1 rfl (Nat.le_of_ble_eq_true rfl) dX1_payOut_40 ⟨Nat.le_of_ble_eq_true rfl, Nat.le_of_ble_eq_true rfl⟩ (fun H locs hB hz hk hS => ?_)
          have hR := hR.kept (fun a _ h => hk a h (Nat.not_le.mpr h))
          refine W.eq (g2 := F0 m 43 ls [.int (if (xf_isCandidate S p1.toNatClampNeg p2.toNatClampNeg) = true then 1 else 0)]) rfl ?_
          refine lv_if_eq (tgt := 69) hx hb dX1_payOut_43 (by decide) (fun c_14 => ?_) (fun c_14 => ?_)
          · skip
            have c_14 : ¬ ((xf_isCandidate S p1.toNatClampNeg p2.toNatClampNeg) = true) := gs_zf (φ := (xf_isCandidate S p1.toNatClampNeg p2.toNatClampNeg) = true) c_14
            refine lv_iconst (v := 0) hx hb dX1_payOut_69 (by decide) ?_
            refine W.widen (k := 1) (n := 4) (Nat.le_of_ble_eq_true rfl) (Nat.le_of_ble_eq_true rfl) ?_
            exact hJ_70 _ _ _ 0 (gi_0 (((gi_ca_f c_14).trans (gi_na_f c_13)).trans (gi_ca_t c_12))) hR hS (lv_sub hl [2, 3, 1, 0] rfl)
          · skip
            have c_14 : (xf_isCandidate S p1.toNatClampNeg p2.toNatClampNeg) = true := gs_zt (φ := (xf_isCandidate S p1.toNatClampNeg p2.toNatClampNeg) = true) c_14
            refine lv_aload hx hb dX1_payOut_46 (lv_at hl 0 rfl) ?_
            refine lv_aload_n hx hb dX1_payOut_48 rfl (lv_at hl 1 rfl) ?_
            refine cq_V (v := (some (.int (gs_bz (xf_proves S p2.toNatClampNeg p1.toNatClampNeg))))) (As := [.ref (g 3 p1.toNatClampNeg)]) (rest := []) hK hZ hA hAA hS hR ⟨hI, hh, (by first | assumption | omega), (by first | assumption | omega)⟩ (xt_proves l E C A H.size g h S p2.toNatClampNeg p1.toNatClampNeg) (fun _ h => hA _ (Nat.le_trans hS.1 h)) ⟨hx, hb, hml, hown, hts⟩ (cwV 1 hts (lw_V q809 q810 q811 q59 q812) rfl rfl rfl (by decide +kernel) ⟨Nat.le_of_ble_eq_true rfl, Nat.le_of_ble_eq_true rfl⟩) (kw_recv (t := 4) (i := p2.toNatClampNeg) hK.1 hR oc_8 rfl rfl) rfl hl.1 rfl (Nat.le_of_ble_eq_true rfl) dX1_payOut_49 ⟨Nat.le_of_ble_eq_true rfl, Nat.le_of_ble_eq_true rfl⟩ (fun H locs hB hz hk hS => ?_)
            have hR := hR.kept (fun a _ h => hk a h (Nat.not_le.mpr h))
            refine W.eq (g2 := F0 m 52 ls [.int (if (xf_proves S p2.toNatClampNeg p1.toNatClampNeg) = true then 1 else 0)]) rfl ?_
            refine lv_if_eq (tgt := 69) hx hb dX1_payOut_52 (by decide) (fun c_15 => ?_) (fun c_15 => ?_)
            · skip
              have c_15 : ¬ ((xf_proves S p2.toNatClampNeg p1.toNatClampNeg) = true) := gs_zf (φ := (xf_proves S p2.toNatClampNeg p1.toNatClampNeg) = true) c_15
              refine lv_iconst (v := 0) hx hb dX1_payOut_69 (by decide) ?_
              refine W.widen (k := 1) (n := 4) (Nat.le_of_ble_eq_true rfl) (Nat.le_of_ble_eq_true rfl) ?_
              exact hJ_70 _ _ _ 0 (gi_0 ((((gi_ca_f c_15).trans (gi_ca_t c_14)).trans (gi_na_f c_13)).trans (gi_ca_t c_12))) hR hS (lv_sub hl [2, 3, 1, 0] rfl)
            · skip
              have c_15 : (xf_proves S p2.toNatClampNeg p1.toNatClampNeg) = true := gs_zt (φ := (xf_proves S p2.toNatClampNeg p1.toNatClampNeg) = true) c_15
              refine lv_aload_n hx hb dX1_payOut_55 rfl (lv_at hl 2 rfl) ?_
              refine lv_aload_n hx hb dX1_payOut_56 rfl (lv_at hl 1 rfl) ?_
              refine lv_aload hx hb dX1_payOut_57 (lv_at hl 0 rfl) ?_
              refine cq_V (v := (some (.int (gs_bz (xf_isBeaten S p1.toNatClampNeg p2.toNatClampNeg))))) (As := [.ref (g 3 p1.toNatClampNeg), .ref (g 4 p2.toNatClampNeg)]) (rest := []) hK hZ hA hAA hS hR ⟨hI, hh, (by first | assumption | omega), (by first | assumption | omega)⟩ (xt_isBeaten l E C A H.size g h S p1.toNatClampNeg p2.toNatClampNeg) (fun _ h => h) ⟨hx, hb, hml, hown, hts⟩ (cwV 2 hts (lw_V q815 q817 qs12 q33 q818) rfl rfl rfl (by decide +kernel) ⟨Nat.le_of_ble_eq_true rfl, Nat.le_of_ble_eq_true rfl⟩) (kw_recv (t := 0) (i := 0) hK.1 hR rfl rfl rfl) rfl hl.1 rfl (Nat.le_of_ble_eq_true rfl) dX1_payOut_59 ⟨Nat.le_of_ble_eq_true rfl, Nat.le_of_ble_eq_true rfl⟩ (fun H locs hB hz hk hS => ?_)
              have hR : (xw E C g h S A) H := hB
              refine W.eq (g2 := F0 m 62 ls [.int (if (xf_isBeaten S p1.toNatClampNeg p2.toNatClampNeg) = true then 1 else 0)]) rfl ?_
              refine lv_if_ne (tgt := 69) hx hb dX1_payOut_62 (by decide) (fun c_16 => ?_) (fun c_16 => ?_)
              · skip
                have c_16 : (xf_isBeaten S p1.toNatClampNeg p2.toNatClampNeg) = true := gs_zt (φ := (xf_isBeaten S p1.toNatClampNeg p2.toNatClampNeg) = true) c_16
                refine lv_iconst (v := 0) hx hb dX1_payOut_69 (by decide) ?_
                exact hJ_70 _ _ _ 0 (gi_0 (((((gi_nb_t c_16).trans (gi_ca_t c_15)).trans (gi_ca_t c_14)).trans (gi_na_f c_13)).trans (gi_ca_t c_12))) hR hS (lv_sub hl [2, 3, 1, 0] rfl)
              · skip
                have c_16 : ¬ ((xf_isBeaten S p1.toNatClampNeg p2.toNatClampNeg) = true) := gs_zf (φ := (xf_isBeaten S p1.toNatClampNeg p2.toNatClampNeg) = true) c_16
                refine lv_iconst (v := 1) hx hb dX1_payOut_65 (by decide) ?_
                refine lv_goto (tgt := 70) hx hb dX1_payOut_66 (by decide) ?_
                exact hJ_70 _ _ _ 1 (gi_1 (((((gi_nb_f c_16).trans (gi_ca_t c_15)).trans (gi_ca_t c_14)).trans (gi_na_f c_13)).trans (gi_ca_t c_12))) hR hS (lv_sub hl [2, 3, 1, 0] rfl)
    · skip
      have hf := (if_neg c_2).symm.trans hf
      refine cx_V (As := [.int p2]) (rest := []) hK hZ hA hAA hS hR ⟨hI, hh, c_2⟩ (xx_claimAt l hfl E C A H.size g h S p2) (fun _ h => hA _ (Nat.le_trans hS.1 h)) ⟨hx, hb, hml, hown, hts⟩ (cwV 1 hts (lw_V q759 q761 qs6 q33 q762) rfl rfl rfl (by decide +kernel) ⟨Nat.le_of_ble_eq_true rfl, Nat.le_of_ble_eq_true rfl⟩) (kw_recv (t := 0) (i := 0) hK.1 hR rfl rfl rfl) rfl hl.1 rfl (Nat.le_of_ble_eq_true rfl) dX1_payOut_8 ⟨Nat.le_of_ble_eq_true rfl, Nat.le_of_ble_eq_true rfl⟩ (fun ce q9 H locs hB hz hk hS hc9 hv9 hcl => ?_)
      have hR := hR.kept (fun a _ h => hk a h (Nat.not_le.mpr h))
      exact vx_out (fun x h => (hnt x h).elim) hlocks hc9 hv9 hcl (fun t ht _ => ⟨⟨hf.symm, by rw [ht]; exact hR⟩, hS.F ht⟩) hS.2.2 (Nat.le_of_ble_eq_true rfl) (Nat.le_of_ble_eq_true rfl)
  · skip
    have hf := (if_neg c_1).symm.trans hf
    refine cx_V (As := [.int p1]) (rest := []) hK hZ hA hAA hS hR ⟨hI, hh, c_1⟩ (xx_findAt l hfl E C A s.heap.size g h S p1) (fun _ h => hA _ (Nat.le_trans hS.1 h)) ⟨hx, hb, hml, hown, hts⟩ (cwV 1 hts (lw_V q586 q588 qs4 q33 q589) rfl rfl rfl (by decide +kernel) ⟨Nat.le_of_ble_eq_true rfl, Nat.le_of_ble_eq_true rfl⟩) (kw_recv (t := 0) (i := 0) hK.1 hR rfl rfl rfl) rfl hl.1 rfl (Nat.le_of_ble_eq_true rfl) dX1_payOut_2 ⟨Nat.le_of_ble_eq_true rfl, Nat.le_of_ble_eq_true rfl⟩ (fun ce q9 H locs hB hz hk hS hc9 hv9 hcl => ?_)
    have hR := hR.kept (fun a _ h => hk a h (Nat.not_le.mpr h))
    exact vx_out (fun x h => (hnt x h).elim) hlocks hc9 hv9 hcl (fun t ht _ => ⟨⟨hf.symm, by rw [ht]; exact hR⟩, hS.F ht⟩) hS.2.2 (Nat.le_of_ble_eq_true rfl) (Nat.le_of_ble_eq_true rfl)
set_option maxHeartbeats 2000000 in
set_option maxRecDepth 100000 in
theorem xs_isDue (l : Launch) (hfl : l.stackTraces = false) (E : en_T) (C : ex_C) (A : Nat → Prop) (sz : Nat) (g : kw_A) (h : xh_T) (S : gs_T) (p1 : Int32) : vx_Met l yX1_isDue (ws_ yX1_isDue cX1_isDue 2 (some .boolean)) { frames := 10, cells := 2, slots := 10, locals := 224 } (cpc E C A sz [.ref (g 0 0), .int p1] (xw E C g h S A) (xi_ok S ∧ xh C g h S)) (xq_Q gs_bz E C (g 0 0) A (xp_isDue S p1)) (xq_X E C g h S A (xp_isDue S p1)) 2 10 A := by
  refine cx_start (by decide) (Nat.le_of_ble_eq_true rfl) ?_
  intro p e s m below meth c ls hx hb hr hlocks hml hown hnm hnt hts hsz hK hZ hA hR hP hl
  subst hsz
  have hAA : ∀ a, A a → A a := fun _ h => h
  have hl : lv_has ls 2 [(0, .ref (g 0 0)), (1, .int p1)] := hl
  have hS : va_S A s.heap s.heap [] := va_S.rf
  have hZr := hZ
  obtain ⟨hI, hh⟩ := hP
  have hf : (xp_isDue S p1) = (xp_isDue S p1) := rfl
  refine lv_aload_n hx hb dX1_isDue_0 rfl (lv_at hl 0 rfl) ?_
  refine lv_aload_n hx hb dX1_isDue_1 rfl (lv_at hl 0 rfl) ?_
  refine lv_iload_n hx hb dX1_isDue_2 rfl (lv_at hl 1 rfl) ?_
  by_cases c_1 : (xf_isIn p1 0 ((S 21 1) - 1)) = true
  · skip
    have hf := (if_pos c_1).symm.trans hf
    have of_3 := (xq_f hI c_1).1
    refine cq_V (v := (some (.ref (g 3 p1.toNatClampNeg)))) (As := [.int p1]) (rest := [.ref (g 0 0)]) hK hZ hA hAA hS hR ⟨hI, hh, c_1⟩ (xt_findAt l E C A s.heap.size g h S p1) (fun _ h => hA _ (Nat.le_trans hS.1 h)) ⟨hx, hb, hml, hown, hts⟩ (cwV 1 hts (lw_V q586 q588 qs4 q33 q589) rfl rfl rfl (by decide +kernel) ⟨Nat.le_of_ble_eq_true rfl, Nat.le_of_ble_eq_true rfl⟩) (kw_recv (t := 0) (i := 0) hK.1 hR rfl rfl rfl) rfl hl.1 rfl (Nat.le_of_ble_eq_true rfl) dX1_isDue_3 ⟨Nat.le_of_ble_eq_true rfl, Nat.le_of_ble_eq_true rfl⟩ (fun H locs hB hz hk hS => ?_)
    have hR := hR.kept (fun a _ h => hk a h (Nat.not_le.mpr h))
    refine W.eq (g2 := F0 m 6 ls [.ref (g 3 p1.toNatClampNeg), .ref (g 0 0)]) rfl ?_
    refine cq_V (v := (some (.int (gs_bz (xf_isOver S p1.toNatClampNeg))))) (As := [.ref (g 3 p1.toNatClampNeg)]) (rest := []) hK hZ hA hAA hS hR ⟨hI, hh, (by first | assumption | omega)⟩ (xt_isOver l E C A H.size g h S p1.toNatClampNeg) (fun _ h => h) ⟨hx, hb, hml, hown, hts⟩ (cwV 1 hts (lw_V q833 q835 qs13 q33 q836) rfl rfl rfl (by decide +kernel) ⟨Nat.le_of_ble_eq_true rfl, Nat.le_of_ble_eq_true rfl⟩) (kw_recv (t := 0) (i := 0) hK.1 hR rfl rfl rfl) rfl hl.1 rfl (Nat.le_of_ble_eq_true rfl) dX1_isDue_6 ⟨Nat.le_of_ble_eq_true rfl, Nat.le_of_ble_eq_true rfl⟩ (fun H locs hB hz hk hS => ?_)
    have hR : (xw E C g h S A) H := hB
    refine W.eq (g2 := F0 m 9 ls [.int (if (xf_isOver S p1.toNatClampNeg) = true then 1 else 0)]) rfl ?_
    refine W.widen (k := 2) (n := 10) (Nat.le_of_ble_eq_true rfl) (Nat.le_of_ble_eq_true rfl) ?_
    exact vx_ret (W.zret (v := (if (xf_isOver S p1.toNatClampNeg) = true then 1 else 0)) hx hb hr gs_nar (fun t ht hW => ⟨⟨_, _, hf.symm, (congrArg (fun z => Outcome.returned (some (Value.int z))) gs_bz_dec), g, h, rfl, hh, by rw [ht]; exact hR⟩, hS.F ht⟩) hS.2.2 dX1_isDue_9)
  · skip
    have hf := (if_neg c_1).symm.trans hf
    refine cx_V (As := [.int p1]) (rest := [.ref (g 0 0)]) hK hZ hA hAA hS hR ⟨hI, hh, c_1⟩ (xx_findAt l hfl E C A s.heap.size g h S p1) (fun _ h => hA _ (Nat.le_trans hS.1 h)) ⟨hx, hb, hml, hown, hts⟩ (cwV 1 hts (lw_V q586 q588 qs4 q33 q589) rfl rfl rfl (by decide +kernel) ⟨Nat.le_of_ble_eq_true rfl, Nat.le_of_ble_eq_true rfl⟩) (kw_recv (t := 0) (i := 0) hK.1 hR rfl rfl rfl) rfl hl.1 rfl (Nat.le_of_ble_eq_true rfl) dX1_isDue_3 ⟨Nat.le_of_ble_eq_true rfl, Nat.le_of_ble_eq_true rfl⟩ (fun ce q9 H locs hB hz hk hS hc9 hv9 hcl => ?_)
    have hR := hR.kept (fun a _ h => hk a h (Nat.not_le.mpr h))
    exact vx_out (fun x h => (hnt x h).elim) hlocks hc9 hv9 hcl (fun t ht _ => ⟨⟨hf.symm, by rw [ht]; exact hR⟩, hS.F ht⟩) hS.2.2 (Nat.le_of_ble_eq_true rfl) (Nat.le_of_ble_eq_true rfl)
set_option maxHeartbeats 2000000 in
set_option maxRecDepth 100000 in
theorem xs_lose (l : Launch) (hfl : l.stackTraces = false) (E : en_T) (C : ex_C) (A : Nat → Prop) (sz : Nat) (g : kw_A) (h : xh_T) (S : gs_T) (p1 : Int32) : vx_Met l yX1_lose (ws_ yX1_lose cX1_lose 5 (some .int)) { frames := 7, cells := 2, slots := 10, locals := 120 } (cpc E C A sz [.ref (g 0 0), .int p1] (xw E C g h S A) (xi_ok S ∧ xh C g h S)) (xq_Q (fun z => z) E C (g 0 0) A (xp_lose S p1)) (xq_X E C g h S A (xp_lose S p1)) 2 10 A := by
  refine cx_start (by decide) (Nat.le_of_ble_eq_true rfl) ?_
  intro p e s m below meth c ls hx hb hr hlocks hml hown hnm hnt hts hsz hK hZ hA hR hP hl
  subst hsz
  have hAA : ∀ a, A a → A a := fun _ h => h
  have hl : lv_has ls 5 [(0, .ref (g 0 0)), (1, .int p1)] := hl
  have hS : va_S A s.heap s.heap [] := va_S.rf
  have hZr := hZ
  obtain ⟨hI, hh⟩ := hP
  have hf : (xp_lose S p1) = (xp_lose S p1) := rfl
  refine lv_iload_n hx hb dX1_lose_0 rfl (lv_at hl 1 rfl) ?_
  refine lv_iconst (v := 0) hx hb dX1_lose_1 (by decide) ?_
  refine lv_iconst (v := 5) hx hb dX1_lose_2 (by decide) ?_
  refine ps_calli (As := [.int p1, .int 0, .int 5]) (rest := []) ⟨hx, hb, hml, hown, hts⟩ (xt_isIn l p1 0 5) (va_cwS 3 hts (lw_S q295 q296 q33 q297) rfl rfl rfl (by decide +kernel) ⟨Nat.le_of_ble_eq_true rfl, Nat.le_of_ble_eq_true rfl⟩) trivial hS rfl hl.1 rfl (Nat.le_of_ble_eq_true rfl) dX1_lose_3 ⟨Nat.zero_le _, Nat.zero_le _⟩ (fun H locs hz hk hS => ?_)
  have hR := hR.kept (fun a _ h => hk a h)
  by_cases c_1 : (xf_isIn p1 0 5) = true
  · skip
    have hf := (if_pos c_1).symm.trans hf
    have c_2 := xq_vp6 c_1
    refine ps_callv (As := [.int (if (xf_isIn p1 0 5) = true then 1 else 0)]) (rest := []) ⟨hx, hb, hml, hown, hts⟩ (xo_requireIndex l _) (va_cwS 1 hts (lw_S q298 q299 q33 q300) rfl rfl rfl (by decide +kernel) ⟨Nat.le_of_ble_eq_true rfl, Nat.le_of_ble_eq_true rfl⟩) (if_pos c_1) hS rfl hl.1 rfl (Nat.le_of_ble_eq_true rfl) dX1_lose_6 ⟨Nat.le_of_ble_eq_true rfl, Nat.le_of_ble_eq_true rfl⟩ (fun H locs hz hk hS => ?_)
    have hR := hR.kept (fun a _ h => hk a h)
    refine lv_iconst (v := 0) hx hb dX1_lose_9 (by decide) ?_
    refine lv_istore_n (lv' := [(2, .int 0), (0, .ref (g 0 0)), (1, .int p1)]) hx hb dX1_lose_10 rfl hl (by decide) rfl (fun ls hl => ?_)
    refine lv_aload_n hx hb dX1_lose_11 rfl (lv_at hl 1 rfl) ?_
    refine kw_get (C := RX1) (T := TX1) (N := 12) (v := .ref (g 1 1)) hx hb hts in_X1 hown hK.1 hR 0 0 rfl rfl rfl 7 (by decide) (hts _ q176) (fun _ h9 => h9) rfl dX1_lose_12 ?_
    refine cq_FE (As := []) (rest := []) hK hZ hA hAA hS hR ⟨xok_8, (xg_hn (E := E) (C := C) (g := g) (h := h) (k := 0) hI (Nat.lt_of_lt_of_le (by decide) (Nat.le_add_right 7 _)) (Nat.zero_le _)).1, (xg_hn (E := E) (C := C) (g := g) (h := h) (k := 0) hI (Nat.lt_of_lt_of_le (by decide) (Nat.le_add_right 7 _)) (Nat.zero_le _)).2.1⟩ (jt_iterator l E C A H.size (xok S) g (xen E C g h S) 1 (nz S 1) (S 20 1) (.ref (if cz S 1 = 0 then C.2.1 else g 2 1))) (fun _ h => h) (hK.1.1 5 _ rfl).2 ⟨hx, hb, hml, hown, hts⟩ (va_cwF 0 hts (lw_F q611 q614 q616 q36 q618) rfl rfl rfl (fw_iterator hK) (by decide +kernel) ⟨Nat.le_of_ble_eq_true rfl, Nat.le_of_ble_eq_true rfl⟩) (kw_recv (t := 1) (i := 1) hK.1 hR (Nat.lt_of_lt_of_le (by decide) (Nat.le_add_right 7 _)) rfl rfl) rfl hl.1 rfl (Nat.le_of_ble_eq_true rfl) dX1_lose_15 ⟨Nat.le_of_ble_eq_true rfl, Nat.le_of_ble_eq_true rfl⟩ (fun q_15 H locs hB hz hk hS => ?_)
    have hR : (xwi E C g h S q_15 0 (S 20 1) (g 1 1) A) H := hB.2
    refine W.eq (g2 := F0 m 20 ls [.ref q_15]) rfl ?_
    refine lv_astore_n (lv' := [(3, .ref q_15), (2, .int 0), (0, .ref (g 0 0)), (1, .int p1)]) hx hb dX1_lose_20 rfl hl (by decide) rfl (fun ls hl => ?_)
    have hL_21 : ∀ (n_21 i_21 : Nat) (x2_21 : Int32) (S_21 : gs_T) (H : Heap) (locs : List Loc) (ls : Array Slot), i_21 + n_21 = (nz S 1) → xp_lose_R21 p1 n_21 i_21 (x2_21, S_21) = (xp_lose_R21 p1 (nz S 1) 0 (0, S)) → xi_ok S_21 ∧ nz S_21 1 = nz S 1 → (xwi E C g h S_21 q_15 i_21 (S_21 20 1) (g 1 1) A) H → xh C g h S_21 → va_S A s.heap H locs → lv_has ls 5 [(1, .int p1), (2, .int x2_21), (3, .ref q_15)] → cx_G p l e { frames := 7, cells := 2, slots := 10, locals := 120 } s m [.ref (g 0 0), .int p1] below meth c A (xq_Q (fun z => z) E C (g 0 0) A (xp_lose S p1)) (xq_X E C g h S A (xp_lose S p1)) 2 10 H locs 1 4 (F0 m 21 ls []) := by
      intro n_21
      induction n_21 with
      | zero =>
        intro i_21 x2_21 S_21 H locs ls hi_21 hg_21 hI_21 hR hh hS hl
        have hi_21 : i_21 = (nz S 1) := hi_21
        subst hi_21
        have e_x2_21 : x2_21 = (xp_lose_R21 p1 (nz S 1) 0 (0, S)).1 := congrArg (fun z => z.1) hg_21
        have e_S_21 : S_21 = (xp_lose_R21 p1 (nz S 1) 0 (0, S)).2 := congrArg (fun z => z.2) hg_21
        subst e_x2_21
        subst e_S_21
        refine lv_aload_n hx hb dX1_lose_21 rfl (lv_at hl 2 rfl) ?_
        refine cq_F (v := (some (.int (gs_bz (decide ((nz S 1) < nz ((xp_lose_R21 p1 (nz S 1) 0 (0, S)).2) 1)))))) (As := []) (rest := []) hK hZ hA hAA hS hR (xg_hn hI_21.1 (Nat.lt_of_lt_of_le (by decide) (Nat.le_add_right 7 _)) (Nat.le_of_eq hI_21.2.symm)) (jt_hasNext l E C A H.size (xok ((xp_lose_R21 p1 (nz S 1) 0 (0, S)).2)) g (xen E C g h ((xp_lose_R21 p1 (nz S 1) 0 (0, S)).2)) 1 q_15 (nz S 1) (nz ((xp_lose_R21 p1 (nz S 1) 0 (0, S)).2) 1) (((xp_lose_R21 p1 (nz S 1) 0 (0, S)).2) 20 1) (.ref (if cz ((xp_lose_R21 p1 (nz S 1) 0 (0, S)).2) 1 = 0 then C.2.1 else g 2 1))) (fun _ h => hA _ (Nat.le_trans hS.1 h)) (hK.1.1 6 _ rfl).2 ⟨hx, hb, hml, hown, hts⟩ (va_cwF 0 hts (lw_F q639 q643 q645 q58 q647) rfl rfl rfl (fw_hasNext hK) (by decide +kernel) ⟨Nat.le_of_ble_eq_true rfl, Nat.le_of_ble_eq_true rfl⟩) (kw_recv (t := 8) (i := 0) hK.1 hR rfl rfl rfl) rfl hl.1 rfl (Nat.le_of_ble_eq_true rfl) dX1_lose_22 ⟨Nat.le_of_ble_eq_true rfl, Nat.le_of_ble_eq_true rfl⟩ (fun H locs hB hz hk hS => ?_)
        have hR := hR.kept (fun a _ h => hk a h (Nat.not_le.mpr h))
        refine W.eq (g2 := F0 m 27 ls [.int (if (nz S 1) < nz ((xp_lose_R21 p1 (nz S 1) 0 (0, S)).2) 1 then 1 else 0)]) (by rw [gs_bz_dec]; rfl) ?_
        refine lv_if_eq (tgt := 71) hx hb dX1_lose_27 (by decide) (fun c_3 => ?_) (fun c_3 => absurd (gs_zt c_3) (by rw [hI_21.2]; exact Nat.lt_irrefl _))
        refine lv_iload_n hx hb dX1_lose_71 rfl (lv_at hl 1 rfl) ?_
        refine W.widen (k := 2) (n := 10) (Nat.le_of_ble_eq_true rfl) (Nat.le_of_ble_eq_true rfl) ?_
        exact vx_ret (W.iret (v := (xp_lose_R21 p1 (nz S 1) 0 (0, S)).1) hx hb hr (fun t ht hW => ⟨⟨_, _, hf.symm, rfl, g, h, rfl, hh, by rw [ht]; exact (xwi_x hR)⟩, hS.F ht⟩) hS.2.2 dX1_lose_72)
      | succ n_21 ih_21 =>
        intro i_21 x2_21 S_21 H locs ls hi_21 hg_21 hI_21 hR hh hS hl
        have hlt_21 : i_21 < (nz S 1) := by omega
        have hf_21 : xp_lose_L21 p1 i_21 x2_21 S_21 = xp_lose_L21 p1 i_21 x2_21 S_21 := rfl
        have hl2_21 : i_21 < nz S_21 1 := by rw [hI_21.2]; exact hlt_21
        refine lv_aload_n hx hb dX1_lose_21 rfl (lv_at hl 2 rfl) ?_
        refine cq_F (v := (some (.int (gs_bz (decide (i_21 < nz S_21 1)))))) (As := []) (rest := []) hK hZ hA hAA hS hR (xg_hn hI_21.1 (Nat.lt_of_lt_of_le (by decide) (Nat.le_add_right 7 _)) (Nat.le_of_lt hl2_21)) (jt_hasNext l E C A H.size (xok S_21) g (xen E C g h S_21) 1 q_15 i_21 (nz S_21 1) (S_21 20 1) (.ref (if cz S_21 1 = 0 then C.2.1 else g 2 1))) (fun _ h => hA _ (Nat.le_trans hS.1 h)) (hK.1.1 6 _ rfl).2 ⟨hx, hb, hml, hown, hts⟩ (va_cwF 0 hts (lw_F q639 q643 q645 q58 q647) rfl rfl rfl (fw_hasNext hK) (by decide +kernel) ⟨Nat.le_of_ble_eq_true rfl, Nat.le_of_ble_eq_true rfl⟩) (kw_recv (t := 8) (i := 0) hK.1 hR rfl rfl rfl) rfl hl.1 rfl (Nat.le_of_ble_eq_true rfl) dX1_lose_22 ⟨Nat.le_of_ble_eq_true rfl, Nat.le_of_ble_eq_true rfl⟩ (fun H locs hB hz hk hS => ?_)
        have hR := hR.kept (fun a _ h => hk a h (Nat.not_le.mpr h))
        refine W.eq (g2 := F0 m 27 ls [.int (if i_21 < nz S_21 1 then 1 else 0)]) (by rw [gs_bz_dec]; rfl) ?_
        refine lv_if_eq (tgt := 71) hx hb dX1_lose_27 (by decide) (fun c_4 => absurd hl2_21 (gs_zf c_4)) (fun c_4 => ?_)
        refine lv_aload_n hx hb dX1_lose_30 rfl (lv_at hl 2 rfl) ?_
        refine cq_F (v := (some (.ref (g 3 i_21)))) (As := []) (rest := []) hK hZ hA hAA hS hR (xg_next hI_21.1 hh (Nat.lt_of_lt_of_le (by decide) (Nat.le_add_right 7 _)) hl2_21) (jt_next l E C A H.size (xok S_21) g (xen E C g h S_21) 1 q_15 i_21 (nz S_21 1) (cz S_21 1) (S_21 20 1) (h 1) (g 3 i_21)) (fun _ h => h) (hK.1.1 6 _ rfl).2 ⟨hx, hb, hml, hown, hts⟩ (va_cwF 0 hts (lw_F q649 q652 q654 q58 q656) rfl rfl rfl (fw_next hK) (by decide +kernel) ⟨Nat.le_of_ble_eq_true rfl, Nat.le_of_ble_eq_true rfl⟩) (kw_recv (t := 8) (i := 0) hK.1 hR rfl rfl rfl) rfl hl.1 rfl (Nat.le_of_ble_eq_true rfl) dX1_lose_31 ⟨Nat.le_of_ble_eq_true rfl, Nat.le_of_ble_eq_true rfl⟩ (fun H locs hB hz hk hS => ?_)
        have hR : (xwi E C g h S_21 q_15 (i_21 + 1) (S_21 20 1) (g 1 1) A) H := hB
        refine W.eq (g2 := F0 m 36 ls [.ref (g 3 i_21)]) rfl ?_
        refine va_castS hx hb hown (hts _ q496) (hK.1.1 2 _ rfl).2 (kw_recv (t := 3) (i := i_21) hK.1 (xwi_x hR) hl2_21 rfl rfl) dX1_lose_36 ?_
        refine lv_astore (lv' := [(4, .ref (g 3 i_21)), (1, .int p1), (2, .int x2_21), (3, .ref q_15)]) hx hb dX1_lose_39 hl (by decide) rfl (fun ls hl => ?_)
        refine lv_aload hx hb dX1_lose_41 (lv_at hl 0 rfl) ?_
        refine kw_getN (C := RX3) (T := TX3) (N := 15) (v := .int (S_21 36 i_21)) hx hb hts in_X3 hown hK.1 (xwi_x hR) 3 i_21 hl2_21 rfl rfl 6 (by decide) (va_Nw.use rfl (hK.2.1 _ q536 rfl)) (fun _ h9 => h9) rfl dX1_lose_43 ?_
        refine lv_iconst (v := 1) hx hb dX1_lose_46 (by decide) ?_
        refine lv_icmp_ne (tgt := 68) hx hb dX1_lose_47 (by decide) (fun c_5 => ?_) (fun c_5 => ?_)
        · skip
          have hf_21 := (if_neg c_5).symm.trans hf_21
          refine lv_goto (tgt := 21) hx hb dX1_lose_68 (by decide) ?_
          exact ih_21 (i_21 + 1) x2_21 S_21 _ _ _ (by omega) ((congrArg (fun z => xp_lose_R21 p1 n_21 (i_21 + 1) z) hf_21).trans hg_21) (by first | exact hI_21 | exact ⟨xi_up rfl hI_21.1, hI_21.2⟩) hR hh hS (lv_sub hl [1, 2, 3] rfl)
        · skip
          have hf_21 := (if_pos c_5).symm.trans hf_21
          refine lv_aload hx hb dX1_lose_50 (lv_at hl 0 rfl) ?_
          refine kw_getN (C := RX3) (T := TX3) (N := 15) (v := .int (S_21 39 i_21)) hx hb hts in_X3 hown hK.1 (xwi_x hR) 3 i_21 hl2_21 rfl rfl 9 (by decide) (va_Nw.use rfl (hK.2.1 _ q541 rfl)) (fun _ h9 => h9) rfl dX1_lose_52 ?_
          refine lv_iload_n hx hb dX1_lose_55 rfl (lv_at hl 1 rfl) ?_
          refine lv_icmp_ne (tgt := 68) hx hb dX1_lose_56 (by decide) (fun c_6 => ?_) (fun c_6 => ?_)
          · skip
            have hf_21 := (if_neg c_6).symm.trans hf_21
            refine lv_goto (tgt := 21) hx hb dX1_lose_68 (by decide) ?_
            exact ih_21 (i_21 + 1) x2_21 S_21 _ _ _ (by omega) ((congrArg (fun z => xp_lose_R21 p1 n_21 (i_21 + 1) z) hf_21).trans hg_21) (by first | exact hI_21 | exact ⟨xi_up rfl hI_21.1, hI_21.2⟩) hR hh hS (lv_sub hl [1, 2, 3] rfl)
          · skip
            have hf_21 := (if_pos c_6).symm.trans hf_21
            refine lv_aload hx hb dX1_lose_59 (lv_at hl 0 rfl) ?_
            refine lv_iconst (v := 2) hx hb dX1_lose_61 (by decide) ?_
            refine kw_putN (C := RX3) (T := TX3) (N := 15) hx hb hts in_X3 tyX3 tyX3_ok nmX3 hown hK.1 hR hS 3 i_21 hl2_21 rfl rfl 6 (by decide) (va_Nw.use rfl (hK.2.1 _ q536 rfl)) (fun _ h9 => h9) rfl rfl rfl rfl (Nat.le_of_ble_eq_true rfl) dX1_lose_62 (it_en [.int (nI (i_21 + 1)), .int (nI (i_21 + 1) - 1), .int (S_21 20 1), .ref (g 1 1)] (xen E C g h (gs_up S_21 36 i_21 2))) (xe_f (E := E) (C := C) (h := h) (k := 6) rfl) (it_hc (xn_f (E := E) (C := C) (g := g) (h := h) (k := 6) rfl)) (fun H locs hR hS => ?_)
            have hR := xwi_up (b := 0) rfl hR
            have hh := xh_up (k := 36) (i := i_21) (v := 2) rfl hh
            refine lv_iinc (v := (x2_21 + 1)) (lv' := [(2, .int (x2_21 + 1)), (4, .ref (g 3 i_21)), (1, .int p1), (3, .ref q_15)]) hx hb dX1_lose_65 hl (k := 2) rfl rfl (by decide) rfl (fun ls hl => ?_)
            refine lv_goto (tgt := 21) hx hb dX1_lose_68 (by decide) ?_
            exact ih_21 (i_21 + 1) (x2_21 + 1) (gs_up S_21 36 i_21 2) _ _ _ (by omega) ((congrArg (fun z => xp_lose_R21 p1 n_21 (i_21 + 1) z) hf_21).trans hg_21) (by first | exact hI_21 | exact ⟨xi_up rfl hI_21.1, hI_21.2⟩) hR hh hS (lv_sub hl [2, 0, 3] rfl)
    exact hL_21 (nz S 1) 0 0 S _ _ _ (by omega) rfl ⟨hI, rfl⟩ hR hh hS (lv_sub hl [3, 1, 0] rfl)
  · skip
    have hf := (if_neg c_1).symm.trans hf
    refine W.eq (g2 := F0 m 6 ls [.int 0]) (congrArg (fun z => F0 m 6 ls (.int z :: [])) (if_neg c_1)) ?_
    refine cx_S (X := fun _ => True) (P := True) (As := [.int 0]) (rest := []) hK hZ hA hAA hS trivial trivial (xt_requireIndex l hfl E C A H.size) (fun _ h => hA _ (Nat.le_trans hS.1 h)) ⟨hx, hb, hml, hown, hts⟩ (va_cwS 1 hts (lw_S q298 q299 q33 q300) rfl rfl rfl (by decide +kernel) ⟨Nat.le_of_ble_eq_true rfl, Nat.le_of_ble_eq_true rfl⟩) rfl hl.1 rfl (Nat.le_of_ble_eq_true rfl) dX1_lose_6 ⟨Nat.le_of_ble_eq_true rfl, Nat.le_of_ble_eq_true rfl⟩ (fun ce q9 H locs hB hz hk hS hc9 hv9 hcl => ?_)
    have hR := hR.kept (fun a _ h => hk a h (Nat.not_le.mpr h))
    exact vx_out (fun x h => (hnt x h).elim) hlocks hc9 hv9 hcl (fun t ht _ => ⟨⟨hf.symm, by rw [ht]; exact hR⟩, hS.F ht⟩) hS.2.2 (Nat.le_of_ble_eq_true rfl) (Nat.le_of_ble_eq_true rfl)
