def xp_claim (S : gs_T) (p1 : Int32) (p2 : Int32) (p3 : Int32) (p4 : Int32) (p5 : Int32) : String ⊕ (Int32 × gs_T) := (if (xf_isIn p1 0 7) = true then (if (xf_isPlace p2) = true then (if ((xf_isIn p3 0 (S 0 0)) = true) ∧ (((xf_isIn p4 p3 (S 0 0)) = true) ∧ ((xf_isWords p5) = true)) then (if ¬ (20 ≤ (S 21 2)) then (.inr ((((xs_add (xm_S S (nz S 2) (ci_F p1 p2 p3 p4 p5)) 2) 21 2) - 1), (xs_add (xm_S S (nz S 2) (ci_F p1 p2 p3 p4 p5)) 2))) else (.inl "java/lang/IllegalStateException")) else (.inl "java/lang/IllegalArgumentException")) else (.inl "java/lang/IndexOutOfBoundsException")) else (.inl "java/lang/IndexOutOfBoundsException"))
def xp_find (S : gs_T) (p1 : Int32) (p2 : Int32) (p3 : Int32) (p4 : Int32) (p5 : Int32) (p6 : Int32) (p7 : Int32) : String ⊕ (Int32 × gs_T) := (if (xf_isIn p1 0 7) = true then (if ((xf_isPlace p2) = true) ∧ ((xf_isIn p7 0 5) = true) then (if ((xf_isIn p3 0 (S 0 0)) = true) ∧ (((xf_isWords p4) = true) ∧ (((xf_isWords p5) = true) ∧ (((p4 &&& p5) = 0) ∧ ((xf_isIn p6 0 9999) = true)))) then (if ¬ (30 ≤ (S 21 1)) then (.inr ((((xs_add (xb_S S (nz S 1) (fi_F S p1 p2 ((S 0 0) - p3) p4 p5 p6 p7) (S 0 0) p7) 1) 21 1) - 1), (xs_add (xb_S S (nz S 1) (fi_F S p1 p2 ((S 0 0) - p3) p4 p5 p6 p7) (S 0 0) p7) 1))) else (.inl "java/lang/IllegalStateException")) else (.inl "java/lang/IllegalArgumentException")) else (.inl "java/lang/IndexOutOfBoundsException")) else (.inl "java/lang/IndexOutOfBoundsException"))
set_option maxHeartbeats 2000000 in
set_option maxRecDepth 100000 in
theorem xt_claimInit (l : Launch) (E : en_T) (C : ex_C) (A : Nat → Prop) (sz : Nat) (g : kw_A) (h : xh_T) (S : gs_T) (p1 : Int32) (p2 : Int32) (p3 : Int32) (p4 : Int32) (p5 : Int32) : Met l yX5_init (ws_ yX5_init cX5_init 7 none) { frames := 1, cells := 0, slots := 0, locals := 32 } (cpc E C A sz [.ref (g 4 (nz S 2)), .ref (g 0 0), .int p1, .int p2, .int p3, .int p4, .int p5] (kw E (ku_ok 4 (nz S 2) (xok S)) g (ge_en 4 (nz S 2) (.inr (4, [.int 0, .int 0, .int 0, .int 0, .int 0, .int 0, .int 0, .int 0, .int 0, .null])) (xen E C g h S)) A) (xi_ok S ∧ xh C g h S)) (cq_Q none (fun H => kw E (ku_ok 4 (nz S 2) (xok S)) g (ge_en 4 (nz S 2) (.inr (4, xm_F g (ci_F p1 p2 p3 p4 p5))) (xen E C g h S)) A H) A) 0 0 A := by
  refine cq_start (by decide) (Nat.le_of_ble_eq_true rfl) ?_
  intro p e s m below meth c ls hx hb hr hlocks hml hown hnm hts hsz hK hZ hA hR hP hl
  subst hsz
  have hAA : ∀ a, A a → A a := fun _ h => h
  have hl : lv_has ls 7 [(0, .ref (g 4 (nz S 2))), (1, .ref (g 0 0)), (2, .int p1), (3, .int p2), (4, .int p3), (5, .int p4), (6, .int p5)] := hl
  have hS : va_S A s.heap s.heap [] := va_S.rf
  have hZr := hZ
  obtain ⟨hI, hh⟩ := hP
  refine lv_aload_n hx hb dX5_init_0 rfl (lv_at hl 0 rfl) ?_
  refine lv_aload_n hx hb dX5_init_1 rfl (lv_at hl 1 rfl) ?_
  refine kw_put (C := RX5) (T := TX5) (N := 10) hx hb hts in_X5 tyX5 tyX5_ok nmX5 hown hK.1 hR hS 4 (nz S 2) (Or.inl ⟨rfl, rfl⟩) ge_s rfl 9 (by decide) (hts _ q730) (fun _ h9 => h9) (Or.inr ⟨rfl, hnm, rfl⟩) rfl rfl rfl (Nat.le_of_ble_eq_true rfl) dX5_init_2 (ge_en 4 (nz S 2) (.inr (4, [.int 0, .int 0, .int 0, .int 0, .int 0, .int 0, .int 0, .int 0, .int 0, .ref (g 0 0)])) (xen E C g h S)) ge_s ge_2 (fun H locs hR hS => ?_)
  refine lv_aload_n hx hb dX5_init_5 rfl (lv_at hl 0 rfl) ?_
  refine W.objInit hx hb hown (hts _ q711) (hts _ q66) (hts _ q67) rfl (by rw [hml]; exact hl.1) rfl dX5_init_6 (Nat.le_of_ble_eq_true rfl) (Nat.le_of_ble_eq_true rfl) ?_
  refine W.eq (g2 := F0 m 9 ls []) rfl ?_
  refine lv_aload_n hx hb dX5_init_9 rfl (lv_at hl 0 rfl) ?_
  refine lv_iconst (v := 0) hx hb dX5_init_10 (by decide) ?_
  refine kw_put (C := RX5) (T := TX5) (N := 10) hx hb hts in_X5 tyX5 tyX5_ok nmX5 hown hK.1 hR hS 4 (nz S 2) (Or.inl ⟨rfl, rfl⟩) ge_s rfl 6 (by decide) (hts _ q724) (fun _ h9 => h9) (Or.inl rfl) rfl rfl rfl (Nat.le_of_ble_eq_true rfl) dX5_init_11 (ge_en 4 (nz S 2) (.inr (4, [.int 0, .int 0, .int 0, .int 0, .int 0, .int 0, .int 0, .int 0, .int 0, .ref (g 0 0)])) (xen E C g h S)) ge_s ge_2 (fun H locs hR hS => ?_)
  refine lv_aload_n hx hb dX5_init_14 rfl (lv_at hl 0 rfl) ?_
  refine lv_iconst (v := (-1)) hx hb dX5_init_15 (by decide) ?_
  refine kw_put (C := RX5) (T := TX5) (N := 10) hx hb hts in_X5 tyX5 tyX5_ok nmX5 hown hK.1 hR hS 4 (nz S 2) (Or.inl ⟨rfl, rfl⟩) ge_s rfl 8 (by decide) (hts _ q728) (fun _ h9 => h9) (Or.inl rfl) rfl rfl rfl (Nat.le_of_ble_eq_true rfl) dX5_init_16 (ge_en 4 (nz S 2) (.inr (4, [.int 0, .int 0, .int 0, .int 0, .int 0, .int 0, .int 0, .int 0, .int (-1), .ref (g 0 0)])) (xen E C g h S)) ge_s ge_2 (fun H locs hR hS => ?_)
  refine lv_aload_n hx hb dX5_init_19 rfl (lv_at hl 0 rfl) ?_
  refine lv_iload_n hx hb dX5_init_20 rfl (lv_at hl 2 rfl) ?_
  refine kw_put (C := RX5) (T := TX5) (N := 10) hx hb hts in_X5 tyX5 tyX5_ok nmX5 hown hK.1 hR hS 4 (nz S 2) (Or.inl ⟨rfl, rfl⟩) ge_s rfl 0 (by decide) (hts _ q712) (fun _ h9 => h9) (Or.inr ⟨rfl, hnm, rfl⟩) rfl rfl rfl (Nat.le_of_ble_eq_true rfl) dX5_init_21 (ge_en 4 (nz S 2) (.inr (4, [.int p1, .int 0, .int 0, .int 0, .int 0, .int 0, .int 0, .int 0, .int (-1), .ref (g 0 0)])) (xen E C g h S)) ge_s ge_2 (fun H locs hR hS => ?_)
  refine lv_aload_n hx hb dX5_init_24 rfl (lv_at hl 0 rfl) ?_
  refine lv_iload_n hx hb dX5_init_25 rfl (lv_at hl 3 rfl) ?_
  refine kw_put (C := RX5) (T := TX5) (N := 10) hx hb hts in_X5 tyX5 tyX5_ok nmX5 hown hK.1 hR hS 4 (nz S 2) (Or.inl ⟨rfl, rfl⟩) ge_s rfl 1 (by decide) (hts _ q714) (fun _ h9 => h9) (Or.inr ⟨rfl, hnm, rfl⟩) rfl rfl rfl (Nat.le_of_ble_eq_true rfl) dX5_init_26 (ge_en 4 (nz S 2) (.inr (4, [.int p1, .int p2, .int 0, .int 0, .int 0, .int 0, .int 0, .int 0, .int (-1), .ref (g 0 0)])) (xen E C g h S)) ge_s ge_2 (fun H locs hR hS => ?_)
  refine lv_aload_n hx hb dX5_init_29 rfl (lv_at hl 0 rfl) ?_
  refine lv_iload hx hb dX5_init_30 (lv_at hl 4 rfl) ?_
  refine kw_put (C := RX5) (T := TX5) (N := 10) hx hb hts in_X5 tyX5 tyX5_ok nmX5 hown hK.1 hR hS 4 (nz S 2) (Or.inl ⟨rfl, rfl⟩) ge_s rfl 2 (by decide) (hts _ q716) (fun _ h9 => h9) (Or.inr ⟨rfl, hnm, rfl⟩) rfl rfl rfl (Nat.le_of_ble_eq_true rfl) dX5_init_32 (ge_en 4 (nz S 2) (.inr (4, [.int p1, .int p2, .int p3, .int 0, .int 0, .int 0, .int 0, .int 0, .int (-1), .ref (g 0 0)])) (xen E C g h S)) ge_s ge_2 (fun H locs hR hS => ?_)
  refine lv_aload_n hx hb dX5_init_35 rfl (lv_at hl 0 rfl) ?_
  refine lv_iload hx hb dX5_init_36 (lv_at hl 5 rfl) ?_
  refine kw_put (C := RX5) (T := TX5) (N := 10) hx hb hts in_X5 tyX5 tyX5_ok nmX5 hown hK.1 hR hS 4 (nz S 2) (Or.inl ⟨rfl, rfl⟩) ge_s rfl 3 (by decide) (hts _ q718) (fun _ h9 => h9) (Or.inr ⟨rfl, hnm, rfl⟩) rfl rfl rfl (Nat.le_of_ble_eq_true rfl) dX5_init_38 (ge_en 4 (nz S 2) (.inr (4, [.int p1, .int p2, .int p3, .int p4, .int 0, .int 0, .int 0, .int 0, .int (-1), .ref (g 0 0)])) (xen E C g h S)) ge_s ge_2 (fun H locs hR hS => ?_)
  refine lv_aload_n hx hb dX5_init_41 rfl (lv_at hl 0 rfl) ?_
  refine lv_iload hx hb dX5_init_42 (lv_at hl 6 rfl) ?_
  refine kw_put (C := RX5) (T := TX5) (N := 10) hx hb hts in_X5 tyX5 tyX5_ok nmX5 hown hK.1 hR hS 4 (nz S 2) (Or.inl ⟨rfl, rfl⟩) ge_s rfl 4 (by decide) (hts _ q720) (fun _ h9 => h9) (Or.inl rfl) rfl rfl rfl (Nat.le_of_ble_eq_true rfl) dX5_init_44 (ge_en 4 (nz S 2) (.inr (4, [.int p1, .int p2, .int p3, .int p4, .int p5, .int 0, .int 0, .int 0, .int (-1), .ref (g 0 0)])) (xen E C g h S)) ge_s ge_2 (fun H locs hR hS => ?_)
  exact W.vret hx hb hr (fun t ht hW => ⟨⟨rfl, (by rw [ht]; exact hR)⟩, hS.F ht⟩) hS.2.2 dX5_init_47
set_option maxHeartbeats 2000000 in
set_option maxRecDepth 100000 in
theorem xs_claim (l : Launch) (hfl : l.stackTraces = false) (E : en_T) (C : ex_C) (A : Nat → Prop) (sz : Nat) (g : kw_A) (h : xh_T) (S : gs_T) (p1 : Int32) (p2 : Int32) (p3 : Int32) (p4 : Int32) (p5 : Int32) : vx_Met l yX1_claim (ws_ yX1_claim cX1_claim 6 (some .int)) { frames := 8, cells := 2, slots := 60, locals := 241 } (cpc E C A sz [.ref (g 0 0), .int p1, .int p2, .int p3, .int p4, .int p5] (xw E C g h S A) (xi_ok S ∧ xh C g h S)) (xq_Q (fun z => z) E C (g 0 0) A (xp_claim S p1 p2 p3 p4 p5)) (xq_X E C g h S A (xp_claim S p1 p2 p3 p4 p5)) 2 60 A := by
  refine cx_start (by decide) (Nat.le_of_ble_eq_true rfl) ?_
  intro p e s m below meth c ls hx hb hr hlocks hml hown hnm hnt hts hsz hK hZ hA hR hP hl
  subst hsz
  have hAA : ∀ a, A a → A a := fun _ h => h
  have hl : lv_has ls 6 [(0, .ref (g 0 0)), (1, .int p1), (2, .int p2), (3, .int p3), (4, .int p4), (5, .int p5)] := hl
  have hS : va_S A s.heap s.heap [] := va_S.rf
  have hZr := hZ
  obtain ⟨hI, hh⟩ := hP
  have hf : (xp_claim S p1 p2 p3 p4 p5) = (xp_claim S p1 p2 p3 p4 p5) := rfl
  refine lv_iload_n hx hb dX1_claim_0 rfl (lv_at hl 1 rfl) ?_
  by_cases c_1 : (xf_isIn p1 0 7) = true
  · skip
    have hf := (if_pos c_1).symm.trans hf
    have c_2 := xq_vp8 c_1
    refine ps_callv (As := [.int p1]) (rest := []) ⟨hx, hb, hml, hown, hts⟩ (xo_requireKind l _) (va_cwS 1 hts (lw_S q350 q351 q33 q352) rfl rfl rfl (by decide +kernel) ⟨Nat.le_of_ble_eq_true rfl, Nat.le_of_ble_eq_true rfl⟩) c_1 hS rfl hl.1 rfl (Nat.le_of_ble_eq_true rfl) dX1_claim_1 ⟨Nat.le_of_ble_eq_true rfl, Nat.le_of_ble_eq_true rfl⟩ (fun H locs hz hk hS => ?_)
    have hR := hR.kept (fun a _ h => hk a h)
    refine lv_iload_n hx hb dX1_claim_4 rfl (lv_at hl 2 rfl) ?_
    refine ps_calli (As := [.int p2]) (rest := []) ⟨hx, hb, hml, hown, hts⟩ (xt_isPlace l p2) (va_cwS 1 hts (lw_S q489 q490 q33 q491) rfl rfl rfl (by decide +kernel) ⟨Nat.le_of_ble_eq_true rfl, Nat.le_of_ble_eq_true rfl⟩) trivial hS rfl hl.1 rfl (Nat.le_of_ble_eq_true rfl) dX1_claim_5 ⟨Nat.zero_le _, Nat.zero_le _⟩ (fun H locs hz hk hS => ?_)
    have hR := hR.kept (fun a _ h => hk a h)
    by_cases c_3 : (xf_isPlace p2) = true
    · skip
      have hf := (if_pos c_3).symm.trans hf
      have c_4 := xq_place c_3
      refine ps_callv (As := [.int (if (xf_isPlace p2) = true then 1 else 0)]) (rest := []) ⟨hx, hb, hml, hown, hts⟩ (xo_requireIndex l _) (va_cwS 1 hts (lw_S q298 q299 q33 q300) rfl rfl rfl (by decide +kernel) ⟨Nat.le_of_ble_eq_true rfl, Nat.le_of_ble_eq_true rfl⟩) (if_pos c_3) hS rfl hl.1 rfl (Nat.le_of_ble_eq_true rfl) dX1_claim_8 ⟨Nat.le_of_ble_eq_true rfl, Nat.le_of_ble_eq_true rfl⟩ (fun H locs hz hk hS => ?_)
      have hR := hR.kept (fun a _ h => hk a h)
      refine lv_iload_n hx hb dX1_claim_11 rfl (lv_at hl 3 rfl) ?_
      refine lv_iconst (v := 0) hx hb dX1_claim_12 (by decide) ?_
      refine lv_aload_n hx hb dX1_claim_13 rfl (lv_at hl 0 rfl) ?_
      refine kw_get (C := RX1) (T := TX1) (N := 12) (v := .int (S 0 0)) hx hb hts in_X1 hown hK.1 hR 0 0 rfl rfl rfl 0 (by decide) (hts _ q168) (fun _ h9 => h9) rfl dX1_claim_14 ?_
      refine ps_calli (As := [.int p3, .int 0, .int (S 0 0)]) (rest := []) ⟨hx, hb, hml, hown, hts⟩ (xt_isIn l p3 0 (S 0 0)) (va_cwS 3 hts (lw_S q295 q296 q33 q297) rfl rfl rfl (by decide +kernel) ⟨Nat.le_of_ble_eq_true rfl, Nat.le_of_ble_eq_true rfl⟩) trivial hS rfl hl.1 rfl (Nat.le_of_ble_eq_true rfl) dX1_claim_17 ⟨Nat.zero_le _, Nat.zero_le _⟩ (fun H locs hz hk hS => ?_)
      have hR := hR.kept (fun a _ h => hk a h)
      have hJ_49 : ∀ (H : Heap) (locs : List Loc) (ls : Array Slot) (v_49 : Int32), v_49 = (if ((xf_isIn p3 0 (S 0 0)) = true) ∧ (((xf_isIn p4 p3 (S 0 0)) = true) ∧ ((xf_isWords p5) = true)) then 1 else 0) → (xw E C g h S A) H → va_S A s.heap H locs → lv_has ls 6 [(0, .ref (g 0 0)), (1, .int p1), (2, .int p2), (3, .int p3), (4, .int p4), (5, .int p5)] → cx_G p l e { frames := 8, cells := 2, slots := 60, locals := 241 } s m [.ref (g 0 0), .int p1, .int p2, .int p3, .int p4, .int p5] below meth c A (xq_Q (fun z => z) E C (g 0 0) A (xp_claim S p1 p2 p3 p4 p5)) (xq_X E C g h S A (xp_claim S p1 p2 p3 p4 p5)) 2 60 H locs 0 0 (F0 m 49 ls [.int v_49]) := by
        intro H locs ls v_49 e_v_49 hR hS hl
        subst e_v_49
        by_cases c_5 : ((xf_isIn p3 0 (S 0 0)) = true) ∧ (((xf_isIn p4 p3 (S 0 0)) = true) ∧ ((xf_isWords p5) = true))
        · skip
          have hf := (if_pos c_5).symm.trans hf
          have c_6 := c_5.1
          have c_7 := c_5.2
          have c_8 := c_7.1
          have c_9 := c_7.2
          refine ps_callv (As := [.int (if ((xf_isIn p3 0 (S 0 0)) = true) ∧ (((xf_isIn p4 p3 (S 0 0)) = true) ∧ ((xf_isWords p5) = true)) then 1 else 0)]) (rest := []) ⟨hx, hb, hml, hown, hts⟩ (xo_requireArgument l _) (va_cwS 1 hts (lw_S q322 q323 q33 q324) rfl rfl rfl (by decide +kernel) ⟨Nat.le_of_ble_eq_true rfl, Nat.le_of_ble_eq_true rfl⟩) (if_pos c_5) hS rfl hl.1 rfl (Nat.le_of_ble_eq_true rfl) dX1_claim_49 ⟨Nat.le_of_ble_eq_true rfl, Nat.le_of_ble_eq_true rfl⟩ (fun H locs hz hk hS => ?_)
          have hR := hR.kept (fun a _ h => hk a h)
          refine lv_aload_n hx hb dX1_claim_52 rfl (lv_at hl 0 rfl) ?_
          refine kw_get (C := RX1) (T := TX1) (N := 12) (v := .ref (g 1 2)) hx hb hts in_X1 hown hK.1 hR 0 0 rfl rfl rfl 8 (by decide) (hts _ q177) (fun _ h9 => h9) rfl dX1_claim_53 ?_
          refine cq_F (v := (some (.int (S 21 2)))) (As := []) (rest := []) hK hZ hA hAA hS hR ⟨(Nat.lt_of_lt_of_le (by decide) (Nat.le_add_right 7 _)), rfl⟩ (jt_size l E C A H.size (xok S) g (xen E C g h S) 2 (S 20 2) (S 21 2) (.ref (if cz S 2 = 0 then C.2.1 else g 2 2))) (fun _ h => hA _ (Nat.le_trans hS.1 h)) (hK.1.1 5 _ rfl).2 ⟨hx, hb, hml, hown, hts⟩ (va_cwF 0 hts (lw_F q389 q392 q394 q36 q396) rfl rfl rfl (fw_size hK) (by decide +kernel) ⟨Nat.le_of_ble_eq_true rfl, Nat.le_of_ble_eq_true rfl⟩) (kw_recv (t := 1) (i := 2) hK.1 hR (Nat.lt_of_lt_of_le (by decide) (Nat.le_add_right 7 _)) rfl rfl) rfl hl.1 rfl (Nat.le_of_ble_eq_true rfl) dX1_claim_56 ⟨Nat.le_of_ble_eq_true rfl, Nat.le_of_ble_eq_true rfl⟩ (fun H locs hB hz hk hS => ?_)
          have hR := hR.kept (fun a _ h => hk a h (Nat.not_le.mpr h))
          refine W.eq (g2 := F0 m 61 ls [.int (S 21 2)]) rfl ?_
          refine lv_bipush (v := 20) hx hb dX1_claim_61 (by decide) ?_
          have hJ_71 : ∀ (H : Heap) (locs : List Loc) (ls : Array Slot) (v_71 : Int32), v_71 = (if ¬ (20 ≤ (S 21 2)) then 1 else 0) → (xw E C g h S A) H → va_S A s.heap H locs → lv_has ls 6 [(0, .ref (g 0 0)), (1, .int p1), (2, .int p2), (3, .int p3), (4, .int p4), (5, .int p5)] → cx_G p l e { frames := 8, cells := 2, slots := 60, locals := 241 } s m [.ref (g 0 0), .int p1, .int p2, .int p3, .int p4, .int p5] below meth c A (xq_Q (fun z => z) E C (g 0 0) A (xp_claim S p1 p2 p3 p4 p5)) (xq_X E C g h S A (xp_claim S p1 p2 p3 p4 p5)) 2 60 H locs 0 0 (F0 m 71 ls [.int v_71]) := by
            intro H locs ls v_71 e_v_71 hR hS hl
            subst e_v_71
            by_cases c_10 : ¬ (20 ≤ (S 21 2))
            · skip
              have hf := (if_pos c_10).symm.trans hf
              have hn20 := xq_n20 hI c_10
              refine ps_callv (As := [.int (if ¬ (20 ≤ (S 21 2)) then 1 else 0)]) (rest := []) ⟨hx, hb, hml, hown, hts⟩ (xo_requireState l _) (va_cwS 1 hts (lw_S q457 q458 q33 q459) rfl rfl rfl (by decide +kernel) ⟨Nat.le_of_ble_eq_true rfl, Nat.le_of_ble_eq_true rfl⟩) (if_pos c_10) hS rfl hl.1 rfl (Nat.le_of_ble_eq_true rfl) dX1_claim_71 ⟨Nat.le_of_ble_eq_true rfl, Nat.le_of_ble_eq_true rfl⟩ (fun H locs hz hk hS => ?_)
              have hR := hR.kept (fun a _ h => hk a h)
              refine lv_aload_n hx hb dX1_claim_74 rfl (lv_at hl 0 rfl) ?_
              refine kw_get (C := RX1) (T := TX1) (N := 12) (v := .ref (g 1 2)) hx hb hts in_X1 hown hK.1 hR 0 0 rfl rfl rfl 8 (by decide) (hts _ q177) (fun _ h9 => h9) rfl dX1_claim_75 ?_
              refine kw_new (ci := 4) (C := RX5) (T := TX5) (N := 10) (fs := [.int 0, .int 0, .int 0, .int 0, .int 0, .int 0, .int 0, .int 0, .int 0, .null]) hx hb hts in_X5 tyX5 tyX5_ok hown (hts _ q706) (hts _ q707) (hts _ q59) hK.1 hR hS hA rfl (by intro j hj; rcases (show j = 0 ∨ j = 1 ∨ j = 2 ∨ j = 3 ∨ j = 4 ∨ j = 5 ∨ j = 6 ∨ j = 7 ∨ j = 8 ∨ j = 9 by omega) with rfl | rfl | rfl | rfl | rfl | rfl | rfl | rfl | rfl | rfl <;> rfl) (Nat.le_of_ble_eq_true rfl) (Nat.le_of_ble_eq_true rfl) dX1_claim_78 4 (nz S 2) (fun w => Nat.lt_irrefl _ w) (fun q H hq hz hR hS => ?_)
              obtain ⟨g, hgq, hgo, hgu, hh, hR⟩ := x_new hI hh (fun w => Nat.lt_irrefl _ w) (by decide) hR
              rw [← hgo 0 0 rfl] at hl
              refine W.eq (g2 := F0 m 81 ls [.ref (g 4 (nz S 2)), .ref (g 1 2)]) (f0_2 hgq.symm (hgo 1 2 (Nat.lt_of_lt_of_le (by decide) (Nat.le_add_right 7 _))).symm) ?_
              refine lv_dup hx hb dX1_claim_81 rfl ?_
              refine lv_aload_n hx hb dX1_claim_82 rfl (lv_at hl 0 rfl) ?_
              refine lv_iload_n hx hb dX1_claim_83 rfl (lv_at hl 1 rfl) ?_
              refine lv_iload_n hx hb dX1_claim_84 rfl (lv_at hl 2 rfl) ?_
              refine lv_iload_n hx hb dX1_claim_85 rfl (lv_at hl 3 rfl) ?_
              refine lv_iload hx hb dX1_claim_86 (lv_at hl 4 rfl) ?_
              refine lv_iload hx hb dX1_claim_88 (lv_at hl 5 rfl) ?_
              refine cq_I (v := none) (As := [.ref (g 0 0), .int p1, .int p2, .int p3, .int p4, .int p5]) (rest := [.ref (g 4 (nz S 2)), .ref (g 1 2)]) hK hZ hA hAA hS hR ⟨hI, hh⟩ (xt_claimInit l E C A H.size g h S p1 p2 p3 p4 p5) (fun _ h => h) ⟨hx, hb, hml, hown, hts⟩ (cwI 6 hts (lw_meth q710) rfl rfl rfl (hts _ q59) (hts _ q708) (hts _ q709) rfl (by decide +kernel) ⟨Nat.le_of_ble_eq_true rfl, Nat.le_of_ble_eq_true rfl⟩) rfl hl.1 rfl (Nat.le_of_ble_eq_true rfl) dX1_claim_90 ⟨Nat.le_of_ble_eq_true rfl, Nat.le_of_ble_eq_true rfl⟩ (fun H locs hB hz hk hS => ?_)
              have hR := hB
              refine W.eq (g2 := F0 m 93 ls [.ref (g 4 (nz S 2)), .ref (g 1 2)]) rfl ?_
              refine cq_F (v := (some (.int 1))) (As := [.ref (g 4 (nz S 2))]) (rest := []) hK hZ hA hAA hS hR (xg_ad hI hh (Nat.lt_of_lt_of_le (by decide) (Nat.le_add_right 7 _)) (ku_9 xok_9 (by decide)) (fun u j ho => ⟨Or.inr ho, rfl, ge_n (fun w => by obtain ⟨rfl, rfl⟩ := w; exact Nat.lt_irrefl _ ho)⟩) (Or.inl ⟨4, _, 4, _, Or.inl ⟨rfl, rfl⟩, rfl, ge_s, by simp⟩)) (jt_add l E C A H.size (ku_ok 4 (nz S 2) (xok S)) g (ge_en 4 (nz S 2) (.inr (4, xm_F g (ci_F p1 p2 p3 p4 p5))) (xen E C g h S)) 2 (nz S 2) (cz S 2) (S 20 2) (h 2) (g 4 (nz S 2))) (fun _ h => h) (hK.1.1 5 _ rfl).2 ⟨hx, hb, hml, hown, hts⟩ (va_cwF 1 hts (lw_F q102 q106 q108 q36 q110) rfl rfl rfl (fw_add hK) (by decide +kernel) ⟨Nat.le_of_ble_eq_true rfl, Nat.le_of_ble_eq_true rfl⟩) (kw_recv (t := 1) (i := 2) hK.1 hR (Or.inr (Nat.lt_of_lt_of_le (by decide) (Nat.le_add_right 7 _))) (ge_n (fun w => absurd w.1 (by decide))) rfl) rfl hl.1 rfl (Nat.le_of_ble_eq_true rfl) dX1_claim_93 ⟨Nat.le_of_ble_eq_true rfl, (Nat.le_trans (Nat.add_le_add_left (na_S30 (Nat.lt_of_lt_of_le hn20 (by decide))) 10) (by decide))⟩ (fun H locs hB hz hk hS => ?_)
              refine W.widen (k := 2) (n := 60) (Nat.le_of_ble_eq_true rfl) (Nat.le_trans (Nat.add_le_add_left (na_S30 (Nat.lt_of_lt_of_le hn20 (by decide))) 10) (by decide)) ?_
              obtain ⟨g, h, hg2, hh, hR⟩ := x_claimed hI hn20 hh hB
              rw [← hg2 0 0 (by decide)] at hl
              generalize hS2 : (xs_add (xm_S S (nz S 2) (ci_F p1 p2 p3 p4 p5)) 2) = S2 at hR hh
              refine W.eq (g2 := F0 m 98 ls [.int 1]) rfl ?_
              refine lv_pop hx hb dX1_claim_98 rfl ?_
              refine lv_aload_n hx hb dX1_claim_99 rfl (lv_at hl 0 rfl) ?_
              refine kw_get (C := RX1) (T := TX1) (N := 12) (v := .ref (g 1 2)) hx hb hts in_X1 hown hK.1 hR 0 0 rfl rfl rfl 8 (by decide) (hts _ q177) (fun _ h9 => h9) rfl dX1_claim_100 ?_
              refine cq_F (v := (some (.int (S2 21 2)))) (As := []) (rest := []) hK hZ hA hAA hS hR ⟨(Nat.lt_of_lt_of_le (by decide) (Nat.le_add_right 7 _)), rfl⟩ (jt_size l E C A H.size (xok S2) g (xen E C g h S2) 2 (S2 20 2) (S2 21 2) (.ref (if cz S2 2 = 0 then C.2.1 else g 2 2))) (fun _ h => hA _ (Nat.le_trans hS.1 h)) (hK.1.1 5 _ rfl).2 ⟨hx, hb, hml, hown, hts⟩ (va_cwF 0 hts (lw_F q389 q392 q394 q36 q396) rfl rfl rfl (fw_size hK) (by decide +kernel) ⟨Nat.le_of_ble_eq_true rfl, Nat.le_of_ble_eq_true rfl⟩) (kw_recv (t := 1) (i := 2) hK.1 hR (Nat.lt_of_lt_of_le (by decide) (Nat.le_add_right 7 _)) rfl rfl) rfl hl.1 rfl (Nat.le_of_ble_eq_true rfl) dX1_claim_103 ⟨Nat.le_of_ble_eq_true rfl, Nat.le_of_ble_eq_true rfl⟩ (fun H locs hB hz hk hS => ?_)
              have hR := hR.kept (fun a _ h => hk a h (Nat.not_le.mpr h))
              refine W.eq (g2 := F0 m 108 ls [.int (S2 21 2)]) rfl ?_
              refine lv_iconst (v := 1) hx hb dX1_claim_108 (by decide) ?_
              refine lv_isub hx hb dX1_claim_109 ?_
              subst hS2
              exact vx_ret (W.iret (v := (((xs_add (xm_S S (nz S 2) (ci_F p1 p2 p3 p4 p5)) 2) 21 2) - 1)) hx hb hr (fun t ht hW => ⟨⟨_, _, hf.symm, rfl, g, h, ((hg2 0 0 (by decide)).trans (hgo 0 0 rfl)), hh, by rw [ht]; exact hR⟩, hS.F ht⟩) hS.2.2 dX1_claim_110)
            · skip
              have hf := (if_neg c_10).symm.trans hf
              refine W.eq (g2 := F0 m 71 ls [.int 0]) (congrArg (fun z => F0 m 71 ls (.int z :: [])) (if_neg c_10)) ?_
              refine cx_S (X := fun _ => True) (P := True) (As := [.int 0]) (rest := []) hK hZ hA hAA hS trivial trivial (xt_requireState l hfl E C A H.size) (fun _ h => hA _ (Nat.le_trans hS.1 h)) ⟨hx, hb, hml, hown, hts⟩ (va_cwS 1 hts (lw_S q457 q458 q33 q459) rfl rfl rfl (by decide +kernel) ⟨Nat.le_of_ble_eq_true rfl, Nat.le_of_ble_eq_true rfl⟩) rfl hl.1 rfl (Nat.le_of_ble_eq_true rfl) dX1_claim_71 ⟨Nat.le_of_ble_eq_true rfl, Nat.le_of_ble_eq_true rfl⟩ (fun ce q9 H locs hB hz hk hS hc9 hv9 hcl => ?_)
              have hR := hR.kept (fun a _ h => hk a h (Nat.not_le.mpr h))
              exact vx_out (fun x h => (hnt x h).elim) hlocks hc9 hv9 hcl (fun t ht _ => ⟨⟨hf.symm, by rw [ht]; exact hR⟩, hS.F ht⟩) hS.2.2 (Nat.le_of_ble_eq_true rfl) (Nat.le_of_ble_eq_true rfl)
          refine lv_icmp_ge (tgt := 70) hx hb dX1_claim_63 (by decide) (fun c_11 => ?_) (fun c_11 => ?_)
          · skip
            refine lv_iconst (v := 0) hx hb dX1_claim_70 (by decide) ?_
            exact hJ_71 _ _ _ 0 (gi_0 (gi_nb_t c_11)) hR hS (lv_sub hl [0, 1, 2, 3, 4, 5] rfl)
          · skip
            have hn20 := xq_n20 hI c_11
            refine lv_iconst (v := 1) hx hb dX1_claim_66 (by decide) ?_
            refine lv_goto (tgt := 71) hx hb dX1_claim_67 (by decide) ?_
            exact hJ_71 _ _ _ 1 (gi_1 (gi_nb_f c_11)) hR hS (lv_sub hl [0, 1, 2, 3, 4, 5] rfl)
        · skip
          have hf := (if_neg c_5).symm.trans hf
          refine W.eq (g2 := F0 m 49 ls [.int 0]) (congrArg (fun z => F0 m 49 ls (.int z :: [])) (if_neg c_5)) ?_
          refine cx_S (X := fun _ => True) (P := True) (As := [.int 0]) (rest := []) hK hZ hA hAA hS trivial trivial (xt_requireArgument l hfl E C A H.size) (fun _ h => hA _ (Nat.le_trans hS.1 h)) ⟨hx, hb, hml, hown, hts⟩ (va_cwS 1 hts (lw_S q322 q323 q33 q324) rfl rfl rfl (by decide +kernel) ⟨Nat.le_of_ble_eq_true rfl, Nat.le_of_ble_eq_true rfl⟩) rfl hl.1 rfl (Nat.le_of_ble_eq_true rfl) dX1_claim_49 ⟨Nat.le_of_ble_eq_true rfl, Nat.le_of_ble_eq_true rfl⟩ (fun ce q9 H locs hB hz hk hS hc9 hv9 hcl => ?_)
          have hR := hR.kept (fun a _ h => hk a h (Nat.not_le.mpr h))
          exact vx_out (fun x h => (hnt x h).elim) hlocks hc9 hv9 hcl (fun t ht _ => ⟨⟨hf.symm, by rw [ht]; exact hR⟩, hS.F ht⟩) hS.2.2 (Nat.le_of_ble_eq_true rfl) (Nat.le_of_ble_eq_true rfl)
      refine lv_if_eq (tgt := 48) hx hb dX1_claim_20 (by decide) (fun c_12 => ?_) (fun c_12 => ?_)
      · skip
        have c_12 : ¬ ((xf_isIn p3 0 (S 0 0)) = true) := gs_zf (φ := (xf_isIn p3 0 (S 0 0)) = true) c_12
        refine lv_iconst (v := 0) hx hb dX1_claim_48 (by decide) ?_
        exact hJ_49 _ _ _ 0 (gi_0 (gi_ca_f c_12)) hR hS (lv_sub hl [0, 1, 2, 3, 4, 5] rfl)
      · skip
        have c_12 : (xf_isIn p3 0 (S 0 0)) = true := gs_zt (φ := (xf_isIn p3 0 (S 0 0)) = true) c_12
        refine lv_iload hx hb dX1_claim_23 (lv_at hl 4 rfl) ?_
        refine lv_iload_n hx hb dX1_claim_25 rfl (lv_at hl 3 rfl) ?_
        refine lv_aload_n hx hb dX1_claim_26 rfl (lv_at hl 0 rfl) ?_
        refine kw_get (C := RX1) (T := TX1) (N := 12) (v := .int (S 0 0)) hx hb hts in_X1 hown hK.1 hR 0 0 rfl rfl rfl 0 (by decide) (hts _ q168) (fun _ h9 => h9) rfl dX1_claim_27 ?_
        refine ps_calli (As := [.int p4, .int p3, .int (S 0 0)]) (rest := []) ⟨hx, hb, hml, hown, hts⟩ (xt_isIn l p4 p3 (S 0 0)) (va_cwS 3 hts (lw_S q295 q296 q33 q297) rfl rfl rfl (by decide +kernel) ⟨Nat.le_of_ble_eq_true rfl, Nat.le_of_ble_eq_true rfl⟩) trivial hS rfl hl.1 rfl (Nat.le_of_ble_eq_true rfl) dX1_claim_30 ⟨Nat.zero_le _, Nat.zero_le _⟩ (fun H locs hz hk hS => ?_)
        have hR := hR.kept (fun a _ h => hk a h)
        refine lv_if_eq (tgt := 48) hx hb dX1_claim_33 (by decide) (fun c_13 => ?_) (fun c_13 => ?_)
        · skip
          have c_13 : ¬ ((xf_isIn p4 p3 (S 0 0)) = true) := gs_zf (φ := (xf_isIn p4 p3 (S 0 0)) = true) c_13
          refine lv_iconst (v := 0) hx hb dX1_claim_48 (by decide) ?_
          exact hJ_49 _ _ _ 0 (gi_0 ((gi_ca_f c_13).trans (gi_ca_t c_12))) hR hS (lv_sub hl [0, 1, 2, 3, 4, 5] rfl)
        · skip
          have c_13 : (xf_isIn p4 p3 (S 0 0)) = true := gs_zt (φ := (xf_isIn p4 p3 (S 0 0)) = true) c_13
          refine lv_iload hx hb dX1_claim_36 (lv_at hl 5 rfl) ?_
          refine ps_calli (As := [.int p5]) (rest := []) ⟨hx, hb, hml, hown, hts⟩ (xt_isWords l p5) (va_cwS 1 hts (lw_S q492 q493 q33 q494) rfl rfl rfl (by decide +kernel) ⟨Nat.le_of_ble_eq_true rfl, Nat.le_of_ble_eq_true rfl⟩) trivial hS rfl hl.1 rfl (Nat.le_of_ble_eq_true rfl) dX1_claim_38 ⟨Nat.zero_le _, Nat.zero_le _⟩ (fun H locs hz hk hS => ?_)
          have hR := hR.kept (fun a _ h => hk a h)
          refine lv_if_eq (tgt := 48) hx hb dX1_claim_41 (by decide) (fun c_14 => ?_) (fun c_14 => ?_)
          · skip
            have c_14 : ¬ ((xf_isWords p5) = true) := gs_zf (φ := (xf_isWords p5) = true) c_14
            refine lv_iconst (v := 0) hx hb dX1_claim_48 (by decide) ?_
            exact hJ_49 _ _ _ 0 (gi_0 (((gi_cb_f c_14).trans (gi_ca_t c_13)).trans (gi_ca_t c_12))) hR hS (lv_sub hl [0, 1, 2, 3, 4, 5] rfl)
          · skip
            have c_14 : (xf_isWords p5) = true := gs_zt (φ := (xf_isWords p5) = true) c_14
            refine lv_iconst (v := 1) hx hb dX1_claim_44 (by decide) ?_
            refine lv_goto (tgt := 49) hx hb dX1_claim_45 (by decide) ?_
            exact hJ_49 _ _ _ 1 (gi_1 (((gi_cb_t c_14).trans (gi_ca_t c_13)).trans (gi_ca_t c_12))) hR hS (lv_sub hl [0, 1, 2, 3, 4, 5] rfl)
    · skip
      have hf := (if_neg c_3).symm.trans hf
      refine W.eq (g2 := F0 m 8 ls [.int 0]) (congrArg (fun z => F0 m 8 ls (.int z :: [])) (if_neg c_3)) ?_
      refine cx_S (X := fun _ => True) (P := True) (As := [.int 0]) (rest := []) hK hZ hA hAA hS trivial trivial (xt_requireIndex l hfl E C A H.size) (fun _ h => hA _ (Nat.le_trans hS.1 h)) ⟨hx, hb, hml, hown, hts⟩ (va_cwS 1 hts (lw_S q298 q299 q33 q300) rfl rfl rfl (by decide +kernel) ⟨Nat.le_of_ble_eq_true rfl, Nat.le_of_ble_eq_true rfl⟩) rfl hl.1 rfl (Nat.le_of_ble_eq_true rfl) dX1_claim_8 ⟨Nat.le_of_ble_eq_true rfl, Nat.le_of_ble_eq_true rfl⟩ (fun ce q9 H locs hB hz hk hS hc9 hv9 hcl => ?_)
      have hR := hR.kept (fun a _ h => hk a h (Nat.not_le.mpr h))
      exact vx_out (fun x h => (hnt x h).elim) hlocks hc9 hv9 hcl (fun t ht _ => ⟨⟨hf.symm, by rw [ht]; exact hR⟩, hS.F ht⟩) hS.2.2 (Nat.le_of_ble_eq_true rfl) (Nat.le_of_ble_eq_true rfl)
  · skip
    have hf := (if_neg c_1).symm.trans hf
    refine cx_S (X := fun _ => True) (As := [.int p1]) (rest := []) hK hZ hA hAA hS trivial c_1 (xt_requireKind l hfl E C A s.heap.size p1) (fun _ h => hA _ (Nat.le_trans hS.1 h)) ⟨hx, hb, hml, hown, hts⟩ (va_cwS 1 hts (lw_S q350 q351 q33 q352) rfl rfl rfl (by decide +kernel) ⟨Nat.le_of_ble_eq_true rfl, Nat.le_of_ble_eq_true rfl⟩) rfl hl.1 rfl (Nat.le_of_ble_eq_true rfl) dX1_claim_1 ⟨Nat.le_of_ble_eq_true rfl, Nat.le_of_ble_eq_true rfl⟩ (fun ce q9 H locs hB hz hk hS hc9 hv9 hcl => ?_)
    have hR := hR.kept (fun a _ h => hk a h (Nat.not_le.mpr h))
    exact vx_out (fun x h => (hnt x h).elim) hlocks hc9 hv9 hcl (fun t ht _ => ⟨⟨hf.symm, by rw [ht]; exact hR⟩, hS.F ht⟩) hS.2.2 (Nat.le_of_ble_eq_true rfl) (Nat.le_of_ble_eq_true rfl)
set_option maxHeartbeats 2000000 in
set_option maxRecDepth 100000 in
theorem xs_find (l : Launch) (hfl : l.stackTraces = false) (E : en_T) (C : ex_C) (A : Nat → Prop) (sz : Nat) (g : kw_A) (h : xh_T) (S : gs_T) (p1 : Int32) (p2 : Int32) (p3 : Int32) (p4 : Int32) (p5 : Int32) (p6 : Int32) (p7 : Int32) : vx_Met l yX1_find (ws_ yX1_find cX1_find 8 (some .int)) { frames := 8, cells := 5, slots := 80, locals := 269 } (cpc E C A sz [.ref (g 0 0), .int p1, .int p2, .int p3, .int p4, .int p5, .int p6, .int p7] (xw E C g h S A) (xi_ok S ∧ xh C g h S)) (xq_Q (fun z => z) E C (g 0 0) A (xp_find S p1 p2 p3 p4 p5 p6 p7)) (xq_X E C g h S A (xp_find S p1 p2 p3 p4 p5 p6 p7)) 5 80 A := by
  refine cx_start (by decide) (Nat.le_of_ble_eq_true rfl) ?_
  intro p e s m below meth c ls hx hb hr hlocks hml hown hnm hnt hts hsz hK hZ hA hR hP hl
  subst hsz
  have hAA : ∀ a, A a → A a := fun _ h => h
  have hl : lv_has ls 8 [(0, .ref (g 0 0)), (1, .int p1), (2, .int p2), (3, .int p3), (4, .int p4), (5, .int p5), (6, .int p6), (7, .int p7)] := hl
  have hS : va_S A s.heap s.heap [] := va_S.rf
  have hZr := hZ
  obtain ⟨hI, hh⟩ := hP
  have hf : (xp_find S p1 p2 p3 p4 p5 p6 p7) = (xp_find S p1 p2 p3 p4 p5 p6 p7) := rfl
  refine lv_iload_n hx hb dX1_find_0 rfl (lv_at hl 1 rfl) ?_
  by_cases c_1 : (xf_isIn p1 0 7) = true
  · skip
    have hf := (if_pos c_1).symm.trans hf
    have hk8 := xq_vp8 c_1
    have c_2 := xq_vp8 c_1
    refine ps_callv (As := [.int p1]) (rest := []) ⟨hx, hb, hml, hown, hts⟩ (xo_requireKind l _) (va_cwS 1 hts (lw_S q350 q351 q33 q352) rfl rfl rfl (by decide +kernel) ⟨Nat.le_of_ble_eq_true rfl, Nat.le_of_ble_eq_true rfl⟩) c_1 hS rfl hl.1 rfl (Nat.le_of_ble_eq_true rfl) dX1_find_1 ⟨Nat.le_of_ble_eq_true rfl, Nat.le_of_ble_eq_true rfl⟩ (fun H locs hz hk hS => ?_)
    have hR := hR.kept (fun a _ h => hk a h)
    refine lv_iload_n hx hb dX1_find_4 rfl (lv_at hl 2 rfl) ?_
    refine ps_calli (As := [.int p2]) (rest := []) ⟨hx, hb, hml, hown, hts⟩ (xt_isPlace l p2) (va_cwS 1 hts (lw_S q489 q490 q33 q491) rfl rfl rfl (by decide +kernel) ⟨Nat.le_of_ble_eq_true rfl, Nat.le_of_ble_eq_true rfl⟩) trivial hS rfl hl.1 rfl (Nat.le_of_ble_eq_true rfl) dX1_find_5 ⟨Nat.zero_le _, Nat.zero_le _⟩ (fun H locs hz hk hS => ?_)
    have hR := hR.kept (fun a _ h => hk a h)
    have hJ_26 : ∀ (H : Heap) (locs : List Loc) (ls : Array Slot) (v_26 : Int32), v_26 = (if ((xf_isPlace p2) = true) ∧ ((xf_isIn p7 0 5) = true) then 1 else 0) → (xw E C g h S A) H → va_S A s.heap H locs → lv_has ls 8 [(0, .ref (g 0 0)), (1, .int p1), (2, .int p2), (3, .int p3), (4, .int p4), (5, .int p5), (6, .int p6), (7, .int p7)] → cx_G p l e { frames := 8, cells := 5, slots := 80, locals := 269 } s m [.ref (g 0 0), .int p1, .int p2, .int p3, .int p4, .int p5, .int p6, .int p7] below meth c A (xq_Q (fun z => z) E C (g 0 0) A (xp_find S p1 p2 p3 p4 p5 p6 p7)) (xq_X E C g h S A (xp_find S p1 p2 p3 p4 p5 p6 p7)) 5 80 H locs 0 0 (F0 m 26 ls [.int v_26]) := by
      intro H locs ls v_26 e_v_26 hR hS hl
      subst e_v_26
      by_cases c_3 : ((xf_isPlace p2) = true) ∧ ((xf_isIn p7 0 5) = true)
      · skip
        have hf := (if_pos c_3).symm.trans hf
        have c_4 := c_3.1
        have c_5 := c_3.2
        have c_6 := xq_place c_4
        have c_7 := xq_vp6 c_5
        refine ps_callv (As := [.int (if ((xf_isPlace p2) = true) ∧ ((xf_isIn p7 0 5) = true) then 1 else 0)]) (rest := []) ⟨hx, hb, hml, hown, hts⟩ (xo_requireIndex l _) (va_cwS 1 hts (lw_S q298 q299 q33 q300) rfl rfl rfl (by decide +kernel) ⟨Nat.le_of_ble_eq_true rfl, Nat.le_of_ble_eq_true rfl⟩) (if_pos c_3) hS rfl hl.1 rfl (Nat.le_of_ble_eq_true rfl) dX1_find_26 ⟨Nat.le_of_ble_eq_true rfl, Nat.le_of_ble_eq_true rfl⟩ (fun H locs hz hk hS => ?_)
        have hR := hR.kept (fun a _ h => hk a h)
        refine lv_iload_n hx hb dX1_find_29 rfl (lv_at hl 3 rfl) ?_
        refine lv_iconst (v := 0) hx hb dX1_find_30 (by decide) ?_
        refine lv_aload_n hx hb dX1_find_31 rfl (lv_at hl 0 rfl) ?_
        refine kw_get (C := RX1) (T := TX1) (N := 12) (v := .int (S 0 0)) hx hb hts in_X1 hown hK.1 hR 0 0 rfl rfl rfl 0 (by decide) (hts _ q168) (fun _ h9 => h9) rfl dX1_find_32 ?_
        refine ps_calli (As := [.int p3, .int 0, .int (S 0 0)]) (rest := []) ⟨hx, hb, hml, hown, hts⟩ (xt_isIn l p3 0 (S 0 0)) (va_cwS 3 hts (lw_S q295 q296 q33 q297) rfl rfl rfl (by decide +kernel) ⟨Nat.le_of_ble_eq_true rfl, Nat.le_of_ble_eq_true rfl⟩) trivial hS rfl hl.1 rfl (Nat.le_of_ble_eq_true rfl) dX1_find_35 ⟨Nat.zero_le _, Nat.zero_le _⟩ (fun H locs hz hk hS => ?_)
        have hR := hR.kept (fun a _ h => hk a h)
        have hJ_82 : ∀ (H : Heap) (locs : List Loc) (ls : Array Slot) (v_82 : Int32), v_82 = (if ((xf_isIn p3 0 (S 0 0)) = true) ∧ (((xf_isWords p4) = true) ∧ (((xf_isWords p5) = true) ∧ (((p4 &&& p5) = 0) ∧ ((xf_isIn p6 0 9999) = true)))) then 1 else 0) → (xw E C g h S A) H → va_S A s.heap H locs → lv_has ls 8 [(0, .ref (g 0 0)), (1, .int p1), (2, .int p2), (3, .int p3), (4, .int p4), (5, .int p5), (6, .int p6), (7, .int p7)] → cx_G p l e { frames := 8, cells := 5, slots := 80, locals := 269 } s m [.ref (g 0 0), .int p1, .int p2, .int p3, .int p4, .int p5, .int p6, .int p7] below meth c A (xq_Q (fun z => z) E C (g 0 0) A (xp_find S p1 p2 p3 p4 p5 p6 p7)) (xq_X E C g h S A (xp_find S p1 p2 p3 p4 p5 p6 p7)) 5 80 H locs 0 0 (F0 m 82 ls [.int v_82]) := by
          intro H locs ls v_82 e_v_82 hR hS hl
          subst e_v_82
          by_cases c_8 : ((xf_isIn p3 0 (S 0 0)) = true) ∧ (((xf_isWords p4) = true) ∧ (((xf_isWords p5) = true) ∧ (((p4 &&& p5) = 0) ∧ ((xf_isIn p6 0 9999) = true))))
          · skip
            have hf := (if_pos c_8).symm.trans hf
            have c_9 := c_8.1
            have c_10 := c_8.2
            have c_11 := c_10.1
            have c_12 := c_10.2
            have c_13 := c_12.1
            have c_14 := c_12.2
            have c_15 := c_14.1
            have c_16 := c_14.2
            refine ps_callv (As := [.int (if ((xf_isIn p3 0 (S 0 0)) = true) ∧ (((xf_isWords p4) = true) ∧ (((xf_isWords p5) = true) ∧ (((p4 &&& p5) = 0) ∧ ((xf_isIn p6 0 9999) = true)))) then 1 else 0)]) (rest := []) ⟨hx, hb, hml, hown, hts⟩ (xo_requireArgument l _) (va_cwS 1 hts (lw_S q322 q323 q33 q324) rfl rfl rfl (by decide +kernel) ⟨Nat.le_of_ble_eq_true rfl, Nat.le_of_ble_eq_true rfl⟩) (if_pos c_8) hS rfl hl.1 rfl (Nat.le_of_ble_eq_true rfl) dX1_find_82 ⟨Nat.le_of_ble_eq_true rfl, Nat.le_of_ble_eq_true rfl⟩ (fun H locs hz hk hS => ?_)
            have hR := hR.kept (fun a _ h => hk a h)
            refine lv_aload_n hx hb dX1_find_85 rfl (lv_at hl 0 rfl) ?_
            refine kw_get (C := RX1) (T := TX1) (N := 12) (v := .ref (g 1 1)) hx hb hts in_X1 hown hK.1 hR 0 0 rfl rfl rfl 7 (by decide) (hts _ q176) (fun _ h9 => h9) rfl dX1_find_86 ?_
            refine cq_F (v := (some (.int (S 21 1)))) (As := []) (rest := []) hK hZ hA hAA hS hR ⟨(Nat.lt_of_lt_of_le (by decide) (Nat.le_add_right 7 _)), rfl⟩ (jt_size l E C A H.size (xok S) g (xen E C g h S) 1 (S 20 1) (S 21 1) (.ref (if cz S 1 = 0 then C.2.1 else g 2 1))) (fun _ h => hA _ (Nat.le_trans hS.1 h)) (hK.1.1 5 _ rfl).2 ⟨hx, hb, hml, hown, hts⟩ (va_cwF 0 hts (lw_F q389 q392 q394 q36 q396) rfl rfl rfl (fw_size hK) (by decide +kernel) ⟨Nat.le_of_ble_eq_true rfl, Nat.le_of_ble_eq_true rfl⟩) (kw_recv (t := 1) (i := 1) hK.1 hR (Nat.lt_of_lt_of_le (by decide) (Nat.le_add_right 7 _)) rfl rfl) rfl hl.1 rfl (Nat.le_of_ble_eq_true rfl) dX1_find_89 ⟨Nat.le_of_ble_eq_true rfl, Nat.le_of_ble_eq_true rfl⟩ (fun H locs hB hz hk hS => ?_)
            have hR := hR.kept (fun a _ h => hk a h (Nat.not_le.mpr h))
            refine W.eq (g2 := F0 m 94 ls [.int (S 21 1)]) rfl ?_
            refine lv_bipush (v := 30) hx hb dX1_find_94 (by decide) ?_
            have hJ_104 : ∀ (H : Heap) (locs : List Loc) (ls : Array Slot) (v_104 : Int32), v_104 = (if ¬ (30 ≤ (S 21 1)) then 1 else 0) → (xw E C g h S A) H → va_S A s.heap H locs → lv_has ls 8 [(0, .ref (g 0 0)), (1, .int p1), (2, .int p2), (3, .int p3), (4, .int p4), (5, .int p5), (6, .int p6), (7, .int p7)] → cx_G p l e { frames := 8, cells := 5, slots := 80, locals := 269 } s m [.ref (g 0 0), .int p1, .int p2, .int p3, .int p4, .int p5, .int p6, .int p7] below meth c A (xq_Q (fun z => z) E C (g 0 0) A (xp_find S p1 p2 p3 p4 p5 p6 p7)) (xq_X E C g h S A (xp_find S p1 p2 p3 p4 p5 p6 p7)) 5 80 H locs 0 0 (F0 m 104 ls [.int v_104]) := by
              intro H locs ls v_104 e_v_104 hR hS hl
              subst e_v_104
              by_cases c_17 : ¬ (30 ≤ (S 21 1))
              · skip
                have hf := (if_pos c_17).symm.trans hf
                have hn30 := xq_n30 hI c_17
                refine ps_callv (As := [.int (if ¬ (30 ≤ (S 21 1)) then 1 else 0)]) (rest := []) ⟨hx, hb, hml, hown, hts⟩ (xo_requireState l _) (va_cwS 1 hts (lw_S q457 q458 q33 q459) rfl rfl rfl (by decide +kernel) ⟨Nat.le_of_ble_eq_true rfl, Nat.le_of_ble_eq_true rfl⟩) (if_pos c_17) hS rfl hl.1 rfl (Nat.le_of_ble_eq_true rfl) dX1_find_104 ⟨Nat.le_of_ble_eq_true rfl, Nat.le_of_ble_eq_true rfl⟩ (fun H locs hz hk hS => ?_)
                have hR := hR.kept (fun a _ h => hk a h)
                refine lv_aload_n hx hb dX1_find_107 rfl (lv_at hl 0 rfl) ?_
                refine kw_get (C := RX1) (T := TX1) (N := 12) (v := .ref (g 1 1)) hx hb hts in_X1 hown hK.1 hR 0 0 rfl rfl rfl 7 (by decide) (hts _ q176) (fun _ h9 => h9) rfl dX1_find_108 ?_
                refine kw_new (ci := 2) (C := RX3) (T := TX3) (N := 15) (fs := [.int 0, .int 0, .int 0, .int 0, .int 0, .int 0, .int 0, .int 0, .int 0, .int 0, .int 0, .int 0, .int 0, .null, .null]) hx hb hts in_X3 tyX3 tyX3_ok hown (hts _ q496) (hts _ q497) (hts _ q55) hK.1 hR hS hA rfl (by intro j hj; rcases (show j = 0 ∨ j = 1 ∨ j = 2 ∨ j = 3 ∨ j = 4 ∨ j = 5 ∨ j = 6 ∨ j = 7 ∨ j = 8 ∨ j = 9 ∨ j = 10 ∨ j = 11 ∨ j = 12 ∨ j = 13 ∨ j = 14 by omega) with rfl | rfl | rfl | rfl | rfl | rfl | rfl | rfl | rfl | rfl | rfl | rfl | rfl | rfl | rfl <;> rfl) (Nat.le_of_ble_eq_true rfl) (Nat.le_of_ble_eq_true rfl) dX1_find_111 3 (nz S 1) (fun w => Nat.lt_irrefl _ w) (fun q H hq hz hR hS => ?_)
                obtain ⟨g, hgq, hgo, hgu, hh, hR⟩ := x_new hI hh (fun w => Nat.lt_irrefl _ w) (by decide) hR
                rw [← hgo 0 0 rfl] at hl
                refine W.eq (g2 := F0 m 114 ls [.ref (g 3 (nz S 1)), .ref (g 1 1)]) (f0_2 hgq.symm (hgo 1 1 (Nat.lt_of_lt_of_le (by decide) (Nat.le_add_right 7 _))).symm) ?_
                refine lv_dup hx hb dX1_find_114 rfl ?_
                refine lv_aload_n hx hb dX1_find_115 rfl (lv_at hl 0 rfl) ?_
                refine lv_iload_n hx hb dX1_find_116 rfl (lv_at hl 1 rfl) ?_
                refine lv_iload_n hx hb dX1_find_117 rfl (lv_at hl 2 rfl) ?_
                refine lv_aload_n hx hb dX1_find_118 rfl (lv_at hl 0 rfl) ?_
                refine kw_get (C := RX1) (T := TX1) (N := 12) (v := .int (S 0 0)) hx hb hts in_X1 hown hK.1 hR 0 0 (Or.inr rfl) (ge_n (fun w => absurd w.1 (by decide))) rfl 0 (by decide) (hts _ q168) (fun _ h9 => h9) rfl dX1_find_119 ?_
                refine lv_iload_n hx hb dX1_find_122 rfl (lv_at hl 3 rfl) ?_
                refine lv_isub hx hb dX1_find_123 ?_
                refine lv_iload hx hb dX1_find_124 (lv_at hl 4 rfl) ?_
                refine lv_iload hx hb dX1_find_126 (lv_at hl 5 rfl) ?_
                refine lv_iload hx hb dX1_find_128 (lv_at hl 6 rfl) ?_
                refine lv_iload hx hb dX1_find_130 (lv_at hl 7 rfl) ?_
                refine cq_I (v := none) (As := [.ref (g 0 0), .int p1, .int p2, .int ((S 0 0) - p3), .int p4, .int p5, .int p6, .int p7]) (rest := [.ref (g 3 (nz S 1)), .ref (g 1 1)]) hK hZ hA hAA hS hR ⟨hI, hh, hk8⟩ (xt_findInit l E C A H.size g h S p1 p2 ((S 0 0) - p3) p4 p5 p6 p7) (fun _ h => h) ⟨hx, hb, hml, hown, hts⟩ (cwI 8 hts (lw_meth q500) rfl rfl rfl (hts _ q55) (hts _ q498) (hts _ q499) rfl (by decide +kernel) ⟨Nat.le_of_ble_eq_true rfl, Nat.le_of_ble_eq_true rfl⟩) rfl hl.1 rfl (Nat.le_of_ble_eq_true rfl) dX1_find_132 ⟨Nat.le_of_ble_eq_true rfl, Nat.le_of_ble_eq_true rfl⟩ (fun H locs hB hz hk hS => ?_)
                obtain ⟨g, h, hg1, hh, hh0, hR⟩ := hB
                rw [← hg1 0 0 (by decide) (by decide) (fun w => absurd w.1 (by decide))] at hl
                refine W.eq (g2 := F0 m 135 ls [.ref (g 3 (nz S 1)), .ref (g 1 1)]) (f0_2 (hg1 3 (nz S 1) (by decide) (by decide) (fun w => absurd w.1 (by decide))).symm (hg1 1 1 (by decide) (by decide) (fun w => by omega)).symm) ?_
                refine cq_F (v := (some (.int 1))) (As := [.ref (g 3 (nz S 1))]) (rest := []) hK hZ hA hAA hS hR (xg_adF hI hh) (jt_add l E C A H.size (xokF (nz S 1) (xb_S S (nz S 1) (fi_F S p1 p2 ((S 0 0) - p3) p4 p5 p6 p7) (S 0 0) p7)) g (xen E C g h (xb_S S (nz S 1) (fi_F S p1 p2 ((S 0 0) - p3) p4 p5 p6 p7) (S 0 0) p7)) 1 (nz S 1) (cz S 1) (S 20 1) (h 1) (g 3 (nz S 1))) (fun _ h => h) (hK.1.1 5 _ rfl).2 ⟨hx, hb, hml, hown, hts⟩ (va_cwF 1 hts (lw_F q102 q106 q108 q36 q110) rfl rfl rfl (fw_add hK) (by decide +kernel) ⟨Nat.le_of_ble_eq_true rfl, Nat.le_of_ble_eq_true rfl⟩) (kw_recv (t := 1) (i := 1) hK.1 hR (Or.inl (Nat.lt_of_lt_of_le (by decide) (Nat.le_add_right 7 _))) rfl rfl) rfl hl.1 rfl (Nat.le_of_ble_eq_true rfl) dX1_find_135 ⟨Nat.le_of_ble_eq_true rfl, (Nat.le_trans (Nat.add_le_add_left (na_S30 hn30) 30) (by decide))⟩ (fun H locs hB hz hk hS => ?_)
                refine W.widen (k := 5) (n := 80) (Nat.le_of_ble_eq_true rfl) (Nat.le_trans (Nat.add_le_add_left (na_S30 hn30) 30) (by decide)) ?_
                obtain ⟨g, h, hg2, hh, hR⟩ := x_found hI hn30 hh hh0 hB
                rw [← hg2 0 0 (by decide)] at hl
                generalize hS2 : (xs_add (xb_S S (nz S 1) (fi_F S p1 p2 ((S 0 0) - p3) p4 p5 p6 p7) (S 0 0) p7) 1) = S2 at hR hh
                refine W.eq (g2 := F0 m 140 ls [.int 1]) rfl ?_
                refine lv_pop hx hb dX1_find_140 rfl ?_
                refine lv_aload_n hx hb dX1_find_141 rfl (lv_at hl 0 rfl) ?_
                refine kw_get (C := RX1) (T := TX1) (N := 12) (v := .ref (g 1 1)) hx hb hts in_X1 hown hK.1 hR 0 0 rfl rfl rfl 7 (by decide) (hts _ q176) (fun _ h9 => h9) rfl dX1_find_142 ?_
                refine cq_F (v := (some (.int (S2 21 1)))) (As := []) (rest := []) hK hZ hA hAA hS hR ⟨(Nat.lt_of_lt_of_le (by decide) (Nat.le_add_right 7 _)), rfl⟩ (jt_size l E C A H.size (xok S2) g (xen E C g h S2) 1 (S2 20 1) (S2 21 1) (.ref (if cz S2 1 = 0 then C.2.1 else g 2 1))) (fun _ h => hA _ (Nat.le_trans hS.1 h)) (hK.1.1 5 _ rfl).2 ⟨hx, hb, hml, hown, hts⟩ (va_cwF 0 hts (lw_F q389 q392 q394 q36 q396) rfl rfl rfl (fw_size hK) (by decide +kernel) ⟨Nat.le_of_ble_eq_true rfl, Nat.le_of_ble_eq_true rfl⟩) (kw_recv (t := 1) (i := 1) hK.1 hR (Nat.lt_of_lt_of_le (by decide) (Nat.le_add_right 7 _)) rfl rfl) rfl hl.1 rfl (Nat.le_of_ble_eq_true rfl) dX1_find_145 ⟨Nat.le_of_ble_eq_true rfl, Nat.le_of_ble_eq_true rfl⟩ (fun H locs hB hz hk hS => ?_)
                have hR := hR.kept (fun a _ h => hk a h (Nat.not_le.mpr h))
                refine W.eq (g2 := F0 m 150 ls [.int (S2 21 1)]) rfl ?_
                refine lv_iconst (v := 1) hx hb dX1_find_150 (by decide) ?_
                refine lv_isub hx hb dX1_find_151 ?_
                subst hS2
                exact vx_ret (W.iret (v := (((xs_add (xb_S S (nz S 1) (fi_F S p1 p2 ((S 0 0) - p3) p4 p5 p6 p7) (S 0 0) p7) 1) 21 1) - 1)) hx hb hr (fun t ht hW => ⟨⟨_, _, hf.symm, rfl, g, h, ((hg2 0 0 (by decide)).trans ((hg1 0 0 (by decide) (by decide) (fun w => absurd w.1 (by decide))).trans (hgo 0 0 rfl))), hh, by rw [ht]; exact hR⟩, hS.F ht⟩) hS.2.2 dX1_find_152)
              · skip
                have hf := (if_neg c_17).symm.trans hf
                refine W.eq (g2 := F0 m 104 ls [.int 0]) (congrArg (fun z => F0 m 104 ls (.int z :: [])) (if_neg c_17)) ?_
                refine cx_S (X := fun _ => True) (P := True) (As := [.int 0]) (rest := []) hK hZ hA hAA hS trivial trivial (xt_requireState l hfl E C A H.size) (fun _ h => hA _ (Nat.le_trans hS.1 h)) ⟨hx, hb, hml, hown, hts⟩ (va_cwS 1 hts (lw_S q457 q458 q33 q459) rfl rfl rfl (by decide +kernel) ⟨Nat.le_of_ble_eq_true rfl, Nat.le_of_ble_eq_true rfl⟩) rfl hl.1 rfl (Nat.le_of_ble_eq_true rfl) dX1_find_104 ⟨Nat.le_of_ble_eq_true rfl, Nat.le_of_ble_eq_true rfl⟩ (fun ce q9 H locs hB hz hk hS hc9 hv9 hcl => ?_)
                have hR := hR.kept (fun a _ h => hk a h (Nat.not_le.mpr h))
                exact vx_out (fun x h => (hnt x h).elim) hlocks hc9 hv9 hcl (fun t ht _ => ⟨⟨hf.symm, by rw [ht]; exact hR⟩, hS.F ht⟩) hS.2.2 (Nat.le_of_ble_eq_true rfl) (Nat.le_of_ble_eq_true rfl)
            refine lv_icmp_ge (tgt := 103) hx hb dX1_find_96 (by decide) (fun c_18 => ?_) (fun c_18 => ?_)
            · skip
              refine lv_iconst (v := 0) hx hb dX1_find_103 (by decide) ?_
              exact hJ_104 _ _ _ 0 (gi_0 (gi_nb_t c_18)) hR hS (lv_sub hl [0, 1, 2, 3, 4, 5, 6, 7] rfl)
            · skip
              have hn30 := xq_n30 hI c_18
              refine lv_iconst (v := 1) hx hb dX1_find_99 (by decide) ?_
              refine lv_goto (tgt := 104) hx hb dX1_find_100 (by decide) ?_
              exact hJ_104 _ _ _ 1 (gi_1 (gi_nb_f c_18)) hR hS (lv_sub hl [0, 1, 2, 3, 4, 5, 6, 7] rfl)
          · skip
            have hf := (if_neg c_8).symm.trans hf
            refine W.eq (g2 := F0 m 82 ls [.int 0]) (congrArg (fun z => F0 m 82 ls (.int z :: [])) (if_neg c_8)) ?_
            refine cx_S (X := fun _ => True) (P := True) (As := [.int 0]) (rest := []) hK hZ hA hAA hS trivial trivial (xt_requireArgument l hfl E C A H.size) (fun _ h => hA _ (Nat.le_trans hS.1 h)) ⟨hx, hb, hml, hown, hts⟩ (va_cwS 1 hts (lw_S q322 q323 q33 q324) rfl rfl rfl (by decide +kernel) ⟨Nat.le_of_ble_eq_true rfl, Nat.le_of_ble_eq_true rfl⟩) rfl hl.1 rfl (Nat.le_of_ble_eq_true rfl) dX1_find_82 ⟨Nat.le_of_ble_eq_true rfl, Nat.le_of_ble_eq_true rfl⟩ (fun ce q9 H locs hB hz hk hS hc9 hv9 hcl => ?_)
            have hR := hR.kept (fun a _ h => hk a h (Nat.not_le.mpr h))
            exact vx_out (fun x h => (hnt x h).elim) hlocks hc9 hv9 hcl (fun t ht _ => ⟨⟨hf.symm, by rw [ht]; exact hR⟩, hS.F ht⟩) hS.2.2 (Nat.le_of_ble_eq_true rfl) (Nat.le_of_ble_eq_true rfl)
        refine lv_if_eq (tgt := 81) hx hb dX1_find_38 (by decide) (fun c_19 => ?_) (fun c_19 => ?_)
        · skip
          have c_19 : ¬ ((xf_isIn p3 0 (S 0 0)) = true) := gs_zf (φ := (xf_isIn p3 0 (S 0 0)) = true) c_19
          refine lv_iconst (v := 0) hx hb dX1_find_81 (by decide) ?_
          exact hJ_82 _ _ _ 0 (gi_0 (gi_ca_f c_19)) hR hS (lv_sub hl [0, 1, 2, 3, 4, 5, 6, 7] rfl)
        · skip
          have c_19 : (xf_isIn p3 0 (S 0 0)) = true := gs_zt (φ := (xf_isIn p3 0 (S 0 0)) = true) c_19
          refine lv_iload hx hb dX1_find_41 (lv_at hl 4 rfl) ?_
          refine ps_calli (As := [.int p4]) (rest := []) ⟨hx, hb, hml, hown, hts⟩ (xt_isWords l p4) (va_cwS 1 hts (lw_S q492 q493 q33 q494) rfl rfl rfl (by decide +kernel) ⟨Nat.le_of_ble_eq_true rfl, Nat.le_of_ble_eq_true rfl⟩) trivial hS rfl hl.1 rfl (Nat.le_of_ble_eq_true rfl) dX1_find_43 ⟨Nat.zero_le _, Nat.zero_le _⟩ (fun H locs hz hk hS => ?_)
          have hR := hR.kept (fun a _ h => hk a h)
          refine lv_if_eq (tgt := 81) hx hb dX1_find_46 (by decide) (fun c_20 => ?_) (fun c_20 => ?_)
          · skip
            have c_20 : ¬ ((xf_isWords p4) = true) := gs_zf (φ := (xf_isWords p4) = true) c_20
            refine lv_iconst (v := 0) hx hb dX1_find_81 (by decide) ?_
            exact hJ_82 _ _ _ 0 (gi_0 ((gi_ca_f c_20).trans (gi_ca_t c_19))) hR hS (lv_sub hl [0, 1, 2, 3, 4, 5, 6, 7] rfl)
          · skip
            have c_20 : (xf_isWords p4) = true := gs_zt (φ := (xf_isWords p4) = true) c_20
            refine lv_iload hx hb dX1_find_49 (lv_at hl 5 rfl) ?_
            refine ps_calli (As := [.int p5]) (rest := []) ⟨hx, hb, hml, hown, hts⟩ (xt_isWords l p5) (va_cwS 1 hts (lw_S q492 q493 q33 q494) rfl rfl rfl (by decide +kernel) ⟨Nat.le_of_ble_eq_true rfl, Nat.le_of_ble_eq_true rfl⟩) trivial hS rfl hl.1 rfl (Nat.le_of_ble_eq_true rfl) dX1_find_51 ⟨Nat.zero_le _, Nat.zero_le _⟩ (fun H locs hz hk hS => ?_)
            have hR := hR.kept (fun a _ h => hk a h)
            refine lv_if_eq (tgt := 81) hx hb dX1_find_54 (by decide) (fun c_21 => ?_) (fun c_21 => ?_)
            · skip
              have c_21 : ¬ ((xf_isWords p5) = true) := gs_zf (φ := (xf_isWords p5) = true) c_21
              refine lv_iconst (v := 0) hx hb dX1_find_81 (by decide) ?_
              exact hJ_82 _ _ _ 0 (gi_0 (((gi_ca_f c_21).trans (gi_ca_t c_20)).trans (gi_ca_t c_19))) hR hS (lv_sub hl [0, 1, 2, 3, 4, 5, 6, 7] rfl)
            · skip
              have c_21 : (xf_isWords p5) = true := gs_zt (φ := (xf_isWords p5) = true) c_21
              refine lv_iload hx hb dX1_find_57 (lv_at hl 4 rfl) ?_
              refine lv_iload hx hb dX1_find_59 (lv_at hl 5 rfl) ?_
              refine lv_iand hx hb dX1_find_61 ?_
              refine lv_if_ne (tgt := 81) hx hb dX1_find_62 (by decide) (fun c_22 => ?_) (fun c_22 => ?_)
              · skip
                refine lv_iconst (v := 0) hx hb dX1_find_81 (by decide) ?_
                exact hJ_82 _ _ _ 0 (gi_0 ((((gi_ca_f c_22).trans (gi_ca_t c_21)).trans (gi_ca_t c_20)).trans (gi_ca_t c_19))) hR hS (lv_sub hl [0, 1, 2, 3, 4, 5, 6, 7] rfl)
              · skip
                refine lv_iload hx hb dX1_find_65 (lv_at hl 6 rfl) ?_
                refine lv_iconst (v := 0) hx hb dX1_find_67 (by decide) ?_
                refine lv_sipush (v := 9999) hx hb dX1_find_68 (by decide) ?_
                refine ps_calli (As := [.int p6, .int 0, .int 9999]) (rest := []) ⟨hx, hb, hml, hown, hts⟩ (xt_isIn l p6 0 9999) (va_cwS 3 hts (lw_S q295 q296 q33 q297) rfl rfl rfl (by decide +kernel) ⟨Nat.le_of_ble_eq_true rfl, Nat.le_of_ble_eq_true rfl⟩) trivial hS rfl hl.1 rfl (Nat.le_of_ble_eq_true rfl) dX1_find_71 ⟨Nat.zero_le _, Nat.zero_le _⟩ (fun H locs hz hk hS => ?_)
                have hR := hR.kept (fun a _ h => hk a h)
                refine lv_if_eq (tgt := 81) hx hb dX1_find_74 (by decide) (fun c_23 => ?_) (fun c_23 => ?_)
                · skip
                  have c_23 : ¬ ((xf_isIn p6 0 9999) = true) := gs_zf (φ := (xf_isIn p6 0 9999) = true) c_23
                  refine lv_iconst (v := 0) hx hb dX1_find_81 (by decide) ?_
                  exact hJ_82 _ _ _ 0 (gi_0 (((((gi_cb_f c_23).trans (gi_ca_t c_22)).trans (gi_ca_t c_21)).trans (gi_ca_t c_20)).trans (gi_ca_t c_19))) hR hS (lv_sub hl [0, 1, 2, 3, 4, 5, 6, 7] rfl)
                · skip
                  have c_23 : (xf_isIn p6 0 9999) = true := gs_zt (φ := (xf_isIn p6 0 9999) = true) c_23
                  refine lv_iconst (v := 1) hx hb dX1_find_77 (by decide) ?_
                  refine lv_goto (tgt := 82) hx hb dX1_find_78 (by decide) ?_
                  exact hJ_82 _ _ _ 1 (gi_1 (((((gi_cb_t c_23).trans (gi_ca_t c_22)).trans (gi_ca_t c_21)).trans (gi_ca_t c_20)).trans (gi_ca_t c_19))) hR hS (lv_sub hl [0, 1, 2, 3, 4, 5, 6, 7] rfl)
      · skip
        have hf := (if_neg c_3).symm.trans hf
        refine W.eq (g2 := F0 m 26 ls [.int 0]) (congrArg (fun z => F0 m 26 ls (.int z :: [])) (if_neg c_3)) ?_
        refine cx_S (X := fun _ => True) (P := True) (As := [.int 0]) (rest := []) hK hZ hA hAA hS trivial trivial (xt_requireIndex l hfl E C A H.size) (fun _ h => hA _ (Nat.le_trans hS.1 h)) ⟨hx, hb, hml, hown, hts⟩ (va_cwS 1 hts (lw_S q298 q299 q33 q300) rfl rfl rfl (by decide +kernel) ⟨Nat.le_of_ble_eq_true rfl, Nat.le_of_ble_eq_true rfl⟩) rfl hl.1 rfl (Nat.le_of_ble_eq_true rfl) dX1_find_26 ⟨Nat.le_of_ble_eq_true rfl, Nat.le_of_ble_eq_true rfl⟩ (fun ce q9 H locs hB hz hk hS hc9 hv9 hcl => ?_)
        have hR := hR.kept (fun a _ h => hk a h (Nat.not_le.mpr h))
        exact vx_out (fun x h => (hnt x h).elim) hlocks hc9 hv9 hcl (fun t ht _ => ⟨⟨hf.symm, by rw [ht]; exact hR⟩, hS.F ht⟩) hS.2.2 (Nat.le_of_ble_eq_true rfl) (Nat.le_of_ble_eq_true rfl)
    refine lv_if_eq (tgt := 25) hx hb dX1_find_8 (by decide) (fun c_24 => ?_) (fun c_24 => ?_)
    · skip
      have c_24 : ¬ ((xf_isPlace p2) = true) := gs_zf (φ := (xf_isPlace p2) = true) c_24
      refine lv_iconst (v := 0) hx hb dX1_find_25 (by decide) ?_
      exact hJ_26 _ _ _ 0 (gi_0 (gi_ca_f c_24)) hR hS (lv_sub hl [0, 1, 2, 3, 4, 5, 6, 7] rfl)
    · skip
      have c_24 : (xf_isPlace p2) = true := gs_zt (φ := (xf_isPlace p2) = true) c_24
      have c_25 := xq_place c_24
      refine lv_iload hx hb dX1_find_11 (lv_at hl 7 rfl) ?_
      refine lv_iconst (v := 0) hx hb dX1_find_13 (by decide) ?_
      refine lv_iconst (v := 5) hx hb dX1_find_14 (by decide) ?_
      refine ps_calli (As := [.int p7, .int 0, .int 5]) (rest := []) ⟨hx, hb, hml, hown, hts⟩ (xt_isIn l p7 0 5) (va_cwS 3 hts (lw_S q295 q296 q33 q297) rfl rfl rfl (by decide +kernel) ⟨Nat.le_of_ble_eq_true rfl, Nat.le_of_ble_eq_true rfl⟩) trivial hS rfl hl.1 rfl (Nat.le_of_ble_eq_true rfl) dX1_find_15 ⟨Nat.zero_le _, Nat.zero_le _⟩ (fun H locs hz hk hS => ?_)
      have hR := hR.kept (fun a _ h => hk a h)
      refine lv_if_eq (tgt := 25) hx hb dX1_find_18 (by decide) (fun c_26 => ?_) (fun c_26 => ?_)
      · skip
        have c_26 : ¬ ((xf_isIn p7 0 5) = true) := gs_zf (φ := (xf_isIn p7 0 5) = true) c_26
        refine lv_iconst (v := 0) hx hb dX1_find_25 (by decide) ?_
        exact hJ_26 _ _ _ 0 (gi_0 ((gi_cb_f c_26).trans (gi_ca_t c_24))) hR hS (lv_sub hl [0, 1, 2, 3, 4, 5, 6, 7] rfl)
      · skip
        have c_26 : (xf_isIn p7 0 5) = true := gs_zt (φ := (xf_isIn p7 0 5) = true) c_26
        have c_27 := xq_vp6 c_26
        refine lv_iconst (v := 1) hx hb dX1_find_21 (by decide) ?_
        refine lv_goto (tgt := 26) hx hb dX1_find_22 (by decide) ?_
        exact hJ_26 _ _ _ 1 (gi_1 ((gi_cb_t c_26).trans (gi_ca_t c_24))) hR hS (lv_sub hl [0, 1, 2, 3, 4, 5, 6, 7] rfl)
  · skip
    have hf := (if_neg c_1).symm.trans hf
    refine cx_S (X := fun _ => True) (As := [.int p1]) (rest := []) hK hZ hA hAA hS trivial c_1 (xt_requireKind l hfl E C A s.heap.size p1) (fun _ h => hA _ (Nat.le_trans hS.1 h)) ⟨hx, hb, hml, hown, hts⟩ (va_cwS 1 hts (lw_S q350 q351 q33 q352) rfl rfl rfl (by decide +kernel) ⟨Nat.le_of_ble_eq_true rfl, Nat.le_of_ble_eq_true rfl⟩) rfl hl.1 rfl (Nat.le_of_ble_eq_true rfl) dX1_find_1 ⟨Nat.le_of_ble_eq_true rfl, Nat.le_of_ble_eq_true rfl⟩ (fun ce q9 H locs hB hz hk hS hc9 hv9 hcl => ?_)
    have hR := hR.kept (fun a _ h => hk a h (Nat.not_le.mpr h))
    exact vx_out (fun x h => (hnt x h).elim) hlocks hc9 hv9 hcl (fun t ht _ => ⟨⟨hf.symm, by rw [ht]; exact hR⟩, hS.F ht⟩) hS.2.2 (Nat.le_of_ble_eq_true rfl) (Nat.le_of_ble_eq_true rfl)
