set_option maxHeartbeats 2000000 in
set_option maxRecDepth 100000 in
theorem mt_in (l : Launch) (p0 : Int32) (p1 : Int32) (p2 : Int32) : Met l yX2_in (ws_ yX2_in cX2_in 3 (some .boolean)) { frames := 0, cells := 0, slots := 0, locals := 0 } (ps_Pc [.int p0, .int p1, .int p2] (True)) (ps_Qi (gs_bz (mf_in p0 p1 p2))) 0 0 (fun _ => False) := by
  refine ps_start (by decide) (Nat.le_of_ble_eq_true rfl) ?_
  intro p e s m below meth c ls hx hb hr hlocks hml hown hts hP hl
  have hl : lv_has ls 3 [(0, .int p0), (1, .int p1), (2, .int p2)] := hl
  have hS : va_S (fun _ => False) s.heap s.heap [] := va_S.rf
  have hf : (mf_in p0 p1 p2) = (mf_in p0 p1 p2) := rfl
  refine lv_iload_n hx hb dX2_in_0 rfl (lv_at hl 0 rfl) ?_
  refine lv_iload_n hx hb dX2_in_1 rfl (lv_at hl 1 rfl) ?_
  have hJ_15 : ∀ (H : Heap) (locs : List Loc) (ls : Array Slot) (v_15 : Int32), v_15 = (if (¬ (p0 < p1)) ∧ (¬ (p2 < p0)) then 1 else 0) → va_S (fun _ => False) s.heap H locs → lv_has ls 3 [] → mr_G p l e { frames := 0, cells := 0, slots := 0, locals := 0 } s m [.int p0, .int p1, .int p2] below meth c (fun _ => False) (ps_Qi (gs_bz (mf_in p0 p1 p2))) H locs (F0 m 15 ls [.int v_15]) := by
    intro H locs ls v_15 e_v_15 hS hl
    subst e_v_15
    exact W.zret (v := (if (¬ (p0 < p1)) ∧ (¬ (p2 < p0)) then 1 else 0)) hx hb hr gs_nar (fun t ht hW => ⟨⟨_, (), rfl, (gs_bz_dec.trans (congrArg gs_bz hf)), trivial⟩, hS.F ht⟩) hS.2.2 dX2_in_15
  refine lv_icmp_lt (tgt := 14) hx hb dX2_in_2 (by decide) (fun c_1 => ?_) (fun c_1 => ?_)
  · skip
    refine lv_iconst (v := 0) hx hb dX2_in_14 (by decide) ?_
    exact hJ_15 _ _ _ 0 (gi_0 (gi_na_t c_1)) hS (lv_sub hl [] rfl)
  · skip
    refine lv_iload_n hx hb dX2_in_5 rfl (lv_at hl 0 rfl) ?_
    refine lv_iload_n hx hb dX2_in_6 rfl (lv_at hl 2 rfl) ?_
    refine lv_icmp_gt (tgt := 14) hx hb dX2_in_7 (by decide) (fun c_2 => ?_) (fun c_2 => ?_)
    · skip
      refine lv_iconst (v := 0) hx hb dX2_in_14 (by decide) ?_
      exact hJ_15 _ _ _ 0 (gi_0 ((gi_nb_t c_2).trans (gi_na_f c_1))) hS (lv_sub hl [] rfl)
    · skip
      refine lv_iconst (v := 1) hx hb dX2_in_10 (by decide) ?_
      refine lv_goto (tgt := 15) hx hb dX2_in_11 (by decide) ?_
      exact hJ_15 _ _ _ 1 (gi_1 ((gi_nb_f c_2).trans (gi_na_f c_1))) hS (lv_sub hl [] rfl)
set_option maxHeartbeats 2000000 in
set_option maxRecDepth 100000 in
theorem mt_isWord (l : Launch) (p0 : Int32) : Met l yX2_isWord (ws_ yX2_isWord cX2_isWord 1 (some .boolean)) { frames := 1, cells := 0, slots := 0, locals := 22 } (ps_Pc [.int p0] (True)) (ps_Qi (gs_bz (mf_isWord p0))) 0 0 (fun _ => False) := by
  refine ps_start (by decide) (Nat.le_of_ble_eq_true rfl) ?_
  intro p e s m below meth c ls hx hb hr hlocks hml hown hts hP hl
  have hl : lv_has ls 1 [(0, .int p0)] := hl
  have hS : va_S (fun _ => False) s.heap s.heap [] := va_S.rf
  have hf : (mf_isWord p0) = (mf_isWord p0) := rfl
  refine lv_iload_n hx hb dX2_isWord_0 rfl (lv_at hl 0 rfl) ?_
  refine lv_iconst (v := 0) hx hb dX2_isWord_1 (by decide) ?_
  refine lv_bipush (v := 23) hx hb dX2_isWord_2 (by decide) ?_
  refine ps_calli (As := [.int p0, .int 0, .int 23]) (rest := []) ⟨hx, hb, hml, hown, hts⟩ (mt_in l p0 0 23) (va_cwS 3 hts (lw_S q1078 q1079 q41 q1080) rfl rfl rfl (by decide +kernel) ⟨Nat.le_of_ble_eq_true rfl, Nat.le_of_ble_eq_true rfl⟩) trivial hS rfl hl.1 rfl (Nat.le_of_ble_eq_true rfl) dX2_isWord_4 ⟨Nat.le_refl _, Nat.le_refl _⟩ (fun H locs hz hk hS => ?_)
  exact W.zret (v := (if (mf_in p0 0 23) = true then 1 else 0)) hx hb hr gs_nar (fun t ht hW => ⟨⟨_, (), rfl, (gs_bz_dec.trans (congrArg gs_bz hf)), trivial⟩, hS.F ht⟩) hS.2.2 dX2_isWord_7
set_option maxHeartbeats 2000000 in
set_option maxRecDepth 100000 in
theorem mt_isKind (l : Launch) (p0 : Int32) : Met l yX2_isKind (ws_ yX2_isKind cX2_isKind 1 (some .boolean)) { frames := 1, cells := 0, slots := 0, locals := 22 } (ps_Pc [.int p0] (True)) (ps_Qi (gs_bz (mf_isKind p0))) 0 0 (fun _ => False) := by
  refine ps_start (by decide) (Nat.le_of_ble_eq_true rfl) ?_
  intro p e s m below meth c ls hx hb hr hlocks hml hown hts hP hl
  have hl : lv_has ls 1 [(0, .int p0)] := hl
  have hS : va_S (fun _ => False) s.heap s.heap [] := va_S.rf
  have hf : (mf_isKind p0) = (mf_isKind p0) := rfl
  refine lv_iload_n hx hb dX2_isKind_0 rfl (lv_at hl 0 rfl) ?_
  refine lv_iconst (v := 0) hx hb dX2_isKind_1 (by decide) ?_
  refine lv_bipush (v := 7) hx hb dX2_isKind_2 (by decide) ?_
  refine ps_calli (As := [.int p0, .int 0, .int 7]) (rest := []) ⟨hx, hb, hml, hown, hts⟩ (mt_in l p0 0 7) (va_cwS 3 hts (lw_S q1078 q1079 q41 q1080) rfl rfl rfl (by decide +kernel) ⟨Nat.le_of_ble_eq_true rfl, Nat.le_of_ble_eq_true rfl⟩) trivial hS rfl hl.1 rfl (Nat.le_of_ble_eq_true rfl) dX2_isKind_4 ⟨Nat.le_refl _, Nat.le_refl _⟩ (fun H locs hz hk hS => ?_)
  exact W.zret (v := (if (mf_in p0 0 7) = true then 1 else 0)) hx hb hr gs_nar (fun t ht hW => ⟨⟨_, (), rfl, (gs_bz_dec.trans (congrArg gs_bz hf)), trivial⟩, hS.F ht⟩) hS.2.2 dX2_isKind_7
set_option maxHeartbeats 2000000 in
set_option maxRecDepth 100000 in
theorem mt_isRoom (l : Launch) (p0 : Int32) : Met l yX2_isRoom (ws_ yX2_isRoom cX2_isRoom 1 (some .boolean)) { frames := 1, cells := 0, slots := 0, locals := 22 } (ps_Pc [.int p0] (True)) (ps_Qi (gs_bz (mf_isRoom p0))) 0 0 (fun _ => False) := by
  refine ps_start (by decide) (Nat.le_of_ble_eq_true rfl) ?_
  intro p e s m below meth c ls hx hb hr hlocks hml hown hts hP hl
  have hl : lv_has ls 1 [(0, .int p0)] := hl
  have hS : va_S (fun _ => False) s.heap s.heap [] := va_S.rf
  have hf : (mf_isRoom p0) = (mf_isRoom p0) := rfl
  refine lv_iload_n hx hb dX2_isRoom_0 rfl (lv_at hl 0 rfl) ?_
  refine lv_iconst (v := 0) hx hb dX2_isRoom_1 (by decide) ?_
  refine lv_iconst (v := 5) hx hb dX2_isRoom_2 (by decide) ?_
  refine ps_calli (As := [.int p0, .int 0, .int 5]) (rest := []) ⟨hx, hb, hml, hown, hts⟩ (mt_in l p0 0 5) (va_cwS 3 hts (lw_S q1078 q1079 q41 q1080) rfl rfl rfl (by decide +kernel) ⟨Nat.le_of_ble_eq_true rfl, Nat.le_of_ble_eq_true rfl⟩) trivial hS rfl hl.1 rfl (Nat.le_of_ble_eq_true rfl) dX2_isRoom_3 ⟨Nat.le_refl _, Nat.le_refl _⟩ (fun H locs hz hk hS => ?_)
  exact W.zret (v := (if (mf_in p0 0 5) = true then 1 else 0)) hx hb hr gs_nar (fun t ht hW => ⟨⟨_, (), rfl, (gs_bz_dec.trans (congrArg gs_bz hf)), trivial⟩, hS.F ht⟩) hS.2.2 dX2_isRoom_6
set_option maxHeartbeats 2000000 in
set_option maxRecDepth 100000 in
theorem mt_isPlace (l : Launch) (p0 : Int32) : Met l yX2_isPlace (ws_ yX2_isPlace cX2_isPlace 1 (some .boolean)) { frames := 1, cells := 0, slots := 0, locals := 22 } (ps_Pc [.int p0] (True)) (ps_Qi (gs_bz (mf_isPlace p0))) 0 0 (fun _ => False) := by
  refine ps_start (by decide) (Nat.le_of_ble_eq_true rfl) ?_
  intro p e s m below meth c ls hx hb hr hlocks hml hown hts hP hl
  have hl : lv_has ls 1 [(0, .int p0)] := hl
  have hS : va_S (fun _ => False) s.heap s.heap [] := va_S.rf
  have hf : (mf_isPlace p0) = (mf_isPlace p0) := rfl
  refine lv_iload_n hx hb dX2_isPlace_0 rfl (lv_at hl 0 rfl) ?_
  refine lv_iconst (v := 0) hx hb dX2_isPlace_1 (by decide) ?_
  refine lv_bipush (v := 9) hx hb dX2_isPlace_2 (by decide) ?_
  refine ps_calli (As := [.int p0, .int 0, .int 9]) (rest := []) ⟨hx, hb, hml, hown, hts⟩ (mt_in l p0 0 9) (va_cwS 3 hts (lw_S q1078 q1079 q41 q1080) rfl rfl rfl (by decide +kernel) ⟨Nat.le_of_ble_eq_true rfl, Nat.le_of_ble_eq_true rfl⟩) trivial hS rfl hl.1 rfl (Nat.le_of_ble_eq_true rfl) dX2_isPlace_4 ⟨Nat.le_refl _, Nat.le_refl _⟩ (fun H locs hz hk hS => ?_)
  exact W.zret (v := (if (mf_in p0 0 9) = true then 1 else 0)) hx hb hr gs_nar (fun t ht hW => ⟨⟨_, (), rfl, (gs_bz_dec.trans (congrArg gs_bz hf)), trivial⟩, hS.F ht⟩) hS.2.2 dX2_isPlace_7
set_option maxHeartbeats 2000000 in
set_option maxRecDepth 100000 in
theorem mt_isSet (l : Launch) (p0 : Int32) : Met l yX2_isSet (ws_ yX2_isSet cX2_isSet 1 (some .boolean)) { frames := 1, cells := 0, slots := 0, locals := 22 } (ps_Pc [.int p0] (True)) (ps_Qi (gs_bz (mf_isSet p0))) 0 0 (fun _ => False) := by
  refine ps_start (by decide) (Nat.le_of_ble_eq_true rfl) ?_
  intro p e s m below meth c ls hx hb hr hlocks hml hown hts hP hl
  have hl : lv_has ls 1 [(0, .int p0)] := hl
  have hS : va_S (fun _ => False) s.heap s.heap [] := va_S.rf
  have hf : (mf_isSet p0) = (mf_isSet p0) := rfl
  refine lv_iload_n hx hb dX2_isSet_0 rfl (lv_at hl 0 rfl) ?_
  refine lv_iconst (v := 0) hx hb dX2_isSet_1 (by decide) ?_
  refine lv_ldc (v := 16777215) hx hb hown (hts _ q1120) dX2_isSet_2 ?_
  refine ps_calli (As := [.int p0, .int 0, .int 16777215]) (rest := []) ⟨hx, hb, hml, hown, hts⟩ (mt_in l p0 0 16777215) (va_cwS 3 hts (lw_S q1078 q1079 q41 q1080) rfl rfl rfl (by decide +kernel) ⟨Nat.le_of_ble_eq_true rfl, Nat.le_of_ble_eq_true rfl⟩) trivial hS rfl hl.1 rfl (Nat.le_of_ble_eq_true rfl) dX2_isSet_4 ⟨Nat.le_refl _, Nat.le_refl _⟩ (fun H locs hz hk hS => ?_)
  exact W.zret (v := (if (mf_in p0 0 16777215) = true then 1 else 0)) hx hb hr gs_nar (fun t ht hW => ⟨⟨_, (), rfl, (gs_bz_dec.trans (congrArg gs_bz hf)), trivial⟩, hS.F ht⟩) hS.2.2 dX2_isSet_7
set_option maxHeartbeats 2000000 in
set_option maxRecDepth 100000 in
theorem mt_bits (l : Launch) (p0 : Int32) : Met l yX2_bits (ws_ yX2_bits cX2_bits 3 (some .int)) { frames := 0, cells := 0, slots := 0, locals := 0 } (ps_Pc [.int p0] (True)) (ps_Qi (mf_bits p0)) 0 0 (fun _ => False) := by
  refine ps_start (by decide) (Nat.le_of_ble_eq_true rfl) ?_
  intro p e s m below meth c ls hx hb hr hlocks hml hown hts hP hl
  have hl : lv_has ls 3 [(0, .int p0)] := hl
  have hS : va_S (fun _ => False) s.heap s.heap [] := va_S.rf
  have hf : (mf_bits p0) = (mf_bits p0) := rfl
  refine lv_iconst (v := 0) hx hb dX2_bits_0 (by decide) ?_
  refine lv_istore_n (lv' := [(1, .int 0), (0, .int p0)]) hx hb dX2_bits_1 rfl hl (by decide) rfl (fun ls hl => ?_)
  refine lv_iconst (v := 0) hx hb dX2_bits_2 (by decide) ?_
  refine lv_istore_n (lv' := [(2, .int 0), (1, .int 0), (0, .int p0)]) hx hb dX2_bits_3 rfl hl (by decide) rfl (fun ls hl => ?_)
  have hL_4 : ∀ (n_4 i_4 : Nat) (x1_4 : Int32) (H : Heap) (locs : List Loc) (ls : Array Slot), i_4 + n_4 = 24 → mf_bits_R4 p0 n_4 i_4 x1_4 = (mf_bits_R4 p0 24 0 0) → va_S (fun _ => False) s.heap H locs → lv_has ls 3 [(0, .int p0), (1, .int x1_4), (2, .int (nI i_4))] → mr_G p l e { frames := 0, cells := 0, slots := 0, locals := 0 } s m [.int p0] below meth c (fun _ => False) (ps_Qi (mf_bits p0)) H locs (F0 m 4 ls []) := by
    intro n_4
    induction n_4 with
    | zero =>
      intro i_4 x1_4 H locs ls hi_4 hg_4 hS hl
      have hi_4 : i_4 = 24 := hi_4
      subst hi_4
      have e_x1_4 : x1_4 = (mf_bits_R4 p0 24 0 0) := congrArg (fun z => z) hg_4
      subst e_x1_4
      refine lv_iload_n hx hb dX2_bits_4 rfl (lv_at hl 2 rfl) ?_
      refine lv_bipush (v := 24) hx hb dX2_bits_5 (by decide) ?_
      refine lv_icmp_ge (tgt := 24) hx hb dX2_bits_7 (by decide) (fun c_1 => ?_) (fun c_1 => absurd (lp_x0 (rfl : (24 : Int32) = nI 24)) c_1)
      refine lv_iload_n hx hb dX2_bits_24 rfl (lv_at hl 1 rfl) ?_
      exact W.iret (v := (mf_bits_R4 p0 24 0 0)) hx hb hr (fun t ht hW => ⟨⟨_, (), rfl, hf, trivial⟩, hS.F ht⟩) hS.2.2 dX2_bits_25
    | succ n_4 ih_4 =>
      intro i_4 x1_4 H locs ls hi_4 hg_4 hS hl
      have hlt_4 : i_4 < 24 := by omega
      have hf_4 : mf_bits_L4 p0 i_4 x1_4 = mf_bits_L4 p0 i_4 x1_4 := rfl
      refine lv_iload_n hx hb dX2_bits_4 rfl (lv_at hl 2 rfl) ?_
      refine lv_bipush (v := 24) hx hb dX2_bits_5 (by decide) ?_
      refine lv_icmp_ge (tgt := 24) hx hb dX2_bits_7 (by decide) (fun c_2 => absurd c_2 (lp_x1 (rfl : (24 : Int32) = nI 24) hlt_4 (by decide))) (fun c_2 => ?_)
      refine lv_iload_n hx hb dX2_bits_10 rfl (lv_at hl 1 rfl) ?_
      refine lv_iload_n hx hb dX2_bits_11 rfl (lv_at hl 0 rfl) ?_
      refine lv_iload_n hx hb dX2_bits_12 rfl (lv_at hl 2 rfl) ?_
      refine lv_ishr hx hb dX2_bits_13 ?_
      refine lv_iconst (v := 1) hx hb dX2_bits_14 (by decide) ?_
      refine lv_iand hx hb dX2_bits_15 ?_
      refine lv_iadd hx hb dX2_bits_16 ?_
      refine lv_istore_n (lv' := [(1, .int (x1_4 + ((p0 >>> ((nI i_4) &&& 31)) &&& 1))), (0, .int p0), (2, .int (nI i_4))]) hx hb dX2_bits_17 rfl hl (by decide) rfl (fun ls hl => ?_)
      refine lv_iinc (v := (nI (i_4 + 1))) (lv' := [(2, .int (nI (i_4 + 1))), (1, .int (x1_4 + ((p0 >>> ((nI i_4) &&& 31)) &&& 1))), (0, .int p0)]) hx hb dX2_bits_18 hl (k := 2) rfl (nI_1 i_4) (by decide) rfl (fun ls hl => ?_)
      refine lv_goto (tgt := 4) hx hb dX2_bits_21 (by decide) ?_
      exact ih_4 (i_4 + 1) (x1_4 + ((p0 >>> ((nI i_4) &&& 31)) &&& 1)) _ _ _ (by omega) ((congrArg (fun z => mf_bits_R4 p0 n_4 (i_4 + 1) z) hf_4).trans hg_4) hS (lv_sub hl [2, 1, 0] rfl)
  exact hL_4 24 0 0 _ _ _ (by omega) rfl hS (lv_sub hl [2, 1, 0] rfl)
set_option maxHeartbeats 2000000 in
set_option maxRecDepth 100000 in
theorem mt_thrown (l : Launch) (E : en_T) (q : Nat) (ad : Nat → Nat) (L : List Nat) (S : gs_T) : Met l yX2_thrown (ws_ yX2_thrown cX2_thrown 1 (some .int)) { frames := 0, cells := 0, slots := 0, locals := 0 } (mr_Pc E q ad L S [] (True)) (mr_Qi E q ad L (mf_thrown S ) S) 0 0 (mr_A L) := by
  refine mr_start (by decide) rfl (Nat.le_of_ble_eq_true rfl) ?_
  intro p e s m below meth c ls hx hb hr hlocks hml hown hts hK hP hl hR
  have hl : lv_has ls 1 [(0, .ref q)] := hl
  have hS : va_S (mr_A L) s.heap s.heap [] := va_S.rf
  have hf : (mf_thrown S ) = (mf_thrown S ) := rfl
  refine lv_aload_n hx hb dX2_thrown_0 rfl (lv_at hl 0 rfl) ?_
  refine mr_geti (v := (S 0 0)) hx hb hts hown hK hR 0 (by decide) rfl (hts _ q951) (fun _ h9 => h9) rfl dX2_thrown_1 ?_
  exact W.iret (v := (S 0 0)) hx hb hr (fun t ht hW => ⟨⟨_, _, rfl, ⟨hf, rfl⟩, mr_bt ht hR⟩, hS.F ht⟩) hS.2.2 dX2_thrown_4
set_option maxHeartbeats 2000000 in
set_option maxRecDepth 100000 in
theorem mt_holds (l : Launch) (E : en_T) (q : Nat) (ad : Nat → Nat) (L : List Nat) (S : gs_T) (p1 : Int32) : Met l yX2_holds (ws_ yX2_holds cX2_holds 2 (some .boolean)) { frames := 0, cells := 0, slots := 0, locals := 0 } (mr_Pc E q ad L S [.int p1] (True)) (mr_Qi E q ad L (if p1 = 0 then 1 else 0) (gs_up S 0 0 p1)) 0 0 (mr_A L) := by
  refine mr_start (by decide) rfl (Nat.le_of_ble_eq_true rfl) ?_
  intro p e s m below meth c ls hx hb hr hlocks hml hown hts hK hP hl hR
  have hl : lv_has ls 2 [(0, .ref q), (1, .int p1)] := hl
  have hS : va_S (mr_A L) s.heap s.heap [] := va_S.rf
  refine lv_aload_n hx hb dX2_holds_0 rfl (lv_at hl 0 rfl) ?_
  refine lv_iload_n hx hb dX2_holds_1 rfl (lv_at hl 1 rfl) ?_
  refine mr_puti hx hb hts hown hK hR hS 0 (by decide) rfl (hts _ q951) (fun _ h9 => h9) dX2_holds_2 (fun H locs hR hS => ?_)
  refine lv_iload_n hx hb dX2_holds_5 rfl (lv_at hl 1 rfl) ?_
  have hJ_14 : ∀ (H : Heap) (locs : List Loc) (ls : Array Slot) (v_14 : Int32), v_14 = (if p1 = 0 then 1 else 0) → mr_W E q ad L (gs_up S 0 0 p1) H → va_S (mr_A L) s.heap H locs → lv_has ls 2 [] → mr_G p l e { frames := 0, cells := 0, slots := 0, locals := 0 } s m [.ref q, .int p1] below meth c (mr_A L) (mr_Qi E q ad L (if p1 = 0 then 1 else 0) (gs_up S 0 0 p1)) H locs (F0 m 14 ls [.int v_14]) := by
    intro H locs ls v_14 e_v_14 hR hS hl
    subst e_v_14
    exact W.zret (v := (if p1 = 0 then 1 else 0)) hx hb hr gs_nar (fun t ht hW => ⟨⟨_, _, rfl, ⟨rfl, rfl⟩, mr_bt ht hR⟩, hS.F ht⟩) hS.2.2 dX2_holds_14
  refine lv_if_ne (tgt := 13) hx hb dX2_holds_6 (by decide) (fun c_1 => ?_) (fun c_1 => ?_)
  · skip
    refine lv_iconst (v := 0) hx hb dX2_holds_13 (by decide) ?_
    exact hJ_14 _ _ _ 0 (gi_0 (gi_cb_f c_1)) hR hS (lv_sub hl [] rfl)
  · skip
    refine lv_iconst (v := 1) hx hb dX2_holds_9 (by decide) ?_
    refine lv_goto (tgt := 14) hx hb dX2_holds_10 (by decide) ?_
    exact hJ_14 _ _ _ 1 (gi_1 (gi_cb_t c_1)) hR hS (lv_sub hl [] rfl)
set_option maxHeartbeats 2000000 in
set_option maxRecDepth 100000 in
theorem mt_isFind (l : Launch) (E : en_T) (q : Nat) (ad : Nat → Nat) (L : List Nat) (S : gs_T) (p1 : Int32) : Met l yX2_isFind (ws_ yX2_isFind cX2_isFind 2 (some .boolean)) { frames := 1, cells := 0, slots := 0, locals := 22 } (mr_Pc E q ad L S [.int p1] (True)) (mr_Qi E q ad L (gs_bz (mf_isFind S p1)) S) 0 0 (mr_A L) := by
  refine mr_start (by decide) rfl (Nat.le_of_ble_eq_true rfl) ?_
  intro p e s m below meth c ls hx hb hr hlocks hml hown hts hK hP hl hR
  have hl : lv_has ls 2 [(0, .ref q), (1, .int p1)] := hl
  have hS : va_S (mr_A L) s.heap s.heap [] := va_S.rf
  have hf : (mf_isFind S p1) = (mf_isFind S p1) := rfl
  refine lv_iload_n hx hb dX2_isFind_0 rfl (lv_at hl 1 rfl) ?_
  refine lv_iconst (v := 0) hx hb dX2_isFind_1 (by decide) ?_
  refine lv_aload_n hx hb dX2_isFind_2 rfl (lv_at hl 0 rfl) ?_
  refine mr_geti (v := (S 8 0)) hx hb hts hown hK hR 8 (by decide) rfl (hts _ q959) (fun _ h9 => h9) rfl dX2_isFind_3 ?_
  refine lv_iconst (v := 1) hx hb dX2_isFind_6 (by decide) ?_
  refine lv_isub hx hb dX2_isFind_7 ?_
  refine ps_calli (As := [.int p1, .int 0, .int ((S 8 0) - 1)]) (rest := []) ⟨hx, hb, hml, hown, hts⟩ (mt_in l p1 0 ((S 8 0) - 1)) (va_cwS 3 hts (lw_S q1078 q1079 q41 q1080) rfl rfl rfl (by decide +kernel) ⟨Nat.le_of_ble_eq_true rfl, Nat.le_of_ble_eq_true rfl⟩) trivial hS rfl hl.1 rfl (Nat.le_of_ble_eq_true rfl) dX2_isFind_8 ⟨Nat.le_refl _, Nat.le_refl _⟩ (fun H locs hz hk hS => ?_)
  have hR := hR.kept (fun a _ h => hk a h)
  exact W.zret (v := (if (mf_in p1 0 ((S 8 0) - 1)) = true then 1 else 0)) hx hb hr gs_nar (fun t ht hW => ⟨⟨_, _, rfl, ⟨(gs_bz_dec.trans (congrArg gs_bz hf)), rfl⟩, mr_bt ht hR⟩, hS.F ht⟩) hS.2.2 dX2_isFind_11
set_option maxHeartbeats 2000000 in
set_option maxRecDepth 100000 in
theorem mt_isClaim (l : Launch) (E : en_T) (q : Nat) (ad : Nat → Nat) (L : List Nat) (S : gs_T) (p1 : Int32) : Met l yX2_isClaim (ws_ yX2_isClaim cX2_isClaim 2 (some .boolean)) { frames := 1, cells := 0, slots := 0, locals := 22 } (mr_Pc E q ad L S [.int p1] (True)) (mr_Qi E q ad L (gs_bz (mf_isClaim S p1)) S) 0 0 (mr_A L) := by
  refine mr_start (by decide) rfl (Nat.le_of_ble_eq_true rfl) ?_
  intro p e s m below meth c ls hx hb hr hlocks hml hown hts hK hP hl hR
  have hl : lv_has ls 2 [(0, .ref q), (1, .int p1)] := hl
  have hS : va_S (mr_A L) s.heap s.heap [] := va_S.rf
  have hf : (mf_isClaim S p1) = (mf_isClaim S p1) := rfl
  refine lv_iload_n hx hb dX2_isClaim_0 rfl (lv_at hl 1 rfl) ?_
  refine lv_iconst (v := 0) hx hb dX2_isClaim_1 (by decide) ?_
  refine lv_aload_n hx hb dX2_isClaim_2 rfl (lv_at hl 0 rfl) ?_
  refine mr_geti (v := (S 25 0)) hx hb hts hown hK hR 25 (by decide) rfl (hts _ q976) (fun _ h9 => h9) rfl dX2_isClaim_3 ?_
  refine lv_iconst (v := 1) hx hb dX2_isClaim_6 (by decide) ?_
  refine lv_isub hx hb dX2_isClaim_7 ?_
  refine ps_calli (As := [.int p1, .int 0, .int ((S 25 0) - 1)]) (rest := []) ⟨hx, hb, hml, hown, hts⟩ (mt_in l p1 0 ((S 25 0) - 1)) (va_cwS 3 hts (lw_S q1078 q1079 q41 q1080) rfl rfl rfl (by decide +kernel) ⟨Nat.le_of_ble_eq_true rfl, Nat.le_of_ble_eq_true rfl⟩) trivial hS rfl hl.1 rfl (Nat.le_of_ble_eq_true rfl) dX2_isClaim_8 ⟨Nat.le_refl _, Nat.le_refl _⟩ (fun H locs hz hk hS => ?_)
  have hR := hR.kept (fun a _ h => hk a h)
  exact W.zret (v := (if (mf_in p1 0 ((S 25 0) - 1)) = true then 1 else 0)) hx hb hr gs_nar (fun t ht hW => ⟨⟨_, _, rfl, ⟨(gs_bz_dec.trans (congrArg gs_bz hf)), rfl⟩, mr_bt ht hR⟩, hS.F ht⟩) hS.2.2 dX2_isClaim_11
set_option maxHeartbeats 2000000 in
set_option maxRecDepth 100000 in
theorem mt_near (l : Launch) (E : en_T) (q : Nat) (ad : Nat → Nat) (L : List Nat) (S : gs_T) (p1 : Int32) (p2 : Int32) : Met l yX2_near (ws_ yX2_near cX2_near 4 (some .boolean)) { frames := 2, cells := 0, slots := 0, locals := 42 } (mr_Pc E q ad L S [.int p1, .int p2] (True)) (mr_Qi E q ad L (gs_bz (mf_near S p1 p2).1) (mf_near S p1 p2).2) 0 0 (mr_A L) := by
  refine mr_start (by decide) rfl (Nat.le_of_ble_eq_true rfl) ?_
  intro p e s m below meth c ls hx hb hr hlocks hml hown hts hK hP hl hR
  have hl : lv_has ls 4 [(0, .ref q), (1, .int p1), (2, .int p2)] := hl
  have hS : va_S (mr_A L) s.heap s.heap [] := va_S.rf
  have hf : (mf_near S p1 p2) = (mf_near S p1 p2) := rfl
  refine lv_iload_n hx hb dX2_near_0 rfl (lv_at hl 1 rfl) ?_
  refine ps_calli (As := [.int p1]) (rest := []) ⟨hx, hb, hml, hown, hts⟩ (mt_isWord l p1) (va_cwS 1 hts (lw_S q1075 q1076 q41 q1077) rfl rfl rfl (by decide +kernel) ⟨Nat.le_of_ble_eq_true rfl, Nat.le_of_ble_eq_true rfl⟩) trivial hS rfl hl.1 rfl (Nat.le_of_ble_eq_true rfl) dX2_near_1 ⟨Nat.le_refl _, Nat.le_refl _⟩ (fun H locs hz hk hS => ?_)
  have hR := hR.kept (fun a _ h => hk a h)
  have hJ_19 : ∀ (H : Heap) (locs : List Loc) (ls : Array Slot) (v_19 : Int32), v_19 = (if ((mf_isWord p1) = true) ∧ ((mf_isWord p2) = true) then 1 else 0) → mr_W E q ad L S H → va_S (mr_A L) s.heap H locs → lv_has ls 4 [(0, .ref q), (1, .int p1), (2, .int p2)] → mr_G p l e { frames := 2, cells := 0, slots := 0, locals := 42 } s m [.ref q, .int p1, .int p2] below meth c (mr_A L) (mr_Qi E q ad L (gs_bz (mf_near S p1 p2).1) (mf_near S p1 p2).2) H locs (F0 m 19 ls [.int v_19]) := by
    intro H locs ls v_19 e_v_19 hR hS hl
    subst e_v_19
    refine lv_istore_n (lv' := [(3, .int (if ((mf_isWord p1) = true) ∧ ((mf_isWord p2) = true) then 1 else 0)), (0, .ref q), (1, .int p1), (2, .int p2)]) hx hb dX2_near_19 rfl hl (by decide) rfl (fun ls hl => ?_)
    refine lv_aload_n hx hb dX2_near_20 rfl (lv_at hl 1 rfl) ?_
    refine lv_iload_n hx hb dX2_near_21 rfl (lv_at hl 0 rfl) ?_
    have hJ_39 : ∀ (H : Heap) (locs : List Loc) (ls : Array Slot) (v_39 : Int32), v_39 = (if ((mf_isWord p1) = true) ∧ ((mf_isWord p2) = true) then (if p1 = p2 then 2 else 0) else 1) → (v_39 = 0 ↔ ((((mf_isWord p1) = true) ∧ ((mf_isWord p2) = true)) ∧ (¬ (p1 = p2)))) → mr_W E q ad L S H → va_S (mr_A L) s.heap H locs → lv_has ls 4 [(0, .ref q), (1, .int p1), (2, .int p2)] → mr_G p l e { frames := 2, cells := 0, slots := 0, locals := 42 } s m [.ref q, .int p1, .int p2] below meth c (mr_A L) (mr_Qi E q ad L (gs_bz (mf_near S p1 p2).1) (mf_near S p1 p2).2) H locs (F0 m 39 ls [.int v_39, .ref q]) := by
      intro H locs ls v_39 e_v_39 e0_v_39 hR hS hl
      subst e_v_39
      refine mr_calli (As := [.int (if ((mf_isWord p1) = true) ∧ ((mf_isWord p2) = true) then (if p1 = p2 then 2 else 0) else 1)]) (rest := []) ⟨hx, hb, hml, hown, hts⟩ (mt_holds l E q ad L S (if ((mf_isWord p1) = true) ∧ ((mf_isWord p2) = true) then (if p1 = p2 then 2 else 0) else 1)) (cwV 1 hts (lw_V q1081 q1083 qs15 q41 q1084) rfl rfl rfl (by decide +kernel) ⟨Nat.le_of_ble_eq_true rfl, Nat.le_of_ble_eq_true rfl⟩) trivial hK hR (fun _ h => h) hS rfl hl.1 rfl (Nat.le_of_ble_eq_true rfl) dX2_near_39 ⟨Nat.le_refl _, Nat.le_refl _⟩ (fun H locs hR hS _ _ => ?_)
      refine lv_if_ne (tgt := 47) hx hb dX2_near_42 (by decide) (fun c_1 => ?_) (fun c_1 => ?_)
      · skip
        have c_1 : (((mf_isWord p1) = true) ∧ ((mf_isWord p2) = true)) ∧ (¬ (p1 = p2)) := e0_v_39.mp (gs_zt (φ := (if ((mf_isWord p1) = true) ∧ ((mf_isWord p2) = true) then (if p1 = p2 then 2 else 0) else 1) = 0) c_1)
        have hf := (if_pos c_1).symm.trans hf
        have c_2 := c_1.1
        have c_3 := c_1.2
        have c_4 := c_2.1
        have c_5 := c_2.2
        refine lv_aload_n hx hb dX2_near_47 rfl (lv_at hl 0 rfl) ?_
        refine mr_geta hx hb hts hown hK hR 2 (by decide) rfl (hts _ q953) (fun _ h9 => h9) dX2_near_48 ?_
        refine lv_iload_n hx hb dX2_near_51 rfl (lv_at hl 1 rfl) ?_
        refine lv_dup2_11 hx hb dX2_near_52 rfl rfl ?_
        refine mr_ald (v := (S 2 p1.toNatClampNeg)) hx hb hK hR 2 24 rfl (by decide) rfl (by first | assumption | exact mi_w (by assumption)) (congrFun (gs_sk rfl) p1.toNatClampNeg) dX2_near_53 ?_
        refine lv_iconst (v := 1) hx hb dX2_near_54 (by decide) ?_
        refine lv_iload_n hx hb dX2_near_55 rfl (lv_at hl 2 rfl) ?_
        refine lv_ishl hx hb dX2_near_56 ?_
        refine lv_ixor hx hb dX2_near_57 ?_
        refine mr_ast (j := p1.toNatClampNeg) hx hb hK hR hS 2 24 rfl (by decide) rfl (by first | assumption | exact mi_w (by assumption)) rfl dX2_near_58 (fun H locs hR hS => ?_)
        refine lv_aload_n hx hb dX2_near_59 rfl (lv_at hl 0 rfl) ?_
        refine mr_geta hx hb hts hown hK hR 2 (by decide) rfl (hts _ q953) (fun _ h9 => h9) dX2_near_60 ?_
        refine lv_iload_n hx hb dX2_near_63 rfl (lv_at hl 2 rfl) ?_
        refine lv_dup2_11 hx hb dX2_near_64 rfl rfl ?_
        refine mr_ald (v := ((upd (S 2) p1.toNatClampNeg ((S 2 p1.toNatClampNeg) ^^^ (1 <<< (p2 &&& 31)))) p2.toNatClampNeg)) hx hb hK hR 2 24 rfl (by decide) rfl (by first | assumption | exact mi_w (by assumption)) (congrFun (gs_up_at.trans (congrArg (fun z => upd z p1.toNatClampNeg ((S 2 p1.toNatClampNeg) ^^^ (1 <<< (p2 &&& 31)))) (gs_sk rfl))) p2.toNatClampNeg) dX2_near_65 ?_
        refine lv_iconst (v := 1) hx hb dX2_near_66 (by decide) ?_
        refine lv_iload_n hx hb dX2_near_67 rfl (lv_at hl 1 rfl) ?_
        refine lv_ishl hx hb dX2_near_68 ?_
        refine lv_ixor hx hb dX2_near_69 ?_
        refine mr_ast (j := p2.toNatClampNeg) hx hb hK hR hS 2 24 rfl (by decide) rfl (by first | assumption | exact mi_w (by assumption)) rfl dX2_near_70 (fun H locs hR hS => ?_)
        refine lv_aload_n hx hb dX2_near_71 rfl (lv_at hl 0 rfl) ?_
        refine mr_geta hx hb hts hown hK hR 2 (by decide) rfl (hts _ q953) (fun _ h9 => h9) dX2_near_72 ?_
        refine lv_iload_n hx hb dX2_near_75 rfl (lv_at hl 1 rfl) ?_
        refine mr_ald (v := ((upd (upd (S 2) p1.toNatClampNeg ((S 2 p1.toNatClampNeg) ^^^ (1 <<< (p2 &&& 31)))) p2.toNatClampNeg (((upd (S 2) p1.toNatClampNeg ((S 2 p1.toNatClampNeg) ^^^ (1 <<< (p2 &&& 31)))) p2.toNatClampNeg) ^^^ (1 <<< (p1 &&& 31)))) p1.toNatClampNeg)) hx hb hK hR 2 24 rfl (by decide) rfl (by first | assumption | exact mi_w (by assumption)) (congrFun (gs_up_at.trans (congrArg (fun z => upd z p2.toNatClampNeg (((upd (S 2) p1.toNatClampNeg ((S 2 p1.toNatClampNeg) ^^^ (1 <<< (p2 &&& 31)))) p2.toNatClampNeg) ^^^ (1 <<< (p1 &&& 31)))) (gs_up_at.trans (congrArg (fun z => upd z p1.toNatClampNeg ((S 2 p1.toNatClampNeg) ^^^ (1 <<< (p2 &&& 31)))) (gs_sk rfl))))) p1.toNatClampNeg) dX2_near_76 ?_
        refine lv_iload_n hx hb dX2_near_77 rfl (lv_at hl 2 rfl) ?_
        refine lv_ishr hx hb dX2_near_78 ?_
        refine lv_iconst (v := 1) hx hb dX2_near_79 (by decide) ?_
        refine lv_iand hx hb dX2_near_80 ?_
        refine lv_iconst (v := 1) hx hb dX2_near_81 (by decide) ?_
        have hJ_90 : ∀ (H : Heap) (locs : List Loc) (ls : Array Slot) (v_90 : Int32), v_90 = (if ((((upd (upd (S 2) p1.toNatClampNeg ((S 2 p1.toNatClampNeg) ^^^ (1 <<< (p2 &&& 31)))) p2.toNatClampNeg (((upd (S 2) p1.toNatClampNeg ((S 2 p1.toNatClampNeg) ^^^ (1 <<< (p2 &&& 31)))) p2.toNatClampNeg) ^^^ (1 <<< (p1 &&& 31)))) p1.toNatClampNeg) >>> (p2 &&& 31)) &&& 1) = 1 then 1 else 0) → mr_W E q ad L (gs_up (gs_up (gs_up S 0 0 (if ((mf_isWord p1) = true) ∧ ((mf_isWord p2) = true) then (if p1 = p2 then 2 else 0) else 1)) 2 p1.toNatClampNeg ((S 2 p1.toNatClampNeg) ^^^ (1 <<< (p2 &&& 31)))) 2 p2.toNatClampNeg (((upd (S 2) p1.toNatClampNeg ((S 2 p1.toNatClampNeg) ^^^ (1 <<< (p2 &&& 31)))) p2.toNatClampNeg) ^^^ (1 <<< (p1 &&& 31)))) H → va_S (mr_A L) s.heap H locs → lv_has ls 4 [] → mr_G p l e { frames := 2, cells := 0, slots := 0, locals := 42 } s m [.ref q, .int p1, .int p2] below meth c (mr_A L) (mr_Qi E q ad L (gs_bz (mf_near S p1 p2).1) (mf_near S p1 p2).2) H locs (F0 m 90 ls [.int v_90]) := by
          intro H locs ls v_90 e_v_90 hR hS hl
          subst e_v_90
          exact W.zret (v := (if ((((upd (upd (S 2) p1.toNatClampNeg ((S 2 p1.toNatClampNeg) ^^^ (1 <<< (p2 &&& 31)))) p2.toNatClampNeg (((upd (S 2) p1.toNatClampNeg ((S 2 p1.toNatClampNeg) ^^^ (1 <<< (p2 &&& 31)))) p2.toNatClampNeg) ^^^ (1 <<< (p1 &&& 31)))) p1.toNatClampNeg) >>> (p2 &&& 31)) &&& 1) = 1 then 1 else 0)) hx hb hr gs_nar (fun t ht hW => ⟨⟨_, _, rfl, ⟨(gs_bz_dec.trans (congrArg gs_bz (congrArg Prod.fst hf))), (congrArg Prod.snd hf)⟩, mr_bt ht hR⟩, hS.F ht⟩) hS.2.2 dX2_near_90
        refine lv_icmp_ne (tgt := 89) hx hb dX2_near_82 (by decide) (fun c_6 => ?_) (fun c_6 => ?_)
        · skip
          refine lv_iconst (v := 0) hx hb dX2_near_89 (by decide) ?_
          exact hJ_90 _ _ _ 0 (gi_0 (gi_cb_f c_6)) hR hS (lv_sub hl [] rfl)
        · skip
          refine lv_iconst (v := 1) hx hb dX2_near_85 (by decide) ?_
          refine lv_goto (tgt := 90) hx hb dX2_near_86 (by decide) ?_
          exact hJ_90 _ _ _ 1 (gi_1 (gi_cb_t c_6)) hR hS (lv_sub hl [] rfl)
      · skip
        have c_1 : ¬ ((((mf_isWord p1) = true) ∧ ((mf_isWord p2) = true)) ∧ (¬ (p1 = p2))) := fun k => gs_zf (φ := (if ((mf_isWord p1) = true) ∧ ((mf_isWord p2) = true) then (if p1 = p2 then 2 else 0) else 1) = 0) c_1 (e0_v_39.mpr k)
        have hf := (if_neg c_1).symm.trans hf
        refine lv_iconst (v := 0) hx hb dX2_near_45 (by decide) ?_
        exact W.zret (v := 0) hx hb hr rfl (fun t ht hW => ⟨⟨_, _, rfl, ⟨(congrArg gs_bz (congrArg Prod.fst hf)), (congrArg Prod.snd hf)⟩, mr_bt ht hR⟩, hS.F ht⟩) hS.2.2 dX2_near_46
    refine lv_if_ne (tgt := 29) hx hb dX2_near_22 (by decide) (fun c_7 => ?_) (fun c_7 => ?_)
    · skip
      have c_7 : ((mf_isWord p1) = true) ∧ ((mf_isWord p2) = true) := gs_zt (φ := ((mf_isWord p1) = true) ∧ ((mf_isWord p2) = true)) c_7
      have c_8 := c_7.1
      have c_9 := c_7.2
      refine lv_iload_n hx hb dX2_near_29 rfl (lv_at hl 2 rfl) ?_
      refine lv_iload_n hx hb dX2_near_30 rfl (lv_at hl 3 rfl) ?_
      refine lv_icmp_ne (tgt := 38) hx hb dX2_near_31 (by decide) (fun c_10 => ?_) (fun c_10 => ?_)
      · skip
        refine lv_iconst (v := 0) hx hb dX2_near_38 (by decide) ?_
        exact hJ_39 _ _ _ 0 (((if_neg c_10).symm).trans (if_pos c_7).symm) (gi_z1 ((gi_nb_f c_10).trans (gi_ca_t c_7))) hR hS (lv_sub hl [1, 2, 3] rfl)
      · skip
        refine lv_iconst (v := 2) hx hb dX2_near_34 (by decide) ?_
        refine lv_goto (tgt := 39) hx hb dX2_near_35 (by decide) ?_
        exact hJ_39 _ _ _ 2 (((if_pos c_10).symm).trans (if_pos c_7).symm) (gi_z0 (by decide) ((gi_nb_t c_10).trans (gi_ca_t c_7))) hR hS (lv_sub hl [1, 2, 3] rfl)
    · skip
      have c_7 : ¬ (((mf_isWord p1) = true) ∧ ((mf_isWord p2) = true)) := gs_zf (φ := ((mf_isWord p1) = true) ∧ ((mf_isWord p2) = true)) c_7
      refine lv_iconst (v := 1) hx hb dX2_near_25 (by decide) ?_
      refine lv_goto (tgt := 39) hx hb dX2_near_26 (by decide) ?_
      exact hJ_39 _ _ _ 1 ((if_neg c_7).symm) (gi_z0 (by decide) (gi_ca_f c_7)) hR hS (lv_sub hl [1, 2, 3] rfl)
  refine lv_if_eq (tgt := 18) hx hb dX2_near_4 (by decide) (fun c_11 => ?_) (fun c_11 => ?_)
  · skip
    have c_11 : ¬ ((mf_isWord p1) = true) := gs_zf (φ := (mf_isWord p1) = true) c_11
    refine lv_iconst (v := 0) hx hb dX2_near_18 (by decide) ?_
    exact hJ_19 _ _ _ 0 (gi_0 (gi_ca_f c_11)) hR hS (lv_sub hl [0, 1, 2] rfl)
  · skip
    have c_11 : (mf_isWord p1) = true := gs_zt (φ := (mf_isWord p1) = true) c_11
    refine lv_iload_n hx hb dX2_near_7 rfl (lv_at hl 2 rfl) ?_
    refine ps_calli (As := [.int p2]) (rest := []) ⟨hx, hb, hml, hown, hts⟩ (mt_isWord l p2) (va_cwS 1 hts (lw_S q1075 q1076 q41 q1077) rfl rfl rfl (by decide +kernel) ⟨Nat.le_of_ble_eq_true rfl, Nat.le_of_ble_eq_true rfl⟩) trivial hS rfl hl.1 rfl (Nat.le_of_ble_eq_true rfl) dX2_near_8 ⟨Nat.le_refl _, Nat.le_refl _⟩ (fun H locs hz hk hS => ?_)
    have hR := hR.kept (fun a _ h => hk a h)
    refine lv_if_eq (tgt := 18) hx hb dX2_near_11 (by decide) (fun c_12 => ?_) (fun c_12 => ?_)
    · skip
      have c_12 : ¬ ((mf_isWord p2) = true) := gs_zf (φ := (mf_isWord p2) = true) c_12
      refine lv_iconst (v := 0) hx hb dX2_near_18 (by decide) ?_
      exact hJ_19 _ _ _ 0 (gi_0 ((gi_cb_f c_12).trans (gi_ca_t c_11))) hR hS (lv_sub hl [0, 1, 2] rfl)
    · skip
      have c_12 : (mf_isWord p2) = true := gs_zt (φ := (mf_isWord p2) = true) c_12
      refine lv_iconst (v := 1) hx hb dX2_near_14 (by decide) ?_
      refine lv_goto (tgt := 19) hx hb dX2_near_15 (by decide) ?_
      exact hJ_19 _ _ _ 1 (gi_1 ((gi_cb_t c_12).trans (gi_ca_t c_11))) hR hS (lv_sub hl [0, 1, 2] rfl)
set_option maxHeartbeats 2000000 in
set_option maxRecDepth 100000 in
theorem mt_alike (l : Launch) (E : en_T) (q : Nat) (ad : Nat → Nat) (L : List Nat) (S : gs_T) (p1 : Int32) (p2 : Int32) : Met l yX2_alike (ws_ yX2_alike cX2_alike 4 (some .boolean)) { frames := 2, cells := 0, slots := 0, locals := 42 } (mr_Pc E q ad L S [.int p1, .int p2] (True)) (mr_Qi E q ad L (gs_bz (mf_alike S p1 p2).1) (mf_alike S p1 p2).2) 0 0 (mr_A L) := by
  refine mr_start (by decide) rfl (Nat.le_of_ble_eq_true rfl) ?_
  intro p e s m below meth c ls hx hb hr hlocks hml hown hts hK hP hl hR
  have hl : lv_has ls 4 [(0, .ref q), (1, .int p1), (2, .int p2)] := hl
  have hS : va_S (mr_A L) s.heap s.heap [] := va_S.rf
  have hf : (mf_alike S p1 p2) = (mf_alike S p1 p2) := rfl
  refine lv_iload_n hx hb dX2_alike_0 rfl (lv_at hl 1 rfl) ?_
  refine ps_calli (As := [.int p1]) (rest := []) ⟨hx, hb, hml, hown, hts⟩ (mt_isKind l p1) (va_cwS 1 hts (lw_S q1089 q1090 q41 q1091) rfl rfl rfl (by decide +kernel) ⟨Nat.le_of_ble_eq_true rfl, Nat.le_of_ble_eq_true rfl⟩) trivial hS rfl hl.1 rfl (Nat.le_of_ble_eq_true rfl) dX2_alike_1 ⟨Nat.le_refl _, Nat.le_refl _⟩ (fun H locs hz hk hS => ?_)
  have hR := hR.kept (fun a _ h => hk a h)
  have hJ_19 : ∀ (H : Heap) (locs : List Loc) (ls : Array Slot) (v_19 : Int32), v_19 = (if ((mf_isKind p1) = true) ∧ ((mf_isKind p2) = true) then 1 else 0) → mr_W E q ad L S H → va_S (mr_A L) s.heap H locs → lv_has ls 4 [(0, .ref q), (1, .int p1), (2, .int p2)] → mr_G p l e { frames := 2, cells := 0, slots := 0, locals := 42 } s m [.ref q, .int p1, .int p2] below meth c (mr_A L) (mr_Qi E q ad L (gs_bz (mf_alike S p1 p2).1) (mf_alike S p1 p2).2) H locs (F0 m 19 ls [.int v_19]) := by
    intro H locs ls v_19 e_v_19 hR hS hl
    subst e_v_19
    refine lv_istore_n (lv' := [(3, .int (if ((mf_isKind p1) = true) ∧ ((mf_isKind p2) = true) then 1 else 0)), (0, .ref q), (1, .int p1), (2, .int p2)]) hx hb dX2_alike_19 rfl hl (by decide) rfl (fun ls hl => ?_)
    refine lv_aload_n hx hb dX2_alike_20 rfl (lv_at hl 1 rfl) ?_
    refine lv_iload_n hx hb dX2_alike_21 rfl (lv_at hl 0 rfl) ?_
    have hJ_39 : ∀ (H : Heap) (locs : List Loc) (ls : Array Slot) (v_39 : Int32), v_39 = (if ((mf_isKind p1) = true) ∧ ((mf_isKind p2) = true) then (if p1 = p2 then 2 else 0) else 1) → (v_39 = 0 ↔ ((((mf_isKind p1) = true) ∧ ((mf_isKind p2) = true)) ∧ (¬ (p1 = p2)))) → mr_W E q ad L S H → va_S (mr_A L) s.heap H locs → lv_has ls 4 [(0, .ref q), (1, .int p1), (2, .int p2)] → mr_G p l e { frames := 2, cells := 0, slots := 0, locals := 42 } s m [.ref q, .int p1, .int p2] below meth c (mr_A L) (mr_Qi E q ad L (gs_bz (mf_alike S p1 p2).1) (mf_alike S p1 p2).2) H locs (F0 m 39 ls [.int v_39, .ref q]) := by
      intro H locs ls v_39 e_v_39 e0_v_39 hR hS hl
      subst e_v_39
      refine mr_calli (As := [.int (if ((mf_isKind p1) = true) ∧ ((mf_isKind p2) = true) then (if p1 = p2 then 2 else 0) else 1)]) (rest := []) ⟨hx, hb, hml, hown, hts⟩ (mt_holds l E q ad L S (if ((mf_isKind p1) = true) ∧ ((mf_isKind p2) = true) then (if p1 = p2 then 2 else 0) else 1)) (cwV 1 hts (lw_V q1081 q1083 qs15 q41 q1084) rfl rfl rfl (by decide +kernel) ⟨Nat.le_of_ble_eq_true rfl, Nat.le_of_ble_eq_true rfl⟩) trivial hK hR (fun _ h => h) hS rfl hl.1 rfl (Nat.le_of_ble_eq_true rfl) dX2_alike_39 ⟨Nat.le_refl _, Nat.le_refl _⟩ (fun H locs hR hS _ _ => ?_)
      refine lv_if_ne (tgt := 47) hx hb dX2_alike_42 (by decide) (fun c_1 => ?_) (fun c_1 => ?_)
      · skip
        have c_1 : (((mf_isKind p1) = true) ∧ ((mf_isKind p2) = true)) ∧ (¬ (p1 = p2)) := e0_v_39.mp (gs_zt (φ := (if ((mf_isKind p1) = true) ∧ ((mf_isKind p2) = true) then (if p1 = p2 then 2 else 0) else 1) = 0) c_1)
        have hf := (if_pos c_1).symm.trans hf
        have c_2 := c_1.1
        have c_3 := c_1.2
        have c_4 := c_2.1
        have c_5 := c_2.2
        refine lv_aload_n hx hb dX2_alike_47 rfl (lv_at hl 0 rfl) ?_
        refine mr_geta hx hb hts hown hK hR 3 (by decide) rfl (hts _ q954) (fun _ h9 => h9) dX2_alike_48 ?_
        refine lv_iload_n hx hb dX2_alike_51 rfl (lv_at hl 1 rfl) ?_
        refine lv_dup2_11 hx hb dX2_alike_52 rfl rfl ?_
        refine mr_ald (v := (S 3 p1.toNatClampNeg)) hx hb hK hR 3 8 rfl (by decide) rfl (by first | assumption | exact mi_k (by assumption) | exact mi_kd hok _ | exact mi_ck hok _) (congrFun (gs_sk rfl) p1.toNatClampNeg) dX2_alike_53 ?_
        refine lv_iconst (v := 1) hx hb dX2_alike_54 (by decide) ?_
        refine lv_iload_n hx hb dX2_alike_55 rfl (lv_at hl 2 rfl) ?_
        refine lv_ishl hx hb dX2_alike_56 ?_
        refine lv_ixor hx hb dX2_alike_57 ?_
        refine mr_ast (j := p1.toNatClampNeg) hx hb hK hR hS 3 8 rfl (by decide) rfl (by first | assumption | exact mi_k (by assumption) | exact mi_kd hok _ | exact mi_ck hok _) rfl dX2_alike_58 (fun H locs hR hS => ?_)
        refine lv_aload_n hx hb dX2_alike_59 rfl (lv_at hl 0 rfl) ?_
        refine mr_geta hx hb hts hown hK hR 3 (by decide) rfl (hts _ q954) (fun _ h9 => h9) dX2_alike_60 ?_
        refine lv_iload_n hx hb dX2_alike_63 rfl (lv_at hl 2 rfl) ?_
        refine lv_dup2_11 hx hb dX2_alike_64 rfl rfl ?_
        refine mr_ald (v := ((upd (S 3) p1.toNatClampNeg ((S 3 p1.toNatClampNeg) ^^^ (1 <<< (p2 &&& 31)))) p2.toNatClampNeg)) hx hb hK hR 3 8 rfl (by decide) rfl (by first | assumption | exact mi_k (by assumption) | exact mi_kd hok _ | exact mi_ck hok _) (congrFun (gs_up_at.trans (congrArg (fun z => upd z p1.toNatClampNeg ((S 3 p1.toNatClampNeg) ^^^ (1 <<< (p2 &&& 31)))) (gs_sk rfl))) p2.toNatClampNeg) dX2_alike_65 ?_
        refine lv_iconst (v := 1) hx hb dX2_alike_66 (by decide) ?_
        refine lv_iload_n hx hb dX2_alike_67 rfl (lv_at hl 1 rfl) ?_
        refine lv_ishl hx hb dX2_alike_68 ?_
        refine lv_ixor hx hb dX2_alike_69 ?_
        refine mr_ast (j := p2.toNatClampNeg) hx hb hK hR hS 3 8 rfl (by decide) rfl (by first | assumption | exact mi_k (by assumption) | exact mi_kd hok _ | exact mi_ck hok _) rfl dX2_alike_70 (fun H locs hR hS => ?_)
        refine lv_aload_n hx hb dX2_alike_71 rfl (lv_at hl 0 rfl) ?_
        refine mr_geta hx hb hts hown hK hR 3 (by decide) rfl (hts _ q954) (fun _ h9 => h9) dX2_alike_72 ?_
        refine lv_iload_n hx hb dX2_alike_75 rfl (lv_at hl 1 rfl) ?_
        refine mr_ald (v := ((upd (upd (S 3) p1.toNatClampNeg ((S 3 p1.toNatClampNeg) ^^^ (1 <<< (p2 &&& 31)))) p2.toNatClampNeg (((upd (S 3) p1.toNatClampNeg ((S 3 p1.toNatClampNeg) ^^^ (1 <<< (p2 &&& 31)))) p2.toNatClampNeg) ^^^ (1 <<< (p1 &&& 31)))) p1.toNatClampNeg)) hx hb hK hR 3 8 rfl (by decide) rfl (by first | assumption | exact mi_k (by assumption) | exact mi_kd hok _ | exact mi_ck hok _) (congrFun (gs_up_at.trans (congrArg (fun z => upd z p2.toNatClampNeg (((upd (S 3) p1.toNatClampNeg ((S 3 p1.toNatClampNeg) ^^^ (1 <<< (p2 &&& 31)))) p2.toNatClampNeg) ^^^ (1 <<< (p1 &&& 31)))) (gs_up_at.trans (congrArg (fun z => upd z p1.toNatClampNeg ((S 3 p1.toNatClampNeg) ^^^ (1 <<< (p2 &&& 31)))) (gs_sk rfl))))) p1.toNatClampNeg) dX2_alike_76 ?_
        refine lv_iload_n hx hb dX2_alike_77 rfl (lv_at hl 2 rfl) ?_
        refine lv_ishr hx hb dX2_alike_78 ?_
        refine lv_iconst (v := 1) hx hb dX2_alike_79 (by decide) ?_
        refine lv_iand hx hb dX2_alike_80 ?_
        refine lv_iconst (v := 1) hx hb dX2_alike_81 (by decide) ?_
        have hJ_90 : ∀ (H : Heap) (locs : List Loc) (ls : Array Slot) (v_90 : Int32), v_90 = (if ((((upd (upd (S 3) p1.toNatClampNeg ((S 3 p1.toNatClampNeg) ^^^ (1 <<< (p2 &&& 31)))) p2.toNatClampNeg (((upd (S 3) p1.toNatClampNeg ((S 3 p1.toNatClampNeg) ^^^ (1 <<< (p2 &&& 31)))) p2.toNatClampNeg) ^^^ (1 <<< (p1 &&& 31)))) p1.toNatClampNeg) >>> (p2 &&& 31)) &&& 1) = 1 then 1 else 0) → mr_W E q ad L (gs_up (gs_up (gs_up S 0 0 (if ((mf_isKind p1) = true) ∧ ((mf_isKind p2) = true) then (if p1 = p2 then 2 else 0) else 1)) 3 p1.toNatClampNeg ((S 3 p1.toNatClampNeg) ^^^ (1 <<< (p2 &&& 31)))) 3 p2.toNatClampNeg (((upd (S 3) p1.toNatClampNeg ((S 3 p1.toNatClampNeg) ^^^ (1 <<< (p2 &&& 31)))) p2.toNatClampNeg) ^^^ (1 <<< (p1 &&& 31)))) H → va_S (mr_A L) s.heap H locs → lv_has ls 4 [] → mr_G p l e { frames := 2, cells := 0, slots := 0, locals := 42 } s m [.ref q, .int p1, .int p2] below meth c (mr_A L) (mr_Qi E q ad L (gs_bz (mf_alike S p1 p2).1) (mf_alike S p1 p2).2) H locs (F0 m 90 ls [.int v_90]) := by
          intro H locs ls v_90 e_v_90 hR hS hl
          subst e_v_90
          exact W.zret (v := (if ((((upd (upd (S 3) p1.toNatClampNeg ((S 3 p1.toNatClampNeg) ^^^ (1 <<< (p2 &&& 31)))) p2.toNatClampNeg (((upd (S 3) p1.toNatClampNeg ((S 3 p1.toNatClampNeg) ^^^ (1 <<< (p2 &&& 31)))) p2.toNatClampNeg) ^^^ (1 <<< (p1 &&& 31)))) p1.toNatClampNeg) >>> (p2 &&& 31)) &&& 1) = 1 then 1 else 0)) hx hb hr gs_nar (fun t ht hW => ⟨⟨_, _, rfl, ⟨(gs_bz_dec.trans (congrArg gs_bz (congrArg Prod.fst hf))), (congrArg Prod.snd hf)⟩, mr_bt ht hR⟩, hS.F ht⟩) hS.2.2 dX2_alike_90
        refine lv_icmp_ne (tgt := 89) hx hb dX2_alike_82 (by decide) (fun c_6 => ?_) (fun c_6 => ?_)
        · skip
          refine lv_iconst (v := 0) hx hb dX2_alike_89 (by decide) ?_
          exact hJ_90 _ _ _ 0 (gi_0 (gi_cb_f c_6)) hR hS (lv_sub hl [] rfl)
        · skip
          refine lv_iconst (v := 1) hx hb dX2_alike_85 (by decide) ?_
          refine lv_goto (tgt := 90) hx hb dX2_alike_86 (by decide) ?_
          exact hJ_90 _ _ _ 1 (gi_1 (gi_cb_t c_6)) hR hS (lv_sub hl [] rfl)
      · skip
        have c_1 : ¬ ((((mf_isKind p1) = true) ∧ ((mf_isKind p2) = true)) ∧ (¬ (p1 = p2))) := fun k => gs_zf (φ := (if ((mf_isKind p1) = true) ∧ ((mf_isKind p2) = true) then (if p1 = p2 then 2 else 0) else 1) = 0) c_1 (e0_v_39.mpr k)
        have hf := (if_neg c_1).symm.trans hf
        refine lv_iconst (v := 0) hx hb dX2_alike_45 (by decide) ?_
        exact W.zret (v := 0) hx hb hr rfl (fun t ht hW => ⟨⟨_, _, rfl, ⟨(congrArg gs_bz (congrArg Prod.fst hf)), (congrArg Prod.snd hf)⟩, mr_bt ht hR⟩, hS.F ht⟩) hS.2.2 dX2_alike_46
    refine lv_if_ne (tgt := 29) hx hb dX2_alike_22 (by decide) (fun c_7 => ?_) (fun c_7 => ?_)
    · skip
      have c_7 : ((mf_isKind p1) = true) ∧ ((mf_isKind p2) = true) := gs_zt (φ := ((mf_isKind p1) = true) ∧ ((mf_isKind p2) = true)) c_7
      have c_8 := c_7.1
      have c_9 := c_7.2
      refine lv_iload_n hx hb dX2_alike_29 rfl (lv_at hl 2 rfl) ?_
      refine lv_iload_n hx hb dX2_alike_30 rfl (lv_at hl 3 rfl) ?_
      refine lv_icmp_ne (tgt := 38) hx hb dX2_alike_31 (by decide) (fun c_10 => ?_) (fun c_10 => ?_)
      · skip
        refine lv_iconst (v := 0) hx hb dX2_alike_38 (by decide) ?_
        exact hJ_39 _ _ _ 0 (((if_neg c_10).symm).trans (if_pos c_7).symm) (gi_z1 ((gi_nb_f c_10).trans (gi_ca_t c_7))) hR hS (lv_sub hl [1, 2, 3] rfl)
      · skip
        refine lv_iconst (v := 2) hx hb dX2_alike_34 (by decide) ?_
        refine lv_goto (tgt := 39) hx hb dX2_alike_35 (by decide) ?_
        exact hJ_39 _ _ _ 2 (((if_pos c_10).symm).trans (if_pos c_7).symm) (gi_z0 (by decide) ((gi_nb_t c_10).trans (gi_ca_t c_7))) hR hS (lv_sub hl [1, 2, 3] rfl)
    · skip
      have c_7 : ¬ (((mf_isKind p1) = true) ∧ ((mf_isKind p2) = true)) := gs_zf (φ := ((mf_isKind p1) = true) ∧ ((mf_isKind p2) = true)) c_7
      refine lv_iconst (v := 1) hx hb dX2_alike_25 (by decide) ?_
      refine lv_goto (tgt := 39) hx hb dX2_alike_26 (by decide) ?_
      exact hJ_39 _ _ _ 1 ((if_neg c_7).symm) (gi_z0 (by decide) (gi_ca_f c_7)) hR hS (lv_sub hl [1, 2, 3] rfl)
  refine lv_if_eq (tgt := 18) hx hb dX2_alike_4 (by decide) (fun c_11 => ?_) (fun c_11 => ?_)
  · skip
    have c_11 : ¬ ((mf_isKind p1) = true) := gs_zf (φ := (mf_isKind p1) = true) c_11
    refine lv_iconst (v := 0) hx hb dX2_alike_18 (by decide) ?_
    exact hJ_19 _ _ _ 0 (gi_0 (gi_ca_f c_11)) hR hS (lv_sub hl [0, 1, 2] rfl)
  · skip
    have c_11 : (mf_isKind p1) = true := gs_zt (φ := (mf_isKind p1) = true) c_11
    refine lv_iload_n hx hb dX2_alike_7 rfl (lv_at hl 2 rfl) ?_
    refine ps_calli (As := [.int p2]) (rest := []) ⟨hx, hb, hml, hown, hts⟩ (mt_isKind l p2) (va_cwS 1 hts (lw_S q1089 q1090 q41 q1091) rfl rfl rfl (by decide +kernel) ⟨Nat.le_of_ble_eq_true rfl, Nat.le_of_ble_eq_true rfl⟩) trivial hS rfl hl.1 rfl (Nat.le_of_ble_eq_true rfl) dX2_alike_8 ⟨Nat.le_refl _, Nat.le_refl _⟩ (fun H locs hz hk hS => ?_)
    have hR := hR.kept (fun a _ h => hk a h)
    refine lv_if_eq (tgt := 18) hx hb dX2_alike_11 (by decide) (fun c_12 => ?_) (fun c_12 => ?_)
    · skip
      have c_12 : ¬ ((mf_isKind p2) = true) := gs_zf (φ := (mf_isKind p2) = true) c_12
      refine lv_iconst (v := 0) hx hb dX2_alike_18 (by decide) ?_
      exact hJ_19 _ _ _ 0 (gi_0 ((gi_cb_f c_12).trans (gi_ca_t c_11))) hR hS (lv_sub hl [0, 1, 2] rfl)
    · skip
      have c_12 : (mf_isKind p2) = true := gs_zt (φ := (mf_isKind p2) = true) c_12
      refine lv_iconst (v := 1) hx hb dX2_alike_14 (by decide) ?_
      refine lv_goto (tgt := 19) hx hb dX2_alike_15 (by decide) ?_
      exact hJ_19 _ _ _ 1 (gi_1 ((gi_cb_t c_12).trans (gi_ca_t c_11))) hR hS (lv_sub hl [0, 1, 2] rfl)
set_option maxHeartbeats 2000000 in
set_option maxRecDepth 100000 in
theorem mt_rule (l : Launch) (E : en_T) (q : Nat) (ad : Nat → Nat) (L : List Nat) (S : gs_T) (p1 : Int32) (p2 : Int32) (p3 : Int32) : Met l yX2_rule (ws_ yX2_rule cX2_rule 5 (some .int)) { frames := 2, cells := 0, slots := 0, locals := 42 } (mr_Pc E q ad L S [.int p1, .int p2, .int p3] (True)) (mr_Qi E q ad L (mf_rule S p1 p2 p3).1 (mf_rule S p1 p2 p3).2) 0 0 (mr_A L) := by
  refine mr_start (by decide) rfl (Nat.le_of_ble_eq_true rfl) ?_
  intro p e s m below meth c ls hx hb hr hlocks hml hown hts hK hP hl hR
  have hl : lv_has ls 5 [(0, .ref q), (1, .int p1), (2, .int p2), (3, .int p3)] := hl
  have hS : va_S (mr_A L) s.heap s.heap [] := va_S.rf
  have hf : (mf_rule S p1 p2 p3) = (mf_rule S p1 p2 p3) := rfl
  refine lv_aload_n hx hb dX2_rule_0 rfl (lv_at hl 0 rfl) ?_
  refine lv_iload_n hx hb dX2_rule_1 rfl (lv_at hl 1 rfl) ?_
  refine ps_calli (As := [.int p1]) (rest := [.ref q]) ⟨hx, hb, hml, hown, hts⟩ (mt_isKind l p1) (va_cwS 1 hts (lw_S q1089 q1090 q41 q1091) rfl rfl rfl (by decide +kernel) ⟨Nat.le_of_ble_eq_true rfl, Nat.le_of_ble_eq_true rfl⟩) trivial hS rfl hl.1 rfl (Nat.le_of_ble_eq_true rfl) dX2_rule_2 ⟨Nat.le_refl _, Nat.le_refl _⟩ (fun H locs hz hk hS => ?_)
  have hR := hR.kept (fun a _ h => hk a h)
  have hJ_38 : ∀ (H : Heap) (locs : List Loc) (ls : Array Slot) (v_38 : Int32), v_38 = (if (mf_isKind p1) = true then (if (mf_in p2 1 400) = true then (if (mf_in p3 0 50) = true then 0 else 2) else 2) else 1) → (v_38 = 0 ↔ (((mf_isKind p1) = true) ∧ (((mf_in p2 1 400) = true) ∧ ((mf_in p3 0 50) = true)))) → mr_W E q ad L S H → va_S (mr_A L) s.heap H locs → lv_has ls 5 [(0, .ref q), (1, .int p1), (2, .int p2), (3, .int p3)] → mr_G p l e { frames := 2, cells := 0, slots := 0, locals := 42 } s m [.ref q, .int p1, .int p2, .int p3] below meth c (mr_A L) (mr_Qi E q ad L (mf_rule S p1 p2 p3).1 (mf_rule S p1 p2 p3).2) H locs (F0 m 38 ls [.int v_38, .ref q]) := by
    intro H locs ls v_38 e_v_38 e0_v_38 hR hS hl
    subst e_v_38
    refine mr_calli (As := [.int (if (mf_isKind p1) = true then (if (mf_in p2 1 400) = true then (if (mf_in p3 0 50) = true then 0 else 2) else 2) else 1)]) (rest := []) ⟨hx, hb, hml, hown, hts⟩ (mt_holds l E q ad L S (if (mf_isKind p1) = true then (if (mf_in p2 1 400) = true then (if (mf_in p3 0 50) = true then 0 else 2) else 2) else 1)) (cwV 1 hts (lw_V q1081 q1083 qs15 q41 q1084) rfl rfl rfl (by decide +kernel) ⟨Nat.le_of_ble_eq_true rfl, Nat.le_of_ble_eq_true rfl⟩) trivial hK hR (fun _ h => h) hS rfl hl.1 rfl (Nat.le_of_ble_eq_true rfl) dX2_rule_38 ⟨Nat.le_refl _, Nat.le_refl _⟩ (fun H locs hR hS _ _ => ?_)
    refine lv_if_ne (tgt := 46) hx hb dX2_rule_41 (by decide) (fun c_1 => ?_) (fun c_1 => ?_)
    · skip
      have c_1 : ((mf_isKind p1) = true) ∧ (((mf_in p2 1 400) = true) ∧ ((mf_in p3 0 50) = true)) := e0_v_38.mp (gs_zt (φ := (if (mf_isKind p1) = true then (if (mf_in p2 1 400) = true then (if (mf_in p3 0 50) = true then 0 else 2) else 2) else 1) = 0) c_1)
      have hf := (if_pos c_1).symm.trans hf
      have c_2 := c_1.1
      have c_3 := c_1.2
      have c_4 := c_3.1
      have c_5 := c_3.2
      refine lv_aload_n hx hb dX2_rule_46 rfl (lv_at hl 0 rfl) ?_
      refine mr_geta hx hb hts hown hK hR 4 (by decide) rfl (hts _ q955) (fun _ h9 => h9) dX2_rule_47 ?_
      refine lv_iload_n hx hb dX2_rule_50 rfl (lv_at hl 1 rfl) ?_
      refine mr_ald (v := (S 4 p1.toNatClampNeg)) hx hb hK hR 4 8 rfl (by decide) rfl (by first | assumption | exact mi_k (by assumption) | exact mi_kd hok _ | exact mi_ck hok _) (congrFun (gs_sk rfl) p1.toNatClampNeg) dX2_rule_51 ?_
      refine lv_istore (lv' := [(4, .int (S 4 p1.toNatClampNeg)), (0, .ref q), (1, .int p1), (2, .int p2), (3, .int p3)]) hx hb dX2_rule_52 hl (by decide) rfl (fun ls hl => ?_)
      refine lv_aload_n hx hb dX2_rule_54 rfl (lv_at hl 1 rfl) ?_
      refine mr_geta hx hb hts hown hK hR 4 (by decide) rfl (hts _ q955) (fun _ h9 => h9) dX2_rule_55 ?_
      refine lv_iload_n hx hb dX2_rule_58 rfl (lv_at hl 2 rfl) ?_
      refine lv_iload_n hx hb dX2_rule_59 rfl (lv_at hl 3 rfl) ?_
      refine mr_ast (j := p1.toNatClampNeg) hx hb hK hR hS 4 8 rfl (by decide) rfl (by first | assumption | exact mi_k (by assumption) | exact mi_kd hok _ | exact mi_ck hok _) rfl dX2_rule_60 (fun H locs hR hS => ?_)
      refine lv_aload_n hx hb dX2_rule_61 rfl (lv_at hl 1 rfl) ?_
      refine mr_geta hx hb hts hown hK hR 5 (by decide) rfl (hts _ q956) (fun _ h9 => h9) dX2_rule_62 ?_
      refine lv_iload_n hx hb dX2_rule_65 rfl (lv_at hl 2 rfl) ?_
      refine lv_iload_n hx hb dX2_rule_66 rfl (lv_at hl 4 rfl) ?_
      refine mr_ast (j := p1.toNatClampNeg) hx hb hK hR hS 5 8 rfl (by decide) rfl (by first | assumption | exact mi_k (by assumption) | exact mi_kd hok _ | exact mi_ck hok _) rfl dX2_rule_67 (fun H locs hR hS => ?_)
      refine lv_iload hx hb dX2_rule_68 (lv_at hl 0 rfl) ?_
      exact W.iret (v := (S 4 p1.toNatClampNeg)) hx hb hr (fun t ht hW => ⟨⟨_, _, rfl, ⟨(congrArg Prod.fst hf), (congrArg Prod.snd hf)⟩, mr_bt ht hR⟩, hS.F ht⟩) hS.2.2 dX2_rule_70
    · skip
      have c_1 : ¬ (((mf_isKind p1) = true) ∧ (((mf_in p2 1 400) = true) ∧ ((mf_in p3 0 50) = true))) := fun k => gs_zf (φ := (if (mf_isKind p1) = true then (if (mf_in p2 1 400) = true then (if (mf_in p3 0 50) = true then 0 else 2) else 2) else 1) = 0) c_1 (e0_v_38.mpr k)
      have hf := (if_neg c_1).symm.trans hf
      refine lv_iconst (v := 0) hx hb dX2_rule_44 (by decide) ?_
      exact W.iret (v := 0) hx hb hr (fun t ht hW => ⟨⟨_, _, rfl, ⟨(congrArg Prod.fst hf), (congrArg Prod.snd hf)⟩, mr_bt ht hR⟩, hS.F ht⟩) hS.2.2 dX2_rule_45
  refine lv_if_ne (tgt := 12) hx hb dX2_rule_5 (by decide) (fun c_6 => ?_) (fun c_6 => ?_)
  · skip
    have c_6 : (mf_isKind p1) = true := gs_zt (φ := (mf_isKind p1) = true) c_6
    refine lv_iload_n hx hb dX2_rule_12 rfl (lv_at hl 2 rfl) ?_
    refine lv_iconst (v := 1) hx hb dX2_rule_13 (by decide) ?_
    refine lv_sipush (v := 400) hx hb dX2_rule_14 (by decide) ?_
    refine ps_calli (As := [.int p2, .int 1, .int 400]) (rest := [.ref q]) ⟨hx, hb, hml, hown, hts⟩ (mt_in l p2 1 400) (va_cwS 3 hts (lw_S q1078 q1079 q41 q1080) rfl rfl rfl (by decide +kernel) ⟨Nat.le_of_ble_eq_true rfl, Nat.le_of_ble_eq_true rfl⟩) trivial hS rfl hl.1 rfl (Nat.le_of_ble_eq_true rfl) dX2_rule_17 ⟨Nat.le_refl _, Nat.le_refl _⟩ (fun H locs hz hk hS => ?_)
    have hR := hR.kept (fun a _ h => hk a h)
    refine lv_if_eq (tgt := 37) hx hb dX2_rule_20 (by decide) (fun c_7 => ?_) (fun c_7 => ?_)
    · skip
      have c_7 : ¬ ((mf_in p2 1 400) = true) := gs_zf (φ := (mf_in p2 1 400) = true) c_7
      refine lv_iconst (v := 2) hx hb dX2_rule_37 (by decide) ?_
      exact hJ_38 _ _ _ 2 (((if_neg c_7).symm).trans (if_pos c_6).symm) (gi_z0 (by decide) ((gi_ca_f c_7).trans (gi_ca_t c_6))) hR hS (lv_sub hl [0, 1, 2, 3] rfl)
    · skip
      have c_7 : (mf_in p2 1 400) = true := gs_zt (φ := (mf_in p2 1 400) = true) c_7
      refine lv_iload_n hx hb dX2_rule_23 rfl (lv_at hl 3 rfl) ?_
      refine lv_iconst (v := 0) hx hb dX2_rule_24 (by decide) ?_
      refine lv_bipush (v := 50) hx hb dX2_rule_25 (by decide) ?_
      refine ps_calli (As := [.int p3, .int 0, .int 50]) (rest := [.ref q]) ⟨hx, hb, hml, hown, hts⟩ (mt_in l p3 0 50) (va_cwS 3 hts (lw_S q1078 q1079 q41 q1080) rfl rfl rfl (by decide +kernel) ⟨Nat.le_of_ble_eq_true rfl, Nat.le_of_ble_eq_true rfl⟩) trivial hS rfl hl.1 rfl (Nat.le_of_ble_eq_true rfl) dX2_rule_27 ⟨Nat.le_refl _, Nat.le_refl _⟩ (fun H locs hz hk hS => ?_)
      have hR := hR.kept (fun a _ h => hk a h)
      refine lv_if_eq (tgt := 37) hx hb dX2_rule_30 (by decide) (fun c_8 => ?_) (fun c_8 => ?_)
      · skip
        have c_8 : ¬ ((mf_in p3 0 50) = true) := gs_zf (φ := (mf_in p3 0 50) = true) c_8
        refine lv_iconst (v := 2) hx hb dX2_rule_37 (by decide) ?_
        exact hJ_38 _ _ _ 2 ((((if_neg c_8).symm).trans (if_pos c_7).symm).trans (if_pos c_6).symm) (gi_z0 (by decide) (((gi_cb_f c_8).trans (gi_ca_t c_7)).trans (gi_ca_t c_6))) hR hS (lv_sub hl [0, 1, 2, 3] rfl)
      · skip
        have c_8 : (mf_in p3 0 50) = true := gs_zt (φ := (mf_in p3 0 50) = true) c_8
        refine lv_iconst (v := 0) hx hb dX2_rule_33 (by decide) ?_
        refine lv_goto (tgt := 38) hx hb dX2_rule_34 (by decide) ?_
        exact hJ_38 _ _ _ 0 ((((if_pos c_8).symm).trans (if_pos c_7).symm).trans (if_pos c_6).symm) (gi_z1 (((gi_cb_t c_8).trans (gi_ca_t c_7)).trans (gi_ca_t c_6))) hR hS (lv_sub hl [0, 1, 2, 3] rfl)
  · skip
    have c_6 : ¬ ((mf_isKind p1) = true) := gs_zf (φ := (mf_isKind p1) = true) c_6
    refine lv_iconst (v := 1) hx hb dX2_rule_8 (by decide) ?_
    refine lv_goto (tgt := 38) hx hb dX2_rule_9 (by decide) ?_
    exact hJ_38 _ _ _ 1 ((if_neg c_6).symm) (gi_z0 (by decide) (gi_ca_f c_6)) hR hS (lv_sub hl [0, 1, 2, 3] rfl)
set_option maxHeartbeats 2000000 in
set_option maxRecDepth 100000 in
theorem mt_stop (l : Launch) (E : en_T) (q : Nat) (ad : Nat → Nat) (L : List Nat) (S : gs_T) (p1 : Int32) (p2 : Int32) : Met l yX2_stop (ws_ yX2_stop cX2_stop 4 (some .int)) { frames := 2, cells := 0, slots := 0, locals := 42 } (mr_Pc E q ad L S [.int p1, .int p2] (True)) (mr_Qi E q ad L (mf_stop S p1 p2).1 (mf_stop S p1 p2).2) 0 0 (mr_A L) := by
  refine mr_start (by decide) rfl (Nat.le_of_ble_eq_true rfl) ?_
  intro p e s m below meth c ls hx hb hr hlocks hml hown hts hK hP hl hR
  have hl : lv_has ls 4 [(0, .ref q), (1, .int p1), (2, .int p2)] := hl
  have hS : va_S (mr_A L) s.heap s.heap [] := va_S.rf
  have hf : (mf_stop S p1 p2) = (mf_stop S p1 p2) := rfl
  refine lv_iload_n hx hb dX2_stop_0 rfl (lv_at hl 1 rfl) ?_
  refine lv_iconst (v := 0) hx hb dX2_stop_1 (by decide) ?_
  refine lv_iconst (v := 3) hx hb dX2_stop_2 (by decide) ?_
  refine ps_calli (As := [.int p1, .int 0, .int 3]) (rest := []) ⟨hx, hb, hml, hown, hts⟩ (mt_in l p1 0 3) (va_cwS 3 hts (lw_S q1078 q1079 q41 q1080) rfl rfl rfl (by decide +kernel) ⟨Nat.le_of_ble_eq_true rfl, Nat.le_of_ble_eq_true rfl⟩) trivial hS rfl hl.1 rfl (Nat.le_of_ble_eq_true rfl) dX2_stop_3 ⟨Nat.le_refl _, Nat.le_refl _⟩ (fun H locs hz hk hS => ?_)
  have hR := hR.kept (fun a _ h => hk a h)
  have hJ_21 : ∀ (H : Heap) (locs : List Loc) (ls : Array Slot) (v_21 : Int32), v_21 = (if ((mf_in p1 0 3) = true) ∧ ((mf_isRoom p2) = true) then 1 else 0) → mr_W E q ad L S H → va_S (mr_A L) s.heap H locs → lv_has ls 4 [(0, .ref q), (1, .int p1), (2, .int p2)] → mr_G p l e { frames := 2, cells := 0, slots := 0, locals := 42 } s m [.ref q, .int p1, .int p2] below meth c (mr_A L) (mr_Qi E q ad L (mf_stop S p1 p2).1 (mf_stop S p1 p2).2) H locs (F0 m 21 ls [.int v_21]) := by
    intro H locs ls v_21 e_v_21 hR hS hl
    subst e_v_21
    refine lv_istore_n (lv' := [(3, .int (if ((mf_in p1 0 3) = true) ∧ ((mf_isRoom p2) = true) then 1 else 0)), (0, .ref q), (1, .int p1), (2, .int p2)]) hx hb dX2_stop_21 rfl hl (by decide) rfl (fun ls hl => ?_)
    refine lv_aload_n hx hb dX2_stop_22 rfl (lv_at hl 1 rfl) ?_
    refine lv_iload_n hx hb dX2_stop_23 rfl (lv_at hl 0 rfl) ?_
    have hJ_50 : ∀ (H : Heap) (locs : List Loc) (ls : Array Slot) (v_50 : Int32), v_50 = (if ((mf_in p1 0 3) = true) ∧ ((mf_isRoom p2) = true) then (if (((S 6 p1.toNatClampNeg) >>> (p2 &&& 31)) &&& 1) = 1 then 2 else 0) else 1) → (v_50 = 0 ↔ ((((mf_in p1 0 3) = true) ∧ ((mf_isRoom p2) = true)) ∧ (¬ ((((S 6 p1.toNatClampNeg) >>> (p2 &&& 31)) &&& 1) = 1)))) → mr_W E q ad L S H → va_S (mr_A L) s.heap H locs → lv_has ls 4 [(0, .ref q), (1, .int p1), (2, .int p2)] → mr_G p l e { frames := 2, cells := 0, slots := 0, locals := 42 } s m [.ref q, .int p1, .int p2] below meth c (mr_A L) (mr_Qi E q ad L (mf_stop S p1 p2).1 (mf_stop S p1 p2).2) H locs (F0 m 50 ls [.int v_50, .ref q]) := by
      intro H locs ls v_50 e_v_50 e0_v_50 hR hS hl
      subst e_v_50
      refine mr_calli (As := [.int (if ((mf_in p1 0 3) = true) ∧ ((mf_isRoom p2) = true) then (if (((S 6 p1.toNatClampNeg) >>> (p2 &&& 31)) &&& 1) = 1 then 2 else 0) else 1)]) (rest := []) ⟨hx, hb, hml, hown, hts⟩ (mt_holds l E q ad L S (if ((mf_in p1 0 3) = true) ∧ ((mf_isRoom p2) = true) then (if (((S 6 p1.toNatClampNeg) >>> (p2 &&& 31)) &&& 1) = 1 then 2 else 0) else 1)) (cwV 1 hts (lw_V q1081 q1083 qs15 q41 q1084) rfl rfl rfl (by decide +kernel) ⟨Nat.le_of_ble_eq_true rfl, Nat.le_of_ble_eq_true rfl⟩) trivial hK hR (fun _ h => h) hS rfl hl.1 rfl (Nat.le_of_ble_eq_true rfl) dX2_stop_50 ⟨Nat.le_refl _, Nat.le_refl _⟩ (fun H locs hR hS _ _ => ?_)
      refine lv_if_ne (tgt := 58) hx hb dX2_stop_53 (by decide) (fun c_1 => ?_) (fun c_1 => ?_)
      · skip
        have c_1 : (((mf_in p1 0 3) = true) ∧ ((mf_isRoom p2) = true)) ∧ (¬ ((((S 6 p1.toNatClampNeg) >>> (p2 &&& 31)) &&& 1) = 1)) := e0_v_50.mp (gs_zt (φ := (if ((mf_in p1 0 3) = true) ∧ ((mf_isRoom p2) = true) then (if (((S 6 p1.toNatClampNeg) >>> (p2 &&& 31)) &&& 1) = 1 then 2 else 0) else 1) = 0) c_1)
        have hf := (if_pos c_1).symm.trans hf
        have c_2 := c_1.1
        have c_3 := c_1.2
        have c_4 := c_2.1
        have c_5 := c_2.2
        refine lv_aload_n hx hb dX2_stop_58 rfl (lv_at hl 0 rfl) ?_
        refine mr_geta hx hb hts hown hK hR 6 (by decide) rfl (hts _ q957) (fun _ h9 => h9) dX2_stop_59 ?_
        refine lv_iload_n hx hb dX2_stop_62 rfl (lv_at hl 1 rfl) ?_
        refine lv_dup2_11 hx hb dX2_stop_63 rfl rfl ?_
        refine mr_ald (v := (S 6 p1.toNatClampNeg)) hx hb hK hR 6 4 rfl (by decide) rfl (by first | assumption | exact mi_t (by assumption)) (congrFun (gs_sk rfl) p1.toNatClampNeg) dX2_stop_64 ?_
        refine lv_iconst (v := 1) hx hb dX2_stop_65 (by decide) ?_
        refine lv_iload_n hx hb dX2_stop_66 rfl (lv_at hl 2 rfl) ?_
        refine lv_ishl hx hb dX2_stop_67 ?_
        refine lv_ior hx hb dX2_stop_68 ?_
        refine mr_ast (j := p1.toNatClampNeg) hx hb hK hR hS 6 4 rfl (by decide) rfl (by first | assumption | exact mi_t (by assumption)) rfl dX2_stop_69 (fun H locs hR hS => ?_)
        refine lv_aload_n hx hb dX2_stop_70 rfl (lv_at hl 0 rfl) ?_
        refine mr_geta hx hb hts hown hK hR 6 (by decide) rfl (hts _ q957) (fun _ h9 => h9) dX2_stop_71 ?_
        refine lv_iload_n hx hb dX2_stop_74 rfl (lv_at hl 1 rfl) ?_
        refine mr_ald (v := ((S 6 p1.toNatClampNeg) ||| (1 <<< (p2 &&& 31)))) hx hb hK hR 6 4 rfl (by decide) rfl (by first | assumption | exact mi_t (by assumption)) ((congrFun (gs_up_at.trans (congrArg (fun z => upd z p1.toNatClampNeg ((S 6 p1.toNatClampNeg) ||| (1 <<< (p2 &&& 31)))) (gs_sk rfl))) p1.toNatClampNeg).trans pk_us) dX2_stop_75 ?_
        refine ps_calli (As := [.int ((S 6 p1.toNatClampNeg) ||| (1 <<< (p2 &&& 31)))]) (rest := []) ⟨hx, hb, hml, hown, hts⟩ (mt_bits l ((S 6 p1.toNatClampNeg) ||| (1 <<< (p2 &&& 31)))) (va_cwS 1 hts (lw_S q1103 q1104 q41 q1105) rfl rfl rfl (by decide +kernel) ⟨Nat.le_of_ble_eq_true rfl, Nat.le_of_ble_eq_true rfl⟩) trivial hS rfl hl.1 rfl (Nat.le_of_ble_eq_true rfl) dX2_stop_76 ⟨Nat.le_refl _, Nat.le_refl _⟩ (fun H locs hz hk hS => ?_)
        have hR := hR.kept (fun a _ h => hk a h)
        exact W.iret (v := (mf_bits ((S 6 p1.toNatClampNeg) ||| (1 <<< (p2 &&& 31))))) hx hb hr (fun t ht hW => ⟨⟨_, _, rfl, ⟨(congrArg Prod.fst hf), (congrArg Prod.snd hf)⟩, mr_bt ht hR⟩, hS.F ht⟩) hS.2.2 dX2_stop_79
      · skip
        have c_1 : ¬ ((((mf_in p1 0 3) = true) ∧ ((mf_isRoom p2) = true)) ∧ (¬ ((((S 6 p1.toNatClampNeg) >>> (p2 &&& 31)) &&& 1) = 1))) := fun k => gs_zf (φ := (if ((mf_in p1 0 3) = true) ∧ ((mf_isRoom p2) = true) then (if (((S 6 p1.toNatClampNeg) >>> (p2 &&& 31)) &&& 1) = 1 then 2 else 0) else 1) = 0) c_1 (e0_v_50.mpr k)
        have hf := (if_neg c_1).symm.trans hf
        refine lv_iconst (v := 0) hx hb dX2_stop_56 (by decide) ?_
        exact W.iret (v := 0) hx hb hr (fun t ht hW => ⟨⟨_, _, rfl, ⟨(congrArg Prod.fst hf), (congrArg Prod.snd hf)⟩, mr_bt ht hR⟩, hS.F ht⟩) hS.2.2 dX2_stop_57
    refine lv_if_ne (tgt := 31) hx hb dX2_stop_24 (by decide) (fun c_6 => ?_) (fun c_6 => ?_)
    · skip
      have c_6 : ((mf_in p1 0 3) = true) ∧ ((mf_isRoom p2) = true) := gs_zt (φ := ((mf_in p1 0 3) = true) ∧ ((mf_isRoom p2) = true)) c_6
      have c_7 := c_6.1
      have c_8 := c_6.2
      refine lv_aload_n hx hb dX2_stop_31 rfl (lv_at hl 1 rfl) ?_
      refine mr_geta hx hb hts hown hK hR 6 (by decide) rfl (hts _ q957) (fun _ h9 => h9) dX2_stop_32 ?_
      refine lv_iload_n hx hb dX2_stop_35 rfl (lv_at hl 2 rfl) ?_
      refine mr_ald (v := (S 6 p1.toNatClampNeg)) hx hb hK hR 6 4 rfl (by decide) rfl (by first | assumption | exact mi_t (by assumption)) rfl dX2_stop_36 ?_
      refine lv_iload_n hx hb dX2_stop_37 rfl (lv_at hl 3 rfl) ?_
      refine lv_ishr hx hb dX2_stop_38 ?_
      refine lv_iconst (v := 1) hx hb dX2_stop_39 (by decide) ?_
      refine lv_iand hx hb dX2_stop_40 ?_
      refine lv_iconst (v := 1) hx hb dX2_stop_41 (by decide) ?_
      refine lv_icmp_ne (tgt := 49) hx hb dX2_stop_42 (by decide) (fun c_9 => ?_) (fun c_9 => ?_)
      · skip
        refine lv_iconst (v := 0) hx hb dX2_stop_49 (by decide) ?_
        exact hJ_50 _ _ _ 0 (((if_neg c_9).symm).trans (if_pos c_6).symm) (gi_z1 ((gi_nb_f c_9).trans (gi_ca_t c_6))) hR hS (lv_sub hl [1, 2, 3] rfl)
      · skip
        refine lv_iconst (v := 2) hx hb dX2_stop_45 (by decide) ?_
        refine lv_goto (tgt := 50) hx hb dX2_stop_46 (by decide) ?_
        exact hJ_50 _ _ _ 2 (((if_pos c_9).symm).trans (if_pos c_6).symm) (gi_z0 (by decide) ((gi_nb_t c_9).trans (gi_ca_t c_6))) hR hS (lv_sub hl [1, 2, 3] rfl)
    · skip
      have c_6 : ¬ (((mf_in p1 0 3) = true) ∧ ((mf_isRoom p2) = true)) := gs_zf (φ := ((mf_in p1 0 3) = true) ∧ ((mf_isRoom p2) = true)) c_6
      refine lv_iconst (v := 1) hx hb dX2_stop_27 (by decide) ?_
      refine lv_goto (tgt := 50) hx hb dX2_stop_28 (by decide) ?_
      exact hJ_50 _ _ _ 1 ((if_neg c_6).symm) (gi_z0 (by decide) (gi_ca_f c_6)) hR hS (lv_sub hl [1, 2, 3] rfl)
  refine lv_if_eq (tgt := 20) hx hb dX2_stop_6 (by decide) (fun c_10 => ?_) (fun c_10 => ?_)
  · skip
    have c_10 : ¬ ((mf_in p1 0 3) = true) := gs_zf (φ := (mf_in p1 0 3) = true) c_10
    refine lv_iconst (v := 0) hx hb dX2_stop_20 (by decide) ?_
    exact hJ_21 _ _ _ 0 (gi_0 (gi_ca_f c_10)) hR hS (lv_sub hl [0, 1, 2] rfl)
  · skip
    have c_10 : (mf_in p1 0 3) = true := gs_zt (φ := (mf_in p1 0 3) = true) c_10
    refine lv_iload_n hx hb dX2_stop_9 rfl (lv_at hl 2 rfl) ?_
    refine ps_calli (As := [.int p2]) (rest := []) ⟨hx, hb, hml, hown, hts⟩ (mt_isRoom l p2) (va_cwS 1 hts (lw_S q1100 q1101 q41 q1102) rfl rfl rfl (by decide +kernel) ⟨Nat.le_of_ble_eq_true rfl, Nat.le_of_ble_eq_true rfl⟩) trivial hS rfl hl.1 rfl (Nat.le_of_ble_eq_true rfl) dX2_stop_10 ⟨Nat.le_refl _, Nat.le_refl _⟩ (fun H locs hz hk hS => ?_)
    have hR := hR.kept (fun a _ h => hk a h)
    refine lv_if_eq (tgt := 20) hx hb dX2_stop_13 (by decide) (fun c_11 => ?_) (fun c_11 => ?_)
    · skip
      have c_11 : ¬ ((mf_isRoom p2) = true) := gs_zf (φ := (mf_isRoom p2) = true) c_11
      refine lv_iconst (v := 0) hx hb dX2_stop_20 (by decide) ?_
      exact hJ_21 _ _ _ 0 (gi_0 ((gi_cb_f c_11).trans (gi_ca_t c_10))) hR hS (lv_sub hl [0, 1, 2] rfl)
    · skip
      have c_11 : (mf_isRoom p2) = true := gs_zt (φ := (mf_isRoom p2) = true) c_11
      refine lv_iconst (v := 1) hx hb dX2_stop_16 (by decide) ?_
      refine lv_goto (tgt := 21) hx hb dX2_stop_17 (by decide) ?_
      exact hJ_21 _ _ _ 1 (gi_1 ((gi_cb_t c_11).trans (gi_ca_t c_10))) hR hS (lv_sub hl [0, 1, 2] rfl)
set_option maxHeartbeats 2000000 in
set_option maxRecDepth 100000 in
theorem mt_threshold (l : Launch) (E : en_T) (q : Nat) (ad : Nat → Nat) (L : List Nat) (S : gs_T) (p1 : Int32) : Met l yX2_threshold (ws_ yX2_threshold cX2_threshold 3 (some .int)) { frames := 1, cells := 0, slots := 0, locals := 22 } (mr_Pc E q ad L S [.int p1] (True)) (mr_Qi E q ad L (mf_threshold S p1).1 (mf_threshold S p1).2) 0 0 (mr_A L) := by
  refine mr_start (by decide) rfl (Nat.le_of_ble_eq_true rfl) ?_
  intro p e s m below meth c ls hx hb hr hlocks hml hown hts hK hP hl hR
  have hl : lv_has ls 3 [(0, .ref q), (1, .int p1)] := hl
  have hS : va_S (mr_A L) s.heap s.heap [] := va_S.rf
  have hf : (mf_threshold S p1) = (mf_threshold S p1) := rfl
  refine lv_aload_n hx hb dX2_threshold_0 rfl (lv_at hl 0 rfl) ?_
  refine lv_iload_n hx hb dX2_threshold_1 rfl (lv_at hl 1 rfl) ?_
  refine lv_iconst (v := 1) hx hb dX2_threshold_2 (by decide) ?_
  refine lv_sipush (v := 200) hx hb dX2_threshold_3 (by decide) ?_
  refine ps_calli (As := [.int p1, .int 1, .int 200]) (rest := [.ref q]) ⟨hx, hb, hml, hown, hts⟩ (mt_in l p1 1 200) (va_cwS 3 hts (lw_S q1078 q1079 q41 q1080) rfl rfl rfl (by decide +kernel) ⟨Nat.le_of_ble_eq_true rfl, Nat.le_of_ble_eq_true rfl⟩) trivial hS rfl hl.1 rfl (Nat.le_of_ble_eq_true rfl) dX2_threshold_6 ⟨Nat.le_refl _, Nat.le_refl _⟩ (fun H locs hz hk hS => ?_)
  have hR := hR.kept (fun a _ h => hk a h)
  have hJ_17 : ∀ (H : Heap) (locs : List Loc) (ls : Array Slot) (v_17 : Int32), v_17 = (if ¬ ((mf_in p1 1 200) = true) then 1 else 0) → mr_W E q ad L S H → va_S (mr_A L) s.heap H locs → lv_has ls 3 [(0, .ref q), (1, .int p1)] → mr_G p l e { frames := 1, cells := 0, slots := 0, locals := 22 } s m [.ref q, .int p1] below meth c (mr_A L) (mr_Qi E q ad L (mf_threshold S p1).1 (mf_threshold S p1).2) H locs (F0 m 17 ls [.int v_17, .ref q]) := by
    intro H locs ls v_17 e_v_17 hR hS hl
    subst e_v_17
    refine mr_calli (As := [.int (if ¬ ((mf_in p1 1 200) = true) then 1 else 0)]) (rest := []) ⟨hx, hb, hml, hown, hts⟩ (mt_holds l E q ad L S (if ¬ ((mf_in p1 1 200) = true) then 1 else 0)) (cwV 1 hts (lw_V q1081 q1083 qs15 q41 q1084) rfl rfl rfl (by decide +kernel) ⟨Nat.le_of_ble_eq_true rfl, Nat.le_of_ble_eq_true rfl⟩) trivial hK hR (fun _ h => h) hS rfl hl.1 rfl (Nat.le_of_ble_eq_true rfl) dX2_threshold_17 ⟨Nat.le_refl _, Nat.le_refl _⟩ (fun H locs hR hS _ _ => ?_)
    refine lv_if_ne (tgt := 25) hx hb dX2_threshold_20 (by decide) (fun c_1 => ?_) (fun c_1 => ?_)
    · skip
      have c_1 : (mf_in p1 1 200) = true := (gi_bzn (φ := (mf_in p1 1 200) = true)).mp (gs_zt (φ := (if ¬ ((mf_in p1 1 200) = true) then 1 else 0) = 0) c_1)
      have hf := (if_pos c_1).symm.trans hf
      refine lv_aload_n hx hb dX2_threshold_25 rfl (lv_at hl 0 rfl) ?_
      refine mr_geti (v := (S 7 0)) hx hb hts hown hK hR 7 (by decide) rfl (hts _ q958) (fun _ h9 => h9) (congrFun (gs_sk rfl) 0) dX2_threshold_26 ?_
      refine lv_istore_n (lv' := [(2, .int (S 7 0)), (0, .ref q), (1, .int p1)]) hx hb dX2_threshold_29 rfl hl (by decide) rfl (fun ls hl => ?_)
      refine lv_aload_n hx hb dX2_threshold_30 rfl (lv_at hl 1 rfl) ?_
      refine lv_iload_n hx hb dX2_threshold_31 rfl (lv_at hl 2 rfl) ?_
      refine mr_puti hx hb hts hown hK hR hS 7 (by decide) rfl (hts _ q958) (fun _ h9 => h9) dX2_threshold_32 (fun H locs hR hS => ?_)
      refine lv_iload_n hx hb dX2_threshold_35 rfl (lv_at hl 0 rfl) ?_
      exact W.iret (v := (S 7 0)) hx hb hr (fun t ht hW => ⟨⟨_, _, rfl, ⟨(congrArg Prod.fst hf), (congrArg Prod.snd hf)⟩, mr_bt ht hR⟩, hS.F ht⟩) hS.2.2 dX2_threshold_36
    · skip
      have c_1 : ¬ ((mf_in p1 1 200) = true) := fun k => gs_zf (φ := (if ¬ ((mf_in p1 1 200) = true) then 1 else 0) = 0) c_1 ((gi_bzn (φ := (mf_in p1 1 200) = true)).mpr k)
      have hf := (if_neg c_1).symm.trans hf
      refine lv_iconst (v := 0) hx hb dX2_threshold_23 (by decide) ?_
      exact W.iret (v := 0) hx hb hr (fun t ht hW => ⟨⟨_, _, rfl, ⟨(congrArg Prod.fst hf), (congrArg Prod.snd hf)⟩, mr_bt ht hR⟩, hS.F ht⟩) hS.2.2 dX2_threshold_24
  refine lv_if_eq (tgt := 16) hx hb dX2_threshold_9 (by decide) (fun c_2 => ?_) (fun c_2 => ?_)
  · skip
    have c_2 : ¬ ((mf_in p1 1 200) = true) := gs_zf (φ := (mf_in p1 1 200) = true) c_2
    refine lv_iconst (v := 1) hx hb dX2_threshold_16 (by decide) ?_
    exact hJ_17 _ _ _ 1 (gi_1 (gi_nb_f c_2)) hR hS (lv_sub hl [0, 1] rfl)
  · skip
    have c_2 : (mf_in p1 1 200) = true := gs_zt (φ := (mf_in p1 1 200) = true) c_2
    refine lv_iconst (v := 0) hx hb dX2_threshold_12 (by decide) ?_
    refine lv_goto (tgt := 17) hx hb dX2_threshold_13 (by decide) ?_
    exact hJ_17 _ _ _ 0 (gi_0 (gi_nb_t c_2)) hR hS (lv_sub hl [0, 1] rfl)
set_option maxHeartbeats 2000000 in
set_option maxRecDepth 100000 in
theorem mt_isHere (l : Launch) (E : en_T) (q : Nat) (ad : Nat → Nat) (L : List Nat) (S : gs_T) (p1 : Int32) : Met l yX2_isHere (ws_ yX2_isHere cX2_isHere 2 (some .boolean)) { frames := 0, cells := 0, slots := 0, locals := 0 } (mr_Pc E q ad L S [.int p1] (vp_in p1 30)) (mr_Qi E q ad L (gs_bz (mf_isHere S p1)) S) 0 0 (mr_A L) := by
  refine mr_start (by decide) rfl (Nat.le_of_ble_eq_true rfl) ?_
  intro p e s m below meth c ls hx hb hr hlocks hml hown hts hK hP hl hR
  have hl : lv_has ls 2 [(0, .ref q), (1, .int p1)] := hl
  have hS : va_S (mr_A L) s.heap s.heap [] := va_S.rf
  have h_p1 := hP
  have hf : (mf_isHere S p1) = (mf_isHere S p1) := rfl
  refine lv_aload_n hx hb dX2_isHere_0 rfl (lv_at hl 0 rfl) ?_
  refine mr_geta hx hb hts hown hK hR 15 (by decide) rfl (hts _ q966) (fun _ h9 => h9) dX2_isHere_1 ?_
  refine lv_iload_n hx hb dX2_isHere_4 rfl (lv_at hl 1 rfl) ?_
  refine mr_ald (v := (S 15 p1.toNatClampNeg)) hx hb hK hR 15 30 rfl (by decide) rfl (by first | assumption | exact mi_f hok (by assumption)) rfl dX2_isHere_5 ?_
  refine lv_iconst (v := 2) hx hb dX2_isHere_6 (by decide) ?_
  have hJ_15 : ∀ (H : Heap) (locs : List Loc) (ls : Array Slot) (v_15 : Int32), v_15 = (if ¬ (2 < (S 15 p1.toNatClampNeg)) then 1 else 0) → mr_W E q ad L S H → va_S (mr_A L) s.heap H locs → lv_has ls 2 [] → mr_G p l e { frames := 0, cells := 0, slots := 0, locals := 0 } s m [.ref q, .int p1] below meth c (mr_A L) (mr_Qi E q ad L (gs_bz (mf_isHere S p1)) S) H locs (F0 m 15 ls [.int v_15]) := by
    intro H locs ls v_15 e_v_15 hR hS hl
    subst e_v_15
    exact W.zret (v := (if ¬ (2 < (S 15 p1.toNatClampNeg)) then 1 else 0)) hx hb hr gs_nar (fun t ht hW => ⟨⟨_, _, rfl, ⟨(gs_bz_dec.trans (congrArg gs_bz hf)), rfl⟩, mr_bt ht hR⟩, hS.F ht⟩) hS.2.2 dX2_isHere_15
  refine lv_icmp_gt (tgt := 14) hx hb dX2_isHere_7 (by decide) (fun c_1 => ?_) (fun c_1 => ?_)
  · skip
    refine lv_iconst (v := 0) hx hb dX2_isHere_14 (by decide) ?_
    exact hJ_15 _ _ _ 0 (gi_0 (gi_nb_t c_1)) hR hS (lv_sub hl [] rfl)
  · skip
    refine lv_iconst (v := 1) hx hb dX2_isHere_10 (by decide) ?_
    refine lv_goto (tgt := 15) hx hb dX2_isHere_11 (by decide) ?_
    exact hJ_15 _ _ _ 1 (gi_1 (gi_nb_f c_1)) hR hS (lv_sub hl [] rfl)
set_option maxHeartbeats 2000000 in
set_option maxRecDepth 100000 in
theorem mt_comes (l : Launch) (E : en_T) (q : Nat) (ad : Nat → Nat) (L : List Nat) (S : gs_T) (p1 : Int32) (p2 : Int32) : Met l yX2_comes (ws_ yX2_comes cX2_comes 5 none) { frames := 0, cells := 0, slots := 0, locals := 0 } (mr_Pc E q ad L S [.int p1, .int p2] (mi_ok S ∧ vp_in p1 30)) (mr_Qv E q ad L (mf_comes S p1 p2)) 0 0 (mr_A L) := by
  refine mr_start (by decide) rfl (Nat.le_of_ble_eq_true rfl) ?_
  intro p e s m below meth c ls hx hb hr hlocks hml hown hts hK hP hl hR
  have hl : lv_has ls 5 [(0, .ref q), (1, .int p1), (2, .int p2)] := hl
  have hS : va_S (mr_A L) s.heap s.heap [] := va_S.rf
  obtain ⟨hok, h_p1⟩ := hP
  have hf : (mf_comes S p1 p2) = (mf_comes S p1 p2) := rfl
  have h30 := mi_lt h_p1 (by decide)
  refine lv_aload_n hx hb dX2_comes_0 rfl (lv_at hl 0 rfl) ?_
  refine mr_geta hx hb hts hown hK hR 15 (by decide) rfl (hts _ q966) (fun _ h9 => h9) dX2_comes_1 ?_
  refine lv_iload_n hx hb dX2_comes_4 rfl (lv_at hl 1 rfl) ?_
  refine lv_iconst (v := 0) hx hb dX2_comes_5 (by decide) ?_
  refine mr_ast (j := p1.toNatClampNeg) hx hb hK hR hS 15 30 rfl (by decide) rfl (by first | assumption | exact mi_f hok (by assumption)) rfl dX2_comes_6 (fun H locs hR hS => ?_)
  refine lv_aload_n hx hb dX2_comes_7 rfl (lv_at hl 0 rfl) ?_
  refine mr_geta hx hb hts hown hK hR 16 (by decide) rfl (hts _ q967) (fun _ h9 => h9) dX2_comes_8 ?_
  refine lv_iload_n hx hb dX2_comes_11 rfl (lv_at hl 1 rfl) ?_
  refine lv_iload_n hx hb dX2_comes_12 rfl (lv_at hl 2 rfl) ?_
  refine mr_ast (j := p1.toNatClampNeg) hx hb hK hR hS 16 30 rfl (by decide) rfl (by first | assumption | exact mi_f hok (by assumption)) rfl dX2_comes_13 (fun H locs hR hS => ?_)
  refine lv_bipush (v := 12) hx hb dX2_comes_14 (by decide) ?_
  refine lv_iload_n hx hb dX2_comes_16 rfl (lv_at hl 1 rfl) ?_
  refine lv_imul hx hb dX2_comes_17 ?_
  refine lv_istore_n (lv' := [(3, .int (12 * p1)), (0, .ref q), (1, .int p1), (2, .int p2)]) hx hb dX2_comes_18 rfl hl (by decide) rfl (fun ls hl => ?_)
  refine lv_aload_n hx hb dX2_comes_19 rfl (lv_at hl 1 rfl) ?_
  refine mr_geta hx hb hts hown hK hR 22 (by decide) rfl (hts _ q973) (fun _ h9 => h9) dX2_comes_20 ?_
  refine lv_iload_n hx hb dX2_comes_23 rfl (lv_at hl 2 rfl) ?_
  refine mr_ald (v := (S 22 p1.toNatClampNeg)) hx hb hK hR 22 30 rfl (by decide) rfl (by first | assumption | exact mi_f hok (by assumption)) (congrFun ((gs_sk rfl).trans (gs_sk rfl)) p1.toNatClampNeg) dX2_comes_24 ?_
  refine lv_bipush (v := 12) hx hb dX2_comes_25 (by decide) ?_
  refine lv_icmp_ne (tgt := 94) hx hb dX2_comes_27 (by decide) (fun c_1 => ?_) (fun c_1 => ?_)
  · skip
    have hf := (if_neg c_1).symm.trans hf
    refine lv_aload_n hx hb dX2_comes_94 rfl (lv_at hl 1 rfl) ?_
    refine mr_geta hx hb hts hown hK hR 23 (by decide) rfl (hts _ q974) (fun _ h9 => h9) dX2_comes_95 ?_
    refine lv_iload_n hx hb dX2_comes_98 rfl (lv_at hl 0 rfl) ?_
    refine lv_aload_n hx hb dX2_comes_99 rfl (lv_at hl 1 rfl) ?_
    refine mr_geta hx hb hts hown hK hR 22 (by decide) rfl (hts _ q973) (fun _ h9 => h9) dX2_comes_100 ?_
    refine lv_iload_n hx hb dX2_comes_103 rfl (lv_at hl 2 rfl) ?_
    refine mr_ald (v := (S 22 p1.toNatClampNeg)) hx hb hK hR 22 30 rfl (by decide) rfl (by first | assumption | exact mi_f hok (by assumption)) (congrFun ((gs_sk rfl).trans (gs_sk rfl)) p1.toNatClampNeg) dX2_comes_104 ?_
    refine lv_iadd hx hb dX2_comes_105 ?_
    refine lv_iload_n hx hb dX2_comes_106 rfl (lv_at hl 3 rfl) ?_
    refine mr_ast (j := ((12 * p1) + (S 22 p1.toNatClampNeg)).toNatClampNeg) hx hb hK hR hS 23 360 rfl (by decide) rfl (mi_x2 h_p1 (mi_hm hok _) (by assumption)) rfl dX2_comes_107 (fun H locs hR hS => ?_)
    refine lv_aload_n hx hb dX2_comes_108 rfl (lv_at hl 1 rfl) ?_
    refine mr_geta hx hb hts hown hK hR 24 (by decide) rfl (hts _ q975) (fun _ h9 => h9) dX2_comes_109 ?_
    refine lv_iload_n hx hb dX2_comes_112 rfl (lv_at hl 0 rfl) ?_
    refine lv_aload_n hx hb dX2_comes_113 rfl (lv_at hl 1 rfl) ?_
    refine mr_geta hx hb hts hown hK hR 22 (by decide) rfl (hts _ q973) (fun _ h9 => h9) dX2_comes_114 ?_
    refine lv_iload_n hx hb dX2_comes_117 rfl (lv_at hl 2 rfl) ?_
    refine mr_ald (v := (S 22 p1.toNatClampNeg)) hx hb hK hR 22 30 rfl (by decide) rfl (by first | assumption | exact mi_f hok (by assumption)) (congrFun ((gs_sk rfl).trans ((gs_sk rfl).trans (gs_sk rfl))) p1.toNatClampNeg) dX2_comes_118 ?_
    refine lv_iadd hx hb dX2_comes_119 ?_
    refine lv_aload_n hx hb dX2_comes_120 rfl (lv_at hl 1 rfl) ?_
    refine mr_geti (v := (S 1 0)) hx hb hts hown hK hR 1 (by decide) rfl (hts _ q952) (fun _ h9 => h9) (congrFun ((gs_sk rfl).trans ((gs_sk rfl).trans (gs_sk rfl))) 0) dX2_comes_121 ?_
    refine mr_ast (j := ((12 * p1) + (S 22 p1.toNatClampNeg)).toNatClampNeg) hx hb hK hR hS 24 360 rfl (by decide) rfl (mi_x2 h_p1 (mi_hm hok _) (by assumption)) rfl dX2_comes_124 (fun H locs hR hS => ?_)
    refine lv_aload_n hx hb dX2_comes_125 rfl (lv_at hl 1 rfl) ?_
    refine mr_geta hx hb hts hown hK hR 22 (by decide) rfl (hts _ q973) (fun _ h9 => h9) dX2_comes_126 ?_
    refine lv_iload_n hx hb dX2_comes_129 rfl (lv_at hl 2 rfl) ?_
    refine lv_dup2_11 hx hb dX2_comes_130 rfl rfl ?_
    refine mr_ald (v := (S 22 p1.toNatClampNeg)) hx hb hK hR 22 30 rfl (by decide) rfl (by first | assumption | exact mi_f hok (by assumption)) (congrFun ((gs_sk rfl).trans ((gs_sk rfl).trans ((gs_sk rfl).trans (gs_sk rfl)))) p1.toNatClampNeg) dX2_comes_131 ?_
    refine lv_iconst (v := 1) hx hb dX2_comes_132 (by decide) ?_
    refine lv_iadd hx hb dX2_comes_133 ?_
    refine mr_ast (j := p1.toNatClampNeg) hx hb hK hR hS 22 30 rfl (by decide) rfl (by first | assumption | exact mi_f hok (by assumption)) rfl dX2_comes_134 (fun H locs hR hS => ?_)
    exact W.vret hx hb hr (fun t ht hW => ⟨⟨_, rfl, hf, mr_bt ht hR⟩, hS.F ht⟩) hS.2.2 dX2_comes_135
  · skip
    have hf := (if_pos c_1).symm.trans hf
    refine lv_iload_n hx hb dX2_comes_30 rfl (lv_at hl 0 rfl) ?_
    refine lv_iconst (v := 1) hx hb dX2_comes_31 (by decide) ?_
    refine lv_iadd hx hb dX2_comes_32 ?_
    refine lv_istore (lv' := [(4, .int ((12 * p1) + 1)), (3, .int (12 * p1)), (0, .ref q), (1, .int p1), (2, .int p2)]) hx hb dX2_comes_33 hl (by decide) rfl (fun ls hl => ?_)
    have hL_35 : ∀ (n_35 i_35 : Nat) (S_35 : gs_T) (H : Heap) (locs : List Loc) (ls : Array Slot), i_35 + n_35 = (12 * p1.toNatClampNeg + 11) → mf_comes_R35 n_35 i_35 S_35 = (mf_comes_R35 10 (12 * p1.toNatClampNeg + 1) (gs_up (gs_up S 15 p1.toNatClampNeg 0) 16 p1.toNatClampNeg p2)) → mr_W E q ad L S_35 H → va_S (mr_A L) s.heap H locs → lv_has ls 5 [(0, .ref q), (1, .int p1), (2, .int p2), (3, .int (12 * p1)), (4, .int (nI i_35))] → mr_G p l e { frames := 0, cells := 0, slots := 0, locals := 0 } s m [.ref q, .int p1, .int p2] below meth c (mr_A L) (mr_Qv E q ad L (mf_comes S p1 p2)) H locs (F0 m 35 ls []) := by
      intro n_35
      induction n_35 with
      | zero =>
        intro i_35 S_35 H locs ls hi_35 hg_35 hR hS hl
        have hi_35 : i_35 = (12 * p1.toNatClampNeg + 11) := hi_35
        subst hi_35
        have e_S_35 : S_35 = (mf_comes_R35 10 (12 * p1.toNatClampNeg + 1) (gs_up (gs_up S 15 p1.toNatClampNeg 0) 16 p1.toNatClampNeg p2)) := congrArg (fun z => z) hg_35
        subst e_S_35
        refine lv_iload hx hb dX2_comes_35 (lv_at hl 4 rfl) ?_
        refine lv_iload_n hx hb dX2_comes_37 rfl (lv_at hl 3 rfl) ?_
        refine lv_bipush (v := 12) hx hb dX2_comes_38 (by decide) ?_
        refine lv_iadd hx hb dX2_comes_40 ?_
        refine lv_iconst (v := 1) hx hb dX2_comes_41 (by decide) ?_
        refine lv_isub hx hb dX2_comes_42 ?_
        refine lv_icmp_ge (tgt := 84) hx hb dX2_comes_43 (by decide) (fun c_2 => ?_) (fun c_2 => absurd (lp_x0 (mi_c11 h_p1)) c_2)
        refine lv_aload_n hx hb dX2_comes_84 rfl (lv_at hl 0 rfl) ?_
        refine mr_geta hx hb hts hown hK hR 22 (by decide) rfl (hts _ q973) (fun _ h9 => h9) dX2_comes_85 ?_
        refine lv_iload_n hx hb dX2_comes_88 rfl (lv_at hl 1 rfl) ?_
        refine lv_dup2_11 hx hb dX2_comes_89 rfl rfl ?_
        refine mr_ald (v := (S 22 p1.toNatClampNeg)) hx hb hK hR 22 30 rfl (by decide) rfl (by first | assumption | exact mi_f hok (by assumption)) (congrFun ((mi_r35 _ _ _ (by decide)).trans ((gs_sk rfl).trans (gs_sk rfl))) p1.toNatClampNeg) dX2_comes_90 ?_
        refine lv_iconst (v := 1) hx hb dX2_comes_91 (by decide) ?_
        refine lv_isub hx hb dX2_comes_92 ?_
        refine mr_ast (j := p1.toNatClampNeg) hx hb hK hR hS 22 30 rfl (by decide) rfl (by first | assumption | exact mi_f hok (by assumption)) rfl dX2_comes_93 (fun H locs hR hS => ?_)
        refine lv_aload_n hx hb dX2_comes_94 rfl (lv_at hl 0 rfl) ?_
        refine mr_geta hx hb hts hown hK hR 23 (by decide) rfl (hts _ q974) (fun _ h9 => h9) dX2_comes_95 ?_
        refine lv_iload_n hx hb dX2_comes_98 rfl (lv_at hl 3 rfl) ?_
        refine lv_aload_n hx hb dX2_comes_99 rfl (lv_at hl 0 rfl) ?_
        refine mr_geta hx hb hts hown hK hR 22 (by decide) rfl (hts _ q973) (fun _ h9 => h9) dX2_comes_100 ?_
        refine lv_iload_n hx hb dX2_comes_103 rfl (lv_at hl 1 rfl) ?_
        refine mr_ald (v := ((S 22 p1.toNatClampNeg) - 1)) hx hb hK hR 22 30 rfl (by decide) rfl (by first | assumption | exact mi_f hok (by assumption)) ((congrFun (gs_up_at.trans (congrArg (fun z => upd z p1.toNatClampNeg ((S 22 p1.toNatClampNeg) - 1)) ((mi_r35 _ _ _ (by decide)).trans ((gs_sk rfl).trans (gs_sk rfl))))) p1.toNatClampNeg).trans pk_us) dX2_comes_104 ?_
        refine lv_iadd hx hb dX2_comes_105 ?_
        refine lv_iload_n hx hb dX2_comes_106 rfl (lv_at hl 2 rfl) ?_
        refine mr_ast (j := ((12 * p1) + ((S 22 p1.toNatClampNeg) - 1)).toNatClampNeg) hx hb hK hR hS 23 360 rfl (by decide) rfl (mi_x1 h_p1 (by assumption)) rfl dX2_comes_107 (fun H locs hR hS => ?_)
        refine lv_aload_n hx hb dX2_comes_108 rfl (lv_at hl 0 rfl) ?_
        refine mr_geta hx hb hts hown hK hR 24 (by decide) rfl (hts _ q975) (fun _ h9 => h9) dX2_comes_109 ?_
        refine lv_iload_n hx hb dX2_comes_112 rfl (lv_at hl 3 rfl) ?_
        refine lv_aload_n hx hb dX2_comes_113 rfl (lv_at hl 0 rfl) ?_
        refine mr_geta hx hb hts hown hK hR 22 (by decide) rfl (hts _ q973) (fun _ h9 => h9) dX2_comes_114 ?_
        refine lv_iload_n hx hb dX2_comes_117 rfl (lv_at hl 1 rfl) ?_
        refine mr_ald (v := ((S 22 p1.toNatClampNeg) - 1)) hx hb hK hR 22 30 rfl (by decide) rfl (by first | assumption | exact mi_f hok (by assumption)) ((congrFun ((gs_sk rfl).trans (gs_up_at.trans (congrArg (fun z => upd z p1.toNatClampNeg ((S 22 p1.toNatClampNeg) - 1)) ((mi_r35 _ _ _ (by decide)).trans ((gs_sk rfl).trans (gs_sk rfl)))))) p1.toNatClampNeg).trans pk_us) dX2_comes_118 ?_
        refine lv_iadd hx hb dX2_comes_119 ?_
        refine lv_aload_n hx hb dX2_comes_120 rfl (lv_at hl 0 rfl) ?_
        refine mr_geti (v := (S 1 0)) hx hb hts hown hK hR 1 (by decide) rfl (hts _ q952) (fun _ h9 => h9) (congrFun ((gs_sk rfl).trans ((gs_sk rfl).trans ((mi_r35 _ _ _ (by decide)).trans ((gs_sk rfl).trans (gs_sk rfl))))) 0) dX2_comes_121 ?_
        refine mr_ast (j := ((12 * p1) + ((S 22 p1.toNatClampNeg) - 1)).toNatClampNeg) hx hb hK hR hS 24 360 rfl (by decide) rfl (mi_x1 h_p1 (by assumption)) rfl dX2_comes_124 (fun H locs hR hS => ?_)
        refine lv_aload_n hx hb dX2_comes_125 rfl (lv_at hl 0 rfl) ?_
        refine mr_geta hx hb hts hown hK hR 22 (by decide) rfl (hts _ q973) (fun _ h9 => h9) dX2_comes_126 ?_
        refine lv_iload_n hx hb dX2_comes_129 rfl (lv_at hl 1 rfl) ?_
        refine lv_dup2_11 hx hb dX2_comes_130 rfl rfl ?_
        refine mr_ald (v := ((S 22 p1.toNatClampNeg) - 1)) hx hb hK hR 22 30 rfl (by decide) rfl (by first | assumption | exact mi_f hok (by assumption)) ((congrFun ((gs_sk rfl).trans ((gs_sk rfl).trans (gs_up_at.trans (congrArg (fun z => upd z p1.toNatClampNeg ((S 22 p1.toNatClampNeg) - 1)) ((mi_r35 _ _ _ (by decide)).trans ((gs_sk rfl).trans (gs_sk rfl))))))) p1.toNatClampNeg).trans pk_us) dX2_comes_131 ?_
        refine lv_iconst (v := 1) hx hb dX2_comes_132 (by decide) ?_
        refine lv_iadd hx hb dX2_comes_133 ?_
        refine mr_ast (j := p1.toNatClampNeg) hx hb hK hR hS 22 30 rfl (by decide) rfl (by first | assumption | exact mi_f hok (by assumption)) rfl dX2_comes_134 (fun H locs hR hS => ?_)
        exact W.vret hx hb hr (fun t ht hW => ⟨⟨_, rfl, hf, mr_bt ht hR⟩, hS.F ht⟩) hS.2.2 dX2_comes_135
      | succ n_35 ih_35 =>
        intro i_35 S_35 H locs ls hi_35 hg_35 hR hS hl
        have hlt_35 : i_35 < (12 * p1.toNatClampNeg + 11) := by omega
        have hf_35 : mf_comes_L35 i_35 S_35 = mf_comes_L35 i_35 S_35 := rfl
        have h30 := mi_lt h_p1 (by decide)
        refine lv_iload hx hb dX2_comes_35 (lv_at hl 4 rfl) ?_
        refine lv_iload_n hx hb dX2_comes_37 rfl (lv_at hl 3 rfl) ?_
        refine lv_bipush (v := 12) hx hb dX2_comes_38 (by decide) ?_
        refine lv_iadd hx hb dX2_comes_40 ?_
        refine lv_iconst (v := 1) hx hb dX2_comes_41 (by decide) ?_
        refine lv_isub hx hb dX2_comes_42 ?_
        refine lv_icmp_ge (tgt := 84) hx hb dX2_comes_43 (by decide) (fun c_3 => absurd c_3 (lp_x1 (mi_c11 h_p1) hlt_35 (by omega))) (fun c_3 => ?_)
        refine lv_aload_n hx hb dX2_comes_46 rfl (lv_at hl 0 rfl) ?_
        refine mr_geta hx hb hts hown hK hR 23 (by decide) rfl (hts _ q974) (fun _ h9 => h9) dX2_comes_47 ?_
        refine lv_iload hx hb dX2_comes_50 (lv_at hl 4 rfl) ?_
        refine lv_aload_n hx hb dX2_comes_52 rfl (lv_at hl 0 rfl) ?_
        refine mr_geta hx hb hts hown hK hR 23 (by decide) rfl (hts _ q974) (fun _ h9 => h9) dX2_comes_53 ?_
        refine lv_iload hx hb dX2_comes_56 (lv_at hl 4 rfl) ?_
        refine lv_iconst (v := 1) hx hb dX2_comes_58 (by decide) ?_
        refine lv_iadd hx hb dX2_comes_59 ?_
        refine mr_ald (v := (S_35 23 (((nI i_35) + 1).toNatClampNeg))) hx hb hK hR 23 360 rfl (by decide) rfl (by rw [nI_1]; exact vp_in_nI (show i_35 + 1 < 360 by omega) (by decide)) rfl dX2_comes_60 ?_
        refine mr_ast (j := i_35) hx hb hK hR hS 23 360 rfl (by decide) rfl (by first | assumption | exact vp_in_nI (show i_35 < 360 by omega) (by decide)) (nI_clamp (show i_35 < 2 ^ 31 by omega)) dX2_comes_61 (fun H locs hR hS => ?_)
        refine lv_aload_n hx hb dX2_comes_62 rfl (lv_at hl 0 rfl) ?_
        refine mr_geta hx hb hts hown hK hR 24 (by decide) rfl (hts _ q975) (fun _ h9 => h9) dX2_comes_63 ?_
        refine lv_iload hx hb dX2_comes_66 (lv_at hl 4 rfl) ?_
        refine lv_aload_n hx hb dX2_comes_68 rfl (lv_at hl 0 rfl) ?_
        refine mr_geta hx hb hts hown hK hR 24 (by decide) rfl (hts _ q975) (fun _ h9 => h9) dX2_comes_69 ?_
        refine lv_iload hx hb dX2_comes_72 (lv_at hl 4 rfl) ?_
        refine lv_iconst (v := 1) hx hb dX2_comes_74 (by decide) ?_
        refine lv_iadd hx hb dX2_comes_75 ?_
        refine mr_ald (v := (S_35 24 (((nI i_35) + 1).toNatClampNeg))) hx hb hK hR 24 360 rfl (by decide) rfl (by rw [nI_1]; exact vp_in_nI (show i_35 + 1 < 360 by omega) (by decide)) (congrFun (gs_sk rfl) (((nI i_35) + 1).toNatClampNeg)) dX2_comes_76 ?_
        refine mr_ast (j := i_35) hx hb hK hR hS 24 360 rfl (by decide) rfl (by first | assumption | exact vp_in_nI (show i_35 < 360 by omega) (by decide)) (nI_clamp (show i_35 < 2 ^ 31 by omega)) dX2_comes_77 (fun H locs hR hS => ?_)
        refine lv_iinc (v := (nI (i_35 + 1))) (lv' := [(4, .int (nI (i_35 + 1))), (0, .ref q), (1, .int p1), (2, .int p2), (3, .int (12 * p1))]) hx hb dX2_comes_78 hl (k := 4) rfl (nI_1 i_35) (by decide) rfl (fun ls hl => ?_)
        refine lv_goto (tgt := 35) hx hb dX2_comes_81 (by decide) ?_
        exact ih_35 (i_35 + 1) (gs_up (gs_up S_35 23 i_35 (S_35 23 (((nI i_35) + 1).toNatClampNeg))) 24 i_35 (S_35 24 (((nI i_35) + 1).toNatClampNeg))) _ _ _ (by omega) ((congrArg (fun z => mf_comes_R35 n_35 (i_35 + 1) z) hf_35).trans hg_35) hR hS (lv_sub hl [1, 2, 3, 4, 0] rfl)
    rw [mi_c1 h_p1] at hl
    exact hL_35 10 (12 * p1.toNatClampNeg + 1) (gs_up (gs_up S 15 p1.toNatClampNeg 0) 16 p1.toNatClampNeg p2) _ _ _ (by omega) rfl hR hS (lv_sub hl [2, 3, 4, 1, 0] rfl)
set_option maxHeartbeats 2000000 in
set_option maxRecDepth 100000 in
theorem mt_find (l : Launch) (E : en_T) (q : Nat) (ad : Nat → Nat) (L : List Nat) (S : gs_T) (p1 : Int32) (p2 : Int32) (p3 : Int32) (p4 : Int32) (p5 : Int32) (p6 : Int32) (p7 : Int32) : Met l yX2_find (ws_ yX2_find cX2_find 10 (some .int)) { frames := 2, cells := 0, slots := 0, locals := 42 } (mr_Pc E q ad L S [.int p1, .int p2, .int p3, .int p4, .int p5, .int p6, .int p7] (mi_ok S)) (mr_Qi E q ad L (mf_find S p1 p2 p3 p4 p5 p6 p7).1 (mf_find S p1 p2 p3 p4 p5 p6 p7).2) 0 0 (mr_A L) := by
  refine mr_start (by decide) rfl (Nat.le_of_ble_eq_true rfl) ?_
  intro p e s m below meth c ls hx hb hr hlocks hml hown hts hK hP hl hR
  have hl : lv_has ls 10 [(0, .ref q), (1, .int p1), (2, .int p2), (3, .int p3), (4, .int p4), (5, .int p5), (6, .int p6), (7, .int p7)] := hl
  have hS : va_S (mr_A L) s.heap s.heap [] := va_S.rf
  have hok := hP
  have hf : (mf_find S p1 p2 p3 p4 p5 p6 p7) = (mf_find S p1 p2 p3 p4 p5 p6 p7) := rfl
  refine lv_iload_n hx hb dX2_find_0 rfl (lv_at hl 1 rfl) ?_
  refine ps_calli (As := [.int p1]) (rest := []) ⟨hx, hb, hml, hown, hts⟩ (mt_isKind l p1) (va_cwS 1 hts (lw_S q1089 q1090 q41 q1091) rfl rfl rfl (by decide +kernel) ⟨Nat.le_of_ble_eq_true rfl, Nat.le_of_ble_eq_true rfl⟩) trivial hS rfl hl.1 rfl (Nat.le_of_ble_eq_true rfl) dX2_find_1 ⟨Nat.le_refl _, Nat.le_refl _⟩ (fun H locs hz hk hS => ?_)
  have hR := hR.kept (fun a _ h => hk a h)
  have hJ_27 : ∀ (H : Heap) (locs : List Loc) (ls : Array Slot) (v_27 : Int32), v_27 = (if ((mf_isKind p1) = true) ∧ (((mf_isPlace p2) = true) ∧ ((mf_isRoom p7) = true)) then 1 else 0) → mr_W E q ad L S H → va_S (mr_A L) s.heap H locs → lv_has ls 10 [(0, .ref q), (1, .int p1), (2, .int p2), (3, .int p3), (4, .int p4), (5, .int p5), (6, .int p6), (7, .int p7)] → mr_G p l e { frames := 2, cells := 0, slots := 0, locals := 42 } s m [.ref q, .int p1, .int p2, .int p3, .int p4, .int p5, .int p6, .int p7] below meth c (mr_A L) (mr_Qi E q ad L (mf_find S p1 p2 p3 p4 p5 p6 p7).1 (mf_find S p1 p2 p3 p4 p5 p6 p7).2) H locs (F0 m 27 ls [.int v_27]) := by
    intro H locs ls v_27 e_v_27 hR hS hl
    subst e_v_27
    refine lv_istore (lv' := [(8, .int (if ((mf_isKind p1) = true) ∧ (((mf_isPlace p2) = true) ∧ ((mf_isRoom p7) = true)) then 1 else 0)), (0, .ref q), (1, .int p1), (2, .int p2), (3, .int p3), (4, .int p4), (5, .int p5), (6, .int p6), (7, .int p7)]) hx hb dX2_find_27 hl (by decide) rfl (fun ls hl => ?_)
    refine lv_iload_n hx hb dX2_find_29 rfl (lv_at hl 4 rfl) ?_
    refine lv_iconst (v := 0) hx hb dX2_find_30 (by decide) ?_
    refine lv_aload_n hx hb dX2_find_31 rfl (lv_at hl 1 rfl) ?_
    refine mr_geti (v := (S 1 0)) hx hb hts hown hK hR 1 (by decide) rfl (hts _ q952) (fun _ h9 => h9) rfl dX2_find_32 ?_
    refine ps_calli (As := [.int p3, .int 0, .int (S 1 0)]) (rest := []) ⟨hx, hb, hml, hown, hts⟩ (mt_in l p3 0 (S 1 0)) (va_cwS 3 hts (lw_S q1078 q1079 q41 q1080) rfl rfl rfl (by decide +kernel) ⟨Nat.le_of_ble_eq_true rfl, Nat.le_of_ble_eq_true rfl⟩) trivial hS rfl hl.1 rfl (Nat.le_of_ble_eq_true rfl) dX2_find_35 ⟨Nat.le_refl _, Nat.le_refl _⟩ (fun H locs hz hk hS => ?_)
    have hR := hR.kept (fun a _ h => hk a h)
    have hJ_82 : ∀ (H : Heap) (locs : List Loc) (ls : Array Slot) (v_82 : Int32), v_82 = (if ((mf_in p3 0 (S 1 0)) = true) ∧ (((mf_in p6 0 9999) = true) ∧ (((mf_isSet p4) = true) ∧ (((mf_isSet p5) = true) ∧ ((p4 &&& p5) = 0)))) then 1 else 0) → mr_W E q ad L S H → va_S (mr_A L) s.heap H locs → lv_has ls 10 [(0, .ref q), (1, .int p1), (2, .int p2), (3, .int p3), (4, .int p4), (5, .int p5), (6, .int p6), (7, .int p7), (8, .int (if ((mf_isKind p1) = true) ∧ (((mf_isPlace p2) = true) ∧ ((mf_isRoom p7) = true)) then 1 else 0))] → mr_G p l e { frames := 2, cells := 0, slots := 0, locals := 42 } s m [.ref q, .int p1, .int p2, .int p3, .int p4, .int p5, .int p6, .int p7] below meth c (mr_A L) (mr_Qi E q ad L (mf_find S p1 p2 p3 p4 p5 p6 p7).1 (mf_find S p1 p2 p3 p4 p5 p6 p7).2) H locs (F0 m 82 ls [.int v_82]) := by
      intro H locs ls v_82 e_v_82 hR hS hl
      subst e_v_82
      refine lv_istore (lv' := [(9, .int (if ((mf_in p3 0 (S 1 0)) = true) ∧ (((mf_in p6 0 9999) = true) ∧ (((mf_isSet p4) = true) ∧ (((mf_isSet p5) = true) ∧ ((p4 &&& p5) = 0)))) then 1 else 0)), (0, .ref q), (1, .int p1), (2, .int p2), (3, .int p3), (4, .int p4), (5, .int p5), (6, .int p6), (7, .int p7), (8, .int (if ((mf_isKind p1) = true) ∧ (((mf_isPlace p2) = true) ∧ ((mf_isRoom p7) = true)) then 1 else 0))]) hx hb dX2_find_82 hl (by decide) rfl (fun ls hl => ?_)
      refine lv_aload_n hx hb dX2_find_84 rfl (lv_at hl 1 rfl) ?_
      refine lv_iload hx hb dX2_find_85 (lv_at hl 9 rfl) ?_
      have hJ_117 : ∀ (H : Heap) (locs : List Loc) (ls : Array Slot) (v_117 : Int32), v_117 = (if ((mf_isKind p1) = true) ∧ (((mf_isPlace p2) = true) ∧ ((mf_isRoom p7) = true)) then (if ((mf_in p3 0 (S 1 0)) = true) ∧ (((mf_in p6 0 9999) = true) ∧ (((mf_isSet p4) = true) ∧ (((mf_isSet p5) = true) ∧ ((p4 &&& p5) = 0)))) then (if (S 8 0) = 30 then 3 else 0) else 2) else 1) → (v_117 = 0 ↔ ((((mf_isKind p1) = true) ∧ (((mf_isPlace p2) = true) ∧ ((mf_isRoom p7) = true))) ∧ ((((mf_in p3 0 (S 1 0)) = true) ∧ (((mf_in p6 0 9999) = true) ∧ (((mf_isSet p4) = true) ∧ (((mf_isSet p5) = true) ∧ ((p4 &&& p5) = 0))))) ∧ (¬ ((S 8 0) = 30))))) → mr_W E q ad L S H → va_S (mr_A L) s.heap H locs → lv_has ls 10 [(0, .ref q), (1, .int p1), (2, .int p2), (3, .int p3), (4, .int p4), (5, .int p5), (6, .int p6), (7, .int p7)] → mr_G p l e { frames := 2, cells := 0, slots := 0, locals := 42 } s m [.ref q, .int p1, .int p2, .int p3, .int p4, .int p5, .int p6, .int p7] below meth c (mr_A L) (mr_Qi E q ad L (mf_find S p1 p2 p3 p4 p5 p6 p7).1 (mf_find S p1 p2 p3 p4 p5 p6 p7).2) H locs (F0 m 117 ls [.int v_117, .ref q]) := by
        intro H locs ls v_117 e_v_117 e0_v_117 hR hS hl
        subst e_v_117
        refine mr_calli (As := [.int (if ((mf_isKind p1) = true) ∧ (((mf_isPlace p2) = true) ∧ ((mf_isRoom p7) = true)) then (if ((mf_in p3 0 (S 1 0)) = true) ∧ (((mf_in p6 0 9999) = true) ∧ (((mf_isSet p4) = true) ∧ (((mf_isSet p5) = true) ∧ ((p4 &&& p5) = 0)))) then (if (S 8 0) = 30 then 3 else 0) else 2) else 1)]) (rest := []) ⟨hx, hb, hml, hown, hts⟩ (mt_holds l E q ad L S (if ((mf_isKind p1) = true) ∧ (((mf_isPlace p2) = true) ∧ ((mf_isRoom p7) = true)) then (if ((mf_in p3 0 (S 1 0)) = true) ∧ (((mf_in p6 0 9999) = true) ∧ (((mf_isSet p4) = true) ∧ (((mf_isSet p5) = true) ∧ ((p4 &&& p5) = 0)))) then (if (S 8 0) = 30 then 3 else 0) else 2) else 1)) (cwV 1 hts (lw_V q1081 q1083 qs15 q41 q1084) rfl rfl rfl (by decide +kernel) ⟨Nat.le_of_ble_eq_true rfl, Nat.le_of_ble_eq_true rfl⟩) trivial hK hR (fun _ h => h) hS rfl hl.1 rfl (Nat.le_of_ble_eq_true rfl) dX2_find_117 ⟨Nat.le_refl _, Nat.le_refl _⟩ (fun H locs hR hS _ _ => ?_)
        refine lv_if_ne (tgt := 125) hx hb dX2_find_120 (by decide) (fun c_1 => ?_) (fun c_1 => ?_)
        · skip
          have c_1 : (((mf_isKind p1) = true) ∧ (((mf_isPlace p2) = true) ∧ ((mf_isRoom p7) = true))) ∧ ((((mf_in p3 0 (S 1 0)) = true) ∧ (((mf_in p6 0 9999) = true) ∧ (((mf_isSet p4) = true) ∧ (((mf_isSet p5) = true) ∧ ((p4 &&& p5) = 0))))) ∧ (¬ ((S 8 0) = 30))) := e0_v_117.mp (gs_zt (φ := (if ((mf_isKind p1) = true) ∧ (((mf_isPlace p2) = true) ∧ ((mf_isRoom p7) = true)) then (if ((mf_in p3 0 (S 1 0)) = true) ∧ (((mf_in p6 0 9999) = true) ∧ (((mf_isSet p4) = true) ∧ (((mf_isSet p5) = true) ∧ ((p4 &&& p5) = 0)))) then (if (S 8 0) = 30 then 3 else 0) else 2) else 1) = 0) c_1)
          have hf := (if_pos c_1).symm.trans hf
          have c_2 := c_1.1
          have c_3 := c_1.2
          have c_4 := c_2.1
          have c_5 := c_2.2
          have c_6 := c_5.1
          have c_7 := c_5.2
          have c_8 := c_3.1
          have c_9 := c_3.2
          have c_10 := c_8.1
          have c_11 := c_8.2
          have c_12 := c_11.1
          have c_13 := c_11.2
          have c_14 := c_13.1
          have c_15 := c_13.2
          have c_16 := c_15.1
          have c_17 := c_15.2
          refine lv_aload_n hx hb dX2_find_125 rfl (lv_at hl 0 rfl) ?_
          refine mr_geta hx hb hts hown hK hR 9 (by decide) rfl (hts _ q960) (fun _ h9 => h9) dX2_find_126 ?_
          refine lv_aload_n hx hb dX2_find_129 rfl (lv_at hl 0 rfl) ?_
          refine mr_geti (v := (S 8 0)) hx hb hts hown hK hR 8 (by decide) rfl (hts _ q959) (fun _ h9 => h9) (congrFun (gs_sk rfl) 0) dX2_find_130 ?_
          refine lv_iload_n hx hb dX2_find_133 rfl (lv_at hl 1 rfl) ?_
          refine mr_ast (j := (S 8 0).toNatClampNeg) hx hb hK hR hS 9 30 rfl (by decide) rfl (by first | assumption | exact mi_f hok (by assumption) | exact mi_new hok (by assumption)) rfl dX2_find_134 (fun H locs hR hS => ?_)
          refine lv_aload_n hx hb dX2_find_135 rfl (lv_at hl 0 rfl) ?_
          refine mr_geta hx hb hts hown hK hR 10 (by decide) rfl (hts _ q961) (fun _ h9 => h9) dX2_find_136 ?_
          refine lv_aload_n hx hb dX2_find_139 rfl (lv_at hl 0 rfl) ?_
          refine mr_geti (v := (S 8 0)) hx hb hts hown hK hR 8 (by decide) rfl (hts _ q959) (fun _ h9 => h9) (congrFun ((gs_sk rfl).trans (gs_sk rfl)) 0) dX2_find_140 ?_
          refine lv_iload_n hx hb dX2_find_143 rfl (lv_at hl 2 rfl) ?_
          refine mr_ast (j := (S 8 0).toNatClampNeg) hx hb hK hR hS 10 30 rfl (by decide) rfl (by first | assumption | exact mi_f hok (by assumption) | exact mi_new hok (by assumption)) rfl dX2_find_144 (fun H locs hR hS => ?_)
          refine lv_aload_n hx hb dX2_find_145 rfl (lv_at hl 0 rfl) ?_
          refine mr_geta hx hb hts hown hK hR 11 (by decide) rfl (hts _ q962) (fun _ h9 => h9) dX2_find_146 ?_
          refine lv_aload_n hx hb dX2_find_149 rfl (lv_at hl 0 rfl) ?_
          refine mr_geti (v := (S 8 0)) hx hb hts hown hK hR 8 (by decide) rfl (hts _ q959) (fun _ h9 => h9) (congrFun ((gs_sk rfl).trans ((gs_sk rfl).trans (gs_sk rfl))) 0) dX2_find_150 ?_
          refine lv_aload_n hx hb dX2_find_153 rfl (lv_at hl 0 rfl) ?_
          refine mr_geti (v := (S 1 0)) hx hb hts hown hK hR 1 (by decide) rfl (hts _ q952) (fun _ h9 => h9) (congrFun ((gs_sk rfl).trans ((gs_sk rfl).trans (gs_sk rfl))) 0) dX2_find_154 ?_
          refine lv_iload_n hx hb dX2_find_157 rfl (lv_at hl 3 rfl) ?_
          refine lv_isub hx hb dX2_find_158 ?_
          refine mr_ast (j := (S 8 0).toNatClampNeg) hx hb hK hR hS 11 30 rfl (by decide) rfl (by first | assumption | exact mi_f hok (by assumption) | exact mi_new hok (by assumption)) rfl dX2_find_159 (fun H locs hR hS => ?_)
          refine lv_aload_n hx hb dX2_find_160 rfl (lv_at hl 0 rfl) ?_
          refine mr_geta hx hb hts hown hK hR 12 (by decide) rfl (hts _ q963) (fun _ h9 => h9) dX2_find_161 ?_
          refine lv_aload_n hx hb dX2_find_164 rfl (lv_at hl 0 rfl) ?_
          refine mr_geti (v := (S 8 0)) hx hb hts hown hK hR 8 (by decide) rfl (hts _ q959) (fun _ h9 => h9) (congrFun ((gs_sk rfl).trans ((gs_sk rfl).trans ((gs_sk rfl).trans (gs_sk rfl)))) 0) dX2_find_165 ?_
          refine lv_iload hx hb dX2_find_168 (lv_at hl 4 rfl) ?_
          refine mr_ast (j := (S 8 0).toNatClampNeg) hx hb hK hR hS 12 30 rfl (by decide) rfl (by first | assumption | exact mi_f hok (by assumption) | exact mi_new hok (by assumption)) rfl dX2_find_170 (fun H locs hR hS => ?_)
          refine lv_aload_n hx hb dX2_find_171 rfl (lv_at hl 0 rfl) ?_
          refine mr_geta hx hb hts hown hK hR 13 (by decide) rfl (hts _ q964) (fun _ h9 => h9) dX2_find_172 ?_
          refine lv_aload_n hx hb dX2_find_175 rfl (lv_at hl 0 rfl) ?_
          refine mr_geti (v := (S 8 0)) hx hb hts hown hK hR 8 (by decide) rfl (hts _ q959) (fun _ h9 => h9) (congrFun ((gs_sk rfl).trans ((gs_sk rfl).trans ((gs_sk rfl).trans ((gs_sk rfl).trans (gs_sk rfl))))) 0) dX2_find_176 ?_
          refine lv_iload hx hb dX2_find_179 (lv_at hl 5 rfl) ?_
          refine mr_ast (j := (S 8 0).toNatClampNeg) hx hb hK hR hS 13 30 rfl (by decide) rfl (by first | assumption | exact mi_f hok (by assumption) | exact mi_new hok (by assumption)) rfl dX2_find_181 (fun H locs hR hS => ?_)
          refine lv_aload_n hx hb dX2_find_182 rfl (lv_at hl 0 rfl) ?_
          refine mr_geta hx hb hts hown hK hR 14 (by decide) rfl (hts _ q965) (fun _ h9 => h9) dX2_find_183 ?_
          refine lv_aload_n hx hb dX2_find_186 rfl (lv_at hl 0 rfl) ?_
          refine mr_geti (v := (S 8 0)) hx hb hts hown hK hR 8 (by decide) rfl (hts _ q959) (fun _ h9 => h9) (congrFun ((gs_sk rfl).trans ((gs_sk rfl).trans ((gs_sk rfl).trans ((gs_sk rfl).trans ((gs_sk rfl).trans (gs_sk rfl)))))) 0) dX2_find_187 ?_
          refine lv_iload hx hb dX2_find_190 (lv_at hl 6 rfl) ?_
          refine mr_ast (j := (S 8 0).toNatClampNeg) hx hb hK hR hS 14 30 rfl (by decide) rfl (by first | assumption | exact mi_f hok (by assumption) | exact mi_new hok (by assumption)) rfl dX2_find_192 (fun H locs hR hS => ?_)
          refine lv_aload_n hx hb dX2_find_193 rfl (lv_at hl 0 rfl) ?_
          refine mr_geta hx hb hts hown hK hR 18 (by decide) rfl (hts _ q969) (fun _ h9 => h9) dX2_find_194 ?_
          refine lv_aload_n hx hb dX2_find_197 rfl (lv_at hl 0 rfl) ?_
          refine mr_geti (v := (S 8 0)) hx hb hts hown hK hR 8 (by decide) rfl (hts _ q959) (fun _ h9 => h9) (congrFun ((gs_sk rfl).trans ((gs_sk rfl).trans ((gs_sk rfl).trans ((gs_sk rfl).trans ((gs_sk rfl).trans ((gs_sk rfl).trans (gs_sk rfl))))))) 0) dX2_find_198 ?_
          refine lv_aload_n hx hb dX2_find_201 rfl (lv_at hl 0 rfl) ?_
          refine mr_geti (v := (S 1 0)) hx hb hts hown hK hR 1 (by decide) rfl (hts _ q952) (fun _ h9 => h9) (congrFun ((gs_sk rfl).trans ((gs_sk rfl).trans ((gs_sk rfl).trans ((gs_sk rfl).trans ((gs_sk rfl).trans ((gs_sk rfl).trans (gs_sk rfl))))))) 0) dX2_find_202 ?_
          refine lv_iload_n hx hb dX2_find_205 rfl (lv_at hl 1 rfl) ?_
          refine lv_bipush (v := 7) hx hb dX2_find_206 (by decide) ?_
          have hJ_221 : ∀ (H : Heap) (locs : List Loc) (ls : Array Slot) (v_221 : Int32), v_221 = (if p1 = 7 then 1 else (S 4 p1.toNatClampNeg)) → mr_W E q ad L (gs_up (gs_up (gs_up (gs_up (gs_up (gs_up (gs_up S 0 0 (if ((mf_isKind p1) = true) ∧ (((mf_isPlace p2) = true) ∧ ((mf_isRoom p7) = true)) then (if ((mf_in p3 0 (S 1 0)) = true) ∧ (((mf_in p6 0 9999) = true) ∧ (((mf_isSet p4) = true) ∧ (((mf_isSet p5) = true) ∧ ((p4 &&& p5) = 0)))) then (if (S 8 0) = 30 then 3 else 0) else 2) else 1)) 9 ((S 8 0).toNatClampNeg) p1) 10 ((S 8 0).toNatClampNeg) p2) 11 ((S 8 0).toNatClampNeg) ((S 1 0) - p3)) 12 ((S 8 0).toNatClampNeg) p4) 13 ((S 8 0).toNatClampNeg) p5) 14 ((S 8 0).toNatClampNeg) p6) H → va_S (mr_A L) s.heap H locs → lv_has ls 10 [(0, .ref q), (7, .int p7)] → mr_G p l e { frames := 2, cells := 0, slots := 0, locals := 42 } s m [.ref q, .int p1, .int p2, .int p3, .int p4, .int p5, .int p6, .int p7] below meth c (mr_A L) (mr_Qi E q ad L (mf_find S p1 p2 p3 p4 p5 p6 p7).1 (mf_find S p1 p2 p3 p4 p5 p6 p7).2) H locs (F0 m 221 ls [.int v_221, .int (S 1 0), .int (S 8 0), .ref (ad 18)]) := by
            intro H locs ls v_221 e_v_221 hR hS hl
            subst e_v_221
            refine lv_iadd hx hb dX2_find_221 ?_
            refine mr_ast (j := (S 8 0).toNatClampNeg) hx hb hK hR hS 18 30 rfl (by decide) rfl (by first | assumption | exact mi_f hok (by assumption) | exact mi_new hok (by assumption)) rfl dX2_find_222 (fun H locs hR hS => ?_)
            refine lv_aload_n hx hb dX2_find_223 rfl (lv_at hl 0 rfl) ?_
            refine lv_aload_n hx hb dX2_find_224 rfl (lv_at hl 0 rfl) ?_
            refine mr_geti (v := (S 8 0)) hx hb hts hown hK hR 8 (by decide) rfl (hts _ q959) (fun _ h9 => h9) (congrFun ((gs_sk rfl).trans ((gs_sk rfl).trans ((gs_sk rfl).trans ((gs_sk rfl).trans ((gs_sk rfl).trans ((gs_sk rfl).trans ((gs_sk rfl).trans (gs_sk rfl)))))))) 0) dX2_find_225 ?_
            refine lv_iload hx hb dX2_find_228 (lv_at hl 1 rfl) ?_
            refine mr_callv (As := [.int (S 8 0), .int p7]) (rest := []) ⟨hx, hb, hml, hown, hts⟩ (mt_comes l E q ad L (gs_up (gs_up (gs_up (gs_up (gs_up (gs_up (gs_up (gs_up S 0 0 (if ((mf_isKind p1) = true) ∧ (((mf_isPlace p2) = true) ∧ ((mf_isRoom p7) = true)) then (if ((mf_in p3 0 (S 1 0)) = true) ∧ (((mf_in p6 0 9999) = true) ∧ (((mf_isSet p4) = true) ∧ (((mf_isSet p5) = true) ∧ ((p4 &&& p5) = 0)))) then (if (S 8 0) = 30 then 3 else 0) else 2) else 1)) 9 ((S 8 0).toNatClampNeg) p1) 10 ((S 8 0).toNatClampNeg) p2) 11 ((S 8 0).toNatClampNeg) ((S 1 0) - p3)) 12 ((S 8 0).toNatClampNeg) p4) 13 ((S 8 0).toNatClampNeg) p5) 14 ((S 8 0).toNatClampNeg) p6) 18 ((S 8 0).toNatClampNeg) ((S 1 0) + (if p1 = 7 then 1 else (S 4 p1.toNatClampNeg)))) (S 8 0) p7) (cwV 2 hts (lw_V q1121 q1123 qs16 q41 q1124) rfl rfl rfl (by decide +kernel) ⟨Nat.le_of_ble_eq_true rfl, Nat.le_of_ble_eq_true rfl⟩) ⟨(mi_row (k := 18) (by decide) (mi_row (k := 14) (by decide) (mi_row (k := 13) (by decide) (mi_row (k := 12) (by decide) (mi_row (k := 11) (by decide) (mi_row10 (mi_p (by assumption)) (mi_row9 (mi_k (by assumption)) (mi_row (k := 0) (by decide) hok)))))))), (by first | assumption | exact mi_f hok (by assumption) | exact mi_new hok (by assumption))⟩ hK hR (fun _ h => h) hS rfl hl.1 rfl (Nat.le_of_ble_eq_true rfl) dX2_find_230 ⟨Nat.le_refl _, Nat.le_refl _⟩ (fun H locs hR hS => ?_)
            refine lv_aload_n hx hb dX2_find_233 rfl (lv_at hl 0 rfl) ?_
            refine lv_dup hx hb dX2_find_234 rfl ?_
            refine mr_geti (v := ((mf_comes (gs_up (gs_up (gs_up (gs_up (gs_up (gs_up (gs_up (gs_up S 0 0 (if ((mf_isKind p1) = true) ∧ (((mf_isPlace p2) = true) ∧ ((mf_isRoom p7) = true)) then (if ((mf_in p3 0 (S 1 0)) = true) ∧ (((mf_in p6 0 9999) = true) ∧ (((mf_isSet p4) = true) ∧ (((mf_isSet p5) = true) ∧ ((p4 &&& p5) = 0)))) then (if (S 8 0) = 30 then 3 else 0) else 2) else 1)) 9 ((S 8 0).toNatClampNeg) p1) 10 ((S 8 0).toNatClampNeg) p2) 11 ((S 8 0).toNatClampNeg) ((S 1 0) - p3)) 12 ((S 8 0).toNatClampNeg) p4) 13 ((S 8 0).toNatClampNeg) p5) 14 ((S 8 0).toNatClampNeg) p6) 18 ((S 8 0).toNatClampNeg) ((S 1 0) + (if p1 = 7 then 1 else (S 4 p1.toNatClampNeg)))) (S 8 0) p7) 8 0)) hx hb hts hown hK hR 8 (by decide) rfl (hts _ q959) (fun _ h9 => h9) rfl dX2_find_235 ?_
            refine lv_iconst (v := 1) hx hb dX2_find_238 (by decide) ?_
            refine lv_iadd hx hb dX2_find_239 ?_
            refine mr_puti hx hb hts hown hK hR hS 8 (by decide) rfl (hts _ q959) (fun _ h9 => h9) dX2_find_240 (fun H locs hR hS => ?_)
            refine lv_aload_n hx hb dX2_find_243 rfl (lv_at hl 0 rfl) ?_
            refine mr_geti (v := (((mf_comes (gs_up (gs_up (gs_up (gs_up (gs_up (gs_up (gs_up (gs_up S 0 0 (if ((mf_isKind p1) = true) ∧ (((mf_isPlace p2) = true) ∧ ((mf_isRoom p7) = true)) then (if ((mf_in p3 0 (S 1 0)) = true) ∧ (((mf_in p6 0 9999) = true) ∧ (((mf_isSet p4) = true) ∧ (((mf_isSet p5) = true) ∧ ((p4 &&& p5) = 0)))) then (if (S 8 0) = 30 then 3 else 0) else 2) else 1)) 9 ((S 8 0).toNatClampNeg) p1) 10 ((S 8 0).toNatClampNeg) p2) 11 ((S 8 0).toNatClampNeg) ((S 1 0) - p3)) 12 ((S 8 0).toNatClampNeg) p4) 13 ((S 8 0).toNatClampNeg) p5) 14 ((S 8 0).toNatClampNeg) p6) 18 ((S 8 0).toNatClampNeg) ((S 1 0) + (if p1 = 7 then 1 else (S 4 p1.toNatClampNeg)))) (S 8 0) p7) 8 0) + 1)) hx hb hts hown hK hR 8 (by decide) rfl (hts _ q959) (fun _ h9 => h9) ((congrFun gs_up_at 0).trans pk_us) dX2_find_244 ?_
            refine lv_iconst (v := 1) hx hb dX2_find_247 (by decide) ?_
            refine lv_isub hx hb dX2_find_248 ?_
            exact W.iret (v := ((((mf_comes (gs_up (gs_up (gs_up (gs_up (gs_up (gs_up (gs_up (gs_up S 0 0 (if ((mf_isKind p1) = true) ∧ (((mf_isPlace p2) = true) ∧ ((mf_isRoom p7) = true)) then (if ((mf_in p3 0 (S 1 0)) = true) ∧ (((mf_in p6 0 9999) = true) ∧ (((mf_isSet p4) = true) ∧ (((mf_isSet p5) = true) ∧ ((p4 &&& p5) = 0)))) then (if (S 8 0) = 30 then 3 else 0) else 2) else 1)) 9 ((S 8 0).toNatClampNeg) p1) 10 ((S 8 0).toNatClampNeg) p2) 11 ((S 8 0).toNatClampNeg) ((S 1 0) - p3)) 12 ((S 8 0).toNatClampNeg) p4) 13 ((S 8 0).toNatClampNeg) p5) 14 ((S 8 0).toNatClampNeg) p6) 18 ((S 8 0).toNatClampNeg) ((S 1 0) + (if p1 = 7 then 1 else (S 4 p1.toNatClampNeg)))) (S 8 0) p7) 8 0) + 1) - 1)) hx hb hr (fun t ht hW => ⟨⟨_, _, rfl, ⟨(congrArg Prod.fst hf), (congrArg Prod.snd hf)⟩, mr_bt ht hR⟩, hS.F ht⟩) hS.2.2 dX2_find_249
          refine lv_icmp_ne (tgt := 215) hx hb dX2_find_208 (by decide) (fun c_18 => ?_) (fun c_18 => ?_)
          · skip
            refine lv_aload_n hx hb dX2_find_215 rfl (lv_at hl 0 rfl) ?_
            refine mr_geta hx hb hts hown hK hR 4 (by decide) rfl (hts _ q955) (fun _ h9 => h9) dX2_find_216 ?_
            refine lv_iload_n hx hb dX2_find_219 rfl (lv_at hl 1 rfl) ?_
            refine mr_ald (v := (S 4 p1.toNatClampNeg)) hx hb hK hR 4 8 rfl (by decide) rfl (by first | assumption | exact mi_k (by assumption) | exact mi_kd hok _ | exact mi_ck hok _ | exact mi_new hok (by assumption)) (congrFun ((gs_sk rfl).trans ((gs_sk rfl).trans ((gs_sk rfl).trans ((gs_sk rfl).trans ((gs_sk rfl).trans ((gs_sk rfl).trans (gs_sk rfl))))))) p1.toNatClampNeg) dX2_find_220 ?_
            exact hJ_221 _ _ _ (S 4 p1.toNatClampNeg) ((if_neg c_18).symm) hR hS (lv_sub hl [0, 7] rfl)
          · skip
            refine lv_iconst (v := 1) hx hb dX2_find_211 (by decide) ?_
            refine lv_goto (tgt := 221) hx hb dX2_find_212 (by decide) ?_
            exact hJ_221 _ _ _ 1 ((if_pos c_18).symm) hR hS (lv_sub hl [0, 7] rfl)
        · skip
          have c_1 : ¬ ((((mf_isKind p1) = true) ∧ (((mf_isPlace p2) = true) ∧ ((mf_isRoom p7) = true))) ∧ ((((mf_in p3 0 (S 1 0)) = true) ∧ (((mf_in p6 0 9999) = true) ∧ (((mf_isSet p4) = true) ∧ (((mf_isSet p5) = true) ∧ ((p4 &&& p5) = 0))))) ∧ (¬ ((S 8 0) = 30)))) := fun k => gs_zf (φ := (if ((mf_isKind p1) = true) ∧ (((mf_isPlace p2) = true) ∧ ((mf_isRoom p7) = true)) then (if ((mf_in p3 0 (S 1 0)) = true) ∧ (((mf_in p6 0 9999) = true) ∧ (((mf_isSet p4) = true) ∧ (((mf_isSet p5) = true) ∧ ((p4 &&& p5) = 0)))) then (if (S 8 0) = 30 then 3 else 0) else 2) else 1) = 0) c_1 (e0_v_117.mpr k)
          have hf := (if_neg c_1).symm.trans hf
          refine lv_iconst (v := 0) hx hb dX2_find_123 (by decide) ?_
          exact W.iret (v := 0) hx hb hr (fun t ht hW => ⟨⟨_, _, rfl, ⟨(congrArg Prod.fst hf), (congrArg Prod.snd hf)⟩, mr_bt ht hR⟩, hS.F ht⟩) hS.2.2 dX2_find_124
      refine lv_if_ne (tgt := 94) hx hb dX2_find_87 (by decide) (fun c_19 => ?_) (fun c_19 => ?_)
      · skip
        have c_19 : ((mf_isKind p1) = true) ∧ (((mf_isPlace p2) = true) ∧ ((mf_isRoom p7) = true)) := gs_zt (φ := ((mf_isKind p1) = true) ∧ (((mf_isPlace p2) = true) ∧ ((mf_isRoom p7) = true))) c_19
        have c_20 := c_19.1
        have c_21 := c_19.2
        have c_22 := c_21.1
        have c_23 := c_21.2
        refine lv_iload hx hb dX2_find_94 (lv_at hl 0 rfl) ?_
        refine lv_if_ne (tgt := 103) hx hb dX2_find_96 (by decide) (fun c_24 => ?_) (fun c_24 => ?_)
        · skip
          have c_24 : ((mf_in p3 0 (S 1 0)) = true) ∧ (((mf_in p6 0 9999) = true) ∧ (((mf_isSet p4) = true) ∧ (((mf_isSet p5) = true) ∧ ((p4 &&& p5) = 0)))) := gs_zt (φ := ((mf_in p3 0 (S 1 0)) = true) ∧ (((mf_in p6 0 9999) = true) ∧ (((mf_isSet p4) = true) ∧ (((mf_isSet p5) = true) ∧ ((p4 &&& p5) = 0))))) c_24
          have c_25 := c_24.1
          have c_26 := c_24.2
          have c_27 := c_26.1
          have c_28 := c_26.2
          have c_29 := c_28.1
          have c_30 := c_28.2
          have c_31 := c_30.1
          have c_32 := c_30.2
          refine lv_aload_n hx hb dX2_find_103 rfl (lv_at hl 1 rfl) ?_
          refine mr_geti (v := (S 8 0)) hx hb hts hown hK hR 8 (by decide) rfl (hts _ q959) (fun _ h9 => h9) rfl dX2_find_104 ?_
          refine lv_bipush (v := 30) hx hb dX2_find_107 (by decide) ?_
          refine lv_icmp_ne (tgt := 116) hx hb dX2_find_109 (by decide) (fun c_33 => ?_) (fun c_33 => ?_)
          · skip
            refine lv_iconst (v := 0) hx hb dX2_find_116 (by decide) ?_
            exact hJ_117 _ _ _ 0 ((((if_neg c_33).symm).trans (if_pos c_24).symm).trans (if_pos c_19).symm) (gi_z1 (((gi_nb_f c_33).trans (gi_ca_t c_24)).trans (gi_ca_t c_19))) hR hS (lv_sub hl [1, 2, 3, 4, 5, 6, 7, 8] rfl)
          · skip
            refine lv_iconst (v := 3) hx hb dX2_find_112 (by decide) ?_
            refine lv_goto (tgt := 117) hx hb dX2_find_113 (by decide) ?_
            exact hJ_117 _ _ _ 3 ((((if_pos c_33).symm).trans (if_pos c_24).symm).trans (if_pos c_19).symm) (gi_z0 (by decide) (((gi_nb_t c_33).trans (gi_ca_t c_24)).trans (gi_ca_t c_19))) hR hS (lv_sub hl [1, 2, 3, 4, 5, 6, 7, 8] rfl)
        · skip
          have c_24 : ¬ (((mf_in p3 0 (S 1 0)) = true) ∧ (((mf_in p6 0 9999) = true) ∧ (((mf_isSet p4) = true) ∧ (((mf_isSet p5) = true) ∧ ((p4 &&& p5) = 0))))) := gs_zf (φ := ((mf_in p3 0 (S 1 0)) = true) ∧ (((mf_in p6 0 9999) = true) ∧ (((mf_isSet p4) = true) ∧ (((mf_isSet p5) = true) ∧ ((p4 &&& p5) = 0))))) c_24
          refine lv_iconst (v := 2) hx hb dX2_find_99 (by decide) ?_
          refine lv_goto (tgt := 117) hx hb dX2_find_100 (by decide) ?_
          exact hJ_117 _ _ _ 2 (((if_neg c_24).symm).trans (if_pos c_19).symm) (gi_z0 (by decide) ((gi_ca_f c_24).trans (gi_ca_t c_19))) hR hS (lv_sub hl [1, 2, 3, 4, 5, 6, 7, 8] rfl)
      · skip
        have c_19 : ¬ (((mf_isKind p1) = true) ∧ (((mf_isPlace p2) = true) ∧ ((mf_isRoom p7) = true))) := gs_zf (φ := ((mf_isKind p1) = true) ∧ (((mf_isPlace p2) = true) ∧ ((mf_isRoom p7) = true))) c_19
        refine lv_iconst (v := 1) hx hb dX2_find_90 (by decide) ?_
        refine lv_goto (tgt := 117) hx hb dX2_find_91 (by decide) ?_
        exact hJ_117 _ _ _ 1 ((if_neg c_19).symm) (gi_z0 (by decide) (gi_ca_f c_19)) hR hS (lv_sub hl [1, 2, 3, 4, 5, 6, 7, 8] rfl)
    refine lv_if_eq (tgt := 81) hx hb dX2_find_38 (by decide) (fun c_34 => ?_) (fun c_34 => ?_)
    · skip
      have c_34 : ¬ ((mf_in p3 0 (S 1 0)) = true) := gs_zf (φ := (mf_in p3 0 (S 1 0)) = true) c_34
      refine lv_iconst (v := 0) hx hb dX2_find_81 (by decide) ?_
      exact hJ_82 _ _ _ 0 (gi_0 (gi_ca_f c_34)) hR hS (lv_sub hl [1, 2, 3, 4, 5, 6, 7, 8, 0] rfl)
    · skip
      have c_34 : (mf_in p3 0 (S 1 0)) = true := gs_zt (φ := (mf_in p3 0 (S 1 0)) = true) c_34
      refine lv_iload hx hb dX2_find_41 (lv_at hl 7 rfl) ?_
      refine lv_iconst (v := 0) hx hb dX2_find_43 (by decide) ?_
      refine lv_sipush (v := 9999) hx hb dX2_find_44 (by decide) ?_
      refine ps_calli (As := [.int p6, .int 0, .int 9999]) (rest := []) ⟨hx, hb, hml, hown, hts⟩ (mt_in l p6 0 9999) (va_cwS 3 hts (lw_S q1078 q1079 q41 q1080) rfl rfl rfl (by decide +kernel) ⟨Nat.le_of_ble_eq_true rfl, Nat.le_of_ble_eq_true rfl⟩) trivial hS rfl hl.1 rfl (Nat.le_of_ble_eq_true rfl) dX2_find_47 ⟨Nat.le_refl _, Nat.le_refl _⟩ (fun H locs hz hk hS => ?_)
      have hR := hR.kept (fun a _ h => hk a h)
      refine lv_if_eq (tgt := 81) hx hb dX2_find_50 (by decide) (fun c_35 => ?_) (fun c_35 => ?_)
      · skip
        have c_35 : ¬ ((mf_in p6 0 9999) = true) := gs_zf (φ := (mf_in p6 0 9999) = true) c_35
        refine lv_iconst (v := 0) hx hb dX2_find_81 (by decide) ?_
        exact hJ_82 _ _ _ 0 (gi_0 ((gi_ca_f c_35).trans (gi_ca_t c_34))) hR hS (lv_sub hl [1, 2, 3, 4, 5, 6, 7, 8, 0] rfl)
      · skip
        have c_35 : (mf_in p6 0 9999) = true := gs_zt (φ := (mf_in p6 0 9999) = true) c_35
        refine lv_iload hx hb dX2_find_53 (lv_at hl 5 rfl) ?_
        refine ps_calli (As := [.int p4]) (rest := []) ⟨hx, hb, hml, hown, hts⟩ (mt_isSet l p4) (va_cwS 1 hts (lw_S q1117 q1118 q41 q1119) rfl rfl rfl (by decide +kernel) ⟨Nat.le_of_ble_eq_true rfl, Nat.le_of_ble_eq_true rfl⟩) trivial hS rfl hl.1 rfl (Nat.le_of_ble_eq_true rfl) dX2_find_55 ⟨Nat.le_refl _, Nat.le_refl _⟩ (fun H locs hz hk hS => ?_)
        have hR := hR.kept (fun a _ h => hk a h)
        refine lv_if_eq (tgt := 81) hx hb dX2_find_58 (by decide) (fun c_36 => ?_) (fun c_36 => ?_)
        · skip
          have c_36 : ¬ ((mf_isSet p4) = true) := gs_zf (φ := (mf_isSet p4) = true) c_36
          refine lv_iconst (v := 0) hx hb dX2_find_81 (by decide) ?_
          exact hJ_82 _ _ _ 0 (gi_0 (((gi_ca_f c_36).trans (gi_ca_t c_35)).trans (gi_ca_t c_34))) hR hS (lv_sub hl [1, 2, 3, 4, 5, 6, 7, 8, 0] rfl)
        · skip
          have c_36 : (mf_isSet p4) = true := gs_zt (φ := (mf_isSet p4) = true) c_36
          refine lv_iload hx hb dX2_find_61 (lv_at hl 6 rfl) ?_
          refine ps_calli (As := [.int p5]) (rest := []) ⟨hx, hb, hml, hown, hts⟩ (mt_isSet l p5) (va_cwS 1 hts (lw_S q1117 q1118 q41 q1119) rfl rfl rfl (by decide +kernel) ⟨Nat.le_of_ble_eq_true rfl, Nat.le_of_ble_eq_true rfl⟩) trivial hS rfl hl.1 rfl (Nat.le_of_ble_eq_true rfl) dX2_find_63 ⟨Nat.le_refl _, Nat.le_refl _⟩ (fun H locs hz hk hS => ?_)
          have hR := hR.kept (fun a _ h => hk a h)
          refine lv_if_eq (tgt := 81) hx hb dX2_find_66 (by decide) (fun c_37 => ?_) (fun c_37 => ?_)
          · skip
            have c_37 : ¬ ((mf_isSet p5) = true) := gs_zf (φ := (mf_isSet p5) = true) c_37
            refine lv_iconst (v := 0) hx hb dX2_find_81 (by decide) ?_
            exact hJ_82 _ _ _ 0 (gi_0 ((((gi_ca_f c_37).trans (gi_ca_t c_36)).trans (gi_ca_t c_35)).trans (gi_ca_t c_34))) hR hS (lv_sub hl [1, 2, 3, 4, 5, 6, 7, 8, 0] rfl)
          · skip
            have c_37 : (mf_isSet p5) = true := gs_zt (φ := (mf_isSet p5) = true) c_37
            refine lv_iload hx hb dX2_find_69 (lv_at hl 5 rfl) ?_
            refine lv_iload hx hb dX2_find_71 (lv_at hl 6 rfl) ?_
            refine lv_iand hx hb dX2_find_73 ?_
            refine lv_if_ne (tgt := 81) hx hb dX2_find_74 (by decide) (fun c_38 => ?_) (fun c_38 => ?_)
            · skip
              refine lv_iconst (v := 0) hx hb dX2_find_81 (by decide) ?_
              exact hJ_82 _ _ _ 0 (gi_0 (((((gi_cb_f c_38).trans (gi_ca_t c_37)).trans (gi_ca_t c_36)).trans (gi_ca_t c_35)).trans (gi_ca_t c_34))) hR hS (lv_sub hl [1, 2, 3, 4, 5, 6, 7, 8, 0] rfl)
            · skip
              refine lv_iconst (v := 1) hx hb dX2_find_77 (by decide) ?_
              refine lv_goto (tgt := 82) hx hb dX2_find_78 (by decide) ?_
              exact hJ_82 _ _ _ 1 (gi_1 (((((gi_cb_t c_38).trans (gi_ca_t c_37)).trans (gi_ca_t c_36)).trans (gi_ca_t c_35)).trans (gi_ca_t c_34))) hR hS (lv_sub hl [1, 2, 3, 4, 5, 6, 7, 8, 0] rfl)
  refine lv_if_eq (tgt := 26) hx hb dX2_find_4 (by decide) (fun c_39 => ?_) (fun c_39 => ?_)
  · skip
    have c_39 : ¬ ((mf_isKind p1) = true) := gs_zf (φ := (mf_isKind p1) = true) c_39
    refine lv_iconst (v := 0) hx hb dX2_find_26 (by decide) ?_
    exact hJ_27 _ _ _ 0 (gi_0 (gi_ca_f c_39)) hR hS (lv_sub hl [0, 1, 2, 3, 4, 5, 6, 7] rfl)
  · skip
    have c_39 : (mf_isKind p1) = true := gs_zt (φ := (mf_isKind p1) = true) c_39
    refine lv_iload_n hx hb dX2_find_7 rfl (lv_at hl 2 rfl) ?_
    refine ps_calli (As := [.int p2]) (rest := []) ⟨hx, hb, hml, hown, hts⟩ (mt_isPlace l p2) (va_cwS 1 hts (lw_S q1114 q1115 q41 q1116) rfl rfl rfl (by decide +kernel) ⟨Nat.le_of_ble_eq_true rfl, Nat.le_of_ble_eq_true rfl⟩) trivial hS rfl hl.1 rfl (Nat.le_of_ble_eq_true rfl) dX2_find_8 ⟨Nat.le_refl _, Nat.le_refl _⟩ (fun H locs hz hk hS => ?_)
    have hR := hR.kept (fun a _ h => hk a h)
    refine lv_if_eq (tgt := 26) hx hb dX2_find_11 (by decide) (fun c_40 => ?_) (fun c_40 => ?_)
    · skip
      have c_40 : ¬ ((mf_isPlace p2) = true) := gs_zf (φ := (mf_isPlace p2) = true) c_40
      refine lv_iconst (v := 0) hx hb dX2_find_26 (by decide) ?_
      exact hJ_27 _ _ _ 0 (gi_0 ((gi_ca_f c_40).trans (gi_ca_t c_39))) hR hS (lv_sub hl [0, 1, 2, 3, 4, 5, 6, 7] rfl)
    · skip
      have c_40 : (mf_isPlace p2) = true := gs_zt (φ := (mf_isPlace p2) = true) c_40
      refine lv_iload hx hb dX2_find_14 (lv_at hl 7 rfl) ?_
      refine ps_calli (As := [.int p7]) (rest := []) ⟨hx, hb, hml, hown, hts⟩ (mt_isRoom l p7) (va_cwS 1 hts (lw_S q1100 q1101 q41 q1102) rfl rfl rfl (by decide +kernel) ⟨Nat.le_of_ble_eq_true rfl, Nat.le_of_ble_eq_true rfl⟩) trivial hS rfl hl.1 rfl (Nat.le_of_ble_eq_true rfl) dX2_find_16 ⟨Nat.le_refl _, Nat.le_refl _⟩ (fun H locs hz hk hS => ?_)
      have hR := hR.kept (fun a _ h => hk a h)
      refine lv_if_eq (tgt := 26) hx hb dX2_find_19 (by decide) (fun c_41 => ?_) (fun c_41 => ?_)
      · skip
        have c_41 : ¬ ((mf_isRoom p7) = true) := gs_zf (φ := (mf_isRoom p7) = true) c_41
        refine lv_iconst (v := 0) hx hb dX2_find_26 (by decide) ?_
        exact hJ_27 _ _ _ 0 (gi_0 (((gi_cb_f c_41).trans (gi_ca_t c_40)).trans (gi_ca_t c_39))) hR hS (lv_sub hl [0, 1, 2, 3, 4, 5, 6, 7] rfl)
      · skip
        have c_41 : (mf_isRoom p7) = true := gs_zt (φ := (mf_isRoom p7) = true) c_41
        refine lv_iconst (v := 1) hx hb dX2_find_22 (by decide) ?_
        refine lv_goto (tgt := 27) hx hb dX2_find_23 (by decide) ?_
        exact hJ_27 _ _ _ 1 (gi_1 (((gi_cb_t c_41).trans (gi_ca_t c_40)).trans (gi_ca_t c_39))) hR hS (lv_sub hl [0, 1, 2, 3, 4, 5, 6, 7] rfl)
set_option maxHeartbeats 2000000 in
set_option maxRecDepth 100000 in
theorem mt_see (l : Launch) (E : en_T) (q : Nat) (ad : Nat → Nat) (L : List Nat) (S : gs_T) (p1 : Int32) (p2 : Int32) : Met l yX2_see (ws_ yX2_see cX2_see 4 (some .int)) { frames := 2, cells := 0, slots := 0, locals := 43 } (mr_Pc E q ad L S [.int p1, .int p2] (mi_ok S)) (mr_Qi E q ad L (mf_see S p1 p2).1 (mf_see S p1 p2).2) 0 0 (mr_A L) := by
  refine mr_start (by decide) rfl (Nat.le_of_ble_eq_true rfl) ?_
  intro p e s m below meth c ls hx hb hr hlocks hml hown hts hK hP hl hR
  have hl : lv_has ls 4 [(0, .ref q), (1, .int p1), (2, .int p2)] := hl
  have hS : va_S (mr_A L) s.heap s.heap [] := va_S.rf
  have hok := hP
  have hf : (mf_see S p1 p2) = (mf_see S p1 p2) := rfl
  refine lv_aload_n hx hb dX2_see_0 rfl (lv_at hl 0 rfl) ?_
  refine lv_iload_n hx hb dX2_see_1 rfl (lv_at hl 1 rfl) ?_
  refine mr_calli (As := [.int p1]) (rest := []) ⟨hx, hb, hml, hown, hts⟩ (mt_isFind l E q ad L S p1) (cwV 1 hts (lw_V q1129 q1131 qs17 q41 q1132) rfl rfl rfl (by decide +kernel) ⟨Nat.le_of_ble_eq_true rfl, Nat.le_of_ble_eq_true rfl⟩) trivial hK hR (fun _ h => h) hS rfl hl.1 rfl (Nat.le_of_ble_eq_true rfl) dX2_see_2 ⟨Nat.le_refl _, Nat.le_refl _⟩ (fun H locs hR hS _ _ => ?_)
  refine lv_istore_n (lv' := [(3, .int (if (mf_isFind S p1) = true then 1 else 0)), (0, .ref q), (1, .int p1), (2, .int p2)]) hx hb dX2_see_5 rfl hl (by decide) rfl (fun ls hl => ?_)
  refine lv_aload_n hx hb dX2_see_6 rfl (lv_at hl 1 rfl) ?_
  refine lv_iload_n hx hb dX2_see_7 rfl (lv_at hl 0 rfl) ?_
  have hJ_51 : ∀ (H : Heap) (locs : List Loc) (ls : Array Slot) (v_51 : Int32), v_51 = (if (mf_isFind S p1) = true then (if (mf_isSet p2) = true then (if (p2 &&& (S 13 p1.toNatClampNeg)) = 0 then (if (S 15 p1.toNatClampNeg) = 0 then 0 else 3) else 2) else 2) else 1) → (v_51 = 0 ↔ (((mf_isFind S p1) = true) ∧ (((mf_isSet p2) = true) ∧ (((p2 &&& (S 13 p1.toNatClampNeg)) = 0) ∧ ((S 15 p1.toNatClampNeg) = 0))))) → mr_W E q ad L S H → va_S (mr_A L) s.heap H locs → lv_has ls 4 [(0, .ref q), (1, .int p1), (2, .int p2)] → mr_G p l e { frames := 2, cells := 0, slots := 0, locals := 43 } s m [.ref q, .int p1, .int p2] below meth c (mr_A L) (mr_Qi E q ad L (mf_see S p1 p2).1 (mf_see S p1 p2).2) H locs (F0 m 51 ls [.int v_51, .ref q]) := by
    intro H locs ls v_51 e_v_51 e0_v_51 hR hS hl
    subst e_v_51
    refine mr_calli (As := [.int (if (mf_isFind S p1) = true then (if (mf_isSet p2) = true then (if (p2 &&& (S 13 p1.toNatClampNeg)) = 0 then (if (S 15 p1.toNatClampNeg) = 0 then 0 else 3) else 2) else 2) else 1)]) (rest := []) ⟨hx, hb, hml, hown, hts⟩ (mt_holds l E q ad L S (if (mf_isFind S p1) = true then (if (mf_isSet p2) = true then (if (p2 &&& (S 13 p1.toNatClampNeg)) = 0 then (if (S 15 p1.toNatClampNeg) = 0 then 0 else 3) else 2) else 2) else 1)) (cwV 1 hts (lw_V q1081 q1083 qs15 q41 q1084) rfl rfl rfl (by decide +kernel) ⟨Nat.le_of_ble_eq_true rfl, Nat.le_of_ble_eq_true rfl⟩) trivial hK hR (fun _ h => h) hS rfl hl.1 rfl (Nat.le_of_ble_eq_true rfl) dX2_see_51 ⟨Nat.le_refl _, Nat.le_refl _⟩ (fun H locs hR hS _ _ => ?_)
    refine lv_if_ne (tgt := 59) hx hb dX2_see_54 (by decide) (fun c_1 => ?_) (fun c_1 => ?_)
    · skip
      have c_1 : ((mf_isFind S p1) = true) ∧ (((mf_isSet p2) = true) ∧ (((p2 &&& (S 13 p1.toNatClampNeg)) = 0) ∧ ((S 15 p1.toNatClampNeg) = 0))) := e0_v_51.mp (gs_zt (φ := (if (mf_isFind S p1) = true then (if (mf_isSet p2) = true then (if (p2 &&& (S 13 p1.toNatClampNeg)) = 0 then (if (S 15 p1.toNatClampNeg) = 0 then 0 else 3) else 2) else 2) else 1) = 0) c_1)
      have hf := (if_pos c_1).symm.trans hf
      have c_2 := c_1.1
      have c_3 := c_1.2
      have c_4 := c_3.1
      have c_5 := c_3.2
      have c_6 := c_5.1
      have c_7 := c_5.2
      refine lv_aload_n hx hb dX2_see_59 rfl (lv_at hl 0 rfl) ?_
      refine mr_geta hx hb hts hown hK hR 12 (by decide) rfl (hts _ q963) (fun _ h9 => h9) dX2_see_60 ?_
      refine lv_iload_n hx hb dX2_see_63 rfl (lv_at hl 1 rfl) ?_
      refine lv_dup2_11 hx hb dX2_see_64 rfl rfl ?_
      refine mr_ald (v := (S 12 p1.toNatClampNeg)) hx hb hK hR 12 30 rfl (by decide) rfl (by first | assumption | exact mi_f hok (by assumption)) (congrFun (gs_sk rfl) p1.toNatClampNeg) dX2_see_65 ?_
      refine lv_iload_n hx hb dX2_see_66 rfl (lv_at hl 2 rfl) ?_
      refine lv_ior hx hb dX2_see_67 ?_
      refine mr_ast (j := p1.toNatClampNeg) hx hb hK hR hS 12 30 rfl (by decide) rfl (by first | assumption | exact mi_f hok (by assumption)) rfl dX2_see_68 (fun H locs hR hS => ?_)
      refine lv_aload_n hx hb dX2_see_69 rfl (lv_at hl 0 rfl) ?_
      refine mr_geta hx hb hts hown hK hR 12 (by decide) rfl (hts _ q963) (fun _ h9 => h9) dX2_see_70 ?_
      refine lv_iload_n hx hb dX2_see_73 rfl (lv_at hl 1 rfl) ?_
      refine mr_ald (v := ((S 12 p1.toNatClampNeg) ||| p2)) hx hb hK hR 12 30 rfl (by decide) rfl (by first | assumption | exact mi_f hok (by assumption)) ((congrFun (gs_up_at.trans (congrArg (fun z => upd z p1.toNatClampNeg ((S 12 p1.toNatClampNeg) ||| p2)) (gs_sk rfl))) p1.toNatClampNeg).trans pk_us) dX2_see_74 ?_
      refine ps_calli (As := [.int ((S 12 p1.toNatClampNeg) ||| p2)]) (rest := []) ⟨hx, hb, hml, hown, hts⟩ (mt_bits l ((S 12 p1.toNatClampNeg) ||| p2)) (va_cwS 1 hts (lw_S q1103 q1104 q41 q1105) rfl rfl rfl (by decide +kernel) ⟨Nat.le_of_ble_eq_true rfl, Nat.le_of_ble_eq_true rfl⟩) trivial hS rfl hl.1 rfl (Nat.le_of_ble_eq_true rfl) dX2_see_75 ⟨Nat.le_refl _, Nat.le_refl _⟩ (fun H locs hz hk hS => ?_)
      have hR := hR.kept (fun a _ h => hk a h)
      exact W.iret (v := (mf_bits ((S 12 p1.toNatClampNeg) ||| p2))) hx hb hr (fun t ht hW => ⟨⟨_, _, rfl, ⟨(congrArg Prod.fst hf), (congrArg Prod.snd hf)⟩, mr_bt ht hR⟩, hS.F ht⟩) hS.2.2 dX2_see_78
    · skip
      have c_1 : ¬ (((mf_isFind S p1) = true) ∧ (((mf_isSet p2) = true) ∧ (((p2 &&& (S 13 p1.toNatClampNeg)) = 0) ∧ ((S 15 p1.toNatClampNeg) = 0)))) := fun k => gs_zf (φ := (if (mf_isFind S p1) = true then (if (mf_isSet p2) = true then (if (p2 &&& (S 13 p1.toNatClampNeg)) = 0 then (if (S 15 p1.toNatClampNeg) = 0 then 0 else 3) else 2) else 2) else 1) = 0) c_1 (e0_v_51.mpr k)
      have hf := (if_neg c_1).symm.trans hf
      refine lv_iconst (v := 0) hx hb dX2_see_57 (by decide) ?_
      exact W.iret (v := 0) hx hb hr (fun t ht hW => ⟨⟨_, _, rfl, ⟨(congrArg Prod.fst hf), (congrArg Prod.snd hf)⟩, mr_bt ht hR⟩, hS.F ht⟩) hS.2.2 dX2_see_58
  refine lv_if_ne (tgt := 15) hx hb dX2_see_8 (by decide) (fun c_8 => ?_) (fun c_8 => ?_)
  · skip
    have c_8 : (mf_isFind S p1) = true := gs_zt (φ := (mf_isFind S p1) = true) c_8
    refine lv_iload_n hx hb dX2_see_15 rfl (lv_at hl 3 rfl) ?_
    refine ps_calli (As := [.int p2]) (rest := [.ref q]) ⟨hx, hb, hml, hown, hts⟩ (mt_isSet l p2) (va_cwS 1 hts (lw_S q1117 q1118 q41 q1119) rfl rfl rfl (by decide +kernel) ⟨Nat.le_of_ble_eq_true rfl, Nat.le_of_ble_eq_true rfl⟩) trivial hS rfl hl.1 rfl (Nat.le_of_ble_eq_true rfl) dX2_see_16 ⟨Nat.le_refl _, Nat.le_refl _⟩ (fun H locs hz hk hS => ?_)
    have hR := hR.kept (fun a _ h => hk a h)
    refine lv_if_eq (tgt := 33) hx hb dX2_see_19 (by decide) (fun c_9 => ?_) (fun c_9 => ?_)
    · skip
      have c_9 : ¬ ((mf_isSet p2) = true) := gs_zf (φ := (mf_isSet p2) = true) c_9
      refine lv_iconst (v := 2) hx hb dX2_see_33 (by decide) ?_
      refine lv_goto (tgt := 51) hx hb dX2_see_34 (by decide) ?_
      exact hJ_51 _ _ _ 2 (((if_neg c_9).symm).trans (if_pos c_8).symm) (gi_z0 (by decide) ((gi_ca_f c_9).trans (gi_ca_t c_8))) hR hS (lv_sub hl [1, 2, 3] rfl)
    · skip
      have c_9 : (mf_isSet p2) = true := gs_zt (φ := (mf_isSet p2) = true) c_9
      refine lv_iload_n hx hb dX2_see_22 rfl (lv_at hl 3 rfl) ?_
      refine lv_aload_n hx hb dX2_see_23 rfl (lv_at hl 1 rfl) ?_
      refine mr_geta hx hb hts hown hK hR 13 (by decide) rfl (hts _ q964) (fun _ h9 => h9) dX2_see_24 ?_
      refine lv_iload_n hx hb dX2_see_27 rfl (lv_at hl 2 rfl) ?_
      refine mr_ald (v := (S 13 p1.toNatClampNeg)) hx hb hK hR 13 30 rfl (by decide) rfl (by first | assumption | exact mi_f hok (by assumption)) rfl dX2_see_28 ?_
      refine lv_iand hx hb dX2_see_29 ?_
      refine lv_if_eq (tgt := 37) hx hb dX2_see_30 (by decide) (fun c_10 => ?_) (fun c_10 => ?_)
      · skip
        refine lv_aload_n hx hb dX2_see_37 rfl (lv_at hl 1 rfl) ?_
        refine mr_geta hx hb hts hown hK hR 15 (by decide) rfl (hts _ q966) (fun _ h9 => h9) dX2_see_38 ?_
        refine lv_iload_n hx hb dX2_see_41 rfl (lv_at hl 2 rfl) ?_
        refine mr_ald (v := (S 15 p1.toNatClampNeg)) hx hb hK hR 15 30 rfl (by decide) rfl (by first | assumption | exact mi_f hok (by assumption)) rfl dX2_see_42 ?_
        refine lv_if_eq (tgt := 50) hx hb dX2_see_43 (by decide) (fun c_11 => ?_) (fun c_11 => ?_)
        · skip
          refine lv_iconst (v := 0) hx hb dX2_see_50 (by decide) ?_
          exact hJ_51 _ _ _ 0 (((((if_pos c_11).symm).trans (if_pos c_10).symm).trans (if_pos c_9).symm).trans (if_pos c_8).symm) (gi_z1 ((((gi_cb_t c_11).trans (gi_ca_t c_10)).trans (gi_ca_t c_9)).trans (gi_ca_t c_8))) hR hS (lv_sub hl [1, 2, 3] rfl)
        · skip
          refine lv_iconst (v := 3) hx hb dX2_see_46 (by decide) ?_
          refine lv_goto (tgt := 51) hx hb dX2_see_47 (by decide) ?_
          exact hJ_51 _ _ _ 3 (((((if_neg c_11).symm).trans (if_pos c_10).symm).trans (if_pos c_9).symm).trans (if_pos c_8).symm) (gi_z0 (by decide) ((((gi_cb_f c_11).trans (gi_ca_t c_10)).trans (gi_ca_t c_9)).trans (gi_ca_t c_8))) hR hS (lv_sub hl [1, 2, 3] rfl)
      · skip
        refine lv_iconst (v := 2) hx hb dX2_see_33 (by decide) ?_
        refine lv_goto (tgt := 51) hx hb dX2_see_34 (by decide) ?_
        exact hJ_51 _ _ _ 2 ((((if_neg c_10).symm).trans (if_pos c_9).symm).trans (if_pos c_8).symm) (gi_z0 (by decide) (((gi_ca_f c_10).trans (gi_ca_t c_9)).trans (gi_ca_t c_8))) hR hS (lv_sub hl [1, 2, 3] rfl)
  · skip
    have c_8 : ¬ ((mf_isFind S p1) = true) := gs_zf (φ := (mf_isFind S p1) = true) c_8
    refine lv_iconst (v := 1) hx hb dX2_see_11 (by decide) ?_
    refine lv_goto (tgt := 51) hx hb dX2_see_12 (by decide) ?_
    exact hJ_51 _ _ _ 1 ((if_neg c_8).symm) (gi_z0 (by decide) (gi_ca_f c_8)) hR hS (lv_sub hl [1, 2, 3] rfl)
set_option maxHeartbeats 2000000 in
set_option maxRecDepth 100000 in
theorem mt_send (l : Launch) (E : en_T) (q : Nat) (ad : Nat → Nat) (L : List Nat) (S : gs_T) (p1 : Int32) (p2 : Int32) : Met l yX2_send (ws_ yX2_send cX2_send 4 (some .int)) { frames := 2, cells := 0, slots := 0, locals := 43 } (mr_Pc E q ad L S [.int p1, .int p2] (mi_ok S)) (mr_Qi E q ad L (mf_send S p1 p2).1 (mf_send S p1 p2).2) 0 0 (mr_A L) := by
  refine mr_start (by decide) rfl (Nat.le_of_ble_eq_true rfl) ?_
  intro p e s m below meth c ls hx hb hr hlocks hml hown hts hK hP hl hR
  have hl : lv_has ls 4 [(0, .ref q), (1, .int p1), (2, .int p2)] := hl
  have hS : va_S (mr_A L) s.heap s.heap [] := va_S.rf
  have hok := hP
  have hf : (mf_send S p1 p2) = (mf_send S p1 p2) := rfl
  refine lv_aload_n hx hb dX2_send_0 rfl (lv_at hl 0 rfl) ?_
  refine lv_iload_n hx hb dX2_send_1 rfl (lv_at hl 1 rfl) ?_
  refine mr_calli (As := [.int p1]) (rest := []) ⟨hx, hb, hml, hown, hts⟩ (mt_isFind l E q ad L S p1) (cwV 1 hts (lw_V q1129 q1131 qs17 q41 q1132) rfl rfl rfl (by decide +kernel) ⟨Nat.le_of_ble_eq_true rfl, Nat.le_of_ble_eq_true rfl⟩) trivial hK hR (fun _ h => h) hS rfl hl.1 rfl (Nat.le_of_ble_eq_true rfl) dX2_send_2 ⟨Nat.le_refl _, Nat.le_refl _⟩ (fun H locs hR hS _ _ => ?_)
  have hJ_20 : ∀ (H : Heap) (locs : List Loc) (ls : Array Slot) (v_20 : Int32), v_20 = (if ((mf_isFind S p1) = true) ∧ ((mf_isRoom p2) = true) then 1 else 0) → mr_W E q ad L S H → va_S (mr_A L) s.heap H locs → lv_has ls 4 [(0, .ref q), (1, .int p1), (2, .int p2)] → mr_G p l e { frames := 2, cells := 0, slots := 0, locals := 43 } s m [.ref q, .int p1, .int p2] below meth c (mr_A L) (mr_Qi E q ad L (mf_send S p1 p2).1 (mf_send S p1 p2).2) H locs (F0 m 20 ls [.int v_20]) := by
    intro H locs ls v_20 e_v_20 hR hS hl
    subst e_v_20
    refine lv_istore_n (lv' := [(3, .int (if ((mf_isFind S p1) = true) ∧ ((mf_isRoom p2) = true) then 1 else 0)), (0, .ref q), (1, .int p1), (2, .int p2)]) hx hb dX2_send_20 rfl hl (by decide) rfl (fun ls hl => ?_)
    refine lv_aload_n hx hb dX2_send_21 rfl (lv_at hl 1 rfl) ?_
    refine lv_iload_n hx hb dX2_send_22 rfl (lv_at hl 0 rfl) ?_
    have hJ_54 : ∀ (H : Heap) (locs : List Loc) (ls : Array Slot) (v_54 : Int32), v_54 = (if ((mf_isFind S p1) = true) ∧ ((mf_isRoom p2) = true) then (if (S 15 p1.toNatClampNeg) = 0 then (if (S 16 p1.toNatClampNeg) = p2 then 2 else 0) else 2) else 1) → (v_54 = 0 ↔ ((((mf_isFind S p1) = true) ∧ ((mf_isRoom p2) = true)) ∧ (((S 15 p1.toNatClampNeg) = 0) ∧ (¬ ((S 16 p1.toNatClampNeg) = p2))))) → mr_W E q ad L S H → va_S (mr_A L) s.heap H locs → lv_has ls 4 [(0, .ref q), (1, .int p1), (2, .int p2)] → mr_G p l e { frames := 2, cells := 0, slots := 0, locals := 43 } s m [.ref q, .int p1, .int p2] below meth c (mr_A L) (mr_Qi E q ad L (mf_send S p1 p2).1 (mf_send S p1 p2).2) H locs (F0 m 54 ls [.int v_54, .ref q]) := by
      intro H locs ls v_54 e_v_54 e0_v_54 hR hS hl
      subst e_v_54
      refine mr_calli (As := [.int (if ((mf_isFind S p1) = true) ∧ ((mf_isRoom p2) = true) then (if (S 15 p1.toNatClampNeg) = 0 then (if (S 16 p1.toNatClampNeg) = p2 then 2 else 0) else 2) else 1)]) (rest := []) ⟨hx, hb, hml, hown, hts⟩ (mt_holds l E q ad L S (if ((mf_isFind S p1) = true) ∧ ((mf_isRoom p2) = true) then (if (S 15 p1.toNatClampNeg) = 0 then (if (S 16 p1.toNatClampNeg) = p2 then 2 else 0) else 2) else 1)) (cwV 1 hts (lw_V q1081 q1083 qs15 q41 q1084) rfl rfl rfl (by decide +kernel) ⟨Nat.le_of_ble_eq_true rfl, Nat.le_of_ble_eq_true rfl⟩) trivial hK hR (fun _ h => h) hS rfl hl.1 rfl (Nat.le_of_ble_eq_true rfl) dX2_send_54 ⟨Nat.le_refl _, Nat.le_refl _⟩ (fun H locs hR hS _ _ => ?_)
      refine lv_if_ne (tgt := 62) hx hb dX2_send_57 (by decide) (fun c_1 => ?_) (fun c_1 => ?_)
      · skip
        have c_1 : (((mf_isFind S p1) = true) ∧ ((mf_isRoom p2) = true)) ∧ (((S 15 p1.toNatClampNeg) = 0) ∧ (¬ ((S 16 p1.toNatClampNeg) = p2))) := e0_v_54.mp (gs_zt (φ := (if ((mf_isFind S p1) = true) ∧ ((mf_isRoom p2) = true) then (if (S 15 p1.toNatClampNeg) = 0 then (if (S 16 p1.toNatClampNeg) = p2 then 2 else 0) else 2) else 1) = 0) c_1)
        have hf := (if_pos c_1).symm.trans hf
        have c_2 := c_1.1
        have c_3 := c_1.2
        have c_4 := c_2.1
        have c_5 := c_2.2
        have c_6 := c_3.1
        have c_7 := c_3.2
        refine lv_aload_n hx hb dX2_send_62 rfl (lv_at hl 0 rfl) ?_
        refine mr_geta hx hb hts hown hK hR 15 (by decide) rfl (hts _ q966) (fun _ h9 => h9) dX2_send_63 ?_
        refine lv_iload_n hx hb dX2_send_66 rfl (lv_at hl 1 rfl) ?_
        refine lv_iconst (v := 1) hx hb dX2_send_67 (by decide) ?_
        refine mr_ast (j := p1.toNatClampNeg) hx hb hK hR hS 15 30 rfl (by decide) rfl (by first | assumption | exact mi_f hok (by assumption)) rfl dX2_send_68 (fun H locs hR hS => ?_)
        refine lv_aload_n hx hb dX2_send_69 rfl (lv_at hl 0 rfl) ?_
        refine mr_geta hx hb hts hown hK hR 17 (by decide) rfl (hts _ q968) (fun _ h9 => h9) dX2_send_70 ?_
        refine lv_iload_n hx hb dX2_send_73 rfl (lv_at hl 1 rfl) ?_
        refine lv_iload_n hx hb dX2_send_74 rfl (lv_at hl 2 rfl) ?_
        refine mr_ast (j := p1.toNatClampNeg) hx hb hK hR hS 17 30 rfl (by decide) rfl (by first | assumption | exact mi_f hok (by assumption)) rfl dX2_send_75 (fun H locs hR hS => ?_)
        refine lv_aload_n hx hb dX2_send_76 rfl (lv_at hl 0 rfl) ?_
        refine mr_geta hx hb hts hown hK hR 16 (by decide) rfl (hts _ q967) (fun _ h9 => h9) dX2_send_77 ?_
        refine lv_iload_n hx hb dX2_send_80 rfl (lv_at hl 1 rfl) ?_
        refine mr_ald (v := (S 16 p1.toNatClampNeg)) hx hb hK hR 16 30 rfl (by decide) rfl (by first | assumption | exact mi_f hok (by assumption)) (congrFun ((gs_sk rfl).trans ((gs_sk rfl).trans (gs_sk rfl))) p1.toNatClampNeg) dX2_send_81 ?_
        exact W.iret (v := (S 16 p1.toNatClampNeg)) hx hb hr (fun t ht hW => ⟨⟨_, _, rfl, ⟨(congrArg Prod.fst hf), (congrArg Prod.snd hf)⟩, mr_bt ht hR⟩, hS.F ht⟩) hS.2.2 dX2_send_82
      · skip
        have c_1 : ¬ ((((mf_isFind S p1) = true) ∧ ((mf_isRoom p2) = true)) ∧ (((S 15 p1.toNatClampNeg) = 0) ∧ (¬ ((S 16 p1.toNatClampNeg) = p2)))) := fun k => gs_zf (φ := (if ((mf_isFind S p1) = true) ∧ ((mf_isRoom p2) = true) then (if (S 15 p1.toNatClampNeg) = 0 then (if (S 16 p1.toNatClampNeg) = p2 then 2 else 0) else 2) else 1) = 0) c_1 (e0_v_54.mpr k)
        have hf := (if_neg c_1).symm.trans hf
        refine lv_iconst (v := 0) hx hb dX2_send_60 (by decide) ?_
        exact W.iret (v := 0) hx hb hr (fun t ht hW => ⟨⟨_, _, rfl, ⟨(congrArg Prod.fst hf), (congrArg Prod.snd hf)⟩, mr_bt ht hR⟩, hS.F ht⟩) hS.2.2 dX2_send_61
    refine lv_if_ne (tgt := 30) hx hb dX2_send_23 (by decide) (fun c_8 => ?_) (fun c_8 => ?_)
    · skip
      have c_8 : ((mf_isFind S p1) = true) ∧ ((mf_isRoom p2) = true) := gs_zt (φ := ((mf_isFind S p1) = true) ∧ ((mf_isRoom p2) = true)) c_8
      have c_9 := c_8.1
      have c_10 := c_8.2
      refine lv_aload_n hx hb dX2_send_30 rfl (lv_at hl 1 rfl) ?_
      refine mr_geta hx hb hts hown hK hR 15 (by decide) rfl (hts _ q966) (fun _ h9 => h9) dX2_send_31 ?_
      refine lv_iload_n hx hb dX2_send_34 rfl (lv_at hl 2 rfl) ?_
      refine mr_ald (v := (S 15 p1.toNatClampNeg)) hx hb hK hR 15 30 rfl (by decide) rfl (by first | assumption | exact mi_f hok (by assumption)) rfl dX2_send_35 ?_
      refine lv_if_ne (tgt := 49) hx hb dX2_send_36 (by decide) (fun c_11 => ?_) (fun c_11 => ?_)
      · skip
        refine lv_iconst (v := 2) hx hb dX2_send_49 (by decide) ?_
        refine lv_goto (tgt := 54) hx hb dX2_send_50 (by decide) ?_
        exact hJ_54 _ _ _ 2 (((if_neg c_11).symm).trans (if_pos c_8).symm) (gi_z0 (by decide) ((gi_ca_f c_11).trans (gi_ca_t c_8))) hR hS (lv_sub hl [1, 2, 3] rfl)
      · skip
        refine lv_aload_n hx hb dX2_send_39 rfl (lv_at hl 1 rfl) ?_
        refine mr_geta hx hb hts hown hK hR 16 (by decide) rfl (hts _ q967) (fun _ h9 => h9) dX2_send_40 ?_
        refine lv_iload_n hx hb dX2_send_43 rfl (lv_at hl 2 rfl) ?_
        refine mr_ald (v := (S 16 p1.toNatClampNeg)) hx hb hK hR 16 30 rfl (by decide) rfl (by first | assumption | exact mi_f hok (by assumption)) rfl dX2_send_44 ?_
        refine lv_iload_n hx hb dX2_send_45 rfl (lv_at hl 3 rfl) ?_
        refine lv_icmp_ne (tgt := 53) hx hb dX2_send_46 (by decide) (fun c_12 => ?_) (fun c_12 => ?_)
        · skip
          refine lv_iconst (v := 0) hx hb dX2_send_53 (by decide) ?_
          exact hJ_54 _ _ _ 0 ((((if_neg c_12).symm).trans (if_pos c_11).symm).trans (if_pos c_8).symm) (gi_z1 (((gi_nb_f c_12).trans (gi_ca_t c_11)).trans (gi_ca_t c_8))) hR hS (lv_sub hl [1, 2, 3] rfl)
        · skip
          refine lv_iconst (v := 2) hx hb dX2_send_49 (by decide) ?_
          refine lv_goto (tgt := 54) hx hb dX2_send_50 (by decide) ?_
          exact hJ_54 _ _ _ 2 ((((if_pos c_12).symm).trans (if_pos c_11).symm).trans (if_pos c_8).symm) (gi_z0 (by decide) (((gi_nb_t c_12).trans (gi_ca_t c_11)).trans (gi_ca_t c_8))) hR hS (lv_sub hl [1, 2, 3] rfl)
    · skip
      have c_8 : ¬ (((mf_isFind S p1) = true) ∧ ((mf_isRoom p2) = true)) := gs_zf (φ := ((mf_isFind S p1) = true) ∧ ((mf_isRoom p2) = true)) c_8
      refine lv_iconst (v := 1) hx hb dX2_send_26 (by decide) ?_
      refine lv_goto (tgt := 54) hx hb dX2_send_27 (by decide) ?_
      exact hJ_54 _ _ _ 1 ((if_neg c_8).symm) (gi_z0 (by decide) (gi_ca_f c_8)) hR hS (lv_sub hl [1, 2, 3] rfl)
  refine lv_if_eq (tgt := 19) hx hb dX2_send_5 (by decide) (fun c_13 => ?_) (fun c_13 => ?_)
  · skip
    have c_13 : ¬ ((mf_isFind S p1) = true) := gs_zf (φ := (mf_isFind S p1) = true) c_13
    refine lv_iconst (v := 0) hx hb dX2_send_19 (by decide) ?_
    exact hJ_20 _ _ _ 0 (gi_0 (gi_ca_f c_13)) hR hS (lv_sub hl [0, 1, 2] rfl)
  · skip
    have c_13 : (mf_isFind S p1) = true := gs_zt (φ := (mf_isFind S p1) = true) c_13
    refine lv_iload_n hx hb dX2_send_8 rfl (lv_at hl 2 rfl) ?_
    refine ps_calli (As := [.int p2]) (rest := []) ⟨hx, hb, hml, hown, hts⟩ (mt_isRoom l p2) (va_cwS 1 hts (lw_S q1100 q1101 q41 q1102) rfl rfl rfl (by decide +kernel) ⟨Nat.le_of_ble_eq_true rfl, Nat.le_of_ble_eq_true rfl⟩) trivial hS rfl hl.1 rfl (Nat.le_of_ble_eq_true rfl) dX2_send_9 ⟨Nat.le_refl _, Nat.le_refl _⟩ (fun H locs hz hk hS => ?_)
    have hR := hR.kept (fun a _ h => hk a h)
    refine lv_if_eq (tgt := 19) hx hb dX2_send_12 (by decide) (fun c_14 => ?_) (fun c_14 => ?_)
    · skip
      have c_14 : ¬ ((mf_isRoom p2) = true) := gs_zf (φ := (mf_isRoom p2) = true) c_14
      refine lv_iconst (v := 0) hx hb dX2_send_19 (by decide) ?_
      exact hJ_20 _ _ _ 0 (gi_0 ((gi_cb_f c_14).trans (gi_ca_t c_13))) hR hS (lv_sub hl [0, 1, 2] rfl)
    · skip
      have c_14 : (mf_isRoom p2) = true := gs_zt (φ := (mf_isRoom p2) = true) c_14
      refine lv_iconst (v := 1) hx hb dX2_send_15 (by decide) ?_
      refine lv_goto (tgt := 20) hx hb dX2_send_16 (by decide) ?_
      exact hJ_20 _ _ _ 1 (gi_1 ((gi_cb_t c_14).trans (gi_ca_t c_13))) hR hS (lv_sub hl [0, 1, 2] rfl)
set_option maxHeartbeats 2000000 in
set_option maxRecDepth 100000 in
theorem mt_lose (l : Launch) (E : en_T) (q : Nat) (ad : Nat → Nat) (L : List Nat) (S : gs_T) (p1 : Int32) : Met l yX2_lose (ws_ yX2_lose cX2_lose 5 (some .int)) { frames := 2, cells := 0, slots := 0, locals := 42 } (mr_Pc E q ad L S [.int p1] (mi_ok S)) (mr_Qi E q ad L (mf_lose S p1).1 (mf_lose S p1).2) 0 0 (mr_A L) := by
  refine mr_start (by decide) rfl (Nat.le_of_ble_eq_true rfl) ?_
  intro p e s m below meth c ls hx hb hr hlocks hml hown hts hK hP hl hR
  have hl : lv_has ls 5 [(0, .ref q), (1, .int p1)] := hl
  have hS : va_S (mr_A L) s.heap s.heap [] := va_S.rf
  have hok := hP
  have hf : (mf_lose S p1) = (mf_lose S p1) := rfl
  have hnf := mi_n30 hok
  refine lv_aload_n hx hb dX2_lose_0 rfl (lv_at hl 0 rfl) ?_
  refine lv_iload_n hx hb dX2_lose_1 rfl (lv_at hl 1 rfl) ?_
  refine ps_calli (As := [.int p1]) (rest := [.ref q]) ⟨hx, hb, hml, hown, hts⟩ (mt_isRoom l p1) (va_cwS 1 hts (lw_S q1100 q1101 q41 q1102) rfl rfl rfl (by decide +kernel) ⟨Nat.le_of_ble_eq_true rfl, Nat.le_of_ble_eq_true rfl⟩) trivial hS rfl hl.1 rfl (Nat.le_of_ble_eq_true rfl) dX2_lose_2 ⟨Nat.le_refl _, Nat.le_refl _⟩ (fun H locs hz hk hS => ?_)
  have hR := hR.kept (fun a _ h => hk a h)
  have hJ_13 : ∀ (H : Heap) (locs : List Loc) (ls : Array Slot) (v_13 : Int32), v_13 = (if ¬ ((mf_isRoom p1) = true) then 1 else 0) → mr_W E q ad L S H → va_S (mr_A L) s.heap H locs → lv_has ls 5 [(0, .ref q), (1, .int p1)] → mr_G p l e { frames := 2, cells := 0, slots := 0, locals := 42 } s m [.ref q, .int p1] below meth c (mr_A L) (mr_Qi E q ad L (mf_lose S p1).1 (mf_lose S p1).2) H locs (F0 m 13 ls [.int v_13, .ref q]) := by
    intro H locs ls v_13 e_v_13 hR hS hl
    subst e_v_13
    refine mr_calli (As := [.int (if ¬ ((mf_isRoom p1) = true) then 1 else 0)]) (rest := []) ⟨hx, hb, hml, hown, hts⟩ (mt_holds l E q ad L S (if ¬ ((mf_isRoom p1) = true) then 1 else 0)) (cwV 1 hts (lw_V q1081 q1083 qs15 q41 q1084) rfl rfl rfl (by decide +kernel) ⟨Nat.le_of_ble_eq_true rfl, Nat.le_of_ble_eq_true rfl⟩) trivial hK hR (fun _ h => h) hS rfl hl.1 rfl (Nat.le_of_ble_eq_true rfl) dX2_lose_13 ⟨Nat.le_refl _, Nat.le_refl _⟩ (fun H locs hR hS _ _ => ?_)
    refine lv_if_ne (tgt := 21) hx hb dX2_lose_16 (by decide) (fun c_1 => ?_) (fun c_1 => ?_)
    · skip
      have c_1 : (mf_isRoom p1) = true := (gi_bzn (φ := (mf_isRoom p1) = true)).mp (gs_zt (φ := (if ¬ ((mf_isRoom p1) = true) then 1 else 0) = 0) c_1)
      have hf := (if_pos c_1).symm.trans hf
      refine lv_iconst (v := 0) hx hb dX2_lose_21 (by decide) ?_
      refine lv_istore_n (lv' := [(2, .int 0), (0, .ref q), (1, .int p1)]) hx hb dX2_lose_22 rfl hl (by decide) rfl (fun ls hl => ?_)
      refine lv_iconst (v := 0) hx hb dX2_lose_23 (by decide) ?_
      refine lv_istore_n (lv' := [(3, .int 0), (2, .int 0), (0, .ref q), (1, .int p1)]) hx hb dX2_lose_24 rfl hl (by decide) rfl (fun ls hl => ?_)
      have hL_25 : ∀ (n_25 i_25 : Nat) (x2_25 : Int32) (S_25 : gs_T) (H : Heap) (locs : List Loc) (ls : Array Slot), i_25 + n_25 = (S 8 0).toNatClampNeg → mf_lose_R25 p1 n_25 i_25 (x2_25, S_25) = (mf_lose_R25 p1 ((S 8 0).toNatClampNeg) 0 (0, (gs_up S 0 0 (if ¬ ((mf_isRoom p1) = true) then 1 else 0)))) → mi_ok S_25 ∧ S_25 8 0 = (S 8 0) ∧ S_25 25 0 = (S 25 0) → mr_W E q ad L S_25 H → va_S (mr_A L) s.heap H locs → lv_has ls 5 [(0, .ref q), (1, .int p1), (2, .int x2_25), (3, .int (nI i_25))] → mr_G p l e { frames := 2, cells := 0, slots := 0, locals := 42 } s m [.ref q, .int p1] below meth c (mr_A L) (mr_Qi E q ad L (mf_lose S p1).1 (mf_lose S p1).2) H locs (F0 m 25 ls []) := by
        intro n_25
        induction n_25 with
        | zero =>
          intro i_25 x2_25 S_25 H locs ls hi_25 hg_25 hI_25 hR hS hl
          have hi_25 : i_25 = (S 8 0).toNatClampNeg := hi_25
          subst hi_25
          have e_x2_25 : x2_25 = (mf_lose_R25 p1 ((S 8 0).toNatClampNeg) 0 (0, (gs_up S 0 0 (if ¬ ((mf_isRoom p1) = true) then 1 else 0)))).1 := congrArg (fun z => z.1) hg_25
          have e_S_25 : S_25 = (mf_lose_R25 p1 ((S 8 0).toNatClampNeg) 0 (0, (gs_up S 0 0 (if ¬ ((mf_isRoom p1) = true) then 1 else 0)))).2 := congrArg (fun z => z.2) hg_25
          subst e_x2_25
          subst e_S_25
          refine lv_iload_n hx hb dX2_lose_25 rfl (lv_at hl 3 rfl) ?_
          refine lv_aload_n hx hb dX2_lose_26 rfl (lv_at hl 0 rfl) ?_
          refine mr_geti (v := ((mf_lose_R25 p1 ((S 8 0).toNatClampNeg) 0 (0, (gs_up S 0 0 (if ¬ ((mf_isRoom p1) = true) then 1 else 0)))).2 8 0)) hx hb hts hown hK hR 8 (by decide) rfl (hts _ q959) (fun _ h9 => h9) rfl dX2_lose_27 ?_
          refine lv_icmp_ge (tgt := 100) hx hb dX2_lose_30 (by decide) (fun c_2 => ?_) (fun c_2 => absurd (lp_x0 (hI_25.2.1.trans (mi_n hok))) c_2)
          refine lv_iload_n hx hb dX2_lose_100 rfl (lv_at hl 2 rfl) ?_
          exact W.iret (v := (mf_lose_R25 p1 ((S 8 0).toNatClampNeg) 0 (0, (gs_up S 0 0 (if ¬ ((mf_isRoom p1) = true) then 1 else 0)))).1) hx hb hr (fun t ht hW => ⟨⟨_, _, rfl, ⟨(congrArg Prod.fst hf), (congrArg Prod.snd hf)⟩, mr_bt ht hR⟩, hS.F ht⟩) hS.2.2 dX2_lose_101
        | succ n_25 ih_25 =>
          intro i_25 x2_25 S_25 H locs ls hi_25 hg_25 hI_25 hR hS hl
          have hlt_25 : i_25 < (S 8 0).toNatClampNeg := by omega
          have hf_25 : mf_lose_L25 p1 i_25 x2_25 S_25 = mf_lose_L25 p1 i_25 x2_25 S_25 := rfl
          refine lv_iload_n hx hb dX2_lose_25 rfl (lv_at hl 3 rfl) ?_
          refine lv_aload_n hx hb dX2_lose_26 rfl (lv_at hl 0 rfl) ?_
          refine mr_geti (v := (S_25 8 0)) hx hb hts hown hK hR 8 (by decide) rfl (hts _ q959) (fun _ h9 => h9) rfl dX2_lose_27 ?_
          refine lv_icmp_ge (tgt := 100) hx hb dX2_lose_30 (by decide) (fun c_3 => absurd c_3 (lp_x1 (hI_25.2.1.trans (mi_n hok)) hlt_25 (mi_nb hok))) (fun c_3 => ?_)
          refine lv_aload_n hx hb dX2_lose_33 rfl (lv_at hl 0 rfl) ?_
          refine mr_geta hx hb hts hown hK hR 15 (by decide) rfl (hts _ q966) (fun _ h9 => h9) dX2_lose_34 ?_
          refine lv_iload_n hx hb dX2_lose_37 rfl (lv_at hl 3 rfl) ?_
          refine mr_ald (v := (S_25 15 i_25)) hx hb hK hR 15 30 rfl (by decide) rfl (by first | assumption | exact vp_in_nI (show i_25 < 30 by omega) (by decide)) ((congrArg (fun z => S_25 15 z) (nI_clamp (show i_25 < 2 ^ 31 by omega))).trans rfl) dX2_lose_38 ?_
          refine lv_iconst (v := 1) hx hb dX2_lose_39 (by decide) ?_
          have hJ_58 : ∀ (H : Heap) (locs : List Loc) (ls : Array Slot) (v_58 : Int32), v_58 = (if ((S_25 15 i_25) = 1) ∧ ((S_25 17 i_25) = p1) then 1 else 0) → mr_W E q ad L S_25 H → va_S (mr_A L) s.heap H locs → lv_has ls 5 [(0, .ref q), (1, .int p1), (2, .int x2_25), (3, .int (nI i_25))] → mr_G p l e { frames := 2, cells := 0, slots := 0, locals := 42 } s m [.ref q, .int p1] below meth c (mr_A L) (mr_Qi E q ad L (mf_lose S p1).1 (mf_lose S p1).2) H locs (F0 m 58 ls [.int v_58]) := by
            intro H locs ls v_58 e_v_58 hR hS hl
            subst e_v_58
            refine lv_istore (lv' := [(4, .int (if ((S_25 15 i_25) = 1) ∧ ((S_25 17 i_25) = p1) then 1 else 0)), (0, .ref q), (1, .int p1), (2, .int x2_25), (3, .int (nI i_25))]) hx hb dX2_lose_58 hl (by decide) rfl (fun ls hl => ?_)
            refine lv_aload_n hx hb dX2_lose_60 rfl (lv_at hl 1 rfl) ?_
            refine mr_geta hx hb hts hown hK hR 15 (by decide) rfl (hts _ q966) (fun _ h9 => h9) dX2_lose_61 ?_
            refine lv_iload_n hx hb dX2_lose_64 rfl (lv_at hl 4 rfl) ?_
            refine lv_iload hx hb dX2_lose_65 (lv_at hl 0 rfl) ?_
            have hJ_80 : ∀ (H : Heap) (locs : List Loc) (ls : Array Slot) (v_80 : Int32), v_80 = (if ((S_25 15 i_25) = 1) ∧ ((S_25 17 i_25) = p1) then 2 else (S_25 15 i_25)) → mr_W E q ad L S_25 H → va_S (mr_A L) s.heap H locs → lv_has ls 5 [(0, .ref q), (1, .int p1), (2, .int x2_25), (3, .int (nI i_25)), (4, .int (if ((S_25 15 i_25) = 1) ∧ ((S_25 17 i_25) = p1) then 1 else 0))] → mr_G p l e { frames := 2, cells := 0, slots := 0, locals := 42 } s m [.ref q, .int p1] below meth c (mr_A L) (mr_Qi E q ad L (mf_lose S p1).1 (mf_lose S p1).2) H locs (F0 m 80 ls [.int v_80, .int (nI i_25), .ref (ad 15)]) := by
              intro H locs ls v_80 e_v_80 hR hS hl
              subst e_v_80
              refine mr_ast (j := i_25) hx hb hK hR hS 15 30 rfl (by decide) rfl (by first | assumption | exact vp_in_nI (show i_25 < 30 by omega) (by decide)) (nI_clamp (show i_25 < 2 ^ 31 by omega)) dX2_lose_80 (fun H locs hR hS => ?_)
              refine lv_iload_n hx hb dX2_lose_81 rfl (lv_at hl 2 rfl) ?_
              refine lv_iload hx hb dX2_lose_82 (lv_at hl 4 rfl) ?_
              have hJ_92 : ∀ (H : Heap) (locs : List Loc) (ls : Array Slot) (v_92 : Int32), v_92 = (if ((S_25 15 i_25) = 1) ∧ ((S_25 17 i_25) = p1) then 1 else 0) → mr_W E q ad L (gs_up S_25 15 i_25 (if ((S_25 15 i_25) = 1) ∧ ((S_25 17 i_25) = p1) then 2 else (S_25 15 i_25))) H → va_S (mr_A L) s.heap H locs → lv_has ls 5 [(0, .ref q), (1, .int p1), (3, .int (nI i_25))] → mr_G p l e { frames := 2, cells := 0, slots := 0, locals := 42 } s m [.ref q, .int p1] below meth c (mr_A L) (mr_Qi E q ad L (mf_lose S p1).1 (mf_lose S p1).2) H locs (F0 m 92 ls [.int v_92, .int x2_25]) := by
                intro H locs ls v_92 e_v_92 hR hS hl
                subst e_v_92
                refine lv_iadd hx hb dX2_lose_92 ?_
                refine lv_istore_n (lv' := [(2, .int (x2_25 + (if ((S_25 15 i_25) = 1) ∧ ((S_25 17 i_25) = p1) then 1 else 0))), (0, .ref q), (1, .int p1), (3, .int (nI i_25))]) hx hb dX2_lose_93 rfl hl (by decide) rfl (fun ls hl => ?_)
                refine lv_iinc (v := (nI (i_25 + 1))) (lv' := [(3, .int (nI (i_25 + 1))), (2, .int (x2_25 + (if ((S_25 15 i_25) = 1) ∧ ((S_25 17 i_25) = p1) then 1 else 0))), (0, .ref q), (1, .int p1)]) hx hb dX2_lose_94 hl (k := 3) rfl (nI_1 i_25) (by decide) rfl (fun ls hl => ?_)
                refine lv_goto (tgt := 25) hx hb dX2_lose_97 (by decide) ?_
                exact ih_25 (i_25 + 1) (x2_25 + (if ((S_25 15 i_25) = 1) ∧ ((S_25 17 i_25) = p1) then 1 else 0)) (gs_up S_25 15 i_25 (if ((S_25 15 i_25) = 1) ∧ ((S_25 17 i_25) = p1) then 2 else (S_25 15 i_25))) _ _ _ (by omega) ((congrArg (fun z => mf_lose_R25 p1 n_25 (i_25 + 1) z) hf_25).trans hg_25) (@Eq.subst _ (fun z => mi_ok z ∧ z 8 0 = (S 8 0) ∧ z 25 0 = (S 25 0)) _ _ (congrArg (fun z => z.2) hf_25).symm (⟨mi_row (k := 15) (by decide) hI_25.1, hI_25.2⟩)) hR hS (lv_sub hl [2, 3, 1, 0] rfl)
              refine lv_if_eq (tgt := 91) hx hb dX2_lose_84 (by decide) (fun c_4 => ?_) (fun c_4 => ?_)
              · skip
                have c_4 : ¬ (((S_25 15 i_25) = 1) ∧ ((S_25 17 i_25) = p1)) := gs_zf (φ := ((S_25 15 i_25) = 1) ∧ ((S_25 17 i_25) = p1)) c_4
                refine lv_iconst (v := 0) hx hb dX2_lose_91 (by decide) ?_
                exact hJ_92 _ _ _ 0 (gi_0 (gi_cb_f c_4)) hR hS (lv_sub hl [0, 1, 3] rfl)
              · skip
                have c_4 : ((S_25 15 i_25) = 1) ∧ ((S_25 17 i_25) = p1) := gs_zt (φ := ((S_25 15 i_25) = 1) ∧ ((S_25 17 i_25) = p1)) c_4
                have c_5 := c_4.1
                have c_6 := c_4.2
                refine lv_iconst (v := 1) hx hb dX2_lose_87 (by decide) ?_
                refine lv_goto (tgt := 92) hx hb dX2_lose_88 (by decide) ?_
                exact hJ_92 _ _ _ 1 (gi_1 (gi_cb_t c_4)) hR hS (lv_sub hl [0, 1, 3] rfl)
            refine lv_if_eq (tgt := 74) hx hb dX2_lose_67 (by decide) (fun c_7 => ?_) (fun c_7 => ?_)
            · skip
              have c_7 : ¬ (((S_25 15 i_25) = 1) ∧ ((S_25 17 i_25) = p1)) := gs_zf (φ := ((S_25 15 i_25) = 1) ∧ ((S_25 17 i_25) = p1)) c_7
              refine lv_aload_n hx hb dX2_lose_74 rfl (lv_at hl 1 rfl) ?_
              refine mr_geta hx hb hts hown hK hR 15 (by decide) rfl (hts _ q966) (fun _ h9 => h9) dX2_lose_75 ?_
              refine lv_iload_n hx hb dX2_lose_78 rfl (lv_at hl 4 rfl) ?_
              refine mr_ald (v := (S_25 15 i_25)) hx hb hK hR 15 30 rfl (by decide) rfl (by first | assumption | exact vp_in_nI (show i_25 < 30 by omega) (by decide)) ((congrArg (fun z => S_25 15 z) (nI_clamp (show i_25 < 2 ^ 31 by omega))).trans rfl) dX2_lose_79 ?_
              exact hJ_80 _ _ _ (S_25 15 i_25) ((if_neg c_7).symm) hR hS (lv_sub hl [1, 2, 3, 4, 0] rfl)
            · skip
              have c_7 : ((S_25 15 i_25) = 1) ∧ ((S_25 17 i_25) = p1) := gs_zt (φ := ((S_25 15 i_25) = 1) ∧ ((S_25 17 i_25) = p1)) c_7
              have c_8 := c_7.1
              have c_9 := c_7.2
              refine lv_iconst (v := 2) hx hb dX2_lose_70 (by decide) ?_
              refine lv_goto (tgt := 80) hx hb dX2_lose_71 (by decide) ?_
              exact hJ_80 _ _ _ 2 ((if_pos c_7).symm) hR hS (lv_sub hl [1, 2, 3, 4, 0] rfl)
          refine lv_icmp_ne (tgt := 57) hx hb dX2_lose_40 (by decide) (fun c_10 => ?_) (fun c_10 => ?_)
          · skip
            refine lv_iconst (v := 0) hx hb dX2_lose_57 (by decide) ?_
            exact hJ_58 _ _ _ 0 (gi_0 (gi_ca_f c_10)) hR hS (lv_sub hl [0, 1, 2, 3] rfl)
          · skip
            refine lv_aload_n hx hb dX2_lose_43 rfl (lv_at hl 0 rfl) ?_
            refine mr_geta hx hb hts hown hK hR 17 (by decide) rfl (hts _ q968) (fun _ h9 => h9) dX2_lose_44 ?_
            refine lv_iload_n hx hb dX2_lose_47 rfl (lv_at hl 3 rfl) ?_
            refine mr_ald (v := (S_25 17 i_25)) hx hb hK hR 17 30 rfl (by decide) rfl (by first | assumption | exact vp_in_nI (show i_25 < 30 by omega) (by decide)) ((congrArg (fun z => S_25 17 z) (nI_clamp (show i_25 < 2 ^ 31 by omega))).trans rfl) dX2_lose_48 ?_
            refine lv_iload_n hx hb dX2_lose_49 rfl (lv_at hl 1 rfl) ?_
            refine lv_icmp_ne (tgt := 57) hx hb dX2_lose_50 (by decide) (fun c_11 => ?_) (fun c_11 => ?_)
            · skip
              refine lv_iconst (v := 0) hx hb dX2_lose_57 (by decide) ?_
              exact hJ_58 _ _ _ 0 (gi_0 ((gi_cb_f c_11).trans (gi_ca_t c_10))) hR hS (lv_sub hl [0, 1, 2, 3] rfl)
            · skip
              refine lv_iconst (v := 1) hx hb dX2_lose_53 (by decide) ?_
              refine lv_goto (tgt := 58) hx hb dX2_lose_54 (by decide) ?_
              exact hJ_58 _ _ _ 1 (gi_1 ((gi_cb_t c_11).trans (gi_ca_t c_10))) hR hS (lv_sub hl [0, 1, 2, 3] rfl)
      exact hL_25 ((S 8 0).toNatClampNeg) 0 0 (gs_up S 0 0 (if ¬ ((mf_isRoom p1) = true) then 1 else 0)) _ _ _ (by omega) rfl ⟨mi_row (by decide) hok, rfl, rfl⟩ hR hS (lv_sub hl [2, 3, 1, 0] rfl)
    · skip
      have c_1 : ¬ ((mf_isRoom p1) = true) := fun k => gs_zf (φ := (if ¬ ((mf_isRoom p1) = true) then 1 else 0) = 0) c_1 ((gi_bzn (φ := (mf_isRoom p1) = true)).mpr k)
      have hf := (if_neg c_1).symm.trans hf
      refine lv_iconst (v := 0) hx hb dX2_lose_19 (by decide) ?_
      exact W.iret (v := 0) hx hb hr (fun t ht hW => ⟨⟨_, _, rfl, ⟨(congrArg Prod.fst hf), (congrArg Prod.snd hf)⟩, mr_bt ht hR⟩, hS.F ht⟩) hS.2.2 dX2_lose_20
  refine lv_if_eq (tgt := 12) hx hb dX2_lose_5 (by decide) (fun c_12 => ?_) (fun c_12 => ?_)
  · skip
    have c_12 : ¬ ((mf_isRoom p1) = true) := gs_zf (φ := (mf_isRoom p1) = true) c_12
    refine lv_iconst (v := 1) hx hb dX2_lose_12 (by decide) ?_
    exact hJ_13 _ _ _ 1 (gi_1 (gi_nb_f c_12)) hR hS (lv_sub hl [0, 1] rfl)
  · skip
    have c_12 : (mf_isRoom p1) = true := gs_zt (φ := (mf_isRoom p1) = true) c_12
    refine lv_iconst (v := 0) hx hb dX2_lose_8 (by decide) ?_
    refine lv_goto (tgt := 13) hx hb dX2_lose_9 (by decide) ?_
    exact hJ_13 _ _ _ 0 (gi_0 (gi_nb_t c_12)) hR hS (lv_sub hl [0, 1] rfl)
set_option maxHeartbeats 2000000 in
set_option maxRecDepth 100000 in
theorem mt_turnUp (l : Launch) (E : en_T) (q : Nat) (ad : Nat → Nat) (L : List Nat) (S : gs_T) (p1 : Int32) (p2 : Int32) : Met l yX2_turnUp (ws_ yX2_turnUp cX2_turnUp 4 (some .int)) { frames := 2, cells := 0, slots := 0, locals := 43 } (mr_Pc E q ad L S [.int p1, .int p2] (mi_ok S)) (mr_Qi E q ad L (mf_turnUp S p1 p2).1 (mf_turnUp S p1 p2).2) 0 0 (mr_A L) := by
  refine mr_start (by decide) rfl (Nat.le_of_ble_eq_true rfl) ?_
  intro p e s m below meth c ls hx hb hr hlocks hml hown hts hK hP hl hR
  have hl : lv_has ls 4 [(0, .ref q), (1, .int p1), (2, .int p2)] := hl
  have hS : va_S (mr_A L) s.heap s.heap [] := va_S.rf
  have hok := hP
  have hf : (mf_turnUp S p1 p2) = (mf_turnUp S p1 p2) := rfl
  refine lv_aload_n hx hb dX2_turnUp_0 rfl (lv_at hl 0 rfl) ?_
  refine lv_iload_n hx hb dX2_turnUp_1 rfl (lv_at hl 1 rfl) ?_
  refine mr_calli (As := [.int p1]) (rest := []) ⟨hx, hb, hml, hown, hts⟩ (mt_isFind l E q ad L S p1) (cwV 1 hts (lw_V q1129 q1131 qs17 q41 q1132) rfl rfl rfl (by decide +kernel) ⟨Nat.le_of_ble_eq_true rfl, Nat.le_of_ble_eq_true rfl⟩) trivial hK hR (fun _ h => h) hS rfl hl.1 rfl (Nat.le_of_ble_eq_true rfl) dX2_turnUp_2 ⟨Nat.le_refl _, Nat.le_refl _⟩ (fun H locs hR hS _ _ => ?_)
  have hJ_20 : ∀ (H : Heap) (locs : List Loc) (ls : Array Slot) (v_20 : Int32), v_20 = (if ((mf_isFind S p1) = true) ∧ ((mf_isRoom p2) = true) then 1 else 0) → mr_W E q ad L S H → va_S (mr_A L) s.heap H locs → lv_has ls 4 [(0, .ref q), (1, .int p1), (2, .int p2)] → mr_G p l e { frames := 2, cells := 0, slots := 0, locals := 43 } s m [.ref q, .int p1, .int p2] below meth c (mr_A L) (mr_Qi E q ad L (mf_turnUp S p1 p2).1 (mf_turnUp S p1 p2).2) H locs (F0 m 20 ls [.int v_20]) := by
    intro H locs ls v_20 e_v_20 hR hS hl
    subst e_v_20
    refine lv_istore_n (lv' := [(3, .int (if ((mf_isFind S p1) = true) ∧ ((mf_isRoom p2) = true) then 1 else 0)), (0, .ref q), (1, .int p1), (2, .int p2)]) hx hb dX2_turnUp_20 rfl hl (by decide) rfl (fun ls hl => ?_)
    refine lv_aload_n hx hb dX2_turnUp_21 rfl (lv_at hl 1 rfl) ?_
    refine lv_iload_n hx hb dX2_turnUp_22 rfl (lv_at hl 0 rfl) ?_
    have hJ_45 : ∀ (H : Heap) (locs : List Loc) (ls : Array Slot) (v_45 : Int32), v_45 = (if ((mf_isFind S p1) = true) ∧ ((mf_isRoom p2) = true) then (if (S 15 p1.toNatClampNeg) = 2 then 0 else 2) else 1) → (v_45 = 0 ↔ ((((mf_isFind S p1) = true) ∧ ((mf_isRoom p2) = true)) ∧ ((S 15 p1.toNatClampNeg) = 2))) → mr_W E q ad L S H → va_S (mr_A L) s.heap H locs → lv_has ls 4 [(0, .ref q), (1, .int p1), (2, .int p2)] → mr_G p l e { frames := 2, cells := 0, slots := 0, locals := 43 } s m [.ref q, .int p1, .int p2] below meth c (mr_A L) (mr_Qi E q ad L (mf_turnUp S p1 p2).1 (mf_turnUp S p1 p2).2) H locs (F0 m 45 ls [.int v_45, .ref q]) := by
      intro H locs ls v_45 e_v_45 e0_v_45 hR hS hl
      subst e_v_45
      refine mr_calli (As := [.int (if ((mf_isFind S p1) = true) ∧ ((mf_isRoom p2) = true) then (if (S 15 p1.toNatClampNeg) = 2 then 0 else 2) else 1)]) (rest := []) ⟨hx, hb, hml, hown, hts⟩ (mt_holds l E q ad L S (if ((mf_isFind S p1) = true) ∧ ((mf_isRoom p2) = true) then (if (S 15 p1.toNatClampNeg) = 2 then 0 else 2) else 1)) (cwV 1 hts (lw_V q1081 q1083 qs15 q41 q1084) rfl rfl rfl (by decide +kernel) ⟨Nat.le_of_ble_eq_true rfl, Nat.le_of_ble_eq_true rfl⟩) trivial hK hR (fun _ h => h) hS rfl hl.1 rfl (Nat.le_of_ble_eq_true rfl) dX2_turnUp_45 ⟨Nat.le_refl _, Nat.le_refl _⟩ (fun H locs hR hS _ _ => ?_)
      refine lv_if_ne (tgt := 53) hx hb dX2_turnUp_48 (by decide) (fun c_1 => ?_) (fun c_1 => ?_)
      · skip
        have c_1 : (((mf_isFind S p1) = true) ∧ ((mf_isRoom p2) = true)) ∧ ((S 15 p1.toNatClampNeg) = 2) := e0_v_45.mp (gs_zt (φ := (if ((mf_isFind S p1) = true) ∧ ((mf_isRoom p2) = true) then (if (S 15 p1.toNatClampNeg) = 2 then 0 else 2) else 1) = 0) c_1)
        have hf := (if_pos c_1).symm.trans hf
        have c_2 := c_1.1
        have c_3 := c_1.2
        have c_4 := c_2.1
        have c_5 := c_2.2
        refine lv_aload_n hx hb dX2_turnUp_53 rfl (lv_at hl 0 rfl) ?_
        refine lv_iload_n hx hb dX2_turnUp_54 rfl (lv_at hl 1 rfl) ?_
        refine lv_iload_n hx hb dX2_turnUp_55 rfl (lv_at hl 2 rfl) ?_
        refine mr_callv (As := [.int p1, .int p2]) (rest := []) ⟨hx, hb, hml, hown, hts⟩ (mt_comes l E q ad L (gs_up S 0 0 (if ((mf_isFind S p1) = true) ∧ ((mf_isRoom p2) = true) then (if (S 15 p1.toNatClampNeg) = 2 then 0 else 2) else 1)) p1 p2) (cwV 2 hts (lw_V q1121 q1123 qs16 q41 q1124) rfl rfl rfl (by decide +kernel) ⟨Nat.le_of_ble_eq_true rfl, Nat.le_of_ble_eq_true rfl⟩) ⟨(mi_row (k := 0) (by decide) hok), (by first | assumption | exact mi_f hok (by assumption))⟩ hK hR (fun _ h => h) hS rfl hl.1 rfl (Nat.le_of_ble_eq_true rfl) dX2_turnUp_56 ⟨Nat.le_refl _, Nat.le_refl _⟩ (fun H locs hR hS => ?_)
        refine lv_aload_n hx hb dX2_turnUp_59 rfl (lv_at hl 0 rfl) ?_
        refine mr_geta hx hb hts hown hK hR 22 (by decide) rfl (hts _ q973) (fun _ h9 => h9) dX2_turnUp_60 ?_
        refine lv_iload_n hx hb dX2_turnUp_63 rfl (lv_at hl 1 rfl) ?_
        refine mr_ald (v := ((mf_comes (gs_up S 0 0 (if ((mf_isFind S p1) = true) ∧ ((mf_isRoom p2) = true) then (if (S 15 p1.toNatClampNeg) = 2 then 0 else 2) else 1)) p1 p2) 22 p1.toNatClampNeg)) hx hb hK hR 22 30 rfl (by decide) rfl (by first | assumption | exact mi_f hok (by assumption)) rfl dX2_turnUp_64 ?_
        exact W.iret (v := ((mf_comes (gs_up S 0 0 (if ((mf_isFind S p1) = true) ∧ ((mf_isRoom p2) = true) then (if (S 15 p1.toNatClampNeg) = 2 then 0 else 2) else 1)) p1 p2) 22 p1.toNatClampNeg)) hx hb hr (fun t ht hW => ⟨⟨_, _, rfl, ⟨(congrArg Prod.fst hf), (congrArg Prod.snd hf)⟩, mr_bt ht hR⟩, hS.F ht⟩) hS.2.2 dX2_turnUp_65
      · skip
        have c_1 : ¬ ((((mf_isFind S p1) = true) ∧ ((mf_isRoom p2) = true)) ∧ ((S 15 p1.toNatClampNeg) = 2)) := fun k => gs_zf (φ := (if ((mf_isFind S p1) = true) ∧ ((mf_isRoom p2) = true) then (if (S 15 p1.toNatClampNeg) = 2 then 0 else 2) else 1) = 0) c_1 (e0_v_45.mpr k)
        have hf := (if_neg c_1).symm.trans hf
        refine lv_iconst (v := 0) hx hb dX2_turnUp_51 (by decide) ?_
        exact W.iret (v := 0) hx hb hr (fun t ht hW => ⟨⟨_, _, rfl, ⟨(congrArg Prod.fst hf), (congrArg Prod.snd hf)⟩, mr_bt ht hR⟩, hS.F ht⟩) hS.2.2 dX2_turnUp_52
    refine lv_if_ne (tgt := 30) hx hb dX2_turnUp_23 (by decide) (fun c_6 => ?_) (fun c_6 => ?_)
    · skip
      have c_6 : ((mf_isFind S p1) = true) ∧ ((mf_isRoom p2) = true) := gs_zt (φ := ((mf_isFind S p1) = true) ∧ ((mf_isRoom p2) = true)) c_6
      have c_7 := c_6.1
      have c_8 := c_6.2
      refine lv_aload_n hx hb dX2_turnUp_30 rfl (lv_at hl 1 rfl) ?_
      refine mr_geta hx hb hts hown hK hR 15 (by decide) rfl (hts _ q966) (fun _ h9 => h9) dX2_turnUp_31 ?_
      refine lv_iload_n hx hb dX2_turnUp_34 rfl (lv_at hl 2 rfl) ?_
      refine mr_ald (v := (S 15 p1.toNatClampNeg)) hx hb hK hR 15 30 rfl (by decide) rfl (by first | assumption | exact mi_f hok (by assumption)) rfl dX2_turnUp_35 ?_
      refine lv_iconst (v := 2) hx hb dX2_turnUp_36 (by decide) ?_
      refine lv_icmp_eq (tgt := 44) hx hb dX2_turnUp_37 (by decide) (fun c_9 => ?_) (fun c_9 => ?_)
      · skip
        refine lv_iconst (v := 0) hx hb dX2_turnUp_44 (by decide) ?_
        exact hJ_45 _ _ _ 0 (((if_pos c_9).symm).trans (if_pos c_6).symm) (gi_z1 ((gi_cb_t c_9).trans (gi_ca_t c_6))) hR hS (lv_sub hl [1, 2, 3] rfl)
      · skip
        refine lv_iconst (v := 2) hx hb dX2_turnUp_40 (by decide) ?_
        refine lv_goto (tgt := 45) hx hb dX2_turnUp_41 (by decide) ?_
        exact hJ_45 _ _ _ 2 (((if_neg c_9).symm).trans (if_pos c_6).symm) (gi_z0 (by decide) ((gi_cb_f c_9).trans (gi_ca_t c_6))) hR hS (lv_sub hl [1, 2, 3] rfl)
    · skip
      have c_6 : ¬ (((mf_isFind S p1) = true) ∧ ((mf_isRoom p2) = true)) := gs_zf (φ := ((mf_isFind S p1) = true) ∧ ((mf_isRoom p2) = true)) c_6
      refine lv_iconst (v := 1) hx hb dX2_turnUp_26 (by decide) ?_
      refine lv_goto (tgt := 45) hx hb dX2_turnUp_27 (by decide) ?_
      exact hJ_45 _ _ _ 1 ((if_neg c_6).symm) (gi_z0 (by decide) (gi_ca_f c_6)) hR hS (lv_sub hl [1, 2, 3] rfl)
  refine lv_if_eq (tgt := 19) hx hb dX2_turnUp_5 (by decide) (fun c_10 => ?_) (fun c_10 => ?_)
  · skip
    have c_10 : ¬ ((mf_isFind S p1) = true) := gs_zf (φ := (mf_isFind S p1) = true) c_10
    refine lv_iconst (v := 0) hx hb dX2_turnUp_19 (by decide) ?_
    exact hJ_20 _ _ _ 0 (gi_0 (gi_ca_f c_10)) hR hS (lv_sub hl [0, 1, 2] rfl)
  · skip
    have c_10 : (mf_isFind S p1) = true := gs_zt (φ := (mf_isFind S p1) = true) c_10
    refine lv_iload_n hx hb dX2_turnUp_8 rfl (lv_at hl 2 rfl) ?_
    refine ps_calli (As := [.int p2]) (rest := []) ⟨hx, hb, hml, hown, hts⟩ (mt_isRoom l p2) (va_cwS 1 hts (lw_S q1100 q1101 q41 q1102) rfl rfl rfl (by decide +kernel) ⟨Nat.le_of_ble_eq_true rfl, Nat.le_of_ble_eq_true rfl⟩) trivial hS rfl hl.1 rfl (Nat.le_of_ble_eq_true rfl) dX2_turnUp_9 ⟨Nat.le_refl _, Nat.le_refl _⟩ (fun H locs hz hk hS => ?_)
    have hR := hR.kept (fun a _ h => hk a h)
    refine lv_if_eq (tgt := 19) hx hb dX2_turnUp_12 (by decide) (fun c_11 => ?_) (fun c_11 => ?_)
    · skip
      have c_11 : ¬ ((mf_isRoom p2) = true) := gs_zf (φ := (mf_isRoom p2) = true) c_11
      refine lv_iconst (v := 0) hx hb dX2_turnUp_19 (by decide) ?_
      exact hJ_20 _ _ _ 0 (gi_0 ((gi_cb_f c_11).trans (gi_ca_t c_10))) hR hS (lv_sub hl [0, 1, 2] rfl)
    · skip
      have c_11 : (mf_isRoom p2) = true := gs_zt (φ := (mf_isRoom p2) = true) c_11
      refine lv_iconst (v := 1) hx hb dX2_turnUp_15 (by decide) ?_
      refine lv_goto (tgt := 20) hx hb dX2_turnUp_16 (by decide) ?_
      exact hJ_20 _ _ _ 1 (gi_1 ((gi_cb_t c_11).trans (gi_ca_t c_10))) hR hS (lv_sub hl [0, 1, 2] rfl)
set_option maxHeartbeats 2000000 in
set_option maxRecDepth 100000 in
theorem mt_hold (l : Launch) (E : en_T) (q : Nat) (ad : Nat → Nat) (L : List Nat) (S : gs_T) (p1 : Int32) (p2 : Int32) : Met l yX2_hold (ws_ yX2_hold cX2_hold 5 (some .boolean)) { frames := 2, cells := 0, slots := 0, locals := 43 } (mr_Pc E q ad L S [.int p1, .int p2] (mi_ok S ∧ (p2 = 0 ∨ p2 = 1))) (mr_Qi E q ad L (gs_bz (mf_hold S p1 p2).1) (mf_hold S p1 p2).2) 0 0 (mr_A L) := by
  refine mr_start (by decide) rfl (Nat.le_of_ble_eq_true rfl) ?_
  intro p e s m below meth c ls hx hb hr hlocks hml hown hts hK hP hl hR
  have hl : lv_has ls 5 [(0, .ref q), (1, .int p1), (2, .int p2)] := hl
  have hS : va_S (mr_A L) s.heap s.heap [] := va_S.rf
  obtain ⟨hok, h_p2⟩ := hP
  have hf : (mf_hold S p1 p2) = (mf_hold S p1 p2) := rfl
  refine lv_aload_n hx hb dX2_hold_0 rfl (lv_at hl 0 rfl) ?_
  refine lv_iload_n hx hb dX2_hold_1 rfl (lv_at hl 1 rfl) ?_
  refine mr_calli (As := [.int p1]) (rest := []) ⟨hx, hb, hml, hown, hts⟩ (mt_isFind l E q ad L S p1) (cwV 1 hts (lw_V q1129 q1131 qs17 q41 q1132) rfl rfl rfl (by decide +kernel) ⟨Nat.le_of_ble_eq_true rfl, Nat.le_of_ble_eq_true rfl⟩) trivial hK hR (fun _ h => h) hS rfl hl.1 rfl (Nat.le_of_ble_eq_true rfl) dX2_hold_2 ⟨Nat.le_refl _, Nat.le_refl _⟩ (fun H locs hR hS _ _ => ?_)
  refine lv_istore_n (lv' := [(3, .int (if (mf_isFind S p1) = true then 1 else 0)), (0, .ref q), (1, .int p1), (2, .int p2)]) hx hb dX2_hold_5 rfl hl (by decide) rfl (fun ls hl => ?_)
  refine lv_aload_n hx hb dX2_hold_6 rfl (lv_at hl 1 rfl) ?_
  refine lv_iload_n hx hb dX2_hold_7 rfl (lv_at hl 0 rfl) ?_
  have hJ_28 : ∀ (H : Heap) (locs : List Loc) (ls : Array Slot) (v_28 : Int32), v_28 = (if (mf_isFind S p1) = true then (if (mf_isHere S p1) = true then 0 else 2) else 1) → (v_28 = 0 ↔ (((mf_isFind S p1) = true) ∧ ((mf_isHere S p1) = true))) → mr_W E q ad L S H → va_S (mr_A L) s.heap H locs → lv_has ls 5 [(0, .ref q), (1, .int p1), (2, .int p2)] → mr_G p l e { frames := 2, cells := 0, slots := 0, locals := 43 } s m [.ref q, .int p1, .int p2] below meth c (mr_A L) (mr_Qi E q ad L (gs_bz (mf_hold S p1 p2).1) (mf_hold S p1 p2).2) H locs (F0 m 28 ls [.int v_28, .ref q]) := by
    intro H locs ls v_28 e_v_28 e0_v_28 hR hS hl
    subst e_v_28
    refine mr_calli (As := [.int (if (mf_isFind S p1) = true then (if (mf_isHere S p1) = true then 0 else 2) else 1)]) (rest := []) ⟨hx, hb, hml, hown, hts⟩ (mt_holds l E q ad L S (if (mf_isFind S p1) = true then (if (mf_isHere S p1) = true then 0 else 2) else 1)) (cwV 1 hts (lw_V q1081 q1083 qs15 q41 q1084) rfl rfl rfl (by decide +kernel) ⟨Nat.le_of_ble_eq_true rfl, Nat.le_of_ble_eq_true rfl⟩) trivial hK hR (fun _ h => h) hS rfl hl.1 rfl (Nat.le_of_ble_eq_true rfl) dX2_hold_28 ⟨Nat.le_refl _, Nat.le_refl _⟩ (fun H locs hR hS _ _ => ?_)
    refine lv_if_ne (tgt := 36) hx hb dX2_hold_31 (by decide) (fun c_1 => ?_) (fun c_1 => ?_)
    · skip
      have c_1 : ((mf_isFind S p1) = true) ∧ ((mf_isHere S p1) = true) := e0_v_28.mp (gs_zt (φ := (if (mf_isFind S p1) = true then (if (mf_isHere S p1) = true then 0 else 2) else 1) = 0) c_1)
      have hf := (if_pos c_1).symm.trans hf
      have c_2 := c_1.1
      have c_3 := c_1.2
      refine lv_aload_n hx hb dX2_hold_36 rfl (lv_at hl 0 rfl) ?_
      refine mr_geta hx hb hts hown hK hR 19 (by decide) rfl (hts _ q970) (fun _ h9 => h9) dX2_hold_37 ?_
      refine lv_iload_n hx hb dX2_hold_40 rfl (lv_at hl 1 rfl) ?_
      refine mr_zald (v := (S 19 p1.toNatClampNeg)) hx hb hK hR (by first | assumption | exact mi_f hok (by assumption)) (congrFun (gs_sk rfl) p1.toNatClampNeg) dX2_hold_41 ?_
      refine lv_istore (lv' := [(4, .int (S 19 p1.toNatClampNeg)), (0, .ref q), (1, .int p1), (2, .int p2)]) hx hb dX2_hold_42 hl (by decide) rfl (fun ls hl => ?_)
      refine lv_aload_n hx hb dX2_hold_44 rfl (lv_at hl 1 rfl) ?_
      refine mr_geta hx hb hts hown hK hR 19 (by decide) rfl (hts _ q970) (fun _ h9 => h9) dX2_hold_45 ?_
      refine lv_iload_n hx hb dX2_hold_48 rfl (lv_at hl 2 rfl) ?_
      refine lv_iload_n hx hb dX2_hold_49 rfl (lv_at hl 3 rfl) ?_
      refine mr_zast (j := p1.toNatClampNeg) hx hb hK hR hS h_p2 (by first | assumption | exact mi_f hok (by assumption)) rfl dX2_hold_50 (fun H locs hR hS => ?_)
      refine lv_iload hx hb dX2_hold_51 (lv_at hl 0 rfl) ?_
      exact W.zret (v := (S 19 p1.toNatClampNeg)) hx hb hr (gs_znar (mi_h hok _)) (fun t ht hW => ⟨⟨_, _, rfl, ⟨((gs_bz01 (mi_h hok _)).trans (congrArg gs_bz (congrArg Prod.fst hf))), (congrArg Prod.snd hf)⟩, mr_bt ht hR⟩, hS.F ht⟩) hS.2.2 dX2_hold_53
    · skip
      have c_1 : ¬ (((mf_isFind S p1) = true) ∧ ((mf_isHere S p1) = true)) := fun k => gs_zf (φ := (if (mf_isFind S p1) = true then (if (mf_isHere S p1) = true then 0 else 2) else 1) = 0) c_1 (e0_v_28.mpr k)
      have hf := (if_neg c_1).symm.trans hf
      refine lv_iconst (v := 0) hx hb dX2_hold_34 (by decide) ?_
      exact W.zret (v := 0) hx hb hr rfl (fun t ht hW => ⟨⟨_, _, rfl, ⟨(congrArg gs_bz (congrArg Prod.fst hf)), (congrArg Prod.snd hf)⟩, mr_bt ht hR⟩, hS.F ht⟩) hS.2.2 dX2_hold_35
  refine lv_if_ne (tgt := 15) hx hb dX2_hold_8 (by decide) (fun c_4 => ?_) (fun c_4 => ?_)
  · skip
    have c_4 : (mf_isFind S p1) = true := gs_zt (φ := (mf_isFind S p1) = true) c_4
    refine lv_aload_n hx hb dX2_hold_15 rfl (lv_at hl 1 rfl) ?_
    refine lv_iload_n hx hb dX2_hold_16 rfl (lv_at hl 2 rfl) ?_
    refine mr_calli (As := [.int p1]) (rest := [.ref q]) ⟨hx, hb, hml, hown, hts⟩ (mt_isHere l E q ad L S p1) (cwV 1 hts (lw_V q1149 q1151 qs18 q41 q1152) rfl rfl rfl (by decide +kernel) ⟨Nat.le_of_ble_eq_true rfl, Nat.le_of_ble_eq_true rfl⟩) (by first | assumption | exact mi_f hok (by assumption)) hK hR (fun _ h => h) hS rfl hl.1 rfl (Nat.le_of_ble_eq_true rfl) dX2_hold_17 ⟨Nat.le_refl _, Nat.le_refl _⟩ (fun H locs hR hS _ _ => ?_)
    refine lv_if_eq (tgt := 27) hx hb dX2_hold_20 (by decide) (fun c_5 => ?_) (fun c_5 => ?_)
    · skip
      have c_5 : ¬ ((mf_isHere S p1) = true) := gs_zf (φ := (mf_isHere S p1) = true) c_5
      refine lv_iconst (v := 2) hx hb dX2_hold_27 (by decide) ?_
      exact hJ_28 _ _ _ 2 (((if_neg c_5).symm).trans (if_pos c_4).symm) (gi_z0 (by decide) ((gi_cb_f c_5).trans (gi_ca_t c_4))) hR hS (lv_sub hl [1, 2, 3] rfl)
    · skip
      have c_5 : (mf_isHere S p1) = true := gs_zt (φ := (mf_isHere S p1) = true) c_5
      refine lv_iconst (v := 0) hx hb dX2_hold_23 (by decide) ?_
      refine lv_goto (tgt := 28) hx hb dX2_hold_24 (by decide) ?_
      exact hJ_28 _ _ _ 0 (((if_pos c_5).symm).trans (if_pos c_4).symm) (gi_z1 ((gi_cb_t c_5).trans (gi_ca_t c_4))) hR hS (lv_sub hl [1, 2, 3] rfl)
  · skip
    have c_4 : ¬ ((mf_isFind S p1) = true) := gs_zf (φ := (mf_isFind S p1) = true) c_4
    refine lv_iconst (v := 1) hx hb dX2_hold_11 (by decide) ?_
    refine lv_goto (tgt := 28) hx hb dX2_hold_12 (by decide) ?_
    exact hJ_28 _ _ _ 1 ((if_neg c_4).symm) (gi_z0 (by decide) (gi_ca_f c_4)) hR hS (lv_sub hl [1, 2, 3] rfl)
set_option maxHeartbeats 2000000 in
set_option maxRecDepth 100000 in
theorem mt_claim (l : Launch) (E : en_T) (q : Nat) (ad : Nat → Nat) (L : List Nat) (S : gs_T) (p1 : Int32) (p2 : Int32) (p3 : Int32) (p4 : Int32) (p5 : Int32) : Met l yX2_claim (ws_ yX2_claim cX2_claim 8 (some .int)) { frames := 2, cells := 0, slots := 0, locals := 42 } (mr_Pc E q ad L S [.int p1, .int p2, .int p3, .int p4, .int p5] (mi_ok S)) (mr_Qi E q ad L (mf_claim S p1 p2 p3 p4 p5).1 (mf_claim S p1 p2 p3 p4 p5).2) 0 0 (mr_A L) := by
  refine mr_start (by decide) rfl (Nat.le_of_ble_eq_true rfl) ?_
  intro p e s m below meth c ls hx hb hr hlocks hml hown hts hK hP hl hR
  have hl : lv_has ls 8 [(0, .ref q), (1, .int p1), (2, .int p2), (3, .int p3), (4, .int p4), (5, .int p5)] := hl
  have hS : va_S (mr_A L) s.heap s.heap [] := va_S.rf
  have hok := hP
  have hf : (mf_claim S p1 p2 p3 p4 p5) = (mf_claim S p1 p2 p3 p4 p5) := rfl
  refine lv_iload_n hx hb dX2_claim_0 rfl (lv_at hl 1 rfl) ?_
  refine ps_calli (As := [.int p1]) (rest := []) ⟨hx, hb, hml, hown, hts⟩ (mt_isKind l p1) (va_cwS 1 hts (lw_S q1089 q1090 q41 q1091) rfl rfl rfl (by decide +kernel) ⟨Nat.le_of_ble_eq_true rfl, Nat.le_of_ble_eq_true rfl⟩) trivial hS rfl hl.1 rfl (Nat.le_of_ble_eq_true rfl) dX2_claim_1 ⟨Nat.le_refl _, Nat.le_refl _⟩ (fun H locs hz hk hS => ?_)
  have hR := hR.kept (fun a _ h => hk a h)
  have hJ_19 : ∀ (H : Heap) (locs : List Loc) (ls : Array Slot) (v_19 : Int32), v_19 = (if ((mf_isKind p1) = true) ∧ ((mf_isPlace p2) = true) then 1 else 0) → mr_W E q ad L S H → va_S (mr_A L) s.heap H locs → lv_has ls 8 [(0, .ref q), (1, .int p1), (2, .int p2), (3, .int p3), (4, .int p4), (5, .int p5)] → mr_G p l e { frames := 2, cells := 0, slots := 0, locals := 42 } s m [.ref q, .int p1, .int p2, .int p3, .int p4, .int p5] below meth c (mr_A L) (mr_Qi E q ad L (mf_claim S p1 p2 p3 p4 p5).1 (mf_claim S p1 p2 p3 p4 p5).2) H locs (F0 m 19 ls [.int v_19]) := by
    intro H locs ls v_19 e_v_19 hR hS hl
    subst e_v_19
    refine lv_istore (lv' := [(6, .int (if ((mf_isKind p1) = true) ∧ ((mf_isPlace p2) = true) then 1 else 0)), (0, .ref q), (1, .int p1), (2, .int p2), (3, .int p3), (4, .int p4), (5, .int p5)]) hx hb dX2_claim_19 hl (by decide) rfl (fun ls hl => ?_)
    refine lv_iload_n hx hb dX2_claim_21 rfl (lv_at hl 4 rfl) ?_
    refine lv_iconst (v := 0) hx hb dX2_claim_22 (by decide) ?_
    refine lv_aload_n hx hb dX2_claim_23 rfl (lv_at hl 1 rfl) ?_
    refine mr_geti (v := (S 1 0)) hx hb hts hown hK hR 1 (by decide) rfl (hts _ q952) (fun _ h9 => h9) rfl dX2_claim_24 ?_
    refine ps_calli (As := [.int p3, .int 0, .int (S 1 0)]) (rest := []) ⟨hx, hb, hml, hown, hts⟩ (mt_in l p3 0 (S 1 0)) (va_cwS 3 hts (lw_S q1078 q1079 q41 q1080) rfl rfl rfl (by decide +kernel) ⟨Nat.le_of_ble_eq_true rfl, Nat.le_of_ble_eq_true rfl⟩) trivial hS rfl hl.1 rfl (Nat.le_of_ble_eq_true rfl) dX2_claim_27 ⟨Nat.le_refl _, Nat.le_refl _⟩ (fun H locs hz hk hS => ?_)
    have hR := hR.kept (fun a _ h => hk a h)
    have hJ_59 : ∀ (H : Heap) (locs : List Loc) (ls : Array Slot) (v_59 : Int32), v_59 = (if ((mf_in p3 0 (S 1 0)) = true) ∧ (((mf_in p4 p3 (S 1 0)) = true) ∧ ((mf_isSet p5) = true)) then 1 else 0) → mr_W E q ad L S H → va_S (mr_A L) s.heap H locs → lv_has ls 8 [(0, .ref q), (1, .int p1), (2, .int p2), (3, .int p3), (4, .int p4), (5, .int p5), (6, .int (if ((mf_isKind p1) = true) ∧ ((mf_isPlace p2) = true) then 1 else 0))] → mr_G p l e { frames := 2, cells := 0, slots := 0, locals := 42 } s m [.ref q, .int p1, .int p2, .int p3, .int p4, .int p5] below meth c (mr_A L) (mr_Qi E q ad L (mf_claim S p1 p2 p3 p4 p5).1 (mf_claim S p1 p2 p3 p4 p5).2) H locs (F0 m 59 ls [.int v_59]) := by
      intro H locs ls v_59 e_v_59 hR hS hl
      subst e_v_59
      refine lv_istore (lv' := [(7, .int (if ((mf_in p3 0 (S 1 0)) = true) ∧ (((mf_in p4 p3 (S 1 0)) = true) ∧ ((mf_isSet p5) = true)) then 1 else 0)), (0, .ref q), (1, .int p1), (2, .int p2), (3, .int p3), (4, .int p4), (5, .int p5), (6, .int (if ((mf_isKind p1) = true) ∧ ((mf_isPlace p2) = true) then 1 else 0))]) hx hb dX2_claim_59 hl (by decide) rfl (fun ls hl => ?_)
      refine lv_aload_n hx hb dX2_claim_61 rfl (lv_at hl 1 rfl) ?_
      refine lv_iload hx hb dX2_claim_62 (lv_at hl 7 rfl) ?_
      have hJ_94 : ∀ (H : Heap) (locs : List Loc) (ls : Array Slot) (v_94 : Int32), v_94 = (if ((mf_isKind p1) = true) ∧ ((mf_isPlace p2) = true) then (if ((mf_in p3 0 (S 1 0)) = true) ∧ (((mf_in p4 p3 (S 1 0)) = true) ∧ ((mf_isSet p5) = true)) then (if (S 25 0) = 20 then 3 else 0) else 2) else 1) → (v_94 = 0 ↔ ((((mf_isKind p1) = true) ∧ ((mf_isPlace p2) = true)) ∧ ((((mf_in p3 0 (S 1 0)) = true) ∧ (((mf_in p4 p3 (S 1 0)) = true) ∧ ((mf_isSet p5) = true))) ∧ (¬ ((S 25 0) = 20))))) → mr_W E q ad L S H → va_S (mr_A L) s.heap H locs → lv_has ls 8 [(0, .ref q), (1, .int p1), (2, .int p2), (3, .int p3), (4, .int p4), (5, .int p5)] → mr_G p l e { frames := 2, cells := 0, slots := 0, locals := 42 } s m [.ref q, .int p1, .int p2, .int p3, .int p4, .int p5] below meth c (mr_A L) (mr_Qi E q ad L (mf_claim S p1 p2 p3 p4 p5).1 (mf_claim S p1 p2 p3 p4 p5).2) H locs (F0 m 94 ls [.int v_94, .ref q]) := by
        intro H locs ls v_94 e_v_94 e0_v_94 hR hS hl
        subst e_v_94
        refine mr_calli (As := [.int (if ((mf_isKind p1) = true) ∧ ((mf_isPlace p2) = true) then (if ((mf_in p3 0 (S 1 0)) = true) ∧ (((mf_in p4 p3 (S 1 0)) = true) ∧ ((mf_isSet p5) = true)) then (if (S 25 0) = 20 then 3 else 0) else 2) else 1)]) (rest := []) ⟨hx, hb, hml, hown, hts⟩ (mt_holds l E q ad L S (if ((mf_isKind p1) = true) ∧ ((mf_isPlace p2) = true) then (if ((mf_in p3 0 (S 1 0)) = true) ∧ (((mf_in p4 p3 (S 1 0)) = true) ∧ ((mf_isSet p5) = true)) then (if (S 25 0) = 20 then 3 else 0) else 2) else 1)) (cwV 1 hts (lw_V q1081 q1083 qs15 q41 q1084) rfl rfl rfl (by decide +kernel) ⟨Nat.le_of_ble_eq_true rfl, Nat.le_of_ble_eq_true rfl⟩) trivial hK hR (fun _ h => h) hS rfl hl.1 rfl (Nat.le_of_ble_eq_true rfl) dX2_claim_94 ⟨Nat.le_refl _, Nat.le_refl _⟩ (fun H locs hR hS _ _ => ?_)
        refine lv_if_ne (tgt := 102) hx hb dX2_claim_97 (by decide) (fun c_1 => ?_) (fun c_1 => ?_)
        · skip
          have c_1 : (((mf_isKind p1) = true) ∧ ((mf_isPlace p2) = true)) ∧ ((((mf_in p3 0 (S 1 0)) = true) ∧ (((mf_in p4 p3 (S 1 0)) = true) ∧ ((mf_isSet p5) = true))) ∧ (¬ ((S 25 0) = 20))) := e0_v_94.mp (gs_zt (φ := (if ((mf_isKind p1) = true) ∧ ((mf_isPlace p2) = true) then (if ((mf_in p3 0 (S 1 0)) = true) ∧ (((mf_in p4 p3 (S 1 0)) = true) ∧ ((mf_isSet p5) = true)) then (if (S 25 0) = 20 then 3 else 0) else 2) else 1) = 0) c_1)
          have hf := (if_pos c_1).symm.trans hf
          have c_2 := c_1.1
          have c_3 := c_1.2
          have c_4 := c_2.1
          have c_5 := c_2.2
          have c_6 := c_3.1
          have c_7 := c_3.2
          have c_8 := c_6.1
          have c_9 := c_6.2
          have c_10 := c_9.1
          have c_11 := c_9.2
          refine lv_aload_n hx hb dX2_claim_102 rfl (lv_at hl 0 rfl) ?_
          refine mr_geta hx hb hts hown hK hR 26 (by decide) rfl (hts _ q977) (fun _ h9 => h9) dX2_claim_103 ?_
          refine lv_aload_n hx hb dX2_claim_106 rfl (lv_at hl 0 rfl) ?_
          refine mr_geti (v := (S 25 0)) hx hb hts hown hK hR 25 (by decide) rfl (hts _ q976) (fun _ h9 => h9) (congrFun (gs_sk rfl) 0) dX2_claim_107 ?_
          refine lv_iload_n hx hb dX2_claim_110 rfl (lv_at hl 1 rfl) ?_
          refine mr_ast (j := (S 25 0).toNatClampNeg) hx hb hK hR hS 26 20 rfl (by decide) rfl (by first | assumption | exact mi_newc hok (by assumption) | exact mi_c hok (by assumption) | exact mi_e hok (by assumption)) rfl dX2_claim_111 (fun H locs hR hS => ?_)
          refine lv_aload_n hx hb dX2_claim_112 rfl (lv_at hl 0 rfl) ?_
          refine mr_geta hx hb hts hown hK hR 27 (by decide) rfl (hts _ q978) (fun _ h9 => h9) dX2_claim_113 ?_
          refine lv_aload_n hx hb dX2_claim_116 rfl (lv_at hl 0 rfl) ?_
          refine mr_geti (v := (S 25 0)) hx hb hts hown hK hR 25 (by decide) rfl (hts _ q976) (fun _ h9 => h9) (congrFun ((gs_sk rfl).trans (gs_sk rfl)) 0) dX2_claim_117 ?_
          refine lv_iload_n hx hb dX2_claim_120 rfl (lv_at hl 2 rfl) ?_
          refine mr_ast (j := (S 25 0).toNatClampNeg) hx hb hK hR hS 27 20 rfl (by decide) rfl (by first | assumption | exact mi_newc hok (by assumption) | exact mi_c hok (by assumption) | exact mi_e hok (by assumption)) rfl dX2_claim_121 (fun H locs hR hS => ?_)
          refine lv_aload_n hx hb dX2_claim_122 rfl (lv_at hl 0 rfl) ?_
          refine mr_geta hx hb hts hown hK hR 28 (by decide) rfl (hts _ q979) (fun _ h9 => h9) dX2_claim_123 ?_
          refine lv_aload_n hx hb dX2_claim_126 rfl (lv_at hl 0 rfl) ?_
          refine mr_geti (v := (S 25 0)) hx hb hts hown hK hR 25 (by decide) rfl (hts _ q976) (fun _ h9 => h9) (congrFun ((gs_sk rfl).trans ((gs_sk rfl).trans (gs_sk rfl))) 0) dX2_claim_127 ?_
          refine lv_iload_n hx hb dX2_claim_130 rfl (lv_at hl 3 rfl) ?_
          refine mr_ast (j := (S 25 0).toNatClampNeg) hx hb hK hR hS 28 20 rfl (by decide) rfl (by first | assumption | exact mi_newc hok (by assumption) | exact mi_c hok (by assumption) | exact mi_e hok (by assumption)) rfl dX2_claim_131 (fun H locs hR hS => ?_)
          refine lv_aload_n hx hb dX2_claim_132 rfl (lv_at hl 0 rfl) ?_
          refine mr_geta hx hb hts hown hK hR 29 (by decide) rfl (hts _ q980) (fun _ h9 => h9) dX2_claim_133 ?_
          refine lv_aload_n hx hb dX2_claim_136 rfl (lv_at hl 0 rfl) ?_
          refine mr_geti (v := (S 25 0)) hx hb hts hown hK hR 25 (by decide) rfl (hts _ q976) (fun _ h9 => h9) (congrFun ((gs_sk rfl).trans ((gs_sk rfl).trans ((gs_sk rfl).trans (gs_sk rfl)))) 0) dX2_claim_137 ?_
          refine lv_iload hx hb dX2_claim_140 (lv_at hl 4 rfl) ?_
          refine mr_ast (j := (S 25 0).toNatClampNeg) hx hb hK hR hS 29 20 rfl (by decide) rfl (by first | assumption | exact mi_newc hok (by assumption) | exact mi_c hok (by assumption) | exact mi_e hok (by assumption)) rfl dX2_claim_142 (fun H locs hR hS => ?_)
          refine lv_aload_n hx hb dX2_claim_143 rfl (lv_at hl 0 rfl) ?_
          refine mr_geta hx hb hts hown hK hR 30 (by decide) rfl (hts _ q981) (fun _ h9 => h9) dX2_claim_144 ?_
          refine lv_aload_n hx hb dX2_claim_147 rfl (lv_at hl 0 rfl) ?_
          refine mr_geti (v := (S 25 0)) hx hb hts hown hK hR 25 (by decide) rfl (hts _ q976) (fun _ h9 => h9) (congrFun ((gs_sk rfl).trans ((gs_sk rfl).trans ((gs_sk rfl).trans ((gs_sk rfl).trans (gs_sk rfl))))) 0) dX2_claim_148 ?_
          refine lv_iload hx hb dX2_claim_151 (lv_at hl 5 rfl) ?_
          refine mr_ast (j := (S 25 0).toNatClampNeg) hx hb hK hR hS 30 20 rfl (by decide) rfl (by first | assumption | exact mi_newc hok (by assumption) | exact mi_c hok (by assumption) | exact mi_e hok (by assumption)) rfl dX2_claim_153 (fun H locs hR hS => ?_)
          refine lv_aload_n hx hb dX2_claim_154 rfl (lv_at hl 0 rfl) ?_
          refine mr_geta hx hb hts hown hK hR 31 (by decide) rfl (hts _ q982) (fun _ h9 => h9) dX2_claim_155 ?_
          refine lv_aload_n hx hb dX2_claim_158 rfl (lv_at hl 0 rfl) ?_
          refine mr_geti (v := (S 25 0)) hx hb hts hown hK hR 25 (by decide) rfl (hts _ q976) (fun _ h9 => h9) (congrFun ((gs_sk rfl).trans ((gs_sk rfl).trans ((gs_sk rfl).trans ((gs_sk rfl).trans ((gs_sk rfl).trans (gs_sk rfl)))))) 0) dX2_claim_159 ?_
          refine lv_iconst (v := 0) hx hb dX2_claim_162 (by decide) ?_
          refine mr_ast (j := (S 25 0).toNatClampNeg) hx hb hK hR hS 31 20 rfl (by decide) rfl (by first | assumption | exact mi_newc hok (by assumption) | exact mi_c hok (by assumption) | exact mi_e hok (by assumption)) rfl dX2_claim_163 (fun H locs hR hS => ?_)
          refine lv_aload_n hx hb dX2_claim_164 rfl (lv_at hl 0 rfl) ?_
          refine mr_geta hx hb hts hown hK hR 32 (by decide) rfl (hts _ q983) (fun _ h9 => h9) dX2_claim_165 ?_
          refine lv_aload_n hx hb dX2_claim_168 rfl (lv_at hl 0 rfl) ?_
          refine mr_geti (v := (S 25 0)) hx hb hts hown hK hR 25 (by decide) rfl (hts _ q976) (fun _ h9 => h9) (congrFun ((gs_sk rfl).trans ((gs_sk rfl).trans ((gs_sk rfl).trans ((gs_sk rfl).trans ((gs_sk rfl).trans ((gs_sk rfl).trans (gs_sk rfl))))))) 0) dX2_claim_169 ?_
          refine lv_iconst (v := 0) hx hb dX2_claim_172 (by decide) ?_
          refine mr_ast (j := (S 25 0).toNatClampNeg) hx hb hK hR hS 32 20 rfl (by decide) rfl (by first | assumption | exact mi_newc hok (by assumption) | exact mi_c hok (by assumption) | exact mi_e hok (by assumption)) rfl dX2_claim_173 (fun H locs hR hS => ?_)
          refine lv_aload_n hx hb dX2_claim_174 rfl (lv_at hl 0 rfl) ?_
          refine mr_geta hx hb hts hown hK hR 34 (by decide) rfl (hts _ q985) (fun _ h9 => h9) dX2_claim_175 ?_
          refine lv_aload_n hx hb dX2_claim_178 rfl (lv_at hl 0 rfl) ?_
          refine mr_geti (v := (S 25 0)) hx hb hts hown hK hR 25 (by decide) rfl (hts _ q976) (fun _ h9 => h9) (congrFun ((gs_sk rfl).trans ((gs_sk rfl).trans ((gs_sk rfl).trans ((gs_sk rfl).trans ((gs_sk rfl).trans ((gs_sk rfl).trans ((gs_sk rfl).trans (gs_sk rfl)))))))) 0) dX2_claim_179 ?_
          refine lv_iconst (v := (-1)) hx hb dX2_claim_182 (by decide) ?_
          refine mr_ast (j := (S 25 0).toNatClampNeg) hx hb hK hR hS 34 20 rfl (by decide) rfl (by first | assumption | exact mi_newc hok (by assumption) | exact mi_c hok (by assumption) | exact mi_e hok (by assumption)) rfl dX2_claim_183 (fun H locs hR hS => ?_)
          refine lv_aload_n hx hb dX2_claim_184 rfl (lv_at hl 0 rfl) ?_
          refine lv_dup hx hb dX2_claim_185 rfl ?_
          refine mr_geti (v := (S 25 0)) hx hb hts hown hK hR 25 (by decide) rfl (hts _ q976) (fun _ h9 => h9) (congrFun ((gs_sk rfl).trans ((gs_sk rfl).trans ((gs_sk rfl).trans ((gs_sk rfl).trans ((gs_sk rfl).trans ((gs_sk rfl).trans ((gs_sk rfl).trans ((gs_sk rfl).trans (gs_sk rfl))))))))) 0) dX2_claim_186 ?_
          refine lv_iconst (v := 1) hx hb dX2_claim_189 (by decide) ?_
          refine lv_iadd hx hb dX2_claim_190 ?_
          refine mr_puti hx hb hts hown hK hR hS 25 (by decide) rfl (hts _ q976) (fun _ h9 => h9) dX2_claim_191 (fun H locs hR hS => ?_)
          refine lv_aload_n hx hb dX2_claim_194 rfl (lv_at hl 0 rfl) ?_
          refine mr_geti (v := ((S 25 0) + 1)) hx hb hts hown hK hR 25 (by decide) rfl (hts _ q976) (fun _ h9 => h9) ((congrFun (gs_up_at.trans (congrArg (fun z => upd z 0 ((S 25 0) + 1)) ((gs_sk rfl).trans ((gs_sk rfl).trans ((gs_sk rfl).trans ((gs_sk rfl).trans ((gs_sk rfl).trans ((gs_sk rfl).trans ((gs_sk rfl).trans ((gs_sk rfl).trans (gs_sk rfl))))))))))) 0).trans pk_us) dX2_claim_195 ?_
          refine lv_iconst (v := 1) hx hb dX2_claim_198 (by decide) ?_
          refine lv_isub hx hb dX2_claim_199 ?_
          exact W.iret (v := (((S 25 0) + 1) - 1)) hx hb hr (fun t ht hW => ⟨⟨_, _, rfl, ⟨(congrArg Prod.fst hf), (congrArg Prod.snd hf)⟩, mr_bt ht hR⟩, hS.F ht⟩) hS.2.2 dX2_claim_200
        · skip
          have c_1 : ¬ ((((mf_isKind p1) = true) ∧ ((mf_isPlace p2) = true)) ∧ ((((mf_in p3 0 (S 1 0)) = true) ∧ (((mf_in p4 p3 (S 1 0)) = true) ∧ ((mf_isSet p5) = true))) ∧ (¬ ((S 25 0) = 20)))) := fun k => gs_zf (φ := (if ((mf_isKind p1) = true) ∧ ((mf_isPlace p2) = true) then (if ((mf_in p3 0 (S 1 0)) = true) ∧ (((mf_in p4 p3 (S 1 0)) = true) ∧ ((mf_isSet p5) = true)) then (if (S 25 0) = 20 then 3 else 0) else 2) else 1) = 0) c_1 (e0_v_94.mpr k)
          have hf := (if_neg c_1).symm.trans hf
          refine lv_iconst (v := 0) hx hb dX2_claim_100 (by decide) ?_
          exact W.iret (v := 0) hx hb hr (fun t ht hW => ⟨⟨_, _, rfl, ⟨(congrArg Prod.fst hf), (congrArg Prod.snd hf)⟩, mr_bt ht hR⟩, hS.F ht⟩) hS.2.2 dX2_claim_101
      refine lv_if_ne (tgt := 71) hx hb dX2_claim_64 (by decide) (fun c_12 => ?_) (fun c_12 => ?_)
      · skip
        have c_12 : ((mf_isKind p1) = true) ∧ ((mf_isPlace p2) = true) := gs_zt (φ := ((mf_isKind p1) = true) ∧ ((mf_isPlace p2) = true)) c_12
        have c_13 := c_12.1
        have c_14 := c_12.2
        refine lv_iload hx hb dX2_claim_71 (lv_at hl 0 rfl) ?_
        refine lv_if_ne (tgt := 80) hx hb dX2_claim_73 (by decide) (fun c_15 => ?_) (fun c_15 => ?_)
        · skip
          have c_15 : ((mf_in p3 0 (S 1 0)) = true) ∧ (((mf_in p4 p3 (S 1 0)) = true) ∧ ((mf_isSet p5) = true)) := gs_zt (φ := ((mf_in p3 0 (S 1 0)) = true) ∧ (((mf_in p4 p3 (S 1 0)) = true) ∧ ((mf_isSet p5) = true))) c_15
          have c_16 := c_15.1
          have c_17 := c_15.2
          have c_18 := c_17.1
          have c_19 := c_17.2
          refine lv_aload_n hx hb dX2_claim_80 rfl (lv_at hl 1 rfl) ?_
          refine mr_geti (v := (S 25 0)) hx hb hts hown hK hR 25 (by decide) rfl (hts _ q976) (fun _ h9 => h9) rfl dX2_claim_81 ?_
          refine lv_bipush (v := 20) hx hb dX2_claim_84 (by decide) ?_
          refine lv_icmp_ne (tgt := 93) hx hb dX2_claim_86 (by decide) (fun c_20 => ?_) (fun c_20 => ?_)
          · skip
            refine lv_iconst (v := 0) hx hb dX2_claim_93 (by decide) ?_
            exact hJ_94 _ _ _ 0 ((((if_neg c_20).symm).trans (if_pos c_15).symm).trans (if_pos c_12).symm) (gi_z1 (((gi_nb_f c_20).trans (gi_ca_t c_15)).trans (gi_ca_t c_12))) hR hS (lv_sub hl [1, 2, 3, 4, 5, 6] rfl)
          · skip
            refine lv_iconst (v := 3) hx hb dX2_claim_89 (by decide) ?_
            refine lv_goto (tgt := 94) hx hb dX2_claim_90 (by decide) ?_
            exact hJ_94 _ _ _ 3 ((((if_pos c_20).symm).trans (if_pos c_15).symm).trans (if_pos c_12).symm) (gi_z0 (by decide) (((gi_nb_t c_20).trans (gi_ca_t c_15)).trans (gi_ca_t c_12))) hR hS (lv_sub hl [1, 2, 3, 4, 5, 6] rfl)
        · skip
          have c_15 : ¬ (((mf_in p3 0 (S 1 0)) = true) ∧ (((mf_in p4 p3 (S 1 0)) = true) ∧ ((mf_isSet p5) = true))) := gs_zf (φ := ((mf_in p3 0 (S 1 0)) = true) ∧ (((mf_in p4 p3 (S 1 0)) = true) ∧ ((mf_isSet p5) = true))) c_15
          refine lv_iconst (v := 2) hx hb dX2_claim_76 (by decide) ?_
          refine lv_goto (tgt := 94) hx hb dX2_claim_77 (by decide) ?_
          exact hJ_94 _ _ _ 2 (((if_neg c_15).symm).trans (if_pos c_12).symm) (gi_z0 (by decide) ((gi_ca_f c_15).trans (gi_ca_t c_12))) hR hS (lv_sub hl [1, 2, 3, 4, 5, 6] rfl)
      · skip
        have c_12 : ¬ (((mf_isKind p1) = true) ∧ ((mf_isPlace p2) = true)) := gs_zf (φ := ((mf_isKind p1) = true) ∧ ((mf_isPlace p2) = true)) c_12
        refine lv_iconst (v := 1) hx hb dX2_claim_67 (by decide) ?_
        refine lv_goto (tgt := 94) hx hb dX2_claim_68 (by decide) ?_
        exact hJ_94 _ _ _ 1 ((if_neg c_12).symm) (gi_z0 (by decide) (gi_ca_f c_12)) hR hS (lv_sub hl [1, 2, 3, 4, 5, 6] rfl)
    refine lv_if_eq (tgt := 58) hx hb dX2_claim_30 (by decide) (fun c_21 => ?_) (fun c_21 => ?_)
    · skip
      have c_21 : ¬ ((mf_in p3 0 (S 1 0)) = true) := gs_zf (φ := (mf_in p3 0 (S 1 0)) = true) c_21
      refine lv_iconst (v := 0) hx hb dX2_claim_58 (by decide) ?_
      exact hJ_59 _ _ _ 0 (gi_0 (gi_ca_f c_21)) hR hS (lv_sub hl [1, 2, 3, 4, 5, 6, 0] rfl)
    · skip
      have c_21 : (mf_in p3 0 (S 1 0)) = true := gs_zt (φ := (mf_in p3 0 (S 1 0)) = true) c_21
      refine lv_iload hx hb dX2_claim_33 (lv_at hl 5 rfl) ?_
      refine lv_iload_n hx hb dX2_claim_35 rfl (lv_at hl 4 rfl) ?_
      refine lv_aload_n hx hb dX2_claim_36 rfl (lv_at hl 1 rfl) ?_
      refine mr_geti (v := (S 1 0)) hx hb hts hown hK hR 1 (by decide) rfl (hts _ q952) (fun _ h9 => h9) rfl dX2_claim_37 ?_
      refine ps_calli (As := [.int p4, .int p3, .int (S 1 0)]) (rest := []) ⟨hx, hb, hml, hown, hts⟩ (mt_in l p4 p3 (S 1 0)) (va_cwS 3 hts (lw_S q1078 q1079 q41 q1080) rfl rfl rfl (by decide +kernel) ⟨Nat.le_of_ble_eq_true rfl, Nat.le_of_ble_eq_true rfl⟩) trivial hS rfl hl.1 rfl (Nat.le_of_ble_eq_true rfl) dX2_claim_40 ⟨Nat.le_refl _, Nat.le_refl _⟩ (fun H locs hz hk hS => ?_)
      have hR := hR.kept (fun a _ h => hk a h)
      refine lv_if_eq (tgt := 58) hx hb dX2_claim_43 (by decide) (fun c_22 => ?_) (fun c_22 => ?_)
      · skip
        have c_22 : ¬ ((mf_in p4 p3 (S 1 0)) = true) := gs_zf (φ := (mf_in p4 p3 (S 1 0)) = true) c_22
        refine lv_iconst (v := 0) hx hb dX2_claim_58 (by decide) ?_
        exact hJ_59 _ _ _ 0 (gi_0 ((gi_ca_f c_22).trans (gi_ca_t c_21))) hR hS (lv_sub hl [1, 2, 3, 4, 5, 6, 0] rfl)
      · skip
        have c_22 : (mf_in p4 p3 (S 1 0)) = true := gs_zt (φ := (mf_in p4 p3 (S 1 0)) = true) c_22
        refine lv_iload hx hb dX2_claim_46 (lv_at hl 6 rfl) ?_
        refine ps_calli (As := [.int p5]) (rest := []) ⟨hx, hb, hml, hown, hts⟩ (mt_isSet l p5) (va_cwS 1 hts (lw_S q1117 q1118 q41 q1119) rfl rfl rfl (by decide +kernel) ⟨Nat.le_of_ble_eq_true rfl, Nat.le_of_ble_eq_true rfl⟩) trivial hS rfl hl.1 rfl (Nat.le_of_ble_eq_true rfl) dX2_claim_48 ⟨Nat.le_refl _, Nat.le_refl _⟩ (fun H locs hz hk hS => ?_)
        have hR := hR.kept (fun a _ h => hk a h)
        refine lv_if_eq (tgt := 58) hx hb dX2_claim_51 (by decide) (fun c_23 => ?_) (fun c_23 => ?_)
        · skip
          have c_23 : ¬ ((mf_isSet p5) = true) := gs_zf (φ := (mf_isSet p5) = true) c_23
          refine lv_iconst (v := 0) hx hb dX2_claim_58 (by decide) ?_
          exact hJ_59 _ _ _ 0 (gi_0 (((gi_cb_f c_23).trans (gi_ca_t c_22)).trans (gi_ca_t c_21))) hR hS (lv_sub hl [1, 2, 3, 4, 5, 6, 0] rfl)
        · skip
          have c_23 : (mf_isSet p5) = true := gs_zt (φ := (mf_isSet p5) = true) c_23
          refine lv_iconst (v := 1) hx hb dX2_claim_54 (by decide) ?_
          refine lv_goto (tgt := 59) hx hb dX2_claim_55 (by decide) ?_
          exact hJ_59 _ _ _ 1 (gi_1 (((gi_cb_t c_23).trans (gi_ca_t c_22)).trans (gi_ca_t c_21))) hR hS (lv_sub hl [1, 2, 3, 4, 5, 6, 0] rfl)
  refine lv_if_eq (tgt := 18) hx hb dX2_claim_4 (by decide) (fun c_24 => ?_) (fun c_24 => ?_)
  · skip
    have c_24 : ¬ ((mf_isKind p1) = true) := gs_zf (φ := (mf_isKind p1) = true) c_24
    refine lv_iconst (v := 0) hx hb dX2_claim_18 (by decide) ?_
    exact hJ_19 _ _ _ 0 (gi_0 (gi_ca_f c_24)) hR hS (lv_sub hl [0, 1, 2, 3, 4, 5] rfl)
  · skip
    have c_24 : (mf_isKind p1) = true := gs_zt (φ := (mf_isKind p1) = true) c_24
    refine lv_iload_n hx hb dX2_claim_7 rfl (lv_at hl 2 rfl) ?_
    refine ps_calli (As := [.int p2]) (rest := []) ⟨hx, hb, hml, hown, hts⟩ (mt_isPlace l p2) (va_cwS 1 hts (lw_S q1114 q1115 q41 q1116) rfl rfl rfl (by decide +kernel) ⟨Nat.le_of_ble_eq_true rfl, Nat.le_of_ble_eq_true rfl⟩) trivial hS rfl hl.1 rfl (Nat.le_of_ble_eq_true rfl) dX2_claim_8 ⟨Nat.le_refl _, Nat.le_refl _⟩ (fun H locs hz hk hS => ?_)
    have hR := hR.kept (fun a _ h => hk a h)
    refine lv_if_eq (tgt := 18) hx hb dX2_claim_11 (by decide) (fun c_25 => ?_) (fun c_25 => ?_)
    · skip
      have c_25 : ¬ ((mf_isPlace p2) = true) := gs_zf (φ := (mf_isPlace p2) = true) c_25
      refine lv_iconst (v := 0) hx hb dX2_claim_18 (by decide) ?_
      exact hJ_19 _ _ _ 0 (gi_0 ((gi_cb_f c_25).trans (gi_ca_t c_24))) hR hS (lv_sub hl [0, 1, 2, 3, 4, 5] rfl)
    · skip
      have c_25 : (mf_isPlace p2) = true := gs_zt (φ := (mf_isPlace p2) = true) c_25
      refine lv_iconst (v := 1) hx hb dX2_claim_14 (by decide) ?_
      refine lv_goto (tgt := 19) hx hb dX2_claim_15 (by decide) ?_
      exact hJ_19 _ _ _ 1 (gi_1 ((gi_cb_t c_25).trans (gi_ca_t c_24))) hR hS (lv_sub hl [0, 1, 2, 3, 4, 5] rfl)
set_option maxHeartbeats 2000000 in
set_option maxRecDepth 100000 in
theorem mt_errorOfWords (l : Launch) (E : en_T) (q : Nat) (ad : Nat → Nat) (L : List Nat) (S : gs_T) (p1 : Int32) (p2 : Int32) : Met l yX2_errorOfWords (ws_ yX2_errorOfWords cX2_errorOfWords 3 (some .int)) { frames := 2, cells := 0, slots := 0, locals := 43 } (mr_Pc E q ad L S [.int p1, .int p2] (mi_ok S)) (mr_Qi E q ad L (mf_errorOfWords S p1 p2) S) 0 0 (mr_A L) := by
  refine mr_start (by decide) rfl (Nat.le_of_ble_eq_true rfl) ?_
  intro p e s m below meth c ls hx hb hr hlocks hml hown hts hK hP hl hR
  have hl : lv_has ls 3 [(0, .ref q), (1, .int p1), (2, .int p2)] := hl
  have hS : va_S (mr_A L) s.heap s.heap [] := va_S.rf
  have hok := hP
  have hf : (mf_errorOfWords S p1 p2) = (mf_errorOfWords S p1 p2) := rfl
  refine lv_aload_n hx hb dX2_errorOfWords_0 rfl (lv_at hl 0 rfl) ?_
  refine lv_iload_n hx hb dX2_errorOfWords_1 rfl (lv_at hl 1 rfl) ?_
  refine mr_calli (As := [.int p1]) (rest := []) ⟨hx, hb, hml, hown, hts⟩ (mt_isClaim l E q ad L S p1) (cwV 1 hts (lw_V q1165 q1167 qs20 q41 q1168) rfl rfl rfl (by decide +kernel) ⟨Nat.le_of_ble_eq_true rfl, Nat.le_of_ble_eq_true rfl⟩) trivial hK hR (fun _ h => h) hS rfl hl.1 rfl (Nat.le_of_ble_eq_true rfl) dX2_errorOfWords_2 ⟨Nat.le_refl _, Nat.le_refl _⟩ (fun H locs hR hS _ _ => ?_)
  refine lv_if_ne (tgt := 10) hx hb dX2_errorOfWords_5 (by decide) (fun c_1 => ?_) (fun c_1 => ?_)
  · skip
    have c_1 : (mf_isClaim S p1) = true := gs_zt (φ := (mf_isClaim S p1) = true) c_1
    have hf := (if_pos c_1).symm.trans hf
    refine lv_iload_n hx hb dX2_errorOfWords_10 rfl (lv_at hl 2 rfl) ?_
    refine ps_calli (As := [.int p2]) (rest := []) ⟨hx, hb, hml, hown, hts⟩ (mt_isSet l p2) (va_cwS 1 hts (lw_S q1117 q1118 q41 q1119) rfl rfl rfl (by decide +kernel) ⟨Nat.le_of_ble_eq_true rfl, Nat.le_of_ble_eq_true rfl⟩) trivial hS rfl hl.1 rfl (Nat.le_of_ble_eq_true rfl) dX2_errorOfWords_11 ⟨Nat.le_refl _, Nat.le_refl _⟩ (fun H locs hz hk hS => ?_)
    have hR := hR.kept (fun a _ h => hk a h)
    have hJ_35 : ∀ (H : Heap) (locs : List Loc) (ls : Array Slot) (v_35 : Int32), v_35 = (if (mf_isSet p2) = true then (if (S 32 p1.toNatClampNeg) = 0 then 0 else 3) else 2) → (v_35 = 0 ↔ (((mf_isSet p2) = true) ∧ ((S 32 p1.toNatClampNeg) = 0))) → mr_W E q ad L S H → va_S (mr_A L) s.heap H locs → lv_has ls 3 [] → mr_G p l e { frames := 2, cells := 0, slots := 0, locals := 43 } s m [.ref q, .int p1, .int p2] below meth c (mr_A L) (mr_Qi E q ad L (mf_errorOfWords S p1 p2) S) H locs (F0 m 35 ls [.int v_35]) := by
      intro H locs ls v_35 e_v_35 e0_v_35 hR hS hl
      subst e_v_35
      exact W.iret (v := (if (mf_isSet p2) = true then (if (S 32 p1.toNatClampNeg) = 0 then 0 else 3) else 2)) hx hb hr (fun t ht hW => ⟨⟨_, _, rfl, ⟨hf, rfl⟩, mr_bt ht hR⟩, hS.F ht⟩) hS.2.2 dX2_errorOfWords_35
    refine lv_if_ne (tgt := 21) hx hb dX2_errorOfWords_14 (by decide) (fun c_2 => ?_) (fun c_2 => ?_)
    · skip
      have c_2 : (mf_isSet p2) = true := gs_zt (φ := (mf_isSet p2) = true) c_2
      refine lv_aload_n hx hb dX2_errorOfWords_21 rfl (lv_at hl 0 rfl) ?_
      refine mr_geta hx hb hts hown hK hR 32 (by decide) rfl (hts _ q983) (fun _ h9 => h9) dX2_errorOfWords_22 ?_
      refine lv_iload_n hx hb dX2_errorOfWords_25 rfl (lv_at hl 1 rfl) ?_
      refine mr_ald (v := (S 32 p1.toNatClampNeg)) hx hb hK hR 32 20 rfl (by decide) rfl (by first | assumption | exact mi_c hok (by assumption) | exact mi_e hok (by assumption)) rfl dX2_errorOfWords_26 ?_
      refine lv_if_eq (tgt := 34) hx hb dX2_errorOfWords_27 (by decide) (fun c_3 => ?_) (fun c_3 => ?_)
      · skip
        refine lv_iconst (v := 0) hx hb dX2_errorOfWords_34 (by decide) ?_
        exact hJ_35 _ _ _ 0 (((if_pos c_3).symm).trans (if_pos c_2).symm) (gi_z1 ((gi_cb_t c_3).trans (gi_ca_t c_2))) hR hS (lv_sub hl [] rfl)
      · skip
        refine lv_iconst (v := 3) hx hb dX2_errorOfWords_30 (by decide) ?_
        refine lv_goto (tgt := 35) hx hb dX2_errorOfWords_31 (by decide) ?_
        exact hJ_35 _ _ _ 3 (((if_neg c_3).symm).trans (if_pos c_2).symm) (gi_z0 (by decide) ((gi_cb_f c_3).trans (gi_ca_t c_2))) hR hS (lv_sub hl [] rfl)
    · skip
      have c_2 : ¬ ((mf_isSet p2) = true) := gs_zf (φ := (mf_isSet p2) = true) c_2
      refine lv_iconst (v := 2) hx hb dX2_errorOfWords_17 (by decide) ?_
      refine lv_goto (tgt := 35) hx hb dX2_errorOfWords_18 (by decide) ?_
      exact hJ_35 _ _ _ 2 ((if_neg c_2).symm) (gi_z0 (by decide) (gi_ca_f c_2)) hR hS (lv_sub hl [] rfl)
  · skip
    have c_1 : ¬ ((mf_isClaim S p1) = true) := gs_zf (φ := (mf_isClaim S p1) = true) c_1
    have hf := (if_neg c_1).symm.trans hf
    refine lv_iconst (v := 1) hx hb dX2_errorOfWords_8 (by decide) ?_
    exact W.iret (v := 1) hx hb hr (fun t ht hW => ⟨⟨_, _, rfl, ⟨hf, rfl⟩, mr_bt ht hR⟩, hS.F ht⟩) hS.2.2 dX2_errorOfWords_9
set_option maxHeartbeats 2000000 in
set_option maxRecDepth 100000 in
theorem mt_say (l : Launch) (E : en_T) (q : Nat) (ad : Nat → Nat) (L : List Nat) (S : gs_T) (p1 : Int32) (p2 : Int32) : Met l yX2_say (ws_ yX2_say cX2_say 3 (some .int)) { frames := 3, cells := 0, slots := 0, locals := 65 } (mr_Pc E q ad L S [.int p1, .int p2] (mi_ok S)) (mr_Qi E q ad L (mf_say S p1 p2).1 (mf_say S p1 p2).2) 0 0 (mr_A L) := by
  refine mr_start (by decide) rfl (Nat.le_of_ble_eq_true rfl) ?_
  intro p e s m below meth c ls hx hb hr hlocks hml hown hts hK hP hl hR
  have hl : lv_has ls 3 [(0, .ref q), (1, .int p1), (2, .int p2)] := hl
  have hS : va_S (mr_A L) s.heap s.heap [] := va_S.rf
  have hok := hP
  have hf : (mf_say S p1 p2) = (mf_say S p1 p2) := rfl
  refine lv_aload_n hx hb dX2_say_0 rfl (lv_at hl 0 rfl) ?_
  refine lv_aload_n hx hb dX2_say_1 rfl (lv_at hl 0 rfl) ?_
  refine lv_iload_n hx hb dX2_say_2 rfl (lv_at hl 1 rfl) ?_
  refine lv_iload_n hx hb dX2_say_3 rfl (lv_at hl 2 rfl) ?_
  refine mr_calli (As := [.int p1, .int p2]) (rest := [.ref q]) ⟨hx, hb, hml, hown, hts⟩ (mt_errorOfWords l E q ad L S p1 p2) (cwV 2 hts (lw_V q1161 q1163 qs19 q41 q1164) rfl rfl rfl (by decide +kernel) ⟨Nat.le_of_ble_eq_true rfl, Nat.le_of_ble_eq_true rfl⟩) hok hK hR (fun _ h => h) hS rfl hl.1 rfl (Nat.le_of_ble_eq_true rfl) dX2_say_4 ⟨Nat.le_refl _, Nat.le_refl _⟩ (fun H locs hR hS _ _ => ?_)
  refine mr_calli (As := [.int (mf_errorOfWords S p1 p2)]) (rest := []) ⟨hx, hb, hml, hown, hts⟩ (mt_holds l E q ad L S (mf_errorOfWords S p1 p2)) (cwV 1 hts (lw_V q1081 q1083 qs15 q41 q1084) rfl rfl rfl (by decide +kernel) ⟨Nat.le_of_ble_eq_true rfl, Nat.le_of_ble_eq_true rfl⟩) trivial hK hR (fun _ h => h) hS rfl hl.1 rfl (Nat.le_of_ble_eq_true rfl) dX2_say_7 ⟨Nat.le_refl _, Nat.le_refl _⟩ (fun H locs hR hS _ _ => ?_)
  refine lv_if_ne (tgt := 15) hx hb dX2_say_10 (by decide) (fun c_1 => ?_) (fun c_1 => ?_)
  · skip
    have c_1 : (mf_errorOfWords S p1 p2) = 0 := gs_zt (φ := (mf_errorOfWords S p1 p2) = 0) c_1
    have hf := (if_pos c_1).symm.trans hf
    refine lv_aload_n hx hb dX2_say_15 rfl (lv_at hl 0 rfl) ?_
    refine mr_geta hx hb hts hown hK hR 30 (by decide) rfl (hts _ q981) (fun _ h9 => h9) dX2_say_16 ?_
    refine lv_iload_n hx hb dX2_say_19 rfl (lv_at hl 1 rfl) ?_
    refine lv_dup2_11 hx hb dX2_say_20 rfl rfl ?_
    refine mr_ald (v := (S 30 p1.toNatClampNeg)) hx hb hK hR 30 20 rfl (by decide) rfl (by first | assumption | exact mi_c hok (by assumption) | exact mi_e hok (by assumption)) (congrFun (gs_sk rfl) p1.toNatClampNeg) dX2_say_21 ?_
    refine lv_iload_n hx hb dX2_say_22 rfl (lv_at hl 2 rfl) ?_
    refine lv_ior hx hb dX2_say_23 ?_
    refine mr_ast (j := p1.toNatClampNeg) hx hb hK hR hS 30 20 rfl (by decide) rfl (by first | assumption | exact mi_c hok (by assumption) | exact mi_e hok (by assumption)) rfl dX2_say_24 (fun H locs hR hS => ?_)
    refine lv_aload_n hx hb dX2_say_25 rfl (lv_at hl 0 rfl) ?_
    refine mr_geta hx hb hts hown hK hR 30 (by decide) rfl (hts _ q981) (fun _ h9 => h9) dX2_say_26 ?_
    refine lv_iload_n hx hb dX2_say_29 rfl (lv_at hl 1 rfl) ?_
    refine mr_ald (v := ((S 30 p1.toNatClampNeg) ||| p2)) hx hb hK hR 30 20 rfl (by decide) rfl (by first | assumption | exact mi_c hok (by assumption) | exact mi_e hok (by assumption)) ((congrFun (gs_up_at.trans (congrArg (fun z => upd z p1.toNatClampNeg ((S 30 p1.toNatClampNeg) ||| p2)) (gs_sk rfl))) p1.toNatClampNeg).trans pk_us) dX2_say_30 ?_
    refine ps_calli (As := [.int ((S 30 p1.toNatClampNeg) ||| p2)]) (rest := []) ⟨hx, hb, hml, hown, hts⟩ (mt_bits l ((S 30 p1.toNatClampNeg) ||| p2)) (va_cwS 1 hts (lw_S q1103 q1104 q41 q1105) rfl rfl rfl (by decide +kernel) ⟨Nat.le_of_ble_eq_true rfl, Nat.le_of_ble_eq_true rfl⟩) trivial hS rfl hl.1 rfl (Nat.le_of_ble_eq_true rfl) dX2_say_31 ⟨Nat.le_refl _, Nat.le_refl _⟩ (fun H locs hz hk hS => ?_)
    have hR := hR.kept (fun a _ h => hk a h)
    exact W.iret (v := (mf_bits ((S 30 p1.toNatClampNeg) ||| p2))) hx hb hr (fun t ht hW => ⟨⟨_, _, rfl, ⟨(congrArg Prod.fst hf), (congrArg Prod.snd hf)⟩, mr_bt ht hR⟩, hS.F ht⟩) hS.2.2 dX2_say_34
  · skip
    have c_1 : ¬ ((mf_errorOfWords S p1 p2) = 0) := gs_zf (φ := (mf_errorOfWords S p1 p2) = 0) c_1
    have hf := (if_neg c_1).symm.trans hf
    refine lv_iconst (v := 0) hx hb dX2_say_13 (by decide) ?_
    exact W.iret (v := 0) hx hb hr (fun t ht hW => ⟨⟨_, _, rfl, ⟨(congrArg Prod.fst hf), (congrArg Prod.snd hf)⟩, mr_bt ht hR⟩, hS.F ht⟩) hS.2.2 dX2_say_14
set_option maxHeartbeats 2000000 in
set_option maxRecDepth 100000 in
theorem mt_tell (l : Launch) (E : en_T) (q : Nat) (ad : Nat → Nat) (L : List Nat) (S : gs_T) (p1 : Int32) (p2 : Int32) : Met l yX2_tell (ws_ yX2_tell cX2_tell 3 (some .int)) { frames := 3, cells := 0, slots := 0, locals := 65 } (mr_Pc E q ad L S [.int p1, .int p2] (mi_ok S)) (mr_Qi E q ad L (mf_tell S p1 p2).1 (mf_tell S p1 p2).2) 0 0 (mr_A L) := by
  refine mr_start (by decide) rfl (Nat.le_of_ble_eq_true rfl) ?_
  intro p e s m below meth c ls hx hb hr hlocks hml hown hts hK hP hl hR
  have hl : lv_has ls 3 [(0, .ref q), (1, .int p1), (2, .int p2)] := hl
  have hS : va_S (mr_A L) s.heap s.heap [] := va_S.rf
  have hok := hP
  have hf : (mf_tell S p1 p2) = (mf_tell S p1 p2) := rfl
  refine lv_aload_n hx hb dX2_tell_0 rfl (lv_at hl 0 rfl) ?_
  refine lv_aload_n hx hb dX2_tell_1 rfl (lv_at hl 0 rfl) ?_
  refine lv_iload_n hx hb dX2_tell_2 rfl (lv_at hl 1 rfl) ?_
  refine lv_iload_n hx hb dX2_tell_3 rfl (lv_at hl 2 rfl) ?_
  refine mr_calli (As := [.int p1, .int p2]) (rest := [.ref q]) ⟨hx, hb, hml, hown, hts⟩ (mt_errorOfWords l E q ad L S p1 p2) (cwV 2 hts (lw_V q1161 q1163 qs19 q41 q1164) rfl rfl rfl (by decide +kernel) ⟨Nat.le_of_ble_eq_true rfl, Nat.le_of_ble_eq_true rfl⟩) hok hK hR (fun _ h => h) hS rfl hl.1 rfl (Nat.le_of_ble_eq_true rfl) dX2_tell_4 ⟨Nat.le_refl _, Nat.le_refl _⟩ (fun H locs hR hS _ _ => ?_)
  refine mr_calli (As := [.int (mf_errorOfWords S p1 p2)]) (rest := []) ⟨hx, hb, hml, hown, hts⟩ (mt_holds l E q ad L S (mf_errorOfWords S p1 p2)) (cwV 1 hts (lw_V q1081 q1083 qs15 q41 q1084) rfl rfl rfl (by decide +kernel) ⟨Nat.le_of_ble_eq_true rfl, Nat.le_of_ble_eq_true rfl⟩) trivial hK hR (fun _ h => h) hS rfl hl.1 rfl (Nat.le_of_ble_eq_true rfl) dX2_tell_7 ⟨Nat.le_refl _, Nat.le_refl _⟩ (fun H locs hR hS _ _ => ?_)
  refine lv_if_ne (tgt := 15) hx hb dX2_tell_10 (by decide) (fun c_1 => ?_) (fun c_1 => ?_)
  · skip
    have c_1 : (mf_errorOfWords S p1 p2) = 0 := gs_zt (φ := (mf_errorOfWords S p1 p2) = 0) c_1
    have hf := (if_pos c_1).symm.trans hf
    refine lv_aload_n hx hb dX2_tell_15 rfl (lv_at hl 0 rfl) ?_
    refine mr_geta hx hb hts hown hK hR 30 (by decide) rfl (hts _ q981) (fun _ h9 => h9) dX2_tell_16 ?_
    refine lv_iload_n hx hb dX2_tell_19 rfl (lv_at hl 1 rfl) ?_
    refine lv_dup2_11 hx hb dX2_tell_20 rfl rfl ?_
    refine mr_ald (v := (S 30 p1.toNatClampNeg)) hx hb hK hR 30 20 rfl (by decide) rfl (by first | assumption | exact mi_c hok (by assumption) | exact mi_e hok (by assumption)) (congrFun (gs_sk rfl) p1.toNatClampNeg) dX2_tell_21 ?_
    refine lv_iload_n hx hb dX2_tell_22 rfl (lv_at hl 2 rfl) ?_
    refine lv_ior hx hb dX2_tell_23 ?_
    refine mr_ast (j := p1.toNatClampNeg) hx hb hK hR hS 30 20 rfl (by decide) rfl (by first | assumption | exact mi_c hok (by assumption) | exact mi_e hok (by assumption)) rfl dX2_tell_24 (fun H locs hR hS => ?_)
    refine lv_aload_n hx hb dX2_tell_25 rfl (lv_at hl 0 rfl) ?_
    refine mr_geta hx hb hts hown hK hR 31 (by decide) rfl (hts _ q982) (fun _ h9 => h9) dX2_tell_26 ?_
    refine lv_iload_n hx hb dX2_tell_29 rfl (lv_at hl 1 rfl) ?_
    refine lv_dup2_11 hx hb dX2_tell_30 rfl rfl ?_
    refine mr_ald (v := (S 31 p1.toNatClampNeg)) hx hb hK hR 31 20 rfl (by decide) rfl (by first | assumption | exact mi_c hok (by assumption) | exact mi_e hok (by assumption)) (congrFun ((gs_sk rfl).trans (gs_sk rfl)) p1.toNatClampNeg) dX2_tell_31 ?_
    refine lv_iload_n hx hb dX2_tell_32 rfl (lv_at hl 2 rfl) ?_
    refine lv_ior hx hb dX2_tell_33 ?_
    refine mr_ast (j := p1.toNatClampNeg) hx hb hK hR hS 31 20 rfl (by decide) rfl (by first | assumption | exact mi_c hok (by assumption) | exact mi_e hok (by assumption)) rfl dX2_tell_34 (fun H locs hR hS => ?_)
    refine lv_aload_n hx hb dX2_tell_35 rfl (lv_at hl 0 rfl) ?_
    refine mr_geta hx hb hts hown hK hR 31 (by decide) rfl (hts _ q982) (fun _ h9 => h9) dX2_tell_36 ?_
    refine lv_iload_n hx hb dX2_tell_39 rfl (lv_at hl 1 rfl) ?_
    refine mr_ald (v := ((S 31 p1.toNatClampNeg) ||| p2)) hx hb hK hR 31 20 rfl (by decide) rfl (by first | assumption | exact mi_c hok (by assumption) | exact mi_e hok (by assumption)) ((congrFun (gs_up_at.trans (congrArg (fun z => upd z p1.toNatClampNeg ((S 31 p1.toNatClampNeg) ||| p2)) ((gs_sk rfl).trans (gs_sk rfl)))) p1.toNatClampNeg).trans pk_us) dX2_tell_40 ?_
    refine ps_calli (As := [.int ((S 31 p1.toNatClampNeg) ||| p2)]) (rest := []) ⟨hx, hb, hml, hown, hts⟩ (mt_bits l ((S 31 p1.toNatClampNeg) ||| p2)) (va_cwS 1 hts (lw_S q1103 q1104 q41 q1105) rfl rfl rfl (by decide +kernel) ⟨Nat.le_of_ble_eq_true rfl, Nat.le_of_ble_eq_true rfl⟩) trivial hS rfl hl.1 rfl (Nat.le_of_ble_eq_true rfl) dX2_tell_41 ⟨Nat.le_refl _, Nat.le_refl _⟩ (fun H locs hz hk hS => ?_)
    have hR := hR.kept (fun a _ h => hk a h)
    exact W.iret (v := (mf_bits ((S 31 p1.toNatClampNeg) ||| p2))) hx hb hr (fun t ht hW => ⟨⟨_, _, rfl, ⟨(congrArg Prod.fst hf), (congrArg Prod.snd hf)⟩, mr_bt ht hR⟩, hS.F ht⟩) hS.2.2 dX2_tell_44
  · skip
    have c_1 : ¬ ((mf_errorOfWords S p1 p2) = 0) := gs_zf (φ := (mf_errorOfWords S p1 p2) = 0) c_1
    have hf := (if_neg c_1).symm.trans hf
    refine lv_iconst (v := 0) hx hb dX2_tell_13 (by decide) ?_
    exact W.iret (v := 0) hx hb hr (fun t ht hW => ⟨⟨_, _, rfl, ⟨(congrArg Prod.fst hf), (congrArg Prod.snd hf)⟩, mr_bt ht hR⟩, hS.F ht⟩) hS.2.2 dX2_tell_14
set_option maxHeartbeats 2000000 in
set_option maxRecDepth 100000 in
theorem mt_ends (l : Launch) (E : en_T) (q : Nat) (ad : Nat → Nat) (L : List Nat) (S : gs_T) (p1 : Int32) (p2 : Int32) (p3 : Int32) : Met l yX2_ends (ws_ yX2_ends cX2_ends 4 none) { frames := 0, cells := 0, slots := 0, locals := 0 } (mr_Pc E q ad L S [.int p1, .int p2, .int p3] (vp_in p1 20)) (mr_Qv E q ad L (mf_ends S p1 p2 p3)) 0 0 (mr_A L) := by
  refine mr_start (by decide) rfl (Nat.le_of_ble_eq_true rfl) ?_
  intro p e s m below meth c ls hx hb hr hlocks hml hown hts hK hP hl hR
  have hl : lv_has ls 4 [(0, .ref q), (1, .int p1), (2, .int p2), (3, .int p3)] := hl
  have hS : va_S (mr_A L) s.heap s.heap [] := va_S.rf
  have h_p1 := hP
  have hf : (mf_ends S p1 p2 p3) = (mf_ends S p1 p2 p3) := rfl
  refine lv_aload_n hx hb dX2_ends_0 rfl (lv_at hl 0 rfl) ?_
  refine mr_geta hx hb hts hown hK hR 32 (by decide) rfl (hts _ q983) (fun _ h9 => h9) dX2_ends_1 ?_
  refine lv_iload_n hx hb dX2_ends_4 rfl (lv_at hl 1 rfl) ?_
  refine lv_iload_n hx hb dX2_ends_5 rfl (lv_at hl 2 rfl) ?_
  refine mr_ast (j := p1.toNatClampNeg) hx hb hK hR hS 32 20 rfl (by decide) rfl (by first | assumption | exact mi_c hok (by assumption) | exact mi_e hok (by assumption)) rfl dX2_ends_6 (fun H locs hR hS => ?_)
  refine lv_aload_n hx hb dX2_ends_7 rfl (lv_at hl 0 rfl) ?_
  refine mr_geta hx hb hts hown hK hR 33 (by decide) rfl (hts _ q984) (fun _ h9 => h9) dX2_ends_8 ?_
  refine lv_iload_n hx hb dX2_ends_11 rfl (lv_at hl 1 rfl) ?_
  refine lv_aload_n hx hb dX2_ends_12 rfl (lv_at hl 0 rfl) ?_
  refine mr_geti (v := (S 1 0)) hx hb hts hown hK hR 1 (by decide) rfl (hts _ q952) (fun _ h9 => h9) (congrFun (gs_sk rfl) 0) dX2_ends_13 ?_
  refine mr_ast (j := p1.toNatClampNeg) hx hb hK hR hS 33 20 rfl (by decide) rfl (by first | assumption | exact mi_c hok (by assumption) | exact mi_e hok (by assumption)) rfl dX2_ends_16 (fun H locs hR hS => ?_)
  refine lv_aload_n hx hb dX2_ends_17 rfl (lv_at hl 0 rfl) ?_
  refine mr_geta hx hb hts hown hK hR 34 (by decide) rfl (hts _ q985) (fun _ h9 => h9) dX2_ends_18 ?_
  refine lv_iload_n hx hb dX2_ends_21 rfl (lv_at hl 1 rfl) ?_
  refine lv_iload_n hx hb dX2_ends_22 rfl (lv_at hl 3 rfl) ?_
  refine mr_ast (j := p1.toNatClampNeg) hx hb hK hR hS 34 20 rfl (by decide) rfl (by first | assumption | exact mi_c hok (by assumption) | exact mi_e hok (by assumption)) rfl dX2_ends_23 (fun H locs hR hS => ?_)
  exact W.vret hx hb hr (fun t ht hW => ⟨⟨_, rfl, hf, mr_bt ht hR⟩, hS.F ht⟩) hS.2.2 dX2_ends_24
set_option maxHeartbeats 2000000 in
set_option maxRecDepth 100000 in
theorem mt_withdraw (l : Launch) (E : en_T) (q : Nat) (ad : Nat → Nat) (L : List Nat) (S : gs_T) (p1 : Int32) : Met l yX2_withdraw (ws_ yX2_withdraw cX2_withdraw 3 (some .int)) { frames := 2, cells := 0, slots := 0, locals := 43 } (mr_Pc E q ad L S [.int p1] (mi_ok S)) (mr_Qi E q ad L (mf_withdraw S p1).1 (mf_withdraw S p1).2) 0 0 (mr_A L) := by
  refine mr_start (by decide) rfl (Nat.le_of_ble_eq_true rfl) ?_
  intro p e s m below meth c ls hx hb hr hlocks hml hown hts hK hP hl hR
  have hl : lv_has ls 3 [(0, .ref q), (1, .int p1)] := hl
  have hS : va_S (mr_A L) s.heap s.heap [] := va_S.rf
  have hok := hP
  have hf : (mf_withdraw S p1) = (mf_withdraw S p1) := rfl
  refine lv_aload_n hx hb dX2_withdraw_0 rfl (lv_at hl 0 rfl) ?_
  refine lv_iload_n hx hb dX2_withdraw_1 rfl (lv_at hl 1 rfl) ?_
  refine mr_calli (As := [.int p1]) (rest := []) ⟨hx, hb, hml, hown, hts⟩ (mt_isClaim l E q ad L S p1) (cwV 1 hts (lw_V q1165 q1167 qs20 q41 q1168) rfl rfl rfl (by decide +kernel) ⟨Nat.le_of_ble_eq_true rfl, Nat.le_of_ble_eq_true rfl⟩) trivial hK hR (fun _ h => h) hS rfl hl.1 rfl (Nat.le_of_ble_eq_true rfl) dX2_withdraw_2 ⟨Nat.le_refl _, Nat.le_refl _⟩ (fun H locs hR hS _ _ => ?_)
  refine lv_istore_n (lv' := [(2, .int (if (mf_isClaim S p1) = true then 1 else 0)), (0, .ref q), (1, .int p1)]) hx hb dX2_withdraw_5 rfl hl (by decide) rfl (fun ls hl => ?_)
  refine lv_aload_n hx hb dX2_withdraw_6 rfl (lv_at hl 1 rfl) ?_
  refine lv_iload_n hx hb dX2_withdraw_7 rfl (lv_at hl 0 rfl) ?_
  have hJ_29 : ∀ (H : Heap) (locs : List Loc) (ls : Array Slot) (v_29 : Int32), v_29 = (if (mf_isClaim S p1) = true then (if (S 32 p1.toNatClampNeg) = 0 then 0 else 2) else 1) → (v_29 = 0 ↔ (((mf_isClaim S p1) = true) ∧ ((S 32 p1.toNatClampNeg) = 0))) → mr_W E q ad L S H → va_S (mr_A L) s.heap H locs → lv_has ls 3 [(0, .ref q), (1, .int p1)] → mr_G p l e { frames := 2, cells := 0, slots := 0, locals := 43 } s m [.ref q, .int p1] below meth c (mr_A L) (mr_Qi E q ad L (mf_withdraw S p1).1 (mf_withdraw S p1).2) H locs (F0 m 29 ls [.int v_29, .ref q]) := by
    intro H locs ls v_29 e_v_29 e0_v_29 hR hS hl
    subst e_v_29
    refine mr_calli (As := [.int (if (mf_isClaim S p1) = true then (if (S 32 p1.toNatClampNeg) = 0 then 0 else 2) else 1)]) (rest := []) ⟨hx, hb, hml, hown, hts⟩ (mt_holds l E q ad L S (if (mf_isClaim S p1) = true then (if (S 32 p1.toNatClampNeg) = 0 then 0 else 2) else 1)) (cwV 1 hts (lw_V q1081 q1083 qs15 q41 q1084) rfl rfl rfl (by decide +kernel) ⟨Nat.le_of_ble_eq_true rfl, Nat.le_of_ble_eq_true rfl⟩) trivial hK hR (fun _ h => h) hS rfl hl.1 rfl (Nat.le_of_ble_eq_true rfl) dX2_withdraw_29 ⟨Nat.le_refl _, Nat.le_refl _⟩ (fun H locs hR hS _ _ => ?_)
    refine lv_if_ne (tgt := 37) hx hb dX2_withdraw_32 (by decide) (fun c_1 => ?_) (fun c_1 => ?_)
    · skip
      have c_1 : ((mf_isClaim S p1) = true) ∧ ((S 32 p1.toNatClampNeg) = 0) := e0_v_29.mp (gs_zt (φ := (if (mf_isClaim S p1) = true then (if (S 32 p1.toNatClampNeg) = 0 then 0 else 2) else 1) = 0) c_1)
      have hf := (if_pos c_1).symm.trans hf
      have c_2 := c_1.1
      have c_3 := c_1.2
      refine lv_aload_n hx hb dX2_withdraw_37 rfl (lv_at hl 0 rfl) ?_
      refine lv_iload_n hx hb dX2_withdraw_38 rfl (lv_at hl 1 rfl) ?_
      refine lv_iconst (v := 2) hx hb dX2_withdraw_39 (by decide) ?_
      refine lv_iconst (v := (-1)) hx hb dX2_withdraw_40 (by decide) ?_
      refine mr_callv (As := [.int p1, .int 2, .int (-1)]) (rest := []) ⟨hx, hb, hml, hown, hts⟩ (mt_ends l E q ad L (gs_up S 0 0 (if (mf_isClaim S p1) = true then (if (S 32 p1.toNatClampNeg) = 0 then 0 else 2) else 1)) p1 2 (-1)) (cwV 3 hts (lw_V q1177 q1179 qs21 q41 q1180) rfl rfl rfl (by decide +kernel) ⟨Nat.le_of_ble_eq_true rfl, Nat.le_of_ble_eq_true rfl⟩) (by first | assumption | exact mi_c hok (by assumption)) hK hR (fun _ h => h) hS rfl hl.1 rfl (Nat.le_of_ble_eq_true rfl) dX2_withdraw_41 ⟨Nat.le_refl _, Nat.le_refl _⟩ (fun H locs hR hS => ?_)
      refine lv_aload_n hx hb dX2_withdraw_44 rfl (lv_at hl 0 rfl) ?_
      refine mr_geti (v := ((mf_ends (gs_up S 0 0 (if (mf_isClaim S p1) = true then (if (S 32 p1.toNatClampNeg) = 0 then 0 else 2) else 1)) p1 2 (-1)) 1 0)) hx hb hts hown hK hR 1 (by decide) rfl (hts _ q952) (fun _ h9 => h9) rfl dX2_withdraw_45 ?_
      exact W.iret (v := ((mf_ends (gs_up S 0 0 (if (mf_isClaim S p1) = true then (if (S 32 p1.toNatClampNeg) = 0 then 0 else 2) else 1)) p1 2 (-1)) 1 0)) hx hb hr (fun t ht hW => ⟨⟨_, _, rfl, ⟨(congrArg Prod.fst hf), (congrArg Prod.snd hf)⟩, mr_bt ht hR⟩, hS.F ht⟩) hS.2.2 dX2_withdraw_48
    · skip
      have c_1 : ¬ (((mf_isClaim S p1) = true) ∧ ((S 32 p1.toNatClampNeg) = 0)) := fun k => gs_zf (φ := (if (mf_isClaim S p1) = true then (if (S 32 p1.toNatClampNeg) = 0 then 0 else 2) else 1) = 0) c_1 (e0_v_29.mpr k)
      have hf := (if_neg c_1).symm.trans hf
      refine lv_iconst (v := 0) hx hb dX2_withdraw_35 (by decide) ?_
      exact W.iret (v := 0) hx hb hr (fun t ht hW => ⟨⟨_, _, rfl, ⟨(congrArg Prod.fst hf), (congrArg Prod.snd hf)⟩, mr_bt ht hR⟩, hS.F ht⟩) hS.2.2 dX2_withdraw_36
  refine lv_if_ne (tgt := 15) hx hb dX2_withdraw_8 (by decide) (fun c_4 => ?_) (fun c_4 => ?_)
  · skip
    have c_4 : (mf_isClaim S p1) = true := gs_zt (φ := (mf_isClaim S p1) = true) c_4
    refine lv_aload_n hx hb dX2_withdraw_15 rfl (lv_at hl 1 rfl) ?_
    refine mr_geta hx hb hts hown hK hR 32 (by decide) rfl (hts _ q983) (fun _ h9 => h9) dX2_withdraw_16 ?_
    refine lv_iload_n hx hb dX2_withdraw_19 rfl (lv_at hl 2 rfl) ?_
    refine mr_ald (v := (S 32 p1.toNatClampNeg)) hx hb hK hR 32 20 rfl (by decide) rfl (by first | assumption | exact mi_c hok (by assumption) | exact mi_e hok (by assumption)) rfl dX2_withdraw_20 ?_
    refine lv_if_eq (tgt := 28) hx hb dX2_withdraw_21 (by decide) (fun c_5 => ?_) (fun c_5 => ?_)
    · skip
      refine lv_iconst (v := 0) hx hb dX2_withdraw_28 (by decide) ?_
      exact hJ_29 _ _ _ 0 (((if_pos c_5).symm).trans (if_pos c_4).symm) (gi_z1 ((gi_cb_t c_5).trans (gi_ca_t c_4))) hR hS (lv_sub hl [1, 2] rfl)
    · skip
      refine lv_iconst (v := 2) hx hb dX2_withdraw_24 (by decide) ?_
      refine lv_goto (tgt := 29) hx hb dX2_withdraw_25 (by decide) ?_
      exact hJ_29 _ _ _ 2 (((if_neg c_5).symm).trans (if_pos c_4).symm) (gi_z0 (by decide) ((gi_cb_f c_5).trans (gi_ca_t c_4))) hR hS (lv_sub hl [1, 2] rfl)
  · skip
    have c_4 : ¬ ((mf_isClaim S p1) = true) := gs_zf (φ := (mf_isClaim S p1) = true) c_4
    refine lv_iconst (v := 1) hx hb dX2_withdraw_11 (by decide) ?_
    refine lv_goto (tgt := 29) hx hb dX2_withdraw_12 (by decide) ?_
    exact hJ_29 _ _ _ 1 ((if_neg c_4).symm) (gi_z0 (by decide) (gi_ca_f c_4)) hR hS (lv_sub hl [1, 2] rfl)
set_option maxHeartbeats 2000000 in
set_option maxRecDepth 100000 in
theorem mt_roomsOf (l : Launch) (E : en_T) (q : Nat) (ad : Nat → Nat) (L : List Nat) (S : gs_T) (p1 : Int32) : Met l yX2_roomsOf (ws_ yX2_roomsOf cX2_roomsOf 2 (some .int)) { frames := 0, cells := 0, slots := 0, locals := 0 } (mr_Pc E q ad L S [.int p1] (vp_in p1 10)) (mr_Qi E q ad L (mf_roomsOf S p1) S) 0 0 (mr_A L) := by
  refine mr_start (by decide) rfl (Nat.le_of_ble_eq_true rfl) ?_
  intro p e s m below meth c ls hx hb hr hlocks hml hown hts hK hP hl hR
  have hl : lv_has ls 2 [(0, .ref q), (1, .int p1)] := hl
  have hS : va_S (mr_A L) s.heap s.heap [] := va_S.rf
  have h_p1 := hP
  have hf : (mf_roomsOf S p1) = (mf_roomsOf S p1) := rfl
  refine lv_iload_n hx hb dX2_roomsOf_0 rfl (lv_at hl 1 rfl) ?_
  refine lv_bipush (v := 6) hx hb dX2_roomsOf_1 (by decide) ?_
  have hJ_21 : ∀ (H : Heap) (locs : List Loc) (ls : Array Slot) (v_21 : Int32), v_21 = (if 6 ≤ p1 then (S 6 ((p1 - 6).toNatClampNeg)) else (1 <<< (p1 &&& 31))) → mr_W E q ad L S H → va_S (mr_A L) s.heap H locs → lv_has ls 2 [] → mr_G p l e { frames := 0, cells := 0, slots := 0, locals := 0 } s m [.ref q, .int p1] below meth c (mr_A L) (mr_Qi E q ad L (mf_roomsOf S p1) S) H locs (F0 m 21 ls [.int v_21]) := by
    intro H locs ls v_21 e_v_21 hR hS hl
    subst e_v_21
    exact W.iret (v := (if 6 ≤ p1 then (S 6 ((p1 - 6).toNatClampNeg)) else (1 <<< (p1 &&& 31)))) hx hb hr (fun t ht hW => ⟨⟨_, _, rfl, ⟨hf, rfl⟩, mr_bt ht hR⟩, hS.F ht⟩) hS.2.2 dX2_roomsOf_21
  refine lv_icmp_ge (tgt := 12) hx hb dX2_roomsOf_3 (by decide) (fun c_1 => ?_) (fun c_1 => ?_)
  · skip
    refine lv_aload_n hx hb dX2_roomsOf_12 rfl (lv_at hl 0 rfl) ?_
    refine mr_geta hx hb hts hown hK hR 6 (by decide) rfl (hts _ q957) (fun _ h9 => h9) dX2_roomsOf_13 ?_
    refine lv_iload_n hx hb dX2_roomsOf_16 rfl (lv_at hl 1 rfl) ?_
    refine lv_bipush (v := 6) hx hb dX2_roomsOf_17 (by decide) ?_
    refine lv_isub hx hb dX2_roomsOf_19 ?_
    refine mr_ald (v := (S 6 ((p1 - 6).toNatClampNeg))) hx hb hK hR 6 4 rfl (by decide) rfl (by first | assumption | exact mi_r6 h_p1 (by assumption)) rfl dX2_roomsOf_20 ?_
    exact hJ_21 _ _ _ (S 6 ((p1 - 6).toNatClampNeg)) ((if_pos c_1).symm) hR hS (lv_sub hl [] rfl)
  · skip
    refine lv_iconst (v := 1) hx hb dX2_roomsOf_6 (by decide) ?_
    refine lv_iload_n hx hb dX2_roomsOf_7 rfl (lv_at hl 1 rfl) ?_
    refine lv_ishl hx hb dX2_roomsOf_8 ?_
    refine lv_goto (tgt := 21) hx hb dX2_roomsOf_9 (by decide) ?_
    exact hJ_21 _ _ _ (1 <<< (p1 &&& 31)) ((if_neg c_1).symm) hR hS (lv_sub hl [] rfl)
set_option maxHeartbeats 2000000 in
set_option maxRecDepth 100000 in
theorem mt_scoreOf (l : Launch) (E : en_T) (q : Nat) (ad : Nat → Nat) (L : List Nat) (S : gs_T) (p1 : Int32) (p2 : Int32) : Met l yX2_scoreOf (ws_ yX2_scoreOf cX2_scoreOf 11 (some .int)) { frames := 1, cells := 0, slots := 0, locals := 21 } (mr_Pc E q ad L S [.int p1, .int p2] (mi_ok S ∧ vp_in p1 30 ∧ vp_in p2 20)) (mr_Qi E q ad L (mf_scoreOf S p1 p2) S) 0 0 (mr_A L) := by
  refine mr_start (by decide) rfl (Nat.le_of_ble_eq_true rfl) ?_
  intro p e s m below meth c ls hx hb hr hlocks hml hown hts hK hP hl hR
  have hl : lv_has ls 11 [(0, .ref q), (1, .int p1), (2, .int p2)] := hl
  have hS : va_S (mr_A L) s.heap s.heap [] := va_S.rf
  obtain ⟨hok, h_p1, h_p2⟩ := hP
  have hf : (mf_scoreOf S p1 p2) = (mf_scoreOf S p1 p2) := rfl
  refine lv_aload_n hx hb dX2_scoreOf_0 rfl (lv_at hl 0 rfl) ?_
  refine mr_geta hx hb hts hown hK hR 9 (by decide) rfl (hts _ q960) (fun _ h9 => h9) dX2_scoreOf_1 ?_
  refine lv_iload_n hx hb dX2_scoreOf_4 rfl (lv_at hl 1 rfl) ?_
  refine mr_ald (v := (S 9 p1.toNatClampNeg)) hx hb hK hR 9 30 rfl (by decide) rfl (by first | assumption | exact mi_f hok (by assumption)) rfl dX2_scoreOf_5 ?_
  refine lv_istore_n (lv' := [(3, .int (S 9 p1.toNatClampNeg)), (0, .ref q), (1, .int p1), (2, .int p2)]) hx hb dX2_scoreOf_6 rfl hl (by decide) rfl (fun ls hl => ?_)
  refine lv_aload_n hx hb dX2_scoreOf_7 rfl (lv_at hl 1 rfl) ?_
  refine mr_geta hx hb hts hown hK hR 3 (by decide) rfl (hts _ q954) (fun _ h9 => h9) dX2_scoreOf_8 ?_
  refine lv_iload_n hx hb dX2_scoreOf_11 rfl (lv_at hl 0 rfl) ?_
  refine mr_ald (v := (S 3 ((S 9 p1.toNatClampNeg).toNatClampNeg))) hx hb hK hR 3 8 rfl (by decide) rfl (by first | assumption | exact mi_k (by assumption) | exact mi_kd hok _ | exact mi_ck hok _) rfl dX2_scoreOf_12 ?_
  refine lv_aload_n hx hb dX2_scoreOf_13 rfl (lv_at hl 1 rfl) ?_
  refine mr_geta hx hb hts hown hK hR 26 (by decide) rfl (hts _ q977) (fun _ h9 => h9) dX2_scoreOf_14 ?_
  refine lv_iload_n hx hb dX2_scoreOf_17 rfl (lv_at hl 3 rfl) ?_
  refine mr_ald (v := (S 26 p2.toNatClampNeg)) hx hb hK hR 26 20 rfl (by decide) rfl (by first | assumption | exact mi_c hok (by assumption) | exact mi_e hok (by assumption)) rfl dX2_scoreOf_18 ?_
  refine lv_ishr hx hb dX2_scoreOf_19 ?_
  refine lv_iconst (v := 1) hx hb dX2_scoreOf_20 (by decide) ?_
  refine lv_iand hx hb dX2_scoreOf_21 ?_
  refine lv_iconst (v := 1) hx hb dX2_scoreOf_22 (by decide) ?_
  have hJ_31 : ∀ (H : Heap) (locs : List Loc) (ls : Array Slot) (v_31 : Int32), v_31 = (if (((S 3 ((S 9 p1.toNatClampNeg).toNatClampNeg)) >>> ((S 26 p2.toNatClampNeg) &&& 31)) &&& 1) = 1 then 1 else 0) → mr_W E q ad L S H → va_S (mr_A L) s.heap H locs → lv_has ls 11 [(0, .ref q), (1, .int p1), (2, .int p2), (3, .int (S 9 p1.toNatClampNeg))] → mr_G p l e { frames := 1, cells := 0, slots := 0, locals := 21 } s m [.ref q, .int p1, .int p2] below meth c (mr_A L) (mr_Qi E q ad L (mf_scoreOf S p1 p2) S) H locs (F0 m 31 ls [.int v_31]) := by
    intro H locs ls v_31 e_v_31 hR hS hl
    subst e_v_31
    refine lv_istore (lv' := [(4, .int (if (((S 3 ((S 9 p1.toNatClampNeg).toNatClampNeg)) >>> ((S 26 p2.toNatClampNeg) &&& 31)) &&& 1) = 1 then 1 else 0)), (0, .ref q), (1, .int p1), (2, .int p2), (3, .int (S 9 p1.toNatClampNeg))]) hx hb dX2_scoreOf_31 hl (by decide) rfl (fun ls hl => ?_)
    refine lv_iload_n hx hb dX2_scoreOf_33 rfl (lv_at hl 4 rfl) ?_
    refine lv_aload_n hx hb dX2_scoreOf_34 rfl (lv_at hl 1 rfl) ?_
    refine mr_geta hx hb hts hown hK hR 26 (by decide) rfl (hts _ q977) (fun _ h9 => h9) dX2_scoreOf_35 ?_
    refine lv_iload_n hx hb dX2_scoreOf_38 rfl (lv_at hl 3 rfl) ?_
    refine mr_ald (v := (S 26 p2.toNatClampNeg)) hx hb hK hR 26 20 rfl (by decide) rfl (by first | assumption | exact mi_c hok (by assumption) | exact mi_e hok (by assumption)) rfl dX2_scoreOf_39 ?_
    refine lv_icmp_eq (tgt := 50) hx hb dX2_scoreOf_40 (by decide) (fun c_1 => ?_) (fun c_1 => ?_)
    · skip
      have hf := (if_pos c_1).symm.trans hf
      refine lv_iload_n hx hb dX2_scoreOf_50 rfl (lv_at hl 4 rfl) ?_
      refine lv_aload_n hx hb dX2_scoreOf_51 rfl (lv_at hl 1 rfl) ?_
      refine mr_geta hx hb hts hown hK hR 26 (by decide) rfl (hts _ q977) (fun _ h9 => h9) dX2_scoreOf_52 ?_
      refine lv_iload_n hx hb dX2_scoreOf_55 rfl (lv_at hl 3 rfl) ?_
      refine mr_ald (v := (S 26 p2.toNatClampNeg)) hx hb hK hR 26 20 rfl (by decide) rfl (by first | assumption | exact mi_c hok (by assumption) | exact mi_e hok (by assumption)) rfl dX2_scoreOf_56 ?_
      have hJ_67 : ∀ (H : Heap) (locs : List Loc) (ls : Array Slot) (v_67 : Int32), v_67 = (if (S 9 p1.toNatClampNeg) = (S 26 p2.toNatClampNeg) then 40 else 15) → mr_W E q ad L S H → va_S (mr_A L) s.heap H locs → lv_has ls 11 [(0, .ref q), (1, .int p1), (2, .int p2)] → mr_G p l e { frames := 1, cells := 0, slots := 0, locals := 21 } s m [.ref q, .int p1, .int p2] below meth c (mr_A L) (mr_Qi E q ad L (mf_scoreOf S p1 p2) S) H locs (F0 m 67 ls [.int v_67]) := by
        intro H locs ls v_67 e_v_67 hR hS hl
        subst e_v_67
        refine lv_istore (lv' := [(5, .int (if (S 9 p1.toNatClampNeg) = (S 26 p2.toNatClampNeg) then 40 else 15)), (0, .ref q), (1, .int p1), (2, .int p2)]) hx hb dX2_scoreOf_67 hl (by decide) rfl (fun ls hl => ?_)
        refine lv_iload hx hb dX2_scoreOf_69 (lv_at hl 0 rfl) ?_
        refine lv_aload_n hx hb dX2_scoreOf_71 rfl (lv_at hl 1 rfl) ?_
        refine mr_geta hx hb hts hown hK hR 10 (by decide) rfl (hts _ q961) (fun _ h9 => h9) dX2_scoreOf_72 ?_
        refine lv_iload_n hx hb dX2_scoreOf_75 rfl (lv_at hl 2 rfl) ?_
        refine mr_ald (v := (S 10 p1.toNatClampNeg)) hx hb hK hR 10 30 rfl (by decide) rfl (by first | assumption | exact mi_f hok (by assumption)) rfl dX2_scoreOf_76 ?_
        refine lv_aload_n hx hb dX2_scoreOf_77 rfl (lv_at hl 1 rfl) ?_
        refine mr_geta hx hb hts hown hK hR 27 (by decide) rfl (hts _ q978) (fun _ h9 => h9) dX2_scoreOf_78 ?_
        refine lv_iload_n hx hb dX2_scoreOf_81 rfl (lv_at hl 3 rfl) ?_
        refine mr_ald (v := (S 27 p2.toNatClampNeg)) hx hb hK hR 27 20 rfl (by decide) rfl (by first | assumption | exact mi_c hok (by assumption) | exact mi_e hok (by assumption)) rfl dX2_scoreOf_82 ?_
        have hJ_121 : ∀ (H : Heap) (locs : List Loc) (ls : Array Slot) (v_121 : Int32), v_121 = (if (S 10 p1.toNatClampNeg) = (S 27 p2.toNatClampNeg) then 20 else (if ((mf_roomsOf S (S 10 p1.toNatClampNeg)) &&& (mf_roomsOf S (S 27 p2.toNatClampNeg))) = 0 then 0 else 10)) → (v_121 = 0 ↔ ((¬ ((S 10 p1.toNatClampNeg) = (S 27 p2.toNatClampNeg))) ∧ (((mf_roomsOf S (S 10 p1.toNatClampNeg)) &&& (mf_roomsOf S (S 27 p2.toNatClampNeg))) = 0))) → mr_W E q ad L S H → va_S (mr_A L) s.heap H locs → lv_has ls 11 [(0, .ref q), (1, .int p1), (2, .int p2)] → mr_G p l e { frames := 1, cells := 0, slots := 0, locals := 21 } s m [.ref q, .int p1, .int p2] below meth c (mr_A L) (mr_Qi E q ad L (mf_scoreOf S p1 p2) S) H locs (F0 m 121 ls [.int v_121, .int (if (S 9 p1.toNatClampNeg) = (S 26 p2.toNatClampNeg) then 40 else 15)]) := by
          intro H locs ls v_121 e_v_121 e0_v_121 hR hS hl
          subst e_v_121
          refine lv_iadd hx hb dX2_scoreOf_121 ?_
          refine lv_istore (lv' := [(5, .int ((if (S 9 p1.toNatClampNeg) = (S 26 p2.toNatClampNeg) then 40 else 15) + (if (S 10 p1.toNatClampNeg) = (S 27 p2.toNatClampNeg) then 20 else (if ((mf_roomsOf S (S 10 p1.toNatClampNeg)) &&& (mf_roomsOf S (S 27 p2.toNatClampNeg))) = 0 then 0 else 10)))), (0, .ref q), (1, .int p1), (2, .int p2)]) hx hb dX2_scoreOf_122 hl (by decide) rfl (fun ls hl => ?_)
          refine lv_aload_n hx hb dX2_scoreOf_124 rfl (lv_at hl 1 rfl) ?_
          refine mr_geta hx hb hts hown hK hR 11 (by decide) rfl (hts _ q962) (fun _ h9 => h9) dX2_scoreOf_125 ?_
          refine lv_iload_n hx hb dX2_scoreOf_128 rfl (lv_at hl 2 rfl) ?_
          refine mr_ald (v := (S 11 p1.toNatClampNeg)) hx hb hK hR 11 30 rfl (by decide) rfl (by first | assumption | exact mi_f hok (by assumption)) rfl dX2_scoreOf_129 ?_
          refine lv_aload_n hx hb dX2_scoreOf_130 rfl (lv_at hl 1 rfl) ?_
          refine mr_geta hx hb hts hown hK hR 29 (by decide) rfl (hts _ q980) (fun _ h9 => h9) dX2_scoreOf_131 ?_
          refine lv_iload_n hx hb dX2_scoreOf_134 rfl (lv_at hl 3 rfl) ?_
          refine mr_ald (v := (S 29 p2.toNatClampNeg)) hx hb hK hR 29 20 rfl (by decide) rfl (by first | assumption | exact mi_c hok (by assumption) | exact mi_e hok (by assumption)) rfl dX2_scoreOf_135 ?_
          refine lv_isub hx hb dX2_scoreOf_136 ?_
          refine lv_istore (lv' := [(6, .int ((S 11 p1.toNatClampNeg) - (S 29 p2.toNatClampNeg))), (5, .int ((if (S 9 p1.toNatClampNeg) = (S 26 p2.toNatClampNeg) then 40 else 15) + (if (S 10 p1.toNatClampNeg) = (S 27 p2.toNatClampNeg) then 20 else (if ((mf_roomsOf S (S 10 p1.toNatClampNeg)) &&& (mf_roomsOf S (S 27 p2.toNatClampNeg))) = 0 then 0 else 10)))), (0, .ref q), (1, .int p1), (2, .int p2)]) hx hb dX2_scoreOf_137 hl (by decide) rfl (fun ls hl => ?_)
          refine lv_iload hx hb dX2_scoreOf_139 (lv_at hl 1 rfl) ?_
          refine lv_aload_n hx hb dX2_scoreOf_141 rfl (lv_at hl 2 rfl) ?_
          refine mr_geta hx hb hts hown hK hR 11 (by decide) rfl (hts _ q962) (fun _ h9 => h9) dX2_scoreOf_142 ?_
          refine lv_iload_n hx hb dX2_scoreOf_145 rfl (lv_at hl 3 rfl) ?_
          refine mr_ald (v := (S 11 p1.toNatClampNeg)) hx hb hK hR 11 30 rfl (by decide) rfl (by first | assumption | exact mi_f hok (by assumption)) rfl dX2_scoreOf_146 ?_
          refine lv_aload_n hx hb dX2_scoreOf_147 rfl (lv_at hl 2 rfl) ?_
          refine mr_geta hx hb hts hown hK hR 28 (by decide) rfl (hts _ q979) (fun _ h9 => h9) dX2_scoreOf_148 ?_
          refine lv_iload_n hx hb dX2_scoreOf_151 rfl (lv_at hl 4 rfl) ?_
          refine mr_ald (v := (S 28 p2.toNatClampNeg)) hx hb hK hR 28 20 rfl (by decide) rfl (by first | assumption | exact mi_c hok (by assumption) | exact mi_e hok (by assumption)) rfl dX2_scoreOf_152 ?_
          have hJ_188 : ∀ (H : Heap) (locs : List Loc) (ls : Array Slot) (v_188 : Int32), v_188 = (if (S 28 p2.toNatClampNeg) ≤ (S 11 p1.toNatClampNeg) then (if 0 < ((S 11 p1.toNatClampNeg) - (S 29 p2.toNatClampNeg)) then (if 10 ≤ ((S 11 p1.toNatClampNeg) - (S 29 p2.toNatClampNeg)) then 0 else (20 - (2 * ((S 11 p1.toNatClampNeg) - (S 29 p2.toNatClampNeg))))) else 20) else 0) → mr_W E q ad L S H → va_S (mr_A L) s.heap H locs → lv_has ls 11 [(0, .ref q), (1, .int p1), (2, .int p2)] → mr_G p l e { frames := 1, cells := 0, slots := 0, locals := 21 } s m [.ref q, .int p1, .int p2] below meth c (mr_A L) (mr_Qi E q ad L (mf_scoreOf S p1 p2) S) H locs (F0 m 188 ls [.int v_188, .int ((if (S 9 p1.toNatClampNeg) = (S 26 p2.toNatClampNeg) then 40 else 15) + (if (S 10 p1.toNatClampNeg) = (S 27 p2.toNatClampNeg) then 20 else (if ((mf_roomsOf S (S 10 p1.toNatClampNeg)) &&& (mf_roomsOf S (S 27 p2.toNatClampNeg))) = 0 then 0 else 10)))]) := by
            intro H locs ls v_188 e_v_188 hR hS hl
            subst e_v_188
            refine lv_iadd hx hb dX2_scoreOf_188 ?_
            refine lv_istore (lv' := [(5, .int (((if (S 9 p1.toNatClampNeg) = (S 26 p2.toNatClampNeg) then 40 else 15) + (if (S 10 p1.toNatClampNeg) = (S 27 p2.toNatClampNeg) then 20 else (if ((mf_roomsOf S (S 10 p1.toNatClampNeg)) &&& (mf_roomsOf S (S 27 p2.toNatClampNeg))) = 0 then 0 else 10))) + (if (S 28 p2.toNatClampNeg) ≤ (S 11 p1.toNatClampNeg) then (if 0 < ((S 11 p1.toNatClampNeg) - (S 29 p2.toNatClampNeg)) then (if 10 ≤ ((S 11 p1.toNatClampNeg) - (S 29 p2.toNatClampNeg)) then 0 else (20 - (2 * ((S 11 p1.toNatClampNeg) - (S 29 p2.toNatClampNeg))))) else 20) else 0))), (0, .ref q), (1, .int p1), (2, .int p2)]) hx hb dX2_scoreOf_189 hl (by decide) rfl (fun ls hl => ?_)
            refine lv_aload_n hx hb dX2_scoreOf_191 rfl (lv_at hl 1 rfl) ?_
            refine mr_geta hx hb hts hown hK hR 12 (by decide) rfl (hts _ q963) (fun _ h9 => h9) dX2_scoreOf_192 ?_
            refine lv_iload_n hx hb dX2_scoreOf_195 rfl (lv_at hl 2 rfl) ?_
            refine mr_ald (v := (S 12 p1.toNatClampNeg)) hx hb hK hR 12 30 rfl (by decide) rfl (by first | assumption | exact mi_f hok (by assumption)) rfl dX2_scoreOf_196 ?_
            refine lv_aload_n hx hb dX2_scoreOf_197 rfl (lv_at hl 1 rfl) ?_
            refine mr_geta hx hb hts hown hK hR 13 (by decide) rfl (hts _ q964) (fun _ h9 => h9) dX2_scoreOf_198 ?_
            refine lv_iload_n hx hb dX2_scoreOf_201 rfl (lv_at hl 2 rfl) ?_
            refine mr_ald (v := (S 13 p1.toNatClampNeg)) hx hb hK hR 13 30 rfl (by decide) rfl (by first | assumption | exact mi_f hok (by assumption)) rfl dX2_scoreOf_202 ?_
            refine lv_aload_n hx hb dX2_scoreOf_203 rfl (lv_at hl 1 rfl) ?_
            refine mr_geta hx hb hts hown hK hR 31 (by decide) rfl (hts _ q982) (fun _ h9 => h9) dX2_scoreOf_204 ?_
            refine lv_iload_n hx hb dX2_scoreOf_207 rfl (lv_at hl 3 rfl) ?_
            refine mr_ald (v := (S 31 p2.toNatClampNeg)) hx hb hK hR 31 20 rfl (by decide) rfl (by first | assumption | exact mi_c hok (by assumption) | exact mi_e hok (by assumption)) rfl dX2_scoreOf_208 ?_
            refine lv_iand hx hb dX2_scoreOf_209 ?_
            refine lv_ior hx hb dX2_scoreOf_210 ?_
            refine lv_istore (lv' := [(7, .int ((S 12 p1.toNatClampNeg) ||| ((S 13 p1.toNatClampNeg) &&& (S 31 p2.toNatClampNeg)))), (5, .int (((if (S 9 p1.toNatClampNeg) = (S 26 p2.toNatClampNeg) then 40 else 15) + (if (S 10 p1.toNatClampNeg) = (S 27 p2.toNatClampNeg) then 20 else (if ((mf_roomsOf S (S 10 p1.toNatClampNeg)) &&& (mf_roomsOf S (S 27 p2.toNatClampNeg))) = 0 then 0 else 10))) + (if (S 28 p2.toNatClampNeg) ≤ (S 11 p1.toNatClampNeg) then (if 0 < ((S 11 p1.toNatClampNeg) - (S 29 p2.toNatClampNeg)) then (if 10 ≤ ((S 11 p1.toNatClampNeg) - (S 29 p2.toNatClampNeg)) then 0 else (20 - (2 * ((S 11 p1.toNatClampNeg) - (S 29 p2.toNatClampNeg))))) else 20) else 0))), (0, .ref q), (1, .int p1), (2, .int p2)]) hx hb dX2_scoreOf_211 hl (by decide) rfl (fun ls hl => ?_)
            refine lv_iconst (v := 0) hx hb dX2_scoreOf_213 (by decide) ?_
            refine lv_istore (lv' := [(8, .int 0), (7, .int ((S 12 p1.toNatClampNeg) ||| ((S 13 p1.toNatClampNeg) &&& (S 31 p2.toNatClampNeg)))), (5, .int (((if (S 9 p1.toNatClampNeg) = (S 26 p2.toNatClampNeg) then 40 else 15) + (if (S 10 p1.toNatClampNeg) = (S 27 p2.toNatClampNeg) then 20 else (if ((mf_roomsOf S (S 10 p1.toNatClampNeg)) &&& (mf_roomsOf S (S 27 p2.toNatClampNeg))) = 0 then 0 else 10))) + (if (S 28 p2.toNatClampNeg) ≤ (S 11 p1.toNatClampNeg) then (if 0 < ((S 11 p1.toNatClampNeg) - (S 29 p2.toNatClampNeg)) then (if 10 ≤ ((S 11 p1.toNatClampNeg) - (S 29 p2.toNatClampNeg)) then 0 else (20 - (2 * ((S 11 p1.toNatClampNeg) - (S 29 p2.toNatClampNeg))))) else 20) else 0))), (0, .ref q), (1, .int p1), (2, .int p2)]) hx hb dX2_scoreOf_214 hl (by decide) rfl (fun ls hl => ?_)
            have hL_216 : ∀ (n_216 i_216 : Nat) (x5_216 : Int32) (H : Heap) (locs : List Loc) (ls : Array Slot), i_216 + n_216 = 24 → mf_scoreOf_R216 S p1 p2 n_216 i_216 x5_216 = (mf_scoreOf_R216 S p1 p2 24 0 (((if (S 9 p1.toNatClampNeg) = (S 26 p2.toNatClampNeg) then 40 else 15) + (if (S 10 p1.toNatClampNeg) = (S 27 p2.toNatClampNeg) then 20 else (if ((mf_roomsOf S (S 10 p1.toNatClampNeg)) &&& (mf_roomsOf S (S 27 p2.toNatClampNeg))) = 0 then 0 else 10))) + (if (S 28 p2.toNatClampNeg) ≤ (S 11 p1.toNatClampNeg) then (if 0 < ((S 11 p1.toNatClampNeg) - (S 29 p2.toNatClampNeg)) then (if 10 ≤ ((S 11 p1.toNatClampNeg) - (S 29 p2.toNatClampNeg)) then 0 else (20 - (2 * ((S 11 p1.toNatClampNeg) - (S 29 p2.toNatClampNeg))))) else 20) else 0))) → mr_W E q ad L S H → va_S (mr_A L) s.heap H locs → lv_has ls 11 [(0, .ref q), (2, .int p2), (5, .int x5_216), (7, .int ((S 12 p1.toNatClampNeg) ||| ((S 13 p1.toNatClampNeg) &&& (S 31 p2.toNatClampNeg)))), (8, .int (nI i_216))] → mr_G p l e { frames := 1, cells := 0, slots := 0, locals := 21 } s m [.ref q, .int p1, .int p2] below meth c (mr_A L) (mr_Qi E q ad L (mf_scoreOf S p1 p2) S) H locs (F0 m 216 ls []) := by
              intro n_216
              induction n_216 with
              | zero =>
                intro i_216 x5_216 H locs ls hi_216 hg_216 hR hS hl
                have hi_216 : i_216 = 24 := hi_216
                subst hi_216
                have e_x5_216 : x5_216 = (mf_scoreOf_R216 S p1 p2 24 0 (((if (S 9 p1.toNatClampNeg) = (S 26 p2.toNatClampNeg) then 40 else 15) + (if (S 10 p1.toNatClampNeg) = (S 27 p2.toNatClampNeg) then 20 else (if ((mf_roomsOf S (S 10 p1.toNatClampNeg)) &&& (mf_roomsOf S (S 27 p2.toNatClampNeg))) = 0 then 0 else 10))) + (if (S 28 p2.toNatClampNeg) ≤ (S 11 p1.toNatClampNeg) then (if 0 < ((S 11 p1.toNatClampNeg) - (S 29 p2.toNatClampNeg)) then (if 10 ≤ ((S 11 p1.toNatClampNeg) - (S 29 p2.toNatClampNeg)) then 0 else (20 - (2 * ((S 11 p1.toNatClampNeg) - (S 29 p2.toNatClampNeg))))) else 20) else 0))) := congrArg (fun z => z) hg_216
                subst e_x5_216
                refine lv_iload hx hb dX2_scoreOf_216 (lv_at hl 4 rfl) ?_
                refine lv_bipush (v := 24) hx hb dX2_scoreOf_218 (by decide) ?_
                refine lv_icmp_ge (tgt := 303) hx hb dX2_scoreOf_220 (by decide) (fun c_2 => ?_) (fun c_2 => absurd (lp_x0 (rfl : (24 : Int32) = nI 24)) c_2)
                refine lv_iload hx hb dX2_scoreOf_303 (lv_at hl 2 rfl) ?_
                have hJ_314 : ∀ (H : Heap) (locs : List Loc) (ls : Array Slot) (v_314 : Int32), v_314 = (if 0 ≤ (mf_scoreOf_R216 S p1 p2 24 0 (((if (S 9 p1.toNatClampNeg) = (S 26 p2.toNatClampNeg) then 40 else 15) + (if (S 10 p1.toNatClampNeg) = (S 27 p2.toNatClampNeg) then 20 else (if ((mf_roomsOf S (S 10 p1.toNatClampNeg)) &&& (mf_roomsOf S (S 27 p2.toNatClampNeg))) = 0 then 0 else 10))) + (if (S 28 p2.toNatClampNeg) ≤ (S 11 p1.toNatClampNeg) then (if 0 < ((S 11 p1.toNatClampNeg) - (S 29 p2.toNatClampNeg)) then (if 10 ≤ ((S 11 p1.toNatClampNeg) - (S 29 p2.toNatClampNeg)) then 0 else (20 - (2 * ((S 11 p1.toNatClampNeg) - (S 29 p2.toNatClampNeg))))) else 20) else 0))) then (mf_scoreOf_R216 S p1 p2 24 0 (((if (S 9 p1.toNatClampNeg) = (S 26 p2.toNatClampNeg) then 40 else 15) + (if (S 10 p1.toNatClampNeg) = (S 27 p2.toNatClampNeg) then 20 else (if ((mf_roomsOf S (S 10 p1.toNatClampNeg)) &&& (mf_roomsOf S (S 27 p2.toNatClampNeg))) = 0 then 0 else 10))) + (if (S 28 p2.toNatClampNeg) ≤ (S 11 p1.toNatClampNeg) then (if 0 < ((S 11 p1.toNatClampNeg) - (S 29 p2.toNatClampNeg)) then (if 10 ≤ ((S 11 p1.toNatClampNeg) - (S 29 p2.toNatClampNeg)) then 0 else (20 - (2 * ((S 11 p1.toNatClampNeg) - (S 29 p2.toNatClampNeg))))) else 20) else 0))) else 0) → mr_W E q ad L S H → va_S (mr_A L) s.heap H locs → lv_has ls 11 [] → mr_G p l e { frames := 1, cells := 0, slots := 0, locals := 21 } s m [.ref q, .int p1, .int p2] below meth c (mr_A L) (mr_Qi E q ad L (mf_scoreOf S p1 p2) S) H locs (F0 m 314 ls [.int v_314]) := by
                  intro H locs ls v_314 e_v_314 hR hS hl
                  subst e_v_314
                  exact W.iret (v := (if 0 ≤ (mf_scoreOf_R216 S p1 p2 24 0 (((if (S 9 p1.toNatClampNeg) = (S 26 p2.toNatClampNeg) then 40 else 15) + (if (S 10 p1.toNatClampNeg) = (S 27 p2.toNatClampNeg) then 20 else (if ((mf_roomsOf S (S 10 p1.toNatClampNeg)) &&& (mf_roomsOf S (S 27 p2.toNatClampNeg))) = 0 then 0 else 10))) + (if (S 28 p2.toNatClampNeg) ≤ (S 11 p1.toNatClampNeg) then (if 0 < ((S 11 p1.toNatClampNeg) - (S 29 p2.toNatClampNeg)) then (if 10 ≤ ((S 11 p1.toNatClampNeg) - (S 29 p2.toNatClampNeg)) then 0 else (20 - (2 * ((S 11 p1.toNatClampNeg) - (S 29 p2.toNatClampNeg))))) else 20) else 0))) then (mf_scoreOf_R216 S p1 p2 24 0 (((if (S 9 p1.toNatClampNeg) = (S 26 p2.toNatClampNeg) then 40 else 15) + (if (S 10 p1.toNatClampNeg) = (S 27 p2.toNatClampNeg) then 20 else (if ((mf_roomsOf S (S 10 p1.toNatClampNeg)) &&& (mf_roomsOf S (S 27 p2.toNatClampNeg))) = 0 then 0 else 10))) + (if (S 28 p2.toNatClampNeg) ≤ (S 11 p1.toNatClampNeg) then (if 0 < ((S 11 p1.toNatClampNeg) - (S 29 p2.toNatClampNeg)) then (if 10 ≤ ((S 11 p1.toNatClampNeg) - (S 29 p2.toNatClampNeg)) then 0 else (20 - (2 * ((S 11 p1.toNatClampNeg) - (S 29 p2.toNatClampNeg))))) else 20) else 0))) else 0)) hx hb hr (fun t ht hW => ⟨⟨_, _, rfl, ⟨hf, rfl⟩, mr_bt ht hR⟩, hS.F ht⟩) hS.2.2 dX2_scoreOf_314
                refine lv_if_ge (tgt := 312) hx hb dX2_scoreOf_305 (by decide) (fun c_3 => ?_) (fun c_3 => ?_)
                · skip
                  refine lv_iload hx hb dX2_scoreOf_312 (lv_at hl 2 rfl) ?_
                  exact hJ_314 _ _ _ (mf_scoreOf_R216 S p1 p2 24 0 (((if (S 9 p1.toNatClampNeg) = (S 26 p2.toNatClampNeg) then 40 else 15) + (if (S 10 p1.toNatClampNeg) = (S 27 p2.toNatClampNeg) then 20 else (if ((mf_roomsOf S (S 10 p1.toNatClampNeg)) &&& (mf_roomsOf S (S 27 p2.toNatClampNeg))) = 0 then 0 else 10))) + (if (S 28 p2.toNatClampNeg) ≤ (S 11 p1.toNatClampNeg) then (if 0 < ((S 11 p1.toNatClampNeg) - (S 29 p2.toNatClampNeg)) then (if 10 ≤ ((S 11 p1.toNatClampNeg) - (S 29 p2.toNatClampNeg)) then 0 else (20 - (2 * ((S 11 p1.toNatClampNeg) - (S 29 p2.toNatClampNeg))))) else 20) else 0))) ((if_pos c_3).symm) hR hS (lv_sub hl [] rfl)
                · skip
                  refine lv_iconst (v := 0) hx hb dX2_scoreOf_308 (by decide) ?_
                  refine lv_goto (tgt := 314) hx hb dX2_scoreOf_309 (by decide) ?_
                  exact hJ_314 _ _ _ 0 ((if_neg c_3).symm) hR hS (lv_sub hl [] rfl)
              | succ n_216 ih_216 =>
                intro i_216 x5_216 H locs ls hi_216 hg_216 hR hS hl
                have hlt_216 : i_216 < 24 := by omega
                have hf_216 : mf_scoreOf_L216 S p1 p2 i_216 x5_216 = mf_scoreOf_L216 S p1 p2 i_216 x5_216 := rfl
                refine lv_iload hx hb dX2_scoreOf_216 (lv_at hl 4 rfl) ?_
                refine lv_bipush (v := 24) hx hb dX2_scoreOf_218 (by decide) ?_
                refine lv_icmp_ge (tgt := 303) hx hb dX2_scoreOf_220 (by decide) (fun c_4 => absurd c_4 (lp_x1 (rfl : (24 : Int32) = nI 24) hlt_216 (by decide))) (fun c_4 => ?_)
                refine lv_aload_n hx hb dX2_scoreOf_223 rfl (lv_at hl 0 rfl) ?_
                refine mr_geta hx hb hts hown hK hR 30 (by decide) rfl (hts _ q981) (fun _ h9 => h9) dX2_scoreOf_224 ?_
                refine lv_iload_n hx hb dX2_scoreOf_227 rfl (lv_at hl 1 rfl) ?_
                refine mr_ald (v := (S 30 p2.toNatClampNeg)) hx hb hK hR 30 20 rfl (by decide) rfl (by first | assumption | exact mi_c hok (by assumption) | exact mi_e hok (by assumption)) rfl dX2_scoreOf_228 ?_
                refine lv_iload hx hb dX2_scoreOf_229 (lv_at hl 4 rfl) ?_
                refine lv_ishr hx hb dX2_scoreOf_231 ?_
                refine lv_iconst (v := 1) hx hb dX2_scoreOf_232 (by decide) ?_
                refine lv_iand hx hb dX2_scoreOf_233 ?_
                refine lv_iconst (v := 1) hx hb dX2_scoreOf_234 (by decide) ?_
                have hJ_243 : ∀ (H : Heap) (locs : List Loc) (ls : Array Slot) (v_243 : Int32), v_243 = (if (((S 30 p2.toNatClampNeg) >>> ((nI i_216) &&& 31)) &&& 1) = 1 then 1 else 0) → mr_W E q ad L S H → va_S (mr_A L) s.heap H locs → lv_has ls 11 [(0, .ref q), (2, .int p2), (5, .int x5_216), (7, .int ((S 12 p1.toNatClampNeg) ||| ((S 13 p1.toNatClampNeg) &&& (S 31 p2.toNatClampNeg)))), (8, .int (nI i_216))] → mr_G p l e { frames := 1, cells := 0, slots := 0, locals := 21 } s m [.ref q, .int p1, .int p2] below meth c (mr_A L) (mr_Qi E q ad L (mf_scoreOf S p1 p2) S) H locs (F0 m 243 ls [.int v_243]) := by
                  intro H locs ls v_243 e_v_243 hR hS hl
                  subst e_v_243
                  refine lv_istore (lv' := [(9, .int (if (((S 30 p2.toNatClampNeg) >>> ((nI i_216) &&& 31)) &&& 1) = 1 then 1 else 0)), (0, .ref q), (2, .int p2), (5, .int x5_216), (7, .int ((S 12 p1.toNatClampNeg) ||| ((S 13 p1.toNatClampNeg) &&& (S 31 p2.toNatClampNeg)))), (8, .int (nI i_216))]) hx hb dX2_scoreOf_243 hl (by decide) rfl (fun ls hl => ?_)
                  refine lv_iload hx hb dX2_scoreOf_245 (lv_at hl 4 rfl) ?_
                  refine lv_iload hx hb dX2_scoreOf_247 (lv_at hl 5 rfl) ?_
                  refine lv_ishr hx hb dX2_scoreOf_249 ?_
                  refine lv_iconst (v := 1) hx hb dX2_scoreOf_250 (by decide) ?_
                  refine lv_iand hx hb dX2_scoreOf_251 ?_
                  refine lv_iconst (v := 1) hx hb dX2_scoreOf_252 (by decide) ?_
                  have hJ_279 : ∀ (H : Heap) (locs : List Loc) (ls : Array Slot) (v_279 : Int32), v_279 = (if ((((S 12 p1.toNatClampNeg) ||| ((S 13 p1.toNatClampNeg) &&& (S 31 p2.toNatClampNeg))) >>> ((nI i_216) &&& 31)) &&& 1) = 1 then 6 else (if (((S 12 p1.toNatClampNeg) ||| ((S 13 p1.toNatClampNeg) &&& (S 31 p2.toNatClampNeg))) &&& (S 2 i_216)) = 0 then (-1) else 3)) → mr_W E q ad L S H → va_S (mr_A L) s.heap H locs → lv_has ls 11 [(0, .ref q), (2, .int p2), (5, .int x5_216), (7, .int ((S 12 p1.toNatClampNeg) ||| ((S 13 p1.toNatClampNeg) &&& (S 31 p2.toNatClampNeg)))), (8, .int (nI i_216)), (9, .int (if (((S 30 p2.toNatClampNeg) >>> ((nI i_216) &&& 31)) &&& 1) = 1 then 1 else 0))] → mr_G p l e { frames := 1, cells := 0, slots := 0, locals := 21 } s m [.ref q, .int p1, .int p2] below meth c (mr_A L) (mr_Qi E q ad L (mf_scoreOf S p1 p2) S) H locs (F0 m 279 ls [.int v_279]) := by
                    intro H locs ls v_279 e_v_279 hR hS hl
                    subst e_v_279
                    refine lv_istore (lv' := [(10, .int (if ((((S 12 p1.toNatClampNeg) ||| ((S 13 p1.toNatClampNeg) &&& (S 31 p2.toNatClampNeg))) >>> ((nI i_216) &&& 31)) &&& 1) = 1 then 6 else (if (((S 12 p1.toNatClampNeg) ||| ((S 13 p1.toNatClampNeg) &&& (S 31 p2.toNatClampNeg))) &&& (S 2 i_216)) = 0 then (-1) else 3))), (0, .ref q), (2, .int p2), (5, .int x5_216), (7, .int ((S 12 p1.toNatClampNeg) ||| ((S 13 p1.toNatClampNeg) &&& (S 31 p2.toNatClampNeg)))), (8, .int (nI i_216)), (9, .int (if (((S 30 p2.toNatClampNeg) >>> ((nI i_216) &&& 31)) &&& 1) = 1 then 1 else 0))]) hx hb dX2_scoreOf_279 hl (by decide) rfl (fun ls hl => ?_)
                    refine lv_iload hx hb dX2_scoreOf_281 (lv_at hl 3 rfl) ?_
                    refine lv_iload hx hb dX2_scoreOf_283 (lv_at hl 6 rfl) ?_
                    have hJ_294 : ∀ (H : Heap) (locs : List Loc) (ls : Array Slot) (v_294 : Int32), v_294 = (if (((S 30 p2.toNatClampNeg) >>> ((nI i_216) &&& 31)) &&& 1) = 1 then (if ((((S 12 p1.toNatClampNeg) ||| ((S 13 p1.toNatClampNeg) &&& (S 31 p2.toNatClampNeg))) >>> ((nI i_216) &&& 31)) &&& 1) = 1 then 6 else (if (((S 12 p1.toNatClampNeg) ||| ((S 13 p1.toNatClampNeg) &&& (S 31 p2.toNatClampNeg))) &&& (S 2 i_216)) = 0 then (-1) else 3)) else 0) → mr_W E q ad L S H → va_S (mr_A L) s.heap H locs → lv_has ls 11 [(0, .ref q), (2, .int p2), (7, .int ((S 12 p1.toNatClampNeg) ||| ((S 13 p1.toNatClampNeg) &&& (S 31 p2.toNatClampNeg)))), (8, .int (nI i_216))] → mr_G p l e { frames := 1, cells := 0, slots := 0, locals := 21 } s m [.ref q, .int p1, .int p2] below meth c (mr_A L) (mr_Qi E q ad L (mf_scoreOf S p1 p2) S) H locs (F0 m 294 ls [.int v_294, .int x5_216]) := by
                      intro H locs ls v_294 e_v_294 hR hS hl
                      subst e_v_294
                      refine lv_iadd hx hb dX2_scoreOf_294 ?_
                      refine lv_istore (lv' := [(5, .int (x5_216 + (if (((S 30 p2.toNatClampNeg) >>> ((nI i_216) &&& 31)) &&& 1) = 1 then (if ((((S 12 p1.toNatClampNeg) ||| ((S 13 p1.toNatClampNeg) &&& (S 31 p2.toNatClampNeg))) >>> ((nI i_216) &&& 31)) &&& 1) = 1 then 6 else (if (((S 12 p1.toNatClampNeg) ||| ((S 13 p1.toNatClampNeg) &&& (S 31 p2.toNatClampNeg))) &&& (S 2 i_216)) = 0 then (-1) else 3)) else 0))), (0, .ref q), (2, .int p2), (7, .int ((S 12 p1.toNatClampNeg) ||| ((S 13 p1.toNatClampNeg) &&& (S 31 p2.toNatClampNeg)))), (8, .int (nI i_216))]) hx hb dX2_scoreOf_295 hl (by decide) rfl (fun ls hl => ?_)
                      refine lv_iinc (v := (nI (i_216 + 1))) (lv' := [(8, .int (nI (i_216 + 1))), (5, .int (x5_216 + (if (((S 30 p2.toNatClampNeg) >>> ((nI i_216) &&& 31)) &&& 1) = 1 then (if ((((S 12 p1.toNatClampNeg) ||| ((S 13 p1.toNatClampNeg) &&& (S 31 p2.toNatClampNeg))) >>> ((nI i_216) &&& 31)) &&& 1) = 1 then 6 else (if (((S 12 p1.toNatClampNeg) ||| ((S 13 p1.toNatClampNeg) &&& (S 31 p2.toNatClampNeg))) &&& (S 2 i_216)) = 0 then (-1) else 3)) else 0))), (0, .ref q), (2, .int p2), (7, .int ((S 12 p1.toNatClampNeg) ||| ((S 13 p1.toNatClampNeg) &&& (S 31 p2.toNatClampNeg))))]) hx hb dX2_scoreOf_297 hl (k := 4) rfl (nI_1 i_216) (by decide) rfl (fun ls hl => ?_)
                      refine lv_goto (tgt := 216) hx hb dX2_scoreOf_300 (by decide) ?_
                      exact ih_216 (i_216 + 1) (x5_216 + (if (((S 30 p2.toNatClampNeg) >>> ((nI i_216) &&& 31)) &&& 1) = 1 then (if ((((S 12 p1.toNatClampNeg) ||| ((S 13 p1.toNatClampNeg) &&& (S 31 p2.toNatClampNeg))) >>> ((nI i_216) &&& 31)) &&& 1) = 1 then 6 else (if (((S 12 p1.toNatClampNeg) ||| ((S 13 p1.toNatClampNeg) &&& (S 31 p2.toNatClampNeg))) &&& (S 2 i_216)) = 0 then (-1) else 3)) else 0)) _ _ _ (by omega) ((congrArg (fun z => mf_scoreOf_R216 S p1 p2 n_216 (i_216 + 1) z) hf_216).trans hg_216) hR hS (lv_sub hl [2, 3, 1, 4, 0] rfl)
                    refine lv_if_eq (tgt := 293) hx hb dX2_scoreOf_285 (by decide) (fun c_5 => ?_) (fun c_5 => ?_)
                    · skip
                      have c_5 : ¬ ((((S 30 p2.toNatClampNeg) >>> ((nI i_216) &&& 31)) &&& 1) = 1) := gs_zf (φ := (((S 30 p2.toNatClampNeg) >>> ((nI i_216) &&& 31)) &&& 1) = 1) c_5
                      refine lv_iconst (v := 0) hx hb dX2_scoreOf_293 (by decide) ?_
                      exact hJ_294 _ _ _ 0 ((if_neg c_5).symm) hR hS (lv_sub hl [1, 2, 4, 5] rfl)
                    · skip
                      have c_5 : (((S 30 p2.toNatClampNeg) >>> ((nI i_216) &&& 31)) &&& 1) = 1 := gs_zt (φ := (((S 30 p2.toNatClampNeg) >>> ((nI i_216) &&& 31)) &&& 1) = 1) c_5
                      refine lv_iload hx hb dX2_scoreOf_288 (lv_at hl 0 rfl) ?_
                      refine lv_goto (tgt := 294) hx hb dX2_scoreOf_290 (by decide) ?_
                      exact hJ_294 _ _ _ (if ((((S 12 p1.toNatClampNeg) ||| ((S 13 p1.toNatClampNeg) &&& (S 31 p2.toNatClampNeg))) >>> ((nI i_216) &&& 31)) &&& 1) = 1 then 6 else (if (((S 12 p1.toNatClampNeg) ||| ((S 13 p1.toNatClampNeg) &&& (S 31 p2.toNatClampNeg))) &&& (S 2 i_216)) = 0 then (-1) else 3)) ((if_pos c_5).symm) hR hS (lv_sub hl [1, 2, 4, 5] rfl)
                  refine lv_icmp_ne (tgt := 261) hx hb dX2_scoreOf_253 (by decide) (fun c_6 => ?_) (fun c_6 => ?_)
                  · skip
                    refine lv_iload hx hb dX2_scoreOf_261 (lv_at hl 4 rfl) ?_
                    refine lv_aload_n hx hb dX2_scoreOf_263 rfl (lv_at hl 1 rfl) ?_
                    refine mr_geta hx hb hts hown hK hR 2 (by decide) rfl (hts _ q953) (fun _ h9 => h9) dX2_scoreOf_264 ?_
                    refine lv_iload hx hb dX2_scoreOf_267 (lv_at hl 5 rfl) ?_
                    refine mr_ald (v := (S 2 i_216)) hx hb hK hR 2 24 rfl (by decide) rfl (by first | assumption | exact vp_in_nI (show i_216 < 24 by omega) (by decide)) ((congrArg (fun z => S 2 z) (nI_clamp (show i_216 < 2 ^ 31 by omega))).trans rfl) dX2_scoreOf_269 ?_
                    refine lv_iand hx hb dX2_scoreOf_270 ?_
                    refine lv_if_eq (tgt := 278) hx hb dX2_scoreOf_271 (by decide) (fun c_7 => ?_) (fun c_7 => ?_)
                    · skip
                      refine lv_iconst (v := (-1)) hx hb dX2_scoreOf_278 (by decide) ?_
                      exact hJ_279 _ _ _ (-1) (((if_pos c_7).symm).trans (if_neg c_6).symm) hR hS (lv_sub hl [1, 2, 3, 4, 5, 0] rfl)
                    · skip
                      refine lv_iconst (v := 3) hx hb dX2_scoreOf_274 (by decide) ?_
                      refine lv_goto (tgt := 279) hx hb dX2_scoreOf_275 (by decide) ?_
                      exact hJ_279 _ _ _ 3 (((if_neg c_7).symm).trans (if_neg c_6).symm) hR hS (lv_sub hl [1, 2, 3, 4, 5, 0] rfl)
                  · skip
                    refine lv_bipush (v := 6) hx hb dX2_scoreOf_256 (by decide) ?_
                    refine lv_goto (tgt := 279) hx hb dX2_scoreOf_258 (by decide) ?_
                    exact hJ_279 _ _ _ 6 ((if_pos c_6).symm) hR hS (lv_sub hl [1, 2, 3, 4, 5, 0] rfl)
                refine lv_icmp_ne (tgt := 242) hx hb dX2_scoreOf_235 (by decide) (fun c_8 => ?_) (fun c_8 => ?_)
                · skip
                  refine lv_iconst (v := 0) hx hb dX2_scoreOf_242 (by decide) ?_
                  exact hJ_243 _ _ _ 0 (gi_0 (gi_cb_f c_8)) hR hS (lv_sub hl [0, 1, 2, 3, 4] rfl)
                · skip
                  refine lv_iconst (v := 1) hx hb dX2_scoreOf_238 (by decide) ?_
                  refine lv_goto (tgt := 243) hx hb dX2_scoreOf_239 (by decide) ?_
                  exact hJ_243 _ _ _ 1 (gi_1 (gi_cb_t c_8)) hR hS (lv_sub hl [0, 1, 2, 3, 4] rfl)
            exact hL_216 24 0 (((if (S 9 p1.toNatClampNeg) = (S 26 p2.toNatClampNeg) then 40 else 15) + (if (S 10 p1.toNatClampNeg) = (S 27 p2.toNatClampNeg) then 20 else (if ((mf_roomsOf S (S 10 p1.toNatClampNeg)) &&& (mf_roomsOf S (S 27 p2.toNatClampNeg))) = 0 then 0 else 10))) + (if (S 28 p2.toNatClampNeg) ≤ (S 11 p1.toNatClampNeg) then (if 0 < ((S 11 p1.toNatClampNeg) - (S 29 p2.toNatClampNeg)) then (if 10 ≤ ((S 11 p1.toNatClampNeg) - (S 29 p2.toNatClampNeg)) then 0 else (20 - (2 * ((S 11 p1.toNatClampNeg) - (S 29 p2.toNatClampNeg))))) else 20) else 0)) _ _ _ (by omega) rfl hR hS (lv_sub hl [3, 5, 2, 1, 0] rfl)
          refine lv_icmp_ge (tgt := 160) hx hb dX2_scoreOf_153 (by decide) (fun c_9 => ?_) (fun c_9 => ?_)
          · skip
            refine lv_iload hx hb dX2_scoreOf_160 (lv_at hl 0 rfl) ?_
            refine lv_if_gt (tgt := 170) hx hb dX2_scoreOf_162 (by decide) (fun c_10 => ?_) (fun c_10 => ?_)
            · skip
              refine lv_iload hx hb dX2_scoreOf_170 (lv_at hl 0 rfl) ?_
              refine lv_bipush (v := 10) hx hb dX2_scoreOf_172 (by decide) ?_
              refine lv_icmp_ge (tgt := 187) hx hb dX2_scoreOf_174 (by decide) (fun c_11 => ?_) (fun c_11 => ?_)
              · skip
                refine lv_iconst (v := 0) hx hb dX2_scoreOf_187 (by decide) ?_
                exact hJ_188 _ _ _ 0 ((((if_pos c_11).symm).trans (if_pos c_10).symm).trans (if_pos c_9).symm) hR hS (lv_sub hl [2, 3, 4] rfl)
              · skip
                refine lv_bipush (v := 20) hx hb dX2_scoreOf_177 (by decide) ?_
                refine lv_iconst (v := 2) hx hb dX2_scoreOf_179 (by decide) ?_
                refine lv_iload hx hb dX2_scoreOf_180 (lv_at hl 0 rfl) ?_
                refine lv_imul hx hb dX2_scoreOf_182 ?_
                refine lv_isub hx hb dX2_scoreOf_183 ?_
                refine lv_goto (tgt := 188) hx hb dX2_scoreOf_184 (by decide) ?_
                exact hJ_188 _ _ _ (20 - (2 * ((S 11 p1.toNatClampNeg) - (S 29 p2.toNatClampNeg)))) ((((if_neg c_11).symm).trans (if_pos c_10).symm).trans (if_pos c_9).symm) hR hS (lv_sub hl [2, 3, 4] rfl)
            · skip
              refine lv_bipush (v := 20) hx hb dX2_scoreOf_165 (by decide) ?_
              refine lv_goto (tgt := 188) hx hb dX2_scoreOf_167 (by decide) ?_
              exact hJ_188 _ _ _ 20 (((if_neg c_10).symm).trans (if_pos c_9).symm) hR hS (lv_sub hl [2, 3, 4] rfl)
          · skip
            refine lv_iconst (v := 0) hx hb dX2_scoreOf_156 (by decide) ?_
            refine lv_goto (tgt := 188) hx hb dX2_scoreOf_157 (by decide) ?_
            exact hJ_188 _ _ _ 0 ((if_neg c_9).symm) hR hS (lv_sub hl [2, 3, 4] rfl)
        refine lv_icmp_ne (tgt := 91) hx hb dX2_scoreOf_83 (by decide) (fun c_12 => ?_) (fun c_12 => ?_)
        · skip
          refine lv_aload_n hx hb dX2_scoreOf_91 rfl (lv_at hl 1 rfl) ?_
          refine lv_aload_n hx hb dX2_scoreOf_92 rfl (lv_at hl 1 rfl) ?_
          refine mr_geta hx hb hts hown hK hR 10 (by decide) rfl (hts _ q961) (fun _ h9 => h9) dX2_scoreOf_93 ?_
          refine lv_iload_n hx hb dX2_scoreOf_96 rfl (lv_at hl 2 rfl) ?_
          refine mr_ald (v := (S 10 p1.toNatClampNeg)) hx hb hK hR 10 30 rfl (by decide) rfl (by first | assumption | exact mi_f hok (by assumption)) rfl dX2_scoreOf_97 ?_
          refine mr_calli (As := [.int (S 10 p1.toNatClampNeg)]) (rest := [.int (if (S 9 p1.toNatClampNeg) = (S 26 p2.toNatClampNeg) then 40 else 15)]) ⟨hx, hb, hml, hown, hts⟩ (mt_roomsOf l E q ad L S (S 10 p1.toNatClampNeg)) (cwV 1 hts (lw_V q1197 q1199 qs25 q41 q1200) rfl rfl rfl (by decide +kernel) ⟨Nat.le_of_ble_eq_true rfl, Nat.le_of_ble_eq_true rfl⟩) (by first | assumption | exact mi_pl hok _ | exact mi_cp hok _) hK hR (fun _ h => h) hS rfl hl.1 rfl (Nat.le_of_ble_eq_true rfl) dX2_scoreOf_98 ⟨Nat.le_refl _, Nat.le_refl _⟩ (fun H locs hR hS _ _ => ?_)
          refine lv_aload_n hx hb dX2_scoreOf_101 rfl (lv_at hl 1 rfl) ?_
          refine lv_aload_n hx hb dX2_scoreOf_102 rfl (lv_at hl 1 rfl) ?_
          refine mr_geta hx hb hts hown hK hR 27 (by decide) rfl (hts _ q978) (fun _ h9 => h9) dX2_scoreOf_103 ?_
          refine lv_iload_n hx hb dX2_scoreOf_106 rfl (lv_at hl 3 rfl) ?_
          refine mr_ald (v := (S 27 p2.toNatClampNeg)) hx hb hK hR 27 20 rfl (by decide) rfl (by first | assumption | exact mi_c hok (by assumption) | exact mi_e hok (by assumption)) rfl dX2_scoreOf_107 ?_
          refine mr_calli (As := [.int (S 27 p2.toNatClampNeg)]) (rest := [.int (mf_roomsOf S (S 10 p1.toNatClampNeg)), .int (if (S 9 p1.toNatClampNeg) = (S 26 p2.toNatClampNeg) then 40 else 15)]) ⟨hx, hb, hml, hown, hts⟩ (mt_roomsOf l E q ad L S (S 27 p2.toNatClampNeg)) (cwV 1 hts (lw_V q1197 q1199 qs25 q41 q1200) rfl rfl rfl (by decide +kernel) ⟨Nat.le_of_ble_eq_true rfl, Nat.le_of_ble_eq_true rfl⟩) (by first | assumption | exact mi_pl hok _ | exact mi_cp hok _) hK hR (fun _ h => h) hS rfl hl.1 rfl (Nat.le_of_ble_eq_true rfl) dX2_scoreOf_108 ⟨Nat.le_refl _, Nat.le_refl _⟩ (fun H locs hR hS _ _ => ?_)
          refine lv_iand hx hb dX2_scoreOf_111 ?_
          refine lv_if_eq (tgt := 120) hx hb dX2_scoreOf_112 (by decide) (fun c_13 => ?_) (fun c_13 => ?_)
          · skip
            refine lv_iconst (v := 0) hx hb dX2_scoreOf_120 (by decide) ?_
            exact hJ_121 _ _ _ 0 (((if_pos c_13).symm).trans (if_neg c_12).symm) (gi_z1 ((gi_cb_t c_13).trans (gi_na_f c_12))) hR hS (lv_sub hl [1, 2, 3] rfl)
          · skip
            refine lv_bipush (v := 10) hx hb dX2_scoreOf_115 (by decide) ?_
            refine lv_goto (tgt := 121) hx hb dX2_scoreOf_117 (by decide) ?_
            exact hJ_121 _ _ _ 10 (((if_neg c_13).symm).trans (if_neg c_12).symm) (gi_z0 (by decide) ((gi_cb_f c_13).trans (gi_na_f c_12))) hR hS (lv_sub hl [1, 2, 3] rfl)
        · skip
          refine lv_bipush (v := 20) hx hb dX2_scoreOf_86 (by decide) ?_
          refine lv_goto (tgt := 121) hx hb dX2_scoreOf_88 (by decide) ?_
          exact hJ_121 _ _ _ 20 ((if_pos c_12).symm) (gi_z0 (by decide) (gi_na_t c_12)) hR hS (lv_sub hl [1, 2, 3] rfl)
      refine lv_icmp_ne (tgt := 65) hx hb dX2_scoreOf_57 (by decide) (fun c_14 => ?_) (fun c_14 => ?_)
      · skip
        refine lv_bipush (v := 15) hx hb dX2_scoreOf_65 (by decide) ?_
        exact hJ_67 _ _ _ 15 ((if_neg c_14).symm) hR hS (lv_sub hl [1, 2, 3] rfl)
      · skip
        refine lv_bipush (v := 40) hx hb dX2_scoreOf_60 (by decide) ?_
        refine lv_goto (tgt := 67) hx hb dX2_scoreOf_62 (by decide) ?_
        exact hJ_67 _ _ _ 40 ((if_pos c_14).symm) hR hS (lv_sub hl [1, 2, 3] rfl)
    · skip
      have hf := (if_neg c_1).symm.trans hf
      refine lv_iload hx hb dX2_scoreOf_43 (lv_at hl 0 rfl) ?_
      refine lv_if_ne (tgt := 50) hx hb dX2_scoreOf_45 (by decide) (fun c_15 => ?_) (fun c_15 => ?_)
      · skip
        have c_15 : (((S 3 ((S 9 p1.toNatClampNeg).toNatClampNeg)) >>> ((S 26 p2.toNatClampNeg) &&& 31)) &&& 1) = 1 := gs_zt (φ := (((S 3 ((S 9 p1.toNatClampNeg).toNatClampNeg)) >>> ((S 26 p2.toNatClampNeg) &&& 31)) &&& 1) = 1) c_15
        have hf := (if_pos c_15).symm.trans hf
        refine lv_iload_n hx hb dX2_scoreOf_50 rfl (lv_at hl 4 rfl) ?_
        refine lv_aload_n hx hb dX2_scoreOf_51 rfl (lv_at hl 1 rfl) ?_
        refine mr_geta hx hb hts hown hK hR 26 (by decide) rfl (hts _ q977) (fun _ h9 => h9) dX2_scoreOf_52 ?_
        refine lv_iload_n hx hb dX2_scoreOf_55 rfl (lv_at hl 3 rfl) ?_
        refine mr_ald (v := (S 26 p2.toNatClampNeg)) hx hb hK hR 26 20 rfl (by decide) rfl (by first | assumption | exact mi_c hok (by assumption) | exact mi_e hok (by assumption)) rfl dX2_scoreOf_56 ?_
        have hJ_67 : ∀ (H : Heap) (locs : List Loc) (ls : Array Slot) (v_67 : Int32), v_67 = (if (S 9 p1.toNatClampNeg) = (S 26 p2.toNatClampNeg) then 40 else 15) → mr_W E q ad L S H → va_S (mr_A L) s.heap H locs → lv_has ls 11 [(0, .ref q), (1, .int p1), (2, .int p2)] → mr_G p l e { frames := 1, cells := 0, slots := 0, locals := 21 } s m [.ref q, .int p1, .int p2] below meth c (mr_A L) (mr_Qi E q ad L (mf_scoreOf S p1 p2) S) H locs (F0 m 67 ls [.int v_67]) := by
          intro H locs ls v_67 e_v_67 hR hS hl
          subst e_v_67
          refine lv_istore (lv' := [(5, .int (if (S 9 p1.toNatClampNeg) = (S 26 p2.toNatClampNeg) then 40 else 15)), (0, .ref q), (1, .int p1), (2, .int p2)]) hx hb dX2_scoreOf_67 hl (by decide) rfl (fun ls hl => ?_)
          refine lv_iload hx hb dX2_scoreOf_69 (lv_at hl 0 rfl) ?_
          refine lv_aload_n hx hb dX2_scoreOf_71 rfl (lv_at hl 1 rfl) ?_
          refine mr_geta hx hb hts hown hK hR 10 (by decide) rfl (hts _ q961) (fun _ h9 => h9) dX2_scoreOf_72 ?_
          refine lv_iload_n hx hb dX2_scoreOf_75 rfl (lv_at hl 2 rfl) ?_
          refine mr_ald (v := (S 10 p1.toNatClampNeg)) hx hb hK hR 10 30 rfl (by decide) rfl (by first | assumption | exact mi_f hok (by assumption)) rfl dX2_scoreOf_76 ?_
          refine lv_aload_n hx hb dX2_scoreOf_77 rfl (lv_at hl 1 rfl) ?_
          refine mr_geta hx hb hts hown hK hR 27 (by decide) rfl (hts _ q978) (fun _ h9 => h9) dX2_scoreOf_78 ?_
          refine lv_iload_n hx hb dX2_scoreOf_81 rfl (lv_at hl 3 rfl) ?_
          refine mr_ald (v := (S 27 p2.toNatClampNeg)) hx hb hK hR 27 20 rfl (by decide) rfl (by first | assumption | exact mi_c hok (by assumption) | exact mi_e hok (by assumption)) rfl dX2_scoreOf_82 ?_
          have hJ_121 : ∀ (H : Heap) (locs : List Loc) (ls : Array Slot) (v_121 : Int32), v_121 = (if (S 10 p1.toNatClampNeg) = (S 27 p2.toNatClampNeg) then 20 else (if ((mf_roomsOf S (S 10 p1.toNatClampNeg)) &&& (mf_roomsOf S (S 27 p2.toNatClampNeg))) = 0 then 0 else 10)) → (v_121 = 0 ↔ ((¬ ((S 10 p1.toNatClampNeg) = (S 27 p2.toNatClampNeg))) ∧ (((mf_roomsOf S (S 10 p1.toNatClampNeg)) &&& (mf_roomsOf S (S 27 p2.toNatClampNeg))) = 0))) → mr_W E q ad L S H → va_S (mr_A L) s.heap H locs → lv_has ls 11 [(0, .ref q), (1, .int p1), (2, .int p2)] → mr_G p l e { frames := 1, cells := 0, slots := 0, locals := 21 } s m [.ref q, .int p1, .int p2] below meth c (mr_A L) (mr_Qi E q ad L (mf_scoreOf S p1 p2) S) H locs (F0 m 121 ls [.int v_121, .int (if (S 9 p1.toNatClampNeg) = (S 26 p2.toNatClampNeg) then 40 else 15)]) := by
            intro H locs ls v_121 e_v_121 e0_v_121 hR hS hl
            subst e_v_121
            refine lv_iadd hx hb dX2_scoreOf_121 ?_
            refine lv_istore (lv' := [(5, .int ((if (S 9 p1.toNatClampNeg) = (S 26 p2.toNatClampNeg) then 40 else 15) + (if (S 10 p1.toNatClampNeg) = (S 27 p2.toNatClampNeg) then 20 else (if ((mf_roomsOf S (S 10 p1.toNatClampNeg)) &&& (mf_roomsOf S (S 27 p2.toNatClampNeg))) = 0 then 0 else 10)))), (0, .ref q), (1, .int p1), (2, .int p2)]) hx hb dX2_scoreOf_122 hl (by decide) rfl (fun ls hl => ?_)
            refine lv_aload_n hx hb dX2_scoreOf_124 rfl (lv_at hl 1 rfl) ?_
            refine mr_geta hx hb hts hown hK hR 11 (by decide) rfl (hts _ q962) (fun _ h9 => h9) dX2_scoreOf_125 ?_
            refine lv_iload_n hx hb dX2_scoreOf_128 rfl (lv_at hl 2 rfl) ?_
            refine mr_ald (v := (S 11 p1.toNatClampNeg)) hx hb hK hR 11 30 rfl (by decide) rfl (by first | assumption | exact mi_f hok (by assumption)) rfl dX2_scoreOf_129 ?_
            refine lv_aload_n hx hb dX2_scoreOf_130 rfl (lv_at hl 1 rfl) ?_
            refine mr_geta hx hb hts hown hK hR 29 (by decide) rfl (hts _ q980) (fun _ h9 => h9) dX2_scoreOf_131 ?_
            refine lv_iload_n hx hb dX2_scoreOf_134 rfl (lv_at hl 3 rfl) ?_
            refine mr_ald (v := (S 29 p2.toNatClampNeg)) hx hb hK hR 29 20 rfl (by decide) rfl (by first | assumption | exact mi_c hok (by assumption) | exact mi_e hok (by assumption)) rfl dX2_scoreOf_135 ?_
            refine lv_isub hx hb dX2_scoreOf_136 ?_
            refine lv_istore (lv' := [(6, .int ((S 11 p1.toNatClampNeg) - (S 29 p2.toNatClampNeg))), (5, .int ((if (S 9 p1.toNatClampNeg) = (S 26 p2.toNatClampNeg) then 40 else 15) + (if (S 10 p1.toNatClampNeg) = (S 27 p2.toNatClampNeg) then 20 else (if ((mf_roomsOf S (S 10 p1.toNatClampNeg)) &&& (mf_roomsOf S (S 27 p2.toNatClampNeg))) = 0 then 0 else 10)))), (0, .ref q), (1, .int p1), (2, .int p2)]) hx hb dX2_scoreOf_137 hl (by decide) rfl (fun ls hl => ?_)
            refine lv_iload hx hb dX2_scoreOf_139 (lv_at hl 1 rfl) ?_
            refine lv_aload_n hx hb dX2_scoreOf_141 rfl (lv_at hl 2 rfl) ?_
            refine mr_geta hx hb hts hown hK hR 11 (by decide) rfl (hts _ q962) (fun _ h9 => h9) dX2_scoreOf_142 ?_
            refine lv_iload_n hx hb dX2_scoreOf_145 rfl (lv_at hl 3 rfl) ?_
            refine mr_ald (v := (S 11 p1.toNatClampNeg)) hx hb hK hR 11 30 rfl (by decide) rfl (by first | assumption | exact mi_f hok (by assumption)) rfl dX2_scoreOf_146 ?_
            refine lv_aload_n hx hb dX2_scoreOf_147 rfl (lv_at hl 2 rfl) ?_
            refine mr_geta hx hb hts hown hK hR 28 (by decide) rfl (hts _ q979) (fun _ h9 => h9) dX2_scoreOf_148 ?_
            refine lv_iload_n hx hb dX2_scoreOf_151 rfl (lv_at hl 4 rfl) ?_
            refine mr_ald (v := (S 28 p2.toNatClampNeg)) hx hb hK hR 28 20 rfl (by decide) rfl (by first | assumption | exact mi_c hok (by assumption) | exact mi_e hok (by assumption)) rfl dX2_scoreOf_152 ?_
            have hJ_188 : ∀ (H : Heap) (locs : List Loc) (ls : Array Slot) (v_188 : Int32), v_188 = (if (S 28 p2.toNatClampNeg) ≤ (S 11 p1.toNatClampNeg) then (if 0 < ((S 11 p1.toNatClampNeg) - (S 29 p2.toNatClampNeg)) then (if 10 ≤ ((S 11 p1.toNatClampNeg) - (S 29 p2.toNatClampNeg)) then 0 else (20 - (2 * ((S 11 p1.toNatClampNeg) - (S 29 p2.toNatClampNeg))))) else 20) else 0) → mr_W E q ad L S H → va_S (mr_A L) s.heap H locs → lv_has ls 11 [(0, .ref q), (1, .int p1), (2, .int p2)] → mr_G p l e { frames := 1, cells := 0, slots := 0, locals := 21 } s m [.ref q, .int p1, .int p2] below meth c (mr_A L) (mr_Qi E q ad L (mf_scoreOf S p1 p2) S) H locs (F0 m 188 ls [.int v_188, .int ((if (S 9 p1.toNatClampNeg) = (S 26 p2.toNatClampNeg) then 40 else 15) + (if (S 10 p1.toNatClampNeg) = (S 27 p2.toNatClampNeg) then 20 else (if ((mf_roomsOf S (S 10 p1.toNatClampNeg)) &&& (mf_roomsOf S (S 27 p2.toNatClampNeg))) = 0 then 0 else 10)))]) := by
              intro H locs ls v_188 e_v_188 hR hS hl
              subst e_v_188
              refine lv_iadd hx hb dX2_scoreOf_188 ?_
              refine lv_istore (lv' := [(5, .int (((if (S 9 p1.toNatClampNeg) = (S 26 p2.toNatClampNeg) then 40 else 15) + (if (S 10 p1.toNatClampNeg) = (S 27 p2.toNatClampNeg) then 20 else (if ((mf_roomsOf S (S 10 p1.toNatClampNeg)) &&& (mf_roomsOf S (S 27 p2.toNatClampNeg))) = 0 then 0 else 10))) + (if (S 28 p2.toNatClampNeg) ≤ (S 11 p1.toNatClampNeg) then (if 0 < ((S 11 p1.toNatClampNeg) - (S 29 p2.toNatClampNeg)) then (if 10 ≤ ((S 11 p1.toNatClampNeg) - (S 29 p2.toNatClampNeg)) then 0 else (20 - (2 * ((S 11 p1.toNatClampNeg) - (S 29 p2.toNatClampNeg))))) else 20) else 0))), (0, .ref q), (1, .int p1), (2, .int p2)]) hx hb dX2_scoreOf_189 hl (by decide) rfl (fun ls hl => ?_)
              refine lv_aload_n hx hb dX2_scoreOf_191 rfl (lv_at hl 1 rfl) ?_
              refine mr_geta hx hb hts hown hK hR 12 (by decide) rfl (hts _ q963) (fun _ h9 => h9) dX2_scoreOf_192 ?_
              refine lv_iload_n hx hb dX2_scoreOf_195 rfl (lv_at hl 2 rfl) ?_
              refine mr_ald (v := (S 12 p1.toNatClampNeg)) hx hb hK hR 12 30 rfl (by decide) rfl (by first | assumption | exact mi_f hok (by assumption)) rfl dX2_scoreOf_196 ?_
              refine lv_aload_n hx hb dX2_scoreOf_197 rfl (lv_at hl 1 rfl) ?_
              refine mr_geta hx hb hts hown hK hR 13 (by decide) rfl (hts _ q964) (fun _ h9 => h9) dX2_scoreOf_198 ?_
              refine lv_iload_n hx hb dX2_scoreOf_201 rfl (lv_at hl 2 rfl) ?_
              refine mr_ald (v := (S 13 p1.toNatClampNeg)) hx hb hK hR 13 30 rfl (by decide) rfl (by first | assumption | exact mi_f hok (by assumption)) rfl dX2_scoreOf_202 ?_
              refine lv_aload_n hx hb dX2_scoreOf_203 rfl (lv_at hl 1 rfl) ?_
              refine mr_geta hx hb hts hown hK hR 31 (by decide) rfl (hts _ q982) (fun _ h9 => h9) dX2_scoreOf_204 ?_
              refine lv_iload_n hx hb dX2_scoreOf_207 rfl (lv_at hl 3 rfl) ?_
              refine mr_ald (v := (S 31 p2.toNatClampNeg)) hx hb hK hR 31 20 rfl (by decide) rfl (by first | assumption | exact mi_c hok (by assumption) | exact mi_e hok (by assumption)) rfl dX2_scoreOf_208 ?_
              refine lv_iand hx hb dX2_scoreOf_209 ?_
              refine lv_ior hx hb dX2_scoreOf_210 ?_
              refine lv_istore (lv' := [(7, .int ((S 12 p1.toNatClampNeg) ||| ((S 13 p1.toNatClampNeg) &&& (S 31 p2.toNatClampNeg)))), (5, .int (((if (S 9 p1.toNatClampNeg) = (S 26 p2.toNatClampNeg) then 40 else 15) + (if (S 10 p1.toNatClampNeg) = (S 27 p2.toNatClampNeg) then 20 else (if ((mf_roomsOf S (S 10 p1.toNatClampNeg)) &&& (mf_roomsOf S (S 27 p2.toNatClampNeg))) = 0 then 0 else 10))) + (if (S 28 p2.toNatClampNeg) ≤ (S 11 p1.toNatClampNeg) then (if 0 < ((S 11 p1.toNatClampNeg) - (S 29 p2.toNatClampNeg)) then (if 10 ≤ ((S 11 p1.toNatClampNeg) - (S 29 p2.toNatClampNeg)) then 0 else (20 - (2 * ((S 11 p1.toNatClampNeg) - (S 29 p2.toNatClampNeg))))) else 20) else 0))), (0, .ref q), (1, .int p1), (2, .int p2)]) hx hb dX2_scoreOf_211 hl (by decide) rfl (fun ls hl => ?_)
              refine lv_iconst (v := 0) hx hb dX2_scoreOf_213 (by decide) ?_
              refine lv_istore (lv' := [(8, .int 0), (7, .int ((S 12 p1.toNatClampNeg) ||| ((S 13 p1.toNatClampNeg) &&& (S 31 p2.toNatClampNeg)))), (5, .int (((if (S 9 p1.toNatClampNeg) = (S 26 p2.toNatClampNeg) then 40 else 15) + (if (S 10 p1.toNatClampNeg) = (S 27 p2.toNatClampNeg) then 20 else (if ((mf_roomsOf S (S 10 p1.toNatClampNeg)) &&& (mf_roomsOf S (S 27 p2.toNatClampNeg))) = 0 then 0 else 10))) + (if (S 28 p2.toNatClampNeg) ≤ (S 11 p1.toNatClampNeg) then (if 0 < ((S 11 p1.toNatClampNeg) - (S 29 p2.toNatClampNeg)) then (if 10 ≤ ((S 11 p1.toNatClampNeg) - (S 29 p2.toNatClampNeg)) then 0 else (20 - (2 * ((S 11 p1.toNatClampNeg) - (S 29 p2.toNatClampNeg))))) else 20) else 0))), (0, .ref q), (1, .int p1), (2, .int p2)]) hx hb dX2_scoreOf_214 hl (by decide) rfl (fun ls hl => ?_)
              have hL_216 : ∀ (n_216 i_216 : Nat) (x5_216 : Int32) (H : Heap) (locs : List Loc) (ls : Array Slot), i_216 + n_216 = 24 → mf_scoreOf_R216 S p1 p2 n_216 i_216 x5_216 = (mf_scoreOf_R216 S p1 p2 24 0 (((if (S 9 p1.toNatClampNeg) = (S 26 p2.toNatClampNeg) then 40 else 15) + (if (S 10 p1.toNatClampNeg) = (S 27 p2.toNatClampNeg) then 20 else (if ((mf_roomsOf S (S 10 p1.toNatClampNeg)) &&& (mf_roomsOf S (S 27 p2.toNatClampNeg))) = 0 then 0 else 10))) + (if (S 28 p2.toNatClampNeg) ≤ (S 11 p1.toNatClampNeg) then (if 0 < ((S 11 p1.toNatClampNeg) - (S 29 p2.toNatClampNeg)) then (if 10 ≤ ((S 11 p1.toNatClampNeg) - (S 29 p2.toNatClampNeg)) then 0 else (20 - (2 * ((S 11 p1.toNatClampNeg) - (S 29 p2.toNatClampNeg))))) else 20) else 0))) → mr_W E q ad L S H → va_S (mr_A L) s.heap H locs → lv_has ls 11 [(0, .ref q), (2, .int p2), (5, .int x5_216), (7, .int ((S 12 p1.toNatClampNeg) ||| ((S 13 p1.toNatClampNeg) &&& (S 31 p2.toNatClampNeg)))), (8, .int (nI i_216))] → mr_G p l e { frames := 1, cells := 0, slots := 0, locals := 21 } s m [.ref q, .int p1, .int p2] below meth c (mr_A L) (mr_Qi E q ad L (mf_scoreOf S p1 p2) S) H locs (F0 m 216 ls []) := by
                intro n_216
                induction n_216 with
                | zero =>
                  intro i_216 x5_216 H locs ls hi_216 hg_216 hR hS hl
                  have hi_216 : i_216 = 24 := hi_216
                  subst hi_216
                  have e_x5_216 : x5_216 = (mf_scoreOf_R216 S p1 p2 24 0 (((if (S 9 p1.toNatClampNeg) = (S 26 p2.toNatClampNeg) then 40 else 15) + (if (S 10 p1.toNatClampNeg) = (S 27 p2.toNatClampNeg) then 20 else (if ((mf_roomsOf S (S 10 p1.toNatClampNeg)) &&& (mf_roomsOf S (S 27 p2.toNatClampNeg))) = 0 then 0 else 10))) + (if (S 28 p2.toNatClampNeg) ≤ (S 11 p1.toNatClampNeg) then (if 0 < ((S 11 p1.toNatClampNeg) - (S 29 p2.toNatClampNeg)) then (if 10 ≤ ((S 11 p1.toNatClampNeg) - (S 29 p2.toNatClampNeg)) then 0 else (20 - (2 * ((S 11 p1.toNatClampNeg) - (S 29 p2.toNatClampNeg))))) else 20) else 0))) := congrArg (fun z => z) hg_216
                  subst e_x5_216
                  refine lv_iload hx hb dX2_scoreOf_216 (lv_at hl 4 rfl) ?_
                  refine lv_bipush (v := 24) hx hb dX2_scoreOf_218 (by decide) ?_
                  refine lv_icmp_ge (tgt := 303) hx hb dX2_scoreOf_220 (by decide) (fun c_16 => ?_) (fun c_16 => absurd (lp_x0 (rfl : (24 : Int32) = nI 24)) c_16)
                  refine lv_iload hx hb dX2_scoreOf_303 (lv_at hl 2 rfl) ?_
                  have hJ_314 : ∀ (H : Heap) (locs : List Loc) (ls : Array Slot) (v_314 : Int32), v_314 = (if 0 ≤ (mf_scoreOf_R216 S p1 p2 24 0 (((if (S 9 p1.toNatClampNeg) = (S 26 p2.toNatClampNeg) then 40 else 15) + (if (S 10 p1.toNatClampNeg) = (S 27 p2.toNatClampNeg) then 20 else (if ((mf_roomsOf S (S 10 p1.toNatClampNeg)) &&& (mf_roomsOf S (S 27 p2.toNatClampNeg))) = 0 then 0 else 10))) + (if (S 28 p2.toNatClampNeg) ≤ (S 11 p1.toNatClampNeg) then (if 0 < ((S 11 p1.toNatClampNeg) - (S 29 p2.toNatClampNeg)) then (if 10 ≤ ((S 11 p1.toNatClampNeg) - (S 29 p2.toNatClampNeg)) then 0 else (20 - (2 * ((S 11 p1.toNatClampNeg) - (S 29 p2.toNatClampNeg))))) else 20) else 0))) then (mf_scoreOf_R216 S p1 p2 24 0 (((if (S 9 p1.toNatClampNeg) = (S 26 p2.toNatClampNeg) then 40 else 15) + (if (S 10 p1.toNatClampNeg) = (S 27 p2.toNatClampNeg) then 20 else (if ((mf_roomsOf S (S 10 p1.toNatClampNeg)) &&& (mf_roomsOf S (S 27 p2.toNatClampNeg))) = 0 then 0 else 10))) + (if (S 28 p2.toNatClampNeg) ≤ (S 11 p1.toNatClampNeg) then (if 0 < ((S 11 p1.toNatClampNeg) - (S 29 p2.toNatClampNeg)) then (if 10 ≤ ((S 11 p1.toNatClampNeg) - (S 29 p2.toNatClampNeg)) then 0 else (20 - (2 * ((S 11 p1.toNatClampNeg) - (S 29 p2.toNatClampNeg))))) else 20) else 0))) else 0) → mr_W E q ad L S H → va_S (mr_A L) s.heap H locs → lv_has ls 11 [] → mr_G p l e { frames := 1, cells := 0, slots := 0, locals := 21 } s m [.ref q, .int p1, .int p2] below meth c (mr_A L) (mr_Qi E q ad L (mf_scoreOf S p1 p2) S) H locs (F0 m 314 ls [.int v_314]) := by
                    intro H locs ls v_314 e_v_314 hR hS hl
                    subst e_v_314
                    exact W.iret (v := (if 0 ≤ (mf_scoreOf_R216 S p1 p2 24 0 (((if (S 9 p1.toNatClampNeg) = (S 26 p2.toNatClampNeg) then 40 else 15) + (if (S 10 p1.toNatClampNeg) = (S 27 p2.toNatClampNeg) then 20 else (if ((mf_roomsOf S (S 10 p1.toNatClampNeg)) &&& (mf_roomsOf S (S 27 p2.toNatClampNeg))) = 0 then 0 else 10))) + (if (S 28 p2.toNatClampNeg) ≤ (S 11 p1.toNatClampNeg) then (if 0 < ((S 11 p1.toNatClampNeg) - (S 29 p2.toNatClampNeg)) then (if 10 ≤ ((S 11 p1.toNatClampNeg) - (S 29 p2.toNatClampNeg)) then 0 else (20 - (2 * ((S 11 p1.toNatClampNeg) - (S 29 p2.toNatClampNeg))))) else 20) else 0))) then (mf_scoreOf_R216 S p1 p2 24 0 (((if (S 9 p1.toNatClampNeg) = (S 26 p2.toNatClampNeg) then 40 else 15) + (if (S 10 p1.toNatClampNeg) = (S 27 p2.toNatClampNeg) then 20 else (if ((mf_roomsOf S (S 10 p1.toNatClampNeg)) &&& (mf_roomsOf S (S 27 p2.toNatClampNeg))) = 0 then 0 else 10))) + (if (S 28 p2.toNatClampNeg) ≤ (S 11 p1.toNatClampNeg) then (if 0 < ((S 11 p1.toNatClampNeg) - (S 29 p2.toNatClampNeg)) then (if 10 ≤ ((S 11 p1.toNatClampNeg) - (S 29 p2.toNatClampNeg)) then 0 else (20 - (2 * ((S 11 p1.toNatClampNeg) - (S 29 p2.toNatClampNeg))))) else 20) else 0))) else 0)) hx hb hr (fun t ht hW => ⟨⟨_, _, rfl, ⟨hf, rfl⟩, mr_bt ht hR⟩, hS.F ht⟩) hS.2.2 dX2_scoreOf_314
                  refine lv_if_ge (tgt := 312) hx hb dX2_scoreOf_305 (by decide) (fun c_17 => ?_) (fun c_17 => ?_)
                  · skip
                    refine lv_iload hx hb dX2_scoreOf_312 (lv_at hl 2 rfl) ?_
                    exact hJ_314 _ _ _ (mf_scoreOf_R216 S p1 p2 24 0 (((if (S 9 p1.toNatClampNeg) = (S 26 p2.toNatClampNeg) then 40 else 15) + (if (S 10 p1.toNatClampNeg) = (S 27 p2.toNatClampNeg) then 20 else (if ((mf_roomsOf S (S 10 p1.toNatClampNeg)) &&& (mf_roomsOf S (S 27 p2.toNatClampNeg))) = 0 then 0 else 10))) + (if (S 28 p2.toNatClampNeg) ≤ (S 11 p1.toNatClampNeg) then (if 0 < ((S 11 p1.toNatClampNeg) - (S 29 p2.toNatClampNeg)) then (if 10 ≤ ((S 11 p1.toNatClampNeg) - (S 29 p2.toNatClampNeg)) then 0 else (20 - (2 * ((S 11 p1.toNatClampNeg) - (S 29 p2.toNatClampNeg))))) else 20) else 0))) ((if_pos c_17).symm) hR hS (lv_sub hl [] rfl)
                  · skip
                    refine lv_iconst (v := 0) hx hb dX2_scoreOf_308 (by decide) ?_
                    refine lv_goto (tgt := 314) hx hb dX2_scoreOf_309 (by decide) ?_
                    exact hJ_314 _ _ _ 0 ((if_neg c_17).symm) hR hS (lv_sub hl [] rfl)
                | succ n_216 ih_216 =>
                  intro i_216 x5_216 H locs ls hi_216 hg_216 hR hS hl
                  have hlt_216 : i_216 < 24 := by omega
                  have hf_216 : mf_scoreOf_L216 S p1 p2 i_216 x5_216 = mf_scoreOf_L216 S p1 p2 i_216 x5_216 := rfl
                  refine lv_iload hx hb dX2_scoreOf_216 (lv_at hl 4 rfl) ?_
                  refine lv_bipush (v := 24) hx hb dX2_scoreOf_218 (by decide) ?_
                  refine lv_icmp_ge (tgt := 303) hx hb dX2_scoreOf_220 (by decide) (fun c_18 => absurd c_18 (lp_x1 (rfl : (24 : Int32) = nI 24) hlt_216 (by decide))) (fun c_18 => ?_)
                  refine lv_aload_n hx hb dX2_scoreOf_223 rfl (lv_at hl 0 rfl) ?_
                  refine mr_geta hx hb hts hown hK hR 30 (by decide) rfl (hts _ q981) (fun _ h9 => h9) dX2_scoreOf_224 ?_
                  refine lv_iload_n hx hb dX2_scoreOf_227 rfl (lv_at hl 1 rfl) ?_
                  refine mr_ald (v := (S 30 p2.toNatClampNeg)) hx hb hK hR 30 20 rfl (by decide) rfl (by first | assumption | exact mi_c hok (by assumption) | exact mi_e hok (by assumption)) rfl dX2_scoreOf_228 ?_
                  refine lv_iload hx hb dX2_scoreOf_229 (lv_at hl 4 rfl) ?_
                  refine lv_ishr hx hb dX2_scoreOf_231 ?_
                  refine lv_iconst (v := 1) hx hb dX2_scoreOf_232 (by decide) ?_
                  refine lv_iand hx hb dX2_scoreOf_233 ?_
                  refine lv_iconst (v := 1) hx hb dX2_scoreOf_234 (by decide) ?_
                  have hJ_243 : ∀ (H : Heap) (locs : List Loc) (ls : Array Slot) (v_243 : Int32), v_243 = (if (((S 30 p2.toNatClampNeg) >>> ((nI i_216) &&& 31)) &&& 1) = 1 then 1 else 0) → mr_W E q ad L S H → va_S (mr_A L) s.heap H locs → lv_has ls 11 [(0, .ref q), (2, .int p2), (5, .int x5_216), (7, .int ((S 12 p1.toNatClampNeg) ||| ((S 13 p1.toNatClampNeg) &&& (S 31 p2.toNatClampNeg)))), (8, .int (nI i_216))] → mr_G p l e { frames := 1, cells := 0, slots := 0, locals := 21 } s m [.ref q, .int p1, .int p2] below meth c (mr_A L) (mr_Qi E q ad L (mf_scoreOf S p1 p2) S) H locs (F0 m 243 ls [.int v_243]) := by
                    intro H locs ls v_243 e_v_243 hR hS hl
                    subst e_v_243
                    refine lv_istore (lv' := [(9, .int (if (((S 30 p2.toNatClampNeg) >>> ((nI i_216) &&& 31)) &&& 1) = 1 then 1 else 0)), (0, .ref q), (2, .int p2), (5, .int x5_216), (7, .int ((S 12 p1.toNatClampNeg) ||| ((S 13 p1.toNatClampNeg) &&& (S 31 p2.toNatClampNeg)))), (8, .int (nI i_216))]) hx hb dX2_scoreOf_243 hl (by decide) rfl (fun ls hl => ?_)
                    refine lv_iload hx hb dX2_scoreOf_245 (lv_at hl 4 rfl) ?_
                    refine lv_iload hx hb dX2_scoreOf_247 (lv_at hl 5 rfl) ?_
                    refine lv_ishr hx hb dX2_scoreOf_249 ?_
                    refine lv_iconst (v := 1) hx hb dX2_scoreOf_250 (by decide) ?_
                    refine lv_iand hx hb dX2_scoreOf_251 ?_
                    refine lv_iconst (v := 1) hx hb dX2_scoreOf_252 (by decide) ?_
                    have hJ_279 : ∀ (H : Heap) (locs : List Loc) (ls : Array Slot) (v_279 : Int32), v_279 = (if ((((S 12 p1.toNatClampNeg) ||| ((S 13 p1.toNatClampNeg) &&& (S 31 p2.toNatClampNeg))) >>> ((nI i_216) &&& 31)) &&& 1) = 1 then 6 else (if (((S 12 p1.toNatClampNeg) ||| ((S 13 p1.toNatClampNeg) &&& (S 31 p2.toNatClampNeg))) &&& (S 2 i_216)) = 0 then (-1) else 3)) → mr_W E q ad L S H → va_S (mr_A L) s.heap H locs → lv_has ls 11 [(0, .ref q), (2, .int p2), (5, .int x5_216), (7, .int ((S 12 p1.toNatClampNeg) ||| ((S 13 p1.toNatClampNeg) &&& (S 31 p2.toNatClampNeg)))), (8, .int (nI i_216)), (9, .int (if (((S 30 p2.toNatClampNeg) >>> ((nI i_216) &&& 31)) &&& 1) = 1 then 1 else 0))] → mr_G p l e { frames := 1, cells := 0, slots := 0, locals := 21 } s m [.ref q, .int p1, .int p2] below meth c (mr_A L) (mr_Qi E q ad L (mf_scoreOf S p1 p2) S) H locs (F0 m 279 ls [.int v_279]) := by
                      intro H locs ls v_279 e_v_279 hR hS hl
                      subst e_v_279
                      refine lv_istore (lv' := [(10, .int (if ((((S 12 p1.toNatClampNeg) ||| ((S 13 p1.toNatClampNeg) &&& (S 31 p2.toNatClampNeg))) >>> ((nI i_216) &&& 31)) &&& 1) = 1 then 6 else (if (((S 12 p1.toNatClampNeg) ||| ((S 13 p1.toNatClampNeg) &&& (S 31 p2.toNatClampNeg))) &&& (S 2 i_216)) = 0 then (-1) else 3))), (0, .ref q), (2, .int p2), (5, .int x5_216), (7, .int ((S 12 p1.toNatClampNeg) ||| ((S 13 p1.toNatClampNeg) &&& (S 31 p2.toNatClampNeg)))), (8, .int (nI i_216)), (9, .int (if (((S 30 p2.toNatClampNeg) >>> ((nI i_216) &&& 31)) &&& 1) = 1 then 1 else 0))]) hx hb dX2_scoreOf_279 hl (by decide) rfl (fun ls hl => ?_)
                      refine lv_iload hx hb dX2_scoreOf_281 (lv_at hl 3 rfl) ?_
                      refine lv_iload hx hb dX2_scoreOf_283 (lv_at hl 6 rfl) ?_
                      have hJ_294 : ∀ (H : Heap) (locs : List Loc) (ls : Array Slot) (v_294 : Int32), v_294 = (if (((S 30 p2.toNatClampNeg) >>> ((nI i_216) &&& 31)) &&& 1) = 1 then (if ((((S 12 p1.toNatClampNeg) ||| ((S 13 p1.toNatClampNeg) &&& (S 31 p2.toNatClampNeg))) >>> ((nI i_216) &&& 31)) &&& 1) = 1 then 6 else (if (((S 12 p1.toNatClampNeg) ||| ((S 13 p1.toNatClampNeg) &&& (S 31 p2.toNatClampNeg))) &&& (S 2 i_216)) = 0 then (-1) else 3)) else 0) → mr_W E q ad L S H → va_S (mr_A L) s.heap H locs → lv_has ls 11 [(0, .ref q), (2, .int p2), (7, .int ((S 12 p1.toNatClampNeg) ||| ((S 13 p1.toNatClampNeg) &&& (S 31 p2.toNatClampNeg)))), (8, .int (nI i_216))] → mr_G p l e { frames := 1, cells := 0, slots := 0, locals := 21 } s m [.ref q, .int p1, .int p2] below meth c (mr_A L) (mr_Qi E q ad L (mf_scoreOf S p1 p2) S) H locs (F0 m 294 ls [.int v_294, .int x5_216]) := by
                        intro H locs ls v_294 e_v_294 hR hS hl
                        subst e_v_294
                        refine lv_iadd hx hb dX2_scoreOf_294 ?_
                        refine lv_istore (lv' := [(5, .int (x5_216 + (if (((S 30 p2.toNatClampNeg) >>> ((nI i_216) &&& 31)) &&& 1) = 1 then (if ((((S 12 p1.toNatClampNeg) ||| ((S 13 p1.toNatClampNeg) &&& (S 31 p2.toNatClampNeg))) >>> ((nI i_216) &&& 31)) &&& 1) = 1 then 6 else (if (((S 12 p1.toNatClampNeg) ||| ((S 13 p1.toNatClampNeg) &&& (S 31 p2.toNatClampNeg))) &&& (S 2 i_216)) = 0 then (-1) else 3)) else 0))), (0, .ref q), (2, .int p2), (7, .int ((S 12 p1.toNatClampNeg) ||| ((S 13 p1.toNatClampNeg) &&& (S 31 p2.toNatClampNeg)))), (8, .int (nI i_216))]) hx hb dX2_scoreOf_295 hl (by decide) rfl (fun ls hl => ?_)
                        refine lv_iinc (v := (nI (i_216 + 1))) (lv' := [(8, .int (nI (i_216 + 1))), (5, .int (x5_216 + (if (((S 30 p2.toNatClampNeg) >>> ((nI i_216) &&& 31)) &&& 1) = 1 then (if ((((S 12 p1.toNatClampNeg) ||| ((S 13 p1.toNatClampNeg) &&& (S 31 p2.toNatClampNeg))) >>> ((nI i_216) &&& 31)) &&& 1) = 1 then 6 else (if (((S 12 p1.toNatClampNeg) ||| ((S 13 p1.toNatClampNeg) &&& (S 31 p2.toNatClampNeg))) &&& (S 2 i_216)) = 0 then (-1) else 3)) else 0))), (0, .ref q), (2, .int p2), (7, .int ((S 12 p1.toNatClampNeg) ||| ((S 13 p1.toNatClampNeg) &&& (S 31 p2.toNatClampNeg))))]) hx hb dX2_scoreOf_297 hl (k := 4) rfl (nI_1 i_216) (by decide) rfl (fun ls hl => ?_)
                        refine lv_goto (tgt := 216) hx hb dX2_scoreOf_300 (by decide) ?_
                        exact ih_216 (i_216 + 1) (x5_216 + (if (((S 30 p2.toNatClampNeg) >>> ((nI i_216) &&& 31)) &&& 1) = 1 then (if ((((S 12 p1.toNatClampNeg) ||| ((S 13 p1.toNatClampNeg) &&& (S 31 p2.toNatClampNeg))) >>> ((nI i_216) &&& 31)) &&& 1) = 1 then 6 else (if (((S 12 p1.toNatClampNeg) ||| ((S 13 p1.toNatClampNeg) &&& (S 31 p2.toNatClampNeg))) &&& (S 2 i_216)) = 0 then (-1) else 3)) else 0)) _ _ _ (by omega) ((congrArg (fun z => mf_scoreOf_R216 S p1 p2 n_216 (i_216 + 1) z) hf_216).trans hg_216) hR hS (lv_sub hl [2, 3, 1, 4, 0] rfl)
                      refine lv_if_eq (tgt := 293) hx hb dX2_scoreOf_285 (by decide) (fun c_19 => ?_) (fun c_19 => ?_)
                      · skip
                        have c_19 : ¬ ((((S 30 p2.toNatClampNeg) >>> ((nI i_216) &&& 31)) &&& 1) = 1) := gs_zf (φ := (((S 30 p2.toNatClampNeg) >>> ((nI i_216) &&& 31)) &&& 1) = 1) c_19
                        refine lv_iconst (v := 0) hx hb dX2_scoreOf_293 (by decide) ?_
                        exact hJ_294 _ _ _ 0 ((if_neg c_19).symm) hR hS (lv_sub hl [1, 2, 4, 5] rfl)
                      · skip
                        have c_19 : (((S 30 p2.toNatClampNeg) >>> ((nI i_216) &&& 31)) &&& 1) = 1 := gs_zt (φ := (((S 30 p2.toNatClampNeg) >>> ((nI i_216) &&& 31)) &&& 1) = 1) c_19
                        refine lv_iload hx hb dX2_scoreOf_288 (lv_at hl 0 rfl) ?_
                        refine lv_goto (tgt := 294) hx hb dX2_scoreOf_290 (by decide) ?_
                        exact hJ_294 _ _ _ (if ((((S 12 p1.toNatClampNeg) ||| ((S 13 p1.toNatClampNeg) &&& (S 31 p2.toNatClampNeg))) >>> ((nI i_216) &&& 31)) &&& 1) = 1 then 6 else (if (((S 12 p1.toNatClampNeg) ||| ((S 13 p1.toNatClampNeg) &&& (S 31 p2.toNatClampNeg))) &&& (S 2 i_216)) = 0 then (-1) else 3)) ((if_pos c_19).symm) hR hS (lv_sub hl [1, 2, 4, 5] rfl)
                    refine lv_icmp_ne (tgt := 261) hx hb dX2_scoreOf_253 (by decide) (fun c_20 => ?_) (fun c_20 => ?_)
                    · skip
                      refine lv_iload hx hb dX2_scoreOf_261 (lv_at hl 4 rfl) ?_
                      refine lv_aload_n hx hb dX2_scoreOf_263 rfl (lv_at hl 1 rfl) ?_
                      refine mr_geta hx hb hts hown hK hR 2 (by decide) rfl (hts _ q953) (fun _ h9 => h9) dX2_scoreOf_264 ?_
                      refine lv_iload hx hb dX2_scoreOf_267 (lv_at hl 5 rfl) ?_
                      refine mr_ald (v := (S 2 i_216)) hx hb hK hR 2 24 rfl (by decide) rfl (by first | assumption | exact vp_in_nI (show i_216 < 24 by omega) (by decide)) ((congrArg (fun z => S 2 z) (nI_clamp (show i_216 < 2 ^ 31 by omega))).trans rfl) dX2_scoreOf_269 ?_
                      refine lv_iand hx hb dX2_scoreOf_270 ?_
                      refine lv_if_eq (tgt := 278) hx hb dX2_scoreOf_271 (by decide) (fun c_21 => ?_) (fun c_21 => ?_)
                      · skip
                        refine lv_iconst (v := (-1)) hx hb dX2_scoreOf_278 (by decide) ?_
                        exact hJ_279 _ _ _ (-1) (((if_pos c_21).symm).trans (if_neg c_20).symm) hR hS (lv_sub hl [1, 2, 3, 4, 5, 0] rfl)
                      · skip
                        refine lv_iconst (v := 3) hx hb dX2_scoreOf_274 (by decide) ?_
                        refine lv_goto (tgt := 279) hx hb dX2_scoreOf_275 (by decide) ?_
                        exact hJ_279 _ _ _ 3 (((if_neg c_21).symm).trans (if_neg c_20).symm) hR hS (lv_sub hl [1, 2, 3, 4, 5, 0] rfl)
                    · skip
                      refine lv_bipush (v := 6) hx hb dX2_scoreOf_256 (by decide) ?_
                      refine lv_goto (tgt := 279) hx hb dX2_scoreOf_258 (by decide) ?_
                      exact hJ_279 _ _ _ 6 ((if_pos c_20).symm) hR hS (lv_sub hl [1, 2, 3, 4, 5, 0] rfl)
                  refine lv_icmp_ne (tgt := 242) hx hb dX2_scoreOf_235 (by decide) (fun c_22 => ?_) (fun c_22 => ?_)
                  · skip
                    refine lv_iconst (v := 0) hx hb dX2_scoreOf_242 (by decide) ?_
                    exact hJ_243 _ _ _ 0 (gi_0 (gi_cb_f c_22)) hR hS (lv_sub hl [0, 1, 2, 3, 4] rfl)
                  · skip
                    refine lv_iconst (v := 1) hx hb dX2_scoreOf_238 (by decide) ?_
                    refine lv_goto (tgt := 243) hx hb dX2_scoreOf_239 (by decide) ?_
                    exact hJ_243 _ _ _ 1 (gi_1 (gi_cb_t c_22)) hR hS (lv_sub hl [0, 1, 2, 3, 4] rfl)
              exact hL_216 24 0 (((if (S 9 p1.toNatClampNeg) = (S 26 p2.toNatClampNeg) then 40 else 15) + (if (S 10 p1.toNatClampNeg) = (S 27 p2.toNatClampNeg) then 20 else (if ((mf_roomsOf S (S 10 p1.toNatClampNeg)) &&& (mf_roomsOf S (S 27 p2.toNatClampNeg))) = 0 then 0 else 10))) + (if (S 28 p2.toNatClampNeg) ≤ (S 11 p1.toNatClampNeg) then (if 0 < ((S 11 p1.toNatClampNeg) - (S 29 p2.toNatClampNeg)) then (if 10 ≤ ((S 11 p1.toNatClampNeg) - (S 29 p2.toNatClampNeg)) then 0 else (20 - (2 * ((S 11 p1.toNatClampNeg) - (S 29 p2.toNatClampNeg))))) else 20) else 0)) _ _ _ (by omega) rfl hR hS (lv_sub hl [3, 5, 2, 1, 0] rfl)
            refine lv_icmp_ge (tgt := 160) hx hb dX2_scoreOf_153 (by decide) (fun c_23 => ?_) (fun c_23 => ?_)
            · skip
              refine lv_iload hx hb dX2_scoreOf_160 (lv_at hl 0 rfl) ?_
              refine lv_if_gt (tgt := 170) hx hb dX2_scoreOf_162 (by decide) (fun c_24 => ?_) (fun c_24 => ?_)
              · skip
                refine lv_iload hx hb dX2_scoreOf_170 (lv_at hl 0 rfl) ?_
                refine lv_bipush (v := 10) hx hb dX2_scoreOf_172 (by decide) ?_
                refine lv_icmp_ge (tgt := 187) hx hb dX2_scoreOf_174 (by decide) (fun c_25 => ?_) (fun c_25 => ?_)
                · skip
                  refine lv_iconst (v := 0) hx hb dX2_scoreOf_187 (by decide) ?_
                  exact hJ_188 _ _ _ 0 ((((if_pos c_25).symm).trans (if_pos c_24).symm).trans (if_pos c_23).symm) hR hS (lv_sub hl [2, 3, 4] rfl)
                · skip
                  refine lv_bipush (v := 20) hx hb dX2_scoreOf_177 (by decide) ?_
                  refine lv_iconst (v := 2) hx hb dX2_scoreOf_179 (by decide) ?_
                  refine lv_iload hx hb dX2_scoreOf_180 (lv_at hl 0 rfl) ?_
                  refine lv_imul hx hb dX2_scoreOf_182 ?_
                  refine lv_isub hx hb dX2_scoreOf_183 ?_
                  refine lv_goto (tgt := 188) hx hb dX2_scoreOf_184 (by decide) ?_
                  exact hJ_188 _ _ _ (20 - (2 * ((S 11 p1.toNatClampNeg) - (S 29 p2.toNatClampNeg)))) ((((if_neg c_25).symm).trans (if_pos c_24).symm).trans (if_pos c_23).symm) hR hS (lv_sub hl [2, 3, 4] rfl)
              · skip
                refine lv_bipush (v := 20) hx hb dX2_scoreOf_165 (by decide) ?_
                refine lv_goto (tgt := 188) hx hb dX2_scoreOf_167 (by decide) ?_
                exact hJ_188 _ _ _ 20 (((if_neg c_24).symm).trans (if_pos c_23).symm) hR hS (lv_sub hl [2, 3, 4] rfl)
            · skip
              refine lv_iconst (v := 0) hx hb dX2_scoreOf_156 (by decide) ?_
              refine lv_goto (tgt := 188) hx hb dX2_scoreOf_157 (by decide) ?_
              exact hJ_188 _ _ _ 0 ((if_neg c_23).symm) hR hS (lv_sub hl [2, 3, 4] rfl)
          refine lv_icmp_ne (tgt := 91) hx hb dX2_scoreOf_83 (by decide) (fun c_26 => ?_) (fun c_26 => ?_)
          · skip
            refine lv_aload_n hx hb dX2_scoreOf_91 rfl (lv_at hl 1 rfl) ?_
            refine lv_aload_n hx hb dX2_scoreOf_92 rfl (lv_at hl 1 rfl) ?_
            refine mr_geta hx hb hts hown hK hR 10 (by decide) rfl (hts _ q961) (fun _ h9 => h9) dX2_scoreOf_93 ?_
            refine lv_iload_n hx hb dX2_scoreOf_96 rfl (lv_at hl 2 rfl) ?_
            refine mr_ald (v := (S 10 p1.toNatClampNeg)) hx hb hK hR 10 30 rfl (by decide) rfl (by first | assumption | exact mi_f hok (by assumption)) rfl dX2_scoreOf_97 ?_
            refine mr_calli (As := [.int (S 10 p1.toNatClampNeg)]) (rest := [.int (if (S 9 p1.toNatClampNeg) = (S 26 p2.toNatClampNeg) then 40 else 15)]) ⟨hx, hb, hml, hown, hts⟩ (mt_roomsOf l E q ad L S (S 10 p1.toNatClampNeg)) (cwV 1 hts (lw_V q1197 q1199 qs25 q41 q1200) rfl rfl rfl (by decide +kernel) ⟨Nat.le_of_ble_eq_true rfl, Nat.le_of_ble_eq_true rfl⟩) (by first | assumption | exact mi_pl hok _ | exact mi_cp hok _) hK hR (fun _ h => h) hS rfl hl.1 rfl (Nat.le_of_ble_eq_true rfl) dX2_scoreOf_98 ⟨Nat.le_refl _, Nat.le_refl _⟩ (fun H locs hR hS _ _ => ?_)
            refine lv_aload_n hx hb dX2_scoreOf_101 rfl (lv_at hl 1 rfl) ?_
            refine lv_aload_n hx hb dX2_scoreOf_102 rfl (lv_at hl 1 rfl) ?_
            refine mr_geta hx hb hts hown hK hR 27 (by decide) rfl (hts _ q978) (fun _ h9 => h9) dX2_scoreOf_103 ?_
            refine lv_iload_n hx hb dX2_scoreOf_106 rfl (lv_at hl 3 rfl) ?_
            refine mr_ald (v := (S 27 p2.toNatClampNeg)) hx hb hK hR 27 20 rfl (by decide) rfl (by first | assumption | exact mi_c hok (by assumption) | exact mi_e hok (by assumption)) rfl dX2_scoreOf_107 ?_
            refine mr_calli (As := [.int (S 27 p2.toNatClampNeg)]) (rest := [.int (mf_roomsOf S (S 10 p1.toNatClampNeg)), .int (if (S 9 p1.toNatClampNeg) = (S 26 p2.toNatClampNeg) then 40 else 15)]) ⟨hx, hb, hml, hown, hts⟩ (mt_roomsOf l E q ad L S (S 27 p2.toNatClampNeg)) (cwV 1 hts (lw_V q1197 q1199 qs25 q41 q1200) rfl rfl rfl (by decide +kernel) ⟨Nat.le_of_ble_eq_true rfl, Nat.le_of_ble_eq_true rfl⟩) (by first | assumption | exact mi_pl hok _ | exact mi_cp hok _) hK hR (fun _ h => h) hS rfl hl.1 rfl (Nat.le_of_ble_eq_true rfl) dX2_scoreOf_108 ⟨Nat.le_refl _, Nat.le_refl _⟩ (fun H locs hR hS _ _ => ?_)
            refine lv_iand hx hb dX2_scoreOf_111 ?_
            refine lv_if_eq (tgt := 120) hx hb dX2_scoreOf_112 (by decide) (fun c_27 => ?_) (fun c_27 => ?_)
            · skip
              refine lv_iconst (v := 0) hx hb dX2_scoreOf_120 (by decide) ?_
              exact hJ_121 _ _ _ 0 (((if_pos c_27).symm).trans (if_neg c_26).symm) (gi_z1 ((gi_cb_t c_27).trans (gi_na_f c_26))) hR hS (lv_sub hl [1, 2, 3] rfl)
            · skip
              refine lv_bipush (v := 10) hx hb dX2_scoreOf_115 (by decide) ?_
              refine lv_goto (tgt := 121) hx hb dX2_scoreOf_117 (by decide) ?_
              exact hJ_121 _ _ _ 10 (((if_neg c_27).symm).trans (if_neg c_26).symm) (gi_z0 (by decide) ((gi_cb_f c_27).trans (gi_na_f c_26))) hR hS (lv_sub hl [1, 2, 3] rfl)
          · skip
            refine lv_bipush (v := 20) hx hb dX2_scoreOf_86 (by decide) ?_
            refine lv_goto (tgt := 121) hx hb dX2_scoreOf_88 (by decide) ?_
            exact hJ_121 _ _ _ 20 ((if_pos c_26).symm) (gi_z0 (by decide) (gi_na_t c_26)) hR hS (lv_sub hl [1, 2, 3] rfl)
        refine lv_icmp_ne (tgt := 65) hx hb dX2_scoreOf_57 (by decide) (fun c_28 => ?_) (fun c_28 => ?_)
        · skip
          refine lv_bipush (v := 15) hx hb dX2_scoreOf_65 (by decide) ?_
          exact hJ_67 _ _ _ 15 ((if_neg c_28).symm) hR hS (lv_sub hl [1, 2, 3] rfl)
        · skip
          refine lv_bipush (v := 40) hx hb dX2_scoreOf_60 (by decide) ?_
          refine lv_goto (tgt := 67) hx hb dX2_scoreOf_62 (by decide) ?_
          exact hJ_67 _ _ _ 40 ((if_pos c_28).symm) hR hS (lv_sub hl [1, 2, 3] rfl)
      · skip
        have c_15 : ¬ ((((S 3 ((S 9 p1.toNatClampNeg).toNatClampNeg)) >>> ((S 26 p2.toNatClampNeg) &&& 31)) &&& 1) = 1) := gs_zf (φ := (((S 3 ((S 9 p1.toNatClampNeg).toNatClampNeg)) >>> ((S 26 p2.toNatClampNeg) &&& 31)) &&& 1) = 1) c_15
        have hf := (if_neg c_15).symm.trans hf
        refine lv_iconst (v := (-1)) hx hb dX2_scoreOf_48 (by decide) ?_
        exact W.iret (v := (-1)) hx hb hr (fun t ht hW => ⟨⟨_, _, rfl, ⟨hf, rfl⟩, mr_bt ht hR⟩, hS.F ht⟩) hS.2.2 dX2_scoreOf_49
  refine lv_icmp_ne (tgt := 30) hx hb dX2_scoreOf_23 (by decide) (fun c_29 => ?_) (fun c_29 => ?_)
  · skip
    refine lv_iconst (v := 0) hx hb dX2_scoreOf_30 (by decide) ?_
    exact hJ_31 _ _ _ 0 (gi_0 (gi_cb_f c_29)) hR hS (lv_sub hl [1, 2, 3, 0] rfl)
  · skip
    refine lv_iconst (v := 1) hx hb dX2_scoreOf_26 (by decide) ?_
    refine lv_goto (tgt := 31) hx hb dX2_scoreOf_27 (by decide) ?_
    exact hJ_31 _ _ _ 1 (gi_1 (gi_cb_t c_29)) hR hS (lv_sub hl [1, 2, 3, 0] rfl)
set_option maxHeartbeats 2000000 in
set_option maxRecDepth 100000 in
theorem mt_isCandidate (l : Launch) (E : en_T) (q : Nat) (ad : Nat → Nat) (L : List Nat) (S : gs_T) (p1 : Int32) (p2 : Int32) : Met l yX2_isCandidate (ws_ yX2_isCandidate cX2_isCandidate 3 (some .boolean)) { frames := 2, cells := 0, slots := 0, locals := 51 } (mr_Pc E q ad L S [.int p1, .int p2] (mi_ok S ∧ vp_in p1 30 ∧ vp_in p2 20)) (mr_Qi E q ad L (gs_bz (mf_isCandidate S p1 p2)) S) 0 0 (mr_A L) := by
  refine mr_start (by decide) rfl (Nat.le_of_ble_eq_true rfl) ?_
  intro p e s m below meth c ls hx hb hr hlocks hml hown hts hK hP hl hR
  have hl : lv_has ls 3 [(0, .ref q), (1, .int p1), (2, .int p2)] := hl
  have hS : va_S (mr_A L) s.heap s.heap [] := va_S.rf
  obtain ⟨hok, h_p1, h_p2⟩ := hP
  have hf : (mf_isCandidate S p1 p2) = (mf_isCandidate S p1 p2) := rfl
  refine lv_aload_n hx hb dX2_isCandidate_0 rfl (lv_at hl 0 rfl) ?_
  refine mr_geta hx hb hts hown hK hR 32 (by decide) rfl (hts _ q983) (fun _ h9 => h9) dX2_isCandidate_1 ?_
  refine lv_iload_n hx hb dX2_isCandidate_4 rfl (lv_at hl 2 rfl) ?_
  refine mr_ald (v := (S 32 p2.toNatClampNeg)) hx hb hK hR 32 20 rfl (by decide) rfl (by first | assumption | exact mi_c hok (by assumption) | exact mi_e hok (by assumption)) rfl dX2_isCandidate_5 ?_
  have hJ_27 : ∀ (H : Heap) (locs : List Loc) (ls : Array Slot) (v_27 : Int32), v_27 = (if ((S 32 p2.toNatClampNeg) = 0) ∧ (¬ ((mf_scoreOf S p1 p2) < (S 7 0))) then 1 else 0) → mr_W E q ad L S H → va_S (mr_A L) s.heap H locs → lv_has ls 3 [] → mr_G p l e { frames := 2, cells := 0, slots := 0, locals := 51 } s m [.ref q, .int p1, .int p2] below meth c (mr_A L) (mr_Qi E q ad L (gs_bz (mf_isCandidate S p1 p2)) S) H locs (F0 m 27 ls [.int v_27]) := by
    intro H locs ls v_27 e_v_27 hR hS hl
    subst e_v_27
    exact W.zret (v := (if ((S 32 p2.toNatClampNeg) = 0) ∧ (¬ ((mf_scoreOf S p1 p2) < (S 7 0))) then 1 else 0)) hx hb hr gs_nar (fun t ht hW => ⟨⟨_, _, rfl, ⟨(gs_bz_dec.trans (congrArg gs_bz hf)), rfl⟩, mr_bt ht hR⟩, hS.F ht⟩) hS.2.2 dX2_isCandidate_27
  refine lv_if_ne (tgt := 26) hx hb dX2_isCandidate_6 (by decide) (fun c_1 => ?_) (fun c_1 => ?_)
  · skip
    refine lv_iconst (v := 0) hx hb dX2_isCandidate_26 (by decide) ?_
    exact hJ_27 _ _ _ 0 (gi_0 (gi_ca_f c_1)) hR hS (lv_sub hl [] rfl)
  · skip
    refine lv_aload_n hx hb dX2_isCandidate_9 rfl (lv_at hl 0 rfl) ?_
    refine lv_iload_n hx hb dX2_isCandidate_10 rfl (lv_at hl 1 rfl) ?_
    refine lv_iload_n hx hb dX2_isCandidate_11 rfl (lv_at hl 2 rfl) ?_
    refine mr_calli (As := [.int p1, .int p2]) (rest := []) ⟨hx, hb, hml, hown, hts⟩ (mt_scoreOf l E q ad L S p1 p2) (cwV 2 hts (lw_V q1193 q1195 qs24 q41 q1196) rfl rfl rfl (by decide +kernel) ⟨Nat.le_of_ble_eq_true rfl, Nat.le_of_ble_eq_true rfl⟩) ⟨hok, (by first | assumption | exact mi_f hok (by assumption)), (by first | assumption | exact mi_c hok (by assumption))⟩ hK hR (fun _ h => h) hS rfl hl.1 rfl (Nat.le_of_ble_eq_true rfl) dX2_isCandidate_12 ⟨Nat.le_refl _, Nat.le_refl _⟩ (fun H locs hR hS _ _ => ?_)
    refine lv_aload_n hx hb dX2_isCandidate_15 rfl (lv_at hl 0 rfl) ?_
    refine mr_geti (v := (S 7 0)) hx hb hts hown hK hR 7 (by decide) rfl (hts _ q958) (fun _ h9 => h9) rfl dX2_isCandidate_16 ?_
    refine lv_icmp_lt (tgt := 26) hx hb dX2_isCandidate_19 (by decide) (fun c_2 => ?_) (fun c_2 => ?_)
    · skip
      refine lv_iconst (v := 0) hx hb dX2_isCandidate_26 (by decide) ?_
      exact hJ_27 _ _ _ 0 (gi_0 ((gi_nb_t c_2).trans (gi_ca_t c_1))) hR hS (lv_sub hl [] rfl)
    · skip
      refine lv_iconst (v := 1) hx hb dX2_isCandidate_22 (by decide) ?_
      refine lv_goto (tgt := 27) hx hb dX2_isCandidate_23 (by decide) ?_
      exact hJ_27 _ _ _ 1 (gi_1 ((gi_nb_f c_2).trans (gi_ca_t c_1))) hR hS (lv_sub hl [] rfl)
set_option maxHeartbeats 2000000 in
set_option maxRecDepth 100000 in
theorem mt_proves (l : Launch) (E : en_T) (q : Nat) (ad : Nat → Nat) (L : List Nat) (S : gs_T) (p1 : Int32) (p2 : Int32) : Met l yX2_proves (ws_ yX2_proves cX2_proves 5 (some .boolean)) { frames := 1, cells := 0, slots := 0, locals := 22 } (mr_Pc E q ad L S [.int p1, .int p2] (vp_in p1 30 ∧ vp_in p2 20)) (mr_Qi E q ad L (gs_bz (mf_proves S p1 p2)) S) 0 0 (mr_A L) := by
  refine mr_start (by decide) rfl (Nat.le_of_ble_eq_true rfl) ?_
  intro p e s m below meth c ls hx hb hr hlocks hml hown hts hK hP hl hR
  have hl : lv_has ls 5 [(0, .ref q), (1, .int p1), (2, .int p2)] := hl
  have hS : va_S (mr_A L) s.heap s.heap [] := va_S.rf
  obtain ⟨h_p1, h_p2⟩ := hP
  have hf : (mf_proves S p1 p2) = (mf_proves S p1 p2) := rfl
  refine lv_aload_n hx hb dX2_proves_0 rfl (lv_at hl 0 rfl) ?_
  refine mr_geta hx hb hts hown hK hR 13 (by decide) rfl (hts _ q964) (fun _ h9 => h9) dX2_proves_1 ?_
  refine lv_iload_n hx hb dX2_proves_4 rfl (lv_at hl 1 rfl) ?_
  refine mr_ald (v := (S 13 p1.toNatClampNeg)) hx hb hK hR 13 30 rfl (by decide) rfl (by first | assumption | exact mi_f hok (by assumption)) rfl dX2_proves_5 ?_
  refine ps_calli (As := [.int (S 13 p1.toNatClampNeg)]) (rest := []) ⟨hx, hb, hml, hown, hts⟩ (mt_bits l (S 13 p1.toNatClampNeg)) (va_cwS 1 hts (lw_S q1103 q1104 q41 q1105) rfl rfl rfl (by decide +kernel) ⟨Nat.le_of_ble_eq_true rfl, Nat.le_of_ble_eq_true rfl⟩) trivial hS rfl hl.1 rfl (Nat.le_of_ble_eq_true rfl) dX2_proves_6 ⟨Nat.le_refl _, Nat.le_refl _⟩ (fun H locs hz hk hS => ?_)
  have hR := hR.kept (fun a _ h => hk a h)
  refine lv_istore_n (lv' := [(3, .int (mf_bits (S 13 p1.toNatClampNeg))), (0, .ref q), (1, .int p1), (2, .int p2)]) hx hb dX2_proves_9 rfl hl (by decide) rfl (fun ls hl => ?_)
  refine lv_aload_n hx hb dX2_proves_10 rfl (lv_at hl 1 rfl) ?_
  refine mr_geta hx hb hts hown hK hR 13 (by decide) rfl (hts _ q964) (fun _ h9 => h9) dX2_proves_11 ?_
  refine lv_iload_n hx hb dX2_proves_14 rfl (lv_at hl 2 rfl) ?_
  refine mr_ald (v := (S 13 p1.toNatClampNeg)) hx hb hK hR 13 30 rfl (by decide) rfl (by first | assumption | exact mi_f hok (by assumption)) rfl dX2_proves_15 ?_
  refine lv_aload_n hx hb dX2_proves_16 rfl (lv_at hl 1 rfl) ?_
  refine mr_geta hx hb hts hown hK hR 31 (by decide) rfl (hts _ q982) (fun _ h9 => h9) dX2_proves_17 ?_
  refine lv_iload_n hx hb dX2_proves_20 rfl (lv_at hl 3 rfl) ?_
  refine mr_ald (v := (S 31 p2.toNatClampNeg)) hx hb hK hR 31 20 rfl (by decide) rfl (by first | assumption | exact mi_c hok (by assumption) | exact mi_e hok (by assumption)) rfl dX2_proves_21 ?_
  refine lv_iand hx hb dX2_proves_22 ?_
  refine ps_calli (As := [.int ((S 13 p1.toNatClampNeg) &&& (S 31 p2.toNatClampNeg))]) (rest := []) ⟨hx, hb, hml, hown, hts⟩ (mt_bits l ((S 13 p1.toNatClampNeg) &&& (S 31 p2.toNatClampNeg))) (va_cwS 1 hts (lw_S q1103 q1104 q41 q1105) rfl rfl rfl (by decide +kernel) ⟨Nat.le_of_ble_eq_true rfl, Nat.le_of_ble_eq_true rfl⟩) trivial hS rfl hl.1 rfl (Nat.le_of_ble_eq_true rfl) dX2_proves_23 ⟨Nat.le_refl _, Nat.le_refl _⟩ (fun H locs hz hk hS => ?_)
  have hR := hR.kept (fun a _ h => hk a h)
  refine lv_istore (lv' := [(4, .int (mf_bits ((S 13 p1.toNatClampNeg) &&& (S 31 p2.toNatClampNeg)))), (3, .int (mf_bits (S 13 p1.toNatClampNeg))), (0, .ref q), (1, .int p1), (2, .int p2)]) hx hb dX2_proves_26 hl (by decide) rfl (fun ls hl => ?_)
  refine lv_iload hx hb dX2_proves_28 (lv_at hl 0 rfl) ?_
  refine lv_iload_n hx hb dX2_proves_30 rfl (lv_at hl 1 rfl) ?_
  refine lv_iconst (v := 2) hx hb dX2_proves_31 (by decide) ?_
  have hJ_40 : ∀ (H : Heap) (locs : List Loc) (ls : Array Slot) (v_40 : Int32), v_40 = (if 2 ≤ (mf_bits (S 13 p1.toNatClampNeg)) then 2 else (mf_bits (S 13 p1.toNatClampNeg))) → mr_W E q ad L S H → va_S (mr_A L) s.heap H locs → lv_has ls 5 [(0, .ref q), (1, .int p1), (2, .int p2)] → mr_G p l e { frames := 1, cells := 0, slots := 0, locals := 22 } s m [.ref q, .int p1, .int p2] below meth c (mr_A L) (mr_Qi E q ad L (gs_bz (mf_proves S p1 p2)) S) H locs (F0 m 40 ls [.int v_40, .int (mf_bits ((S 13 p1.toNatClampNeg) &&& (S 31 p2.toNatClampNeg)))]) := by
    intro H locs ls v_40 e_v_40 hR hS hl
    subst e_v_40
    have hJ_70 : ∀ (H : Heap) (locs : List Loc) (ls : Array Slot) (v_70 : Int32), v_70 = (if (¬ ((mf_bits ((S 13 p1.toNatClampNeg) &&& (S 31 p2.toNatClampNeg))) < (if 2 ≤ (mf_bits (S 13 p1.toNatClampNeg)) then 2 else (mf_bits (S 13 p1.toNatClampNeg))))) ∧ (¬ (1 < (mf_bits ((S 31 p2.toNatClampNeg) &&& ((S 13 p1.toNatClampNeg) ^^^ (-1)))))) then 1 else 0) → mr_W E q ad L S H → va_S (mr_A L) s.heap H locs → lv_has ls 5 [] → mr_G p l e { frames := 1, cells := 0, slots := 0, locals := 22 } s m [.ref q, .int p1, .int p2] below meth c (mr_A L) (mr_Qi E q ad L (gs_bz (mf_proves S p1 p2)) S) H locs (F0 m 70 ls [.int v_70]) := by
      intro H locs ls v_70 e_v_70 hR hS hl
      subst e_v_70
      exact W.zret (v := (if (¬ ((mf_bits ((S 13 p1.toNatClampNeg) &&& (S 31 p2.toNatClampNeg))) < (if 2 ≤ (mf_bits (S 13 p1.toNatClampNeg)) then 2 else (mf_bits (S 13 p1.toNatClampNeg))))) ∧ (¬ (1 < (mf_bits ((S 31 p2.toNatClampNeg) &&& ((S 13 p1.toNatClampNeg) ^^^ (-1)))))) then 1 else 0)) hx hb hr gs_nar (fun t ht hW => ⟨⟨_, _, rfl, ⟨(gs_bz_dec.trans (congrArg gs_bz hf)), rfl⟩, mr_bt ht hR⟩, hS.F ht⟩) hS.2.2 dX2_proves_70
    refine lv_icmp_lt (tgt := 69) hx hb dX2_proves_40 (by decide) (fun c_1 => ?_) (fun c_1 => ?_)
    · skip
      refine lv_iconst (v := 0) hx hb dX2_proves_69 (by decide) ?_
      exact hJ_70 _ _ _ 0 (gi_0 (gi_na_t c_1)) hR hS (lv_sub hl [] rfl)
    · skip
      refine lv_aload_n hx hb dX2_proves_43 rfl (lv_at hl 0 rfl) ?_
      refine mr_geta hx hb hts hown hK hR 31 (by decide) rfl (hts _ q982) (fun _ h9 => h9) dX2_proves_44 ?_
      refine lv_iload_n hx hb dX2_proves_47 rfl (lv_at hl 2 rfl) ?_
      refine mr_ald (v := (S 31 p2.toNatClampNeg)) hx hb hK hR 31 20 rfl (by decide) rfl (by first | assumption | exact mi_c hok (by assumption) | exact mi_e hok (by assumption)) rfl dX2_proves_48 ?_
      refine lv_aload_n hx hb dX2_proves_49 rfl (lv_at hl 0 rfl) ?_
      refine mr_geta hx hb hts hown hK hR 13 (by decide) rfl (hts _ q964) (fun _ h9 => h9) dX2_proves_50 ?_
      refine lv_iload_n hx hb dX2_proves_53 rfl (lv_at hl 1 rfl) ?_
      refine mr_ald (v := (S 13 p1.toNatClampNeg)) hx hb hK hR 13 30 rfl (by decide) rfl (by first | assumption | exact mi_f hok (by assumption)) rfl dX2_proves_54 ?_
      refine lv_iconst (v := (-1)) hx hb dX2_proves_55 (by decide) ?_
      refine lv_ixor hx hb dX2_proves_56 ?_
      refine lv_iand hx hb dX2_proves_57 ?_
      refine ps_calli (As := [.int ((S 31 p2.toNatClampNeg) &&& ((S 13 p1.toNatClampNeg) ^^^ (-1)))]) (rest := []) ⟨hx, hb, hml, hown, hts⟩ (mt_bits l ((S 31 p2.toNatClampNeg) &&& ((S 13 p1.toNatClampNeg) ^^^ (-1)))) (va_cwS 1 hts (lw_S q1103 q1104 q41 q1105) rfl rfl rfl (by decide +kernel) ⟨Nat.le_of_ble_eq_true rfl, Nat.le_of_ble_eq_true rfl⟩) trivial hS rfl hl.1 rfl (Nat.le_of_ble_eq_true rfl) dX2_proves_58 ⟨Nat.le_refl _, Nat.le_refl _⟩ (fun H locs hz hk hS => ?_)
      have hR := hR.kept (fun a _ h => hk a h)
      refine lv_iconst (v := 1) hx hb dX2_proves_61 (by decide) ?_
      refine lv_icmp_gt (tgt := 69) hx hb dX2_proves_62 (by decide) (fun c_2 => ?_) (fun c_2 => ?_)
      · skip
        refine lv_iconst (v := 0) hx hb dX2_proves_69 (by decide) ?_
        exact hJ_70 _ _ _ 0 (gi_0 ((gi_nb_t c_2).trans (gi_na_f c_1))) hR hS (lv_sub hl [] rfl)
      · skip
        refine lv_iconst (v := 1) hx hb dX2_proves_65 (by decide) ?_
        refine lv_goto (tgt := 70) hx hb dX2_proves_66 (by decide) ?_
        exact hJ_70 _ _ _ 1 (gi_1 ((gi_nb_f c_2).trans (gi_na_f c_1))) hR hS (lv_sub hl [] rfl)
  refine lv_icmp_ge (tgt := 39) hx hb dX2_proves_32 (by decide) (fun c_3 => ?_) (fun c_3 => ?_)
  · skip
    refine lv_iconst (v := 2) hx hb dX2_proves_39 (by decide) ?_
    exact hJ_40 _ _ _ 2 ((if_pos c_3).symm) hR hS (lv_sub hl [2, 3, 4] rfl)
  · skip
    refine lv_iload_n hx hb dX2_proves_35 rfl (lv_at hl 1 rfl) ?_
    refine lv_goto (tgt := 40) hx hb dX2_proves_36 (by decide) ?_
    exact hJ_40 _ _ _ (mf_bits (S 13 p1.toNatClampNeg)) ((if_neg c_3).symm) hR hS (lv_sub hl [2, 3, 4] rfl)
set_option maxHeartbeats 2000000 in
set_option maxRecDepth 100000 in
theorem mt_isBeaten (l : Launch) (E : en_T) (q : Nat) (ad : Nat → Nat) (L : List Nat) (S : gs_T) (p1 : Int32) (p2 : Int32) : Met l yX2_isBeaten (ws_ yX2_isBeaten cX2_isBeaten 7 (some .boolean)) { frames := 2, cells := 0, slots := 0, locals := 51 } (mr_Pc E q ad L S [.int p1, .int p2] (mi_ok S ∧ vp_in p1 30 ∧ vp_in p2 20)) (mr_Qi E q ad L (gs_bz (mf_isBeaten S p1 p2)) S) 0 0 (mr_A L) := by
  refine mr_start (by decide) rfl (Nat.le_of_ble_eq_true rfl) ?_
  intro p e s m below meth c ls hx hb hr hlocks hml hown hts hK hP hl hR
  have hl : lv_has ls 7 [(0, .ref q), (1, .int p1), (2, .int p2)] := hl
  have hS : va_S (mr_A L) s.heap s.heap [] := va_S.rf
  obtain ⟨hok, h_p1, h_p2⟩ := hP
  have hf : (mf_isBeaten S p1 p2) = (mf_isBeaten S p1 p2) := rfl
  have hnc := mi_m20 hok
  refine lv_iconst (v := 0) hx hb dX2_isBeaten_0 (by decide) ?_
  refine lv_istore_n (lv' := [(3, .int 0), (0, .ref q), (1, .int p1), (2, .int p2)]) hx hb dX2_isBeaten_1 rfl hl (by decide) rfl (fun ls hl => ?_)
  refine lv_aload_n hx hb dX2_isBeaten_2 rfl (lv_at hl 1 rfl) ?_
  refine lv_iload_n hx hb dX2_isBeaten_3 rfl (lv_at hl 2 rfl) ?_
  refine lv_iload_n hx hb dX2_isBeaten_4 rfl (lv_at hl 3 rfl) ?_
  refine mr_calli (As := [.int p1, .int p2]) (rest := []) ⟨hx, hb, hml, hown, hts⟩ (mt_scoreOf l E q ad L S p1 p2) (cwV 2 hts (lw_V q1193 q1195 qs24 q41 q1196) rfl rfl rfl (by decide +kernel) ⟨Nat.le_of_ble_eq_true rfl, Nat.le_of_ble_eq_true rfl⟩) ⟨hok, (by first | assumption | exact mi_f hok (by assumption)), (by first | assumption | exact mi_c hok (by assumption))⟩ hK hR (fun _ h => h) hS rfl hl.1 rfl (Nat.le_of_ble_eq_true rfl) dX2_isBeaten_5 ⟨Nat.le_refl _, Nat.le_refl _⟩ (fun H locs hR hS _ _ => ?_)
  refine lv_istore (lv' := [(4, .int (mf_scoreOf S p1 p2)), (3, .int 0), (0, .ref q), (1, .int p1), (2, .int p2)]) hx hb dX2_isBeaten_8 hl (by decide) rfl (fun ls hl => ?_)
  refine lv_iconst (v := 0) hx hb dX2_isBeaten_10 (by decide) ?_
  refine lv_istore (lv' := [(5, .int 0), (4, .int (mf_scoreOf S p1 p2)), (3, .int 0), (0, .ref q), (1, .int p1), (2, .int p2)]) hx hb dX2_isBeaten_11 hl (by decide) rfl (fun ls hl => ?_)
  have hL_13 : ∀ (n_13 i_13 : Nat) (x3_13 : Bool) (H : Heap) (locs : List Loc) (ls : Array Slot), i_13 + n_13 = (S 25 0).toNatClampNeg → mf_isBeaten_R13 S p1 p2 n_13 i_13 x3_13 = (mf_isBeaten_R13 S p1 p2 ((S 25 0).toNatClampNeg) 0 false) → mr_W E q ad L S H → va_S (mr_A L) s.heap H locs → lv_has ls 7 [(0, .ref q), (1, .int p1), (2, .int p2), (3, .int (if x3_13 = true then 1 else 0)), (4, .int (mf_scoreOf S p1 p2)), (5, .int (nI i_13))] → mr_G p l e { frames := 2, cells := 0, slots := 0, locals := 51 } s m [.ref q, .int p1, .int p2] below meth c (mr_A L) (mr_Qi E q ad L (gs_bz (mf_isBeaten S p1 p2)) S) H locs (F0 m 13 ls []) := by
    intro n_13
    induction n_13 with
    | zero =>
      intro i_13 x3_13 H locs ls hi_13 hg_13 hR hS hl
      have hi_13 : i_13 = (S 25 0).toNatClampNeg := hi_13
      subst hi_13
      have e_x3_13 : x3_13 = (mf_isBeaten_R13 S p1 p2 ((S 25 0).toNatClampNeg) 0 false) := congrArg (fun z => z) hg_13
      subst e_x3_13
      refine lv_iload hx hb dX2_isBeaten_13 (lv_at hl 5 rfl) ?_
      refine lv_aload_n hx hb dX2_isBeaten_15 rfl (lv_at hl 0 rfl) ?_
      refine mr_geti (v := (S 25 0)) hx hb hts hown hK hR 25 (by decide) rfl (hts _ q976) (fun _ h9 => h9) rfl dX2_isBeaten_16 ?_
      refine lv_icmp_ge (tgt := 93) hx hb dX2_isBeaten_19 (by decide) (fun c_1 => ?_) (fun c_1 => absurd (lp_x0 (mi_m hok)) c_1)
      refine lv_iload_n hx hb dX2_isBeaten_93 rfl (lv_at hl 3 rfl) ?_
      exact W.zret (v := (if (mf_isBeaten_R13 S p1 p2 ((S 25 0).toNatClampNeg) 0 false) = true then 1 else 0)) hx hb hr gs_nar (fun t ht hW => ⟨⟨_, _, rfl, ⟨(gs_bz_dec.trans (congrArg gs_bz hf)), rfl⟩, mr_bt ht hR⟩, hS.F ht⟩) hS.2.2 dX2_isBeaten_94
    | succ n_13 ih_13 =>
      intro i_13 x3_13 H locs ls hi_13 hg_13 hR hS hl
      have hlt_13 : i_13 < (S 25 0).toNatClampNeg := by omega
      have hf_13 : mf_isBeaten_L13 S p1 p2 i_13 x3_13 = mf_isBeaten_L13 S p1 p2 i_13 x3_13 := rfl
      refine lv_iload hx hb dX2_isBeaten_13 (lv_at hl 5 rfl) ?_
      refine lv_aload_n hx hb dX2_isBeaten_15 rfl (lv_at hl 0 rfl) ?_
      refine mr_geti (v := (S 25 0)) hx hb hts hown hK hR 25 (by decide) rfl (hts _ q976) (fun _ h9 => h9) rfl dX2_isBeaten_16 ?_
      refine lv_icmp_ge (tgt := 93) hx hb dX2_isBeaten_19 (by decide) (fun c_2 => absurd c_2 (lp_x1 (mi_m hok) hlt_13 (mi_mb hok))) (fun c_2 => ?_)
      refine lv_aload_n hx hb dX2_isBeaten_22 rfl (lv_at hl 0 rfl) ?_
      refine lv_iload_n hx hb dX2_isBeaten_23 rfl (lv_at hl 1 rfl) ?_
      refine lv_iload hx hb dX2_isBeaten_24 (lv_at hl 5 rfl) ?_
      refine mr_calli (As := [.int p1, .int (nI i_13)]) (rest := []) ⟨hx, hb, hml, hown, hts⟩ (mt_scoreOf l E q ad L S p1 (nI i_13)) (cwV 2 hts (lw_V q1193 q1195 qs24 q41 q1196) rfl rfl rfl (by decide +kernel) ⟨Nat.le_of_ble_eq_true rfl, Nat.le_of_ble_eq_true rfl⟩) ⟨hok, (by first | assumption | exact mi_f hok (by assumption)), (by first | assumption | exact vp_in_nI (show i_13 < 20 by omega) (by decide))⟩ hK hR (fun _ h => h) hS rfl hl.1 rfl (Nat.le_of_ble_eq_true rfl) dX2_isBeaten_26 ⟨Nat.le_refl _, Nat.le_refl _⟩ (fun H locs hR hS _ _ => ?_)
      refine lv_istore (lv' := [(6, .int (mf_scoreOf S p1 (nI i_13))), (0, .ref q), (1, .int p1), (2, .int p2), (3, .int (if x3_13 = true then 1 else 0)), (4, .int (mf_scoreOf S p1 p2)), (5, .int (nI i_13))]) hx hb dX2_isBeaten_29 hl (by decide) rfl (fun ls hl => ?_)
      refine lv_iload_n hx hb dX2_isBeaten_31 rfl (lv_at hl 4 rfl) ?_
      have hJ_86 : ∀ (H : Heap) (locs : List Loc) (ls : Array Slot) (v_86 : Int32), v_86 = (if (x3_13 = true) ∨ ((¬ ((nI i_13) = p2)) ∧ (((S 32 i_13) = 0) ∧ (((mf_proves S p1 (nI i_13)) = true) ∧ (((mf_scoreOf S p1 p2) < (mf_scoreOf S p1 (nI i_13))) ∨ (((mf_scoreOf S p1 (nI i_13)) = (mf_scoreOf S p1 p2)) ∧ (¬ (p2 ≤ (nI i_13)))))))) then 1 else 0) → mr_W E q ad L S H → va_S (mr_A L) s.heap H locs → lv_has ls 7 [(0, .ref q), (1, .int p1), (2, .int p2), (4, .int (mf_scoreOf S p1 p2)), (5, .int (nI i_13))] → mr_G p l e { frames := 2, cells := 0, slots := 0, locals := 51 } s m [.ref q, .int p1, .int p2] below meth c (mr_A L) (mr_Qi E q ad L (gs_bz (mf_isBeaten S p1 p2)) S) H locs (F0 m 86 ls [.int v_86]) := by
        intro H locs ls v_86 e_v_86 hR hS hl
        subst e_v_86
        refine lv_istore_n (lv' := [(3, .int (if (x3_13 = true) ∨ ((¬ ((nI i_13) = p2)) ∧ (((S 32 i_13) = 0) ∧ (((mf_proves S p1 (nI i_13)) = true) ∧ (((mf_scoreOf S p1 p2) < (mf_scoreOf S p1 (nI i_13))) ∨ (((mf_scoreOf S p1 (nI i_13)) = (mf_scoreOf S p1 p2)) ∧ (¬ (p2 ≤ (nI i_13)))))))) then 1 else 0)), (0, .ref q), (1, .int p1), (2, .int p2), (4, .int (mf_scoreOf S p1 p2)), (5, .int (nI i_13))]) hx hb dX2_isBeaten_86 rfl hl (by decide) rfl (fun ls hl => ?_)
        refine lv_iinc (v := (nI (i_13 + 1))) (lv' := [(5, .int (nI (i_13 + 1))), (3, .int (if (x3_13 = true) ∨ ((¬ ((nI i_13) = p2)) ∧ (((S 32 i_13) = 0) ∧ (((mf_proves S p1 (nI i_13)) = true) ∧ (((mf_scoreOf S p1 p2) < (mf_scoreOf S p1 (nI i_13))) ∨ (((mf_scoreOf S p1 (nI i_13)) = (mf_scoreOf S p1 p2)) ∧ (¬ (p2 ≤ (nI i_13)))))))) then 1 else 0)), (0, .ref q), (1, .int p1), (2, .int p2), (4, .int (mf_scoreOf S p1 p2))]) hx hb dX2_isBeaten_87 hl (k := 5) rfl (nI_1 i_13) (by decide) rfl (fun ls hl => ?_)
        refine lv_goto (tgt := 13) hx hb dX2_isBeaten_90 (by decide) ?_
        exact ih_13 (i_13 + 1) (decide ((x3_13 = true) ∨ ((¬ ((nI i_13) = p2)) ∧ (((S 32 i_13) = 0) ∧ (((mf_proves S p1 (nI i_13)) = true) ∧ (((mf_scoreOf S p1 p2) < (mf_scoreOf S p1 (nI i_13))) ∨ (((mf_scoreOf S p1 (nI i_13)) = (mf_scoreOf S p1 p2)) ∧ (¬ (p2 ≤ (nI i_13)))))))))) _ _ _ (by omega) ((congrArg (fun z => mf_isBeaten_R13 S p1 p2 n_13 (i_13 + 1) z) hf_13).trans hg_13) hR hS (by rw [gs_dd (φ := (x3_13 = true) ∨ ((¬ ((nI i_13) = p2)) ∧ (((S 32 i_13) = 0) ∧ (((mf_proves S p1 (nI i_13)) = true) ∧ (((mf_scoreOf S p1 p2) < (mf_scoreOf S p1 (nI i_13))) ∨ (((mf_scoreOf S p1 (nI i_13)) = (mf_scoreOf S p1 p2)) ∧ (¬ (p2 ≤ (nI i_13)))))))))]; exact lv_sub hl [2, 3, 4, 1, 5, 0] rfl)
      refine lv_if_ne (tgt := 81) hx hb dX2_isBeaten_32 (by decide) (fun c_3 => ?_) (fun c_3 => ?_)
      · skip
        have c_3 : x3_13 = true := gs_zt (φ := x3_13 = true) c_3
        refine lv_iconst (v := 1) hx hb dX2_isBeaten_81 (by decide) ?_
        refine lv_goto (tgt := 86) hx hb dX2_isBeaten_82 (by decide) ?_
        exact hJ_86 _ _ _ 1 (gi_1 (gi_co_t c_3)) hR hS (lv_sub hl [1, 2, 3, 5, 6] rfl)
      · skip
        have c_3 : ¬ (x3_13 = true) := gs_zf (φ := x3_13 = true) c_3
        refine lv_iload hx hb dX2_isBeaten_35 (lv_at hl 6 rfl) ?_
        refine lv_iload_n hx hb dX2_isBeaten_37 rfl (lv_at hl 3 rfl) ?_
        refine lv_icmp_eq (tgt := 85) hx hb dX2_isBeaten_38 (by decide) (fun c_4 => ?_) (fun c_4 => ?_)
        · skip
          refine lv_iconst (v := 0) hx hb dX2_isBeaten_85 (by decide) ?_
          exact hJ_86 _ _ _ 0 (gi_0 ((gi_na_t c_4).trans (gi_co_f c_3))) hR hS (lv_sub hl [1, 2, 3, 5, 6] rfl)
        · skip
          refine lv_aload_n hx hb dX2_isBeaten_41 rfl (lv_at hl 1 rfl) ?_
          refine mr_geta hx hb hts hown hK hR 32 (by decide) rfl (hts _ q983) (fun _ h9 => h9) dX2_isBeaten_42 ?_
          refine lv_iload hx hb dX2_isBeaten_45 (lv_at hl 6 rfl) ?_
          refine mr_ald (v := (S 32 i_13)) hx hb hK hR 32 20 rfl (by decide) rfl (by first | assumption | exact vp_in_nI (show i_13 < 20 by omega) (by decide)) ((congrArg (fun z => S 32 z) (nI_clamp (show i_13 < 2 ^ 31 by omega))).trans rfl) dX2_isBeaten_47 ?_
          refine lv_if_ne (tgt := 85) hx hb dX2_isBeaten_48 (by decide) (fun c_5 => ?_) (fun c_5 => ?_)
          · skip
            refine lv_iconst (v := 0) hx hb dX2_isBeaten_85 (by decide) ?_
            exact hJ_86 _ _ _ 0 (gi_0 (((gi_ca_f c_5).trans (gi_na_f c_4)).trans (gi_co_f c_3))) hR hS (lv_sub hl [1, 2, 3, 5, 6] rfl)
          · skip
            refine lv_aload_n hx hb dX2_isBeaten_51 rfl (lv_at hl 1 rfl) ?_
            refine lv_iload_n hx hb dX2_isBeaten_52 rfl (lv_at hl 2 rfl) ?_
            refine lv_iload hx hb dX2_isBeaten_53 (lv_at hl 6 rfl) ?_
            refine mr_calli (As := [.int p1, .int (nI i_13)]) (rest := []) ⟨hx, hb, hml, hown, hts⟩ (mt_proves l E q ad L S p1 (nI i_13)) (cwV 2 hts (lw_V q1201 q1203 qs26 q41 q1204) rfl rfl rfl (by decide +kernel) ⟨Nat.le_of_ble_eq_true rfl, Nat.le_of_ble_eq_true rfl⟩) ⟨(by first | assumption | exact mi_f hok (by assumption)), (by first | assumption | exact vp_in_nI (show i_13 < 20 by omega) (by decide))⟩ hK hR (fun _ h => h) hS rfl hl.1 rfl (Nat.le_of_ble_eq_true rfl) dX2_isBeaten_55 ⟨Nat.le_refl _, Nat.le_refl _⟩ (fun H locs hR hS _ _ => ?_)
            refine lv_if_eq (tgt := 85) hx hb dX2_isBeaten_58 (by decide) (fun c_6 => ?_) (fun c_6 => ?_)
            · skip
              have c_6 : ¬ ((mf_proves S p1 (nI i_13)) = true) := gs_zf (φ := (mf_proves S p1 (nI i_13)) = true) c_6
              refine lv_iconst (v := 0) hx hb dX2_isBeaten_85 (by decide) ?_
              exact hJ_86 _ _ _ 0 (gi_0 ((((gi_ca_f c_6).trans (gi_ca_t c_5)).trans (gi_na_f c_4)).trans (gi_co_f c_3))) hR hS (lv_sub hl [1, 2, 3, 5, 6] rfl)
            · skip
              have c_6 : (mf_proves S p1 (nI i_13)) = true := gs_zt (φ := (mf_proves S p1 (nI i_13)) = true) c_6
              refine lv_iload hx hb dX2_isBeaten_61 (lv_at hl 0 rfl) ?_
              refine lv_iload hx hb dX2_isBeaten_63 (lv_at hl 5 rfl) ?_
              refine lv_icmp_gt (tgt := 81) hx hb dX2_isBeaten_65 (by decide) (fun c_7 => ?_) (fun c_7 => ?_)
              · skip
                refine lv_iconst (v := 1) hx hb dX2_isBeaten_81 (by decide) ?_
                refine lv_goto (tgt := 86) hx hb dX2_isBeaten_82 (by decide) ?_
                exact hJ_86 _ _ _ 1 (gi_1 (((((gi_co_t c_7).trans (gi_ca_t c_6)).trans (gi_ca_t c_5)).trans (gi_na_f c_4)).trans (gi_co_f c_3))) hR hS (lv_sub hl [1, 2, 3, 5, 6] rfl)
              · skip
                refine lv_iload hx hb dX2_isBeaten_68 (lv_at hl 0 rfl) ?_
                refine lv_iload hx hb dX2_isBeaten_70 (lv_at hl 5 rfl) ?_
                refine lv_icmp_ne (tgt := 85) hx hb dX2_isBeaten_72 (by decide) (fun c_8 => ?_) (fun c_8 => ?_)
                · skip
                  refine lv_iconst (v := 0) hx hb dX2_isBeaten_85 (by decide) ?_
                  exact hJ_86 _ _ _ 0 (gi_0 ((((((gi_ca_f c_8).trans (gi_co_f c_7)).trans (gi_ca_t c_6)).trans (gi_ca_t c_5)).trans (gi_na_f c_4)).trans (gi_co_f c_3))) hR hS (lv_sub hl [1, 2, 3, 5, 6] rfl)
                · skip
                  refine lv_iload hx hb dX2_isBeaten_75 (lv_at hl 6 rfl) ?_
                  refine lv_iload_n hx hb dX2_isBeaten_77 rfl (lv_at hl 3 rfl) ?_
                  refine lv_icmp_ge (tgt := 85) hx hb dX2_isBeaten_78 (by decide) (fun c_9 => ?_) (fun c_9 => ?_)
                  · skip
                    refine lv_iconst (v := 0) hx hb dX2_isBeaten_85 (by decide) ?_
                    exact hJ_86 _ _ _ 0 (gi_0 (((((((gi_nb_t c_9).trans (gi_ca_t c_8)).trans (gi_co_f c_7)).trans (gi_ca_t c_6)).trans (gi_ca_t c_5)).trans (gi_na_f c_4)).trans (gi_co_f c_3))) hR hS (lv_sub hl [1, 2, 3, 5, 6] rfl)
                  · skip
                    refine lv_iconst (v := 1) hx hb dX2_isBeaten_81 (by decide) ?_
                    refine lv_goto (tgt := 86) hx hb dX2_isBeaten_82 (by decide) ?_
                    exact hJ_86 _ _ _ 1 (gi_1 (((((((gi_nb_f c_9).trans (gi_ca_t c_8)).trans (gi_co_f c_7)).trans (gi_ca_t c_6)).trans (gi_ca_t c_5)).trans (gi_na_f c_4)).trans (gi_co_f c_3))) hR hS (lv_sub hl [1, 2, 3, 5, 6] rfl)
  exact hL_13 ((S 25 0).toNatClampNeg) 0 false _ _ _ (by omega) rfl hR hS (lv_sub hl [3, 4, 5, 2, 1, 0] rfl)
set_option maxHeartbeats 2000000 in
set_option maxRecDepth 100000 in
theorem mt_canServe (l : Launch) (E : en_T) (q : Nat) (ad : Nat → Nat) (L : List Nat) (S : gs_T) (p1 : Int32) (p2 : Int32) : Met l yX2_canServe (ws_ yX2_canServe cX2_canServe 3 (some .boolean)) { frames := 3, cells := 0, slots := 0, locals := 77 } (mr_Pc E q ad L S [.int p1, .int p2] (mi_ok S ∧ vp_in p1 30 ∧ vp_in p2 20)) (mr_Qi E q ad L (gs_bz (mf_canServe S p1 p2)) S) 0 0 (mr_A L) := by
  refine mr_start (by decide) rfl (Nat.le_of_ble_eq_true rfl) ?_
  intro p e s m below meth c ls hx hb hr hlocks hml hown hts hK hP hl hR
  have hl : lv_has ls 3 [(0, .ref q), (1, .int p1), (2, .int p2)] := hl
  have hS : va_S (mr_A L) s.heap s.heap [] := va_S.rf
  obtain ⟨hok, h_p1, h_p2⟩ := hP
  have hf : (mf_canServe S p1 p2) = (mf_canServe S p1 p2) := rfl
  refine lv_aload_n hx hb dX2_canServe_0 rfl (lv_at hl 0 rfl) ?_
  refine lv_iload_n hx hb dX2_canServe_1 rfl (lv_at hl 1 rfl) ?_
  refine lv_iload_n hx hb dX2_canServe_2 rfl (lv_at hl 2 rfl) ?_
  refine mr_calli (As := [.int p1, .int p2]) (rest := []) ⟨hx, hb, hml, hown, hts⟩ (mt_isCandidate l E q ad L S p1 p2) (cwV 2 hts (lw_V q1189 q1191 qs23 q41 q1192) rfl rfl rfl (by decide +kernel) ⟨Nat.le_of_ble_eq_true rfl, Nat.le_of_ble_eq_true rfl⟩) ⟨hok, (by first | assumption | exact mi_f hok (by assumption)), (by first | assumption | exact mi_c hok (by assumption))⟩ hK hR (fun _ h => h) hS rfl hl.1 rfl (Nat.le_of_ble_eq_true rfl) dX2_canServe_3 ⟨Nat.le_refl _, Nat.le_refl _⟩ (fun H locs hR hS _ _ => ?_)
  have hJ_32 : ∀ (H : Heap) (locs : List Loc) (ls : Array Slot) (v_32 : Int32), v_32 = (if ((mf_isCandidate S p1 p2) = true) ∧ (((mf_proves S p1 p2) = true) ∧ (¬ ((mf_isBeaten S p1 p2) = true))) then 1 else 0) → mr_W E q ad L S H → va_S (mr_A L) s.heap H locs → lv_has ls 3 [] → mr_G p l e { frames := 3, cells := 0, slots := 0, locals := 77 } s m [.ref q, .int p1, .int p2] below meth c (mr_A L) (mr_Qi E q ad L (gs_bz (mf_canServe S p1 p2)) S) H locs (F0 m 32 ls [.int v_32]) := by
    intro H locs ls v_32 e_v_32 hR hS hl
    subst e_v_32
    exact W.zret (v := (if ((mf_isCandidate S p1 p2) = true) ∧ (((mf_proves S p1 p2) = true) ∧ (¬ ((mf_isBeaten S p1 p2) = true))) then 1 else 0)) hx hb hr gs_nar (fun t ht hW => ⟨⟨_, _, rfl, ⟨(gs_bz_dec.trans (congrArg gs_bz hf)), rfl⟩, mr_bt ht hR⟩, hS.F ht⟩) hS.2.2 dX2_canServe_32
  refine lv_if_eq (tgt := 31) hx hb dX2_canServe_6 (by decide) (fun c_1 => ?_) (fun c_1 => ?_)
  · skip
    have c_1 : ¬ ((mf_isCandidate S p1 p2) = true) := gs_zf (φ := (mf_isCandidate S p1 p2) = true) c_1
    refine lv_iconst (v := 0) hx hb dX2_canServe_31 (by decide) ?_
    exact hJ_32 _ _ _ 0 (gi_0 (gi_ca_f c_1)) hR hS (lv_sub hl [] rfl)
  · skip
    have c_1 : (mf_isCandidate S p1 p2) = true := gs_zt (φ := (mf_isCandidate S p1 p2) = true) c_1
    refine lv_aload_n hx hb dX2_canServe_9 rfl (lv_at hl 0 rfl) ?_
    refine lv_iload_n hx hb dX2_canServe_10 rfl (lv_at hl 1 rfl) ?_
    refine lv_iload_n hx hb dX2_canServe_11 rfl (lv_at hl 2 rfl) ?_
    refine mr_calli (As := [.int p1, .int p2]) (rest := []) ⟨hx, hb, hml, hown, hts⟩ (mt_proves l E q ad L S p1 p2) (cwV 2 hts (lw_V q1201 q1203 qs26 q41 q1204) rfl rfl rfl (by decide +kernel) ⟨Nat.le_of_ble_eq_true rfl, Nat.le_of_ble_eq_true rfl⟩) ⟨(by first | assumption | exact mi_f hok (by assumption)), (by first | assumption | exact mi_c hok (by assumption))⟩ hK hR (fun _ h => h) hS rfl hl.1 rfl (Nat.le_of_ble_eq_true rfl) dX2_canServe_12 ⟨Nat.le_refl _, Nat.le_refl _⟩ (fun H locs hR hS _ _ => ?_)
    refine lv_if_eq (tgt := 31) hx hb dX2_canServe_15 (by decide) (fun c_2 => ?_) (fun c_2 => ?_)
    · skip
      have c_2 : ¬ ((mf_proves S p1 p2) = true) := gs_zf (φ := (mf_proves S p1 p2) = true) c_2
      refine lv_iconst (v := 0) hx hb dX2_canServe_31 (by decide) ?_
      exact hJ_32 _ _ _ 0 (gi_0 ((gi_ca_f c_2).trans (gi_ca_t c_1))) hR hS (lv_sub hl [] rfl)
    · skip
      have c_2 : (mf_proves S p1 p2) = true := gs_zt (φ := (mf_proves S p1 p2) = true) c_2
      refine lv_aload_n hx hb dX2_canServe_18 rfl (lv_at hl 0 rfl) ?_
      refine lv_iload_n hx hb dX2_canServe_19 rfl (lv_at hl 1 rfl) ?_
      refine lv_iload_n hx hb dX2_canServe_20 rfl (lv_at hl 2 rfl) ?_
      refine mr_calli (As := [.int p1, .int p2]) (rest := []) ⟨hx, hb, hml, hown, hts⟩ (mt_isBeaten l E q ad L S p1 p2) (cwV 2 hts (lw_V q1205 q1207 qs27 q41 q1208) rfl rfl rfl (by decide +kernel) ⟨Nat.le_of_ble_eq_true rfl, Nat.le_of_ble_eq_true rfl⟩) ⟨hok, (by first | assumption | exact mi_f hok (by assumption)), (by first | assumption | exact mi_c hok (by assumption))⟩ hK hR (fun _ h => h) hS rfl hl.1 rfl (Nat.le_of_ble_eq_true rfl) dX2_canServe_21 ⟨Nat.le_refl _, Nat.le_refl _⟩ (fun H locs hR hS _ _ => ?_)
      refine lv_if_ne (tgt := 31) hx hb dX2_canServe_24 (by decide) (fun c_3 => ?_) (fun c_3 => ?_)
      · skip
        have c_3 : (mf_isBeaten S p1 p2) = true := gs_zt (φ := (mf_isBeaten S p1 p2) = true) c_3
        refine lv_iconst (v := 0) hx hb dX2_canServe_31 (by decide) ?_
        exact hJ_32 _ _ _ 0 (gi_0 (((gi_nb_t c_3).trans (gi_ca_t c_2)).trans (gi_ca_t c_1))) hR hS (lv_sub hl [] rfl)
      · skip
        have c_3 : ¬ ((mf_isBeaten S p1 p2) = true) := gs_zf (φ := (mf_isBeaten S p1 p2) = true) c_3
        refine lv_iconst (v := 1) hx hb dX2_canServe_27 (by decide) ?_
        refine lv_goto (tgt := 32) hx hb dX2_canServe_28 (by decide) ?_
        exact hJ_32 _ _ _ 1 (gi_1 (((gi_nb_f c_3).trans (gi_ca_t c_2)).trans (gi_ca_t c_1))) hR hS (lv_sub hl [] rfl)
set_option maxHeartbeats 2000000 in
set_option maxRecDepth 100000 in
theorem mt_release (l : Launch) (E : en_T) (q : Nat) (ad : Nat → Nat) (L : List Nat) (S : gs_T) (p1 : Int32) (p2 : Int32) : Met l yX2_release (ws_ yX2_release cX2_release 5 (some .int)) { frames := 4, cells := 0, slots := 0, locals := 99 } (mr_Pc E q ad L S [.int p1, .int p2] (mi_ok S)) (mr_Qi E q ad L (mf_release S p1 p2).1 (mf_release S p1 p2).2) 0 0 (mr_A L) := by
  refine mr_start (by decide) rfl (Nat.le_of_ble_eq_true rfl) ?_
  intro p e s m below meth c ls hx hb hr hlocks hml hown hts hK hP hl hR
  have hl : lv_has ls 5 [(0, .ref q), (1, .int p1), (2, .int p2)] := hl
  have hS : va_S (mr_A L) s.heap s.heap [] := va_S.rf
  have hok := hP
  have hf : (mf_release S p1 p2) = (mf_release S p1 p2) := rfl
  refine lv_aload_n hx hb dX2_release_0 rfl (lv_at hl 0 rfl) ?_
  refine lv_iload_n hx hb dX2_release_1 rfl (lv_at hl 1 rfl) ?_
  refine mr_calli (As := [.int p1]) (rest := []) ⟨hx, hb, hml, hown, hts⟩ (mt_isFind l E q ad L S p1) (cwV 1 hts (lw_V q1129 q1131 qs17 q41 q1132) rfl rfl rfl (by decide +kernel) ⟨Nat.le_of_ble_eq_true rfl, Nat.le_of_ble_eq_true rfl⟩) trivial hK hR (fun _ h => h) hS rfl hl.1 rfl (Nat.le_of_ble_eq_true rfl) dX2_release_2 ⟨Nat.le_refl _, Nat.le_refl _⟩ (fun H locs hR hS _ _ => ?_)
  have hJ_21 : ∀ (H : Heap) (locs : List Loc) (ls : Array Slot) (v_21 : Int32), v_21 = (if ((mf_isFind S p1) = true) ∧ ((mf_isClaim S p2) = true) then 1 else 0) → mr_W E q ad L S H → va_S (mr_A L) s.heap H locs → lv_has ls 5 [(0, .ref q), (1, .int p1), (2, .int p2)] → mr_G p l e { frames := 4, cells := 0, slots := 0, locals := 99 } s m [.ref q, .int p1, .int p2] below meth c (mr_A L) (mr_Qi E q ad L (mf_release S p1 p2).1 (mf_release S p1 p2).2) H locs (F0 m 21 ls [.int v_21]) := by
    intro H locs ls v_21 e_v_21 hR hS hl
    subst e_v_21
    refine lv_istore_n (lv' := [(3, .int (if ((mf_isFind S p1) = true) ∧ ((mf_isClaim S p2) = true) then 1 else 0)), (0, .ref q), (1, .int p1), (2, .int p2)]) hx hb dX2_release_21 rfl hl (by decide) rfl (fun ls hl => ?_)
    refine lv_aload_n hx hb dX2_release_22 rfl (lv_at hl 1 rfl) ?_
    refine lv_iload_n hx hb dX2_release_23 rfl (lv_at hl 0 rfl) ?_
    have hJ_63 : ∀ (H : Heap) (locs : List Loc) (ls : Array Slot) (v_63 : Int32), v_63 = (if ((mf_isFind S p1) = true) ∧ ((mf_isClaim S p2) = true) then (if (S 15 p1.toNatClampNeg) = 0 then (if (S 19 p1.toNatClampNeg) = 0 then (if (mf_canServe S p1 p2) = true then 0 else 2) else 2) else 2) else 1) → (v_63 = 0 ↔ ((((mf_isFind S p1) = true) ∧ ((mf_isClaim S p2) = true)) ∧ (((S 15 p1.toNatClampNeg) = 0) ∧ (((S 19 p1.toNatClampNeg) = 0) ∧ ((mf_canServe S p1 p2) = true))))) → mr_W E q ad L S H → va_S (mr_A L) s.heap H locs → lv_has ls 5 [(0, .ref q), (1, .int p1), (2, .int p2)] → mr_G p l e { frames := 4, cells := 0, slots := 0, locals := 99 } s m [.ref q, .int p1, .int p2] below meth c (mr_A L) (mr_Qi E q ad L (mf_release S p1 p2).1 (mf_release S p1 p2).2) H locs (F0 m 63 ls [.int v_63, .ref q]) := by
      intro H locs ls v_63 e_v_63 e0_v_63 hR hS hl
      subst e_v_63
      refine mr_calli (As := [.int (if ((mf_isFind S p1) = true) ∧ ((mf_isClaim S p2) = true) then (if (S 15 p1.toNatClampNeg) = 0 then (if (S 19 p1.toNatClampNeg) = 0 then (if (mf_canServe S p1 p2) = true then 0 else 2) else 2) else 2) else 1)]) (rest := []) ⟨hx, hb, hml, hown, hts⟩ (mt_holds l E q ad L S (if ((mf_isFind S p1) = true) ∧ ((mf_isClaim S p2) = true) then (if (S 15 p1.toNatClampNeg) = 0 then (if (S 19 p1.toNatClampNeg) = 0 then (if (mf_canServe S p1 p2) = true then 0 else 2) else 2) else 2) else 1)) (cwV 1 hts (lw_V q1081 q1083 qs15 q41 q1084) rfl rfl rfl (by decide +kernel) ⟨Nat.le_of_ble_eq_true rfl, Nat.le_of_ble_eq_true rfl⟩) trivial hK hR (fun _ h => h) hS rfl hl.1 rfl (Nat.le_of_ble_eq_true rfl) dX2_release_63 ⟨Nat.le_refl _, Nat.le_refl _⟩ (fun H locs hR hS _ _ => ?_)
      refine lv_if_ne (tgt := 71) hx hb dX2_release_66 (by decide) (fun c_1 => ?_) (fun c_1 => ?_)
      · skip
        have c_1 : (((mf_isFind S p1) = true) ∧ ((mf_isClaim S p2) = true)) ∧ (((S 15 p1.toNatClampNeg) = 0) ∧ (((S 19 p1.toNatClampNeg) = 0) ∧ ((mf_canServe S p1 p2) = true))) := e0_v_63.mp (gs_zt (φ := (if ((mf_isFind S p1) = true) ∧ ((mf_isClaim S p2) = true) then (if (S 15 p1.toNatClampNeg) = 0 then (if (S 19 p1.toNatClampNeg) = 0 then (if (mf_canServe S p1 p2) = true then 0 else 2) else 2) else 2) else 1) = 0) c_1)
        have hf := (if_pos c_1).symm.trans hf
        have c_2 := c_1.1
        have c_3 := c_1.2
        have c_4 := c_2.1
        have c_5 := c_2.2
        have c_6 := c_3.1
        have c_7 := c_3.2
        have c_8 := c_7.1
        have c_9 := c_7.2
        refine lv_aload_n hx hb dX2_release_71 rfl (lv_at hl 0 rfl) ?_
        refine mr_geta hx hb hts hown hK hR 14 (by decide) rfl (hts _ q965) (fun _ h9 => h9) dX2_release_72 ?_
        refine lv_iload_n hx hb dX2_release_75 rfl (lv_at hl 1 rfl) ?_
        refine mr_ald (v := (S 14 p1.toNatClampNeg)) hx hb hK hR 14 30 rfl (by decide) rfl (by first | assumption | exact mi_f hok (by assumption)) (congrFun (gs_sk rfl) p1.toNatClampNeg) dX2_release_76 ?_
        refine lv_aload_n hx hb dX2_release_77 rfl (lv_at hl 0 rfl) ?_
        refine mr_geta hx hb hts hown hK hR 5 (by decide) rfl (hts _ q956) (fun _ h9 => h9) dX2_release_78 ?_
        refine lv_aload_n hx hb dX2_release_81 rfl (lv_at hl 0 rfl) ?_
        refine mr_geta hx hb hts hown hK hR 9 (by decide) rfl (hts _ q960) (fun _ h9 => h9) dX2_release_82 ?_
        refine lv_iload_n hx hb dX2_release_85 rfl (lv_at hl 1 rfl) ?_
        refine mr_ald (v := (S 9 p1.toNatClampNeg)) hx hb hK hR 9 30 rfl (by decide) rfl (by first | assumption | exact mi_f hok (by assumption)) (congrFun (gs_sk rfl) p1.toNatClampNeg) dX2_release_86 ?_
        refine mr_ald (v := (S 5 ((S 9 p1.toNatClampNeg).toNatClampNeg))) hx hb hK hR 5 8 rfl (by decide) rfl (by first | assumption | exact mi_k (by assumption) | exact mi_kd hok _ | exact mi_ck hok _) (congrFun (gs_sk rfl) ((S 9 p1.toNatClampNeg).toNatClampNeg)) dX2_release_87 ?_
        refine lv_imul hx hb dX2_release_88 ?_
        refine lv_bipush (v := 100) hx hb dX2_release_89 (by decide) ?_
        refine lv_idiv hx hb dX2_release_91 (by decide) ?_
        refine lv_istore (lv' := [(4, .int (((S 14 p1.toNatClampNeg) * (S 5 ((S 9 p1.toNatClampNeg).toNatClampNeg))) / 100)), (0, .ref q), (1, .int p1), (2, .int p2)]) hx hb dX2_release_92 hl (by decide) rfl (fun ls hl => ?_)
        refine lv_aload_n hx hb dX2_release_94 rfl (lv_at hl 1 rfl) ?_
        refine lv_dup hx hb dX2_release_95 rfl ?_
        refine mr_geti (v := (S 35 0)) hx hb hts hown hK hR 35 (by decide) rfl (hts _ q986) (fun _ h9 => h9) (congrFun (gs_sk rfl) 0) dX2_release_96 ?_
        refine lv_iconst (v := 5) hx hb dX2_release_99 (by decide) ?_
        refine lv_iadd hx hb dX2_release_100 ?_
        refine mr_puti hx hb hts hown hK hR hS 35 (by decide) rfl (hts _ q986) (fun _ h9 => h9) dX2_release_101 (fun H locs hR hS => ?_)
        refine lv_aload_n hx hb dX2_release_104 rfl (lv_at hl 1 rfl) ?_
        refine lv_dup hx hb dX2_release_105 rfl ?_
        refine mr_geti (v := (S 36 0)) hx hb hts hown hK hR 36 (by decide) rfl (hts _ q987) (fun _ h9 => h9) (congrFun ((gs_sk rfl).trans (gs_sk rfl)) 0) dX2_release_106 ?_
        refine lv_iload hx hb dX2_release_109 (lv_at hl 0 rfl) ?_
        refine lv_iadd hx hb dX2_release_111 ?_
        refine mr_puti hx hb hts hown hK hR hS 36 (by decide) rfl (hts _ q987) (fun _ h9 => h9) dX2_release_112 (fun H locs hR hS => ?_)
        refine lv_aload_n hx hb dX2_release_115 rfl (lv_at hl 1 rfl) ?_
        refine mr_geta hx hb hts hown hK hR 15 (by decide) rfl (hts _ q966) (fun _ h9 => h9) dX2_release_116 ?_
        refine lv_iload_n hx hb dX2_release_119 rfl (lv_at hl 2 rfl) ?_
        refine lv_iconst (v := 3) hx hb dX2_release_120 (by decide) ?_
        refine mr_ast (j := p1.toNatClampNeg) hx hb hK hR hS 15 30 rfl (by decide) rfl (by first | assumption | exact mi_f hok (by assumption)) rfl dX2_release_121 (fun H locs hR hS => ?_)
        refine lv_aload_n hx hb dX2_release_122 rfl (lv_at hl 1 rfl) ?_
        refine lv_iload_n hx hb dX2_release_123 rfl (lv_at hl 3 rfl) ?_
        refine lv_iconst (v := 1) hx hb dX2_release_124 (by decide) ?_
        refine lv_iload_n hx hb dX2_release_125 rfl (lv_at hl 2 rfl) ?_
        refine mr_callv (As := [.int p2, .int 1, .int p1]) (rest := []) ⟨hx, hb, hml, hown, hts⟩ (mt_ends l E q ad L (gs_up (gs_up (gs_up (gs_up S 0 0 (if ((mf_isFind S p1) = true) ∧ ((mf_isClaim S p2) = true) then (if (S 15 p1.toNatClampNeg) = 0 then (if (S 19 p1.toNatClampNeg) = 0 then (if (mf_canServe S p1 p2) = true then 0 else 2) else 2) else 2) else 1)) 35 0 ((S 35 0) + 5)) 36 0 ((S 36 0) + (((S 14 p1.toNatClampNeg) * (S 5 ((S 9 p1.toNatClampNeg).toNatClampNeg))) / 100))) 15 p1.toNatClampNeg 3) p2 1 p1) (cwV 3 hts (lw_V q1177 q1179 qs21 q41 q1180) rfl rfl rfl (by decide +kernel) ⟨Nat.le_of_ble_eq_true rfl, Nat.le_of_ble_eq_true rfl⟩) (by first | assumption | exact mi_c hok (by assumption)) hK hR (fun _ h => h) hS rfl hl.1 rfl (Nat.le_of_ble_eq_true rfl) dX2_release_126 ⟨Nat.le_refl _, Nat.le_refl _⟩ (fun H locs hR hS => ?_)
        refine lv_iconst (v := 5) hx hb dX2_release_129 (by decide) ?_
        refine lv_iload hx hb dX2_release_130 (lv_at hl 0 rfl) ?_
        refine lv_iadd hx hb dX2_release_132 ?_
        exact W.iret (v := (5 + (((S 14 p1.toNatClampNeg) * (S 5 ((S 9 p1.toNatClampNeg).toNatClampNeg))) / 100))) hx hb hr (fun t ht hW => ⟨⟨_, _, rfl, ⟨(congrArg Prod.fst hf), (congrArg Prod.snd hf)⟩, mr_bt ht hR⟩, hS.F ht⟩) hS.2.2 dX2_release_133
      · skip
        have c_1 : ¬ ((((mf_isFind S p1) = true) ∧ ((mf_isClaim S p2) = true)) ∧ (((S 15 p1.toNatClampNeg) = 0) ∧ (((S 19 p1.toNatClampNeg) = 0) ∧ ((mf_canServe S p1 p2) = true)))) := fun k => gs_zf (φ := (if ((mf_isFind S p1) = true) ∧ ((mf_isClaim S p2) = true) then (if (S 15 p1.toNatClampNeg) = 0 then (if (S 19 p1.toNatClampNeg) = 0 then (if (mf_canServe S p1 p2) = true then 0 else 2) else 2) else 2) else 1) = 0) c_1 (e0_v_63.mpr k)
        have hf := (if_neg c_1).symm.trans hf
        refine lv_iconst (v := 0) hx hb dX2_release_69 (by decide) ?_
        exact W.iret (v := 0) hx hb hr (fun t ht hW => ⟨⟨_, _, rfl, ⟨(congrArg Prod.fst hf), (congrArg Prod.snd hf)⟩, mr_bt ht hR⟩, hS.F ht⟩) hS.2.2 dX2_release_70
    refine lv_if_ne (tgt := 31) hx hb dX2_release_24 (by decide) (fun c_10 => ?_) (fun c_10 => ?_)
    · skip
      have c_10 : ((mf_isFind S p1) = true) ∧ ((mf_isClaim S p2) = true) := gs_zt (φ := ((mf_isFind S p1) = true) ∧ ((mf_isClaim S p2) = true)) c_10
      have c_11 := c_10.1
      have c_12 := c_10.2
      refine lv_aload_n hx hb dX2_release_31 rfl (lv_at hl 1 rfl) ?_
      refine mr_geta hx hb hts hown hK hR 15 (by decide) rfl (hts _ q966) (fun _ h9 => h9) dX2_release_32 ?_
      refine lv_iload_n hx hb dX2_release_35 rfl (lv_at hl 2 rfl) ?_
      refine mr_ald (v := (S 15 p1.toNatClampNeg)) hx hb hK hR 15 30 rfl (by decide) rfl (by first | assumption | exact mi_f hok (by assumption)) rfl dX2_release_36 ?_
      refine lv_if_ne (tgt := 58) hx hb dX2_release_37 (by decide) (fun c_13 => ?_) (fun c_13 => ?_)
      · skip
        refine lv_iconst (v := 2) hx hb dX2_release_58 (by decide) ?_
        refine lv_goto (tgt := 63) hx hb dX2_release_59 (by decide) ?_
        exact hJ_63 _ _ _ 2 (((if_neg c_13).symm).trans (if_pos c_10).symm) (gi_z0 (by decide) ((gi_ca_f c_13).trans (gi_ca_t c_10))) hR hS (lv_sub hl [1, 2, 3] rfl)
      · skip
        refine lv_aload_n hx hb dX2_release_40 rfl (lv_at hl 1 rfl) ?_
        refine mr_geta hx hb hts hown hK hR 19 (by decide) rfl (hts _ q970) (fun _ h9 => h9) dX2_release_41 ?_
        refine lv_iload_n hx hb dX2_release_44 rfl (lv_at hl 2 rfl) ?_
        refine mr_zald (v := (S 19 p1.toNatClampNeg)) hx hb hK hR (by first | assumption | exact mi_f hok (by assumption)) rfl dX2_release_45 ?_
        refine lv_if_ne (tgt := 58) hx hb dX2_release_46 (by decide) (fun c_14 => ?_) (fun c_14 => ?_)
        · skip
          refine lv_iconst (v := 2) hx hb dX2_release_58 (by decide) ?_
          refine lv_goto (tgt := 63) hx hb dX2_release_59 (by decide) ?_
          exact hJ_63 _ _ _ 2 ((((if_neg c_14).symm).trans (if_pos c_13).symm).trans (if_pos c_10).symm) (gi_z0 (by decide) (((gi_ca_f c_14).trans (gi_ca_t c_13)).trans (gi_ca_t c_10))) hR hS (lv_sub hl [1, 2, 3] rfl)
        · skip
          refine lv_aload_n hx hb dX2_release_49 rfl (lv_at hl 1 rfl) ?_
          refine lv_iload_n hx hb dX2_release_50 rfl (lv_at hl 2 rfl) ?_
          refine lv_iload_n hx hb dX2_release_51 rfl (lv_at hl 3 rfl) ?_
          refine mr_calli (As := [.int p1, .int p2]) (rest := [.ref q]) ⟨hx, hb, hml, hown, hts⟩ (mt_canServe l E q ad L S p1 p2) (cwV 2 hts (lw_V q1185 q1187 qs22 q41 q1188) rfl rfl rfl (by decide +kernel) ⟨Nat.le_of_ble_eq_true rfl, Nat.le_of_ble_eq_true rfl⟩) ⟨hok, (by first | assumption | exact mi_f hok (by assumption)), (by first | assumption | exact mi_c hok (by assumption))⟩ hK hR (fun _ h => h) hS rfl hl.1 rfl (Nat.le_of_ble_eq_true rfl) dX2_release_52 ⟨Nat.le_refl _, Nat.le_refl _⟩ (fun H locs hR hS _ _ => ?_)
          refine lv_if_ne (tgt := 62) hx hb dX2_release_55 (by decide) (fun c_15 => ?_) (fun c_15 => ?_)
          · skip
            have c_15 : (mf_canServe S p1 p2) = true := gs_zt (φ := (mf_canServe S p1 p2) = true) c_15
            refine lv_iconst (v := 0) hx hb dX2_release_62 (by decide) ?_
            exact hJ_63 _ _ _ 0 (((((if_pos c_15).symm).trans (if_pos c_14).symm).trans (if_pos c_13).symm).trans (if_pos c_10).symm) (gi_z1 ((((gi_cb_t c_15).trans (gi_ca_t c_14)).trans (gi_ca_t c_13)).trans (gi_ca_t c_10))) hR hS (lv_sub hl [1, 2, 3] rfl)
          · skip
            have c_15 : ¬ ((mf_canServe S p1 p2) = true) := gs_zf (φ := (mf_canServe S p1 p2) = true) c_15
            refine lv_iconst (v := 2) hx hb dX2_release_58 (by decide) ?_
            refine lv_goto (tgt := 63) hx hb dX2_release_59 (by decide) ?_
            exact hJ_63 _ _ _ 2 (((((if_neg c_15).symm).trans (if_pos c_14).symm).trans (if_pos c_13).symm).trans (if_pos c_10).symm) (gi_z0 (by decide) ((((gi_cb_f c_15).trans (gi_ca_t c_14)).trans (gi_ca_t c_13)).trans (gi_ca_t c_10))) hR hS (lv_sub hl [1, 2, 3] rfl)
    · skip
      have c_10 : ¬ (((mf_isFind S p1) = true) ∧ ((mf_isClaim S p2) = true)) := gs_zf (φ := ((mf_isFind S p1) = true) ∧ ((mf_isClaim S p2) = true)) c_10
      refine lv_iconst (v := 1) hx hb dX2_release_27 (by decide) ?_
      refine lv_goto (tgt := 63) hx hb dX2_release_28 (by decide) ?_
      exact hJ_63 _ _ _ 1 ((if_neg c_10).symm) (gi_z0 (by decide) (gi_ca_f c_10)) hR hS (lv_sub hl [1, 2, 3] rfl)
  refine lv_if_eq (tgt := 20) hx hb dX2_release_5 (by decide) (fun c_16 => ?_) (fun c_16 => ?_)
  · skip
    have c_16 : ¬ ((mf_isFind S p1) = true) := gs_zf (φ := (mf_isFind S p1) = true) c_16
    refine lv_iconst (v := 0) hx hb dX2_release_20 (by decide) ?_
    exact hJ_21 _ _ _ 0 (gi_0 (gi_ca_f c_16)) hR hS (lv_sub hl [0, 1, 2] rfl)
  · skip
    have c_16 : (mf_isFind S p1) = true := gs_zt (φ := (mf_isFind S p1) = true) c_16
    refine lv_aload_n hx hb dX2_release_8 rfl (lv_at hl 0 rfl) ?_
    refine lv_iload_n hx hb dX2_release_9 rfl (lv_at hl 2 rfl) ?_
    refine mr_calli (As := [.int p2]) (rest := []) ⟨hx, hb, hml, hown, hts⟩ (mt_isClaim l E q ad L S p2) (cwV 1 hts (lw_V q1165 q1167 qs20 q41 q1168) rfl rfl rfl (by decide +kernel) ⟨Nat.le_of_ble_eq_true rfl, Nat.le_of_ble_eq_true rfl⟩) trivial hK hR (fun _ h => h) hS rfl hl.1 rfl (Nat.le_of_ble_eq_true rfl) dX2_release_10 ⟨Nat.le_refl _, Nat.le_refl _⟩ (fun H locs hR hS _ _ => ?_)
    refine lv_if_eq (tgt := 20) hx hb dX2_release_13 (by decide) (fun c_17 => ?_) (fun c_17 => ?_)
    · skip
      have c_17 : ¬ ((mf_isClaim S p2) = true) := gs_zf (φ := (mf_isClaim S p2) = true) c_17
      refine lv_iconst (v := 0) hx hb dX2_release_20 (by decide) ?_
      exact hJ_21 _ _ _ 0 (gi_0 ((gi_cb_f c_17).trans (gi_ca_t c_16))) hR hS (lv_sub hl [0, 1, 2] rfl)
    · skip
      have c_17 : (mf_isClaim S p2) = true := gs_zt (φ := (mf_isClaim S p2) = true) c_17
      refine lv_iconst (v := 1) hx hb dX2_release_16 (by decide) ?_
      refine lv_goto (tgt := 21) hx hb dX2_release_17 (by decide) ?_
      exact hJ_21 _ _ _ 1 (gi_1 ((gi_cb_t c_17).trans (gi_ca_t c_16))) hR hS (lv_sub hl [0, 1, 2] rfl)
set_option maxHeartbeats 2000000 in
set_option maxRecDepth 100000 in
theorem mt_isOver (l : Launch) (E : en_T) (q : Nat) (ad : Nat → Nat) (L : List Nat) (S : gs_T) (p1 : Int32) : Met l yX2_isOver (ws_ yX2_isOver cX2_isOver 4 (some .boolean)) { frames := 3, cells := 0, slots := 0, locals := 73 } (mr_Pc E q ad L S [.int p1] (mi_ok S ∧ vp_in p1 30)) (mr_Qi E q ad L (gs_bz (mf_isOver S p1)) S) 0 0 (mr_A L) := by
  refine mr_start (by decide) rfl (Nat.le_of_ble_eq_true rfl) ?_
  intro p e s m below meth c ls hx hb hr hlocks hml hown hts hK hP hl hR
  have hl : lv_has ls 4 [(0, .ref q), (1, .int p1)] := hl
  have hS : va_S (mr_A L) s.heap s.heap [] := va_S.rf
  obtain ⟨hok, h_p1⟩ := hP
  have hf : (mf_isOver S p1) = (mf_isOver S p1) := rfl
  have hnc := mi_m20 hok
  refine lv_aload_n hx hb dX2_isOver_0 rfl (lv_at hl 0 rfl) ?_
  refine mr_geta hx hb hts hown hK hR 15 (by decide) rfl (hts _ q966) (fun _ h9 => h9) dX2_isOver_1 ?_
  refine lv_iload_n hx hb dX2_isOver_4 rfl (lv_at hl 1 rfl) ?_
  refine mr_ald (v := (S 15 p1.toNatClampNeg)) hx hb hK hR 15 30 rfl (by decide) rfl (by first | assumption | exact mi_f hok (by assumption)) rfl dX2_isOver_5 ?_
  have hJ_36 : ∀ (H : Heap) (locs : List Loc) (ls : Array Slot) (v_36 : Int32), v_36 = (if ((S 15 p1.toNatClampNeg) = 0) ∧ ((¬ ((S 1 0) ≤ (S 18 p1.toNatClampNeg))) ∧ ((S 19 p1.toNatClampNeg) = 0)) then 1 else 0) → mr_W E q ad L S H → va_S (mr_A L) s.heap H locs → lv_has ls 4 [(0, .ref q), (1, .int p1)] → mr_G p l e { frames := 3, cells := 0, slots := 0, locals := 73 } s m [.ref q, .int p1] below meth c (mr_A L) (mr_Qi E q ad L (gs_bz (mf_isOver S p1)) S) H locs (F0 m 36 ls [.int v_36]) := by
    intro H locs ls v_36 e_v_36 hR hS hl
    subst e_v_36
    refine lv_istore_n (lv' := [(2, .int (if ((S 15 p1.toNatClampNeg) = 0) ∧ ((¬ ((S 1 0) ≤ (S 18 p1.toNatClampNeg))) ∧ ((S 19 p1.toNatClampNeg) = 0)) then 1 else 0)), (0, .ref q), (1, .int p1)]) hx hb dX2_isOver_36 rfl hl (by decide) rfl (fun ls hl => ?_)
    refine lv_iconst (v := 0) hx hb dX2_isOver_37 (by decide) ?_
    refine lv_istore_n (lv' := [(3, .int 0), (2, .int (if ((S 15 p1.toNatClampNeg) = 0) ∧ ((¬ ((S 1 0) ≤ (S 18 p1.toNatClampNeg))) ∧ ((S 19 p1.toNatClampNeg) = 0)) then 1 else 0)), (0, .ref q), (1, .int p1)]) hx hb dX2_isOver_38 rfl hl (by decide) rfl (fun ls hl => ?_)
    have hL_39 : ∀ (n_39 i_39 : Nat) (x2_39 : Bool) (H : Heap) (locs : List Loc) (ls : Array Slot), i_39 + n_39 = (S 25 0).toNatClampNeg → mf_isOver_R39 S p1 n_39 i_39 x2_39 = (mf_isOver_R39 S p1 ((S 25 0).toNatClampNeg) 0 (decide (((S 15 p1.toNatClampNeg) = 0) ∧ ((¬ ((S 1 0) ≤ (S 18 p1.toNatClampNeg))) ∧ ((S 19 p1.toNatClampNeg) = 0))))) → mr_W E q ad L S H → va_S (mr_A L) s.heap H locs → lv_has ls 4 [(0, .ref q), (1, .int p1), (2, .int (if x2_39 = true then 1 else 0)), (3, .int (nI i_39))] → mr_G p l e { frames := 3, cells := 0, slots := 0, locals := 73 } s m [.ref q, .int p1] below meth c (mr_A L) (mr_Qi E q ad L (gs_bz (mf_isOver S p1)) S) H locs (F0 m 39 ls []) := by
      intro n_39
      induction n_39 with
      | zero =>
        intro i_39 x2_39 H locs ls hi_39 hg_39 hR hS hl
        have hi_39 : i_39 = (S 25 0).toNatClampNeg := hi_39
        subst hi_39
        have e_x2_39 : x2_39 = (mf_isOver_R39 S p1 ((S 25 0).toNatClampNeg) 0 (decide (((S 15 p1.toNatClampNeg) = 0) ∧ ((¬ ((S 1 0) ≤ (S 18 p1.toNatClampNeg))) ∧ ((S 19 p1.toNatClampNeg) = 0))))) := congrArg (fun z => z) hg_39
        subst e_x2_39
        refine lv_iload_n hx hb dX2_isOver_39 rfl (lv_at hl 3 rfl) ?_
        refine lv_aload_n hx hb dX2_isOver_40 rfl (lv_at hl 0 rfl) ?_
        refine mr_geti (v := (S 25 0)) hx hb hts hown hK hR 25 (by decide) rfl (hts _ q976) (fun _ h9 => h9) rfl dX2_isOver_41 ?_
        refine lv_icmp_ge (tgt := 72) hx hb dX2_isOver_44 (by decide) (fun c_1 => ?_) (fun c_1 => absurd (lp_x0 (mi_m hok)) c_1)
        refine lv_iload_n hx hb dX2_isOver_72 rfl (lv_at hl 2 rfl) ?_
        exact W.zret (v := (if (mf_isOver_R39 S p1 ((S 25 0).toNatClampNeg) 0 (decide (((S 15 p1.toNatClampNeg) = 0) ∧ ((¬ ((S 1 0) ≤ (S 18 p1.toNatClampNeg))) ∧ ((S 19 p1.toNatClampNeg) = 0))))) = true then 1 else 0)) hx hb hr gs_nar (fun t ht hW => ⟨⟨_, _, rfl, ⟨(gs_bz_dec.trans (congrArg gs_bz hf)), rfl⟩, mr_bt ht hR⟩, hS.F ht⟩) hS.2.2 dX2_isOver_73
      | succ n_39 ih_39 =>
        intro i_39 x2_39 H locs ls hi_39 hg_39 hR hS hl
        have hlt_39 : i_39 < (S 25 0).toNatClampNeg := by omega
        have hf_39 : mf_isOver_L39 S p1 i_39 x2_39 = mf_isOver_L39 S p1 i_39 x2_39 := rfl
        refine lv_iload_n hx hb dX2_isOver_39 rfl (lv_at hl 3 rfl) ?_
        refine lv_aload_n hx hb dX2_isOver_40 rfl (lv_at hl 0 rfl) ?_
        refine mr_geti (v := (S 25 0)) hx hb hts hown hK hR 25 (by decide) rfl (hts _ q976) (fun _ h9 => h9) rfl dX2_isOver_41 ?_
        refine lv_icmp_ge (tgt := 72) hx hb dX2_isOver_44 (by decide) (fun c_2 => absurd c_2 (lp_x1 (mi_m hok) hlt_39 (mi_mb hok))) (fun c_2 => ?_)
        refine lv_iload_n hx hb dX2_isOver_47 rfl (lv_at hl 2 rfl) ?_
        have hJ_65 : ∀ (H : Heap) (locs : List Loc) (ls : Array Slot) (v_65 : Int32), v_65 = (if (x2_39 = true) ∧ (¬ ((mf_isCandidate S p1 (nI i_39)) = true)) then 1 else 0) → mr_W E q ad L S H → va_S (mr_A L) s.heap H locs → lv_has ls 4 [(0, .ref q), (1, .int p1), (3, .int (nI i_39))] → mr_G p l e { frames := 3, cells := 0, slots := 0, locals := 73 } s m [.ref q, .int p1] below meth c (mr_A L) (mr_Qi E q ad L (gs_bz (mf_isOver S p1)) S) H locs (F0 m 65 ls [.int v_65]) := by
          intro H locs ls v_65 e_v_65 hR hS hl
          subst e_v_65
          refine lv_istore_n (lv' := [(2, .int (if (x2_39 = true) ∧ (¬ ((mf_isCandidate S p1 (nI i_39)) = true)) then 1 else 0)), (0, .ref q), (1, .int p1), (3, .int (nI i_39))]) hx hb dX2_isOver_65 rfl hl (by decide) rfl (fun ls hl => ?_)
          refine lv_iinc (v := (nI (i_39 + 1))) (lv' := [(3, .int (nI (i_39 + 1))), (2, .int (if (x2_39 = true) ∧ (¬ ((mf_isCandidate S p1 (nI i_39)) = true)) then 1 else 0)), (0, .ref q), (1, .int p1)]) hx hb dX2_isOver_66 hl (k := 3) rfl (nI_1 i_39) (by decide) rfl (fun ls hl => ?_)
          refine lv_goto (tgt := 39) hx hb dX2_isOver_69 (by decide) ?_
          exact ih_39 (i_39 + 1) (decide ((x2_39 = true) ∧ (¬ ((mf_isCandidate S p1 (nI i_39)) = true)))) _ _ _ (by omega) ((congrArg (fun z => mf_isOver_R39 S p1 n_39 (i_39 + 1) z) hf_39).trans hg_39) hR hS (by rw [gs_dd (φ := (x2_39 = true) ∧ (¬ ((mf_isCandidate S p1 (nI i_39)) = true)))]; exact lv_sub hl [2, 3, 1, 0] rfl)
        refine lv_if_eq (tgt := 64) hx hb dX2_isOver_48 (by decide) (fun c_3 => ?_) (fun c_3 => ?_)
        · skip
          have c_3 : ¬ (x2_39 = true) := gs_zf (φ := x2_39 = true) c_3
          refine lv_iconst (v := 0) hx hb dX2_isOver_64 (by decide) ?_
          exact hJ_65 _ _ _ 0 (gi_0 (gi_ca_f c_3)) hR hS (lv_sub hl [0, 1, 3] rfl)
        · skip
          have c_3 : x2_39 = true := gs_zt (φ := x2_39 = true) c_3
          refine lv_aload_n hx hb dX2_isOver_51 rfl (lv_at hl 0 rfl) ?_
          refine lv_iload_n hx hb dX2_isOver_52 rfl (lv_at hl 1 rfl) ?_
          refine lv_iload_n hx hb dX2_isOver_53 rfl (lv_at hl 3 rfl) ?_
          refine mr_calli (As := [.int p1, .int (nI i_39)]) (rest := []) ⟨hx, hb, hml, hown, hts⟩ (mt_isCandidate l E q ad L S p1 (nI i_39)) (cwV 2 hts (lw_V q1189 q1191 qs23 q41 q1192) rfl rfl rfl (by decide +kernel) ⟨Nat.le_of_ble_eq_true rfl, Nat.le_of_ble_eq_true rfl⟩) ⟨hok, (by first | assumption | exact mi_f hok (by assumption)), (by first | assumption | exact vp_in_nI (show i_39 < 20 by omega) (by decide))⟩ hK hR (fun _ h => h) hS rfl hl.1 rfl (Nat.le_of_ble_eq_true rfl) dX2_isOver_54 ⟨Nat.le_refl _, Nat.le_refl _⟩ (fun H locs hR hS _ _ => ?_)
          refine lv_if_ne (tgt := 64) hx hb dX2_isOver_57 (by decide) (fun c_4 => ?_) (fun c_4 => ?_)
          · skip
            have c_4 : (mf_isCandidate S p1 (nI i_39)) = true := gs_zt (φ := (mf_isCandidate S p1 (nI i_39)) = true) c_4
            refine lv_iconst (v := 0) hx hb dX2_isOver_64 (by decide) ?_
            exact hJ_65 _ _ _ 0 (gi_0 ((gi_nb_t c_4).trans (gi_ca_t c_3))) hR hS (lv_sub hl [0, 1, 3] rfl)
          · skip
            have c_4 : ¬ ((mf_isCandidate S p1 (nI i_39)) = true) := gs_zf (φ := (mf_isCandidate S p1 (nI i_39)) = true) c_4
            refine lv_iconst (v := 1) hx hb dX2_isOver_60 (by decide) ?_
            refine lv_goto (tgt := 65) hx hb dX2_isOver_61 (by decide) ?_
            exact hJ_65 _ _ _ 1 (gi_1 ((gi_nb_f c_4).trans (gi_ca_t c_3))) hR hS (lv_sub hl [0, 1, 3] rfl)
    exact hL_39 ((S 25 0).toNatClampNeg) 0 (decide (((S 15 p1.toNatClampNeg) = 0) ∧ ((¬ ((S 1 0) ≤ (S 18 p1.toNatClampNeg))) ∧ ((S 19 p1.toNatClampNeg) = 0)))) _ _ _ (by omega) rfl hR hS (by rw [gs_dd (φ := ((S 15 p1.toNatClampNeg) = 0) ∧ ((¬ ((S 1 0) ≤ (S 18 p1.toNatClampNeg))) ∧ ((S 19 p1.toNatClampNeg) = 0)))]; exact lv_sub hl [2, 3, 1, 0] rfl)
  refine lv_if_ne (tgt := 35) hx hb dX2_isOver_6 (by decide) (fun c_5 => ?_) (fun c_5 => ?_)
  · skip
    refine lv_iconst (v := 0) hx hb dX2_isOver_35 (by decide) ?_
    exact hJ_36 _ _ _ 0 (gi_0 (gi_ca_f c_5)) hR hS (lv_sub hl [0, 1] rfl)
  · skip
    refine lv_aload_n hx hb dX2_isOver_9 rfl (lv_at hl 0 rfl) ?_
    refine mr_geta hx hb hts hown hK hR 18 (by decide) rfl (hts _ q969) (fun _ h9 => h9) dX2_isOver_10 ?_
    refine lv_iload_n hx hb dX2_isOver_13 rfl (lv_at hl 1 rfl) ?_
    refine mr_ald (v := (S 18 p1.toNatClampNeg)) hx hb hK hR 18 30 rfl (by decide) rfl (by first | assumption | exact mi_f hok (by assumption)) rfl dX2_isOver_14 ?_
    refine lv_aload_n hx hb dX2_isOver_15 rfl (lv_at hl 0 rfl) ?_
    refine mr_geti (v := (S 1 0)) hx hb hts hown hK hR 1 (by decide) rfl (hts _ q952) (fun _ h9 => h9) rfl dX2_isOver_16 ?_
    refine lv_icmp_ge (tgt := 35) hx hb dX2_isOver_19 (by decide) (fun c_6 => ?_) (fun c_6 => ?_)
    · skip
      refine lv_iconst (v := 0) hx hb dX2_isOver_35 (by decide) ?_
      exact hJ_36 _ _ _ 0 (gi_0 ((gi_na_t c_6).trans (gi_ca_t c_5))) hR hS (lv_sub hl [0, 1] rfl)
    · skip
      refine lv_aload_n hx hb dX2_isOver_22 rfl (lv_at hl 0 rfl) ?_
      refine mr_geta hx hb hts hown hK hR 19 (by decide) rfl (hts _ q970) (fun _ h9 => h9) dX2_isOver_23 ?_
      refine lv_iload_n hx hb dX2_isOver_26 rfl (lv_at hl 1 rfl) ?_
      refine mr_zald (v := (S 19 p1.toNatClampNeg)) hx hb hK hR (by first | assumption | exact mi_f hok (by assumption)) rfl dX2_isOver_27 ?_
      refine lv_if_ne (tgt := 35) hx hb dX2_isOver_28 (by decide) (fun c_7 => ?_) (fun c_7 => ?_)
      · skip
        refine lv_iconst (v := 0) hx hb dX2_isOver_35 (by decide) ?_
        exact hJ_36 _ _ _ 0 (gi_0 (((gi_cb_f c_7).trans (gi_na_f c_6)).trans (gi_ca_t c_5))) hR hS (lv_sub hl [0, 1] rfl)
      · skip
        refine lv_iconst (v := 1) hx hb dX2_isOver_31 (by decide) ?_
        refine lv_goto (tgt := 36) hx hb dX2_isOver_32 (by decide) ?_
        exact hJ_36 _ _ _ 1 (gi_1 (((gi_cb_t c_7).trans (gi_na_f c_6)).trans (gi_ca_t c_5))) hR hS (lv_sub hl [0, 1] rfl)
set_option maxHeartbeats 2000000 in
set_option maxRecDepth 100000 in
theorem mt_extend (l : Launch) (E : en_T) (q : Nat) (ad : Nat → Nat) (L : List Nat) (S : gs_T) (p1 : Int32) (p2 : Int32) : Met l yX2_extend (ws_ yX2_extend cX2_extend 4 (some .int)) { frames := 2, cells := 0, slots := 0, locals := 43 } (mr_Pc E q ad L S [.int p1, .int p2] (mi_ok S)) (mr_Qi E q ad L (mf_extend S p1 p2).1 (mf_extend S p1 p2).2) 0 0 (mr_A L) := by
  refine mr_start (by decide) rfl (Nat.le_of_ble_eq_true rfl) ?_
  intro p e s m below meth c ls hx hb hr hlocks hml hown hts hK hP hl hR
  have hl : lv_has ls 4 [(0, .ref q), (1, .int p1), (2, .int p2)] := hl
  have hS : va_S (mr_A L) s.heap s.heap [] := va_S.rf
  have hok := hP
  have hf : (mf_extend S p1 p2) = (mf_extend S p1 p2) := rfl
  refine lv_aload_n hx hb dX2_extend_0 rfl (lv_at hl 0 rfl) ?_
  refine lv_iload_n hx hb dX2_extend_1 rfl (lv_at hl 1 rfl) ?_
  refine mr_calli (As := [.int p1]) (rest := []) ⟨hx, hb, hml, hown, hts⟩ (mt_isFind l E q ad L S p1) (cwV 1 hts (lw_V q1129 q1131 qs17 q41 q1132) rfl rfl rfl (by decide +kernel) ⟨Nat.le_of_ble_eq_true rfl, Nat.le_of_ble_eq_true rfl⟩) trivial hK hR (fun _ h => h) hS rfl hl.1 rfl (Nat.le_of_ble_eq_true rfl) dX2_extend_2 ⟨Nat.le_refl _, Nat.le_refl _⟩ (fun H locs hR hS _ _ => ?_)
  refine lv_istore_n (lv' := [(3, .int (if (mf_isFind S p1) = true then 1 else 0)), (0, .ref q), (1, .int p1), (2, .int p2)]) hx hb dX2_extend_5 rfl hl (by decide) rfl (fun ls hl => ?_)
  refine lv_aload_n hx hb dX2_extend_6 rfl (lv_at hl 1 rfl) ?_
  refine lv_iload_n hx hb dX2_extend_7 rfl (lv_at hl 0 rfl) ?_
  have hJ_54 : ∀ (H : Heap) (locs : List Loc) (ls : Array Slot) (v_54 : Int32), v_54 = (if (mf_isFind S p1) = true then (if (mf_in p2 1 365) = true then (if (mf_isHere S p1) = true then (if (S 9 p1.toNatClampNeg) = 7 then 3 else 0) else 3) else 2) else 1) → (v_54 = 0 ↔ (((mf_isFind S p1) = true) ∧ (((mf_in p2 1 365) = true) ∧ (((mf_isHere S p1) = true) ∧ (¬ ((S 9 p1.toNatClampNeg) = 7)))))) → mr_W E q ad L S H → va_S (mr_A L) s.heap H locs → lv_has ls 4 [(0, .ref q), (1, .int p1), (2, .int p2)] → mr_G p l e { frames := 2, cells := 0, slots := 0, locals := 43 } s m [.ref q, .int p1, .int p2] below meth c (mr_A L) (mr_Qi E q ad L (mf_extend S p1 p2).1 (mf_extend S p1 p2).2) H locs (F0 m 54 ls [.int v_54, .ref q]) := by
    intro H locs ls v_54 e_v_54 e0_v_54 hR hS hl
    subst e_v_54
    refine mr_calli (As := [.int (if (mf_isFind S p1) = true then (if (mf_in p2 1 365) = true then (if (mf_isHere S p1) = true then (if (S 9 p1.toNatClampNeg) = 7 then 3 else 0) else 3) else 2) else 1)]) (rest := []) ⟨hx, hb, hml, hown, hts⟩ (mt_holds l E q ad L S (if (mf_isFind S p1) = true then (if (mf_in p2 1 365) = true then (if (mf_isHere S p1) = true then (if (S 9 p1.toNatClampNeg) = 7 then 3 else 0) else 3) else 2) else 1)) (cwV 1 hts (lw_V q1081 q1083 qs15 q41 q1084) rfl rfl rfl (by decide +kernel) ⟨Nat.le_of_ble_eq_true rfl, Nat.le_of_ble_eq_true rfl⟩) trivial hK hR (fun _ h => h) hS rfl hl.1 rfl (Nat.le_of_ble_eq_true rfl) dX2_extend_54 ⟨Nat.le_refl _, Nat.le_refl _⟩ (fun H locs hR hS _ _ => ?_)
    refine lv_if_ne (tgt := 62) hx hb dX2_extend_57 (by decide) (fun c_1 => ?_) (fun c_1 => ?_)
    · skip
      have c_1 : ((mf_isFind S p1) = true) ∧ (((mf_in p2 1 365) = true) ∧ (((mf_isHere S p1) = true) ∧ (¬ ((S 9 p1.toNatClampNeg) = 7)))) := e0_v_54.mp (gs_zt (φ := (if (mf_isFind S p1) = true then (if (mf_in p2 1 365) = true then (if (mf_isHere S p1) = true then (if (S 9 p1.toNatClampNeg) = 7 then 3 else 0) else 3) else 2) else 1) = 0) c_1)
      have hf := (if_pos c_1).symm.trans hf
      have c_2 := c_1.1
      have c_3 := c_1.2
      have c_4 := c_3.1
      have c_5 := c_3.2
      have c_6 := c_5.1
      have c_7 := c_5.2
      refine lv_aload_n hx hb dX2_extend_62 rfl (lv_at hl 0 rfl) ?_
      refine mr_geta hx hb hts hown hK hR 18 (by decide) rfl (hts _ q969) (fun _ h9 => h9) dX2_extend_63 ?_
      refine lv_iload_n hx hb dX2_extend_66 rfl (lv_at hl 1 rfl) ?_
      refine lv_aload_n hx hb dX2_extend_67 rfl (lv_at hl 0 rfl) ?_
      refine mr_geti (v := (S 1 0)) hx hb hts hown hK hR 1 (by decide) rfl (hts _ q952) (fun _ h9 => h9) (congrFun (gs_sk rfl) 0) dX2_extend_68 ?_
      refine lv_iload_n hx hb dX2_extend_71 rfl (lv_at hl 2 rfl) ?_
      refine lv_iadd hx hb dX2_extend_72 ?_
      refine lv_aload_n hx hb dX2_extend_73 rfl (lv_at hl 0 rfl) ?_
      refine mr_geta hx hb hts hown hK hR 18 (by decide) rfl (hts _ q969) (fun _ h9 => h9) dX2_extend_74 ?_
      refine lv_iload_n hx hb dX2_extend_77 rfl (lv_at hl 1 rfl) ?_
      refine mr_ald (v := (S 18 p1.toNatClampNeg)) hx hb hK hR 18 30 rfl (by decide) rfl (by first | assumption | exact mi_f hok (by assumption)) (congrFun (gs_sk rfl) p1.toNatClampNeg) dX2_extend_78 ?_
      have hJ_97 : ∀ (H : Heap) (locs : List Loc) (ls : Array Slot) (v_97 : Int32), v_97 = (if ((S 1 0) + p2) ≤ (S 18 p1.toNatClampNeg) then (S 18 p1.toNatClampNeg) else ((S 1 0) + p2)) → mr_W E q ad L (gs_up S 0 0 (if (mf_isFind S p1) = true then (if (mf_in p2 1 365) = true then (if (mf_isHere S p1) = true then (if (S 9 p1.toNatClampNeg) = 7 then 3 else 0) else 3) else 2) else 1)) H → va_S (mr_A L) s.heap H locs → lv_has ls 4 [(0, .ref q), (1, .int p1)] → mr_G p l e { frames := 2, cells := 0, slots := 0, locals := 43 } s m [.ref q, .int p1, .int p2] below meth c (mr_A L) (mr_Qi E q ad L (mf_extend S p1 p2).1 (mf_extend S p1 p2).2) H locs (F0 m 97 ls [.int v_97, .int p1, .ref (ad 18)]) := by
        intro H locs ls v_97 e_v_97 hR hS hl
        subst e_v_97
        refine mr_ast (j := p1.toNatClampNeg) hx hb hK hR hS 18 30 rfl (by decide) rfl (by first | assumption | exact mi_f hok (by assumption)) rfl dX2_extend_97 (fun H locs hR hS => ?_)
        refine lv_aload_n hx hb dX2_extend_98 rfl (lv_at hl 0 rfl) ?_
        refine mr_geta hx hb hts hown hK hR 18 (by decide) rfl (hts _ q969) (fun _ h9 => h9) dX2_extend_99 ?_
        refine lv_iload_n hx hb dX2_extend_102 rfl (lv_at hl 1 rfl) ?_
        refine mr_ald (v := (if ((S 1 0) + p2) ≤ (S 18 p1.toNatClampNeg) then (S 18 p1.toNatClampNeg) else ((S 1 0) + p2))) hx hb hK hR 18 30 rfl (by decide) rfl (by first | assumption | exact mi_f hok (by assumption)) ((congrFun (gs_up_at.trans (congrArg (fun z => upd z p1.toNatClampNeg (if ((S 1 0) + p2) ≤ (S 18 p1.toNatClampNeg) then (S 18 p1.toNatClampNeg) else ((S 1 0) + p2))) (gs_sk rfl))) p1.toNatClampNeg).trans pk_us) dX2_extend_103 ?_
        exact W.iret (v := (if ((S 1 0) + p2) ≤ (S 18 p1.toNatClampNeg) then (S 18 p1.toNatClampNeg) else ((S 1 0) + p2))) hx hb hr (fun t ht hW => ⟨⟨_, _, rfl, ⟨(congrArg Prod.fst hf), (congrArg Prod.snd hf)⟩, mr_bt ht hR⟩, hS.F ht⟩) hS.2.2 dX2_extend_104
      refine lv_icmp_le (tgt := 91) hx hb dX2_extend_79 (by decide) (fun c_8 => ?_) (fun c_8 => ?_)
      · skip
        refine lv_aload_n hx hb dX2_extend_91 rfl (lv_at hl 0 rfl) ?_
        refine mr_geta hx hb hts hown hK hR 18 (by decide) rfl (hts _ q969) (fun _ h9 => h9) dX2_extend_92 ?_
        refine lv_iload_n hx hb dX2_extend_95 rfl (lv_at hl 1 rfl) ?_
        refine mr_ald (v := (S 18 p1.toNatClampNeg)) hx hb hK hR 18 30 rfl (by decide) rfl (by first | assumption | exact mi_f hok (by assumption)) (congrFun (gs_sk rfl) p1.toNatClampNeg) dX2_extend_96 ?_
        exact hJ_97 _ _ _ (S 18 p1.toNatClampNeg) ((if_pos c_8).symm) hR hS (lv_sub hl [0, 1] rfl)
      · skip
        refine lv_aload_n hx hb dX2_extend_82 rfl (lv_at hl 0 rfl) ?_
        refine mr_geti (v := (S 1 0)) hx hb hts hown hK hR 1 (by decide) rfl (hts _ q952) (fun _ h9 => h9) (congrFun (gs_sk rfl) 0) dX2_extend_83 ?_
        refine lv_iload_n hx hb dX2_extend_86 rfl (lv_at hl 2 rfl) ?_
        refine lv_iadd hx hb dX2_extend_87 ?_
        refine lv_goto (tgt := 97) hx hb dX2_extend_88 (by decide) ?_
        exact hJ_97 _ _ _ ((S 1 0) + p2) ((if_neg c_8).symm) hR hS (lv_sub hl [0, 1] rfl)
    · skip
      have c_1 : ¬ (((mf_isFind S p1) = true) ∧ (((mf_in p2 1 365) = true) ∧ (((mf_isHere S p1) = true) ∧ (¬ ((S 9 p1.toNatClampNeg) = 7))))) := fun k => gs_zf (φ := (if (mf_isFind S p1) = true then (if (mf_in p2 1 365) = true then (if (mf_isHere S p1) = true then (if (S 9 p1.toNatClampNeg) = 7 then 3 else 0) else 3) else 2) else 1) = 0) c_1 (e0_v_54.mpr k)
      have hf := (if_neg c_1).symm.trans hf
      refine lv_iconst (v := 0) hx hb dX2_extend_60 (by decide) ?_
      exact W.iret (v := 0) hx hb hr (fun t ht hW => ⟨⟨_, _, rfl, ⟨(congrArg Prod.fst hf), (congrArg Prod.snd hf)⟩, mr_bt ht hR⟩, hS.F ht⟩) hS.2.2 dX2_extend_61
  refine lv_if_ne (tgt := 15) hx hb dX2_extend_8 (by decide) (fun c_9 => ?_) (fun c_9 => ?_)
  · skip
    have c_9 : (mf_isFind S p1) = true := gs_zt (φ := (mf_isFind S p1) = true) c_9
    refine lv_iload_n hx hb dX2_extend_15 rfl (lv_at hl 3 rfl) ?_
    refine lv_iconst (v := 1) hx hb dX2_extend_16 (by decide) ?_
    refine lv_sipush (v := 365) hx hb dX2_extend_17 (by decide) ?_
    refine ps_calli (As := [.int p2, .int 1, .int 365]) (rest := [.ref q]) ⟨hx, hb, hml, hown, hts⟩ (mt_in l p2 1 365) (va_cwS 3 hts (lw_S q1078 q1079 q41 q1080) rfl rfl rfl (by decide +kernel) ⟨Nat.le_of_ble_eq_true rfl, Nat.le_of_ble_eq_true rfl⟩) trivial hS rfl hl.1 rfl (Nat.le_of_ble_eq_true rfl) dX2_extend_20 ⟨Nat.le_refl _, Nat.le_refl _⟩ (fun H locs hz hk hS => ?_)
    have hR := hR.kept (fun a _ h => hk a h)
    refine lv_if_ne (tgt := 30) hx hb dX2_extend_23 (by decide) (fun c_10 => ?_) (fun c_10 => ?_)
    · skip
      have c_10 : (mf_in p2 1 365) = true := gs_zt (φ := (mf_in p2 1 365) = true) c_10
      refine lv_aload_n hx hb dX2_extend_30 rfl (lv_at hl 1 rfl) ?_
      refine lv_iload_n hx hb dX2_extend_31 rfl (lv_at hl 2 rfl) ?_
      refine mr_calli (As := [.int p1]) (rest := [.ref q]) ⟨hx, hb, hml, hown, hts⟩ (mt_isHere l E q ad L S p1) (cwV 1 hts (lw_V q1149 q1151 qs18 q41 q1152) rfl rfl rfl (by decide +kernel) ⟨Nat.le_of_ble_eq_true rfl, Nat.le_of_ble_eq_true rfl⟩) (by first | assumption | exact mi_f hok (by assumption)) hK hR (fun _ h => h) hS rfl hl.1 rfl (Nat.le_of_ble_eq_true rfl) dX2_extend_32 ⟨Nat.le_refl _, Nat.le_refl _⟩ (fun H locs hR hS _ _ => ?_)
      refine lv_if_eq (tgt := 49) hx hb dX2_extend_35 (by decide) (fun c_11 => ?_) (fun c_11 => ?_)
      · skip
        have c_11 : ¬ ((mf_isHere S p1) = true) := gs_zf (φ := (mf_isHere S p1) = true) c_11
        refine lv_iconst (v := 3) hx hb dX2_extend_49 (by decide) ?_
        refine lv_goto (tgt := 54) hx hb dX2_extend_50 (by decide) ?_
        exact hJ_54 _ _ _ 3 ((((if_neg c_11).symm).trans (if_pos c_10).symm).trans (if_pos c_9).symm) (gi_z0 (by decide) (((gi_ca_f c_11).trans (gi_ca_t c_10)).trans (gi_ca_t c_9))) hR hS (lv_sub hl [1, 2, 3] rfl)
      · skip
        have c_11 : (mf_isHere S p1) = true := gs_zt (φ := (mf_isHere S p1) = true) c_11
        refine lv_aload_n hx hb dX2_extend_38 rfl (lv_at hl 1 rfl) ?_
        refine mr_geta hx hb hts hown hK hR 9 (by decide) rfl (hts _ q960) (fun _ h9 => h9) dX2_extend_39 ?_
        refine lv_iload_n hx hb dX2_extend_42 rfl (lv_at hl 2 rfl) ?_
        refine mr_ald (v := (S 9 p1.toNatClampNeg)) hx hb hK hR 9 30 rfl (by decide) rfl (by first | assumption | exact mi_f hok (by assumption)) rfl dX2_extend_43 ?_
        refine lv_bipush (v := 7) hx hb dX2_extend_44 (by decide) ?_
        refine lv_icmp_ne (tgt := 53) hx hb dX2_extend_46 (by decide) (fun c_12 => ?_) (fun c_12 => ?_)
        · skip
          refine lv_iconst (v := 0) hx hb dX2_extend_53 (by decide) ?_
          exact hJ_54 _ _ _ 0 (((((if_neg c_12).symm).trans (if_pos c_11).symm).trans (if_pos c_10).symm).trans (if_pos c_9).symm) (gi_z1 ((((gi_nb_f c_12).trans (gi_ca_t c_11)).trans (gi_ca_t c_10)).trans (gi_ca_t c_9))) hR hS (lv_sub hl [1, 2, 3] rfl)
        · skip
          refine lv_iconst (v := 3) hx hb dX2_extend_49 (by decide) ?_
          refine lv_goto (tgt := 54) hx hb dX2_extend_50 (by decide) ?_
          exact hJ_54 _ _ _ 3 (((((if_pos c_12).symm).trans (if_pos c_11).symm).trans (if_pos c_10).symm).trans (if_pos c_9).symm) (gi_z0 (by decide) ((((gi_nb_t c_12).trans (gi_ca_t c_11)).trans (gi_ca_t c_10)).trans (gi_ca_t c_9))) hR hS (lv_sub hl [1, 2, 3] rfl)
    · skip
      have c_10 : ¬ ((mf_in p2 1 365) = true) := gs_zf (φ := (mf_in p2 1 365) = true) c_10
      refine lv_iconst (v := 2) hx hb dX2_extend_26 (by decide) ?_
      refine lv_goto (tgt := 54) hx hb dX2_extend_27 (by decide) ?_
      exact hJ_54 _ _ _ 2 (((if_neg c_10).symm).trans (if_pos c_9).symm) (gi_z0 (by decide) ((gi_ca_f c_10).trans (gi_ca_t c_9))) hR hS (lv_sub hl [1, 2, 3] rfl)
  · skip
    have c_9 : ¬ ((mf_isFind S p1) = true) := gs_zf (φ := (mf_isFind S p1) = true) c_9
    refine lv_iconst (v := 1) hx hb dX2_extend_11 (by decide) ?_
    refine lv_goto (tgt := 54) hx hb dX2_extend_12 (by decide) ?_
    exact hJ_54 _ _ _ 1 ((if_neg c_9).symm) (gi_z0 (by decide) (gi_ca_f c_9)) hR hS (lv_sub hl [1, 2, 3] rfl)
set_option maxHeartbeats 2000000 in
set_option maxRecDepth 100000 in
theorem mt_sell (l : Launch) (E : en_T) (q : Nat) (ad : Nat → Nat) (L : List Nat) (S : gs_T) (p1 : Int32) (p2 : Int32) : Met l yX2_sell (ws_ yX2_sell cX2_sell 4 (some .int)) { frames := 4, cells := 0, slots := 0, locals := 96 } (mr_Pc E q ad L S [.int p1, .int p2] (mi_ok S)) (mr_Qi E q ad L (mf_sell S p1 p2).1 (mf_sell S p1 p2).2) 0 0 (mr_A L) := by
  refine mr_start (by decide) rfl (Nat.le_of_ble_eq_true rfl) ?_
  intro p e s m below meth c ls hx hb hr hlocks hml hown hts hK hP hl hR
  have hl : lv_has ls 4 [(0, .ref q), (1, .int p1), (2, .int p2)] := hl
  have hS : va_S (mr_A L) s.heap s.heap [] := va_S.rf
  have hok := hP
  have hf : (mf_sell S p1 p2) = (mf_sell S p1 p2) := rfl
  refine lv_aload_n hx hb dX2_sell_0 rfl (lv_at hl 0 rfl) ?_
  refine lv_iload_n hx hb dX2_sell_1 rfl (lv_at hl 1 rfl) ?_
  refine mr_calli (As := [.int p1]) (rest := []) ⟨hx, hb, hml, hown, hts⟩ (mt_isFind l E q ad L S p1) (cwV 1 hts (lw_V q1129 q1131 qs17 q41 q1132) rfl rfl rfl (by decide +kernel) ⟨Nat.le_of_ble_eq_true rfl, Nat.le_of_ble_eq_true rfl⟩) trivial hK hR (fun _ h => h) hS rfl hl.1 rfl (Nat.le_of_ble_eq_true rfl) dX2_sell_2 ⟨Nat.le_refl _, Nat.le_refl _⟩ (fun H locs hR hS _ _ => ?_)
  refine lv_istore_n (lv' := [(3, .int (if (mf_isFind S p1) = true then 1 else 0)), (0, .ref q), (1, .int p1), (2, .int p2)]) hx hb dX2_sell_5 rfl hl (by decide) rfl (fun ls hl => ?_)
  refine lv_aload_n hx hb dX2_sell_6 rfl (lv_at hl 1 rfl) ?_
  refine lv_iload_n hx hb dX2_sell_7 rfl (lv_at hl 0 rfl) ?_
  have hJ_54 : ∀ (H : Heap) (locs : List Loc) (ls : Array Slot) (v_54 : Int32), v_54 = (if (mf_isFind S p1) = true then (if (mf_in p2 1 9999) = true then (if (mf_isOver S p1) = true then (if (S 9 p1.toNatClampNeg) = 7 then 3 else 0) else 3) else 2) else 1) → (v_54 = 0 ↔ (((mf_isFind S p1) = true) ∧ (((mf_in p2 1 9999) = true) ∧ (((mf_isOver S p1) = true) ∧ (¬ ((S 9 p1.toNatClampNeg) = 7)))))) → mr_W E q ad L S H → va_S (mr_A L) s.heap H locs → lv_has ls 4 [(0, .ref q), (1, .int p1), (2, .int p2)] → mr_G p l e { frames := 4, cells := 0, slots := 0, locals := 96 } s m [.ref q, .int p1, .int p2] below meth c (mr_A L) (mr_Qi E q ad L (mf_sell S p1 p2).1 (mf_sell S p1 p2).2) H locs (F0 m 54 ls [.int v_54, .ref q]) := by
    intro H locs ls v_54 e_v_54 e0_v_54 hR hS hl
    subst e_v_54
    refine mr_calli (As := [.int (if (mf_isFind S p1) = true then (if (mf_in p2 1 9999) = true then (if (mf_isOver S p1) = true then (if (S 9 p1.toNatClampNeg) = 7 then 3 else 0) else 3) else 2) else 1)]) (rest := []) ⟨hx, hb, hml, hown, hts⟩ (mt_holds l E q ad L S (if (mf_isFind S p1) = true then (if (mf_in p2 1 9999) = true then (if (mf_isOver S p1) = true then (if (S 9 p1.toNatClampNeg) = 7 then 3 else 0) else 3) else 2) else 1)) (cwV 1 hts (lw_V q1081 q1083 qs15 q41 q1084) rfl rfl rfl (by decide +kernel) ⟨Nat.le_of_ble_eq_true rfl, Nat.le_of_ble_eq_true rfl⟩) trivial hK hR (fun _ h => h) hS rfl hl.1 rfl (Nat.le_of_ble_eq_true rfl) dX2_sell_54 ⟨Nat.le_refl _, Nat.le_refl _⟩ (fun H locs hR hS _ _ => ?_)
    refine lv_if_ne (tgt := 62) hx hb dX2_sell_57 (by decide) (fun c_1 => ?_) (fun c_1 => ?_)
    · skip
      have c_1 : ((mf_isFind S p1) = true) ∧ (((mf_in p2 1 9999) = true) ∧ (((mf_isOver S p1) = true) ∧ (¬ ((S 9 p1.toNatClampNeg) = 7)))) := e0_v_54.mp (gs_zt (φ := (if (mf_isFind S p1) = true then (if (mf_in p2 1 9999) = true then (if (mf_isOver S p1) = true then (if (S 9 p1.toNatClampNeg) = 7 then 3 else 0) else 3) else 2) else 1) = 0) c_1)
      have hf := (if_pos c_1).symm.trans hf
      have c_2 := c_1.1
      have c_3 := c_1.2
      have c_4 := c_3.1
      have c_5 := c_3.2
      have c_6 := c_5.1
      have c_7 := c_5.2
      refine lv_aload_n hx hb dX2_sell_62 rfl (lv_at hl 0 rfl) ?_
      refine mr_geta hx hb hts hown hK hR 15 (by decide) rfl (hts _ q966) (fun _ h9 => h9) dX2_sell_63 ?_
      refine lv_iload_n hx hb dX2_sell_66 rfl (lv_at hl 1 rfl) ?_
      refine lv_iconst (v := 4) hx hb dX2_sell_67 (by decide) ?_
      refine mr_ast (j := p1.toNatClampNeg) hx hb hK hR hS 15 30 rfl (by decide) rfl (by first | assumption | exact mi_f hok (by assumption)) rfl dX2_sell_68 (fun H locs hR hS => ?_)
      refine lv_aload_n hx hb dX2_sell_69 rfl (lv_at hl 0 rfl) ?_
      refine mr_geta hx hb hts hown hK hR 20 (by decide) rfl (hts _ q971) (fun _ h9 => h9) dX2_sell_70 ?_
      refine lv_iload_n hx hb dX2_sell_73 rfl (lv_at hl 1 rfl) ?_
      refine lv_iload_n hx hb dX2_sell_74 rfl (lv_at hl 2 rfl) ?_
      refine mr_ast (j := p1.toNatClampNeg) hx hb hK hR hS 20 30 rfl (by decide) rfl (by first | assumption | exact mi_f hok (by assumption)) rfl dX2_sell_75 (fun H locs hR hS => ?_)
      refine lv_aload_n hx hb dX2_sell_76 rfl (lv_at hl 0 rfl) ?_
      refine mr_geta hx hb hts hown hK hR 21 (by decide) rfl (hts _ q972) (fun _ h9 => h9) dX2_sell_77 ?_
      refine lv_iload_n hx hb dX2_sell_80 rfl (lv_at hl 1 rfl) ?_
      refine lv_aload_n hx hb dX2_sell_81 rfl (lv_at hl 0 rfl) ?_
      refine mr_geti (v := (S 1 0)) hx hb hts hown hK hR 1 (by decide) rfl (hts _ q952) (fun _ h9 => h9) (congrFun ((gs_sk rfl).trans ((gs_sk rfl).trans (gs_sk rfl))) 0) dX2_sell_82 ?_
      refine mr_ast (j := p1.toNatClampNeg) hx hb hK hR hS 21 30 rfl (by decide) rfl (by first | assumption | exact mi_f hok (by assumption)) rfl dX2_sell_85 (fun H locs hR hS => ?_)
      refine lv_aload_n hx hb dX2_sell_86 rfl (lv_at hl 0 rfl) ?_
      refine lv_dup hx hb dX2_sell_87 rfl ?_
      refine mr_geti (v := (S 37 0)) hx hb hts hown hK hR 37 (by decide) rfl (hts _ q988) (fun _ h9 => h9) (congrFun ((gs_sk rfl).trans ((gs_sk rfl).trans ((gs_sk rfl).trans (gs_sk rfl)))) 0) dX2_sell_88 ?_
      refine lv_iload_n hx hb dX2_sell_91 rfl (lv_at hl 2 rfl) ?_
      refine lv_iadd hx hb dX2_sell_92 ?_
      refine mr_puti hx hb hts hown hK hR hS 37 (by decide) rfl (hts _ q988) (fun _ h9 => h9) dX2_sell_93 (fun H locs hR hS => ?_)
      refine lv_aload_n hx hb dX2_sell_96 rfl (lv_at hl 0 rfl) ?_
      refine mr_geti (v := ((S 37 0) + p2)) hx hb hts hown hK hR 37 (by decide) rfl (hts _ q988) (fun _ h9 => h9) ((congrFun (gs_up_at.trans (congrArg (fun z => upd z 0 ((S 37 0) + p2)) ((gs_sk rfl).trans ((gs_sk rfl).trans ((gs_sk rfl).trans (gs_sk rfl)))))) 0).trans pk_us) dX2_sell_97 ?_
      exact W.iret (v := ((S 37 0) + p2)) hx hb hr (fun t ht hW => ⟨⟨_, _, rfl, ⟨(congrArg Prod.fst hf), (congrArg Prod.snd hf)⟩, mr_bt ht hR⟩, hS.F ht⟩) hS.2.2 dX2_sell_100
    · skip
      have c_1 : ¬ (((mf_isFind S p1) = true) ∧ (((mf_in p2 1 9999) = true) ∧ (((mf_isOver S p1) = true) ∧ (¬ ((S 9 p1.toNatClampNeg) = 7))))) := fun k => gs_zf (φ := (if (mf_isFind S p1) = true then (if (mf_in p2 1 9999) = true then (if (mf_isOver S p1) = true then (if (S 9 p1.toNatClampNeg) = 7 then 3 else 0) else 3) else 2) else 1) = 0) c_1 (e0_v_54.mpr k)
      have hf := (if_neg c_1).symm.trans hf
      refine lv_iconst (v := 0) hx hb dX2_sell_60 (by decide) ?_
      exact W.iret (v := 0) hx hb hr (fun t ht hW => ⟨⟨_, _, rfl, ⟨(congrArg Prod.fst hf), (congrArg Prod.snd hf)⟩, mr_bt ht hR⟩, hS.F ht⟩) hS.2.2 dX2_sell_61
  refine lv_if_ne (tgt := 15) hx hb dX2_sell_8 (by decide) (fun c_8 => ?_) (fun c_8 => ?_)
  · skip
    have c_8 : (mf_isFind S p1) = true := gs_zt (φ := (mf_isFind S p1) = true) c_8
    refine lv_iload_n hx hb dX2_sell_15 rfl (lv_at hl 3 rfl) ?_
    refine lv_iconst (v := 1) hx hb dX2_sell_16 (by decide) ?_
    refine lv_sipush (v := 9999) hx hb dX2_sell_17 (by decide) ?_
    refine ps_calli (As := [.int p2, .int 1, .int 9999]) (rest := [.ref q]) ⟨hx, hb, hml, hown, hts⟩ (mt_in l p2 1 9999) (va_cwS 3 hts (lw_S q1078 q1079 q41 q1080) rfl rfl rfl (by decide +kernel) ⟨Nat.le_of_ble_eq_true rfl, Nat.le_of_ble_eq_true rfl⟩) trivial hS rfl hl.1 rfl (Nat.le_of_ble_eq_true rfl) dX2_sell_20 ⟨Nat.le_refl _, Nat.le_refl _⟩ (fun H locs hz hk hS => ?_)
    have hR := hR.kept (fun a _ h => hk a h)
    refine lv_if_ne (tgt := 30) hx hb dX2_sell_23 (by decide) (fun c_9 => ?_) (fun c_9 => ?_)
    · skip
      have c_9 : (mf_in p2 1 9999) = true := gs_zt (φ := (mf_in p2 1 9999) = true) c_9
      refine lv_aload_n hx hb dX2_sell_30 rfl (lv_at hl 1 rfl) ?_
      refine lv_iload_n hx hb dX2_sell_31 rfl (lv_at hl 2 rfl) ?_
      refine mr_calli (As := [.int p1]) (rest := [.ref q]) ⟨hx, hb, hml, hown, hts⟩ (mt_isOver l E q ad L S p1) (cwV 1 hts (lw_V q1217 q1219 qs28 q41 q1220) rfl rfl rfl (by decide +kernel) ⟨Nat.le_of_ble_eq_true rfl, Nat.le_of_ble_eq_true rfl⟩) ⟨hok, (by first | assumption | exact mi_f hok (by assumption))⟩ hK hR (fun _ h => h) hS rfl hl.1 rfl (Nat.le_of_ble_eq_true rfl) dX2_sell_32 ⟨Nat.le_refl _, Nat.le_refl _⟩ (fun H locs hR hS _ _ => ?_)
      refine lv_if_eq (tgt := 49) hx hb dX2_sell_35 (by decide) (fun c_10 => ?_) (fun c_10 => ?_)
      · skip
        have c_10 : ¬ ((mf_isOver S p1) = true) := gs_zf (φ := (mf_isOver S p1) = true) c_10
        refine lv_iconst (v := 3) hx hb dX2_sell_49 (by decide) ?_
        refine lv_goto (tgt := 54) hx hb dX2_sell_50 (by decide) ?_
        exact hJ_54 _ _ _ 3 ((((if_neg c_10).symm).trans (if_pos c_9).symm).trans (if_pos c_8).symm) (gi_z0 (by decide) (((gi_ca_f c_10).trans (gi_ca_t c_9)).trans (gi_ca_t c_8))) hR hS (lv_sub hl [1, 2, 3] rfl)
      · skip
        have c_10 : (mf_isOver S p1) = true := gs_zt (φ := (mf_isOver S p1) = true) c_10
        refine lv_aload_n hx hb dX2_sell_38 rfl (lv_at hl 1 rfl) ?_
        refine mr_geta hx hb hts hown hK hR 9 (by decide) rfl (hts _ q960) (fun _ h9 => h9) dX2_sell_39 ?_
        refine lv_iload_n hx hb dX2_sell_42 rfl (lv_at hl 2 rfl) ?_
        refine mr_ald (v := (S 9 p1.toNatClampNeg)) hx hb hK hR 9 30 rfl (by decide) rfl (by first | assumption | exact mi_f hok (by assumption)) rfl dX2_sell_43 ?_
        refine lv_bipush (v := 7) hx hb dX2_sell_44 (by decide) ?_
        refine lv_icmp_ne (tgt := 53) hx hb dX2_sell_46 (by decide) (fun c_11 => ?_) (fun c_11 => ?_)
        · skip
          refine lv_iconst (v := 0) hx hb dX2_sell_53 (by decide) ?_
          exact hJ_54 _ _ _ 0 (((((if_neg c_11).symm).trans (if_pos c_10).symm).trans (if_pos c_9).symm).trans (if_pos c_8).symm) (gi_z1 ((((gi_nb_f c_11).trans (gi_ca_t c_10)).trans (gi_ca_t c_9)).trans (gi_ca_t c_8))) hR hS (lv_sub hl [1, 2, 3] rfl)
        · skip
          refine lv_iconst (v := 3) hx hb dX2_sell_49 (by decide) ?_
          refine lv_goto (tgt := 54) hx hb dX2_sell_50 (by decide) ?_
          exact hJ_54 _ _ _ 3 (((((if_pos c_11).symm).trans (if_pos c_10).symm).trans (if_pos c_9).symm).trans (if_pos c_8).symm) (gi_z0 (by decide) ((((gi_nb_t c_11).trans (gi_ca_t c_10)).trans (gi_ca_t c_9)).trans (gi_ca_t c_8))) hR hS (lv_sub hl [1, 2, 3] rfl)
    · skip
      have c_9 : ¬ ((mf_in p2 1 9999) = true) := gs_zf (φ := (mf_in p2 1 9999) = true) c_9
      refine lv_iconst (v := 2) hx hb dX2_sell_26 (by decide) ?_
      refine lv_goto (tgt := 54) hx hb dX2_sell_27 (by decide) ?_
      exact hJ_54 _ _ _ 2 (((if_neg c_9).symm).trans (if_pos c_8).symm) (gi_z0 (by decide) ((gi_ca_f c_9).trans (gi_ca_t c_8))) hR hS (lv_sub hl [1, 2, 3] rfl)
  · skip
    have c_8 : ¬ ((mf_isFind S p1) = true) := gs_zf (φ := (mf_isFind S p1) = true) c_8
    refine lv_iconst (v := 1) hx hb dX2_sell_11 (by decide) ?_
    refine lv_goto (tgt := 54) hx hb dX2_sell_12 (by decide) ?_
    exact hJ_54 _ _ _ 1 ((if_neg c_8).symm) (gi_z0 (by decide) (gi_ca_f c_8)) hR hS (lv_sub hl [1, 2, 3] rfl)
set_option maxHeartbeats 2000000 in
set_option maxRecDepth 100000 in
theorem mt_destroy (l : Launch) (E : en_T) (q : Nat) (ad : Nat → Nat) (L : List Nat) (S : gs_T) (p1 : Int32) : Met l yX2_destroy (ws_ yX2_destroy cX2_destroy 3 (some .int)) { frames := 4, cells := 0, slots := 0, locals := 96 } (mr_Pc E q ad L S [.int p1] (mi_ok S)) (mr_Qi E q ad L (mf_destroy S p1).1 (mf_destroy S p1).2) 0 0 (mr_A L) := by
  refine mr_start (by decide) rfl (Nat.le_of_ble_eq_true rfl) ?_
  intro p e s m below meth c ls hx hb hr hlocks hml hown hts hK hP hl hR
  have hl : lv_has ls 3 [(0, .ref q), (1, .int p1)] := hl
  have hS : va_S (mr_A L) s.heap s.heap [] := va_S.rf
  have hok := hP
  have hf : (mf_destroy S p1) = (mf_destroy S p1) := rfl
  refine lv_aload_n hx hb dX2_destroy_0 rfl (lv_at hl 0 rfl) ?_
  refine lv_iload_n hx hb dX2_destroy_1 rfl (lv_at hl 1 rfl) ?_
  refine mr_calli (As := [.int p1]) (rest := []) ⟨hx, hb, hml, hown, hts⟩ (mt_isFind l E q ad L S p1) (cwV 1 hts (lw_V q1129 q1131 qs17 q41 q1132) rfl rfl rfl (by decide +kernel) ⟨Nat.le_of_ble_eq_true rfl, Nat.le_of_ble_eq_true rfl⟩) trivial hK hR (fun _ h => h) hS rfl hl.1 rfl (Nat.le_of_ble_eq_true rfl) dX2_destroy_2 ⟨Nat.le_refl _, Nat.le_refl _⟩ (fun H locs hR hS _ _ => ?_)
  refine lv_istore_n (lv' := [(2, .int (if (mf_isFind S p1) = true then 1 else 0)), (0, .ref q), (1, .int p1)]) hx hb dX2_destroy_5 rfl hl (by decide) rfl (fun ls hl => ?_)
  refine lv_aload_n hx hb dX2_destroy_6 rfl (lv_at hl 1 rfl) ?_
  refine lv_iload_n hx hb dX2_destroy_7 rfl (lv_at hl 0 rfl) ?_
  have hJ_28 : ∀ (H : Heap) (locs : List Loc) (ls : Array Slot) (v_28 : Int32), v_28 = (if (mf_isFind S p1) = true then (if (mf_isOver S p1) = true then 0 else 2) else 1) → (v_28 = 0 ↔ (((mf_isFind S p1) = true) ∧ ((mf_isOver S p1) = true))) → mr_W E q ad L S H → va_S (mr_A L) s.heap H locs → lv_has ls 3 [(0, .ref q), (1, .int p1)] → mr_G p l e { frames := 4, cells := 0, slots := 0, locals := 96 } s m [.ref q, .int p1] below meth c (mr_A L) (mr_Qi E q ad L (mf_destroy S p1).1 (mf_destroy S p1).2) H locs (F0 m 28 ls [.int v_28, .ref q]) := by
    intro H locs ls v_28 e_v_28 e0_v_28 hR hS hl
    subst e_v_28
    refine mr_calli (As := [.int (if (mf_isFind S p1) = true then (if (mf_isOver S p1) = true then 0 else 2) else 1)]) (rest := []) ⟨hx, hb, hml, hown, hts⟩ (mt_holds l E q ad L S (if (mf_isFind S p1) = true then (if (mf_isOver S p1) = true then 0 else 2) else 1)) (cwV 1 hts (lw_V q1081 q1083 qs15 q41 q1084) rfl rfl rfl (by decide +kernel) ⟨Nat.le_of_ble_eq_true rfl, Nat.le_of_ble_eq_true rfl⟩) trivial hK hR (fun _ h => h) hS rfl hl.1 rfl (Nat.le_of_ble_eq_true rfl) dX2_destroy_28 ⟨Nat.le_refl _, Nat.le_refl _⟩ (fun H locs hR hS _ _ => ?_)
    refine lv_if_ne (tgt := 36) hx hb dX2_destroy_31 (by decide) (fun c_1 => ?_) (fun c_1 => ?_)
    · skip
      have c_1 : ((mf_isFind S p1) = true) ∧ ((mf_isOver S p1) = true) := e0_v_28.mp (gs_zt (φ := (if (mf_isFind S p1) = true then (if (mf_isOver S p1) = true then 0 else 2) else 1) = 0) c_1)
      have hf := (if_pos c_1).symm.trans hf
      have c_2 := c_1.1
      have c_3 := c_1.2
      refine lv_aload_n hx hb dX2_destroy_36 rfl (lv_at hl 0 rfl) ?_
      refine mr_geta hx hb hts hown hK hR 15 (by decide) rfl (hts _ q966) (fun _ h9 => h9) dX2_destroy_37 ?_
      refine lv_iload_n hx hb dX2_destroy_40 rfl (lv_at hl 1 rfl) ?_
      refine lv_iconst (v := 5) hx hb dX2_destroy_41 (by decide) ?_
      refine mr_ast (j := p1.toNatClampNeg) hx hb hK hR hS 15 30 rfl (by decide) rfl (by first | assumption | exact mi_f hok (by assumption)) rfl dX2_destroy_42 (fun H locs hR hS => ?_)
      refine lv_aload_n hx hb dX2_destroy_43 rfl (lv_at hl 0 rfl) ?_
      refine mr_geta hx hb hts hown hK hR 16 (by decide) rfl (hts _ q967) (fun _ h9 => h9) dX2_destroy_44 ?_
      refine lv_iload_n hx hb dX2_destroy_47 rfl (lv_at hl 1 rfl) ?_
      refine mr_ald (v := (S 16 p1.toNatClampNeg)) hx hb hK hR 16 30 rfl (by decide) rfl (by first | assumption | exact mi_f hok (by assumption)) (congrFun ((gs_sk rfl).trans (gs_sk rfl)) p1.toNatClampNeg) dX2_destroy_48 ?_
      exact W.iret (v := (S 16 p1.toNatClampNeg)) hx hb hr (fun t ht hW => ⟨⟨_, _, rfl, ⟨(congrArg Prod.fst hf), (congrArg Prod.snd hf)⟩, mr_bt ht hR⟩, hS.F ht⟩) hS.2.2 dX2_destroy_49
    · skip
      have c_1 : ¬ (((mf_isFind S p1) = true) ∧ ((mf_isOver S p1) = true)) := fun k => gs_zf (φ := (if (mf_isFind S p1) = true then (if (mf_isOver S p1) = true then 0 else 2) else 1) = 0) c_1 (e0_v_28.mpr k)
      have hf := (if_neg c_1).symm.trans hf
      refine lv_iconst (v := 0) hx hb dX2_destroy_34 (by decide) ?_
      exact W.iret (v := 0) hx hb hr (fun t ht hW => ⟨⟨_, _, rfl, ⟨(congrArg Prod.fst hf), (congrArg Prod.snd hf)⟩, mr_bt ht hR⟩, hS.F ht⟩) hS.2.2 dX2_destroy_35
  refine lv_if_ne (tgt := 15) hx hb dX2_destroy_8 (by decide) (fun c_4 => ?_) (fun c_4 => ?_)
  · skip
    have c_4 : (mf_isFind S p1) = true := gs_zt (φ := (mf_isFind S p1) = true) c_4
    refine lv_aload_n hx hb dX2_destroy_15 rfl (lv_at hl 1 rfl) ?_
    refine lv_iload_n hx hb dX2_destroy_16 rfl (lv_at hl 2 rfl) ?_
    refine mr_calli (As := [.int p1]) (rest := [.ref q]) ⟨hx, hb, hml, hown, hts⟩ (mt_isOver l E q ad L S p1) (cwV 1 hts (lw_V q1217 q1219 qs28 q41 q1220) rfl rfl rfl (by decide +kernel) ⟨Nat.le_of_ble_eq_true rfl, Nat.le_of_ble_eq_true rfl⟩) ⟨hok, (by first | assumption | exact mi_f hok (by assumption))⟩ hK hR (fun _ h => h) hS rfl hl.1 rfl (Nat.le_of_ble_eq_true rfl) dX2_destroy_17 ⟨Nat.le_refl _, Nat.le_refl _⟩ (fun H locs hR hS _ _ => ?_)
    refine lv_if_eq (tgt := 27) hx hb dX2_destroy_20 (by decide) (fun c_5 => ?_) (fun c_5 => ?_)
    · skip
      have c_5 : ¬ ((mf_isOver S p1) = true) := gs_zf (φ := (mf_isOver S p1) = true) c_5
      refine lv_iconst (v := 2) hx hb dX2_destroy_27 (by decide) ?_
      exact hJ_28 _ _ _ 2 (((if_neg c_5).symm).trans (if_pos c_4).symm) (gi_z0 (by decide) ((gi_cb_f c_5).trans (gi_ca_t c_4))) hR hS (lv_sub hl [1, 2] rfl)
    · skip
      have c_5 : (mf_isOver S p1) = true := gs_zt (φ := (mf_isOver S p1) = true) c_5
      refine lv_iconst (v := 0) hx hb dX2_destroy_23 (by decide) ?_
      refine lv_goto (tgt := 28) hx hb dX2_destroy_24 (by decide) ?_
      exact hJ_28 _ _ _ 0 (((if_pos c_5).symm).trans (if_pos c_4).symm) (gi_z1 ((gi_cb_t c_5).trans (gi_ca_t c_4))) hR hS (lv_sub hl [1, 2] rfl)
  · skip
    have c_4 : ¬ ((mf_isFind S p1) = true) := gs_zf (φ := (mf_isFind S p1) = true) c_4
    refine lv_iconst (v := 1) hx hb dX2_destroy_11 (by decide) ?_
    refine lv_goto (tgt := 28) hx hb dX2_destroy_12 (by decide) ?_
    exact hJ_28 _ _ _ 1 ((if_neg c_4).symm) (gi_z0 (by decide) (gi_ca_f c_4)) hR hS (lv_sub hl [1, 2] rfl)
set_option maxHeartbeats 2000000 in
set_option maxRecDepth 100000 in
theorem mt_payOut (l : Launch) (E : en_T) (q : Nat) (ad : Nat → Nat) (L : List Nat) (S : gs_T) (p1 : Int32) (p2 : Int32) : Met l yX2_payOut (ws_ yX2_payOut cX2_payOut 5 (some .int)) { frames := 4, cells := 0, slots := 0, locals := 99 } (mr_Pc E q ad L S [.int p1, .int p2] (mi_ok S)) (mr_Qi E q ad L (mf_payOut S p1 p2).1 (mf_payOut S p1 p2).2) 0 0 (mr_A L) := by
  refine mr_start (by decide) rfl (Nat.le_of_ble_eq_true rfl) ?_
  intro p e s m below meth c ls hx hb hr hlocks hml hown hts hK hP hl hR
  have hl : lv_has ls 5 [(0, .ref q), (1, .int p1), (2, .int p2)] := hl
  have hS : va_S (mr_A L) s.heap s.heap [] := va_S.rf
  have hok := hP
  have hf : (mf_payOut S p1 p2) = (mf_payOut S p1 p2) := rfl
  refine lv_aload_n hx hb dX2_payOut_0 rfl (lv_at hl 0 rfl) ?_
  refine lv_iload_n hx hb dX2_payOut_1 rfl (lv_at hl 1 rfl) ?_
  refine mr_calli (As := [.int p1]) (rest := []) ⟨hx, hb, hml, hown, hts⟩ (mt_isFind l E q ad L S p1) (cwV 1 hts (lw_V q1129 q1131 qs17 q41 q1132) rfl rfl rfl (by decide +kernel) ⟨Nat.le_of_ble_eq_true rfl, Nat.le_of_ble_eq_true rfl⟩) trivial hK hR (fun _ h => h) hS rfl hl.1 rfl (Nat.le_of_ble_eq_true rfl) dX2_payOut_2 ⟨Nat.le_refl _, Nat.le_refl _⟩ (fun H locs hR hS _ _ => ?_)
  have hJ_21 : ∀ (H : Heap) (locs : List Loc) (ls : Array Slot) (v_21 : Int32), v_21 = (if ((mf_isFind S p1) = true) ∧ ((mf_isClaim S p2) = true) then 1 else 0) → mr_W E q ad L S H → va_S (mr_A L) s.heap H locs → lv_has ls 5 [(0, .ref q), (1, .int p1), (2, .int p2)] → mr_G p l e { frames := 4, cells := 0, slots := 0, locals := 99 } s m [.ref q, .int p1, .int p2] below meth c (mr_A L) (mr_Qi E q ad L (mf_payOut S p1 p2).1 (mf_payOut S p1 p2).2) H locs (F0 m 21 ls [.int v_21]) := by
    intro H locs ls v_21 e_v_21 hR hS hl
    subst e_v_21
    refine lv_istore_n (lv' := [(3, .int (if ((mf_isFind S p1) = true) ∧ ((mf_isClaim S p2) = true) then 1 else 0)), (0, .ref q), (1, .int p1), (2, .int p2)]) hx hb dX2_payOut_21 rfl hl (by decide) rfl (fun ls hl => ?_)
    refine lv_aload_n hx hb dX2_payOut_22 rfl (lv_at hl 1 rfl) ?_
    refine lv_iload_n hx hb dX2_payOut_23 rfl (lv_at hl 0 rfl) ?_
    have hJ_72 : ∀ (H : Heap) (locs : List Loc) (ls : Array Slot) (v_72 : Int32), v_72 = (if ((mf_isFind S p1) = true) ∧ ((mf_isClaim S p2) = true) then (if (S 15 p1.toNatClampNeg) = 4 then (if 365 < ((S 1 0) - (S 21 p1.toNatClampNeg)) then 2 else (if (mf_canServe S p1 p2) = true then 0 else 2)) else 2) else 1) → (v_72 = 0 ↔ ((((mf_isFind S p1) = true) ∧ ((mf_isClaim S p2) = true)) ∧ (((S 15 p1.toNatClampNeg) = 4) ∧ ((¬ (365 < ((S 1 0) - (S 21 p1.toNatClampNeg)))) ∧ ((mf_canServe S p1 p2) = true))))) → mr_W E q ad L S H → va_S (mr_A L) s.heap H locs → lv_has ls 5 [(0, .ref q), (1, .int p1), (2, .int p2)] → mr_G p l e { frames := 4, cells := 0, slots := 0, locals := 99 } s m [.ref q, .int p1, .int p2] below meth c (mr_A L) (mr_Qi E q ad L (mf_payOut S p1 p2).1 (mf_payOut S p1 p2).2) H locs (F0 m 72 ls [.int v_72, .ref q]) := by
      intro H locs ls v_72 e_v_72 e0_v_72 hR hS hl
      subst e_v_72
      refine mr_calli (As := [.int (if ((mf_isFind S p1) = true) ∧ ((mf_isClaim S p2) = true) then (if (S 15 p1.toNatClampNeg) = 4 then (if 365 < ((S 1 0) - (S 21 p1.toNatClampNeg)) then 2 else (if (mf_canServe S p1 p2) = true then 0 else 2)) else 2) else 1)]) (rest := []) ⟨hx, hb, hml, hown, hts⟩ (mt_holds l E q ad L S (if ((mf_isFind S p1) = true) ∧ ((mf_isClaim S p2) = true) then (if (S 15 p1.toNatClampNeg) = 4 then (if 365 < ((S 1 0) - (S 21 p1.toNatClampNeg)) then 2 else (if (mf_canServe S p1 p2) = true then 0 else 2)) else 2) else 1)) (cwV 1 hts (lw_V q1081 q1083 qs15 q41 q1084) rfl rfl rfl (by decide +kernel) ⟨Nat.le_of_ble_eq_true rfl, Nat.le_of_ble_eq_true rfl⟩) trivial hK hR (fun _ h => h) hS rfl hl.1 rfl (Nat.le_of_ble_eq_true rfl) dX2_payOut_72 ⟨Nat.le_refl _, Nat.le_refl _⟩ (fun H locs hR hS _ _ => ?_)
      refine lv_if_ne (tgt := 80) hx hb dX2_payOut_75 (by decide) (fun c_1 => ?_) (fun c_1 => ?_)
      · skip
        have c_1 : (((mf_isFind S p1) = true) ∧ ((mf_isClaim S p2) = true)) ∧ (((S 15 p1.toNatClampNeg) = 4) ∧ ((¬ (365 < ((S 1 0) - (S 21 p1.toNatClampNeg)))) ∧ ((mf_canServe S p1 p2) = true))) := e0_v_72.mp (gs_zt (φ := (if ((mf_isFind S p1) = true) ∧ ((mf_isClaim S p2) = true) then (if (S 15 p1.toNatClampNeg) = 4 then (if 365 < ((S 1 0) - (S 21 p1.toNatClampNeg)) then 2 else (if (mf_canServe S p1 p2) = true then 0 else 2)) else 2) else 1) = 0) c_1)
        have hf := (if_pos c_1).symm.trans hf
        have c_2 := c_1.1
        have c_3 := c_1.2
        have c_4 := c_2.1
        have c_5 := c_2.2
        have c_6 := c_3.1
        have c_7 := c_3.2
        have c_8 := c_7.1
        have c_9 := c_7.2
        refine lv_aload_n hx hb dX2_payOut_80 rfl (lv_at hl 0 rfl) ?_
        refine mr_geta hx hb hts hown hK hR 20 (by decide) rfl (hts _ q971) (fun _ h9 => h9) dX2_payOut_81 ?_
        refine lv_iload_n hx hb dX2_payOut_84 rfl (lv_at hl 1 rfl) ?_
        refine mr_ald (v := (S 20 p1.toNatClampNeg)) hx hb hK hR 20 30 rfl (by decide) rfl (by first | assumption | exact mi_f hok (by assumption)) (congrFun (gs_sk rfl) p1.toNatClampNeg) dX2_payOut_85 ?_
        refine lv_iconst (v := 5) hx hb dX2_payOut_86 (by decide) ?_
        have hJ_100 : ∀ (H : Heap) (locs : List Loc) (ls : Array Slot) (v_100 : Int32), v_100 = (if 5 ≤ (S 20 p1.toNatClampNeg) then 5 else (S 20 p1.toNatClampNeg)) → mr_W E q ad L (gs_up S 0 0 (if ((mf_isFind S p1) = true) ∧ ((mf_isClaim S p2) = true) then (if (S 15 p1.toNatClampNeg) = 4 then (if 365 < ((S 1 0) - (S 21 p1.toNatClampNeg)) then 2 else (if (mf_canServe S p1 p2) = true then 0 else 2)) else 2) else 1)) H → va_S (mr_A L) s.heap H locs → lv_has ls 5 [(0, .ref q), (1, .int p1), (2, .int p2)] → mr_G p l e { frames := 4, cells := 0, slots := 0, locals := 99 } s m [.ref q, .int p1, .int p2] below meth c (mr_A L) (mr_Qi E q ad L (mf_payOut S p1 p2).1 (mf_payOut S p1 p2).2) H locs (F0 m 100 ls [.int v_100]) := by
          intro H locs ls v_100 e_v_100 hR hS hl
          subst e_v_100
          refine lv_istore (lv' := [(4, .int (if 5 ≤ (S 20 p1.toNatClampNeg) then 5 else (S 20 p1.toNatClampNeg))), (0, .ref q), (1, .int p1), (2, .int p2)]) hx hb dX2_payOut_100 hl (by decide) rfl (fun ls hl => ?_)
          refine lv_aload_n hx hb dX2_payOut_102 rfl (lv_at hl 1 rfl) ?_
          refine lv_dup hx hb dX2_payOut_103 rfl ?_
          refine mr_geti (v := (S 35 0)) hx hb hts hown hK hR 35 (by decide) rfl (hts _ q986) (fun _ h9 => h9) (congrFun (gs_sk rfl) 0) dX2_payOut_104 ?_
          refine lv_iload hx hb dX2_payOut_107 (lv_at hl 0 rfl) ?_
          refine lv_iadd hx hb dX2_payOut_109 ?_
          refine mr_puti hx hb hts hown hK hR hS 35 (by decide) rfl (hts _ q986) (fun _ h9 => h9) dX2_payOut_110 (fun H locs hR hS => ?_)
          refine lv_aload_n hx hb dX2_payOut_113 rfl (lv_at hl 1 rfl) ?_
          refine lv_dup hx hb dX2_payOut_114 rfl ?_
          refine mr_geti (v := (S 37 0)) hx hb hts hown hK hR 37 (by decide) rfl (hts _ q988) (fun _ h9 => h9) (congrFun ((gs_sk rfl).trans (gs_sk rfl)) 0) dX2_payOut_115 ?_
          refine lv_aload_n hx hb dX2_payOut_118 rfl (lv_at hl 1 rfl) ?_
          refine mr_geta hx hb hts hown hK hR 20 (by decide) rfl (hts _ q971) (fun _ h9 => h9) dX2_payOut_119 ?_
          refine lv_iload_n hx hb dX2_payOut_122 rfl (lv_at hl 2 rfl) ?_
          refine mr_ald (v := (S 20 p1.toNatClampNeg)) hx hb hK hR 20 30 rfl (by decide) rfl (by first | assumption | exact mi_f hok (by assumption)) (congrFun ((gs_sk rfl).trans (gs_sk rfl)) p1.toNatClampNeg) dX2_payOut_123 ?_
          refine lv_isub hx hb dX2_payOut_124 ?_
          refine mr_puti hx hb hts hown hK hR hS 37 (by decide) rfl (hts _ q988) (fun _ h9 => h9) dX2_payOut_125 (fun H locs hR hS => ?_)
          refine lv_aload_n hx hb dX2_payOut_128 rfl (lv_at hl 1 rfl) ?_
          refine mr_geta hx hb hts hown hK hR 15 (by decide) rfl (hts _ q966) (fun _ h9 => h9) dX2_payOut_129 ?_
          refine lv_iload_n hx hb dX2_payOut_132 rfl (lv_at hl 2 rfl) ?_
          refine lv_bipush (v := 6) hx hb dX2_payOut_133 (by decide) ?_
          refine mr_ast (j := p1.toNatClampNeg) hx hb hK hR hS 15 30 rfl (by decide) rfl (by first | assumption | exact mi_f hok (by assumption)) rfl dX2_payOut_135 (fun H locs hR hS => ?_)
          refine lv_aload_n hx hb dX2_payOut_136 rfl (lv_at hl 1 rfl) ?_
          refine lv_iload_n hx hb dX2_payOut_137 rfl (lv_at hl 3 rfl) ?_
          refine lv_iconst (v := 1) hx hb dX2_payOut_138 (by decide) ?_
          refine lv_iload_n hx hb dX2_payOut_139 rfl (lv_at hl 2 rfl) ?_
          refine mr_callv (As := [.int p2, .int 1, .int p1]) (rest := []) ⟨hx, hb, hml, hown, hts⟩ (mt_ends l E q ad L (gs_up (gs_up (gs_up (gs_up S 0 0 (if ((mf_isFind S p1) = true) ∧ ((mf_isClaim S p2) = true) then (if (S 15 p1.toNatClampNeg) = 4 then (if 365 < ((S 1 0) - (S 21 p1.toNatClampNeg)) then 2 else (if (mf_canServe S p1 p2) = true then 0 else 2)) else 2) else 1)) 35 0 ((S 35 0) + (if 5 ≤ (S 20 p1.toNatClampNeg) then 5 else (S 20 p1.toNatClampNeg)))) 37 0 ((S 37 0) - (S 20 p1.toNatClampNeg))) 15 p1.toNatClampNeg 6) p2 1 p1) (cwV 3 hts (lw_V q1177 q1179 qs21 q41 q1180) rfl rfl rfl (by decide +kernel) ⟨Nat.le_of_ble_eq_true rfl, Nat.le_of_ble_eq_true rfl⟩) (by first | assumption | exact mi_c hok (by assumption)) hK hR (fun _ h => h) hS rfl hl.1 rfl (Nat.le_of_ble_eq_true rfl) dX2_payOut_140 ⟨Nat.le_refl _, Nat.le_refl _⟩ (fun H locs hR hS => ?_)
          refine lv_aload_n hx hb dX2_payOut_143 rfl (lv_at hl 1 rfl) ?_
          refine mr_geta hx hb hts hown hK hR 20 (by decide) rfl (hts _ q971) (fun _ h9 => h9) dX2_payOut_144 ?_
          refine lv_iload_n hx hb dX2_payOut_147 rfl (lv_at hl 2 rfl) ?_
          refine mr_ald (v := ((mf_ends (gs_up (gs_up (gs_up (gs_up S 0 0 (if ((mf_isFind S p1) = true) ∧ ((mf_isClaim S p2) = true) then (if (S 15 p1.toNatClampNeg) = 4 then (if 365 < ((S 1 0) - (S 21 p1.toNatClampNeg)) then 2 else (if (mf_canServe S p1 p2) = true then 0 else 2)) else 2) else 1)) 35 0 ((S 35 0) + (if 5 ≤ (S 20 p1.toNatClampNeg) then 5 else (S 20 p1.toNatClampNeg)))) 37 0 ((S 37 0) - (S 20 p1.toNatClampNeg))) 15 p1.toNatClampNeg 6) p2 1 p1) 20 p1.toNatClampNeg)) hx hb hK hR 20 30 rfl (by decide) rfl (by first | assumption | exact mi_f hok (by assumption)) rfl dX2_payOut_148 ?_
          refine lv_iload hx hb dX2_payOut_149 (lv_at hl 0 rfl) ?_
          refine lv_isub hx hb dX2_payOut_151 ?_
          exact W.iret (v := (((mf_ends (gs_up (gs_up (gs_up (gs_up S 0 0 (if ((mf_isFind S p1) = true) ∧ ((mf_isClaim S p2) = true) then (if (S 15 p1.toNatClampNeg) = 4 then (if 365 < ((S 1 0) - (S 21 p1.toNatClampNeg)) then 2 else (if (mf_canServe S p1 p2) = true then 0 else 2)) else 2) else 1)) 35 0 ((S 35 0) + (if 5 ≤ (S 20 p1.toNatClampNeg) then 5 else (S 20 p1.toNatClampNeg)))) 37 0 ((S 37 0) - (S 20 p1.toNatClampNeg))) 15 p1.toNatClampNeg 6) p2 1 p1) 20 p1.toNatClampNeg) - (if 5 ≤ (S 20 p1.toNatClampNeg) then 5 else (S 20 p1.toNatClampNeg)))) hx hb hr (fun t ht hW => ⟨⟨_, _, rfl, ⟨(congrArg Prod.fst hf), (congrArg Prod.snd hf)⟩, mr_bt ht hR⟩, hS.F ht⟩) hS.2.2 dX2_payOut_152
        refine lv_icmp_ge (tgt := 99) hx hb dX2_payOut_87 (by decide) (fun c_10 => ?_) (fun c_10 => ?_)
        · skip
          refine lv_iconst (v := 5) hx hb dX2_payOut_99 (by decide) ?_
          exact hJ_100 _ _ _ 5 ((if_pos c_10).symm) hR hS (lv_sub hl [0, 1, 2] rfl)
        · skip
          refine lv_aload_n hx hb dX2_payOut_90 rfl (lv_at hl 0 rfl) ?_
          refine mr_geta hx hb hts hown hK hR 20 (by decide) rfl (hts _ q971) (fun _ h9 => h9) dX2_payOut_91 ?_
          refine lv_iload_n hx hb dX2_payOut_94 rfl (lv_at hl 1 rfl) ?_
          refine mr_ald (v := (S 20 p1.toNatClampNeg)) hx hb hK hR 20 30 rfl (by decide) rfl (by first | assumption | exact mi_f hok (by assumption)) (congrFun (gs_sk rfl) p1.toNatClampNeg) dX2_payOut_95 ?_
          refine lv_goto (tgt := 100) hx hb dX2_payOut_96 (by decide) ?_
          exact hJ_100 _ _ _ (S 20 p1.toNatClampNeg) ((if_neg c_10).symm) hR hS (lv_sub hl [0, 1, 2] rfl)
      · skip
        have c_1 : ¬ ((((mf_isFind S p1) = true) ∧ ((mf_isClaim S p2) = true)) ∧ (((S 15 p1.toNatClampNeg) = 4) ∧ ((¬ (365 < ((S 1 0) - (S 21 p1.toNatClampNeg)))) ∧ ((mf_canServe S p1 p2) = true)))) := fun k => gs_zf (φ := (if ((mf_isFind S p1) = true) ∧ ((mf_isClaim S p2) = true) then (if (S 15 p1.toNatClampNeg) = 4 then (if 365 < ((S 1 0) - (S 21 p1.toNatClampNeg)) then 2 else (if (mf_canServe S p1 p2) = true then 0 else 2)) else 2) else 1) = 0) c_1 (e0_v_72.mpr k)
        have hf := (if_neg c_1).symm.trans hf
        refine lv_iconst (v := 0) hx hb dX2_payOut_78 (by decide) ?_
        exact W.iret (v := 0) hx hb hr (fun t ht hW => ⟨⟨_, _, rfl, ⟨(congrArg Prod.fst hf), (congrArg Prod.snd hf)⟩, mr_bt ht hR⟩, hS.F ht⟩) hS.2.2 dX2_payOut_79
    refine lv_if_ne (tgt := 31) hx hb dX2_payOut_24 (by decide) (fun c_11 => ?_) (fun c_11 => ?_)
    · skip
      have c_11 : ((mf_isFind S p1) = true) ∧ ((mf_isClaim S p2) = true) := gs_zt (φ := ((mf_isFind S p1) = true) ∧ ((mf_isClaim S p2) = true)) c_11
      have c_12 := c_11.1
      have c_13 := c_11.2
      refine lv_aload_n hx hb dX2_payOut_31 rfl (lv_at hl 1 rfl) ?_
      refine mr_geta hx hb hts hown hK hR 15 (by decide) rfl (hts _ q966) (fun _ h9 => h9) dX2_payOut_32 ?_
      refine lv_iload_n hx hb dX2_payOut_35 rfl (lv_at hl 2 rfl) ?_
      refine mr_ald (v := (S 15 p1.toNatClampNeg)) hx hb hK hR 15 30 rfl (by decide) rfl (by first | assumption | exact mi_f hok (by assumption)) rfl dX2_payOut_36 ?_
      refine lv_iconst (v := 4) hx hb dX2_payOut_37 (by decide) ?_
      refine lv_icmp_ne (tgt := 67) hx hb dX2_payOut_38 (by decide) (fun c_14 => ?_) (fun c_14 => ?_)
      · skip
        refine lv_iconst (v := 2) hx hb dX2_payOut_67 (by decide) ?_
        refine lv_goto (tgt := 72) hx hb dX2_payOut_68 (by decide) ?_
        exact hJ_72 _ _ _ 2 (((if_neg c_14).symm).trans (if_pos c_11).symm) (gi_z0 (by decide) ((gi_ca_f c_14).trans (gi_ca_t c_11))) hR hS (lv_sub hl [1, 2, 3] rfl)
      · skip
        refine lv_aload_n hx hb dX2_payOut_41 rfl (lv_at hl 1 rfl) ?_
        refine mr_geti (v := (S 1 0)) hx hb hts hown hK hR 1 (by decide) rfl (hts _ q952) (fun _ h9 => h9) rfl dX2_payOut_42 ?_
        refine lv_aload_n hx hb dX2_payOut_45 rfl (lv_at hl 1 rfl) ?_
        refine mr_geta hx hb hts hown hK hR 21 (by decide) rfl (hts _ q972) (fun _ h9 => h9) dX2_payOut_46 ?_
        refine lv_iload_n hx hb dX2_payOut_49 rfl (lv_at hl 2 rfl) ?_
        refine mr_ald (v := (S 21 p1.toNatClampNeg)) hx hb hK hR 21 30 rfl (by decide) rfl (by first | assumption | exact mi_f hok (by assumption)) rfl dX2_payOut_50 ?_
        refine lv_isub hx hb dX2_payOut_51 ?_
        refine lv_sipush (v := 365) hx hb dX2_payOut_52 (by decide) ?_
        refine lv_icmp_gt (tgt := 67) hx hb dX2_payOut_55 (by decide) (fun c_15 => ?_) (fun c_15 => ?_)
        · skip
          refine lv_iconst (v := 2) hx hb dX2_payOut_67 (by decide) ?_
          refine lv_goto (tgt := 72) hx hb dX2_payOut_68 (by decide) ?_
          exact hJ_72 _ _ _ 2 ((((if_pos c_15).symm).trans (if_pos c_14).symm).trans (if_pos c_11).symm) (gi_z0 (by decide) (((gi_na_t c_15).trans (gi_ca_t c_14)).trans (gi_ca_t c_11))) hR hS (lv_sub hl [1, 2, 3] rfl)
        · skip
          refine lv_aload_n hx hb dX2_payOut_58 rfl (lv_at hl 1 rfl) ?_
          refine lv_iload_n hx hb dX2_payOut_59 rfl (lv_at hl 2 rfl) ?_
          refine lv_iload_n hx hb dX2_payOut_60 rfl (lv_at hl 3 rfl) ?_
          refine mr_calli (As := [.int p1, .int p2]) (rest := [.ref q]) ⟨hx, hb, hml, hown, hts⟩ (mt_canServe l E q ad L S p1 p2) (cwV 2 hts (lw_V q1185 q1187 qs22 q41 q1188) rfl rfl rfl (by decide +kernel) ⟨Nat.le_of_ble_eq_true rfl, Nat.le_of_ble_eq_true rfl⟩) ⟨hok, (by first | assumption | exact mi_f hok (by assumption)), (by first | assumption | exact mi_c hok (by assumption))⟩ hK hR (fun _ h => h) hS rfl hl.1 rfl (Nat.le_of_ble_eq_true rfl) dX2_payOut_61 ⟨Nat.le_refl _, Nat.le_refl _⟩ (fun H locs hR hS _ _ => ?_)
          refine lv_if_ne (tgt := 71) hx hb dX2_payOut_64 (by decide) (fun c_16 => ?_) (fun c_16 => ?_)
          · skip
            have c_16 : (mf_canServe S p1 p2) = true := gs_zt (φ := (mf_canServe S p1 p2) = true) c_16
            refine lv_iconst (v := 0) hx hb dX2_payOut_71 (by decide) ?_
            exact hJ_72 _ _ _ 0 (((((if_pos c_16).symm).trans (if_neg c_15).symm).trans (if_pos c_14).symm).trans (if_pos c_11).symm) (gi_z1 ((((gi_cb_t c_16).trans (gi_na_f c_15)).trans (gi_ca_t c_14)).trans (gi_ca_t c_11))) hR hS (lv_sub hl [1, 2, 3] rfl)
          · skip
            have c_16 : ¬ ((mf_canServe S p1 p2) = true) := gs_zf (φ := (mf_canServe S p1 p2) = true) c_16
            refine lv_iconst (v := 2) hx hb dX2_payOut_67 (by decide) ?_
            refine lv_goto (tgt := 72) hx hb dX2_payOut_68 (by decide) ?_
            exact hJ_72 _ _ _ 2 (((((if_neg c_16).symm).trans (if_neg c_15).symm).trans (if_pos c_14).symm).trans (if_pos c_11).symm) (gi_z0 (by decide) ((((gi_cb_f c_16).trans (gi_na_f c_15)).trans (gi_ca_t c_14)).trans (gi_ca_t c_11))) hR hS (lv_sub hl [1, 2, 3] rfl)
    · skip
      have c_11 : ¬ (((mf_isFind S p1) = true) ∧ ((mf_isClaim S p2) = true)) := gs_zf (φ := ((mf_isFind S p1) = true) ∧ ((mf_isClaim S p2) = true)) c_11
      refine lv_iconst (v := 1) hx hb dX2_payOut_27 (by decide) ?_
      refine lv_goto (tgt := 72) hx hb dX2_payOut_28 (by decide) ?_
      exact hJ_72 _ _ _ 1 ((if_neg c_11).symm) (gi_z0 (by decide) (gi_ca_f c_11)) hR hS (lv_sub hl [1, 2, 3] rfl)
  refine lv_if_eq (tgt := 20) hx hb dX2_payOut_5 (by decide) (fun c_17 => ?_) (fun c_17 => ?_)
  · skip
    have c_17 : ¬ ((mf_isFind S p1) = true) := gs_zf (φ := (mf_isFind S p1) = true) c_17
    refine lv_iconst (v := 0) hx hb dX2_payOut_20 (by decide) ?_
    exact hJ_21 _ _ _ 0 (gi_0 (gi_ca_f c_17)) hR hS (lv_sub hl [0, 1, 2] rfl)
  · skip
    have c_17 : (mf_isFind S p1) = true := gs_zt (φ := (mf_isFind S p1) = true) c_17
    refine lv_aload_n hx hb dX2_payOut_8 rfl (lv_at hl 0 rfl) ?_
    refine lv_iload_n hx hb dX2_payOut_9 rfl (lv_at hl 2 rfl) ?_
    refine mr_calli (As := [.int p2]) (rest := []) ⟨hx, hb, hml, hown, hts⟩ (mt_isClaim l E q ad L S p2) (cwV 1 hts (lw_V q1165 q1167 qs20 q41 q1168) rfl rfl rfl (by decide +kernel) ⟨Nat.le_of_ble_eq_true rfl, Nat.le_of_ble_eq_true rfl⟩) trivial hK hR (fun _ h => h) hS rfl hl.1 rfl (Nat.le_of_ble_eq_true rfl) dX2_payOut_10 ⟨Nat.le_refl _, Nat.le_refl _⟩ (fun H locs hR hS _ _ => ?_)
    refine lv_if_eq (tgt := 20) hx hb dX2_payOut_13 (by decide) (fun c_18 => ?_) (fun c_18 => ?_)
    · skip
      have c_18 : ¬ ((mf_isClaim S p2) = true) := gs_zf (φ := (mf_isClaim S p2) = true) c_18
      refine lv_iconst (v := 0) hx hb dX2_payOut_20 (by decide) ?_
      exact hJ_21 _ _ _ 0 (gi_0 ((gi_cb_f c_18).trans (gi_ca_t c_17))) hR hS (lv_sub hl [0, 1, 2] rfl)
    · skip
      have c_18 : (mf_isClaim S p2) = true := gs_zt (φ := (mf_isClaim S p2) = true) c_18
      refine lv_iconst (v := 1) hx hb dX2_payOut_16 (by decide) ?_
      refine lv_goto (tgt := 21) hx hb dX2_payOut_17 (by decide) ?_
      exact hJ_21 _ _ _ 1 (gi_1 ((gi_cb_t c_18).trans (gi_ca_t c_17))) hR hS (lv_sub hl [0, 1, 2] rfl)
set_option maxHeartbeats 2000000 in
set_option maxRecDepth 100000 in
theorem mt_begins (l : Launch) (E : en_T) (q : Nat) (ad : Nat → Nat) (L : List Nat) (S : gs_T) : Met l yX2_begins (ws_ yX2_begins cX2_begins 3 none) { frames := 1, cells := 0, slots := 0, locals := 24 } (mr_Pc E q ad L S [] (mi_ok S)) (mr_Qv E q ad L (mf_begins S )) 0 0 (mr_A L) := by
  refine mr_start (by decide) rfl (Nat.le_of_ble_eq_true rfl) ?_
  intro p e s m below meth c ls hx hb hr hlocks hml hown hts hK hP hl hR
  have hl : lv_has ls 3 [(0, .ref q)] := hl
  have hS : va_S (mr_A L) s.heap s.heap [] := va_S.rf
  have hok := hP
  have hf : (mf_begins S ) = (mf_begins S ) := rfl
  have hnf := mi_n30 hok
  have hnc := mi_m20 hok
  refine lv_aload_n hx hb dX2_begins_0 rfl (lv_at hl 0 rfl) ?_
  refine lv_dup hx hb dX2_begins_1 rfl ?_
  refine mr_geti (v := (S 1 0)) hx hb hts hown hK hR 1 (by decide) rfl (hts _ q952) (fun _ h9 => h9) rfl dX2_begins_2 ?_
  refine lv_iconst (v := 1) hx hb dX2_begins_5 (by decide) ?_
  refine lv_iadd hx hb dX2_begins_6 ?_
  refine mr_puti hx hb hts hown hK hR hS 1 (by decide) rfl (hts _ q952) (fun _ h9 => h9) dX2_begins_7 (fun H locs hR hS => ?_)
  refine lv_iconst (v := 0) hx hb dX2_begins_10 (by decide) ?_
  refine lv_istore_n (lv' := [(1, .int 0), (0, .ref q)]) hx hb dX2_begins_11 rfl hl (by decide) rfl (fun ls hl => ?_)
  have hL_12 : ∀ (n_12 i_12 : Nat) (S_12 : gs_T) (H : Heap) (locs : List Loc) (ls : Array Slot), i_12 + n_12 = (S 8 0).toNatClampNeg → mf_begins_R12 n_12 i_12 S_12 = (mf_begins_R12 ((S 8 0).toNatClampNeg) 0 (gs_up S 1 0 ((S 1 0) + 1))) → mi_ok S_12 ∧ S_12 8 0 = (S 8 0) ∧ S_12 25 0 = (S 25 0) → mr_W E q ad L S_12 H → va_S (mr_A L) s.heap H locs → lv_has ls 3 [(0, .ref q), (1, .int (nI i_12))] → mr_G p l e { frames := 1, cells := 0, slots := 0, locals := 24 } s m [.ref q] below meth c (mr_A L) (mr_Qv E q ad L (mf_begins S )) H locs (F0 m 12 ls []) := by
    intro n_12
    induction n_12 with
    | zero =>
      intro i_12 S_12 H locs ls hi_12 hg_12 hI_12 hR hS hl
      have hi_12 : i_12 = (S 8 0).toNatClampNeg := hi_12
      subst hi_12
      have e_S_12 : S_12 = (mf_begins_R12 ((S 8 0).toNatClampNeg) 0 (gs_up S 1 0 ((S 1 0) + 1))) := congrArg (fun z => z) hg_12
      subst e_S_12
      refine lv_iload_n hx hb dX2_begins_12 rfl (lv_at hl 1 rfl) ?_
      refine lv_aload_n hx hb dX2_begins_13 rfl (lv_at hl 0 rfl) ?_
      refine mr_geti (v := ((mf_begins_R12 ((S 8 0).toNatClampNeg) 0 (gs_up S 1 0 ((S 1 0) + 1))) 8 0)) hx hb hts hown hK hR 8 (by decide) rfl (hts _ q959) (fun _ h9 => h9) rfl dX2_begins_14 ?_
      refine lv_icmp_ge (tgt := 47) hx hb dX2_begins_17 (by decide) (fun c_1 => ?_) (fun c_1 => absurd (lp_x0 (hI_12.2.1.trans (mi_n hok))) c_1)
      refine lv_iconst (v := 0) hx hb dX2_begins_47 (by decide) ?_
      refine lv_istore_n (lv' := [(1, .int 0), (0, .ref q)]) hx hb dX2_begins_48 rfl hl (by decide) rfl (fun ls hl => ?_)
      have hL_49 : ∀ (n_49 i_49 : Nat) (S_49 : gs_T) (H : Heap) (locs : List Loc) (ls : Array Slot), i_49 + n_49 = (S 25 0).toNatClampNeg → mf_begins_R49 n_49 i_49 S_49 = (mf_begins_R49 ((S 25 0).toNatClampNeg) 0 (mf_begins_R12 ((S 8 0).toNatClampNeg) 0 (gs_up S 1 0 ((S 1 0) + 1)))) → mi_ok S_49 ∧ S_49 8 0 = (S 8 0) ∧ S_49 25 0 = (S 25 0) → mr_W E q ad L S_49 H → va_S (mr_A L) s.heap H locs → lv_has ls 3 [(0, .ref q), (1, .int (nI i_49))] → mr_G p l e { frames := 1, cells := 0, slots := 0, locals := 24 } s m [.ref q] below meth c (mr_A L) (mr_Qv E q ad L (mf_begins S )) H locs (F0 m 49 ls []) := by
        intro n_49
        induction n_49 with
        | zero =>
          intro i_49 S_49 H locs ls hi_49 hg_49 hI_49 hR hS hl
          have hi_49 : i_49 = (S 25 0).toNatClampNeg := hi_49
          subst hi_49
          have e_S_49 : S_49 = (mf_begins_R49 ((S 25 0).toNatClampNeg) 0 (mf_begins_R12 ((S 8 0).toNatClampNeg) 0 (gs_up S 1 0 ((S 1 0) + 1)))) := congrArg (fun z => z) hg_49
          subst e_S_49
          refine lv_iload_n hx hb dX2_begins_49 rfl (lv_at hl 1 rfl) ?_
          refine lv_aload_n hx hb dX2_begins_50 rfl (lv_at hl 0 rfl) ?_
          refine mr_geti (v := ((mf_begins_R49 ((S 25 0).toNatClampNeg) 0 (mf_begins_R12 ((S 8 0).toNatClampNeg) 0 (gs_up S 1 0 ((S 1 0) + 1)))) 25 0)) hx hb hts hown hK hR 25 (by decide) rfl (hts _ q976) (fun _ h9 => h9) rfl dX2_begins_51 ?_
          refine lv_icmp_ge (tgt := 165) hx hb dX2_begins_54 (by decide) (fun c_2 => ?_) (fun c_2 => absurd (lp_x0 (hI_49.2.2.trans (mi_m hok))) c_2)
          exact W.vret hx hb hr (fun t ht hW => ⟨⟨_, rfl, hf, mr_bt ht hR⟩, hS.F ht⟩) hS.2.2 dX2_begins_165
        | succ n_49 ih_49 =>
          intro i_49 S_49 H locs ls hi_49 hg_49 hI_49 hR hS hl
          have hlt_49 : i_49 < (S 25 0).toNatClampNeg := by omega
          have hf_49 : mf_begins_L49 i_49 S_49 = mf_begins_L49 i_49 S_49 := rfl
          refine lv_iload_n hx hb dX2_begins_49 rfl (lv_at hl 1 rfl) ?_
          refine lv_aload_n hx hb dX2_begins_50 rfl (lv_at hl 0 rfl) ?_
          refine mr_geti (v := (S_49 25 0)) hx hb hts hown hK hR 25 (by decide) rfl (hts _ q976) (fun _ h9 => h9) rfl dX2_begins_51 ?_
          refine lv_icmp_ge (tgt := 165) hx hb dX2_begins_54 (by decide) (fun c_3 => absurd c_3 (lp_x1 (hI_49.2.2.trans (mi_m hok)) hlt_49 (mi_mb hok))) (fun c_3 => ?_)
          refine lv_aload_n hx hb dX2_begins_57 rfl (lv_at hl 0 rfl) ?_
          refine mr_geta hx hb hts hown hK hR 32 (by decide) rfl (hts _ q983) (fun _ h9 => h9) dX2_begins_58 ?_
          refine lv_iload_n hx hb dX2_begins_61 rfl (lv_at hl 1 rfl) ?_
          refine mr_ald (v := (S_49 32 i_49)) hx hb hK hR 32 20 rfl (by decide) rfl (by first | assumption | exact vp_in_nI (show i_49 < 20 by omega) (by decide)) ((congrArg (fun z => S_49 32 z) (nI_clamp (show i_49 < 2 ^ 31 by omega))).trans rfl) dX2_begins_62 ?_
          refine lv_iconst (v := 1) hx hb dX2_begins_63 (by decide) ?_
          have hJ_98 : ∀ (H : Heap) (locs : List Loc) (ls : Array Slot) (v_98 : Int32), v_98 = (if (((S_49 32 i_49) = 1) ∧ (¬ (((S_49 1 0) - (S_49 33 i_49)) < 90))) ∨ ((¬ ((S_49 32 i_49) = 1)) ∧ (((S_49 32 i_49) = 2) ∧ (¬ (((S_49 1 0) - (S_49 33 i_49)) < 90)))) then 1 else 0) → mr_W E q ad L S_49 H → va_S (mr_A L) s.heap H locs → lv_has ls 3 [(0, .ref q), (1, .int (nI i_49))] → mr_G p l e { frames := 1, cells := 0, slots := 0, locals := 24 } s m [.ref q] below meth c (mr_A L) (mr_Qv E q ad L (mf_begins S )) H locs (F0 m 98 ls [.int v_98]) := by
            intro H locs ls v_98 e_v_98 hR hS hl
            subst e_v_98
            refine lv_istore_n (lv' := [(2, .int (if (((S_49 32 i_49) = 1) ∧ (¬ (((S_49 1 0) - (S_49 33 i_49)) < 90))) ∨ ((¬ ((S_49 32 i_49) = 1)) ∧ (((S_49 32 i_49) = 2) ∧ (¬ (((S_49 1 0) - (S_49 33 i_49)) < 90)))) then 1 else 0)), (0, .ref q), (1, .int (nI i_49))]) hx hb dX2_begins_98 rfl hl (by decide) rfl (fun ls hl => ?_)
            refine lv_aload_n hx hb dX2_begins_99 rfl (lv_at hl 1 rfl) ?_
            refine mr_geta hx hb hts hown hK hR 32 (by decide) rfl (hts _ q983) (fun _ h9 => h9) dX2_begins_100 ?_
            refine lv_iload_n hx hb dX2_begins_103 rfl (lv_at hl 2 rfl) ?_
            refine lv_iload_n hx hb dX2_begins_104 rfl (lv_at hl 0 rfl) ?_
            have hJ_118 : ∀ (H : Heap) (locs : List Loc) (ls : Array Slot) (v_118 : Int32), v_118 = (if (((S_49 32 i_49) = 1) ∧ (¬ (((S_49 1 0) - (S_49 33 i_49)) < 90))) ∨ ((¬ ((S_49 32 i_49) = 1)) ∧ (((S_49 32 i_49) = 2) ∧ (¬ (((S_49 1 0) - (S_49 33 i_49)) < 90)))) then 3 else (S_49 32 i_49)) → mr_W E q ad L S_49 H → va_S (mr_A L) s.heap H locs → lv_has ls 3 [(0, .ref q), (1, .int (nI i_49)), (2, .int (if (((S_49 32 i_49) = 1) ∧ (¬ (((S_49 1 0) - (S_49 33 i_49)) < 90))) ∨ ((¬ ((S_49 32 i_49) = 1)) ∧ (((S_49 32 i_49) = 2) ∧ (¬ (((S_49 1 0) - (S_49 33 i_49)) < 90)))) then 1 else 0))] → mr_G p l e { frames := 1, cells := 0, slots := 0, locals := 24 } s m [.ref q] below meth c (mr_A L) (mr_Qv E q ad L (mf_begins S )) H locs (F0 m 118 ls [.int v_118, .int (nI i_49), .ref (ad 32)]) := by
              intro H locs ls v_118 e_v_118 hR hS hl
              subst e_v_118
              refine mr_ast (j := i_49) hx hb hK hR hS 32 20 rfl (by decide) rfl (by first | assumption | exact vp_in_nI (show i_49 < 20 by omega) (by decide)) (nI_clamp (show i_49 < 2 ^ 31 by omega)) dX2_begins_118 (fun H locs hR hS => ?_)
              refine lv_aload_n hx hb dX2_begins_119 rfl (lv_at hl 0 rfl) ?_
              refine mr_geta hx hb hts hown hK hR 30 (by decide) rfl (hts _ q981) (fun _ h9 => h9) dX2_begins_120 ?_
              refine lv_iload_n hx hb dX2_begins_123 rfl (lv_at hl 1 rfl) ?_
              refine lv_iload_n hx hb dX2_begins_124 rfl (lv_at hl 2 rfl) ?_
              have hJ_138 : ∀ (H : Heap) (locs : List Loc) (ls : Array Slot) (v_138 : Int32), v_138 = (if (((S_49 32 i_49) = 1) ∧ (¬ (((S_49 1 0) - (S_49 33 i_49)) < 90))) ∨ ((¬ ((S_49 32 i_49) = 1)) ∧ (((S_49 32 i_49) = 2) ∧ (¬ (((S_49 1 0) - (S_49 33 i_49)) < 90)))) then 0 else (S_49 30 i_49)) → mr_W E q ad L (gs_up S_49 32 i_49 (if (((S_49 32 i_49) = 1) ∧ (¬ (((S_49 1 0) - (S_49 33 i_49)) < 90))) ∨ ((¬ ((S_49 32 i_49) = 1)) ∧ (((S_49 32 i_49) = 2) ∧ (¬ (((S_49 1 0) - (S_49 33 i_49)) < 90)))) then 3 else (S_49 32 i_49))) H → va_S (mr_A L) s.heap H locs → lv_has ls 3 [(0, .ref q), (1, .int (nI i_49)), (2, .int (if (((S_49 32 i_49) = 1) ∧ (¬ (((S_49 1 0) - (S_49 33 i_49)) < 90))) ∨ ((¬ ((S_49 32 i_49) = 1)) ∧ (((S_49 32 i_49) = 2) ∧ (¬ (((S_49 1 0) - (S_49 33 i_49)) < 90)))) then 1 else 0))] → mr_G p l e { frames := 1, cells := 0, slots := 0, locals := 24 } s m [.ref q] below meth c (mr_A L) (mr_Qv E q ad L (mf_begins S )) H locs (F0 m 138 ls [.int v_138, .int (nI i_49), .ref (ad 30)]) := by
                intro H locs ls v_138 e_v_138 hR hS hl
                subst e_v_138
                refine mr_ast (j := i_49) hx hb hK hR hS 30 20 rfl (by decide) rfl (by first | assumption | exact vp_in_nI (show i_49 < 20 by omega) (by decide)) (nI_clamp (show i_49 < 2 ^ 31 by omega)) dX2_begins_138 (fun H locs hR hS => ?_)
                refine lv_aload_n hx hb dX2_begins_139 rfl (lv_at hl 0 rfl) ?_
                refine mr_geta hx hb hts hown hK hR 31 (by decide) rfl (hts _ q982) (fun _ h9 => h9) dX2_begins_140 ?_
                refine lv_iload_n hx hb dX2_begins_143 rfl (lv_at hl 1 rfl) ?_
                refine lv_iload_n hx hb dX2_begins_144 rfl (lv_at hl 2 rfl) ?_
                have hJ_158 : ∀ (H : Heap) (locs : List Loc) (ls : Array Slot) (v_158 : Int32), v_158 = (if (((S_49 32 i_49) = 1) ∧ (¬ (((S_49 1 0) - (S_49 33 i_49)) < 90))) ∨ ((¬ ((S_49 32 i_49) = 1)) ∧ (((S_49 32 i_49) = 2) ∧ (¬ (((S_49 1 0) - (S_49 33 i_49)) < 90)))) then 0 else (S_49 31 i_49)) → mr_W E q ad L (gs_up (gs_up S_49 32 i_49 (if (((S_49 32 i_49) = 1) ∧ (¬ (((S_49 1 0) - (S_49 33 i_49)) < 90))) ∨ ((¬ ((S_49 32 i_49) = 1)) ∧ (((S_49 32 i_49) = 2) ∧ (¬ (((S_49 1 0) - (S_49 33 i_49)) < 90)))) then 3 else (S_49 32 i_49))) 30 i_49 (if (((S_49 32 i_49) = 1) ∧ (¬ (((S_49 1 0) - (S_49 33 i_49)) < 90))) ∨ ((¬ ((S_49 32 i_49) = 1)) ∧ (((S_49 32 i_49) = 2) ∧ (¬ (((S_49 1 0) - (S_49 33 i_49)) < 90)))) then 0 else (S_49 30 i_49))) H → va_S (mr_A L) s.heap H locs → lv_has ls 3 [(0, .ref q), (1, .int (nI i_49))] → mr_G p l e { frames := 1, cells := 0, slots := 0, locals := 24 } s m [.ref q] below meth c (mr_A L) (mr_Qv E q ad L (mf_begins S )) H locs (F0 m 158 ls [.int v_158, .int (nI i_49), .ref (ad 31)]) := by
                  intro H locs ls v_158 e_v_158 hR hS hl
                  subst e_v_158
                  refine mr_ast (j := i_49) hx hb hK hR hS 31 20 rfl (by decide) rfl (by first | assumption | exact vp_in_nI (show i_49 < 20 by omega) (by decide)) (nI_clamp (show i_49 < 2 ^ 31 by omega)) dX2_begins_158 (fun H locs hR hS => ?_)
                  refine lv_iinc (v := (nI (i_49 + 1))) (lv' := [(1, .int (nI (i_49 + 1))), (0, .ref q)]) hx hb dX2_begins_159 hl (k := 1) rfl (nI_1 i_49) (by decide) rfl (fun ls hl => ?_)
                  refine lv_goto (tgt := 49) hx hb dX2_begins_162 (by decide) ?_
                  exact ih_49 (i_49 + 1) (gs_up (gs_up (gs_up S_49 32 i_49 (if (((S_49 32 i_49) = 1) ∧ (¬ (((S_49 1 0) - (S_49 33 i_49)) < 90))) ∨ ((¬ ((S_49 32 i_49) = 1)) ∧ (((S_49 32 i_49) = 2) ∧ (¬ (((S_49 1 0) - (S_49 33 i_49)) < 90)))) then 3 else (S_49 32 i_49))) 30 i_49 (if (((S_49 32 i_49) = 1) ∧ (¬ (((S_49 1 0) - (S_49 33 i_49)) < 90))) ∨ ((¬ ((S_49 32 i_49) = 1)) ∧ (((S_49 32 i_49) = 2) ∧ (¬ (((S_49 1 0) - (S_49 33 i_49)) < 90)))) then 0 else (S_49 30 i_49))) 31 i_49 (if (((S_49 32 i_49) = 1) ∧ (¬ (((S_49 1 0) - (S_49 33 i_49)) < 90))) ∨ ((¬ ((S_49 32 i_49) = 1)) ∧ (((S_49 32 i_49) = 2) ∧ (¬ (((S_49 1 0) - (S_49 33 i_49)) < 90)))) then 0 else (S_49 31 i_49))) _ _ _ (by omega) ((congrArg (fun z => mf_begins_R49 n_49 (i_49 + 1) z) hf_49).trans hg_49) (@Eq.subst _ (fun z => mi_ok z ∧ z 8 0 = (S 8 0) ∧ z 25 0 = (S 25 0)) _ _ (congrArg (fun z => z) hf_49).symm (⟨mi_row (k := 31) (by decide) (mi_row (k := 30) (by decide) (mi_row (k := 32) (by decide) hI_49.1)), hI_49.2⟩)) hR hS (lv_sub hl [1, 0] rfl)
                refine lv_if_eq (tgt := 152) hx hb dX2_begins_145 (by decide) (fun c_4 => ?_) (fun c_4 => ?_)
                · skip
                  have c_4 : ¬ ((((S_49 32 i_49) = 1) ∧ (¬ (((S_49 1 0) - (S_49 33 i_49)) < 90))) ∨ ((¬ ((S_49 32 i_49) = 1)) ∧ (((S_49 32 i_49) = 2) ∧ (¬ (((S_49 1 0) - (S_49 33 i_49)) < 90))))) := gs_zf (φ := (((S_49 32 i_49) = 1) ∧ (¬ (((S_49 1 0) - (S_49 33 i_49)) < 90))) ∨ ((¬ ((S_49 32 i_49) = 1)) ∧ (((S_49 32 i_49) = 2) ∧ (¬ (((S_49 1 0) - (S_49 33 i_49)) < 90))))) c_4
                  have c_5 := (not_or.mp c_4).1
                  have c_6 := (not_or.mp c_4).2
                  refine lv_aload_n hx hb dX2_begins_152 rfl (lv_at hl 0 rfl) ?_
                  refine mr_geta hx hb hts hown hK hR 31 (by decide) rfl (hts _ q982) (fun _ h9 => h9) dX2_begins_153 ?_
                  refine lv_iload_n hx hb dX2_begins_156 rfl (lv_at hl 1 rfl) ?_
                  refine mr_ald (v := (S_49 31 i_49)) hx hb hK hR 31 20 rfl (by decide) rfl (by first | assumption | exact vp_in_nI (show i_49 < 20 by omega) (by decide)) ((congrArg (fun z => (gs_up (gs_up S_49 32 i_49 (if (((S_49 32 i_49) = 1) ∧ (¬ (((S_49 1 0) - (S_49 33 i_49)) < 90))) ∨ ((¬ ((S_49 32 i_49) = 1)) ∧ (((S_49 32 i_49) = 2) ∧ (¬ (((S_49 1 0) - (S_49 33 i_49)) < 90)))) then 3 else (S_49 32 i_49))) 30 i_49 (if (((S_49 32 i_49) = 1) ∧ (¬ (((S_49 1 0) - (S_49 33 i_49)) < 90))) ∨ ((¬ ((S_49 32 i_49) = 1)) ∧ (((S_49 32 i_49) = 2) ∧ (¬ (((S_49 1 0) - (S_49 33 i_49)) < 90)))) then 0 else (S_49 30 i_49))) 31 z) (nI_clamp (show i_49 < 2 ^ 31 by omega))).trans (congrFun ((gs_sk rfl).trans (gs_sk rfl)) i_49)) dX2_begins_157 ?_
                  exact hJ_158 _ _ _ (S_49 31 i_49) ((if_neg c_4).symm) hR hS (lv_sub hl [0, 1] rfl)
                · skip
                  have c_4 : (((S_49 32 i_49) = 1) ∧ (¬ (((S_49 1 0) - (S_49 33 i_49)) < 90))) ∨ ((¬ ((S_49 32 i_49) = 1)) ∧ (((S_49 32 i_49) = 2) ∧ (¬ (((S_49 1 0) - (S_49 33 i_49)) < 90)))) := gs_zt (φ := (((S_49 32 i_49) = 1) ∧ (¬ (((S_49 1 0) - (S_49 33 i_49)) < 90))) ∨ ((¬ ((S_49 32 i_49) = 1)) ∧ (((S_49 32 i_49) = 2) ∧ (¬ (((S_49 1 0) - (S_49 33 i_49)) < 90))))) c_4
                  refine lv_iconst (v := 0) hx hb dX2_begins_148 (by decide) ?_
                  refine lv_goto (tgt := 158) hx hb dX2_begins_149 (by decide) ?_
                  exact hJ_158 _ _ _ 0 ((if_pos c_4).symm) hR hS (lv_sub hl [0, 1] rfl)
              refine lv_if_eq (tgt := 132) hx hb dX2_begins_125 (by decide) (fun c_7 => ?_) (fun c_7 => ?_)
              · skip
                have c_7 : ¬ ((((S_49 32 i_49) = 1) ∧ (¬ (((S_49 1 0) - (S_49 33 i_49)) < 90))) ∨ ((¬ ((S_49 32 i_49) = 1)) ∧ (((S_49 32 i_49) = 2) ∧ (¬ (((S_49 1 0) - (S_49 33 i_49)) < 90))))) := gs_zf (φ := (((S_49 32 i_49) = 1) ∧ (¬ (((S_49 1 0) - (S_49 33 i_49)) < 90))) ∨ ((¬ ((S_49 32 i_49) = 1)) ∧ (((S_49 32 i_49) = 2) ∧ (¬ (((S_49 1 0) - (S_49 33 i_49)) < 90))))) c_7
                have c_8 := (not_or.mp c_7).1
                have c_9 := (not_or.mp c_7).2
                refine lv_aload_n hx hb dX2_begins_132 rfl (lv_at hl 0 rfl) ?_
                refine mr_geta hx hb hts hown hK hR 30 (by decide) rfl (hts _ q981) (fun _ h9 => h9) dX2_begins_133 ?_
                refine lv_iload_n hx hb dX2_begins_136 rfl (lv_at hl 1 rfl) ?_
                refine mr_ald (v := (S_49 30 i_49)) hx hb hK hR 30 20 rfl (by decide) rfl (by first | assumption | exact vp_in_nI (show i_49 < 20 by omega) (by decide)) ((congrArg (fun z => (gs_up S_49 32 i_49 (if (((S_49 32 i_49) = 1) ∧ (¬ (((S_49 1 0) - (S_49 33 i_49)) < 90))) ∨ ((¬ ((S_49 32 i_49) = 1)) ∧ (((S_49 32 i_49) = 2) ∧ (¬ (((S_49 1 0) - (S_49 33 i_49)) < 90)))) then 3 else (S_49 32 i_49))) 30 z) (nI_clamp (show i_49 < 2 ^ 31 by omega))).trans (congrFun (gs_sk rfl) i_49)) dX2_begins_137 ?_
                exact hJ_138 _ _ _ (S_49 30 i_49) ((if_neg c_7).symm) hR hS (lv_sub hl [0, 1, 2] rfl)
              · skip
                have c_7 : (((S_49 32 i_49) = 1) ∧ (¬ (((S_49 1 0) - (S_49 33 i_49)) < 90))) ∨ ((¬ ((S_49 32 i_49) = 1)) ∧ (((S_49 32 i_49) = 2) ∧ (¬ (((S_49 1 0) - (S_49 33 i_49)) < 90)))) := gs_zt (φ := (((S_49 32 i_49) = 1) ∧ (¬ (((S_49 1 0) - (S_49 33 i_49)) < 90))) ∨ ((¬ ((S_49 32 i_49) = 1)) ∧ (((S_49 32 i_49) = 2) ∧ (¬ (((S_49 1 0) - (S_49 33 i_49)) < 90))))) c_7
                refine lv_iconst (v := 0) hx hb dX2_begins_128 (by decide) ?_
                refine lv_goto (tgt := 138) hx hb dX2_begins_129 (by decide) ?_
                exact hJ_138 _ _ _ 0 ((if_pos c_7).symm) hR hS (lv_sub hl [0, 1, 2] rfl)
            refine lv_if_eq (tgt := 112) hx hb dX2_begins_105 (by decide) (fun c_10 => ?_) (fun c_10 => ?_)
            · skip
              have c_10 : ¬ ((((S_49 32 i_49) = 1) ∧ (¬ (((S_49 1 0) - (S_49 33 i_49)) < 90))) ∨ ((¬ ((S_49 32 i_49) = 1)) ∧ (((S_49 32 i_49) = 2) ∧ (¬ (((S_49 1 0) - (S_49 33 i_49)) < 90))))) := gs_zf (φ := (((S_49 32 i_49) = 1) ∧ (¬ (((S_49 1 0) - (S_49 33 i_49)) < 90))) ∨ ((¬ ((S_49 32 i_49) = 1)) ∧ (((S_49 32 i_49) = 2) ∧ (¬ (((S_49 1 0) - (S_49 33 i_49)) < 90))))) c_10
              have c_11 := (not_or.mp c_10).1
              have c_12 := (not_or.mp c_10).2
              refine lv_aload_n hx hb dX2_begins_112 rfl (lv_at hl 1 rfl) ?_
              refine mr_geta hx hb hts hown hK hR 32 (by decide) rfl (hts _ q983) (fun _ h9 => h9) dX2_begins_113 ?_
              refine lv_iload_n hx hb dX2_begins_116 rfl (lv_at hl 2 rfl) ?_
              refine mr_ald (v := (S_49 32 i_49)) hx hb hK hR 32 20 rfl (by decide) rfl (by first | assumption | exact vp_in_nI (show i_49 < 20 by omega) (by decide)) ((congrArg (fun z => S_49 32 z) (nI_clamp (show i_49 < 2 ^ 31 by omega))).trans rfl) dX2_begins_117 ?_
              exact hJ_118 _ _ _ (S_49 32 i_49) ((if_neg c_10).symm) hR hS (lv_sub hl [1, 2, 0] rfl)
            · skip
              have c_10 : (((S_49 32 i_49) = 1) ∧ (¬ (((S_49 1 0) - (S_49 33 i_49)) < 90))) ∨ ((¬ ((S_49 32 i_49) = 1)) ∧ (((S_49 32 i_49) = 2) ∧ (¬ (((S_49 1 0) - (S_49 33 i_49)) < 90)))) := gs_zt (φ := (((S_49 32 i_49) = 1) ∧ (¬ (((S_49 1 0) - (S_49 33 i_49)) < 90))) ∨ ((¬ ((S_49 32 i_49) = 1)) ∧ (((S_49 32 i_49) = 2) ∧ (¬ (((S_49 1 0) - (S_49 33 i_49)) < 90))))) c_10
              refine lv_iconst (v := 3) hx hb dX2_begins_108 (by decide) ?_
              refine lv_goto (tgt := 118) hx hb dX2_begins_109 (by decide) ?_
              exact hJ_118 _ _ _ 3 ((if_pos c_10).symm) hR hS (lv_sub hl [1, 2, 0] rfl)
          refine lv_icmp_eq (tgt := 77) hx hb dX2_begins_64 (by decide) (fun c_13 => ?_) (fun c_13 => ?_)
          · skip
            refine lv_aload_n hx hb dX2_begins_77 rfl (lv_at hl 0 rfl) ?_
            refine mr_geti (v := (S_49 1 0)) hx hb hts hown hK hR 1 (by decide) rfl (hts _ q952) (fun _ h9 => h9) rfl dX2_begins_78 ?_
            refine lv_aload_n hx hb dX2_begins_81 rfl (lv_at hl 0 rfl) ?_
            refine mr_geta hx hb hts hown hK hR 33 (by decide) rfl (hts _ q984) (fun _ h9 => h9) dX2_begins_82 ?_
            refine lv_iload_n hx hb dX2_begins_85 rfl (lv_at hl 1 rfl) ?_
            refine mr_ald (v := (S_49 33 i_49)) hx hb hK hR 33 20 rfl (by decide) rfl (by first | assumption | exact vp_in_nI (show i_49 < 20 by omega) (by decide)) ((congrArg (fun z => S_49 33 z) (nI_clamp (show i_49 < 2 ^ 31 by omega))).trans rfl) dX2_begins_86 ?_
            refine lv_isub hx hb dX2_begins_87 ?_
            refine lv_bipush (v := 90) hx hb dX2_begins_88 (by decide) ?_
            refine lv_icmp_lt (tgt := 97) hx hb dX2_begins_90 (by decide) (fun c_14 => ?_) (fun c_14 => ?_)
            · skip
              refine lv_iconst (v := 0) hx hb dX2_begins_97 (by decide) ?_
              exact hJ_98 _ _ _ 0 (gi_0 ((gi_nb_t c_14).trans (gi_ge_t c_13))) hR hS (lv_sub hl [0, 1] rfl)
            · skip
              refine lv_iconst (v := 1) hx hb dX2_begins_93 (by decide) ?_
              refine lv_goto (tgt := 98) hx hb dX2_begins_94 (by decide) ?_
              exact hJ_98 _ _ _ 1 (gi_1 ((gi_nb_f c_14).trans (gi_ge_t c_13))) hR hS (lv_sub hl [0, 1] rfl)
          · skip
            refine lv_aload_n hx hb dX2_begins_67 rfl (lv_at hl 0 rfl) ?_
            refine mr_geta hx hb hts hown hK hR 32 (by decide) rfl (hts _ q983) (fun _ h9 => h9) dX2_begins_68 ?_
            refine lv_iload_n hx hb dX2_begins_71 rfl (lv_at hl 1 rfl) ?_
            refine mr_ald (v := (S_49 32 i_49)) hx hb hK hR 32 20 rfl (by decide) rfl (by first | assumption | exact vp_in_nI (show i_49 < 20 by omega) (by decide)) ((congrArg (fun z => S_49 32 z) (nI_clamp (show i_49 < 2 ^ 31 by omega))).trans rfl) dX2_begins_72 ?_
            refine lv_iconst (v := 2) hx hb dX2_begins_73 (by decide) ?_
            refine lv_icmp_ne (tgt := 97) hx hb dX2_begins_74 (by decide) (fun c_15 => ?_) (fun c_15 => ?_)
            · skip
              refine lv_iconst (v := 0) hx hb dX2_begins_97 (by decide) ?_
              exact hJ_98 _ _ _ 0 (gi_0 ((gi_ca_f c_15).trans (gi_ge_f c_13))) hR hS (lv_sub hl [0, 1] rfl)
            · skip
              refine lv_aload_n hx hb dX2_begins_77 rfl (lv_at hl 0 rfl) ?_
              refine mr_geti (v := (S_49 1 0)) hx hb hts hown hK hR 1 (by decide) rfl (hts _ q952) (fun _ h9 => h9) rfl dX2_begins_78 ?_
              refine lv_aload_n hx hb dX2_begins_81 rfl (lv_at hl 0 rfl) ?_
              refine mr_geta hx hb hts hown hK hR 33 (by decide) rfl (hts _ q984) (fun _ h9 => h9) dX2_begins_82 ?_
              refine lv_iload_n hx hb dX2_begins_85 rfl (lv_at hl 1 rfl) ?_
              refine mr_ald (v := (S_49 33 i_49)) hx hb hK hR 33 20 rfl (by decide) rfl (by first | assumption | exact vp_in_nI (show i_49 < 20 by omega) (by decide)) ((congrArg (fun z => S_49 33 z) (nI_clamp (show i_49 < 2 ^ 31 by omega))).trans rfl) dX2_begins_86 ?_
              refine lv_isub hx hb dX2_begins_87 ?_
              refine lv_bipush (v := 90) hx hb dX2_begins_88 (by decide) ?_
              refine lv_icmp_lt (tgt := 97) hx hb dX2_begins_90 (by decide) (fun c_16 => ?_) (fun c_16 => ?_)
              · skip
                refine lv_iconst (v := 0) hx hb dX2_begins_97 (by decide) ?_
                exact hJ_98 _ _ _ 0 (gi_0 (((gi_nb_t c_16).trans (gi_ca_t c_15)).trans (gi_ge_f c_13))) hR hS (lv_sub hl [0, 1] rfl)
              · skip
                refine lv_iconst (v := 1) hx hb dX2_begins_93 (by decide) ?_
                refine lv_goto (tgt := 98) hx hb dX2_begins_94 (by decide) ?_
                exact hJ_98 _ _ _ 1 (gi_1 (((gi_nb_f c_16).trans (gi_ca_t c_15)).trans (gi_ge_f c_13))) hR hS (lv_sub hl [0, 1] rfl)
      exact hL_49 ((S 25 0).toNatClampNeg) 0 (mf_begins_R12 ((S 8 0).toNatClampNeg) 0 (gs_up S 1 0 ((S 1 0) + 1))) _ _ _ (by omega) rfl hI_12 hR hS (lv_sub hl [1, 0] rfl)
    | succ n_12 ih_12 =>
      intro i_12 S_12 H locs ls hi_12 hg_12 hI_12 hR hS hl
      have hlt_12 : i_12 < (S 8 0).toNatClampNeg := by omega
      have hf_12 : mf_begins_L12 i_12 S_12 = mf_begins_L12 i_12 S_12 := rfl
      refine lv_iload_n hx hb dX2_begins_12 rfl (lv_at hl 1 rfl) ?_
      refine lv_aload_n hx hb dX2_begins_13 rfl (lv_at hl 0 rfl) ?_
      refine mr_geti (v := (S_12 8 0)) hx hb hts hown hK hR 8 (by decide) rfl (hts _ q959) (fun _ h9 => h9) rfl dX2_begins_14 ?_
      refine lv_icmp_ge (tgt := 47) hx hb dX2_begins_17 (by decide) (fun c_17 => absurd c_17 (lp_x1 (hI_12.2.1.trans (mi_n hok)) hlt_12 (mi_nb hok))) (fun c_17 => ?_)
      refine lv_aload_n hx hb dX2_begins_20 rfl (lv_at hl 0 rfl) ?_
      refine mr_geta hx hb hts hown hK hR 15 (by decide) rfl (hts _ q966) (fun _ h9 => h9) dX2_begins_21 ?_
      refine lv_iload_n hx hb dX2_begins_24 rfl (lv_at hl 1 rfl) ?_
      refine mr_ald (v := (S_12 15 i_12)) hx hb hK hR 15 30 rfl (by decide) rfl (by first | assumption | exact vp_in_nI (show i_12 < 30 by omega) (by decide)) ((congrArg (fun z => S_12 15 z) (nI_clamp (show i_12 < 2 ^ 31 by omega))).trans rfl) dX2_begins_25 ?_
      refine lv_iconst (v := 1) hx hb dX2_begins_26 (by decide) ?_
      refine lv_icmp_ne (tgt := 41) hx hb dX2_begins_27 (by decide) (fun c_18 => ?_) (fun c_18 => ?_)
      · skip
        have hf_12 := (if_neg c_18).symm.trans hf_12
        refine lv_iinc (v := (nI (i_12 + 1))) (lv' := [(1, .int (nI (i_12 + 1))), (0, .ref q)]) hx hb dX2_begins_41 hl (k := 1) rfl (nI_1 i_12) (by decide) rfl (fun ls hl => ?_)
        refine lv_goto (tgt := 12) hx hb dX2_begins_44 (by decide) ?_
        exact ih_12 (i_12 + 1) S_12 _ _ _ (by omega) ((congrArg (fun z => mf_begins_R12 n_12 (i_12 + 1) z) hf_12).trans hg_12) (@Eq.subst _ (fun z => mi_ok z ∧ z 8 0 = (S 8 0) ∧ z 25 0 = (S 25 0)) _ _ (congrArg (fun z => z) hf_12).symm (mi_b12 (show i_12 < 30 by omega) hI_12)) hR hS (lv_sub hl [1, 0] rfl)
      · skip
        have hf_12 := (if_pos c_18).symm.trans hf_12
        refine lv_aload_n hx hb dX2_begins_30 rfl (lv_at hl 0 rfl) ?_
        refine lv_iload_n hx hb dX2_begins_31 rfl (lv_at hl 1 rfl) ?_
        refine lv_aload_n hx hb dX2_begins_32 rfl (lv_at hl 0 rfl) ?_
        refine mr_geta hx hb hts hown hK hR 17 (by decide) rfl (hts _ q968) (fun _ h9 => h9) dX2_begins_33 ?_
        refine lv_iload_n hx hb dX2_begins_36 rfl (lv_at hl 1 rfl) ?_
        refine mr_ald (v := (S_12 17 i_12)) hx hb hK hR 17 30 rfl (by decide) rfl (by first | assumption | exact vp_in_nI (show i_12 < 30 by omega) (by decide)) ((congrArg (fun z => S_12 17 z) (nI_clamp (show i_12 < 2 ^ 31 by omega))).trans rfl) dX2_begins_37 ?_
        refine mr_callv (As := [.int (nI i_12), .int (S_12 17 i_12)]) (rest := []) ⟨hx, hb, hml, hown, hts⟩ (mt_comes l E q ad L S_12 (nI i_12) (S_12 17 i_12)) (cwV 2 hts (lw_V q1121 q1123 qs16 q41 q1124) rfl rfl rfl (by decide +kernel) ⟨Nat.le_of_ble_eq_true rfl, Nat.le_of_ble_eq_true rfl⟩) ⟨hI_12.1, (by first | assumption | exact vp_in_nI (show i_12 < 30 by omega) (by decide))⟩ hK hR (fun _ h => h) hS rfl hl.1 rfl (Nat.le_of_ble_eq_true rfl) dX2_begins_38 ⟨Nat.le_refl _, Nat.le_refl _⟩ (fun H locs hR hS => ?_)
        refine lv_iinc (v := (nI (i_12 + 1))) (lv' := [(1, .int (nI (i_12 + 1))), (0, .ref q)]) hx hb dX2_begins_41 hl (k := 1) rfl (nI_1 i_12) (by decide) rfl (fun ls hl => ?_)
        refine lv_goto (tgt := 12) hx hb dX2_begins_44 (by decide) ?_
        exact ih_12 (i_12 + 1) (mf_comes S_12 (nI i_12) (S_12 17 i_12)) _ _ _ (by omega) ((congrArg (fun z => mf_begins_R12 n_12 (i_12 + 1) z) hf_12).trans hg_12) (@Eq.subst _ (fun z => mi_ok z ∧ z 8 0 = (S 8 0) ∧ z 25 0 = (S 25 0)) _ _ (congrArg (fun z => z) hf_12).symm (mi_b12 (show i_12 < 30 by omega) hI_12)) hR hS (lv_sub hl [1, 0] rfl)
  exact hL_12 ((S 8 0).toNatClampNeg) 0 (gs_up S 1 0 ((S 1 0) + 1)) _ _ _ (by omega) rfl ⟨mi_row (by decide) hok, rfl, rfl⟩ hR hS (lv_sub hl [1, 0] rfl)
set_option maxHeartbeats 2000000 in
set_option maxRecDepth 100000 in
theorem mt_pass (l : Launch) (E : en_T) (q : Nat) (ad : Nat → Nat) (L : List Nat) (S : gs_T) (p1 : Int32) : Met l yX2_pass (ws_ yX2_pass cX2_pass 3 (some .int)) { frames := 2, cells := 0, slots := 0, locals := 46 } (mr_Pc E q ad L S [.int p1] (mi_ok S)) (mr_Qi E q ad L (mf_pass S p1).1 (mf_pass S p1).2) 0 0 (mr_A L) := by
  refine mr_start (by decide) rfl (Nat.le_of_ble_eq_true rfl) ?_
  intro p e s m below meth c ls hx hb hr hlocks hml hown hts hK hP hl hR
  have hl : lv_has ls 3 [(0, .ref q), (1, .int p1)] := hl
  have hS : va_S (mr_A L) s.heap s.heap [] := va_S.rf
  have hok := hP
  have hf : (mf_pass S p1) = (mf_pass S p1) := rfl
  refine lv_aload_n hx hb dX2_pass_0 rfl (lv_at hl 0 rfl) ?_
  refine lv_iload_n hx hb dX2_pass_1 rfl (lv_at hl 1 rfl) ?_
  refine lv_iconst (v := 1) hx hb dX2_pass_2 (by decide) ?_
  refine lv_sipush (v := 400) hx hb dX2_pass_3 (by decide) ?_
  refine ps_calli (As := [.int p1, .int 1, .int 400]) (rest := [.ref q]) ⟨hx, hb, hml, hown, hts⟩ (mt_in l p1 1 400) (va_cwS 3 hts (lw_S q1078 q1079 q41 q1080) rfl rfl rfl (by decide +kernel) ⟨Nat.le_of_ble_eq_true rfl, Nat.le_of_ble_eq_true rfl⟩) trivial hS rfl hl.1 rfl (Nat.le_of_ble_eq_true rfl) dX2_pass_6 ⟨Nat.le_refl _, Nat.le_refl _⟩ (fun H locs hz hk hS => ?_)
  have hR := hR.kept (fun a _ h => hk a h)
  have hJ_33 : ∀ (H : Heap) (locs : List Loc) (ls : Array Slot) (v_33 : Int32), v_33 = (if (mf_in p1 1 400) = true then (if ((S 1 0) + p1) ≤ 9999 then 0 else 2) else 1) → (v_33 = 0 ↔ (((mf_in p1 1 400) = true) ∧ (((S 1 0) + p1) ≤ 9999))) → mr_W E q ad L S H → va_S (mr_A L) s.heap H locs → lv_has ls 3 [(0, .ref q), (1, .int p1)] → mr_G p l e { frames := 2, cells := 0, slots := 0, locals := 46 } s m [.ref q, .int p1] below meth c (mr_A L) (mr_Qi E q ad L (mf_pass S p1).1 (mf_pass S p1).2) H locs (F0 m 33 ls [.int v_33, .ref q]) := by
    intro H locs ls v_33 e_v_33 e0_v_33 hR hS hl
    subst e_v_33
    refine mr_calli (As := [.int (if (mf_in p1 1 400) = true then (if ((S 1 0) + p1) ≤ 9999 then 0 else 2) else 1)]) (rest := []) ⟨hx, hb, hml, hown, hts⟩ (mt_holds l E q ad L S (if (mf_in p1 1 400) = true then (if ((S 1 0) + p1) ≤ 9999 then 0 else 2) else 1)) (cwV 1 hts (lw_V q1081 q1083 qs15 q41 q1084) rfl rfl rfl (by decide +kernel) ⟨Nat.le_of_ble_eq_true rfl, Nat.le_of_ble_eq_true rfl⟩) trivial hK hR (fun _ h => h) hS rfl hl.1 rfl (Nat.le_of_ble_eq_true rfl) dX2_pass_33 ⟨Nat.le_refl _, Nat.le_refl _⟩ (fun H locs hR hS _ _ => ?_)
    refine lv_if_ne (tgt := 41) hx hb dX2_pass_36 (by decide) (fun c_1 => ?_) (fun c_1 => ?_)
    · skip
      have c_1 : ((mf_in p1 1 400) = true) ∧ (((S 1 0) + p1) ≤ 9999) := e0_v_33.mp (gs_zt (φ := (if (mf_in p1 1 400) = true then (if ((S 1 0) + p1) ≤ 9999 then 0 else 2) else 1) = 0) c_1)
      have hf := (if_pos c_1).symm.trans hf
      have c_2 := c_1.1
      have c_3 := c_1.2
      refine lv_iconst (v := 0) hx hb dX2_pass_41 (by decide) ?_
      refine lv_istore_n (lv' := [(2, .int 0), (0, .ref q), (1, .int p1)]) hx hb dX2_pass_42 rfl hl (by decide) rfl (fun ls hl => ?_)
      have hL_43 : ∀ (n_43 i_43 : Nat) (S_43 : gs_T) (H : Heap) (locs : List Loc) (ls : Array Slot), i_43 + n_43 = p1.toNatClampNeg → mf_pass_R43 n_43 i_43 S_43 = (mf_pass_R43 p1.toNatClampNeg 0 (gs_up S 0 0 (if (mf_in p1 1 400) = true then (if ((S 1 0) + p1) ≤ 9999 then 0 else 2) else 1))) → mi_ok S_43 → mr_W E q ad L S_43 H → va_S (mr_A L) s.heap H locs → lv_has ls 3 [(0, .ref q), (1, .int p1), (2, .int (nI i_43))] → mr_G p l e { frames := 2, cells := 0, slots := 0, locals := 46 } s m [.ref q, .int p1] below meth c (mr_A L) (mr_Qi E q ad L (mf_pass S p1).1 (mf_pass S p1).2) H locs (F0 m 43 ls []) := by
        intro n_43
        induction n_43 with
        | zero =>
          intro i_43 S_43 H locs ls hi_43 hg_43 hI_43 hR hS hl
          have hi_43 : i_43 = p1.toNatClampNeg := hi_43
          subst hi_43
          have e_S_43 : S_43 = (mf_pass_R43 p1.toNatClampNeg 0 (gs_up S 0 0 (if (mf_in p1 1 400) = true then (if ((S 1 0) + p1) ≤ 9999 then 0 else 2) else 1))) := congrArg (fun z => z) hg_43
          subst e_S_43
          refine lv_iload_n hx hb dX2_pass_43 rfl (lv_at hl 2 rfl) ?_
          refine lv_iload_n hx hb dX2_pass_44 rfl (lv_at hl 1 rfl) ?_
          refine lv_icmp_ge (tgt := 58) hx hb dX2_pass_45 (by decide) (fun c_4 => ?_) (fun c_4 => absurd (lp_x0 (mi_in_n (by assumption))) c_4)
          refine lv_aload_n hx hb dX2_pass_58 rfl (lv_at hl 0 rfl) ?_
          refine mr_geti (v := ((mf_pass_R43 p1.toNatClampNeg 0 (gs_up S 0 0 (if (mf_in p1 1 400) = true then (if ((S 1 0) + p1) ≤ 9999 then 0 else 2) else 1))) 1 0)) hx hb hts hown hK hR 1 (by decide) rfl (hts _ q952) (fun _ h9 => h9) rfl dX2_pass_59 ?_
          exact W.iret (v := ((mf_pass_R43 p1.toNatClampNeg 0 (gs_up S 0 0 (if (mf_in p1 1 400) = true then (if ((S 1 0) + p1) ≤ 9999 then 0 else 2) else 1))) 1 0)) hx hb hr (fun t ht hW => ⟨⟨_, _, rfl, ⟨(congrArg Prod.fst hf), (congrArg Prod.snd hf)⟩, mr_bt ht hR⟩, hS.F ht⟩) hS.2.2 dX2_pass_62
        | succ n_43 ih_43 =>
          intro i_43 S_43 H locs ls hi_43 hg_43 hI_43 hR hS hl
          have hlt_43 : i_43 < p1.toNatClampNeg := by omega
          have hf_43 : mf_pass_L43 i_43 S_43 = mf_pass_L43 i_43 S_43 := rfl
          refine lv_iload_n hx hb dX2_pass_43 rfl (lv_at hl 2 rfl) ?_
          refine lv_iload_n hx hb dX2_pass_44 rfl (lv_at hl 1 rfl) ?_
          refine lv_icmp_ge (tgt := 58) hx hb dX2_pass_45 (by decide) (fun c_5 => absurd c_5 (lp_x1 (mi_in_n (by assumption)) hlt_43 (mi_clb p1))) (fun c_5 => ?_)
          refine lv_aload_n hx hb dX2_pass_48 rfl (lv_at hl 0 rfl) ?_
          refine mr_callv (As := []) (rest := []) ⟨hx, hb, hml, hown, hts⟩ (mt_begins l E q ad L S_43 ) (cwV 0 hts (lw_V q1233 q1235 qs29 q41 q1236) rfl rfl rfl (by decide +kernel) ⟨Nat.le_of_ble_eq_true rfl, Nat.le_of_ble_eq_true rfl⟩) hI_43 hK hR (fun _ h => h) hS rfl hl.1 rfl (Nat.le_of_ble_eq_true rfl) dX2_pass_49 ⟨Nat.le_refl _, Nat.le_refl _⟩ (fun H locs hR hS => ?_)
          refine lv_iinc (v := (nI (i_43 + 1))) (lv' := [(2, .int (nI (i_43 + 1))), (0, .ref q), (1, .int p1)]) hx hb dX2_pass_52 hl (k := 2) rfl (nI_1 i_43) (by decide) rfl (fun ls hl => ?_)
          refine lv_goto (tgt := 43) hx hb dX2_pass_55 (by decide) ?_
          exact ih_43 (i_43 + 1) (mf_begins S_43) _ _ _ (by omega) ((congrArg (fun z => mf_pass_R43 n_43 (i_43 + 1) z) hf_43).trans hg_43) (@Eq.subst _ (fun z => mi_ok z) _ _ (congrArg (fun z => z) hf_43).symm (mi_begins hI_43)) hR hS (lv_sub hl [1, 2, 0] rfl)
      exact hL_43 p1.toNatClampNeg 0 (gs_up S 0 0 (if (mf_in p1 1 400) = true then (if ((S 1 0) + p1) ≤ 9999 then 0 else 2) else 1)) _ _ _ (by omega) rfl (mi_row (by decide) hok) hR hS (lv_sub hl [1, 2, 0] rfl)
    · skip
      have c_1 : ¬ (((mf_in p1 1 400) = true) ∧ (((S 1 0) + p1) ≤ 9999)) := fun k => gs_zf (φ := (if (mf_in p1 1 400) = true then (if ((S 1 0) + p1) ≤ 9999 then 0 else 2) else 1) = 0) c_1 (e0_v_33.mpr k)
      have hf := (if_neg c_1).symm.trans hf
      refine lv_iconst (v := 0) hx hb dX2_pass_39 (by decide) ?_
      exact W.iret (v := 0) hx hb hr (fun t ht hW => ⟨⟨_, _, rfl, ⟨(congrArg Prod.fst hf), (congrArg Prod.snd hf)⟩, mr_bt ht hR⟩, hS.F ht⟩) hS.2.2 dX2_pass_40
  refine lv_if_ne (tgt := 16) hx hb dX2_pass_9 (by decide) (fun c_6 => ?_) (fun c_6 => ?_)
  · skip
    have c_6 : (mf_in p1 1 400) = true := gs_zt (φ := (mf_in p1 1 400) = true) c_6
    refine lv_aload_n hx hb dX2_pass_16 rfl (lv_at hl 0 rfl) ?_
    refine mr_geti (v := (S 1 0)) hx hb hts hown hK hR 1 (by decide) rfl (hts _ q952) (fun _ h9 => h9) rfl dX2_pass_17 ?_
    refine lv_iload_n hx hb dX2_pass_20 rfl (lv_at hl 1 rfl) ?_
    refine lv_iadd hx hb dX2_pass_21 ?_
    refine lv_sipush (v := 9999) hx hb dX2_pass_22 (by decide) ?_
    refine lv_icmp_le (tgt := 32) hx hb dX2_pass_25 (by decide) (fun c_7 => ?_) (fun c_7 => ?_)
    · skip
      refine lv_iconst (v := 0) hx hb dX2_pass_32 (by decide) ?_
      exact hJ_33 _ _ _ 0 (((if_pos c_7).symm).trans (if_pos c_6).symm) (gi_z1 ((gi_cb_t c_7).trans (gi_ca_t c_6))) hR hS (lv_sub hl [0, 1] rfl)
    · skip
      refine lv_iconst (v := 2) hx hb dX2_pass_28 (by decide) ?_
      refine lv_goto (tgt := 33) hx hb dX2_pass_29 (by decide) ?_
      exact hJ_33 _ _ _ 2 (((if_neg c_7).symm).trans (if_pos c_6).symm) (gi_z0 (by decide) ((gi_cb_f c_7).trans (gi_ca_t c_6))) hR hS (lv_sub hl [0, 1] rfl)
  · skip
    have c_6 : ¬ ((mf_in p1 1 400) = true) := gs_zf (φ := (mf_in p1 1 400) = true) c_6
    refine lv_iconst (v := 1) hx hb dX2_pass_12 (by decide) ?_
    refine lv_goto (tgt := 33) hx hb dX2_pass_13 (by decide) ?_
    exact hJ_33 _ _ _ 1 ((if_neg c_6).symm) (gi_z0 (by decide) (gi_ca_f c_6)) hR hS (lv_sub hl [0, 1] rfl)
set_option maxHeartbeats 2000000 in
set_option maxRecDepth 100000 in
theorem mt_today (l : Launch) (E : en_T) (q : Nat) (ad : Nat → Nat) (L : List Nat) (S : gs_T) : Met l yX2_today (ws_ yX2_today cX2_today 1 (some .int)) { frames := 0, cells := 0, slots := 0, locals := 0 } (mr_Pc E q ad L S [] (True)) (mr_Qi E q ad L (mf_today S ).1 (mf_today S ).2) 0 0 (mr_A L) := by
  refine mr_start (by decide) rfl (Nat.le_of_ble_eq_true rfl) ?_
  intro p e s m below meth c ls hx hb hr hlocks hml hown hts hK hP hl hR
  have hl : lv_has ls 1 [(0, .ref q)] := hl
  have hS : va_S (mr_A L) s.heap s.heap [] := va_S.rf
  have hf : (mf_today S ) = (mf_today S ) := rfl
  refine lv_aload_n hx hb dX2_today_0 rfl (lv_at hl 0 rfl) ?_
  refine lv_iconst (v := 0) hx hb dX2_today_1 (by decide) ?_
  refine mr_puti hx hb hts hown hK hR hS 0 (by decide) rfl (hts _ q951) (fun _ h9 => h9) dX2_today_2 (fun H locs hR hS => ?_)
  refine lv_aload_n hx hb dX2_today_5 rfl (lv_at hl 0 rfl) ?_
  refine mr_geti (v := (S 1 0)) hx hb hts hown hK hR 1 (by decide) rfl (hts _ q952) (fun _ h9 => h9) (congrFun (gs_sk rfl) 0) dX2_today_6 ?_
  exact W.iret (v := (S 1 0)) hx hb hr (fun t ht hW => ⟨⟨_, _, rfl, ⟨(congrArg Prod.fst hf), (congrArg Prod.snd hf)⟩, mr_bt ht hR⟩, hS.F ht⟩) hS.2.2 dX2_today_9
set_option maxHeartbeats 2000000 in
set_option maxRecDepth 100000 in
theorem mt_fit (l : Launch) (E : en_T) (q : Nat) (ad : Nat → Nat) (L : List Nat) (S : gs_T) (p1 : Int32) (p2 : Int32) : Met l yX2_fit (ws_ yX2_fit cX2_fit 3 (some .int)) { frames := 2, cells := 0, slots := 0, locals := 51 } (mr_Pc E q ad L S [.int p1, .int p2] (mi_ok S)) (mr_Qi E q ad L (mf_fit S p1 p2).1 (mf_fit S p1 p2).2) 0 0 (mr_A L) := by
  refine mr_start (by decide) rfl (Nat.le_of_ble_eq_true rfl) ?_
  intro p e s m below meth c ls hx hb hr hlocks hml hown hts hK hP hl hR
  have hl : lv_has ls 3 [(0, .ref q), (1, .int p1), (2, .int p2)] := hl
  have hS : va_S (mr_A L) s.heap s.heap [] := va_S.rf
  have hok := hP
  have hf : (mf_fit S p1 p2) = (mf_fit S p1 p2) := rfl
  refine lv_aload_n hx hb dX2_fit_0 rfl (lv_at hl 0 rfl) ?_
  refine lv_aload_n hx hb dX2_fit_1 rfl (lv_at hl 0 rfl) ?_
  refine lv_iload_n hx hb dX2_fit_2 rfl (lv_at hl 1 rfl) ?_
  refine mr_calli (As := [.int p1]) (rest := [.ref q]) ⟨hx, hb, hml, hown, hts⟩ (mt_isFind l E q ad L S p1) (cwV 1 hts (lw_V q1129 q1131 qs17 q41 q1132) rfl rfl rfl (by decide +kernel) ⟨Nat.le_of_ble_eq_true rfl, Nat.le_of_ble_eq_true rfl⟩) trivial hK hR (fun _ h => h) hS rfl hl.1 rfl (Nat.le_of_ble_eq_true rfl) dX2_fit_3 ⟨Nat.le_refl _, Nat.le_refl _⟩ (fun H locs hR hS _ _ => ?_)
  have hJ_22 : ∀ (H : Heap) (locs : List Loc) (ls : Array Slot) (v_22 : Int32), v_22 = (if (¬ ((mf_isFind S p1) = true)) ∨ (¬ ((mf_isClaim S p2) = true)) then 1 else 0) → mr_W E q ad L S H → va_S (mr_A L) s.heap H locs → lv_has ls 3 [(0, .ref q), (1, .int p1), (2, .int p2)] → mr_G p l e { frames := 2, cells := 0, slots := 0, locals := 51 } s m [.ref q, .int p1, .int p2] below meth c (mr_A L) (mr_Qi E q ad L (mf_fit S p1 p2).1 (mf_fit S p1 p2).2) H locs (F0 m 22 ls [.int v_22, .ref q]) := by
    intro H locs ls v_22 e_v_22 hR hS hl
    subst e_v_22
    refine mr_calli (As := [.int (if (¬ ((mf_isFind S p1) = true)) ∨ (¬ ((mf_isClaim S p2) = true)) then 1 else 0)]) (rest := []) ⟨hx, hb, hml, hown, hts⟩ (mt_holds l E q ad L S (if (¬ ((mf_isFind S p1) = true)) ∨ (¬ ((mf_isClaim S p2) = true)) then 1 else 0)) (cwV 1 hts (lw_V q1081 q1083 qs15 q41 q1084) rfl rfl rfl (by decide +kernel) ⟨Nat.le_of_ble_eq_true rfl, Nat.le_of_ble_eq_true rfl⟩) trivial hK hR (fun _ h => h) hS rfl hl.1 rfl (Nat.le_of_ble_eq_true rfl) dX2_fit_22 ⟨Nat.le_refl _, Nat.le_refl _⟩ (fun H locs hR hS _ _ => ?_)
    have hJ_38 : ∀ (H : Heap) (locs : List Loc) (ls : Array Slot) (v_38 : Int32), v_38 = (if ¬ ((¬ ((mf_isFind S p1) = true)) ∨ (¬ ((mf_isClaim S p2) = true))) then (mf_scoreOf (gs_up S 0 0 (if (¬ ((mf_isFind S p1) = true)) ∨ (¬ ((mf_isClaim S p2) = true)) then 1 else 0)) p1 p2) else 0) → mr_W E q ad L (gs_up S 0 0 (if (¬ ((mf_isFind S p1) = true)) ∨ (¬ ((mf_isClaim S p2) = true)) then 1 else 0)) H → va_S (mr_A L) s.heap H locs → lv_has ls 3 [] → mr_G p l e { frames := 2, cells := 0, slots := 0, locals := 51 } s m [.ref q, .int p1, .int p2] below meth c (mr_A L) (mr_Qi E q ad L (mf_fit S p1 p2).1 (mf_fit S p1 p2).2) H locs (F0 m 38 ls [.int v_38]) := by
      intro H locs ls v_38 e_v_38 hR hS hl
      subst e_v_38
      exact W.iret (v := (if ¬ ((¬ ((mf_isFind S p1) = true)) ∨ (¬ ((mf_isClaim S p2) = true))) then (mf_scoreOf (gs_up S 0 0 (if (¬ ((mf_isFind S p1) = true)) ∨ (¬ ((mf_isClaim S p2) = true)) then 1 else 0)) p1 p2) else 0)) hx hb hr (fun t ht hW => ⟨⟨_, _, rfl, ⟨(congrArg Prod.fst hf), (congrArg Prod.snd hf)⟩, mr_bt ht hR⟩, hS.F ht⟩) hS.2.2 dX2_fit_38
    refine lv_if_eq (tgt := 37) hx hb dX2_fit_25 (by decide) (fun c_1 => ?_) (fun c_1 => ?_)
    · skip
      have c_1 : ¬ (¬ ((¬ ((mf_isFind S p1) = true)) ∨ (¬ ((mf_isClaim S p2) = true)))) := fun k => gs_zf (φ := (if (¬ ((mf_isFind S p1) = true)) ∨ (¬ ((mf_isClaim S p2) = true)) then 1 else 0) = 0) c_1 ((gi_bz (φ := (¬ ((mf_isFind S p1) = true)) ∨ (¬ ((mf_isClaim S p2) = true)))).mpr k)
      have c_2 := Decidable.not_not.mp c_1
      refine lv_iconst (v := 0) hx hb dX2_fit_37 (by decide) ?_
      exact hJ_38 _ _ _ 0 ((if_neg c_1).symm) hR hS (lv_sub hl [] rfl)
    · skip
      have c_1 : ¬ ((¬ ((mf_isFind S p1) = true)) ∨ (¬ ((mf_isClaim S p2) = true))) := (gi_bz (φ := (¬ ((mf_isFind S p1) = true)) ∨ (¬ ((mf_isClaim S p2) = true)))).mp (gs_zt (φ := (if (¬ ((mf_isFind S p1) = true)) ∨ (¬ ((mf_isClaim S p2) = true)) then 1 else 0) = 0) c_1)
      have c_3 := (not_or.mp c_1).1
      have c_4 := (not_or.mp c_1).2
      have c_5 := Decidable.not_not.mp c_3
      have c_6 := Decidable.not_not.mp c_4
      refine lv_aload_n hx hb dX2_fit_28 rfl (lv_at hl 0 rfl) ?_
      refine lv_iload_n hx hb dX2_fit_29 rfl (lv_at hl 1 rfl) ?_
      refine lv_iload_n hx hb dX2_fit_30 rfl (lv_at hl 2 rfl) ?_
      refine mr_calli (As := [.int p1, .int p2]) (rest := []) ⟨hx, hb, hml, hown, hts⟩ (mt_scoreOf l E q ad L (gs_up S 0 0 (if (¬ ((mf_isFind S p1) = true)) ∨ (¬ ((mf_isClaim S p2) = true)) then 1 else 0)) p1 p2) (cwV 2 hts (lw_V q1193 q1195 qs24 q41 q1196) rfl rfl rfl (by decide +kernel) ⟨Nat.le_of_ble_eq_true rfl, Nat.le_of_ble_eq_true rfl⟩) ⟨(mi_row (k := 0) (by decide) hok), (by first | assumption | exact mi_f hok (by assumption)), (by first | assumption | exact mi_c hok (by assumption))⟩ hK hR (fun _ h => h) hS rfl hl.1 rfl (Nat.le_of_ble_eq_true rfl) dX2_fit_31 ⟨Nat.le_refl _, Nat.le_refl _⟩ (fun H locs hR hS _ _ => ?_)
      refine lv_goto (tgt := 38) hx hb dX2_fit_34 (by decide) ?_
      exact hJ_38 _ _ _ (mf_scoreOf (gs_up S 0 0 (if (¬ ((mf_isFind S p1) = true)) ∨ (¬ ((mf_isClaim S p2) = true)) then 1 else 0)) p1 p2) ((if_pos c_1).symm) hR hS (lv_sub hl [] rfl)
  refine lv_if_eq (tgt := 21) hx hb dX2_fit_6 (by decide) (fun c_7 => ?_) (fun c_7 => ?_)
  · skip
    have c_7 : ¬ ((mf_isFind S p1) = true) := gs_zf (φ := (mf_isFind S p1) = true) c_7
    refine lv_iconst (v := 1) hx hb dX2_fit_21 (by decide) ?_
    exact hJ_22 _ _ _ 1 (gi_1 (gi_no_f c_7)) hR hS (lv_sub hl [0, 1, 2] rfl)
  · skip
    have c_7 : (mf_isFind S p1) = true := gs_zt (φ := (mf_isFind S p1) = true) c_7
    refine lv_aload_n hx hb dX2_fit_9 rfl (lv_at hl 0 rfl) ?_
    refine lv_iload_n hx hb dX2_fit_10 rfl (lv_at hl 2 rfl) ?_
    refine mr_calli (As := [.int p2]) (rest := [.ref q]) ⟨hx, hb, hml, hown, hts⟩ (mt_isClaim l E q ad L S p2) (cwV 1 hts (lw_V q1165 q1167 qs20 q41 q1168) rfl rfl rfl (by decide +kernel) ⟨Nat.le_of_ble_eq_true rfl, Nat.le_of_ble_eq_true rfl⟩) trivial hK hR (fun _ h => h) hS rfl hl.1 rfl (Nat.le_of_ble_eq_true rfl) dX2_fit_11 ⟨Nat.le_refl _, Nat.le_refl _⟩ (fun H locs hR hS _ _ => ?_)
    refine lv_if_eq (tgt := 21) hx hb dX2_fit_14 (by decide) (fun c_8 => ?_) (fun c_8 => ?_)
    · skip
      have c_8 : ¬ ((mf_isClaim S p2) = true) := gs_zf (φ := (mf_isClaim S p2) = true) c_8
      refine lv_iconst (v := 1) hx hb dX2_fit_21 (by decide) ?_
      exact hJ_22 _ _ _ 1 (gi_1 ((gi_nb_f c_8).trans (gi_no_t c_7))) hR hS (lv_sub hl [0, 1, 2] rfl)
    · skip
      have c_8 : (mf_isClaim S p2) = true := gs_zt (φ := (mf_isClaim S p2) = true) c_8
      refine lv_iconst (v := 0) hx hb dX2_fit_17 (by decide) ?_
      refine lv_goto (tgt := 22) hx hb dX2_fit_18 (by decide) ?_
      exact hJ_22 _ _ _ 0 (gi_0 ((gi_nb_t c_8).trans (gi_no_t c_7))) hR hS (lv_sub hl [0, 1, 2] rfl)
set_option maxHeartbeats 2000000 in
set_option maxRecDepth 100000 in
theorem mt_isAsked (l : Launch) (E : en_T) (q : Nat) (ad : Nat → Nat) (L : List Nat) (S : gs_T) (p1 : Int32) (p2 : Int32) : Met l yX2_isAsked (ws_ yX2_isAsked cX2_isAsked 3 (some .boolean)) { frames := 3, cells := 0, slots := 0, locals := 73 } (mr_Pc E q ad L S [.int p1, .int p2] (mi_ok S ∧ vp_in p1 30 ∧ vp_in p2 20)) (mr_Qi E q ad L (gs_bz (mf_isAsked S p1 p2)) S) 0 0 (mr_A L) := by
  refine mr_start (by decide) rfl (Nat.le_of_ble_eq_true rfl) ?_
  intro p e s m below meth c ls hx hb hr hlocks hml hown hts hK hP hl hR
  have hl : lv_has ls 3 [(0, .ref q), (1, .int p1), (2, .int p2)] := hl
  have hS : va_S (mr_A L) s.heap s.heap [] := va_S.rf
  obtain ⟨hok, h_p1, h_p2⟩ := hP
  have hf : (mf_isAsked S p1 p2) = (mf_isAsked S p1 p2) := rfl
  refine lv_aload_n hx hb dX2_isAsked_0 rfl (lv_at hl 0 rfl) ?_
  refine lv_iload_n hx hb dX2_isAsked_1 rfl (lv_at hl 1 rfl) ?_
  refine mr_calli (As := [.int p1]) (rest := []) ⟨hx, hb, hml, hown, hts⟩ (mt_isHere l E q ad L S p1) (cwV 1 hts (lw_V q1149 q1151 qs18 q41 q1152) rfl rfl rfl (by decide +kernel) ⟨Nat.le_of_ble_eq_true rfl, Nat.le_of_ble_eq_true rfl⟩) (by first | assumption | exact mi_f hok (by assumption)) hK hR (fun _ h => h) hS rfl hl.1 rfl (Nat.le_of_ble_eq_true rfl) dX2_isAsked_2 ⟨Nat.le_refl _, Nat.le_refl _⟩ (fun H locs hR hS _ _ => ?_)
  have hJ_22 : ∀ (H : Heap) (locs : List Loc) (ls : Array Slot) (v_22 : Int32), v_22 = (if ((mf_isHere S p1) = true) ∧ ((mf_isCandidate S p1 p2) = true) then 1 else 0) → mr_W E q ad L S H → va_S (mr_A L) s.heap H locs → lv_has ls 3 [] → mr_G p l e { frames := 3, cells := 0, slots := 0, locals := 73 } s m [.ref q, .int p1, .int p2] below meth c (mr_A L) (mr_Qi E q ad L (gs_bz (mf_isAsked S p1 p2)) S) H locs (F0 m 22 ls [.int v_22]) := by
    intro H locs ls v_22 e_v_22 hR hS hl
    subst e_v_22
    exact W.zret (v := (if ((mf_isHere S p1) = true) ∧ ((mf_isCandidate S p1 p2) = true) then 1 else 0)) hx hb hr gs_nar (fun t ht hW => ⟨⟨_, _, rfl, ⟨(gs_bz_dec.trans (congrArg gs_bz hf)), rfl⟩, mr_bt ht hR⟩, hS.F ht⟩) hS.2.2 dX2_isAsked_22
  refine lv_if_eq (tgt := 21) hx hb dX2_isAsked_5 (by decide) (fun c_1 => ?_) (fun c_1 => ?_)
  · skip
    have c_1 : ¬ ((mf_isHere S p1) = true) := gs_zf (φ := (mf_isHere S p1) = true) c_1
    refine lv_iconst (v := 0) hx hb dX2_isAsked_21 (by decide) ?_
    exact hJ_22 _ _ _ 0 (gi_0 (gi_ca_f c_1)) hR hS (lv_sub hl [] rfl)
  · skip
    have c_1 : (mf_isHere S p1) = true := gs_zt (φ := (mf_isHere S p1) = true) c_1
    refine lv_aload_n hx hb dX2_isAsked_8 rfl (lv_at hl 0 rfl) ?_
    refine lv_iload_n hx hb dX2_isAsked_9 rfl (lv_at hl 1 rfl) ?_
    refine lv_iload_n hx hb dX2_isAsked_10 rfl (lv_at hl 2 rfl) ?_
    refine mr_calli (As := [.int p1, .int p2]) (rest := []) ⟨hx, hb, hml, hown, hts⟩ (mt_isCandidate l E q ad L S p1 p2) (cwV 2 hts (lw_V q1189 q1191 qs23 q41 q1192) rfl rfl rfl (by decide +kernel) ⟨Nat.le_of_ble_eq_true rfl, Nat.le_of_ble_eq_true rfl⟩) ⟨hok, (by first | assumption | exact mi_f hok (by assumption)), (by first | assumption | exact mi_c hok (by assumption))⟩ hK hR (fun _ h => h) hS rfl hl.1 rfl (Nat.le_of_ble_eq_true rfl) dX2_isAsked_11 ⟨Nat.le_refl _, Nat.le_refl _⟩ (fun H locs hR hS _ _ => ?_)
    refine lv_if_eq (tgt := 21) hx hb dX2_isAsked_14 (by decide) (fun c_2 => ?_) (fun c_2 => ?_)
    · skip
      have c_2 : ¬ ((mf_isCandidate S p1 p2) = true) := gs_zf (φ := (mf_isCandidate S p1 p2) = true) c_2
      refine lv_iconst (v := 0) hx hb dX2_isAsked_21 (by decide) ?_
      exact hJ_22 _ _ _ 0 (gi_0 ((gi_cb_f c_2).trans (gi_ca_t c_1))) hR hS (lv_sub hl [] rfl)
    · skip
      have c_2 : (mf_isCandidate S p1 p2) = true := gs_zt (φ := (mf_isCandidate S p1 p2) = true) c_2
      refine lv_iconst (v := 1) hx hb dX2_isAsked_17 (by decide) ?_
      refine lv_goto (tgt := 22) hx hb dX2_isAsked_18 (by decide) ?_
      exact hJ_22 _ _ _ 1 (gi_1 ((gi_cb_t c_2).trans (gi_ca_t c_1))) hR hS (lv_sub hl [] rfl)
set_option maxHeartbeats 2000000 in
set_option maxRecDepth 100000 in
theorem mt_aheadOf (l : Launch) (E : en_T) (q : Nat) (ad : Nat → Nat) (L : List Nat) (S : gs_T) (p1 : Int32) (p2 : Int32) : Met l yX2_aheadOf (ws_ yX2_aheadOf cX2_aheadOf 7 (some .int)) { frames := 4, cells := 0, slots := 0, locals := 95 } (mr_Pc E q ad L S [.int p1, .int p2] (mi_ok S ∧ vp_in p1 30 ∧ vp_in p2 20)) (mr_Qi E q ad L (mf_aheadOf S p1 p2) S) 0 0 (mr_A L) := by
  refine mr_start (by decide) rfl (Nat.le_of_ble_eq_true rfl) ?_
  intro p e s m below meth c ls hx hb hr hlocks hml hown hts hK hP hl hR
  have hl : lv_has ls 7 [(0, .ref q), (1, .int p1), (2, .int p2)] := hl
  have hS : va_S (mr_A L) s.heap s.heap [] := va_S.rf
  obtain ⟨hok, h_p1, h_p2⟩ := hP
  have hf : (mf_aheadOf S p1 p2) = (mf_aheadOf S p1 p2) := rfl
  have hnf := mi_n30 hok
  refine lv_aload_n hx hb dX2_aheadOf_0 rfl (lv_at hl 0 rfl) ?_
  refine lv_iload_n hx hb dX2_aheadOf_1 rfl (lv_at hl 1 rfl) ?_
  refine lv_iload_n hx hb dX2_aheadOf_2 rfl (lv_at hl 2 rfl) ?_
  refine mr_calli (As := [.int p1, .int p2]) (rest := []) ⟨hx, hb, hml, hown, hts⟩ (mt_scoreOf l E q ad L S p1 p2) (cwV 2 hts (lw_V q1193 q1195 qs24 q41 q1196) rfl rfl rfl (by decide +kernel) ⟨Nat.le_of_ble_eq_true rfl, Nat.le_of_ble_eq_true rfl⟩) ⟨hok, (by first | assumption | exact mi_f hok (by assumption)), (by first | assumption | exact mi_c hok (by assumption))⟩ hK hR (fun _ h => h) hS rfl hl.1 rfl (Nat.le_of_ble_eq_true rfl) dX2_aheadOf_3 ⟨Nat.le_refl _, Nat.le_refl _⟩ (fun H locs hR hS _ _ => ?_)
  refine lv_istore_n (lv' := [(3, .int (mf_scoreOf S p1 p2)), (0, .ref q), (1, .int p1), (2, .int p2)]) hx hb dX2_aheadOf_6 rfl hl (by decide) rfl (fun ls hl => ?_)
  refine lv_iconst (v := 0) hx hb dX2_aheadOf_7 (by decide) ?_
  refine lv_istore (lv' := [(4, .int 0), (3, .int (mf_scoreOf S p1 p2)), (0, .ref q), (1, .int p1), (2, .int p2)]) hx hb dX2_aheadOf_8 hl (by decide) rfl (fun ls hl => ?_)
  refine lv_iconst (v := 0) hx hb dX2_aheadOf_10 (by decide) ?_
  refine lv_istore (lv' := [(5, .int 0), (4, .int 0), (3, .int (mf_scoreOf S p1 p2)), (0, .ref q), (1, .int p1), (2, .int p2)]) hx hb dX2_aheadOf_11 hl (by decide) rfl (fun ls hl => ?_)
  have hL_13 : ∀ (n_13 i_13 : Nat) (x4_13 : Int32) (H : Heap) (locs : List Loc) (ls : Array Slot), i_13 + n_13 = (S 8 0).toNatClampNeg → mf_aheadOf_R13 S p1 p2 n_13 i_13 x4_13 = (mf_aheadOf_R13 S p1 p2 ((S 8 0).toNatClampNeg) 0 0) → mr_W E q ad L S H → va_S (mr_A L) s.heap H locs → lv_has ls 7 [(0, .ref q), (1, .int p1), (2, .int p2), (3, .int (mf_scoreOf S p1 p2)), (4, .int x4_13), (5, .int (nI i_13))] → mr_G p l e { frames := 4, cells := 0, slots := 0, locals := 95 } s m [.ref q, .int p1, .int p2] below meth c (mr_A L) (mr_Qi E q ad L (mf_aheadOf S p1 p2) S) H locs (F0 m 13 ls []) := by
    intro n_13
    induction n_13 with
    | zero =>
      intro i_13 x4_13 H locs ls hi_13 hg_13 hR hS hl
      have hi_13 : i_13 = (S 8 0).toNatClampNeg := hi_13
      subst hi_13
      have e_x4_13 : x4_13 = (mf_aheadOf_R13 S p1 p2 ((S 8 0).toNatClampNeg) 0 0) := congrArg (fun z => z) hg_13
      subst e_x4_13
      refine lv_iload hx hb dX2_aheadOf_13 (lv_at hl 5 rfl) ?_
      refine lv_aload_n hx hb dX2_aheadOf_15 rfl (lv_at hl 0 rfl) ?_
      refine mr_geti (v := (S 8 0)) hx hb hts hown hK hR 8 (by decide) rfl (hts _ q959) (fun _ h9 => h9) rfl dX2_aheadOf_16 ?_
      refine lv_icmp_ge (tgt := 79) hx hb dX2_aheadOf_19 (by decide) (fun c_1 => ?_) (fun c_1 => absurd (lp_x0 (mi_n hok)) c_1)
      refine lv_iload hx hb dX2_aheadOf_79 (lv_at hl 4 rfl) ?_
      exact W.iret (v := (mf_aheadOf_R13 S p1 p2 ((S 8 0).toNatClampNeg) 0 0)) hx hb hr (fun t ht hW => ⟨⟨_, _, rfl, ⟨hf, rfl⟩, mr_bt ht hR⟩, hS.F ht⟩) hS.2.2 dX2_aheadOf_81
    | succ n_13 ih_13 =>
      intro i_13 x4_13 H locs ls hi_13 hg_13 hR hS hl
      have hlt_13 : i_13 < (S 8 0).toNatClampNeg := by omega
      have hf_13 : mf_aheadOf_L13 S p1 p2 i_13 x4_13 = mf_aheadOf_L13 S p1 p2 i_13 x4_13 := rfl
      refine lv_iload hx hb dX2_aheadOf_13 (lv_at hl 5 rfl) ?_
      refine lv_aload_n hx hb dX2_aheadOf_15 rfl (lv_at hl 0 rfl) ?_
      refine mr_geti (v := (S 8 0)) hx hb hts hown hK hR 8 (by decide) rfl (hts _ q959) (fun _ h9 => h9) rfl dX2_aheadOf_16 ?_
      refine lv_icmp_ge (tgt := 79) hx hb dX2_aheadOf_19 (by decide) (fun c_2 => absurd c_2 (lp_x1 (mi_n hok) hlt_13 (mi_nb hok))) (fun c_2 => ?_)
      refine lv_aload_n hx hb dX2_aheadOf_22 rfl (lv_at hl 0 rfl) ?_
      refine lv_iload hx hb dX2_aheadOf_23 (lv_at hl 5 rfl) ?_
      refine lv_iload_n hx hb dX2_aheadOf_25 rfl (lv_at hl 2 rfl) ?_
      refine mr_calli (As := [.int (nI i_13), .int p2]) (rest := []) ⟨hx, hb, hml, hown, hts⟩ (mt_isAsked l E q ad L S (nI i_13) p2) (cwV 2 hts (lw_V q1249 q1251 qs30 q41 q1252) rfl rfl rfl (by decide +kernel) ⟨Nat.le_of_ble_eq_true rfl, Nat.le_of_ble_eq_true rfl⟩) ⟨hok, (by first | assumption | exact vp_in_nI (show i_13 < 30 by omega) (by decide)), (by first | assumption | exact mi_c hok (by assumption))⟩ hK hR (fun _ h => h) hS rfl hl.1 rfl (Nat.le_of_ble_eq_true rfl) dX2_aheadOf_26 ⟨Nat.le_refl _, Nat.le_refl _⟩ (fun H locs hR hS _ _ => ?_)
      have hJ_45 : ∀ (H : Heap) (locs : List Loc) (ls : Array Slot) (v_45 : Int32), v_45 = (if (mf_isAsked S (nI i_13) p2) = true then ((mf_scoreOf S (nI i_13) p2) - (mf_scoreOf S p1 p2)) else (-1)) → mr_W E q ad L S H → va_S (mr_A L) s.heap H locs → lv_has ls 7 [(0, .ref q), (1, .int p1), (2, .int p2), (3, .int (mf_scoreOf S p1 p2)), (4, .int x4_13), (5, .int (nI i_13))] → mr_G p l e { frames := 4, cells := 0, slots := 0, locals := 95 } s m [.ref q, .int p1, .int p2] below meth c (mr_A L) (mr_Qi E q ad L (mf_aheadOf S p1 p2) S) H locs (F0 m 45 ls [.int v_45]) := by
        intro H locs ls v_45 e_v_45 hR hS hl
        subst e_v_45
        refine lv_istore (lv' := [(6, .int (if (mf_isAsked S (nI i_13) p2) = true then ((mf_scoreOf S (nI i_13) p2) - (mf_scoreOf S p1 p2)) else (-1))), (0, .ref q), (1, .int p1), (2, .int p2), (3, .int (mf_scoreOf S p1 p2)), (4, .int x4_13), (5, .int (nI i_13))]) hx hb dX2_aheadOf_45 hl (by decide) rfl (fun ls hl => ?_)
        refine lv_iload hx hb dX2_aheadOf_47 (lv_at hl 5 rfl) ?_
        refine lv_iload hx hb dX2_aheadOf_49 (lv_at hl 0 rfl) ?_
        have hJ_70 : ∀ (H : Heap) (locs : List Loc) (ls : Array Slot) (v_70 : Int32), v_70 = (if (0 < (if (mf_isAsked S (nI i_13) p2) = true then ((mf_scoreOf S (nI i_13) p2) - (mf_scoreOf S p1 p2)) else (-1))) ∨ (((if (mf_isAsked S (nI i_13) p2) = true then ((mf_scoreOf S (nI i_13) p2) - (mf_scoreOf S p1 p2)) else (-1)) = 0) ∧ (¬ (p1 ≤ (nI i_13)))) then 1 else 0) → mr_W E q ad L S H → va_S (mr_A L) s.heap H locs → lv_has ls 7 [(0, .ref q), (1, .int p1), (2, .int p2), (3, .int (mf_scoreOf S p1 p2)), (5, .int (nI i_13))] → mr_G p l e { frames := 4, cells := 0, slots := 0, locals := 95 } s m [.ref q, .int p1, .int p2] below meth c (mr_A L) (mr_Qi E q ad L (mf_aheadOf S p1 p2) S) H locs (F0 m 70 ls [.int v_70, .int x4_13]) := by
          intro H locs ls v_70 e_v_70 hR hS hl
          subst e_v_70
          refine lv_iadd hx hb dX2_aheadOf_70 ?_
          refine lv_istore (lv' := [(4, .int (x4_13 + (if (0 < (if (mf_isAsked S (nI i_13) p2) = true then ((mf_scoreOf S (nI i_13) p2) - (mf_scoreOf S p1 p2)) else (-1))) ∨ (((if (mf_isAsked S (nI i_13) p2) = true then ((mf_scoreOf S (nI i_13) p2) - (mf_scoreOf S p1 p2)) else (-1)) = 0) ∧ (¬ (p1 ≤ (nI i_13)))) then 1 else 0))), (0, .ref q), (1, .int p1), (2, .int p2), (3, .int (mf_scoreOf S p1 p2)), (5, .int (nI i_13))]) hx hb dX2_aheadOf_71 hl (by decide) rfl (fun ls hl => ?_)
          refine lv_iinc (v := (nI (i_13 + 1))) (lv' := [(5, .int (nI (i_13 + 1))), (4, .int (x4_13 + (if (0 < (if (mf_isAsked S (nI i_13) p2) = true then ((mf_scoreOf S (nI i_13) p2) - (mf_scoreOf S p1 p2)) else (-1))) ∨ (((if (mf_isAsked S (nI i_13) p2) = true then ((mf_scoreOf S (nI i_13) p2) - (mf_scoreOf S p1 p2)) else (-1)) = 0) ∧ (¬ (p1 ≤ (nI i_13)))) then 1 else 0))), (0, .ref q), (1, .int p1), (2, .int p2), (3, .int (mf_scoreOf S p1 p2))]) hx hb dX2_aheadOf_73 hl (k := 5) rfl (nI_1 i_13) (by decide) rfl (fun ls hl => ?_)
          refine lv_goto (tgt := 13) hx hb dX2_aheadOf_76 (by decide) ?_
          exact ih_13 (i_13 + 1) (x4_13 + (if (0 < (if (mf_isAsked S (nI i_13) p2) = true then ((mf_scoreOf S (nI i_13) p2) - (mf_scoreOf S p1 p2)) else (-1))) ∨ (((if (mf_isAsked S (nI i_13) p2) = true then ((mf_scoreOf S (nI i_13) p2) - (mf_scoreOf S p1 p2)) else (-1)) = 0) ∧ (¬ (p1 ≤ (nI i_13)))) then 1 else 0)) _ _ _ (by omega) ((congrArg (fun z => mf_aheadOf_R13 S p1 p2 n_13 (i_13 + 1) z) hf_13).trans hg_13) hR hS (lv_sub hl [2, 3, 4, 5, 1, 0] rfl)
        refine lv_if_gt (tgt := 65) hx hb dX2_aheadOf_51 (by decide) (fun c_3 => ?_) (fun c_3 => ?_)
        · skip
          refine lv_iconst (v := 1) hx hb dX2_aheadOf_65 (by decide) ?_
          refine lv_goto (tgt := 70) hx hb dX2_aheadOf_66 (by decide) ?_
          exact hJ_70 _ _ _ 1 (gi_1 (gi_co_t c_3)) hR hS (lv_sub hl [1, 2, 3, 4, 6] rfl)
        · skip
          refine lv_iload hx hb dX2_aheadOf_54 (lv_at hl 0 rfl) ?_
          refine lv_if_ne (tgt := 69) hx hb dX2_aheadOf_56 (by decide) (fun c_4 => ?_) (fun c_4 => ?_)
          · skip
            refine lv_iconst (v := 0) hx hb dX2_aheadOf_69 (by decide) ?_
            exact hJ_70 _ _ _ 0 (gi_0 ((gi_ca_f c_4).trans (gi_co_f c_3))) hR hS (lv_sub hl [1, 2, 3, 4, 6] rfl)
          · skip
            refine lv_iload hx hb dX2_aheadOf_59 (lv_at hl 6 rfl) ?_
            refine lv_iload_n hx hb dX2_aheadOf_61 rfl (lv_at hl 2 rfl) ?_
            refine lv_icmp_ge (tgt := 69) hx hb dX2_aheadOf_62 (by decide) (fun c_5 => ?_) (fun c_5 => ?_)
            · skip
              refine lv_iconst (v := 0) hx hb dX2_aheadOf_69 (by decide) ?_
              exact hJ_70 _ _ _ 0 (gi_0 (((gi_nb_t c_5).trans (gi_ca_t c_4)).trans (gi_co_f c_3))) hR hS (lv_sub hl [1, 2, 3, 4, 6] rfl)
            · skip
              refine lv_iconst (v := 1) hx hb dX2_aheadOf_65 (by decide) ?_
              refine lv_goto (tgt := 70) hx hb dX2_aheadOf_66 (by decide) ?_
              exact hJ_70 _ _ _ 1 (gi_1 (((gi_nb_f c_5).trans (gi_ca_t c_4)).trans (gi_co_f c_3))) hR hS (lv_sub hl [1, 2, 3, 4, 6] rfl)
      refine lv_if_eq (tgt := 44) hx hb dX2_aheadOf_29 (by decide) (fun c_6 => ?_) (fun c_6 => ?_)
      · skip
        have c_6 : ¬ ((mf_isAsked S (nI i_13) p2) = true) := gs_zf (φ := (mf_isAsked S (nI i_13) p2) = true) c_6
        refine lv_iconst (v := (-1)) hx hb dX2_aheadOf_44 (by decide) ?_
        exact hJ_45 _ _ _ (-1) ((if_neg c_6).symm) hR hS (lv_sub hl [0, 1, 2, 3, 4, 5] rfl)
      · skip
        have c_6 : (mf_isAsked S (nI i_13) p2) = true := gs_zt (φ := (mf_isAsked S (nI i_13) p2) = true) c_6
        refine lv_aload_n hx hb dX2_aheadOf_32 rfl (lv_at hl 0 rfl) ?_
        refine lv_iload hx hb dX2_aheadOf_33 (lv_at hl 5 rfl) ?_
        refine lv_iload_n hx hb dX2_aheadOf_35 rfl (lv_at hl 2 rfl) ?_
        refine mr_calli (As := [.int (nI i_13), .int p2]) (rest := []) ⟨hx, hb, hml, hown, hts⟩ (mt_scoreOf l E q ad L S (nI i_13) p2) (cwV 2 hts (lw_V q1193 q1195 qs24 q41 q1196) rfl rfl rfl (by decide +kernel) ⟨Nat.le_of_ble_eq_true rfl, Nat.le_of_ble_eq_true rfl⟩) ⟨hok, (by first | assumption | exact vp_in_nI (show i_13 < 30 by omega) (by decide)), (by first | assumption | exact mi_c hok (by assumption))⟩ hK hR (fun _ h => h) hS rfl hl.1 rfl (Nat.le_of_ble_eq_true rfl) dX2_aheadOf_36 ⟨Nat.le_refl _, Nat.le_refl _⟩ (fun H locs hR hS _ _ => ?_)
        refine lv_iload_n hx hb dX2_aheadOf_39 rfl (lv_at hl 3 rfl) ?_
        refine lv_isub hx hb dX2_aheadOf_40 ?_
        refine lv_goto (tgt := 45) hx hb dX2_aheadOf_41 (by decide) ?_
        exact hJ_45 _ _ _ ((mf_scoreOf S (nI i_13) p2) - (mf_scoreOf S p1 p2)) ((if_pos c_6).symm) hR hS (lv_sub hl [0, 1, 2, 3, 4, 5] rfl)
  exact hL_13 ((S 8 0).toNatClampNeg) 0 0 _ _ _ (by omega) rfl hR hS (lv_sub hl [3, 4, 5, 2, 1, 0] rfl)
set_option maxHeartbeats 2000000 in
set_option maxRecDepth 100000 in
theorem mt_candidate (l : Launch) (E : en_T) (q : Nat) (ad : Nat → Nat) (L : List Nat) (S : gs_T) (p1 : Int32) (p2 : Int32) : Met l yX2_candidate (ws_ yX2_candidate cX2_candidate 5 (some .int)) { frames := 5, cells := 0, slots := 0, locals := 121 } (mr_Pc E q ad L S [.int p1, .int p2] (mi_ok S)) (mr_Qi E q ad L (mf_candidate S p1 p2).1 (mf_candidate S p1 p2).2) 0 0 (mr_A L) := by
  refine mr_start (by decide) rfl (Nat.le_of_ble_eq_true rfl) ?_
  intro p e s m below meth c ls hx hb hr hlocks hml hown hts hK hP hl hR
  have hl : lv_has ls 5 [(0, .ref q), (1, .int p1), (2, .int p2)] := hl
  have hS : va_S (mr_A L) s.heap s.heap [] := va_S.rf
  have hok := hP
  have hf : (mf_candidate S p1 p2) = (mf_candidate S p1 p2) := rfl
  have hnf := mi_n30 hok
  refine lv_aload_n hx hb dX2_candidate_0 rfl (lv_at hl 0 rfl) ?_
  refine lv_aload_n hx hb dX2_candidate_1 rfl (lv_at hl 0 rfl) ?_
  refine lv_iload_n hx hb dX2_candidate_2 rfl (lv_at hl 1 rfl) ?_
  refine mr_calli (As := [.int p1]) (rest := [.ref q]) ⟨hx, hb, hml, hown, hts⟩ (mt_isClaim l E q ad L S p1) (cwV 1 hts (lw_V q1165 q1167 qs20 q41 q1168) rfl rfl rfl (by decide +kernel) ⟨Nat.le_of_ble_eq_true rfl, Nat.le_of_ble_eq_true rfl⟩) trivial hK hR (fun _ h => h) hS rfl hl.1 rfl (Nat.le_of_ble_eq_true rfl) dX2_candidate_3 ⟨Nat.le_refl _, Nat.le_refl _⟩ (fun H locs hR hS _ _ => ?_)
  have hJ_18 : ∀ (H : Heap) (locs : List Loc) (ls : Array Slot) (v_18 : Int32), v_18 = (if (¬ ((mf_isClaim S p1) = true)) ∨ (p2 < 0) then 1 else 0) → mr_W E q ad L S H → va_S (mr_A L) s.heap H locs → lv_has ls 5 [(0, .ref q), (1, .int p1), (2, .int p2)] → mr_G p l e { frames := 5, cells := 0, slots := 0, locals := 121 } s m [.ref q, .int p1, .int p2] below meth c (mr_A L) (mr_Qi E q ad L (mf_candidate S p1 p2).1 (mf_candidate S p1 p2).2) H locs (F0 m 18 ls [.int v_18, .ref q]) := by
    intro H locs ls v_18 e_v_18 hR hS hl
    subst e_v_18
    refine mr_calli (As := [.int (if (¬ ((mf_isClaim S p1) = true)) ∨ (p2 < 0) then 1 else 0)]) (rest := []) ⟨hx, hb, hml, hown, hts⟩ (mt_holds l E q ad L S (if (¬ ((mf_isClaim S p1) = true)) ∨ (p2 < 0) then 1 else 0)) (cwV 1 hts (lw_V q1081 q1083 qs15 q41 q1084) rfl rfl rfl (by decide +kernel) ⟨Nat.le_of_ble_eq_true rfl, Nat.le_of_ble_eq_true rfl⟩) trivial hK hR (fun _ h => h) hS rfl hl.1 rfl (Nat.le_of_ble_eq_true rfl) dX2_candidate_18 ⟨Nat.le_refl _, Nat.le_refl _⟩ (fun H locs hR hS _ _ => ?_)
    refine lv_if_ne (tgt := 26) hx hb dX2_candidate_21 (by decide) (fun c_1 => ?_) (fun c_1 => ?_)
    · skip
      have c_1 : ¬ ((¬ ((mf_isClaim S p1) = true)) ∨ (p2 < 0)) := (gi_bz (φ := (¬ ((mf_isClaim S p1) = true)) ∨ (p2 < 0))).mp (gs_zt (φ := (if (¬ ((mf_isClaim S p1) = true)) ∨ (p2 < 0) then 1 else 0) = 0) c_1)
      have hf := (if_pos c_1).symm.trans hf
      have c_2 := (not_or.mp c_1).1
      have c_3 := (not_or.mp c_1).2
      have c_4 := Decidable.not_not.mp c_2
      refine lv_iconst (v := (-1)) hx hb dX2_candidate_26 (by decide) ?_
      refine lv_istore_n (lv' := [(3, .int (-1)), (0, .ref q), (1, .int p1), (2, .int p2)]) hx hb dX2_candidate_27 rfl hl (by decide) rfl (fun ls hl => ?_)
      refine lv_iconst (v := 0) hx hb dX2_candidate_28 (by decide) ?_
      refine lv_istore (lv' := [(4, .int 0), (3, .int (-1)), (0, .ref q), (1, .int p1), (2, .int p2)]) hx hb dX2_candidate_29 hl (by decide) rfl (fun ls hl => ?_)
      have hL_31 : ∀ (n_31 i_31 : Nat) (x3_31 : Int32) (H : Heap) (locs : List Loc) (ls : Array Slot), i_31 + n_31 = (S 8 0).toNatClampNeg → mf_candidate_R31 S p1 p2 n_31 i_31 x3_31 = (mf_candidate_R31 S p1 p2 ((S 8 0).toNatClampNeg) 0 (-1)) → mr_W E q ad L (gs_up S 0 0 (if (¬ ((mf_isClaim S p1) = true)) ∨ (p2 < 0) then 1 else 0)) H → va_S (mr_A L) s.heap H locs → lv_has ls 5 [(0, .ref q), (1, .int p1), (2, .int p2), (3, .int x3_31), (4, .int (nI i_31))] → mr_G p l e { frames := 5, cells := 0, slots := 0, locals := 121 } s m [.ref q, .int p1, .int p2] below meth c (mr_A L) (mr_Qi E q ad L (mf_candidate S p1 p2).1 (mf_candidate S p1 p2).2) H locs (F0 m 31 ls []) := by
        intro n_31
        induction n_31 with
        | zero =>
          intro i_31 x3_31 H locs ls hi_31 hg_31 hR hS hl
          have hi_31 : i_31 = (S 8 0).toNatClampNeg := hi_31
          subst hi_31
          have e_x3_31 : x3_31 = (mf_candidate_R31 S p1 p2 ((S 8 0).toNatClampNeg) 0 (-1)) := congrArg (fun z => z) hg_31
          subst e_x3_31
          refine lv_iload hx hb dX2_candidate_31 (lv_at hl 4 rfl) ?_
          refine lv_aload_n hx hb dX2_candidate_33 rfl (lv_at hl 0 rfl) ?_
          refine mr_geti (v := (S 8 0)) hx hb hts hown hK hR 8 (by decide) rfl (hts _ q959) (fun _ h9 => h9) (congrFun (gs_sk rfl) 0) dX2_candidate_34 ?_
          refine lv_icmp_ge (tgt := 74) hx hb dX2_candidate_37 (by decide) (fun c_5 => ?_) (fun c_5 => absurd (lp_x0 (mi_n hok)) c_5)
          refine lv_iload_n hx hb dX2_candidate_74 rfl (lv_at hl 3 rfl) ?_
          exact W.iret (v := (mf_candidate_R31 S p1 p2 ((S 8 0).toNatClampNeg) 0 (-1))) hx hb hr (fun t ht hW => ⟨⟨_, _, rfl, ⟨(congrArg Prod.fst hf), (congrArg Prod.snd hf)⟩, mr_bt ht hR⟩, hS.F ht⟩) hS.2.2 dX2_candidate_75
        | succ n_31 ih_31 =>
          intro i_31 x3_31 H locs ls hi_31 hg_31 hR hS hl
          have hlt_31 : i_31 < (S 8 0).toNatClampNeg := by omega
          have hf_31 : mf_candidate_L31 S p1 p2 i_31 x3_31 = mf_candidate_L31 S p1 p2 i_31 x3_31 := rfl
          refine lv_iload hx hb dX2_candidate_31 (lv_at hl 4 rfl) ?_
          refine lv_aload_n hx hb dX2_candidate_33 rfl (lv_at hl 0 rfl) ?_
          refine mr_geti (v := (S 8 0)) hx hb hts hown hK hR 8 (by decide) rfl (hts _ q959) (fun _ h9 => h9) (congrFun (gs_sk rfl) 0) dX2_candidate_34 ?_
          refine lv_icmp_ge (tgt := 74) hx hb dX2_candidate_37 (by decide) (fun c_6 => absurd c_6 (lp_x1 (mi_n hok) hlt_31 (mi_nb hok))) (fun c_6 => ?_)
          refine lv_aload_n hx hb dX2_candidate_40 rfl (lv_at hl 0 rfl) ?_
          refine lv_iload hx hb dX2_candidate_41 (lv_at hl 4 rfl) ?_
          refine lv_iload_n hx hb dX2_candidate_43 rfl (lv_at hl 1 rfl) ?_
          refine mr_calli (As := [.int (nI i_31), .int p1]) (rest := []) ⟨hx, hb, hml, hown, hts⟩ (mt_isAsked l E q ad L (gs_up S 0 0 (if (¬ ((mf_isClaim S p1) = true)) ∨ (p2 < 0) then 1 else 0)) (nI i_31) p1) (cwV 2 hts (lw_V q1249 q1251 qs30 q41 q1252) rfl rfl rfl (by decide +kernel) ⟨Nat.le_of_ble_eq_true rfl, Nat.le_of_ble_eq_true rfl⟩) ⟨(mi_row (k := 0) (by decide) hok), (by first | assumption | exact vp_in_nI (show i_31 < 30 by omega) (by decide)), (by first | assumption | exact mi_c hok (by assumption))⟩ hK hR (fun _ h => h) hS rfl hl.1 rfl (Nat.le_of_ble_eq_true rfl) dX2_candidate_44 ⟨Nat.le_refl _, Nat.le_refl _⟩ (fun H locs hR hS _ _ => ?_)
          have hJ_67 : ∀ (H : Heap) (locs : List Loc) (ls : Array Slot) (v_67 : Int32), v_67 = (if (mf_isAsked (gs_up S 0 0 (if (¬ ((mf_isClaim S p1) = true)) ∨ (p2 < 0) then 1 else 0)) (nI i_31) p1) = true then (if (mf_aheadOf (gs_up S 0 0 (if (¬ ((mf_isClaim S p1) = true)) ∨ (p2 < 0) then 1 else 0)) (nI i_31) p1) = p2 then (nI i_31) else x3_31) else x3_31) → mr_W E q ad L (gs_up S 0 0 (if (¬ ((mf_isClaim S p1) = true)) ∨ (p2 < 0) then 1 else 0)) H → va_S (mr_A L) s.heap H locs → lv_has ls 5 [(0, .ref q), (1, .int p1), (2, .int p2), (4, .int (nI i_31))] → mr_G p l e { frames := 5, cells := 0, slots := 0, locals := 121 } s m [.ref q, .int p1, .int p2] below meth c (mr_A L) (mr_Qi E q ad L (mf_candidate S p1 p2).1 (mf_candidate S p1 p2).2) H locs (F0 m 67 ls [.int v_67]) := by
            intro H locs ls v_67 e_v_67 hR hS hl
            subst e_v_67
            refine lv_istore_n (lv' := [(3, .int (if (mf_isAsked (gs_up S 0 0 (if (¬ ((mf_isClaim S p1) = true)) ∨ (p2 < 0) then 1 else 0)) (nI i_31) p1) = true then (if (mf_aheadOf (gs_up S 0 0 (if (¬ ((mf_isClaim S p1) = true)) ∨ (p2 < 0) then 1 else 0)) (nI i_31) p1) = p2 then (nI i_31) else x3_31) else x3_31)), (0, .ref q), (1, .int p1), (2, .int p2), (4, .int (nI i_31))]) hx hb dX2_candidate_67 rfl hl (by decide) rfl (fun ls hl => ?_)
            refine lv_iinc (v := (nI (i_31 + 1))) (lv' := [(4, .int (nI (i_31 + 1))), (3, .int (if (mf_isAsked (gs_up S 0 0 (if (¬ ((mf_isClaim S p1) = true)) ∨ (p2 < 0) then 1 else 0)) (nI i_31) p1) = true then (if (mf_aheadOf (gs_up S 0 0 (if (¬ ((mf_isClaim S p1) = true)) ∨ (p2 < 0) then 1 else 0)) (nI i_31) p1) = p2 then (nI i_31) else x3_31) else x3_31)), (0, .ref q), (1, .int p1), (2, .int p2)]) hx hb dX2_candidate_68 hl (k := 4) rfl (nI_1 i_31) (by decide) rfl (fun ls hl => ?_)
            refine lv_goto (tgt := 31) hx hb dX2_candidate_71 (by decide) ?_
            exact ih_31 (i_31 + 1) (if (mf_isAsked (gs_up S 0 0 (if (¬ ((mf_isClaim S p1) = true)) ∨ (p2 < 0) then 1 else 0)) (nI i_31) p1) = true then (if (mf_aheadOf (gs_up S 0 0 (if (¬ ((mf_isClaim S p1) = true)) ∨ (p2 < 0) then 1 else 0)) (nI i_31) p1) = p2 then (nI i_31) else x3_31) else x3_31) _ _ _ (by omega) ((congrArg (fun z => mf_candidate_R31 S p1 p2 n_31 (i_31 + 1) z) hf_31).trans hg_31) hR hS (lv_sub hl [2, 3, 4, 1, 0] rfl)
          refine lv_if_eq (tgt := 66) hx hb dX2_candidate_47 (by decide) (fun c_7 => ?_) (fun c_7 => ?_)
          · skip
            have c_7 : ¬ ((mf_isAsked (gs_up S 0 0 (if (¬ ((mf_isClaim S p1) = true)) ∨ (p2 < 0) then 1 else 0)) (nI i_31) p1) = true) := gs_zf (φ := (mf_isAsked (gs_up S 0 0 (if (¬ ((mf_isClaim S p1) = true)) ∨ (p2 < 0) then 1 else 0)) (nI i_31) p1) = true) c_7
            refine lv_iload_n hx hb dX2_candidate_66 rfl (lv_at hl 3 rfl) ?_
            exact hJ_67 _ _ _ x3_31 ((if_neg c_7).symm) hR hS (lv_sub hl [0, 1, 2, 4] rfl)
          · skip
            have c_7 : (mf_isAsked (gs_up S 0 0 (if (¬ ((mf_isClaim S p1) = true)) ∨ (p2 < 0) then 1 else 0)) (nI i_31) p1) = true := gs_zt (φ := (mf_isAsked (gs_up S 0 0 (if (¬ ((mf_isClaim S p1) = true)) ∨ (p2 < 0) then 1 else 0)) (nI i_31) p1) = true) c_7
            refine lv_aload_n hx hb dX2_candidate_50 rfl (lv_at hl 0 rfl) ?_
            refine lv_iload hx hb dX2_candidate_51 (lv_at hl 4 rfl) ?_
            refine lv_iload_n hx hb dX2_candidate_53 rfl (lv_at hl 1 rfl) ?_
            refine mr_calli (As := [.int (nI i_31), .int p1]) (rest := []) ⟨hx, hb, hml, hown, hts⟩ (mt_aheadOf l E q ad L (gs_up S 0 0 (if (¬ ((mf_isClaim S p1) = true)) ∨ (p2 < 0) then 1 else 0)) (nI i_31) p1) (cwV 2 hts (lw_V q1253 q1255 qs31 q41 q1256) rfl rfl rfl (by decide +kernel) ⟨Nat.le_of_ble_eq_true rfl, Nat.le_of_ble_eq_true rfl⟩) ⟨(mi_row (k := 0) (by decide) hok), (by first | assumption | exact vp_in_nI (show i_31 < 30 by omega) (by decide)), (by first | assumption | exact mi_c hok (by assumption))⟩ hK hR (fun _ h => h) hS rfl hl.1 rfl (Nat.le_of_ble_eq_true rfl) dX2_candidate_54 ⟨Nat.le_refl _, Nat.le_refl _⟩ (fun H locs hR hS _ _ => ?_)
            refine lv_iload_n hx hb dX2_candidate_57 rfl (lv_at hl 2 rfl) ?_
            refine lv_icmp_ne (tgt := 66) hx hb dX2_candidate_58 (by decide) (fun c_8 => ?_) (fun c_8 => ?_)
            · skip
              refine lv_iload_n hx hb dX2_candidate_66 rfl (lv_at hl 3 rfl) ?_
              exact hJ_67 _ _ _ x3_31 (((if_neg c_8).symm).trans (if_pos c_7).symm) hR hS (lv_sub hl [0, 1, 2, 4] rfl)
            · skip
              refine lv_iload hx hb dX2_candidate_61 (lv_at hl 4 rfl) ?_
              refine lv_goto (tgt := 67) hx hb dX2_candidate_63 (by decide) ?_
              exact hJ_67 _ _ _ (nI i_31) (((if_pos c_8).symm).trans (if_pos c_7).symm) hR hS (lv_sub hl [0, 1, 2, 4] rfl)
      exact hL_31 ((S 8 0).toNatClampNeg) 0 (-1) _ _ _ (by omega) rfl hR hS (lv_sub hl [2, 3, 4, 1, 0] rfl)
    · skip
      have c_1 : ¬ (¬ ((¬ ((mf_isClaim S p1) = true)) ∨ (p2 < 0))) := fun k => gs_zf (φ := (if (¬ ((mf_isClaim S p1) = true)) ∨ (p2 < 0) then 1 else 0) = 0) c_1 ((gi_bz (φ := (¬ ((mf_isClaim S p1) = true)) ∨ (p2 < 0))).mpr k)
      have hf := (if_neg c_1).symm.trans hf
      have c_9 := Decidable.not_not.mp c_1
      refine lv_iconst (v := 0) hx hb dX2_candidate_24 (by decide) ?_
      exact W.iret (v := 0) hx hb hr (fun t ht hW => ⟨⟨_, _, rfl, ⟨(congrArg Prod.fst hf), (congrArg Prod.snd hf)⟩, mr_bt ht hR⟩, hS.F ht⟩) hS.2.2 dX2_candidate_25
  refine lv_if_eq (tgt := 17) hx hb dX2_candidate_6 (by decide) (fun c_10 => ?_) (fun c_10 => ?_)
  · skip
    have c_10 : ¬ ((mf_isClaim S p1) = true) := gs_zf (φ := (mf_isClaim S p1) = true) c_10
    refine lv_iconst (v := 1) hx hb dX2_candidate_17 (by decide) ?_
    exact hJ_18 _ _ _ 1 (gi_1 (gi_no_f c_10)) hR hS (lv_sub hl [0, 1, 2] rfl)
  · skip
    have c_10 : (mf_isClaim S p1) = true := gs_zt (φ := (mf_isClaim S p1) = true) c_10
    refine lv_iload_n hx hb dX2_candidate_9 rfl (lv_at hl 2 rfl) ?_
    refine lv_if_lt (tgt := 17) hx hb dX2_candidate_10 (by decide) (fun c_11 => ?_) (fun c_11 => ?_)
    · skip
      refine lv_iconst (v := 1) hx hb dX2_candidate_17 (by decide) ?_
      exact hJ_18 _ _ _ 1 (gi_1 ((gi_cb_t c_11).trans (gi_no_t c_10))) hR hS (lv_sub hl [0, 1, 2] rfl)
    · skip
      refine lv_iconst (v := 0) hx hb dX2_candidate_13 (by decide) ?_
      refine lv_goto (tgt := 18) hx hb dX2_candidate_14 (by decide) ?_
      exact hJ_18 _ _ _ 0 (gi_0 ((gi_cb_f c_11).trans (gi_no_t c_10))) hR hS (lv_sub hl [0, 1, 2] rfl)
set_option maxHeartbeats 2000000 in
set_option maxRecDepth 100000 in
theorem mt_question (l : Launch) (E : en_T) (q : Nat) (ad : Nat → Nat) (L : List Nat) (S : gs_T) (p1 : Int32) : Met l yX2_question (ws_ yX2_question cX2_question 9 (some .int)) { frames := 4, cells := 0, slots := 0, locals := 95 } (mr_Pc E q ad L S [.int p1] (mi_ok S)) (mr_Qi E q ad L (mf_question S p1).1 (mf_question S p1).2) 0 0 (mr_A L) := by
  refine mr_start (by decide) rfl (Nat.le_of_ble_eq_true rfl) ?_
  intro p e s m below meth c ls hx hb hr hlocks hml hown hts hK hP hl hR
  have hl : lv_has ls 9 [(0, .ref q), (1, .int p1)] := hl
  have hS : va_S (mr_A L) s.heap s.heap [] := va_S.rf
  have hok := hP
  have hf : (mf_question S p1) = (mf_question S p1) := rfl
  have hnf := mi_n30 hok
  refine lv_aload_n hx hb dX2_question_0 rfl (lv_at hl 0 rfl) ?_
  refine lv_aload_n hx hb dX2_question_1 rfl (lv_at hl 0 rfl) ?_
  refine lv_iload_n hx hb dX2_question_2 rfl (lv_at hl 1 rfl) ?_
  refine mr_calli (As := [.int p1]) (rest := [.ref q]) ⟨hx, hb, hml, hown, hts⟩ (mt_isClaim l E q ad L S p1) (cwV 1 hts (lw_V q1165 q1167 qs20 q41 q1168) rfl rfl rfl (by decide +kernel) ⟨Nat.le_of_ble_eq_true rfl, Nat.le_of_ble_eq_true rfl⟩) trivial hK hR (fun _ h => h) hS rfl hl.1 rfl (Nat.le_of_ble_eq_true rfl) dX2_question_3 ⟨Nat.le_refl _, Nat.le_refl _⟩ (fun H locs hR hS _ _ => ?_)
  have hJ_14 : ∀ (H : Heap) (locs : List Loc) (ls : Array Slot) (v_14 : Int32), v_14 = (if ¬ ((mf_isClaim S p1) = true) then 1 else 0) → mr_W E q ad L S H → va_S (mr_A L) s.heap H locs → lv_has ls 9 [(0, .ref q), (1, .int p1)] → mr_G p l e { frames := 4, cells := 0, slots := 0, locals := 95 } s m [.ref q, .int p1] below meth c (mr_A L) (mr_Qi E q ad L (mf_question S p1).1 (mf_question S p1).2) H locs (F0 m 14 ls [.int v_14, .ref q]) := by
    intro H locs ls v_14 e_v_14 hR hS hl
    subst e_v_14
    refine mr_calli (As := [.int (if ¬ ((mf_isClaim S p1) = true) then 1 else 0)]) (rest := []) ⟨hx, hb, hml, hown, hts⟩ (mt_holds l E q ad L S (if ¬ ((mf_isClaim S p1) = true) then 1 else 0)) (cwV 1 hts (lw_V q1081 q1083 qs15 q41 q1084) rfl rfl rfl (by decide +kernel) ⟨Nat.le_of_ble_eq_true rfl, Nat.le_of_ble_eq_true rfl⟩) trivial hK hR (fun _ h => h) hS rfl hl.1 rfl (Nat.le_of_ble_eq_true rfl) dX2_question_14 ⟨Nat.le_refl _, Nat.le_refl _⟩ (fun H locs hR hS _ _ => ?_)
    refine lv_if_ne (tgt := 22) hx hb dX2_question_17 (by decide) (fun c_1 => ?_) (fun c_1 => ?_)
    · skip
      have c_1 : (mf_isClaim S p1) = true := (gi_bzn (φ := (mf_isClaim S p1) = true)).mp (gs_zt (φ := (if ¬ ((mf_isClaim S p1) = true) then 1 else 0) = 0) c_1)
      have hf := (if_pos c_1).symm.trans hf
      refine lv_iconst (v := (-1)) hx hb dX2_question_22 (by decide) ?_
      refine lv_istore_n (lv' := [(2, .int (-1)), (0, .ref q), (1, .int p1)]) hx hb dX2_question_23 rfl hl (by decide) rfl (fun ls hl => ?_)
      refine lv_iconst (v := 0) hx hb dX2_question_24 (by decide) ?_
      refine lv_istore_n (lv' := [(3, .int 0), (2, .int (-1)), (0, .ref q), (1, .int p1)]) hx hb dX2_question_25 rfl hl (by decide) rfl (fun ls hl => ?_)
      refine lv_bipush (v := 23) hx hb dX2_question_26 (by decide) ?_
      refine lv_istore (lv' := [(4, .int 23), (3, .int 0), (2, .int (-1)), (0, .ref q), (1, .int p1)]) hx hb dX2_question_28 hl (by decide) rfl (fun ls hl => ?_)
      have hL_30 : ∀ (i_30q i_30 : Nat) (x2_30 : Int32) (x3_30 : Int32) (H : Heap) (locs : List Loc) (ls : Array Slot), (i_30 = i_30q ∧ i_30 ≤ 24) → mf_question_R30 S p1 i_30q (x2_30, x3_30) = (mf_question_R30 S p1 24 ((-1), 0)) → mr_W E q ad L (gs_up S 0 0 (if ¬ ((mf_isClaim S p1) = true) then 1 else 0)) H → va_S (mr_A L) s.heap H locs → lv_has ls 9 [(0, .ref q), (1, .int p1), (2, .int x2_30), (3, .int x3_30), (4, .int (nI i_30 - 1))] → mr_G p l e { frames := 4, cells := 0, slots := 0, locals := 95 } s m [.ref q, .int p1] below meth c (mr_A L) (mr_Qi E q ad L (mf_question S p1).1 (mf_question S p1).2) H locs (F0 m 30 ls []) := by
        intro i_30q
        induction i_30q with
        | zero =>
          intro i_30 x2_30 x3_30 H locs ls hi_30 hg_30 hR hS hl
          obtain ⟨hi_30, hbd_30⟩ := hi_30
          subst hi_30
          have e_x2_30 : x2_30 = (mf_question_R30 S p1 24 ((-1), 0)).1 := congrArg (fun z => z.1) hg_30
          have e_x3_30 : x3_30 = (mf_question_R30 S p1 24 ((-1), 0)).2 := congrArg (fun z => z.2) hg_30
          subst e_x2_30
          subst e_x3_30
          refine lv_iload hx hb dX2_question_30 (lv_at hl 4 rfl) ?_
          refine lv_if_lt (tgt := 210) hx hb dX2_question_32 (by decide) (fun c_2 => ?_) (fun c_2 => absurd (by decide) c_2)
          refine lv_iload_n hx hb dX2_question_210 rfl (lv_at hl 2 rfl) ?_
          exact W.iret (v := (mf_question_R30 S p1 24 ((-1), 0)).1) hx hb hr (fun t ht hW => ⟨⟨_, _, rfl, ⟨(congrArg Prod.fst hf), (congrArg Prod.snd hf)⟩, mr_bt ht hR⟩, hS.F ht⟩) hS.2.2 dX2_question_211
        | succ i_30q ih_30 =>
          intro i_30 x2_30 x3_30 H locs ls hi_30 hg_30 hR hS hl
          obtain ⟨hi_30, hbd_30⟩ := hi_30
          subst hi_30
          rw [lp_pred] at hl
          have hf_30 : mf_question_L30 S p1 i_30q x2_30 x3_30 = mf_question_L30 S p1 i_30q x2_30 x3_30 := rfl
          refine lv_iload hx hb dX2_question_30 (lv_at hl 4 rfl) ?_
          refine lv_if_lt (tgt := 210) hx hb dX2_question_32 (by decide) (fun c_3 => absurd c_3 (nI_pos (by omega))) (fun c_3 => ?_)
          refine lv_iconst (v := 0) hx hb dX2_question_35 (by decide) ?_
          refine lv_istore (lv' := [(5, .int 0), (0, .ref q), (1, .int p1), (2, .int x2_30), (3, .int x3_30), (4, .int (nI i_30q))]) hx hb dX2_question_36 hl (by decide) rfl (fun ls hl => ?_)
          refine lv_iconst (v := 0) hx hb dX2_question_38 (by decide) ?_
          refine lv_istore (lv' := [(6, .int 0), (5, .int 0), (0, .ref q), (1, .int p1), (2, .int x2_30), (3, .int x3_30), (4, .int (nI i_30q))]) hx hb dX2_question_39 hl (by decide) rfl (fun ls hl => ?_)
          refine lv_iconst (v := 0) hx hb dX2_question_41 (by decide) ?_
          refine lv_istore (lv' := [(7, .int 0), (6, .int 0), (5, .int 0), (0, .ref q), (1, .int p1), (2, .int x2_30), (3, .int x3_30), (4, .int (nI i_30q))]) hx hb dX2_question_42 hl (by decide) rfl (fun ls hl => ?_)
          have hL_44 : ∀ (n_44 i_44 : Nat) (x5_44 : Int32) (x6_44 : Int32) (H : Heap) (locs : List Loc) (ls : Array Slot), i_44 + n_44 = (S 8 0).toNatClampNeg → mf_question_R44 S p1 i_30q n_44 i_44 (x5_44, x6_44) = (mf_question_R44 S p1 i_30q ((S 8 0).toNatClampNeg) 0 (0, 0)) → mr_W E q ad L (gs_up S 0 0 (if ¬ ((mf_isClaim S p1) = true) then 1 else 0)) H → va_S (mr_A L) s.heap H locs → lv_has ls 9 [(0, .ref q), (1, .int p1), (2, .int x2_30), (3, .int x3_30), (4, .int (nI i_30q)), (5, .int x5_44), (6, .int x6_44), (7, .int (nI i_44))] → mr_G p l e { frames := 4, cells := 0, slots := 0, locals := 95 } s m [.ref q, .int p1] below meth c (mr_A L) (mr_Qi E q ad L (mf_question S p1).1 (mf_question S p1).2) H locs (F0 m 44 ls []) := by
            intro n_44
            induction n_44 with
            | zero =>
              intro i_44 x5_44 x6_44 H locs ls hi_44 hg_44 hR hS hl
              have hi_44 : i_44 = (S 8 0).toNatClampNeg := hi_44
              subst hi_44
              have e_x5_44 : x5_44 = (mf_question_R44 S p1 i_30q ((S 8 0).toNatClampNeg) 0 (0, 0)).1 := congrArg (fun z => z.1) hg_44
              have e_x6_44 : x6_44 = (mf_question_R44 S p1 i_30q ((S 8 0).toNatClampNeg) 0 (0, 0)).2 := congrArg (fun z => z.2) hg_44
              subst e_x5_44
              subst e_x6_44
              refine lv_iload hx hb dX2_question_44 (lv_at hl 7 rfl) ?_
              refine lv_aload_n hx hb dX2_question_46 rfl (lv_at hl 0 rfl) ?_
              refine mr_geti (v := (S 8 0)) hx hb hts hown hK hR 8 (by decide) rfl (hts _ q959) (fun _ h9 => h9) (congrFun (gs_sk rfl) 0) dX2_question_47 ?_
              refine lv_icmp_ge (tgt := 126) hx hb dX2_question_50 (by decide) (fun c_4 => ?_) (fun c_4 => absurd (lp_x0 (mi_n hok)) c_4)
              refine lv_iload hx hb dX2_question_126 (lv_at hl 6 rfl) ?_
              have hJ_139 : ∀ (H : Heap) (locs : List Loc) (ls : Array Slot) (v_139 : Int32), v_139 = (if 0 ≤ (mf_question_R44 S p1 i_30q ((S 8 0).toNatClampNeg) 0 (0, 0)).2 then (mf_question_R44 S p1 i_30q ((S 8 0).toNatClampNeg) 0 (0, 0)).2 else (-((mf_question_R44 S p1 i_30q ((S 8 0).toNatClampNeg) 0 (0, 0)).2))) → mr_W E q ad L (gs_up S 0 0 (if ¬ ((mf_isClaim S p1) = true) then 1 else 0)) H → va_S (mr_A L) s.heap H locs → lv_has ls 9 [(0, .ref q), (1, .int p1), (2, .int x2_30), (3, .int x3_30), (4, .int (nI i_30q)), (5, .int ((mf_question_R44 S p1 i_30q ((S 8 0).toNatClampNeg) 0 (0, 0)).1))] → mr_G p l e { frames := 4, cells := 0, slots := 0, locals := 95 } s m [.ref q, .int p1] below meth c (mr_A L) (mr_Qi E q ad L (mf_question S p1).1 (mf_question S p1).2) H locs (F0 m 139 ls [.int v_139]) := by
                intro H locs ls v_139 e_v_139 hR hS hl
                subst e_v_139
                refine lv_istore (lv' := [(7, .int (if 0 ≤ (mf_question_R44 S p1 i_30q ((S 8 0).toNatClampNeg) 0 (0, 0)).2 then (mf_question_R44 S p1 i_30q ((S 8 0).toNatClampNeg) 0 (0, 0)).2 else (-((mf_question_R44 S p1 i_30q ((S 8 0).toNatClampNeg) 0 (0, 0)).2)))), (0, .ref q), (1, .int p1), (2, .int x2_30), (3, .int x3_30), (4, .int (nI i_30q)), (5, .int ((mf_question_R44 S p1 i_30q ((S 8 0).toNatClampNeg) 0 (0, 0)).1))]) hx hb dX2_question_139 hl (by decide) rfl (fun ls hl => ?_)
                refine lv_aload_n hx hb dX2_question_141 rfl (lv_at hl 1 rfl) ?_
                refine mr_geta hx hb hts hown hK hR 30 (by decide) rfl (hts _ q981) (fun _ h9 => h9) dX2_question_142 ?_
                refine lv_iload_n hx hb dX2_question_145 rfl (lv_at hl 2 rfl) ?_
                refine mr_ald (v := (S 30 p1.toNatClampNeg)) hx hb hK hR 30 20 rfl (by decide) rfl (by first | assumption | exact mi_c hok (by assumption) | exact mi_e hok (by assumption)) (congrFun (gs_sk rfl) p1.toNatClampNeg) dX2_question_146 ?_
                refine lv_iload hx hb dX2_question_147 (lv_at hl 5 rfl) ?_
                refine lv_ishr hx hb dX2_question_149 ?_
                refine lv_iconst (v := 1) hx hb dX2_question_150 (by decide) ?_
                refine lv_iand hx hb dX2_question_151 ?_
                have hJ_178 : ∀ (H : Heap) (locs : List Loc) (ls : Array Slot) (v_178 : Int32), v_178 = (if ((((S 30 p1.toNatClampNeg) >>> ((nI i_30q) &&& 31)) &&& 1) = 0) ∧ ((¬ ((mf_question_R44 S p1 i_30q ((S 8 0).toNatClampNeg) 0 (0, 0)).1 ≤ (if 0 ≤ (mf_question_R44 S p1 i_30q ((S 8 0).toNatClampNeg) 0 (0, 0)).2 then (mf_question_R44 S p1 i_30q ((S 8 0).toNatClampNeg) 0 (0, 0)).2 else (-((mf_question_R44 S p1 i_30q ((S 8 0).toNatClampNeg) 0 (0, 0)).2))))) ∧ ((x2_30 = (-1)) ∨ (¬ (x3_30 < (if 0 ≤ (mf_question_R44 S p1 i_30q ((S 8 0).toNatClampNeg) 0 (0, 0)).2 then (mf_question_R44 S p1 i_30q ((S 8 0).toNatClampNeg) 0 (0, 0)).2 else (-((mf_question_R44 S p1 i_30q ((S 8 0).toNatClampNeg) 0 (0, 0)).2))))))) then 1 else 0) → mr_W E q ad L (gs_up S 0 0 (if ¬ ((mf_isClaim S p1) = true) then 1 else 0)) H → va_S (mr_A L) s.heap H locs → lv_has ls 9 [(0, .ref q), (1, .int p1), (2, .int x2_30), (3, .int x3_30), (4, .int (nI i_30q)), (7, .int (if 0 ≤ (mf_question_R44 S p1 i_30q ((S 8 0).toNatClampNeg) 0 (0, 0)).2 then (mf_question_R44 S p1 i_30q ((S 8 0).toNatClampNeg) 0 (0, 0)).2 else (-((mf_question_R44 S p1 i_30q ((S 8 0).toNatClampNeg) 0 (0, 0)).2))))] → mr_G p l e { frames := 4, cells := 0, slots := 0, locals := 95 } s m [.ref q, .int p1] below meth c (mr_A L) (mr_Qi E q ad L (mf_question S p1).1 (mf_question S p1).2) H locs (F0 m 178 ls [.int v_178]) := by
                  intro H locs ls v_178 e_v_178 hR hS hl
                  subst e_v_178
                  refine lv_istore (lv' := [(8, .int (if ((((S 30 p1.toNatClampNeg) >>> ((nI i_30q) &&& 31)) &&& 1) = 0) ∧ ((¬ ((mf_question_R44 S p1 i_30q ((S 8 0).toNatClampNeg) 0 (0, 0)).1 ≤ (if 0 ≤ (mf_question_R44 S p1 i_30q ((S 8 0).toNatClampNeg) 0 (0, 0)).2 then (mf_question_R44 S p1 i_30q ((S 8 0).toNatClampNeg) 0 (0, 0)).2 else (-((mf_question_R44 S p1 i_30q ((S 8 0).toNatClampNeg) 0 (0, 0)).2))))) ∧ ((x2_30 = (-1)) ∨ (¬ (x3_30 < (if 0 ≤ (mf_question_R44 S p1 i_30q ((S 8 0).toNatClampNeg) 0 (0, 0)).2 then (mf_question_R44 S p1 i_30q ((S 8 0).toNatClampNeg) 0 (0, 0)).2 else (-((mf_question_R44 S p1 i_30q ((S 8 0).toNatClampNeg) 0 (0, 0)).2))))))) then 1 else 0)), (0, .ref q), (1, .int p1), (2, .int x2_30), (3, .int x3_30), (4, .int (nI i_30q)), (7, .int (if 0 ≤ (mf_question_R44 S p1 i_30q ((S 8 0).toNatClampNeg) 0 (0, 0)).2 then (mf_question_R44 S p1 i_30q ((S 8 0).toNatClampNeg) 0 (0, 0)).2 else (-((mf_question_R44 S p1 i_30q ((S 8 0).toNatClampNeg) 0 (0, 0)).2))))]) hx hb dX2_question_178 hl (by decide) rfl (fun ls hl => ?_)
                  refine lv_iload hx hb dX2_question_180 (lv_at hl 0 rfl) ?_
                  have hJ_191 : ∀ (H : Heap) (locs : List Loc) (ls : Array Slot) (v_191 : Int32), v_191 = (if ((((S 30 p1.toNatClampNeg) >>> ((nI i_30q) &&& 31)) &&& 1) = 0) ∧ ((¬ ((mf_question_R44 S p1 i_30q ((S 8 0).toNatClampNeg) 0 (0, 0)).1 ≤ (if 0 ≤ (mf_question_R44 S p1 i_30q ((S 8 0).toNatClampNeg) 0 (0, 0)).2 then (mf_question_R44 S p1 i_30q ((S 8 0).toNatClampNeg) 0 (0, 0)).2 else (-((mf_question_R44 S p1 i_30q ((S 8 0).toNatClampNeg) 0 (0, 0)).2))))) ∧ ((x2_30 = (-1)) ∨ (¬ (x3_30 < (if 0 ≤ (mf_question_R44 S p1 i_30q ((S 8 0).toNatClampNeg) 0 (0, 0)).2 then (mf_question_R44 S p1 i_30q ((S 8 0).toNatClampNeg) 0 (0, 0)).2 else (-((mf_question_R44 S p1 i_30q ((S 8 0).toNatClampNeg) 0 (0, 0)).2))))))) then (nI i_30q) else x2_30) → mr_W E q ad L (gs_up S 0 0 (if ¬ ((mf_isClaim S p1) = true) then 1 else 0)) H → va_S (mr_A L) s.heap H locs → lv_has ls 9 [(0, .ref q), (1, .int p1), (3, .int x3_30), (4, .int (nI i_30q)), (7, .int (if 0 ≤ (mf_question_R44 S p1 i_30q ((S 8 0).toNatClampNeg) 0 (0, 0)).2 then (mf_question_R44 S p1 i_30q ((S 8 0).toNatClampNeg) 0 (0, 0)).2 else (-((mf_question_R44 S p1 i_30q ((S 8 0).toNatClampNeg) 0 (0, 0)).2)))), (8, .int (if ((((S 30 p1.toNatClampNeg) >>> ((nI i_30q) &&& 31)) &&& 1) = 0) ∧ ((¬ ((mf_question_R44 S p1 i_30q ((S 8 0).toNatClampNeg) 0 (0, 0)).1 ≤ (if 0 ≤ (mf_question_R44 S p1 i_30q ((S 8 0).toNatClampNeg) 0 (0, 0)).2 then (mf_question_R44 S p1 i_30q ((S 8 0).toNatClampNeg) 0 (0, 0)).2 else (-((mf_question_R44 S p1 i_30q ((S 8 0).toNatClampNeg) 0 (0, 0)).2))))) ∧ ((x2_30 = (-1)) ∨ (¬ (x3_30 < (if 0 ≤ (mf_question_R44 S p1 i_30q ((S 8 0).toNatClampNeg) 0 (0, 0)).2 then (mf_question_R44 S p1 i_30q ((S 8 0).toNatClampNeg) 0 (0, 0)).2 else (-((mf_question_R44 S p1 i_30q ((S 8 0).toNatClampNeg) 0 (0, 0)).2))))))) then 1 else 0))] → mr_G p l e { frames := 4, cells := 0, slots := 0, locals := 95 } s m [.ref q, .int p1] below meth c (mr_A L) (mr_Qi E q ad L (mf_question S p1).1 (mf_question S p1).2) H locs (F0 m 191 ls [.int v_191]) := by
                    intro H locs ls v_191 e_v_191 hR hS hl
                    subst e_v_191
                    refine lv_istore_n (lv' := [(2, .int (if ((((S 30 p1.toNatClampNeg) >>> ((nI i_30q) &&& 31)) &&& 1) = 0) ∧ ((¬ ((mf_question_R44 S p1 i_30q ((S 8 0).toNatClampNeg) 0 (0, 0)).1 ≤ (if 0 ≤ (mf_question_R44 S p1 i_30q ((S 8 0).toNatClampNeg) 0 (0, 0)).2 then (mf_question_R44 S p1 i_30q ((S 8 0).toNatClampNeg) 0 (0, 0)).2 else (-((mf_question_R44 S p1 i_30q ((S 8 0).toNatClampNeg) 0 (0, 0)).2))))) ∧ ((x2_30 = (-1)) ∨ (¬ (x3_30 < (if 0 ≤ (mf_question_R44 S p1 i_30q ((S 8 0).toNatClampNeg) 0 (0, 0)).2 then (mf_question_R44 S p1 i_30q ((S 8 0).toNatClampNeg) 0 (0, 0)).2 else (-((mf_question_R44 S p1 i_30q ((S 8 0).toNatClampNeg) 0 (0, 0)).2))))))) then (nI i_30q) else x2_30)), (0, .ref q), (1, .int p1), (3, .int x3_30), (4, .int (nI i_30q)), (7, .int (if 0 ≤ (mf_question_R44 S p1 i_30q ((S 8 0).toNatClampNeg) 0 (0, 0)).2 then (mf_question_R44 S p1 i_30q ((S 8 0).toNatClampNeg) 0 (0, 0)).2 else (-((mf_question_R44 S p1 i_30q ((S 8 0).toNatClampNeg) 0 (0, 0)).2)))), (8, .int (if ((((S 30 p1.toNatClampNeg) >>> ((nI i_30q) &&& 31)) &&& 1) = 0) ∧ ((¬ ((mf_question_R44 S p1 i_30q ((S 8 0).toNatClampNeg) 0 (0, 0)).1 ≤ (if 0 ≤ (mf_question_R44 S p1 i_30q ((S 8 0).toNatClampNeg) 0 (0, 0)).2 then (mf_question_R44 S p1 i_30q ((S 8 0).toNatClampNeg) 0 (0, 0)).2 else (-((mf_question_R44 S p1 i_30q ((S 8 0).toNatClampNeg) 0 (0, 0)).2))))) ∧ ((x2_30 = (-1)) ∨ (¬ (x3_30 < (if 0 ≤ (mf_question_R44 S p1 i_30q ((S 8 0).toNatClampNeg) 0 (0, 0)).2 then (mf_question_R44 S p1 i_30q ((S 8 0).toNatClampNeg) 0 (0, 0)).2 else (-((mf_question_R44 S p1 i_30q ((S 8 0).toNatClampNeg) 0 (0, 0)).2))))))) then 1 else 0))]) hx hb dX2_question_191 rfl hl (by decide) rfl (fun ls hl => ?_)
                    refine lv_iload hx hb dX2_question_192 (lv_at hl 6 rfl) ?_
                    have hJ_203 : ∀ (H : Heap) (locs : List Loc) (ls : Array Slot) (v_203 : Int32), v_203 = (if ((((S 30 p1.toNatClampNeg) >>> ((nI i_30q) &&& 31)) &&& 1) = 0) ∧ ((¬ ((mf_question_R44 S p1 i_30q ((S 8 0).toNatClampNeg) 0 (0, 0)).1 ≤ (if 0 ≤ (mf_question_R44 S p1 i_30q ((S 8 0).toNatClampNeg) 0 (0, 0)).2 then (mf_question_R44 S p1 i_30q ((S 8 0).toNatClampNeg) 0 (0, 0)).2 else (-((mf_question_R44 S p1 i_30q ((S 8 0).toNatClampNeg) 0 (0, 0)).2))))) ∧ ((x2_30 = (-1)) ∨ (¬ (x3_30 < (if 0 ≤ (mf_question_R44 S p1 i_30q ((S 8 0).toNatClampNeg) 0 (0, 0)).2 then (mf_question_R44 S p1 i_30q ((S 8 0).toNatClampNeg) 0 (0, 0)).2 else (-((mf_question_R44 S p1 i_30q ((S 8 0).toNatClampNeg) 0 (0, 0)).2))))))) then (if 0 ≤ (mf_question_R44 S p1 i_30q ((S 8 0).toNatClampNeg) 0 (0, 0)).2 then (mf_question_R44 S p1 i_30q ((S 8 0).toNatClampNeg) 0 (0, 0)).2 else (-((mf_question_R44 S p1 i_30q ((S 8 0).toNatClampNeg) 0 (0, 0)).2))) else x3_30) → mr_W E q ad L (gs_up S 0 0 (if ¬ ((mf_isClaim S p1) = true) then 1 else 0)) H → va_S (mr_A L) s.heap H locs → lv_has ls 9 [(0, .ref q), (1, .int p1), (2, .int (if ((((S 30 p1.toNatClampNeg) >>> ((nI i_30q) &&& 31)) &&& 1) = 0) ∧ ((¬ ((mf_question_R44 S p1 i_30q ((S 8 0).toNatClampNeg) 0 (0, 0)).1 ≤ (if 0 ≤ (mf_question_R44 S p1 i_30q ((S 8 0).toNatClampNeg) 0 (0, 0)).2 then (mf_question_R44 S p1 i_30q ((S 8 0).toNatClampNeg) 0 (0, 0)).2 else (-((mf_question_R44 S p1 i_30q ((S 8 0).toNatClampNeg) 0 (0, 0)).2))))) ∧ ((x2_30 = (-1)) ∨ (¬ (x3_30 < (if 0 ≤ (mf_question_R44 S p1 i_30q ((S 8 0).toNatClampNeg) 0 (0, 0)).2 then (mf_question_R44 S p1 i_30q ((S 8 0).toNatClampNeg) 0 (0, 0)).2 else (-((mf_question_R44 S p1 i_30q ((S 8 0).toNatClampNeg) 0 (0, 0)).2))))))) then (nI i_30q) else x2_30)), (4, .int (nI i_30q))] → mr_G p l e { frames := 4, cells := 0, slots := 0, locals := 95 } s m [.ref q, .int p1] below meth c (mr_A L) (mr_Qi E q ad L (mf_question S p1).1 (mf_question S p1).2) H locs (F0 m 203 ls [.int v_203]) := by
                      intro H locs ls v_203 e_v_203 hR hS hl
                      subst e_v_203
                      refine lv_istore_n (lv' := [(3, .int (if ((((S 30 p1.toNatClampNeg) >>> ((nI i_30q) &&& 31)) &&& 1) = 0) ∧ ((¬ ((mf_question_R44 S p1 i_30q ((S 8 0).toNatClampNeg) 0 (0, 0)).1 ≤ (if 0 ≤ (mf_question_R44 S p1 i_30q ((S 8 0).toNatClampNeg) 0 (0, 0)).2 then (mf_question_R44 S p1 i_30q ((S 8 0).toNatClampNeg) 0 (0, 0)).2 else (-((mf_question_R44 S p1 i_30q ((S 8 0).toNatClampNeg) 0 (0, 0)).2))))) ∧ ((x2_30 = (-1)) ∨ (¬ (x3_30 < (if 0 ≤ (mf_question_R44 S p1 i_30q ((S 8 0).toNatClampNeg) 0 (0, 0)).2 then (mf_question_R44 S p1 i_30q ((S 8 0).toNatClampNeg) 0 (0, 0)).2 else (-((mf_question_R44 S p1 i_30q ((S 8 0).toNatClampNeg) 0 (0, 0)).2))))))) then (if 0 ≤ (mf_question_R44 S p1 i_30q ((S 8 0).toNatClampNeg) 0 (0, 0)).2 then (mf_question_R44 S p1 i_30q ((S 8 0).toNatClampNeg) 0 (0, 0)).2 else (-((mf_question_R44 S p1 i_30q ((S 8 0).toNatClampNeg) 0 (0, 0)).2))) else x3_30)), (0, .ref q), (1, .int p1), (2, .int (if ((((S 30 p1.toNatClampNeg) >>> ((nI i_30q) &&& 31)) &&& 1) = 0) ∧ ((¬ ((mf_question_R44 S p1 i_30q ((S 8 0).toNatClampNeg) 0 (0, 0)).1 ≤ (if 0 ≤ (mf_question_R44 S p1 i_30q ((S 8 0).toNatClampNeg) 0 (0, 0)).2 then (mf_question_R44 S p1 i_30q ((S 8 0).toNatClampNeg) 0 (0, 0)).2 else (-((mf_question_R44 S p1 i_30q ((S 8 0).toNatClampNeg) 0 (0, 0)).2))))) ∧ ((x2_30 = (-1)) ∨ (¬ (x3_30 < (if 0 ≤ (mf_question_R44 S p1 i_30q ((S 8 0).toNatClampNeg) 0 (0, 0)).2 then (mf_question_R44 S p1 i_30q ((S 8 0).toNatClampNeg) 0 (0, 0)).2 else (-((mf_question_R44 S p1 i_30q ((S 8 0).toNatClampNeg) 0 (0, 0)).2))))))) then (nI i_30q) else x2_30)), (4, .int (nI i_30q))]) hx hb dX2_question_203 rfl hl (by decide) rfl (fun ls hl => ?_)
                      refine lv_iinc (v := ((nI i_30q) - 1)) (lv' := [(4, .int ((nI i_30q) - 1)), (3, .int (if ((((S 30 p1.toNatClampNeg) >>> ((nI i_30q) &&& 31)) &&& 1) = 0) ∧ ((¬ ((mf_question_R44 S p1 i_30q ((S 8 0).toNatClampNeg) 0 (0, 0)).1 ≤ (if 0 ≤ (mf_question_R44 S p1 i_30q ((S 8 0).toNatClampNeg) 0 (0, 0)).2 then (mf_question_R44 S p1 i_30q ((S 8 0).toNatClampNeg) 0 (0, 0)).2 else (-((mf_question_R44 S p1 i_30q ((S 8 0).toNatClampNeg) 0 (0, 0)).2))))) ∧ ((x2_30 = (-1)) ∨ (¬ (x3_30 < (if 0 ≤ (mf_question_R44 S p1 i_30q ((S 8 0).toNatClampNeg) 0 (0, 0)).2 then (mf_question_R44 S p1 i_30q ((S 8 0).toNatClampNeg) 0 (0, 0)).2 else (-((mf_question_R44 S p1 i_30q ((S 8 0).toNatClampNeg) 0 (0, 0)).2))))))) then (if 0 ≤ (mf_question_R44 S p1 i_30q ((S 8 0).toNatClampNeg) 0 (0, 0)).2 then (mf_question_R44 S p1 i_30q ((S 8 0).toNatClampNeg) 0 (0, 0)).2 else (-((mf_question_R44 S p1 i_30q ((S 8 0).toNatClampNeg) 0 (0, 0)).2))) else x3_30)), (0, .ref q), (1, .int p1), (2, .int (if ((((S 30 p1.toNatClampNeg) >>> ((nI i_30q) &&& 31)) &&& 1) = 0) ∧ ((¬ ((mf_question_R44 S p1 i_30q ((S 8 0).toNatClampNeg) 0 (0, 0)).1 ≤ (if 0 ≤ (mf_question_R44 S p1 i_30q ((S 8 0).toNatClampNeg) 0 (0, 0)).2 then (mf_question_R44 S p1 i_30q ((S 8 0).toNatClampNeg) 0 (0, 0)).2 else (-((mf_question_R44 S p1 i_30q ((S 8 0).toNatClampNeg) 0 (0, 0)).2))))) ∧ ((x2_30 = (-1)) ∨ (¬ (x3_30 < (if 0 ≤ (mf_question_R44 S p1 i_30q ((S 8 0).toNatClampNeg) 0 (0, 0)).2 then (mf_question_R44 S p1 i_30q ((S 8 0).toNatClampNeg) 0 (0, 0)).2 else (-((mf_question_R44 S p1 i_30q ((S 8 0).toNatClampNeg) 0 (0, 0)).2))))))) then (nI i_30q) else x2_30))]) hx hb dX2_question_204 hl (k := 4) rfl (lp_dec _) (by decide) rfl (fun ls hl => ?_)
                      refine lv_goto (tgt := 30) hx hb dX2_question_207 (by decide) ?_
                      exact ih_30 i_30q (if ((((S 30 p1.toNatClampNeg) >>> ((nI i_30q) &&& 31)) &&& 1) = 0) ∧ ((¬ ((mf_question_R44 S p1 i_30q ((S 8 0).toNatClampNeg) 0 (0, 0)).1 ≤ (if 0 ≤ (mf_question_R44 S p1 i_30q ((S 8 0).toNatClampNeg) 0 (0, 0)).2 then (mf_question_R44 S p1 i_30q ((S 8 0).toNatClampNeg) 0 (0, 0)).2 else (-((mf_question_R44 S p1 i_30q ((S 8 0).toNatClampNeg) 0 (0, 0)).2))))) ∧ ((x2_30 = (-1)) ∨ (¬ (x3_30 < (if 0 ≤ (mf_question_R44 S p1 i_30q ((S 8 0).toNatClampNeg) 0 (0, 0)).2 then (mf_question_R44 S p1 i_30q ((S 8 0).toNatClampNeg) 0 (0, 0)).2 else (-((mf_question_R44 S p1 i_30q ((S 8 0).toNatClampNeg) 0 (0, 0)).2))))))) then (nI i_30q) else x2_30) (if ((((S 30 p1.toNatClampNeg) >>> ((nI i_30q) &&& 31)) &&& 1) = 0) ∧ ((¬ ((mf_question_R44 S p1 i_30q ((S 8 0).toNatClampNeg) 0 (0, 0)).1 ≤ (if 0 ≤ (mf_question_R44 S p1 i_30q ((S 8 0).toNatClampNeg) 0 (0, 0)).2 then (mf_question_R44 S p1 i_30q ((S 8 0).toNatClampNeg) 0 (0, 0)).2 else (-((mf_question_R44 S p1 i_30q ((S 8 0).toNatClampNeg) 0 (0, 0)).2))))) ∧ ((x2_30 = (-1)) ∨ (¬ (x3_30 < (if 0 ≤ (mf_question_R44 S p1 i_30q ((S 8 0).toNatClampNeg) 0 (0, 0)).2 then (mf_question_R44 S p1 i_30q ((S 8 0).toNatClampNeg) 0 (0, 0)).2 else (-((mf_question_R44 S p1 i_30q ((S 8 0).toNatClampNeg) 0 (0, 0)).2))))))) then (if 0 ≤ (mf_question_R44 S p1 i_30q ((S 8 0).toNatClampNeg) 0 (0, 0)).2 then (mf_question_R44 S p1 i_30q ((S 8 0).toNatClampNeg) 0 (0, 0)).2 else (-((mf_question_R44 S p1 i_30q ((S 8 0).toNatClampNeg) 0 (0, 0)).2))) else x3_30) _ _ _ ⟨rfl, by omega⟩ ((congrArg (fun z => mf_question_R30 S p1 i_30q z) hf_30).trans hg_30) hR hS (lv_sub hl [2, 3, 4, 1, 0] rfl)
                    refine lv_if_eq (tgt := 202) hx hb dX2_question_194 (by decide) (fun c_5 => ?_) (fun c_5 => ?_)
                    · skip
                      have c_5 : ¬ (((((S 30 p1.toNatClampNeg) >>> ((nI i_30q) &&& 31)) &&& 1) = 0) ∧ ((¬ ((mf_question_R44 S p1 i_30q ((S 8 0).toNatClampNeg) 0 (0, 0)).1 ≤ (if 0 ≤ (mf_question_R44 S p1 i_30q ((S 8 0).toNatClampNeg) 0 (0, 0)).2 then (mf_question_R44 S p1 i_30q ((S 8 0).toNatClampNeg) 0 (0, 0)).2 else (-((mf_question_R44 S p1 i_30q ((S 8 0).toNatClampNeg) 0 (0, 0)).2))))) ∧ ((x2_30 = (-1)) ∨ (¬ (x3_30 < (if 0 ≤ (mf_question_R44 S p1 i_30q ((S 8 0).toNatClampNeg) 0 (0, 0)).2 then (mf_question_R44 S p1 i_30q ((S 8 0).toNatClampNeg) 0 (0, 0)).2 else (-((mf_question_R44 S p1 i_30q ((S 8 0).toNatClampNeg) 0 (0, 0)).2)))))))) := gs_zf (φ := ((((S 30 p1.toNatClampNeg) >>> ((nI i_30q) &&& 31)) &&& 1) = 0) ∧ ((¬ ((mf_question_R44 S p1 i_30q ((S 8 0).toNatClampNeg) 0 (0, 0)).1 ≤ (if 0 ≤ (mf_question_R44 S p1 i_30q ((S 8 0).toNatClampNeg) 0 (0, 0)).2 then (mf_question_R44 S p1 i_30q ((S 8 0).toNatClampNeg) 0 (0, 0)).2 else (-((mf_question_R44 S p1 i_30q ((S 8 0).toNatClampNeg) 0 (0, 0)).2))))) ∧ ((x2_30 = (-1)) ∨ (¬ (x3_30 < (if 0 ≤ (mf_question_R44 S p1 i_30q ((S 8 0).toNatClampNeg) 0 (0, 0)).2 then (mf_question_R44 S p1 i_30q ((S 8 0).toNatClampNeg) 0 (0, 0)).2 else (-((mf_question_R44 S p1 i_30q ((S 8 0).toNatClampNeg) 0 (0, 0)).2)))))))) c_5
                      refine lv_iload_n hx hb dX2_question_202 rfl (lv_at hl 3 rfl) ?_
                      exact hJ_203 _ _ _ x3_30 ((if_neg c_5).symm) hR hS (lv_sub hl [1, 2, 0, 4] rfl)
                    · skip
                      have c_5 : ((((S 30 p1.toNatClampNeg) >>> ((nI i_30q) &&& 31)) &&& 1) = 0) ∧ ((¬ ((mf_question_R44 S p1 i_30q ((S 8 0).toNatClampNeg) 0 (0, 0)).1 ≤ (if 0 ≤ (mf_question_R44 S p1 i_30q ((S 8 0).toNatClampNeg) 0 (0, 0)).2 then (mf_question_R44 S p1 i_30q ((S 8 0).toNatClampNeg) 0 (0, 0)).2 else (-((mf_question_R44 S p1 i_30q ((S 8 0).toNatClampNeg) 0 (0, 0)).2))))) ∧ ((x2_30 = (-1)) ∨ (¬ (x3_30 < (if 0 ≤ (mf_question_R44 S p1 i_30q ((S 8 0).toNatClampNeg) 0 (0, 0)).2 then (mf_question_R44 S p1 i_30q ((S 8 0).toNatClampNeg) 0 (0, 0)).2 else (-((mf_question_R44 S p1 i_30q ((S 8 0).toNatClampNeg) 0 (0, 0)).2))))))) := gs_zt (φ := ((((S 30 p1.toNatClampNeg) >>> ((nI i_30q) &&& 31)) &&& 1) = 0) ∧ ((¬ ((mf_question_R44 S p1 i_30q ((S 8 0).toNatClampNeg) 0 (0, 0)).1 ≤ (if 0 ≤ (mf_question_R44 S p1 i_30q ((S 8 0).toNatClampNeg) 0 (0, 0)).2 then (mf_question_R44 S p1 i_30q ((S 8 0).toNatClampNeg) 0 (0, 0)).2 else (-((mf_question_R44 S p1 i_30q ((S 8 0).toNatClampNeg) 0 (0, 0)).2))))) ∧ ((x2_30 = (-1)) ∨ (¬ (x3_30 < (if 0 ≤ (mf_question_R44 S p1 i_30q ((S 8 0).toNatClampNeg) 0 (0, 0)).2 then (mf_question_R44 S p1 i_30q ((S 8 0).toNatClampNeg) 0 (0, 0)).2 else (-((mf_question_R44 S p1 i_30q ((S 8 0).toNatClampNeg) 0 (0, 0)).2)))))))) c_5
                      have c_6 := c_5.1
                      have c_7 := c_5.2
                      have c_8 := c_7.1
                      have c_9 := c_7.2
                      refine lv_iload hx hb dX2_question_197 (lv_at hl 5 rfl) ?_
                      refine lv_goto (tgt := 203) hx hb dX2_question_199 (by decide) ?_
                      exact hJ_203 _ _ _ (if 0 ≤ (mf_question_R44 S p1 i_30q ((S 8 0).toNatClampNeg) 0 (0, 0)).2 then (mf_question_R44 S p1 i_30q ((S 8 0).toNatClampNeg) 0 (0, 0)).2 else (-((mf_question_R44 S p1 i_30q ((S 8 0).toNatClampNeg) 0 (0, 0)).2))) ((if_pos c_5).symm) hR hS (lv_sub hl [1, 2, 0, 4] rfl)
                  refine lv_if_eq (tgt := 190) hx hb dX2_question_182 (by decide) (fun c_10 => ?_) (fun c_10 => ?_)
                  · skip
                    have c_10 : ¬ (((((S 30 p1.toNatClampNeg) >>> ((nI i_30q) &&& 31)) &&& 1) = 0) ∧ ((¬ ((mf_question_R44 S p1 i_30q ((S 8 0).toNatClampNeg) 0 (0, 0)).1 ≤ (if 0 ≤ (mf_question_R44 S p1 i_30q ((S 8 0).toNatClampNeg) 0 (0, 0)).2 then (mf_question_R44 S p1 i_30q ((S 8 0).toNatClampNeg) 0 (0, 0)).2 else (-((mf_question_R44 S p1 i_30q ((S 8 0).toNatClampNeg) 0 (0, 0)).2))))) ∧ ((x2_30 = (-1)) ∨ (¬ (x3_30 < (if 0 ≤ (mf_question_R44 S p1 i_30q ((S 8 0).toNatClampNeg) 0 (0, 0)).2 then (mf_question_R44 S p1 i_30q ((S 8 0).toNatClampNeg) 0 (0, 0)).2 else (-((mf_question_R44 S p1 i_30q ((S 8 0).toNatClampNeg) 0 (0, 0)).2)))))))) := gs_zf (φ := ((((S 30 p1.toNatClampNeg) >>> ((nI i_30q) &&& 31)) &&& 1) = 0) ∧ ((¬ ((mf_question_R44 S p1 i_30q ((S 8 0).toNatClampNeg) 0 (0, 0)).1 ≤ (if 0 ≤ (mf_question_R44 S p1 i_30q ((S 8 0).toNatClampNeg) 0 (0, 0)).2 then (mf_question_R44 S p1 i_30q ((S 8 0).toNatClampNeg) 0 (0, 0)).2 else (-((mf_question_R44 S p1 i_30q ((S 8 0).toNatClampNeg) 0 (0, 0)).2))))) ∧ ((x2_30 = (-1)) ∨ (¬ (x3_30 < (if 0 ≤ (mf_question_R44 S p1 i_30q ((S 8 0).toNatClampNeg) 0 (0, 0)).2 then (mf_question_R44 S p1 i_30q ((S 8 0).toNatClampNeg) 0 (0, 0)).2 else (-((mf_question_R44 S p1 i_30q ((S 8 0).toNatClampNeg) 0 (0, 0)).2)))))))) c_10
                    refine lv_iload_n hx hb dX2_question_190 rfl (lv_at hl 3 rfl) ?_
                    exact hJ_191 _ _ _ x2_30 ((if_neg c_10).symm) hR hS (lv_sub hl [1, 2, 4, 5, 6, 0] rfl)
                  · skip
                    have c_10 : ((((S 30 p1.toNatClampNeg) >>> ((nI i_30q) &&& 31)) &&& 1) = 0) ∧ ((¬ ((mf_question_R44 S p1 i_30q ((S 8 0).toNatClampNeg) 0 (0, 0)).1 ≤ (if 0 ≤ (mf_question_R44 S p1 i_30q ((S 8 0).toNatClampNeg) 0 (0, 0)).2 then (mf_question_R44 S p1 i_30q ((S 8 0).toNatClampNeg) 0 (0, 0)).2 else (-((mf_question_R44 S p1 i_30q ((S 8 0).toNatClampNeg) 0 (0, 0)).2))))) ∧ ((x2_30 = (-1)) ∨ (¬ (x3_30 < (if 0 ≤ (mf_question_R44 S p1 i_30q ((S 8 0).toNatClampNeg) 0 (0, 0)).2 then (mf_question_R44 S p1 i_30q ((S 8 0).toNatClampNeg) 0 (0, 0)).2 else (-((mf_question_R44 S p1 i_30q ((S 8 0).toNatClampNeg) 0 (0, 0)).2))))))) := gs_zt (φ := ((((S 30 p1.toNatClampNeg) >>> ((nI i_30q) &&& 31)) &&& 1) = 0) ∧ ((¬ ((mf_question_R44 S p1 i_30q ((S 8 0).toNatClampNeg) 0 (0, 0)).1 ≤ (if 0 ≤ (mf_question_R44 S p1 i_30q ((S 8 0).toNatClampNeg) 0 (0, 0)).2 then (mf_question_R44 S p1 i_30q ((S 8 0).toNatClampNeg) 0 (0, 0)).2 else (-((mf_question_R44 S p1 i_30q ((S 8 0).toNatClampNeg) 0 (0, 0)).2))))) ∧ ((x2_30 = (-1)) ∨ (¬ (x3_30 < (if 0 ≤ (mf_question_R44 S p1 i_30q ((S 8 0).toNatClampNeg) 0 (0, 0)).2 then (mf_question_R44 S p1 i_30q ((S 8 0).toNatClampNeg) 0 (0, 0)).2 else (-((mf_question_R44 S p1 i_30q ((S 8 0).toNatClampNeg) 0 (0, 0)).2)))))))) c_10
                    have c_11 := c_10.1
                    have c_12 := c_10.2
                    have c_13 := c_12.1
                    have c_14 := c_12.2
                    refine lv_iload hx hb dX2_question_185 (lv_at hl 5 rfl) ?_
                    refine lv_goto (tgt := 191) hx hb dX2_question_187 (by decide) ?_
                    exact hJ_191 _ _ _ (nI i_30q) ((if_pos c_10).symm) hR hS (lv_sub hl [1, 2, 4, 5, 6, 0] rfl)
                refine lv_if_ne (tgt := 177) hx hb dX2_question_152 (by decide) (fun c_15 => ?_) (fun c_15 => ?_)
                · skip
                  refine lv_iconst (v := 0) hx hb dX2_question_177 (by decide) ?_
                  exact hJ_178 _ _ _ 0 (gi_0 (gi_ca_f c_15)) hR hS (lv_sub hl [1, 2, 3, 4, 5, 0] rfl)
                · skip
                  refine lv_iload hx hb dX2_question_155 (lv_at hl 0 rfl) ?_
                  refine lv_iload hx hb dX2_question_157 (lv_at hl 6 rfl) ?_
                  refine lv_icmp_ge (tgt := 177) hx hb dX2_question_159 (by decide) (fun c_16 => ?_) (fun c_16 => ?_)
                  · skip
                    refine lv_iconst (v := 0) hx hb dX2_question_177 (by decide) ?_
                    exact hJ_178 _ _ _ 0 (gi_0 ((gi_na_t c_16).trans (gi_ca_t c_15))) hR hS (lv_sub hl [1, 2, 3, 4, 5, 0] rfl)
                  · skip
                    refine lv_iload_n hx hb dX2_question_162 rfl (lv_at hl 3 rfl) ?_
                    refine lv_iconst (v := (-1)) hx hb dX2_question_163 (by decide) ?_
                    refine lv_icmp_eq (tgt := 173) hx hb dX2_question_164 (by decide) (fun c_17 => ?_) (fun c_17 => ?_)
                    · skip
                      refine lv_iconst (v := 1) hx hb dX2_question_173 (by decide) ?_
                      refine lv_goto (tgt := 178) hx hb dX2_question_174 (by decide) ?_
                      exact hJ_178 _ _ _ 1 (gi_1 (((gi_co_t c_17).trans (gi_na_f c_16)).trans (gi_ca_t c_15))) hR hS (lv_sub hl [1, 2, 3, 4, 5, 0] rfl)
                    · skip
                      refine lv_iload hx hb dX2_question_167 (lv_at hl 0 rfl) ?_
                      refine lv_iload_n hx hb dX2_question_169 rfl (lv_at hl 4 rfl) ?_
                      refine lv_icmp_gt (tgt := 177) hx hb dX2_question_170 (by decide) (fun c_18 => ?_) (fun c_18 => ?_)
                      · skip
                        refine lv_iconst (v := 0) hx hb dX2_question_177 (by decide) ?_
                        exact hJ_178 _ _ _ 0 (gi_0 ((((gi_nb_t c_18).trans (gi_co_f c_17)).trans (gi_na_f c_16)).trans (gi_ca_t c_15))) hR hS (lv_sub hl [1, 2, 3, 4, 5, 0] rfl)
                      · skip
                        refine lv_iconst (v := 1) hx hb dX2_question_173 (by decide) ?_
                        refine lv_goto (tgt := 178) hx hb dX2_question_174 (by decide) ?_
                        exact hJ_178 _ _ _ 1 (gi_1 ((((gi_nb_f c_18).trans (gi_co_f c_17)).trans (gi_na_f c_16)).trans (gi_ca_t c_15))) hR hS (lv_sub hl [1, 2, 3, 4, 5, 0] rfl)
              refine lv_if_ge (tgt := 137) hx hb dX2_question_128 (by decide) (fun c_19 => ?_) (fun c_19 => ?_)
              · skip
                refine lv_iload hx hb dX2_question_137 (lv_at hl 6 rfl) ?_
                exact hJ_139 _ _ _ ((mf_question_R44 S p1 i_30q ((S 8 0).toNatClampNeg) 0 (0, 0)).2) ((if_pos c_19).symm) hR hS (lv_sub hl [0, 1, 2, 3, 4, 5] rfl)
              · skip
                refine lv_iload hx hb dX2_question_131 (lv_at hl 6 rfl) ?_
                refine lv_ineg hx hb dX2_question_133 ?_
                refine lv_goto (tgt := 139) hx hb dX2_question_134 (by decide) ?_
                exact hJ_139 _ _ _ (-((mf_question_R44 S p1 i_30q ((S 8 0).toNatClampNeg) 0 (0, 0)).2)) ((if_neg c_19).symm) hR hS (lv_sub hl [0, 1, 2, 3, 4, 5] rfl)
            | succ n_44 ih_44 =>
              intro i_44 x5_44 x6_44 H locs ls hi_44 hg_44 hR hS hl
              have hlt_44 : i_44 < (S 8 0).toNatClampNeg := by omega
              have hf_44 : mf_question_L44 S p1 i_30q i_44 x5_44 x6_44 = mf_question_L44 S p1 i_30q i_44 x5_44 x6_44 := rfl
              refine lv_iload hx hb dX2_question_44 (lv_at hl 7 rfl) ?_
              refine lv_aload_n hx hb dX2_question_46 rfl (lv_at hl 0 rfl) ?_
              refine mr_geti (v := (S 8 0)) hx hb hts hown hK hR 8 (by decide) rfl (hts _ q959) (fun _ h9 => h9) (congrFun (gs_sk rfl) 0) dX2_question_47 ?_
              refine lv_icmp_ge (tgt := 126) hx hb dX2_question_50 (by decide) (fun c_20 => absurd c_20 (lp_x1 (mi_n hok) hlt_44 (mi_nb hok))) (fun c_20 => ?_)
              refine lv_aload_n hx hb dX2_question_53 rfl (lv_at hl 0 rfl) ?_
              refine lv_iload hx hb dX2_question_54 (lv_at hl 7 rfl) ?_
              refine lv_iload_n hx hb dX2_question_56 rfl (lv_at hl 1 rfl) ?_
              refine mr_calli (As := [.int (nI i_44), .int p1]) (rest := []) ⟨hx, hb, hml, hown, hts⟩ (mt_isAsked l E q ad L (gs_up S 0 0 (if ¬ ((mf_isClaim S p1) = true) then 1 else 0)) (nI i_44) p1) (cwV 2 hts (lw_V q1249 q1251 qs30 q41 q1252) rfl rfl rfl (by decide +kernel) ⟨Nat.le_of_ble_eq_true rfl, Nat.le_of_ble_eq_true rfl⟩) ⟨(mi_row (k := 0) (by decide) hok), (by first | assumption | exact vp_in_nI (show i_44 < 30 by omega) (by decide)), (by first | assumption | exact mi_c hok (by assumption))⟩ hK hR (fun _ h => h) hS rfl hl.1 rfl (Nat.le_of_ble_eq_true rfl) dX2_question_57 ⟨Nat.le_refl _, Nat.le_refl _⟩ (fun H locs hR hS _ _ => ?_)
              refine lv_istore (lv' := [(8, .int (if (mf_isAsked (gs_up S 0 0 (if ¬ ((mf_isClaim S p1) = true) then 1 else 0)) (nI i_44) p1) = true then 1 else 0)), (0, .ref q), (1, .int p1), (2, .int x2_30), (3, .int x3_30), (4, .int (nI i_30q)), (5, .int x5_44), (6, .int x6_44), (7, .int (nI i_44))]) hx hb dX2_question_60 hl (by decide) rfl (fun ls hl => ?_)
              refine lv_iload hx hb dX2_question_62 (lv_at hl 6 rfl) ?_
              refine lv_iload hx hb dX2_question_64 (lv_at hl 0 rfl) ?_
              have hJ_74 : ∀ (H : Heap) (locs : List Loc) (ls : Array Slot) (v_74 : Int32), v_74 = (if (mf_isAsked (gs_up S 0 0 (if ¬ ((mf_isClaim S p1) = true) then 1 else 0)) (nI i_44) p1) = true then 1 else 0) → mr_W E q ad L (gs_up S 0 0 (if ¬ ((mf_isClaim S p1) = true) then 1 else 0)) H → va_S (mr_A L) s.heap H locs → lv_has ls 9 [(0, .ref q), (1, .int p1), (2, .int x2_30), (3, .int x3_30), (4, .int (nI i_30q)), (6, .int x6_44), (7, .int (nI i_44)), (8, .int (if (mf_isAsked (gs_up S 0 0 (if ¬ ((mf_isClaim S p1) = true) then 1 else 0)) (nI i_44) p1) = true then 1 else 0))] → mr_G p l e { frames := 4, cells := 0, slots := 0, locals := 95 } s m [.ref q, .int p1] below meth c (mr_A L) (mr_Qi E q ad L (mf_question S p1).1 (mf_question S p1).2) H locs (F0 m 74 ls [.int v_74, .int x5_44]) := by
                intro H locs ls v_74 e_v_74 hR hS hl
                subst e_v_74
                refine lv_iadd hx hb dX2_question_74 ?_
                refine lv_istore (lv' := [(5, .int (x5_44 + (if (mf_isAsked (gs_up S 0 0 (if ¬ ((mf_isClaim S p1) = true) then 1 else 0)) (nI i_44) p1) = true then 1 else 0))), (0, .ref q), (1, .int p1), (2, .int x2_30), (3, .int x3_30), (4, .int (nI i_30q)), (6, .int x6_44), (7, .int (nI i_44)), (8, .int (if (mf_isAsked (gs_up S 0 0 (if ¬ ((mf_isClaim S p1) = true) then 1 else 0)) (nI i_44) p1) = true then 1 else 0))]) hx hb dX2_question_75 hl (by decide) rfl (fun ls hl => ?_)
                refine lv_iload hx hb dX2_question_77 (lv_at hl 6 rfl) ?_
                refine lv_iload hx hb dX2_question_79 (lv_at hl 8 rfl) ?_
                have hJ_117 : ∀ (H : Heap) (locs : List Loc) (ls : Array Slot) (v_117 : Int32), v_117 = (if (mf_isAsked (gs_up S 0 0 (if ¬ ((mf_isClaim S p1) = true) then 1 else 0)) (nI i_44) p1) = true then (if ((((S 12 i_44) ||| (S 13 i_44)) >>> ((nI i_30q) &&& 31)) &&& 1) = 1 then 1 else (-1)) else 0) → (v_117 = 0 ↔ (¬ ((mf_isAsked (gs_up S 0 0 (if ¬ ((mf_isClaim S p1) = true) then 1 else 0)) (nI i_44) p1) = true))) → mr_W E q ad L (gs_up S 0 0 (if ¬ ((mf_isClaim S p1) = true) then 1 else 0)) H → va_S (mr_A L) s.heap H locs → lv_has ls 9 [(0, .ref q), (1, .int p1), (2, .int x2_30), (3, .int x3_30), (4, .int (nI i_30q)), (5, .int (x5_44 + (if (mf_isAsked (gs_up S 0 0 (if ¬ ((mf_isClaim S p1) = true) then 1 else 0)) (nI i_44) p1) = true then 1 else 0))), (7, .int (nI i_44))] → mr_G p l e { frames := 4, cells := 0, slots := 0, locals := 95 } s m [.ref q, .int p1] below meth c (mr_A L) (mr_Qi E q ad L (mf_question S p1).1 (mf_question S p1).2) H locs (F0 m 117 ls [.int v_117, .int x6_44]) := by
                  intro H locs ls v_117 e_v_117 e0_v_117 hR hS hl
                  subst e_v_117
                  refine lv_iadd hx hb dX2_question_117 ?_
                  refine lv_istore (lv' := [(6, .int (x6_44 + (if (mf_isAsked (gs_up S 0 0 (if ¬ ((mf_isClaim S p1) = true) then 1 else 0)) (nI i_44) p1) = true then (if ((((S 12 i_44) ||| (S 13 i_44)) >>> ((nI i_30q) &&& 31)) &&& 1) = 1 then 1 else (-1)) else 0))), (0, .ref q), (1, .int p1), (2, .int x2_30), (3, .int x3_30), (4, .int (nI i_30q)), (5, .int (x5_44 + (if (mf_isAsked (gs_up S 0 0 (if ¬ ((mf_isClaim S p1) = true) then 1 else 0)) (nI i_44) p1) = true then 1 else 0))), (7, .int (nI i_44))]) hx hb dX2_question_118 hl (by decide) rfl (fun ls hl => ?_)
                  refine lv_iinc (v := (nI (i_44 + 1))) (lv' := [(7, .int (nI (i_44 + 1))), (6, .int (x6_44 + (if (mf_isAsked (gs_up S 0 0 (if ¬ ((mf_isClaim S p1) = true) then 1 else 0)) (nI i_44) p1) = true then (if ((((S 12 i_44) ||| (S 13 i_44)) >>> ((nI i_30q) &&& 31)) &&& 1) = 1 then 1 else (-1)) else 0))), (0, .ref q), (1, .int p1), (2, .int x2_30), (3, .int x3_30), (4, .int (nI i_30q)), (5, .int (x5_44 + (if (mf_isAsked (gs_up S 0 0 (if ¬ ((mf_isClaim S p1) = true) then 1 else 0)) (nI i_44) p1) = true then 1 else 0)))]) hx hb dX2_question_120 hl (k := 7) rfl (nI_1 i_44) (by decide) rfl (fun ls hl => ?_)
                  refine lv_goto (tgt := 44) hx hb dX2_question_123 (by decide) ?_
                  exact ih_44 (i_44 + 1) (x5_44 + (if (mf_isAsked (gs_up S 0 0 (if ¬ ((mf_isClaim S p1) = true) then 1 else 0)) (nI i_44) p1) = true then 1 else 0)) (x6_44 + (if (mf_isAsked (gs_up S 0 0 (if ¬ ((mf_isClaim S p1) = true) then 1 else 0)) (nI i_44) p1) = true then (if ((((S 12 i_44) ||| (S 13 i_44)) >>> ((nI i_30q) &&& 31)) &&& 1) = 1 then 1 else (-1)) else 0)) _ _ _ (by omega) ((congrArg (fun z => mf_question_R44 S p1 i_30q n_44 (i_44 + 1) z) hf_44).trans hg_44) hR hS (lv_sub hl [2, 3, 4, 5, 6, 7, 1, 0] rfl)
                refine lv_if_ne (tgt := 88) hx hb dX2_question_81 (by decide) (fun c_21 => ?_) (fun c_21 => ?_)
                · skip
                  have c_21 : (mf_isAsked (gs_up S 0 0 (if ¬ ((mf_isClaim S p1) = true) then 1 else 0)) (nI i_44) p1) = true := gs_zt (φ := (mf_isAsked (gs_up S 0 0 (if ¬ ((mf_isClaim S p1) = true) then 1 else 0)) (nI i_44) p1) = true) c_21
                  refine lv_aload_n hx hb dX2_question_88 rfl (lv_at hl 1 rfl) ?_
                  refine mr_geta hx hb hts hown hK hR 12 (by decide) rfl (hts _ q963) (fun _ h9 => h9) dX2_question_89 ?_
                  refine lv_iload hx hb dX2_question_92 (lv_at hl 7 rfl) ?_
                  refine mr_ald (v := (S 12 i_44)) hx hb hK hR 12 30 rfl (by decide) rfl (by first | assumption | exact vp_in_nI (show i_44 < 30 by omega) (by decide)) ((congrArg (fun z => (gs_up S 0 0 (if ¬ ((mf_isClaim S p1) = true) then 1 else 0)) 12 z) (nI_clamp (show i_44 < 2 ^ 31 by omega))).trans (congrFun (gs_sk rfl) i_44)) dX2_question_94 ?_
                  refine lv_aload_n hx hb dX2_question_95 rfl (lv_at hl 1 rfl) ?_
                  refine mr_geta hx hb hts hown hK hR 13 (by decide) rfl (hts _ q964) (fun _ h9 => h9) dX2_question_96 ?_
                  refine lv_iload hx hb dX2_question_99 (lv_at hl 7 rfl) ?_
                  refine mr_ald (v := (S 13 i_44)) hx hb hK hR 13 30 rfl (by decide) rfl (by first | assumption | exact vp_in_nI (show i_44 < 30 by omega) (by decide)) ((congrArg (fun z => (gs_up S 0 0 (if ¬ ((mf_isClaim S p1) = true) then 1 else 0)) 13 z) (nI_clamp (show i_44 < 2 ^ 31 by omega))).trans (congrFun (gs_sk rfl) i_44)) dX2_question_101 ?_
                  refine lv_ior hx hb dX2_question_102 ?_
                  refine lv_iload hx hb dX2_question_103 (lv_at hl 5 rfl) ?_
                  refine lv_ishr hx hb dX2_question_105 ?_
                  refine lv_iconst (v := 1) hx hb dX2_question_106 (by decide) ?_
                  refine lv_iand hx hb dX2_question_107 ?_
                  refine lv_iconst (v := 1) hx hb dX2_question_108 (by decide) ?_
                  refine lv_icmp_ne (tgt := 116) hx hb dX2_question_109 (by decide) (fun c_22 => ?_) (fun c_22 => ?_)
                  · skip
                    refine lv_iconst (v := (-1)) hx hb dX2_question_116 (by decide) ?_
                    exact hJ_117 _ _ _ (-1) (((if_neg c_22).symm).trans (if_pos c_21).symm) (gi_z0 (by decide) (gi_nb_t c_21)) hR hS (lv_sub hl [1, 2, 3, 4, 5, 0, 7] rfl)
                  · skip
                    refine lv_iconst (v := 1) hx hb dX2_question_112 (by decide) ?_
                    refine lv_goto (tgt := 117) hx hb dX2_question_113 (by decide) ?_
                    exact hJ_117 _ _ _ 1 (((if_pos c_22).symm).trans (if_pos c_21).symm) (gi_z0 (by decide) (gi_nb_t c_21)) hR hS (lv_sub hl [1, 2, 3, 4, 5, 0, 7] rfl)
                · skip
                  have c_21 : ¬ ((mf_isAsked (gs_up S 0 0 (if ¬ ((mf_isClaim S p1) = true) then 1 else 0)) (nI i_44) p1) = true) := gs_zf (φ := (mf_isAsked (gs_up S 0 0 (if ¬ ((mf_isClaim S p1) = true) then 1 else 0)) (nI i_44) p1) = true) c_21
                  refine lv_iconst (v := 0) hx hb dX2_question_84 (by decide) ?_
                  refine lv_goto (tgt := 117) hx hb dX2_question_85 (by decide) ?_
                  exact hJ_117 _ _ _ 0 ((if_neg c_21).symm) (gi_z1 (gi_nb_f c_21)) hR hS (lv_sub hl [1, 2, 3, 4, 5, 0, 7] rfl)
              refine lv_if_eq (tgt := 73) hx hb dX2_question_66 (by decide) (fun c_23 => ?_) (fun c_23 => ?_)
              · skip
                have c_23 : ¬ ((mf_isAsked (gs_up S 0 0 (if ¬ ((mf_isClaim S p1) = true) then 1 else 0)) (nI i_44) p1) = true) := gs_zf (φ := (mf_isAsked (gs_up S 0 0 (if ¬ ((mf_isClaim S p1) = true) then 1 else 0)) (nI i_44) p1) = true) c_23
                refine lv_iconst (v := 0) hx hb dX2_question_73 (by decide) ?_
                exact hJ_74 _ _ _ 0 (gi_0 (gi_cb_f c_23)) hR hS (lv_sub hl [1, 2, 3, 4, 5, 7, 8, 0] rfl)
              · skip
                have c_23 : (mf_isAsked (gs_up S 0 0 (if ¬ ((mf_isClaim S p1) = true) then 1 else 0)) (nI i_44) p1) = true := gs_zt (φ := (mf_isAsked (gs_up S 0 0 (if ¬ ((mf_isClaim S p1) = true) then 1 else 0)) (nI i_44) p1) = true) c_23
                refine lv_iconst (v := 1) hx hb dX2_question_69 (by decide) ?_
                refine lv_goto (tgt := 74) hx hb dX2_question_70 (by decide) ?_
                exact hJ_74 _ _ _ 1 (gi_1 (gi_cb_t c_23)) hR hS (lv_sub hl [1, 2, 3, 4, 5, 7, 8, 0] rfl)
          exact hL_44 ((S 8 0).toNatClampNeg) 0 0 0 _ _ _ (by omega) rfl hR hS (lv_sub hl [3, 4, 5, 6, 7, 2, 1, 0] rfl)
      exact hL_30 24 24 (-1) 0 _ _ _ ⟨rfl, Nat.le_refl _⟩ rfl hR hS (lv_sub hl [3, 4, 2, 1, 0] rfl)
    · skip
      have c_1 : ¬ ((mf_isClaim S p1) = true) := fun k => gs_zf (φ := (if ¬ ((mf_isClaim S p1) = true) then 1 else 0) = 0) c_1 ((gi_bzn (φ := (mf_isClaim S p1) = true)).mpr k)
      have hf := (if_neg c_1).symm.trans hf
      refine lv_iconst (v := 0) hx hb dX2_question_20 (by decide) ?_
      exact W.iret (v := 0) hx hb hr (fun t ht hW => ⟨⟨_, _, rfl, ⟨(congrArg Prod.fst hf), (congrArg Prod.snd hf)⟩, mr_bt ht hR⟩, hS.F ht⟩) hS.2.2 dX2_question_21
  refine lv_if_eq (tgt := 13) hx hb dX2_question_6 (by decide) (fun c_24 => ?_) (fun c_24 => ?_)
  · skip
    have c_24 : ¬ ((mf_isClaim S p1) = true) := gs_zf (φ := (mf_isClaim S p1) = true) c_24
    refine lv_iconst (v := 1) hx hb dX2_question_13 (by decide) ?_
    exact hJ_14 _ _ _ 1 (gi_1 (gi_nb_f c_24)) hR hS (lv_sub hl [0, 1] rfl)
  · skip
    have c_24 : (mf_isClaim S p1) = true := gs_zt (φ := (mf_isClaim S p1) = true) c_24
    refine lv_iconst (v := 0) hx hb dX2_question_9 (by decide) ?_
    refine lv_goto (tgt := 14) hx hb dX2_question_10 (by decide) ?_
    exact hJ_14 _ _ _ 0 (gi_0 (gi_nb_t c_24)) hR hS (lv_sub hl [0, 1] rfl)
set_option maxHeartbeats 2000000 in
set_option maxRecDepth 100000 in
theorem mt_isProven (l : Launch) (E : en_T) (q : Nat) (ad : Nat → Nat) (L : List Nat) (S : gs_T) (p1 : Int32) (p2 : Int32) : Met l yX2_isProven (ws_ yX2_isProven cX2_isProven 3 (some .boolean)) { frames := 2, cells := 0, slots := 0, locals := 46 } (mr_Pc E q ad L S [.int p1, .int p2] (mi_ok S)) (mr_Qi E q ad L (gs_bz (mf_isProven S p1 p2).1) (mf_isProven S p1 p2).2) 0 0 (mr_A L) := by
  refine mr_start (by decide) rfl (Nat.le_of_ble_eq_true rfl) ?_
  intro p e s m below meth c ls hx hb hr hlocks hml hown hts hK hP hl hR
  have hl : lv_has ls 3 [(0, .ref q), (1, .int p1), (2, .int p2)] := hl
  have hS : va_S (mr_A L) s.heap s.heap [] := va_S.rf
  have hok := hP
  have hf : (mf_isProven S p1 p2) = (mf_isProven S p1 p2) := rfl
  refine lv_aload_n hx hb dX2_isProven_0 rfl (lv_at hl 0 rfl) ?_
  refine lv_aload_n hx hb dX2_isProven_1 rfl (lv_at hl 0 rfl) ?_
  refine lv_iload_n hx hb dX2_isProven_2 rfl (lv_at hl 1 rfl) ?_
  refine mr_calli (As := [.int p1]) (rest := [.ref q]) ⟨hx, hb, hml, hown, hts⟩ (mt_isFind l E q ad L S p1) (cwV 1 hts (lw_V q1129 q1131 qs17 q41 q1132) rfl rfl rfl (by decide +kernel) ⟨Nat.le_of_ble_eq_true rfl, Nat.le_of_ble_eq_true rfl⟩) trivial hK hR (fun _ h => h) hS rfl hl.1 rfl (Nat.le_of_ble_eq_true rfl) dX2_isProven_3 ⟨Nat.le_refl _, Nat.le_refl _⟩ (fun H locs hR hS _ _ => ?_)
  have hJ_22 : ∀ (H : Heap) (locs : List Loc) (ls : Array Slot) (v_22 : Int32), v_22 = (if (¬ ((mf_isFind S p1) = true)) ∨ (¬ ((mf_isClaim S p2) = true)) then 1 else 0) → mr_W E q ad L S H → va_S (mr_A L) s.heap H locs → lv_has ls 3 [(0, .ref q), (1, .int p1), (2, .int p2)] → mr_G p l e { frames := 2, cells := 0, slots := 0, locals := 46 } s m [.ref q, .int p1, .int p2] below meth c (mr_A L) (mr_Qi E q ad L (gs_bz (mf_isProven S p1 p2).1) (mf_isProven S p1 p2).2) H locs (F0 m 22 ls [.int v_22, .ref q]) := by
    intro H locs ls v_22 e_v_22 hR hS hl
    subst e_v_22
    refine mr_calli (As := [.int (if (¬ ((mf_isFind S p1) = true)) ∨ (¬ ((mf_isClaim S p2) = true)) then 1 else 0)]) (rest := []) ⟨hx, hb, hml, hown, hts⟩ (mt_holds l E q ad L S (if (¬ ((mf_isFind S p1) = true)) ∨ (¬ ((mf_isClaim S p2) = true)) then 1 else 0)) (cwV 1 hts (lw_V q1081 q1083 qs15 q41 q1084) rfl rfl rfl (by decide +kernel) ⟨Nat.le_of_ble_eq_true rfl, Nat.le_of_ble_eq_true rfl⟩) trivial hK hR (fun _ h => h) hS rfl hl.1 rfl (Nat.le_of_ble_eq_true rfl) dX2_isProven_22 ⟨Nat.le_refl _, Nat.le_refl _⟩ (fun H locs hR hS _ _ => ?_)
    have hJ_42 : ∀ (H : Heap) (locs : List Loc) (ls : Array Slot) (v_42 : Int32), v_42 = (if (¬ ((¬ ((mf_isFind S p1) = true)) ∨ (¬ ((mf_isClaim S p2) = true)))) ∧ ((mf_proves (gs_up S 0 0 (if (¬ ((mf_isFind S p1) = true)) ∨ (¬ ((mf_isClaim S p2) = true)) then 1 else 0)) p1 p2) = true) then 1 else 0) → mr_W E q ad L (gs_up S 0 0 (if (¬ ((mf_isFind S p1) = true)) ∨ (¬ ((mf_isClaim S p2) = true)) then 1 else 0)) H → va_S (mr_A L) s.heap H locs → lv_has ls 3 [] → mr_G p l e { frames := 2, cells := 0, slots := 0, locals := 46 } s m [.ref q, .int p1, .int p2] below meth c (mr_A L) (mr_Qi E q ad L (gs_bz (mf_isProven S p1 p2).1) (mf_isProven S p1 p2).2) H locs (F0 m 42 ls [.int v_42]) := by
      intro H locs ls v_42 e_v_42 hR hS hl
      subst e_v_42
      exact W.zret (v := (if (¬ ((¬ ((mf_isFind S p1) = true)) ∨ (¬ ((mf_isClaim S p2) = true)))) ∧ ((mf_proves (gs_up S 0 0 (if (¬ ((mf_isFind S p1) = true)) ∨ (¬ ((mf_isClaim S p2) = true)) then 1 else 0)) p1 p2) = true) then 1 else 0)) hx hb hr gs_nar (fun t ht hW => ⟨⟨_, _, rfl, ⟨(gs_bz_dec.trans (congrArg gs_bz (congrArg Prod.fst hf))), (congrArg Prod.snd hf)⟩, mr_bt ht hR⟩, hS.F ht⟩) hS.2.2 dX2_isProven_42
    refine lv_if_eq (tgt := 41) hx hb dX2_isProven_25 (by decide) (fun c_1 => ?_) (fun c_1 => ?_)
    · skip
      have c_1 : ¬ (¬ ((¬ ((mf_isFind S p1) = true)) ∨ (¬ ((mf_isClaim S p2) = true)))) := fun k => gs_zf (φ := (if (¬ ((mf_isFind S p1) = true)) ∨ (¬ ((mf_isClaim S p2) = true)) then 1 else 0) = 0) c_1 ((gi_bz (φ := (¬ ((mf_isFind S p1) = true)) ∨ (¬ ((mf_isClaim S p2) = true)))).mpr k)
      have c_2 := Decidable.not_not.mp c_1
      refine lv_iconst (v := 0) hx hb dX2_isProven_41 (by decide) ?_
      exact hJ_42 _ _ _ 0 (gi_0 (gi_ca_f c_1)) hR hS (lv_sub hl [] rfl)
    · skip
      have c_1 : ¬ ((¬ ((mf_isFind S p1) = true)) ∨ (¬ ((mf_isClaim S p2) = true))) := (gi_bz (φ := (¬ ((mf_isFind S p1) = true)) ∨ (¬ ((mf_isClaim S p2) = true)))).mp (gs_zt (φ := (if (¬ ((mf_isFind S p1) = true)) ∨ (¬ ((mf_isClaim S p2) = true)) then 1 else 0) = 0) c_1)
      have c_3 := (not_or.mp c_1).1
      have c_4 := (not_or.mp c_1).2
      have c_5 := Decidable.not_not.mp c_3
      have c_6 := Decidable.not_not.mp c_4
      refine lv_aload_n hx hb dX2_isProven_28 rfl (lv_at hl 0 rfl) ?_
      refine lv_iload_n hx hb dX2_isProven_29 rfl (lv_at hl 1 rfl) ?_
      refine lv_iload_n hx hb dX2_isProven_30 rfl (lv_at hl 2 rfl) ?_
      refine mr_calli (As := [.int p1, .int p2]) (rest := []) ⟨hx, hb, hml, hown, hts⟩ (mt_proves l E q ad L (gs_up S 0 0 (if (¬ ((mf_isFind S p1) = true)) ∨ (¬ ((mf_isClaim S p2) = true)) then 1 else 0)) p1 p2) (cwV 2 hts (lw_V q1201 q1203 qs26 q41 q1204) rfl rfl rfl (by decide +kernel) ⟨Nat.le_of_ble_eq_true rfl, Nat.le_of_ble_eq_true rfl⟩) ⟨(by first | assumption | exact mi_f hok (by assumption)), (by first | assumption | exact mi_c hok (by assumption))⟩ hK hR (fun _ h => h) hS rfl hl.1 rfl (Nat.le_of_ble_eq_true rfl) dX2_isProven_31 ⟨Nat.le_refl _, Nat.le_refl _⟩ (fun H locs hR hS _ _ => ?_)
      refine lv_if_eq (tgt := 41) hx hb dX2_isProven_34 (by decide) (fun c_7 => ?_) (fun c_7 => ?_)
      · skip
        have c_7 : ¬ ((mf_proves (gs_up S 0 0 (if (¬ ((mf_isFind S p1) = true)) ∨ (¬ ((mf_isClaim S p2) = true)) then 1 else 0)) p1 p2) = true) := gs_zf (φ := (mf_proves (gs_up S 0 0 (if (¬ ((mf_isFind S p1) = true)) ∨ (¬ ((mf_isClaim S p2) = true)) then 1 else 0)) p1 p2) = true) c_7
        refine lv_iconst (v := 0) hx hb dX2_isProven_41 (by decide) ?_
        exact hJ_42 _ _ _ 0 (gi_0 ((gi_cb_f c_7).trans (gi_ca_t c_1))) hR hS (lv_sub hl [] rfl)
      · skip
        have c_7 : (mf_proves (gs_up S 0 0 (if (¬ ((mf_isFind S p1) = true)) ∨ (¬ ((mf_isClaim S p2) = true)) then 1 else 0)) p1 p2) = true := gs_zt (φ := (mf_proves (gs_up S 0 0 (if (¬ ((mf_isFind S p1) = true)) ∨ (¬ ((mf_isClaim S p2) = true)) then 1 else 0)) p1 p2) = true) c_7
        refine lv_iconst (v := 1) hx hb dX2_isProven_37 (by decide) ?_
        refine lv_goto (tgt := 42) hx hb dX2_isProven_38 (by decide) ?_
        exact hJ_42 _ _ _ 1 (gi_1 ((gi_cb_t c_7).trans (gi_ca_t c_1))) hR hS (lv_sub hl [] rfl)
  refine lv_if_eq (tgt := 21) hx hb dX2_isProven_6 (by decide) (fun c_8 => ?_) (fun c_8 => ?_)
  · skip
    have c_8 : ¬ ((mf_isFind S p1) = true) := gs_zf (φ := (mf_isFind S p1) = true) c_8
    refine lv_iconst (v := 1) hx hb dX2_isProven_21 (by decide) ?_
    exact hJ_22 _ _ _ 1 (gi_1 (gi_no_f c_8)) hR hS (lv_sub hl [0, 1, 2] rfl)
  · skip
    have c_8 : (mf_isFind S p1) = true := gs_zt (φ := (mf_isFind S p1) = true) c_8
    refine lv_aload_n hx hb dX2_isProven_9 rfl (lv_at hl 0 rfl) ?_
    refine lv_iload_n hx hb dX2_isProven_10 rfl (lv_at hl 2 rfl) ?_
    refine mr_calli (As := [.int p2]) (rest := [.ref q]) ⟨hx, hb, hml, hown, hts⟩ (mt_isClaim l E q ad L S p2) (cwV 1 hts (lw_V q1165 q1167 qs20 q41 q1168) rfl rfl rfl (by decide +kernel) ⟨Nat.le_of_ble_eq_true rfl, Nat.le_of_ble_eq_true rfl⟩) trivial hK hR (fun _ h => h) hS rfl hl.1 rfl (Nat.le_of_ble_eq_true rfl) dX2_isProven_11 ⟨Nat.le_refl _, Nat.le_refl _⟩ (fun H locs hR hS _ _ => ?_)
    refine lv_if_eq (tgt := 21) hx hb dX2_isProven_14 (by decide) (fun c_9 => ?_) (fun c_9 => ?_)
    · skip
      have c_9 : ¬ ((mf_isClaim S p2) = true) := gs_zf (φ := (mf_isClaim S p2) = true) c_9
      refine lv_iconst (v := 1) hx hb dX2_isProven_21 (by decide) ?_
      exact hJ_22 _ _ _ 1 (gi_1 ((gi_nb_f c_9).trans (gi_no_t c_8))) hR hS (lv_sub hl [0, 1, 2] rfl)
    · skip
      have c_9 : (mf_isClaim S p2) = true := gs_zt (φ := (mf_isClaim S p2) = true) c_9
      refine lv_iconst (v := 0) hx hb dX2_isProven_17 (by decide) ?_
      refine lv_goto (tgt := 22) hx hb dX2_isProven_18 (by decide) ?_
      exact hJ_22 _ _ _ 0 (gi_0 ((gi_nb_t c_9).trans (gi_no_t c_8))) hR hS (lv_sub hl [0, 1, 2] rfl)
set_option maxHeartbeats 2000000 in
set_option maxRecDepth 100000 in
theorem mt_isDue (l : Launch) (E : en_T) (q : Nat) (ad : Nat → Nat) (L : List Nat) (S : gs_T) (p1 : Int32) : Met l yX2_isDue (ws_ yX2_isDue cX2_isDue 2 (some .boolean)) { frames := 4, cells := 0, slots := 0, locals := 96 } (mr_Pc E q ad L S [.int p1] (mi_ok S)) (mr_Qi E q ad L (gs_bz (mf_isDue S p1).1) (mf_isDue S p1).2) 0 0 (mr_A L) := by
  refine mr_start (by decide) rfl (Nat.le_of_ble_eq_true rfl) ?_
  intro p e s m below meth c ls hx hb hr hlocks hml hown hts hK hP hl hR
  have hl : lv_has ls 2 [(0, .ref q), (1, .int p1)] := hl
  have hS : va_S (mr_A L) s.heap s.heap [] := va_S.rf
  have hok := hP
  have hf : (mf_isDue S p1) = (mf_isDue S p1) := rfl
  refine lv_aload_n hx hb dX2_isDue_0 rfl (lv_at hl 0 rfl) ?_
  refine lv_aload_n hx hb dX2_isDue_1 rfl (lv_at hl 0 rfl) ?_
  refine lv_iload_n hx hb dX2_isDue_2 rfl (lv_at hl 1 rfl) ?_
  refine mr_calli (As := [.int p1]) (rest := [.ref q]) ⟨hx, hb, hml, hown, hts⟩ (mt_isFind l E q ad L S p1) (cwV 1 hts (lw_V q1129 q1131 qs17 q41 q1132) rfl rfl rfl (by decide +kernel) ⟨Nat.le_of_ble_eq_true rfl, Nat.le_of_ble_eq_true rfl⟩) trivial hK hR (fun _ h => h) hS rfl hl.1 rfl (Nat.le_of_ble_eq_true rfl) dX2_isDue_3 ⟨Nat.le_refl _, Nat.le_refl _⟩ (fun H locs hR hS _ _ => ?_)
  have hJ_14 : ∀ (H : Heap) (locs : List Loc) (ls : Array Slot) (v_14 : Int32), v_14 = (if ¬ ((mf_isFind S p1) = true) then 1 else 0) → mr_W E q ad L S H → va_S (mr_A L) s.heap H locs → lv_has ls 2 [(0, .ref q), (1, .int p1)] → mr_G p l e { frames := 4, cells := 0, slots := 0, locals := 96 } s m [.ref q, .int p1] below meth c (mr_A L) (mr_Qi E q ad L (gs_bz (mf_isDue S p1).1) (mf_isDue S p1).2) H locs (F0 m 14 ls [.int v_14, .ref q]) := by
    intro H locs ls v_14 e_v_14 hR hS hl
    subst e_v_14
    refine mr_calli (As := [.int (if ¬ ((mf_isFind S p1) = true) then 1 else 0)]) (rest := []) ⟨hx, hb, hml, hown, hts⟩ (mt_holds l E q ad L S (if ¬ ((mf_isFind S p1) = true) then 1 else 0)) (cwV 1 hts (lw_V q1081 q1083 qs15 q41 q1084) rfl rfl rfl (by decide +kernel) ⟨Nat.le_of_ble_eq_true rfl, Nat.le_of_ble_eq_true rfl⟩) trivial hK hR (fun _ h => h) hS rfl hl.1 rfl (Nat.le_of_ble_eq_true rfl) dX2_isDue_14 ⟨Nat.le_refl _, Nat.le_refl _⟩ (fun H locs hR hS _ _ => ?_)
    have hJ_33 : ∀ (H : Heap) (locs : List Loc) (ls : Array Slot) (v_33 : Int32), v_33 = (if ((mf_isFind S p1) = true) ∧ ((mf_isOver (gs_up S 0 0 (if ¬ ((mf_isFind S p1) = true) then 1 else 0)) p1) = true) then 1 else 0) → mr_W E q ad L (gs_up S 0 0 (if ¬ ((mf_isFind S p1) = true) then 1 else 0)) H → va_S (mr_A L) s.heap H locs → lv_has ls 2 [] → mr_G p l e { frames := 4, cells := 0, slots := 0, locals := 96 } s m [.ref q, .int p1] below meth c (mr_A L) (mr_Qi E q ad L (gs_bz (mf_isDue S p1).1) (mf_isDue S p1).2) H locs (F0 m 33 ls [.int v_33]) := by
      intro H locs ls v_33 e_v_33 hR hS hl
      subst e_v_33
      exact W.zret (v := (if ((mf_isFind S p1) = true) ∧ ((mf_isOver (gs_up S 0 0 (if ¬ ((mf_isFind S p1) = true) then 1 else 0)) p1) = true) then 1 else 0)) hx hb hr gs_nar (fun t ht hW => ⟨⟨_, _, rfl, ⟨(gs_bz_dec.trans (congrArg gs_bz (congrArg Prod.fst hf))), (congrArg Prod.snd hf)⟩, mr_bt ht hR⟩, hS.F ht⟩) hS.2.2 dX2_isDue_33
    refine lv_if_eq (tgt := 32) hx hb dX2_isDue_17 (by decide) (fun c_1 => ?_) (fun c_1 => ?_)
    · skip
      have c_1 : ¬ ((mf_isFind S p1) = true) := fun k => gs_zf (φ := (if ¬ ((mf_isFind S p1) = true) then 1 else 0) = 0) c_1 ((gi_bzn (φ := (mf_isFind S p1) = true)).mpr k)
      refine lv_iconst (v := 0) hx hb dX2_isDue_32 (by decide) ?_
      exact hJ_33 _ _ _ 0 (gi_0 (gi_ca_f c_1)) hR hS (lv_sub hl [] rfl)
    · skip
      have c_1 : (mf_isFind S p1) = true := (gi_bzn (φ := (mf_isFind S p1) = true)).mp (gs_zt (φ := (if ¬ ((mf_isFind S p1) = true) then 1 else 0) = 0) c_1)
      refine lv_aload_n hx hb dX2_isDue_20 rfl (lv_at hl 0 rfl) ?_
      refine lv_iload_n hx hb dX2_isDue_21 rfl (lv_at hl 1 rfl) ?_
      refine mr_calli (As := [.int p1]) (rest := []) ⟨hx, hb, hml, hown, hts⟩ (mt_isOver l E q ad L (gs_up S 0 0 (if ¬ ((mf_isFind S p1) = true) then 1 else 0)) p1) (cwV 1 hts (lw_V q1217 q1219 qs28 q41 q1220) rfl rfl rfl (by decide +kernel) ⟨Nat.le_of_ble_eq_true rfl, Nat.le_of_ble_eq_true rfl⟩) ⟨(mi_row (k := 0) (by decide) hok), (by first | assumption | exact mi_f hok (by assumption))⟩ hK hR (fun _ h => h) hS rfl hl.1 rfl (Nat.le_of_ble_eq_true rfl) dX2_isDue_22 ⟨Nat.le_refl _, Nat.le_refl _⟩ (fun H locs hR hS _ _ => ?_)
      refine lv_if_eq (tgt := 32) hx hb dX2_isDue_25 (by decide) (fun c_2 => ?_) (fun c_2 => ?_)
      · skip
        have c_2 : ¬ ((mf_isOver (gs_up S 0 0 (if ¬ ((mf_isFind S p1) = true) then 1 else 0)) p1) = true) := gs_zf (φ := (mf_isOver (gs_up S 0 0 (if ¬ ((mf_isFind S p1) = true) then 1 else 0)) p1) = true) c_2
        refine lv_iconst (v := 0) hx hb dX2_isDue_32 (by decide) ?_
        exact hJ_33 _ _ _ 0 (gi_0 ((gi_cb_f c_2).trans (gi_ca_t c_1))) hR hS (lv_sub hl [] rfl)
      · skip
        have c_2 : (mf_isOver (gs_up S 0 0 (if ¬ ((mf_isFind S p1) = true) then 1 else 0)) p1) = true := gs_zt (φ := (mf_isOver (gs_up S 0 0 (if ¬ ((mf_isFind S p1) = true) then 1 else 0)) p1) = true) c_2
        refine lv_iconst (v := 1) hx hb dX2_isDue_28 (by decide) ?_
        refine lv_goto (tgt := 33) hx hb dX2_isDue_29 (by decide) ?_
        exact hJ_33 _ _ _ 1 (gi_1 ((gi_cb_t c_2).trans (gi_ca_t c_1))) hR hS (lv_sub hl [] rfl)
  refine lv_if_eq (tgt := 13) hx hb dX2_isDue_6 (by decide) (fun c_3 => ?_) (fun c_3 => ?_)
  · skip
    have c_3 : ¬ ((mf_isFind S p1) = true) := gs_zf (φ := (mf_isFind S p1) = true) c_3
    refine lv_iconst (v := 1) hx hb dX2_isDue_13 (by decide) ?_
    exact hJ_14 _ _ _ 1 (gi_1 (gi_nb_f c_3)) hR hS (lv_sub hl [0, 1] rfl)
  · skip
    have c_3 : (mf_isFind S p1) = true := gs_zt (φ := (mf_isFind S p1) = true) c_3
    refine lv_iconst (v := 0) hx hb dX2_isDue_9 (by decide) ?_
    refine lv_goto (tgt := 14) hx hb dX2_isDue_10 (by decide) ?_
    exact hJ_14 _ _ _ 0 (gi_0 (gi_nb_t c_3)) hR hS (lv_sub hl [0, 1] rfl)
set_option maxHeartbeats 2000000 in
set_option maxRecDepth 100000 in
theorem mt_ofFind (l : Launch) (E : en_T) (q : Nat) (ad : Nat → Nat) (L : List Nat) (S : gs_T) (p1 : Int32) (p2 : Int32) : Met l yX2_ofFind (ws_ yX2_ofFind cX2_ofFind 3 (some .int)) { frames := 2, cells := 0, slots := 0, locals := 43 } (mr_Pc E q ad L S [.int p1, .int p2] (mi_ok S)) (mr_Qi E q ad L (mf_ofFind S p1 p2).1 (mf_ofFind S p1 p2).2) 0 0 (mr_A L) := by
  refine mr_start (by decide) rfl (Nat.le_of_ble_eq_true rfl) ?_
  intro p e s m below meth c ls hx hb hr hlocks hml hown hts hK hP hl hR
  have hl : lv_has ls 3 [(0, .ref q), (1, .int p1), (2, .int p2)] := hl
  have hS : va_S (mr_A L) s.heap s.heap [] := va_S.rf
  have hok := hP
  have hf : (mf_ofFind S p1 p2) = (mf_ofFind S p1 p2) := rfl
  refine lv_aload_n hx hb dX2_ofFind_0 rfl (lv_at hl 0 rfl) ?_
  refine lv_aload_n hx hb dX2_ofFind_1 rfl (lv_at hl 0 rfl) ?_
  refine lv_iload_n hx hb dX2_ofFind_2 rfl (lv_at hl 1 rfl) ?_
  refine mr_calli (As := [.int p1]) (rest := [.ref q]) ⟨hx, hb, hml, hown, hts⟩ (mt_isFind l E q ad L S p1) (cwV 1 hts (lw_V q1129 q1131 qs17 q41 q1132) rfl rfl rfl (by decide +kernel) ⟨Nat.le_of_ble_eq_true rfl, Nat.le_of_ble_eq_true rfl⟩) trivial hK hR (fun _ h => h) hS rfl hl.1 rfl (Nat.le_of_ble_eq_true rfl) dX2_ofFind_3 ⟨Nat.le_refl _, Nat.le_refl _⟩ (fun H locs hR hS _ _ => ?_)
  have hJ_27 : ∀ (H : Heap) (locs : List Loc) (ls : Array Slot) (v_27 : Int32), v_27 = (if (mf_isFind S p1) = true then (if (mf_in p2 0 4) = true then 0 else 2) else 1) → (v_27 = 0 ↔ (((mf_isFind S p1) = true) ∧ ((mf_in p2 0 4) = true))) → mr_W E q ad L S H → va_S (mr_A L) s.heap H locs → lv_has ls 3 [(0, .ref q), (1, .int p1), (2, .int p2)] → mr_G p l e { frames := 2, cells := 0, slots := 0, locals := 43 } s m [.ref q, .int p1, .int p2] below meth c (mr_A L) (mr_Qi E q ad L (mf_ofFind S p1 p2).1 (mf_ofFind S p1 p2).2) H locs (F0 m 27 ls [.int v_27, .ref q]) := by
    intro H locs ls v_27 e_v_27 e0_v_27 hR hS hl
    subst e_v_27
    refine mr_calli (As := [.int (if (mf_isFind S p1) = true then (if (mf_in p2 0 4) = true then 0 else 2) else 1)]) (rest := []) ⟨hx, hb, hml, hown, hts⟩ (mt_holds l E q ad L S (if (mf_isFind S p1) = true then (if (mf_in p2 0 4) = true then 0 else 2) else 1)) (cwV 1 hts (lw_V q1081 q1083 qs15 q41 q1084) rfl rfl rfl (by decide +kernel) ⟨Nat.le_of_ble_eq_true rfl, Nat.le_of_ble_eq_true rfl⟩) trivial hK hR (fun _ h => h) hS rfl hl.1 rfl (Nat.le_of_ble_eq_true rfl) dX2_ofFind_27 ⟨Nat.le_refl _, Nat.le_refl _⟩ (fun H locs hR hS _ _ => ?_)
    refine lv_if_ne (tgt := 35) hx hb dX2_ofFind_30 (by decide) (fun c_1 => ?_) (fun c_1 => ?_)
    · skip
      have c_1 : ((mf_isFind S p1) = true) ∧ ((mf_in p2 0 4) = true) := e0_v_27.mp (gs_zt (φ := (if (mf_isFind S p1) = true then (if (mf_in p2 0 4) = true then 0 else 2) else 1) = 0) c_1)
      have hf := (if_pos c_1).symm.trans hf
      have c_2 := c_1.1
      have c_3 := c_1.2
      refine lv_iload_n hx hb dX2_ofFind_35 rfl (lv_at hl 2 rfl) ?_
      by_cases c_4 : p2 = 0
      · skip
        have hf := (if_pos c_4).symm.trans hf
        refine lv_tableIn (off := 32) (tgt := 68) hx hb dX2_ofFind_36 (by rw [c_4]; decide) (by rw [c_4]; decide) (by rw [c_4]; rfl) (by decide) ?_
        refine lv_aload_n hx hb dX2_ofFind_68 rfl (lv_at hl 0 rfl) ?_
        refine mr_geta hx hb hts hown hK hR 15 (by decide) rfl (hts _ q966) (fun _ h9 => h9) dX2_ofFind_69 ?_
        refine lv_iload_n hx hb dX2_ofFind_72 rfl (lv_at hl 1 rfl) ?_
        refine mr_ald (v := (S 15 p1.toNatClampNeg)) hx hb hK hR 15 30 rfl (by decide) rfl (by first | assumption | exact mi_f hok (by assumption)) (congrFun (gs_sk rfl) p1.toNatClampNeg) dX2_ofFind_73 ?_
        exact W.iret (v := (S 15 p1.toNatClampNeg)) hx hb hr (fun t ht hW => ⟨⟨_, _, rfl, ⟨(congrArg Prod.fst hf), (congrArg Prod.snd hf)⟩, mr_bt ht hR⟩, hS.F ht⟩) hS.2.2 dX2_ofFind_74
      · skip
        have hf := (if_neg c_4).symm.trans hf
        by_cases c_5 : p2 = 1
        · skip
          have hf := (if_pos c_5).symm.trans hf
          refine lv_tableIn (off := 39) (tgt := 75) hx hb dX2_ofFind_36 (by rw [c_5]; decide) (by rw [c_5]; decide) (by rw [c_5]; rfl) (by decide) ?_
          refine lv_aload_n hx hb dX2_ofFind_75 rfl (lv_at hl 0 rfl) ?_
          refine mr_geta hx hb hts hown hK hR 15 (by decide) rfl (hts _ q966) (fun _ h9 => h9) dX2_ofFind_76 ?_
          refine lv_iload_n hx hb dX2_ofFind_79 rfl (lv_at hl 1 rfl) ?_
          refine mr_ald (v := (S 15 p1.toNatClampNeg)) hx hb hK hR 15 30 rfl (by decide) rfl (by first | assumption | exact mi_f hok (by assumption)) (congrFun (gs_sk rfl) p1.toNatClampNeg) dX2_ofFind_80 ?_
          refine lv_iconst (v := 1) hx hb dX2_ofFind_81 (by decide) ?_
          have hJ_110 : ∀ (H : Heap) (locs : List Loc) (ls : Array Slot) (v_110 : Int32), v_110 = (if (S 15 p1.toNatClampNeg) = 1 then (S 17 p1.toNatClampNeg) else (if (S 15 p1.toNatClampNeg) = 2 then (S 17 p1.toNatClampNeg) else (S 16 p1.toNatClampNeg))) → mr_W E q ad L (gs_up S 0 0 (if (mf_isFind S p1) = true then (if (mf_in p2 0 4) = true then 0 else 2) else 1)) H → va_S (mr_A L) s.heap H locs → lv_has ls 3 [] → mr_G p l e { frames := 2, cells := 0, slots := 0, locals := 43 } s m [.ref q, .int p1, .int p2] below meth c (mr_A L) (mr_Qi E q ad L (mf_ofFind S p1 p2).1 (mf_ofFind S p1 p2).2) H locs (F0 m 110 ls [.int v_110]) := by
            intro H locs ls v_110 e_v_110 hR hS hl
            subst e_v_110
            exact W.iret (v := (if (S 15 p1.toNatClampNeg) = 1 then (S 17 p1.toNatClampNeg) else (if (S 15 p1.toNatClampNeg) = 2 then (S 17 p1.toNatClampNeg) else (S 16 p1.toNatClampNeg)))) hx hb hr (fun t ht hW => ⟨⟨_, _, rfl, ⟨(congrArg Prod.fst hf), (congrArg Prod.snd hf)⟩, mr_bt ht hR⟩, hS.F ht⟩) hS.2.2 dX2_ofFind_110
          refine lv_icmp_eq (tgt := 95) hx hb dX2_ofFind_82 (by decide) (fun c_6 => ?_) (fun c_6 => ?_)
          · skip
            refine lv_aload_n hx hb dX2_ofFind_95 rfl (lv_at hl 0 rfl) ?_
            refine mr_geta hx hb hts hown hK hR 17 (by decide) rfl (hts _ q968) (fun _ h9 => h9) dX2_ofFind_96 ?_
            refine lv_iload_n hx hb dX2_ofFind_99 rfl (lv_at hl 1 rfl) ?_
            refine mr_ald (v := (S 17 p1.toNatClampNeg)) hx hb hK hR 17 30 rfl (by decide) rfl (by first | assumption | exact mi_f hok (by assumption)) (congrFun (gs_sk rfl) p1.toNatClampNeg) dX2_ofFind_100 ?_
            refine lv_goto (tgt := 110) hx hb dX2_ofFind_101 (by decide) ?_
            exact hJ_110 _ _ _ (S 17 p1.toNatClampNeg) ((if_pos c_6).symm) hR hS (lv_sub hl [] rfl)
          · skip
            refine lv_aload_n hx hb dX2_ofFind_85 rfl (lv_at hl 0 rfl) ?_
            refine mr_geta hx hb hts hown hK hR 15 (by decide) rfl (hts _ q966) (fun _ h9 => h9) dX2_ofFind_86 ?_
            refine lv_iload_n hx hb dX2_ofFind_89 rfl (lv_at hl 1 rfl) ?_
            refine mr_ald (v := (S 15 p1.toNatClampNeg)) hx hb hK hR 15 30 rfl (by decide) rfl (by first | assumption | exact mi_f hok (by assumption)) (congrFun (gs_sk rfl) p1.toNatClampNeg) dX2_ofFind_90 ?_
            refine lv_iconst (v := 2) hx hb dX2_ofFind_91 (by decide) ?_
            refine lv_icmp_ne (tgt := 104) hx hb dX2_ofFind_92 (by decide) (fun c_7 => ?_) (fun c_7 => ?_)
            · skip
              refine lv_aload_n hx hb dX2_ofFind_104 rfl (lv_at hl 0 rfl) ?_
              refine mr_geta hx hb hts hown hK hR 16 (by decide) rfl (hts _ q967) (fun _ h9 => h9) dX2_ofFind_105 ?_
              refine lv_iload_n hx hb dX2_ofFind_108 rfl (lv_at hl 1 rfl) ?_
              refine mr_ald (v := (S 16 p1.toNatClampNeg)) hx hb hK hR 16 30 rfl (by decide) rfl (by first | assumption | exact mi_f hok (by assumption)) (congrFun (gs_sk rfl) p1.toNatClampNeg) dX2_ofFind_109 ?_
              exact hJ_110 _ _ _ (S 16 p1.toNatClampNeg) (((if_neg c_7).symm).trans (if_neg c_6).symm) hR hS (lv_sub hl [] rfl)
            · skip
              refine lv_aload_n hx hb dX2_ofFind_95 rfl (lv_at hl 0 rfl) ?_
              refine mr_geta hx hb hts hown hK hR 17 (by decide) rfl (hts _ q968) (fun _ h9 => h9) dX2_ofFind_96 ?_
              refine lv_iload_n hx hb dX2_ofFind_99 rfl (lv_at hl 1 rfl) ?_
              refine mr_ald (v := (S 17 p1.toNatClampNeg)) hx hb hK hR 17 30 rfl (by decide) rfl (by first | assumption | exact mi_f hok (by assumption)) (congrFun (gs_sk rfl) p1.toNatClampNeg) dX2_ofFind_100 ?_
              refine lv_goto (tgt := 110) hx hb dX2_ofFind_101 (by decide) ?_
              exact hJ_110 _ _ _ (S 17 p1.toNatClampNeg) (((if_pos c_7).symm).trans (if_neg c_6).symm) hR hS (lv_sub hl [] rfl)
        · skip
          have hf := (if_neg c_5).symm.trans hf
          by_cases c_8 : p2 = 2
          · skip
            have hf := (if_pos c_8).symm.trans hf
            refine lv_tableIn (off := 75) (tgt := 111) hx hb dX2_ofFind_36 (by rw [c_8]; decide) (by rw [c_8]; decide) (by rw [c_8]; rfl) (by decide) ?_
            refine lv_aload_n hx hb dX2_ofFind_111 rfl (lv_at hl 0 rfl) ?_
            refine mr_geta hx hb hts hown hK hR 18 (by decide) rfl (hts _ q969) (fun _ h9 => h9) dX2_ofFind_112 ?_
            refine lv_iload_n hx hb dX2_ofFind_115 rfl (lv_at hl 1 rfl) ?_
            refine mr_ald (v := (S 18 p1.toNatClampNeg)) hx hb hK hR 18 30 rfl (by decide) rfl (by first | assumption | exact mi_f hok (by assumption)) (congrFun (gs_sk rfl) p1.toNatClampNeg) dX2_ofFind_116 ?_
            exact W.iret (v := (S 18 p1.toNatClampNeg)) hx hb hr (fun t ht hW => ⟨⟨_, _, rfl, ⟨(congrArg Prod.fst hf), (congrArg Prod.snd hf)⟩, mr_bt ht hR⟩, hS.F ht⟩) hS.2.2 dX2_ofFind_117
          · skip
            have hf := (if_neg c_8).symm.trans hf
            by_cases c_9 : p2 = 3
            · skip
              have hf := (if_pos c_9).symm.trans hf
              refine lv_tableIn (off := 82) (tgt := 118) hx hb dX2_ofFind_36 (by rw [c_9]; decide) (by rw [c_9]; decide) (by rw [c_9]; rfl) (by decide) ?_
              refine lv_aload_n hx hb dX2_ofFind_118 rfl (lv_at hl 0 rfl) ?_
              refine mr_geta hx hb hts hown hK hR 12 (by decide) rfl (hts _ q963) (fun _ h9 => h9) dX2_ofFind_119 ?_
              refine lv_iload_n hx hb dX2_ofFind_122 rfl (lv_at hl 1 rfl) ?_
              refine mr_ald (v := (S 12 p1.toNatClampNeg)) hx hb hK hR 12 30 rfl (by decide) rfl (by first | assumption | exact mi_f hok (by assumption)) (congrFun (gs_sk rfl) p1.toNatClampNeg) dX2_ofFind_123 ?_
              exact W.iret (v := (S 12 p1.toNatClampNeg)) hx hb hr (fun t ht hW => ⟨⟨_, _, rfl, ⟨(congrArg Prod.fst hf), (congrArg Prod.snd hf)⟩, mr_bt ht hR⟩, hS.F ht⟩) hS.2.2 dX2_ofFind_124
            · skip
              have hf := (if_neg c_9).symm.trans hf
              refine lv_tableOut (tgt := 125) hx hb dX2_ofFind_36 (by have h0 := lv_neT (a := 0) c_4 rfl; have h1 := lv_neT (a := 1) c_5 rfl; have h2 := lv_neT (a := 2) c_8 rfl; have h3 := lv_neT (a := 3) c_9 rfl; omega) (by decide) ?_
              refine lv_aload_n hx hb dX2_ofFind_125 rfl (lv_at hl 0 rfl) ?_
              refine mr_geta hx hb hts hown hK hR 22 (by decide) rfl (hts _ q973) (fun _ h9 => h9) dX2_ofFind_126 ?_
              refine lv_iload_n hx hb dX2_ofFind_129 rfl (lv_at hl 1 rfl) ?_
              refine mr_ald (v := (S 22 p1.toNatClampNeg)) hx hb hK hR 22 30 rfl (by decide) rfl (by first | assumption | exact mi_f hok (by assumption)) (congrFun (gs_sk rfl) p1.toNatClampNeg) dX2_ofFind_130 ?_
              exact W.iret (v := (S 22 p1.toNatClampNeg)) hx hb hr (fun t ht hW => ⟨⟨_, _, rfl, ⟨(congrArg Prod.fst hf), (congrArg Prod.snd hf)⟩, mr_bt ht hR⟩, hS.F ht⟩) hS.2.2 dX2_ofFind_131
    · skip
      have c_1 : ¬ (((mf_isFind S p1) = true) ∧ ((mf_in p2 0 4) = true)) := fun k => gs_zf (φ := (if (mf_isFind S p1) = true then (if (mf_in p2 0 4) = true then 0 else 2) else 1) = 0) c_1 (e0_v_27.mpr k)
      have hf := (if_neg c_1).symm.trans hf
      refine lv_iconst (v := 0) hx hb dX2_ofFind_33 (by decide) ?_
      exact W.iret (v := 0) hx hb hr (fun t ht hW => ⟨⟨_, _, rfl, ⟨(congrArg Prod.fst hf), (congrArg Prod.snd hf)⟩, mr_bt ht hR⟩, hS.F ht⟩) hS.2.2 dX2_ofFind_34
  refine lv_if_ne (tgt := 13) hx hb dX2_ofFind_6 (by decide) (fun c_10 => ?_) (fun c_10 => ?_)
  · skip
    have c_10 : (mf_isFind S p1) = true := gs_zt (φ := (mf_isFind S p1) = true) c_10
    refine lv_iload_n hx hb dX2_ofFind_13 rfl (lv_at hl 2 rfl) ?_
    refine lv_iconst (v := 0) hx hb dX2_ofFind_14 (by decide) ?_
    refine lv_iconst (v := 4) hx hb dX2_ofFind_15 (by decide) ?_
    refine ps_calli (As := [.int p2, .int 0, .int 4]) (rest := [.ref q]) ⟨hx, hb, hml, hown, hts⟩ (mt_in l p2 0 4) (va_cwS 3 hts (lw_S q1078 q1079 q41 q1080) rfl rfl rfl (by decide +kernel) ⟨Nat.le_of_ble_eq_true rfl, Nat.le_of_ble_eq_true rfl⟩) trivial hS rfl hl.1 rfl (Nat.le_of_ble_eq_true rfl) dX2_ofFind_16 ⟨Nat.le_refl _, Nat.le_refl _⟩ (fun H locs hz hk hS => ?_)
    have hR := hR.kept (fun a _ h => hk a h)
    refine lv_if_eq (tgt := 26) hx hb dX2_ofFind_19 (by decide) (fun c_11 => ?_) (fun c_11 => ?_)
    · skip
      have c_11 : ¬ ((mf_in p2 0 4) = true) := gs_zf (φ := (mf_in p2 0 4) = true) c_11
      refine lv_iconst (v := 2) hx hb dX2_ofFind_26 (by decide) ?_
      exact hJ_27 _ _ _ 2 (((if_neg c_11).symm).trans (if_pos c_10).symm) (gi_z0 (by decide) ((gi_cb_f c_11).trans (gi_ca_t c_10))) hR hS (lv_sub hl [0, 1, 2] rfl)
    · skip
      have c_11 : (mf_in p2 0 4) = true := gs_zt (φ := (mf_in p2 0 4) = true) c_11
      refine lv_iconst (v := 0) hx hb dX2_ofFind_22 (by decide) ?_
      refine lv_goto (tgt := 27) hx hb dX2_ofFind_23 (by decide) ?_
      exact hJ_27 _ _ _ 0 (((if_pos c_11).symm).trans (if_pos c_10).symm) (gi_z1 ((gi_cb_t c_11).trans (gi_ca_t c_10))) hR hS (lv_sub hl [0, 1, 2] rfl)
  · skip
    have c_10 : ¬ ((mf_isFind S p1) = true) := gs_zf (φ := (mf_isFind S p1) = true) c_10
    refine lv_iconst (v := 1) hx hb dX2_ofFind_9 (by decide) ?_
    refine lv_goto (tgt := 27) hx hb dX2_ofFind_10 (by decide) ?_
    exact hJ_27 _ _ _ 1 ((if_neg c_10).symm) (gi_z0 (by decide) (gi_ca_f c_10)) hR hS (lv_sub hl [0, 1, 2] rfl)
set_option maxHeartbeats 2000000 in
set_option maxRecDepth 100000 in
theorem mt_hand (l : Launch) (E : en_T) (q : Nat) (ad : Nat → Nat) (L : List Nat) (S : gs_T) (p1 : Int32) (p2 : Int32) (p3 : Int32) : Met l yX2_hand (ws_ yX2_hand cX2_hand 5 (some .int)) { frames := 2, cells := 0, slots := 0, locals := 43 } (mr_Pc E q ad L S [.int p1, .int p2, .int p3] (mi_ok S)) (mr_Qi E q ad L (mf_hand S p1 p2 p3).1 (mf_hand S p1 p2 p3).2) 0 0 (mr_A L) := by
  refine mr_start (by decide) rfl (Nat.le_of_ble_eq_true rfl) ?_
  intro p e s m below meth c ls hx hb hr hlocks hml hown hts hK hP hl hR
  have hl : lv_has ls 5 [(0, .ref q), (1, .int p1), (2, .int p2), (3, .int p3)] := hl
  have hS : va_S (mr_A L) s.heap s.heap [] := va_S.rf
  have hok := hP
  have hf : (mf_hand S p1 p2 p3) = (mf_hand S p1 p2 p3) := rfl
  refine lv_aload_n hx hb dX2_hand_0 rfl (lv_at hl 0 rfl) ?_
  refine lv_iload_n hx hb dX2_hand_1 rfl (lv_at hl 1 rfl) ?_
  refine mr_calli (As := [.int p1]) (rest := []) ⟨hx, hb, hml, hown, hts⟩ (mt_isFind l E q ad L S p1) (cwV 1 hts (lw_V q1129 q1131 qs17 q41 q1132) rfl rfl rfl (by decide +kernel) ⟨Nat.le_of_ble_eq_true rfl, Nat.le_of_ble_eq_true rfl⟩) trivial hK hR (fun _ h => h) hS rfl hl.1 rfl (Nat.le_of_ble_eq_true rfl) dX2_hand_2 ⟨Nat.le_refl _, Nat.le_refl _⟩ (fun H locs hR hS _ _ => ?_)
  have hJ_29 : ∀ (H : Heap) (locs : List Loc) (ls : Array Slot) (v_29 : Int32), v_29 = (if ((mf_isFind S p1) = true) ∧ ((mf_in p2 0 ((S 22 p1.toNatClampNeg) - 1)) = true) then 1 else 0) → mr_W E q ad L S H → va_S (mr_A L) s.heap H locs → lv_has ls 5 [(0, .ref q), (1, .int p1), (2, .int p2), (3, .int p3)] → mr_G p l e { frames := 2, cells := 0, slots := 0, locals := 43 } s m [.ref q, .int p1, .int p2, .int p3] below meth c (mr_A L) (mr_Qi E q ad L (mf_hand S p1 p2 p3).1 (mf_hand S p1 p2 p3).2) H locs (F0 m 29 ls [.int v_29]) := by
    intro H locs ls v_29 e_v_29 hR hS hl
    subst e_v_29
    refine lv_istore (lv' := [(4, .int (if ((mf_isFind S p1) = true) ∧ ((mf_in p2 0 ((S 22 p1.toNatClampNeg) - 1)) = true) then 1 else 0)), (0, .ref q), (1, .int p1), (2, .int p2), (3, .int p3)]) hx hb dX2_hand_29 hl (by decide) rfl (fun ls hl => ?_)
    refine lv_aload_n hx hb dX2_hand_31 rfl (lv_at hl 1 rfl) ?_
    refine lv_iload hx hb dX2_hand_32 (lv_at hl 0 rfl) ?_
    have hJ_42 : ∀ (H : Heap) (locs : List Loc) (ls : Array Slot) (v_42 : Int32), v_42 = (if ¬ (((mf_isFind S p1) = true) ∧ ((mf_in p2 0 ((S 22 p1.toNatClampNeg) - 1)) = true)) then 1 else 0) → mr_W E q ad L S H → va_S (mr_A L) s.heap H locs → lv_has ls 5 [(0, .ref q), (1, .int p1), (2, .int p2), (3, .int p3)] → mr_G p l e { frames := 2, cells := 0, slots := 0, locals := 43 } s m [.ref q, .int p1, .int p2, .int p3] below meth c (mr_A L) (mr_Qi E q ad L (mf_hand S p1 p2 p3).1 (mf_hand S p1 p2 p3).2) H locs (F0 m 42 ls [.int v_42, .ref q]) := by
      intro H locs ls v_42 e_v_42 hR hS hl
      subst e_v_42
      refine mr_calli (As := [.int (if ¬ (((mf_isFind S p1) = true) ∧ ((mf_in p2 0 ((S 22 p1.toNatClampNeg) - 1)) = true)) then 1 else 0)]) (rest := []) ⟨hx, hb, hml, hown, hts⟩ (mt_holds l E q ad L S (if ¬ (((mf_isFind S p1) = true) ∧ ((mf_in p2 0 ((S 22 p1.toNatClampNeg) - 1)) = true)) then 1 else 0)) (cwV 1 hts (lw_V q1081 q1083 qs15 q41 q1084) rfl rfl rfl (by decide +kernel) ⟨Nat.le_of_ble_eq_true rfl, Nat.le_of_ble_eq_true rfl⟩) trivial hK hR (fun _ h => h) hS rfl hl.1 rfl (Nat.le_of_ble_eq_true rfl) dX2_hand_42 ⟨Nat.le_refl _, Nat.le_refl _⟩ (fun H locs hR hS _ _ => ?_)
      refine lv_if_ne (tgt := 50) hx hb dX2_hand_45 (by decide) (fun c_1 => ?_) (fun c_1 => ?_)
      · skip
        have c_1 : ((mf_isFind S p1) = true) ∧ ((mf_in p2 0 ((S 22 p1.toNatClampNeg) - 1)) = true) := (gi_bzn (φ := ((mf_isFind S p1) = true) ∧ ((mf_in p2 0 ((S 22 p1.toNatClampNeg) - 1)) = true))).mp (gs_zt (φ := (if ¬ (((mf_isFind S p1) = true) ∧ ((mf_in p2 0 ((S 22 p1.toNatClampNeg) - 1)) = true)) then 1 else 0) = 0) c_1)
        have hf := (if_pos c_1).symm.trans hf
        have c_2 := c_1.1
        have c_3 := c_1.2
        refine lv_iload_n hx hb dX2_hand_50 rfl (lv_at hl 3 rfl) ?_
        have hJ_79 : ∀ (H : Heap) (locs : List Loc) (ls : Array Slot) (v_79 : Int32), v_79 = (if p3 = 0 then (S 23 (((12 * p1) + p2).toNatClampNeg)) else (S 24 (((12 * p1) + p2).toNatClampNeg))) → mr_W E q ad L (gs_up S 0 0 (if ¬ (((mf_isFind S p1) = true) ∧ ((mf_in p2 0 ((S 22 p1.toNatClampNeg) - 1)) = true)) then 1 else 0)) H → va_S (mr_A L) s.heap H locs → lv_has ls 5 [] → mr_G p l e { frames := 2, cells := 0, slots := 0, locals := 43 } s m [.ref q, .int p1, .int p2, .int p3] below meth c (mr_A L) (mr_Qi E q ad L (mf_hand S p1 p2 p3).1 (mf_hand S p1 p2 p3).2) H locs (F0 m 79 ls [.int v_79]) := by
          intro H locs ls v_79 e_v_79 hR hS hl
          subst e_v_79
          exact W.iret (v := (if p3 = 0 then (S 23 (((12 * p1) + p2).toNatClampNeg)) else (S 24 (((12 * p1) + p2).toNatClampNeg)))) hx hb hr (fun t ht hW => ⟨⟨_, _, rfl, ⟨(congrArg Prod.fst hf), (congrArg Prod.snd hf)⟩, mr_bt ht hR⟩, hS.F ht⟩) hS.2.2 dX2_hand_79
        refine lv_if_eq (tgt := 68) hx hb dX2_hand_51 (by decide) (fun c_4 => ?_) (fun c_4 => ?_)
        · skip
          refine lv_aload_n hx hb dX2_hand_68 rfl (lv_at hl 0 rfl) ?_
          refine mr_geta hx hb hts hown hK hR 23 (by decide) rfl (hts _ q974) (fun _ h9 => h9) dX2_hand_69 ?_
          refine lv_bipush (v := 12) hx hb dX2_hand_72 (by decide) ?_
          refine lv_iload_n hx hb dX2_hand_74 rfl (lv_at hl 1 rfl) ?_
          refine lv_imul hx hb dX2_hand_75 ?_
          refine lv_iload_n hx hb dX2_hand_76 rfl (lv_at hl 2 rfl) ?_
          refine lv_iadd hx hb dX2_hand_77 ?_
          refine mr_ald (v := (S 23 (((12 * p1) + p2).toNatClampNeg))) hx hb hK hR 23 360 rfl (by decide) rfl (by first | assumption | exact mi_hix hok (by assumption) (by assumption)) (congrFun (gs_sk rfl) (((12 * p1) + p2).toNatClampNeg)) dX2_hand_78 ?_
          exact hJ_79 _ _ _ (S 23 (((12 * p1) + p2).toNatClampNeg)) ((if_pos c_4).symm) hR hS (lv_sub hl [] rfl)
        · skip
          refine lv_aload_n hx hb dX2_hand_54 rfl (lv_at hl 0 rfl) ?_
          refine mr_geta hx hb hts hown hK hR 24 (by decide) rfl (hts _ q975) (fun _ h9 => h9) dX2_hand_55 ?_
          refine lv_bipush (v := 12) hx hb dX2_hand_58 (by decide) ?_
          refine lv_iload_n hx hb dX2_hand_60 rfl (lv_at hl 1 rfl) ?_
          refine lv_imul hx hb dX2_hand_61 ?_
          refine lv_iload_n hx hb dX2_hand_62 rfl (lv_at hl 2 rfl) ?_
          refine lv_iadd hx hb dX2_hand_63 ?_
          refine mr_ald (v := (S 24 (((12 * p1) + p2).toNatClampNeg))) hx hb hK hR 24 360 rfl (by decide) rfl (by first | assumption | exact mi_hix hok (by assumption) (by assumption)) (congrFun (gs_sk rfl) (((12 * p1) + p2).toNatClampNeg)) dX2_hand_64 ?_
          refine lv_goto (tgt := 79) hx hb dX2_hand_65 (by decide) ?_
          exact hJ_79 _ _ _ (S 24 (((12 * p1) + p2).toNatClampNeg)) ((if_neg c_4).symm) hR hS (lv_sub hl [] rfl)
      · skip
        have c_1 : ¬ (((mf_isFind S p1) = true) ∧ ((mf_in p2 0 ((S 22 p1.toNatClampNeg) - 1)) = true)) := fun k => gs_zf (φ := (if ¬ (((mf_isFind S p1) = true) ∧ ((mf_in p2 0 ((S 22 p1.toNatClampNeg) - 1)) = true)) then 1 else 0) = 0) c_1 ((gi_bzn (φ := ((mf_isFind S p1) = true) ∧ ((mf_in p2 0 ((S 22 p1.toNatClampNeg) - 1)) = true))).mpr k)
        have hf := (if_neg c_1).symm.trans hf
        refine lv_iconst (v := 0) hx hb dX2_hand_48 (by decide) ?_
        exact W.iret (v := 0) hx hb hr (fun t ht hW => ⟨⟨_, _, rfl, ⟨(congrArg Prod.fst hf), (congrArg Prod.snd hf)⟩, mr_bt ht hR⟩, hS.F ht⟩) hS.2.2 dX2_hand_49
    refine lv_if_eq (tgt := 41) hx hb dX2_hand_34 (by decide) (fun c_5 => ?_) (fun c_5 => ?_)
    · skip
      have c_5 : ¬ (((mf_isFind S p1) = true) ∧ ((mf_in p2 0 ((S 22 p1.toNatClampNeg) - 1)) = true)) := gs_zf (φ := ((mf_isFind S p1) = true) ∧ ((mf_in p2 0 ((S 22 p1.toNatClampNeg) - 1)) = true)) c_5
      refine lv_iconst (v := 1) hx hb dX2_hand_41 (by decide) ?_
      exact hJ_42 _ _ _ 1 (gi_1 (gi_nb_f c_5)) hR hS (lv_sub hl [1, 2, 3, 4] rfl)
    · skip
      have c_5 : ((mf_isFind S p1) = true) ∧ ((mf_in p2 0 ((S 22 p1.toNatClampNeg) - 1)) = true) := gs_zt (φ := ((mf_isFind S p1) = true) ∧ ((mf_in p2 0 ((S 22 p1.toNatClampNeg) - 1)) = true)) c_5
      have c_6 := c_5.1
      have c_7 := c_5.2
      refine lv_iconst (v := 0) hx hb dX2_hand_37 (by decide) ?_
      refine lv_goto (tgt := 42) hx hb dX2_hand_38 (by decide) ?_
      exact hJ_42 _ _ _ 0 (gi_0 (gi_nb_t c_5)) hR hS (lv_sub hl [1, 2, 3, 4] rfl)
  refine lv_if_eq (tgt := 28) hx hb dX2_hand_5 (by decide) (fun c_8 => ?_) (fun c_8 => ?_)
  · skip
    have c_8 : ¬ ((mf_isFind S p1) = true) := gs_zf (φ := (mf_isFind S p1) = true) c_8
    refine lv_iconst (v := 0) hx hb dX2_hand_28 (by decide) ?_
    exact hJ_29 _ _ _ 0 (gi_0 (gi_ca_f c_8)) hR hS (lv_sub hl [0, 1, 2, 3] rfl)
  · skip
    have c_8 : (mf_isFind S p1) = true := gs_zt (φ := (mf_isFind S p1) = true) c_8
    refine lv_iload_n hx hb dX2_hand_8 rfl (lv_at hl 2 rfl) ?_
    refine lv_iconst (v := 0) hx hb dX2_hand_9 (by decide) ?_
    refine lv_aload_n hx hb dX2_hand_10 rfl (lv_at hl 0 rfl) ?_
    refine mr_geta hx hb hts hown hK hR 22 (by decide) rfl (hts _ q973) (fun _ h9 => h9) dX2_hand_11 ?_
    refine lv_iload_n hx hb dX2_hand_14 rfl (lv_at hl 1 rfl) ?_
    refine mr_ald (v := (S 22 p1.toNatClampNeg)) hx hb hK hR 22 30 rfl (by decide) rfl (by first | assumption | exact mi_f hok (by assumption) | exact mi_hix hok (by assumption) (by assumption)) rfl dX2_hand_15 ?_
    refine lv_iconst (v := 1) hx hb dX2_hand_16 (by decide) ?_
    refine lv_isub hx hb dX2_hand_17 ?_
    refine ps_calli (As := [.int p2, .int 0, .int ((S 22 p1.toNatClampNeg) - 1)]) (rest := []) ⟨hx, hb, hml, hown, hts⟩ (mt_in l p2 0 ((S 22 p1.toNatClampNeg) - 1)) (va_cwS 3 hts (lw_S q1078 q1079 q41 q1080) rfl rfl rfl (by decide +kernel) ⟨Nat.le_of_ble_eq_true rfl, Nat.le_of_ble_eq_true rfl⟩) trivial hS rfl hl.1 rfl (Nat.le_of_ble_eq_true rfl) dX2_hand_18 ⟨Nat.le_refl _, Nat.le_refl _⟩ (fun H locs hz hk hS => ?_)
    have hR := hR.kept (fun a _ h => hk a h)
    refine lv_if_eq (tgt := 28) hx hb dX2_hand_21 (by decide) (fun c_9 => ?_) (fun c_9 => ?_)
    · skip
      have c_9 : ¬ ((mf_in p2 0 ((S 22 p1.toNatClampNeg) - 1)) = true) := gs_zf (φ := (mf_in p2 0 ((S 22 p1.toNatClampNeg) - 1)) = true) c_9
      refine lv_iconst (v := 0) hx hb dX2_hand_28 (by decide) ?_
      exact hJ_29 _ _ _ 0 (gi_0 ((gi_cb_f c_9).trans (gi_ca_t c_8))) hR hS (lv_sub hl [0, 1, 2, 3] rfl)
    · skip
      have c_9 : (mf_in p2 0 ((S 22 p1.toNatClampNeg) - 1)) = true := gs_zt (φ := (mf_in p2 0 ((S 22 p1.toNatClampNeg) - 1)) = true) c_9
      refine lv_iconst (v := 1) hx hb dX2_hand_24 (by decide) ?_
      refine lv_goto (tgt := 29) hx hb dX2_hand_25 (by decide) ?_
      exact hJ_29 _ _ _ 1 (gi_1 ((gi_cb_t c_9).trans (gi_ca_t c_8))) hR hS (lv_sub hl [0, 1, 2, 3] rfl)
set_option maxHeartbeats 2000000 in
set_option maxRecDepth 100000 in
theorem mt_ofClaim (l : Launch) (E : en_T) (q : Nat) (ad : Nat → Nat) (L : List Nat) (S : gs_T) (p1 : Int32) (p2 : Int32) : Met l yX2_ofClaim (ws_ yX2_ofClaim cX2_ofClaim 3 (some .int)) { frames := 2, cells := 0, slots := 0, locals := 43 } (mr_Pc E q ad L S [.int p1, .int p2] (mi_ok S)) (mr_Qi E q ad L (mf_ofClaim S p1 p2).1 (mf_ofClaim S p1 p2).2) 0 0 (mr_A L) := by
  refine mr_start (by decide) rfl (Nat.le_of_ble_eq_true rfl) ?_
  intro p e s m below meth c ls hx hb hr hlocks hml hown hts hK hP hl hR
  have hl : lv_has ls 3 [(0, .ref q), (1, .int p1), (2, .int p2)] := hl
  have hS : va_S (mr_A L) s.heap s.heap [] := va_S.rf
  have hok := hP
  have hf : (mf_ofClaim S p1 p2) = (mf_ofClaim S p1 p2) := rfl
  refine lv_aload_n hx hb dX2_ofClaim_0 rfl (lv_at hl 0 rfl) ?_
  refine lv_aload_n hx hb dX2_ofClaim_1 rfl (lv_at hl 0 rfl) ?_
  refine lv_iload_n hx hb dX2_ofClaim_2 rfl (lv_at hl 1 rfl) ?_
  refine mr_calli (As := [.int p1]) (rest := [.ref q]) ⟨hx, hb, hml, hown, hts⟩ (mt_isClaim l E q ad L S p1) (cwV 1 hts (lw_V q1165 q1167 qs20 q41 q1168) rfl rfl rfl (by decide +kernel) ⟨Nat.le_of_ble_eq_true rfl, Nat.le_of_ble_eq_true rfl⟩) trivial hK hR (fun _ h => h) hS rfl hl.1 rfl (Nat.le_of_ble_eq_true rfl) dX2_ofClaim_3 ⟨Nat.le_refl _, Nat.le_refl _⟩ (fun H locs hR hS _ _ => ?_)
  have hJ_27 : ∀ (H : Heap) (locs : List Loc) (ls : Array Slot) (v_27 : Int32), v_27 = (if (mf_isClaim S p1) = true then (if (mf_in p2 0 3) = true then 0 else 2) else 1) → (v_27 = 0 ↔ (((mf_isClaim S p1) = true) ∧ ((mf_in p2 0 3) = true))) → mr_W E q ad L S H → va_S (mr_A L) s.heap H locs → lv_has ls 3 [(0, .ref q), (1, .int p1), (2, .int p2)] → mr_G p l e { frames := 2, cells := 0, slots := 0, locals := 43 } s m [.ref q, .int p1, .int p2] below meth c (mr_A L) (mr_Qi E q ad L (mf_ofClaim S p1 p2).1 (mf_ofClaim S p1 p2).2) H locs (F0 m 27 ls [.int v_27, .ref q]) := by
    intro H locs ls v_27 e_v_27 e0_v_27 hR hS hl
    subst e_v_27
    refine mr_calli (As := [.int (if (mf_isClaim S p1) = true then (if (mf_in p2 0 3) = true then 0 else 2) else 1)]) (rest := []) ⟨hx, hb, hml, hown, hts⟩ (mt_holds l E q ad L S (if (mf_isClaim S p1) = true then (if (mf_in p2 0 3) = true then 0 else 2) else 1)) (cwV 1 hts (lw_V q1081 q1083 qs15 q41 q1084) rfl rfl rfl (by decide +kernel) ⟨Nat.le_of_ble_eq_true rfl, Nat.le_of_ble_eq_true rfl⟩) trivial hK hR (fun _ h => h) hS rfl hl.1 rfl (Nat.le_of_ble_eq_true rfl) dX2_ofClaim_27 ⟨Nat.le_refl _, Nat.le_refl _⟩ (fun H locs hR hS _ _ => ?_)
    refine lv_if_ne (tgt := 35) hx hb dX2_ofClaim_30 (by decide) (fun c_1 => ?_) (fun c_1 => ?_)
    · skip
      have c_1 : ((mf_isClaim S p1) = true) ∧ ((mf_in p2 0 3) = true) := e0_v_27.mp (gs_zt (φ := (if (mf_isClaim S p1) = true then (if (mf_in p2 0 3) = true then 0 else 2) else 1) = 0) c_1)
      have hf := (if_pos c_1).symm.trans hf
      have c_2 := c_1.1
      have c_3 := c_1.2
      refine lv_iload_n hx hb dX2_ofClaim_35 rfl (lv_at hl 2 rfl) ?_
      have hJ_82 : ∀ (H : Heap) (locs : List Loc) (ls : Array Slot) (v_82 : Int32), v_82 = (if p2 = 0 then (S 32 p1.toNatClampNeg) else (if p2 = 1 then (S 30 p1.toNatClampNeg) else (if p2 = 2 then (S 31 p1.toNatClampNeg) else (S 34 p1.toNatClampNeg)))) → mr_W E q ad L (gs_up S 0 0 (if (mf_isClaim S p1) = true then (if (mf_in p2 0 3) = true then 0 else 2) else 1)) H → va_S (mr_A L) s.heap H locs → lv_has ls 3 [] → mr_G p l e { frames := 2, cells := 0, slots := 0, locals := 43 } s m [.ref q, .int p1, .int p2] below meth c (mr_A L) (mr_Qi E q ad L (mf_ofClaim S p1 p2).1 (mf_ofClaim S p1 p2).2) H locs (F0 m 82 ls [.int v_82]) := by
        intro H locs ls v_82 e_v_82 hR hS hl
        subst e_v_82
        exact W.iret (v := (if p2 = 0 then (S 32 p1.toNatClampNeg) else (if p2 = 1 then (S 30 p1.toNatClampNeg) else (if p2 = 2 then (S 31 p1.toNatClampNeg) else (S 34 p1.toNatClampNeg))))) hx hb hr (fun t ht hW => ⟨⟨_, _, rfl, ⟨(congrArg Prod.fst hf), (congrArg Prod.snd hf)⟩, mr_bt ht hR⟩, hS.F ht⟩) hS.2.2 dX2_ofClaim_82
      refine lv_if_ne (tgt := 48) hx hb dX2_ofClaim_36 (by decide) (fun c_4 => ?_) (fun c_4 => ?_)
      · skip
        refine lv_iload_n hx hb dX2_ofClaim_48 rfl (lv_at hl 2 rfl) ?_
        refine lv_iconst (v := 1) hx hb dX2_ofClaim_49 (by decide) ?_
        refine lv_icmp_ne (tgt := 62) hx hb dX2_ofClaim_50 (by decide) (fun c_5 => ?_) (fun c_5 => ?_)
        · skip
          refine lv_iload_n hx hb dX2_ofClaim_62 rfl (lv_at hl 2 rfl) ?_
          refine lv_iconst (v := 2) hx hb dX2_ofClaim_63 (by decide) ?_
          refine lv_icmp_ne (tgt := 76) hx hb dX2_ofClaim_64 (by decide) (fun c_6 => ?_) (fun c_6 => ?_)
          · skip
            refine lv_aload_n hx hb dX2_ofClaim_76 rfl (lv_at hl 0 rfl) ?_
            refine mr_geta hx hb hts hown hK hR 34 (by decide) rfl (hts _ q985) (fun _ h9 => h9) dX2_ofClaim_77 ?_
            refine lv_iload_n hx hb dX2_ofClaim_80 rfl (lv_at hl 1 rfl) ?_
            refine mr_ald (v := (S 34 p1.toNatClampNeg)) hx hb hK hR 34 20 rfl (by decide) rfl (by first | assumption | exact mi_c hok (by assumption) | exact mi_e hok (by assumption)) (congrFun (gs_sk rfl) p1.toNatClampNeg) dX2_ofClaim_81 ?_
            exact hJ_82 _ _ _ (S 34 p1.toNatClampNeg) ((((if_neg c_6).symm).trans (if_neg c_5).symm).trans (if_neg c_4).symm) hR hS (lv_sub hl [] rfl)
          · skip
            refine lv_aload_n hx hb dX2_ofClaim_67 rfl (lv_at hl 0 rfl) ?_
            refine mr_geta hx hb hts hown hK hR 31 (by decide) rfl (hts _ q982) (fun _ h9 => h9) dX2_ofClaim_68 ?_
            refine lv_iload_n hx hb dX2_ofClaim_71 rfl (lv_at hl 1 rfl) ?_
            refine mr_ald (v := (S 31 p1.toNatClampNeg)) hx hb hK hR 31 20 rfl (by decide) rfl (by first | assumption | exact mi_c hok (by assumption) | exact mi_e hok (by assumption)) (congrFun (gs_sk rfl) p1.toNatClampNeg) dX2_ofClaim_72 ?_
            refine lv_goto (tgt := 82) hx hb dX2_ofClaim_73 (by decide) ?_
            exact hJ_82 _ _ _ (S 31 p1.toNatClampNeg) ((((if_pos c_6).symm).trans (if_neg c_5).symm).trans (if_neg c_4).symm) hR hS (lv_sub hl [] rfl)
        · skip
          refine lv_aload_n hx hb dX2_ofClaim_53 rfl (lv_at hl 0 rfl) ?_
          refine mr_geta hx hb hts hown hK hR 30 (by decide) rfl (hts _ q981) (fun _ h9 => h9) dX2_ofClaim_54 ?_
          refine lv_iload_n hx hb dX2_ofClaim_57 rfl (lv_at hl 1 rfl) ?_
          refine mr_ald (v := (S 30 p1.toNatClampNeg)) hx hb hK hR 30 20 rfl (by decide) rfl (by first | assumption | exact mi_c hok (by assumption) | exact mi_e hok (by assumption)) (congrFun (gs_sk rfl) p1.toNatClampNeg) dX2_ofClaim_58 ?_
          refine lv_goto (tgt := 82) hx hb dX2_ofClaim_59 (by decide) ?_
          exact hJ_82 _ _ _ (S 30 p1.toNatClampNeg) (((if_pos c_5).symm).trans (if_neg c_4).symm) hR hS (lv_sub hl [] rfl)
      · skip
        refine lv_aload_n hx hb dX2_ofClaim_39 rfl (lv_at hl 0 rfl) ?_
        refine mr_geta hx hb hts hown hK hR 32 (by decide) rfl (hts _ q983) (fun _ h9 => h9) dX2_ofClaim_40 ?_
        refine lv_iload_n hx hb dX2_ofClaim_43 rfl (lv_at hl 1 rfl) ?_
        refine mr_ald (v := (S 32 p1.toNatClampNeg)) hx hb hK hR 32 20 rfl (by decide) rfl (by first | assumption | exact mi_c hok (by assumption) | exact mi_e hok (by assumption)) (congrFun (gs_sk rfl) p1.toNatClampNeg) dX2_ofClaim_44 ?_
        refine lv_goto (tgt := 82) hx hb dX2_ofClaim_45 (by decide) ?_
        exact hJ_82 _ _ _ (S 32 p1.toNatClampNeg) ((if_pos c_4).symm) hR hS (lv_sub hl [] rfl)
    · skip
      have c_1 : ¬ (((mf_isClaim S p1) = true) ∧ ((mf_in p2 0 3) = true)) := fun k => gs_zf (φ := (if (mf_isClaim S p1) = true then (if (mf_in p2 0 3) = true then 0 else 2) else 1) = 0) c_1 (e0_v_27.mpr k)
      have hf := (if_neg c_1).symm.trans hf
      refine lv_iconst (v := 0) hx hb dX2_ofClaim_33 (by decide) ?_
      exact W.iret (v := 0) hx hb hr (fun t ht hW => ⟨⟨_, _, rfl, ⟨(congrArg Prod.fst hf), (congrArg Prod.snd hf)⟩, mr_bt ht hR⟩, hS.F ht⟩) hS.2.2 dX2_ofClaim_34
  refine lv_if_ne (tgt := 13) hx hb dX2_ofClaim_6 (by decide) (fun c_7 => ?_) (fun c_7 => ?_)
  · skip
    have c_7 : (mf_isClaim S p1) = true := gs_zt (φ := (mf_isClaim S p1) = true) c_7
    refine lv_iload_n hx hb dX2_ofClaim_13 rfl (lv_at hl 2 rfl) ?_
    refine lv_iconst (v := 0) hx hb dX2_ofClaim_14 (by decide) ?_
    refine lv_iconst (v := 3) hx hb dX2_ofClaim_15 (by decide) ?_
    refine ps_calli (As := [.int p2, .int 0, .int 3]) (rest := [.ref q]) ⟨hx, hb, hml, hown, hts⟩ (mt_in l p2 0 3) (va_cwS 3 hts (lw_S q1078 q1079 q41 q1080) rfl rfl rfl (by decide +kernel) ⟨Nat.le_of_ble_eq_true rfl, Nat.le_of_ble_eq_true rfl⟩) trivial hS rfl hl.1 rfl (Nat.le_of_ble_eq_true rfl) dX2_ofClaim_16 ⟨Nat.le_refl _, Nat.le_refl _⟩ (fun H locs hz hk hS => ?_)
    have hR := hR.kept (fun a _ h => hk a h)
    refine lv_if_eq (tgt := 26) hx hb dX2_ofClaim_19 (by decide) (fun c_8 => ?_) (fun c_8 => ?_)
    · skip
      have c_8 : ¬ ((mf_in p2 0 3) = true) := gs_zf (φ := (mf_in p2 0 3) = true) c_8
      refine lv_iconst (v := 2) hx hb dX2_ofClaim_26 (by decide) ?_
      exact hJ_27 _ _ _ 2 (((if_neg c_8).symm).trans (if_pos c_7).symm) (gi_z0 (by decide) ((gi_cb_f c_8).trans (gi_ca_t c_7))) hR hS (lv_sub hl [0, 1, 2] rfl)
    · skip
      have c_8 : (mf_in p2 0 3) = true := gs_zt (φ := (mf_in p2 0 3) = true) c_8
      refine lv_iconst (v := 0) hx hb dX2_ofClaim_22 (by decide) ?_
      refine lv_goto (tgt := 27) hx hb dX2_ofClaim_23 (by decide) ?_
      exact hJ_27 _ _ _ 0 (((if_pos c_8).symm).trans (if_pos c_7).symm) (gi_z1 ((gi_cb_t c_8).trans (gi_ca_t c_7))) hR hS (lv_sub hl [0, 1, 2] rfl)
  · skip
    have c_7 : ¬ ((mf_isClaim S p1) = true) := gs_zf (φ := (mf_isClaim S p1) = true) c_7
    refine lv_iconst (v := 1) hx hb dX2_ofClaim_9 (by decide) ?_
    refine lv_goto (tgt := 27) hx hb dX2_ofClaim_10 (by decide) ?_
    exact hJ_27 _ _ _ 1 ((if_neg c_7).symm) (gi_z0 (by decide) (gi_ca_f c_7)) hR hS (lv_sub hl [0, 1, 2] rfl)
set_option maxHeartbeats 2000000 in
set_option maxRecDepth 100000 in
theorem mt_money (l : Launch) (E : en_T) (q : Nat) (ad : Nat → Nat) (L : List Nat) (S : gs_T) (p1 : Int32) : Met l yX2_money (ws_ yX2_money cX2_money 2 (some .int)) { frames := 1, cells := 0, slots := 0, locals := 22 } (mr_Pc E q ad L S [.int p1] (True)) (mr_Qi E q ad L (mf_money S p1).1 (mf_money S p1).2) 0 0 (mr_A L) := by
  refine mr_start (by decide) rfl (Nat.le_of_ble_eq_true rfl) ?_
  intro p e s m below meth c ls hx hb hr hlocks hml hown hts hK hP hl hR
  have hl : lv_has ls 2 [(0, .ref q), (1, .int p1)] := hl
  have hS : va_S (mr_A L) s.heap s.heap [] := va_S.rf
  have hf : (mf_money S p1) = (mf_money S p1) := rfl
  refine lv_aload_n hx hb dX2_money_0 rfl (lv_at hl 0 rfl) ?_
  refine lv_iload_n hx hb dX2_money_1 rfl (lv_at hl 1 rfl) ?_
  refine lv_iconst (v := 0) hx hb dX2_money_2 (by decide) ?_
  refine lv_iconst (v := 2) hx hb dX2_money_3 (by decide) ?_
  refine ps_calli (As := [.int p1, .int 0, .int 2]) (rest := [.ref q]) ⟨hx, hb, hml, hown, hts⟩ (mt_in l p1 0 2) (va_cwS 3 hts (lw_S q1078 q1079 q41 q1080) rfl rfl rfl (by decide +kernel) ⟨Nat.le_of_ble_eq_true rfl, Nat.le_of_ble_eq_true rfl⟩) trivial hS rfl hl.1 rfl (Nat.le_of_ble_eq_true rfl) dX2_money_4 ⟨Nat.le_refl _, Nat.le_refl _⟩ (fun H locs hz hk hS => ?_)
  have hR := hR.kept (fun a _ h => hk a h)
  have hJ_15 : ∀ (H : Heap) (locs : List Loc) (ls : Array Slot) (v_15 : Int32), v_15 = (if ¬ ((mf_in p1 0 2) = true) then 1 else 0) → mr_W E q ad L S H → va_S (mr_A L) s.heap H locs → lv_has ls 2 [(0, .ref q), (1, .int p1)] → mr_G p l e { frames := 1, cells := 0, slots := 0, locals := 22 } s m [.ref q, .int p1] below meth c (mr_A L) (mr_Qi E q ad L (mf_money S p1).1 (mf_money S p1).2) H locs (F0 m 15 ls [.int v_15, .ref q]) := by
    intro H locs ls v_15 e_v_15 hR hS hl
    subst e_v_15
    refine mr_calli (As := [.int (if ¬ ((mf_in p1 0 2) = true) then 1 else 0)]) (rest := []) ⟨hx, hb, hml, hown, hts⟩ (mt_holds l E q ad L S (if ¬ ((mf_in p1 0 2) = true) then 1 else 0)) (cwV 1 hts (lw_V q1081 q1083 qs15 q41 q1084) rfl rfl rfl (by decide +kernel) ⟨Nat.le_of_ble_eq_true rfl, Nat.le_of_ble_eq_true rfl⟩) trivial hK hR (fun _ h => h) hS rfl hl.1 rfl (Nat.le_of_ble_eq_true rfl) dX2_money_15 ⟨Nat.le_refl _, Nat.le_refl _⟩ (fun H locs hR hS _ _ => ?_)
    refine lv_if_ne (tgt := 23) hx hb dX2_money_18 (by decide) (fun c_1 => ?_) (fun c_1 => ?_)
    · skip
      have c_1 : (mf_in p1 0 2) = true := (gi_bzn (φ := (mf_in p1 0 2) = true)).mp (gs_zt (φ := (if ¬ ((mf_in p1 0 2) = true) then 1 else 0) = 0) c_1)
      have hf := (if_pos c_1).symm.trans hf
      refine lv_iload_n hx hb dX2_money_23 rfl (lv_at hl 1 rfl) ?_
      have hJ_50 : ∀ (H : Heap) (locs : List Loc) (ls : Array Slot) (v_50 : Int32), v_50 = (if p1 = 0 then (S 35 0) else (if p1 = 1 then (S 36 0) else (S 37 0))) → mr_W E q ad L (gs_up S 0 0 (if ¬ ((mf_in p1 0 2) = true) then 1 else 0)) H → va_S (mr_A L) s.heap H locs → lv_has ls 2 [] → mr_G p l e { frames := 1, cells := 0, slots := 0, locals := 22 } s m [.ref q, .int p1] below meth c (mr_A L) (mr_Qi E q ad L (mf_money S p1).1 (mf_money S p1).2) H locs (F0 m 50 ls [.int v_50]) := by
        intro H locs ls v_50 e_v_50 hR hS hl
        subst e_v_50
        exact W.iret (v := (if p1 = 0 then (S 35 0) else (if p1 = 1 then (S 36 0) else (S 37 0)))) hx hb hr (fun t ht hW => ⟨⟨_, _, rfl, ⟨(congrArg Prod.fst hf), (congrArg Prod.snd hf)⟩, mr_bt ht hR⟩, hS.F ht⟩) hS.2.2 dX2_money_50
      refine lv_if_ne (tgt := 34) hx hb dX2_money_24 (by decide) (fun c_2 => ?_) (fun c_2 => ?_)
      · skip
        refine lv_iload_n hx hb dX2_money_34 rfl (lv_at hl 1 rfl) ?_
        refine lv_iconst (v := 1) hx hb dX2_money_35 (by decide) ?_
        refine lv_icmp_ne (tgt := 46) hx hb dX2_money_36 (by decide) (fun c_3 => ?_) (fun c_3 => ?_)
        · skip
          refine lv_aload_n hx hb dX2_money_46 rfl (lv_at hl 0 rfl) ?_
          refine mr_geti (v := (S 37 0)) hx hb hts hown hK hR 37 (by decide) rfl (hts _ q988) (fun _ h9 => h9) (congrFun (gs_sk rfl) 0) dX2_money_47 ?_
          exact hJ_50 _ _ _ (S 37 0) (((if_neg c_3).symm).trans (if_neg c_2).symm) hR hS (lv_sub hl [] rfl)
        · skip
          refine lv_aload_n hx hb dX2_money_39 rfl (lv_at hl 0 rfl) ?_
          refine mr_geti (v := (S 36 0)) hx hb hts hown hK hR 36 (by decide) rfl (hts _ q987) (fun _ h9 => h9) (congrFun (gs_sk rfl) 0) dX2_money_40 ?_
          refine lv_goto (tgt := 50) hx hb dX2_money_43 (by decide) ?_
          exact hJ_50 _ _ _ (S 36 0) (((if_pos c_3).symm).trans (if_neg c_2).symm) hR hS (lv_sub hl [] rfl)
      · skip
        refine lv_aload_n hx hb dX2_money_27 rfl (lv_at hl 0 rfl) ?_
        refine mr_geti (v := (S 35 0)) hx hb hts hown hK hR 35 (by decide) rfl (hts _ q986) (fun _ h9 => h9) (congrFun (gs_sk rfl) 0) dX2_money_28 ?_
        refine lv_goto (tgt := 50) hx hb dX2_money_31 (by decide) ?_
        exact hJ_50 _ _ _ (S 35 0) ((if_pos c_2).symm) hR hS (lv_sub hl [] rfl)
    · skip
      have c_1 : ¬ ((mf_in p1 0 2) = true) := fun k => gs_zf (φ := (if ¬ ((mf_in p1 0 2) = true) then 1 else 0) = 0) c_1 ((gi_bzn (φ := (mf_in p1 0 2) = true)).mpr k)
      have hf := (if_neg c_1).symm.trans hf
      refine lv_iconst (v := 0) hx hb dX2_money_21 (by decide) ?_
      exact W.iret (v := 0) hx hb hr (fun t ht hW => ⟨⟨_, _, rfl, ⟨(congrArg Prod.fst hf), (congrArg Prod.snd hf)⟩, mr_bt ht hR⟩, hS.F ht⟩) hS.2.2 dX2_money_22
  refine lv_if_eq (tgt := 14) hx hb dX2_money_7 (by decide) (fun c_4 => ?_) (fun c_4 => ?_)
  · skip
    have c_4 : ¬ ((mf_in p1 0 2) = true) := gs_zf (φ := (mf_in p1 0 2) = true) c_4
    refine lv_iconst (v := 1) hx hb dX2_money_14 (by decide) ?_
    exact hJ_15 _ _ _ 1 (gi_1 (gi_nb_f c_4)) hR hS (lv_sub hl [0, 1] rfl)
  · skip
    have c_4 : (mf_in p1 0 2) = true := gs_zt (φ := (mf_in p1 0 2) = true) c_4
    refine lv_iconst (v := 0) hx hb dX2_money_10 (by decide) ?_
    refine lv_goto (tgt := 15) hx hb dX2_money_11 (by decide) ?_
    exact hJ_15 _ _ _ 0 (gi_0 (gi_nb_t c_4)) hR hS (lv_sub hl [0, 1] rfl)
set_option maxHeartbeats 2000000 in
set_option maxRecDepth 100000 in
theorem mt_audit (l : Launch) (E : en_T) (q : Nat) (ad : Nat → Nat) (L : List Nat) (S : gs_T) (p1 : Int32) : Met l yX2_audit (ws_ yX2_audit cX2_audit 4 (some .int)) { frames := 2, cells := 0, slots := 0, locals := 42 } (mr_Pc E q ad L S [.int p1] (mi_ok S)) (mr_Qi E q ad L (mf_audit S p1).1 (mf_audit S p1).2) 0 0 (mr_A L) := by
  refine mr_start (by decide) rfl (Nat.le_of_ble_eq_true rfl) ?_
  intro p e s m below meth c ls hx hb hr hlocks hml hown hts hK hP hl hR
  have hl : lv_has ls 4 [(0, .ref q), (1, .int p1)] := hl
  have hS : va_S (mr_A L) s.heap s.heap [] := va_S.rf
  have hok := hP
  have hf : (mf_audit S p1) = (mf_audit S p1) := rfl
  have hnf := mi_n30 hok
  refine lv_aload_n hx hb dX2_audit_0 rfl (lv_at hl 0 rfl) ?_
  refine lv_iload_n hx hb dX2_audit_1 rfl (lv_at hl 1 rfl) ?_
  refine ps_calli (As := [.int p1]) (rest := [.ref q]) ⟨hx, hb, hml, hown, hts⟩ (mt_isRoom l p1) (va_cwS 1 hts (lw_S q1100 q1101 q41 q1102) rfl rfl rfl (by decide +kernel) ⟨Nat.le_of_ble_eq_true rfl, Nat.le_of_ble_eq_true rfl⟩) trivial hS rfl hl.1 rfl (Nat.le_of_ble_eq_true rfl) dX2_audit_2 ⟨Nat.le_refl _, Nat.le_refl _⟩ (fun H locs hz hk hS => ?_)
  have hR := hR.kept (fun a _ h => hk a h)
  have hJ_13 : ∀ (H : Heap) (locs : List Loc) (ls : Array Slot) (v_13 : Int32), v_13 = (if ¬ ((mf_isRoom p1) = true) then 1 else 0) → mr_W E q ad L S H → va_S (mr_A L) s.heap H locs → lv_has ls 4 [(0, .ref q), (1, .int p1)] → mr_G p l e { frames := 2, cells := 0, slots := 0, locals := 42 } s m [.ref q, .int p1] below meth c (mr_A L) (mr_Qi E q ad L (mf_audit S p1).1 (mf_audit S p1).2) H locs (F0 m 13 ls [.int v_13, .ref q]) := by
    intro H locs ls v_13 e_v_13 hR hS hl
    subst e_v_13
    refine mr_calli (As := [.int (if ¬ ((mf_isRoom p1) = true) then 1 else 0)]) (rest := []) ⟨hx, hb, hml, hown, hts⟩ (mt_holds l E q ad L S (if ¬ ((mf_isRoom p1) = true) then 1 else 0)) (cwV 1 hts (lw_V q1081 q1083 qs15 q41 q1084) rfl rfl rfl (by decide +kernel) ⟨Nat.le_of_ble_eq_true rfl, Nat.le_of_ble_eq_true rfl⟩) trivial hK hR (fun _ h => h) hS rfl hl.1 rfl (Nat.le_of_ble_eq_true rfl) dX2_audit_13 ⟨Nat.le_refl _, Nat.le_refl _⟩ (fun H locs hR hS _ _ => ?_)
    refine lv_if_ne (tgt := 21) hx hb dX2_audit_16 (by decide) (fun c_1 => ?_) (fun c_1 => ?_)
    · skip
      have c_1 : (mf_isRoom p1) = true := (gi_bzn (φ := (mf_isRoom p1) = true)).mp (gs_zt (φ := (if ¬ ((mf_isRoom p1) = true) then 1 else 0) = 0) c_1)
      have hf := (if_pos c_1).symm.trans hf
      refine lv_iconst (v := 0) hx hb dX2_audit_21 (by decide) ?_
      refine lv_istore_n (lv' := [(2, .int 0), (0, .ref q), (1, .int p1)]) hx hb dX2_audit_22 rfl hl (by decide) rfl (fun ls hl => ?_)
      refine lv_iconst (v := 0) hx hb dX2_audit_23 (by decide) ?_
      refine lv_istore_n (lv' := [(3, .int 0), (2, .int 0), (0, .ref q), (1, .int p1)]) hx hb dX2_audit_24 rfl hl (by decide) rfl (fun ls hl => ?_)
      have hL_25 : ∀ (n_25 i_25 : Nat) (x2_25 : Int32) (H : Heap) (locs : List Loc) (ls : Array Slot), i_25 + n_25 = (S 8 0).toNatClampNeg → mf_audit_R25 S p1 n_25 i_25 x2_25 = (mf_audit_R25 S p1 ((S 8 0).toNatClampNeg) 0 0) → mr_W E q ad L (gs_up S 0 0 (if ¬ ((mf_isRoom p1) = true) then 1 else 0)) H → va_S (mr_A L) s.heap H locs → lv_has ls 4 [(0, .ref q), (1, .int p1), (2, .int x2_25), (3, .int (nI i_25))] → mr_G p l e { frames := 2, cells := 0, slots := 0, locals := 42 } s m [.ref q, .int p1] below meth c (mr_A L) (mr_Qi E q ad L (mf_audit S p1).1 (mf_audit S p1).2) H locs (F0 m 25 ls []) := by
        intro n_25
        induction n_25 with
        | zero =>
          intro i_25 x2_25 H locs ls hi_25 hg_25 hR hS hl
          have hi_25 : i_25 = (S 8 0).toNatClampNeg := hi_25
          subst hi_25
          have e_x2_25 : x2_25 = (mf_audit_R25 S p1 ((S 8 0).toNatClampNeg) 0 0) := congrArg (fun z => z) hg_25
          subst e_x2_25
          refine lv_iload_n hx hb dX2_audit_25 rfl (lv_at hl 3 rfl) ?_
          refine lv_aload_n hx hb dX2_audit_26 rfl (lv_at hl 0 rfl) ?_
          refine mr_geti (v := (S 8 0)) hx hb hts hown hK hR 8 (by decide) rfl (hts _ q959) (fun _ h9 => h9) (congrFun (gs_sk rfl) 0) dX2_audit_27 ?_
          refine lv_icmp_ge (tgt := 68) hx hb dX2_audit_30 (by decide) (fun c_2 => ?_) (fun c_2 => absurd (lp_x0 (mi_n hok)) c_2)
          refine lv_iload_n hx hb dX2_audit_68 rfl (lv_at hl 2 rfl) ?_
          exact W.iret (v := (mf_audit_R25 S p1 ((S 8 0).toNatClampNeg) 0 0)) hx hb hr (fun t ht hW => ⟨⟨_, _, rfl, ⟨(congrArg Prod.fst hf), (congrArg Prod.snd hf)⟩, mr_bt ht hR⟩, hS.F ht⟩) hS.2.2 dX2_audit_69
        | succ n_25 ih_25 =>
          intro i_25 x2_25 H locs ls hi_25 hg_25 hR hS hl
          have hlt_25 : i_25 < (S 8 0).toNatClampNeg := by omega
          have hf_25 : mf_audit_L25 S p1 i_25 x2_25 = mf_audit_L25 S p1 i_25 x2_25 := rfl
          refine lv_iload_n hx hb dX2_audit_25 rfl (lv_at hl 3 rfl) ?_
          refine lv_aload_n hx hb dX2_audit_26 rfl (lv_at hl 0 rfl) ?_
          refine mr_geti (v := (S 8 0)) hx hb hts hown hK hR 8 (by decide) rfl (hts _ q959) (fun _ h9 => h9) (congrFun (gs_sk rfl) 0) dX2_audit_27 ?_
          refine lv_icmp_ge (tgt := 68) hx hb dX2_audit_30 (by decide) (fun c_3 => absurd c_3 (lp_x1 (mi_n hok) hlt_25 (mi_nb hok))) (fun c_3 => ?_)
          refine lv_iload_n hx hb dX2_audit_33 rfl (lv_at hl 2 rfl) ?_
          refine lv_aload_n hx hb dX2_audit_34 rfl (lv_at hl 0 rfl) ?_
          refine mr_geta hx hb hts hown hK hR 15 (by decide) rfl (hts _ q966) (fun _ h9 => h9) dX2_audit_35 ?_
          refine lv_iload_n hx hb dX2_audit_38 rfl (lv_at hl 3 rfl) ?_
          refine mr_ald (v := (S 15 i_25)) hx hb hK hR 15 30 rfl (by decide) rfl (by first | assumption | exact vp_in_nI (show i_25 < 30 by omega) (by decide)) ((congrArg (fun z => (gs_up S 0 0 (if ¬ ((mf_isRoom p1) = true) then 1 else 0)) 15 z) (nI_clamp (show i_25 < 2 ^ 31 by omega))).trans (congrFun (gs_sk rfl) i_25)) dX2_audit_39 ?_
          have hJ_60 : ∀ (H : Heap) (locs : List Loc) (ls : Array Slot) (v_60 : Int32), v_60 = (if (S 15 i_25) = 0 then (if (S 16 i_25) = p1 then (1 <<< ((nI i_25) &&& 31)) else 0) else 0) → mr_W E q ad L (gs_up S 0 0 (if ¬ ((mf_isRoom p1) = true) then 1 else 0)) H → va_S (mr_A L) s.heap H locs → lv_has ls 4 [(0, .ref q), (1, .int p1), (3, .int (nI i_25))] → mr_G p l e { frames := 2, cells := 0, slots := 0, locals := 42 } s m [.ref q, .int p1] below meth c (mr_A L) (mr_Qi E q ad L (mf_audit S p1).1 (mf_audit S p1).2) H locs (F0 m 60 ls [.int v_60, .int x2_25]) := by
            intro H locs ls v_60 e_v_60 hR hS hl
            subst e_v_60
            refine lv_ior hx hb dX2_audit_60 ?_
            refine lv_istore_n (lv' := [(2, .int (x2_25 ||| (if (S 15 i_25) = 0 then (if (S 16 i_25) = p1 then (1 <<< ((nI i_25) &&& 31)) else 0) else 0))), (0, .ref q), (1, .int p1), (3, .int (nI i_25))]) hx hb dX2_audit_61 rfl hl (by decide) rfl (fun ls hl => ?_)
            refine lv_iinc (v := (nI (i_25 + 1))) (lv' := [(3, .int (nI (i_25 + 1))), (2, .int (x2_25 ||| (if (S 15 i_25) = 0 then (if (S 16 i_25) = p1 then (1 <<< ((nI i_25) &&& 31)) else 0) else 0))), (0, .ref q), (1, .int p1)]) hx hb dX2_audit_62 hl (k := 3) rfl (nI_1 i_25) (by decide) rfl (fun ls hl => ?_)
            refine lv_goto (tgt := 25) hx hb dX2_audit_65 (by decide) ?_
            exact ih_25 (i_25 + 1) (x2_25 ||| (if (S 15 i_25) = 0 then (if (S 16 i_25) = p1 then (1 <<< ((nI i_25) &&& 31)) else 0) else 0)) _ _ _ (by omega) ((congrArg (fun z => mf_audit_R25 S p1 n_25 (i_25 + 1) z) hf_25).trans hg_25) hR hS (lv_sub hl [2, 3, 1, 0] rfl)
          refine lv_if_ne (tgt := 59) hx hb dX2_audit_40 (by decide) (fun c_4 => ?_) (fun c_4 => ?_)
          · skip
            refine lv_iconst (v := 0) hx hb dX2_audit_59 (by decide) ?_
            exact hJ_60 _ _ _ 0 ((if_neg c_4).symm) hR hS (lv_sub hl [0, 1, 3] rfl)
          · skip
            refine lv_aload_n hx hb dX2_audit_43 rfl (lv_at hl 0 rfl) ?_
            refine mr_geta hx hb hts hown hK hR 16 (by decide) rfl (hts _ q967) (fun _ h9 => h9) dX2_audit_44 ?_
            refine lv_iload_n hx hb dX2_audit_47 rfl (lv_at hl 3 rfl) ?_
            refine mr_ald (v := (S 16 i_25)) hx hb hK hR 16 30 rfl (by decide) rfl (by first | assumption | exact vp_in_nI (show i_25 < 30 by omega) (by decide)) ((congrArg (fun z => (gs_up S 0 0 (if ¬ ((mf_isRoom p1) = true) then 1 else 0)) 16 z) (nI_clamp (show i_25 < 2 ^ 31 by omega))).trans (congrFun (gs_sk rfl) i_25)) dX2_audit_48 ?_
            refine lv_iload_n hx hb dX2_audit_49 rfl (lv_at hl 1 rfl) ?_
            refine lv_icmp_ne (tgt := 59) hx hb dX2_audit_50 (by decide) (fun c_5 => ?_) (fun c_5 => ?_)
            · skip
              refine lv_iconst (v := 0) hx hb dX2_audit_59 (by decide) ?_
              exact hJ_60 _ _ _ 0 (((if_neg c_5).symm).trans (if_pos c_4).symm) hR hS (lv_sub hl [0, 1, 3] rfl)
            · skip
              refine lv_iconst (v := 1) hx hb dX2_audit_53 (by decide) ?_
              refine lv_iload_n hx hb dX2_audit_54 rfl (lv_at hl 3 rfl) ?_
              refine lv_ishl hx hb dX2_audit_55 ?_
              refine lv_goto (tgt := 60) hx hb dX2_audit_56 (by decide) ?_
              exact hJ_60 _ _ _ (1 <<< ((nI i_25) &&& 31)) (((if_pos c_5).symm).trans (if_pos c_4).symm) hR hS (lv_sub hl [0, 1, 3] rfl)
      exact hL_25 ((S 8 0).toNatClampNeg) 0 0 _ _ _ (by omega) rfl hR hS (lv_sub hl [2, 3, 1, 0] rfl)
    · skip
      have c_1 : ¬ ((mf_isRoom p1) = true) := fun k => gs_zf (φ := (if ¬ ((mf_isRoom p1) = true) then 1 else 0) = 0) c_1 ((gi_bzn (φ := (mf_isRoom p1) = true)).mpr k)
      have hf := (if_neg c_1).symm.trans hf
      refine lv_iconst (v := 0) hx hb dX2_audit_19 (by decide) ?_
      exact W.iret (v := 0) hx hb hr (fun t ht hW => ⟨⟨_, _, rfl, ⟨(congrArg Prod.fst hf), (congrArg Prod.snd hf)⟩, mr_bt ht hR⟩, hS.F ht⟩) hS.2.2 dX2_audit_20
  refine lv_if_eq (tgt := 12) hx hb dX2_audit_5 (by decide) (fun c_6 => ?_) (fun c_6 => ?_)
  · skip
    have c_6 : ¬ ((mf_isRoom p1) = true) := gs_zf (φ := (mf_isRoom p1) = true) c_6
    refine lv_iconst (v := 1) hx hb dX2_audit_12 (by decide) ?_
    exact hJ_13 _ _ _ 1 (gi_1 (gi_nb_f c_6)) hR hS (lv_sub hl [0, 1] rfl)
  · skip
    have c_6 : (mf_isRoom p1) = true := gs_zt (φ := (mf_isRoom p1) = true) c_6
    refine lv_iconst (v := 0) hx hb dX2_audit_8 (by decide) ?_
    refine lv_goto (tgt := 13) hx hb dX2_audit_9 (by decide) ?_
    exact hJ_13 _ _ _ 0 (gi_0 (gi_nb_t c_6)) hR hS (lv_sub hl [0, 1] rfl)
