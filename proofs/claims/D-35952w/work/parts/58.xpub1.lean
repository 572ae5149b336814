def xf_candidates_L4 (S : gs_T) (j : Nat) (i_4 : Nat) (x2_4 : Int32) : Int32 := (x2_4 ||| (if (xf_isHere S i_4) = true then (if (xf_isCandidate S i_4 j) = true then (1 <<< ((nI i_4) &&& 31)) else 0) else 0))
def xf_candidates_R4 (S : gs_T) (j : Nat) (n i : Nat) (a : Int32) : Int32 := lp_up (fun i a => xf_candidates_L4 S j i a) n i a
def xf_candidates (S : gs_T) (j : Nat) : Int32 := (xf_candidates_R4 S j (nz S 1) 0 0)
def xp_near (S : gs_T) (p1 : Int32) (p2 : Int32) : String ⊕ (Bool × gs_T) := (if ((xf_isIn p1 0 23) = true) ∧ ((xf_isIn p2 0 23) = true) then (if ¬ (p1 = p2) then (.inr ((decide ((xf_has ((upd (upd (S 1) p1.toNatClampNeg ((S 1 p1.toNatClampNeg) ^^^ (1 <<< (p2 &&& 31)))) p2.toNatClampNeg (((upd (S 1) p1.toNatClampNeg ((S 1 p1.toNatClampNeg) ^^^ (1 <<< (p2 &&& 31)))) p2.toNatClampNeg) ^^^ (1 <<< (p1 &&& 31)))) p1.toNatClampNeg) p2) = true)), (gs_up (gs_up S 1 p1.toNatClampNeg ((S 1 p1.toNatClampNeg) ^^^ (1 <<< (p2 &&& 31)))) 1 p2.toNatClampNeg (((upd (S 1) p1.toNatClampNeg ((S 1 p1.toNatClampNeg) ^^^ (1 <<< (p2 &&& 31)))) p2.toNatClampNeg) ^^^ (1 <<< (p1 &&& 31)))))) else (.inl "java/lang/IllegalArgumentException")) else (.inl "java/lang/IndexOutOfBoundsException"))
def xp_alike (S : gs_T) (p1 : Int32) (p2 : Int32) : String ⊕ (Bool × gs_T) := (if (xf_isIn p1 0 7) = true then (if (xf_isIn p2 0 7) = true then (if ¬ (p1 = p2) then (.inr ((decide ((xf_has ((upd (upd (S 2) p1.toNatClampNeg ((S 2 p1.toNatClampNeg) ^^^ (1 <<< (p2 &&& 31)))) p2.toNatClampNeg (((upd (S 2) p1.toNatClampNeg ((S 2 p1.toNatClampNeg) ^^^ (1 <<< (p2 &&& 31)))) p2.toNatClampNeg) ^^^ (1 <<< (p1 &&& 31)))) p1.toNatClampNeg) p2) = true)), (gs_up (gs_up S 2 p1.toNatClampNeg ((S 2 p1.toNatClampNeg) ^^^ (1 <<< (p2 &&& 31)))) 2 p2.toNatClampNeg (((upd (S 2) p1.toNatClampNeg ((S 2 p1.toNatClampNeg) ^^^ (1 <<< (p2 &&& 31)))) p2.toNatClampNeg) ^^^ (1 <<< (p1 &&& 31)))))) else (.inl "java/lang/IllegalArgumentException")) else (.inl "java/lang/IndexOutOfBoundsException")) else (.inl "java/lang/IndexOutOfBoundsException"))
def xp_rule (S : gs_T) (p1 : Int32) (p2 : Int32) (p3 : Int32) : String ⊕ (Int32 × gs_T) := (if (xf_isIn p1 0 7) = true then (if ((xf_isIn p2 1 400) = true) ∧ ((xf_isIn p3 0 50) = true) then (.inr ((S 3 p1.toNatClampNeg), (gs_up (gs_up S 3 p1.toNatClampNeg p2) 4 p1.toNatClampNeg p3))) else (.inl "java/lang/IllegalArgumentException")) else (.inl "java/lang/IndexOutOfBoundsException"))
def xp_threshold (S : gs_T) (p1 : Int32) : String ⊕ (Int32 × gs_T) := (if (xf_isIn p1 1 200) = true then (.inr ((S 6 0), (gs_up S 6 0 p1))) else (.inl "java/lang/IllegalArgumentException"))
def xp_see (S : gs_T) (p1 : Int32) (p2 : Int32) : String ⊕ (Int32 × gs_T) := (if (xf_isIn p1 0 ((S 21 1) - 1)) = true then (if ((xf_isWords p2) = true) ∧ ((p2 &&& (S 34 p1.toNatClampNeg)) = 0) then (if (S 36 p1.toNatClampNeg) = 0 then (.inr ((jf_bits ((S 33 p1.toNatClampNeg) ||| p2)), (gs_up S 33 p1.toNatClampNeg ((S 33 p1.toNatClampNeg) ||| p2)))) else (.inl "java/lang/IllegalStateException")) else (.inl "java/lang/IllegalArgumentException")) else (.inl "java/lang/IndexOutOfBoundsException"))
def xp_send (S : gs_T) (p1 : Int32) (p2 : Int32) : String ⊕ (Int32 × gs_T) := (if (xf_isIn p1 0 ((S 21 1) - 1)) = true then (if (xf_isIn p2 0 5) = true then (if ((S 36 p1.toNatClampNeg) = 0) ∧ (¬ ((S 39 p1.toNatClampNeg) = p2)) then (.inr ((S 39 p1.toNatClampNeg), (gs_up (gs_up (gs_up S 36 p1.toNatClampNeg 1) 40 p1.toNatClampNeg ((S 0 0) + 1)) 39 p1.toNatClampNeg p2))) else (.inl "java/lang/IllegalStateException")) else (.inl "java/lang/IndexOutOfBoundsException")) else (.inl "java/lang/IndexOutOfBoundsException"))
def xp_hold (S : gs_T) (p1 : Int32) (p2 : Int32) : String ⊕ (Bool × gs_T) := (if (xf_isIn p1 0 ((S 21 1) - 1)) = true then (if (xf_isHere S p1.toNatClampNeg) = true then (.inr ((decide ((S 38 p1.toNatClampNeg) = 1)), (gs_up S 38 p1.toNatClampNeg p2))) else (.inl "java/lang/IllegalStateException")) else (.inl "java/lang/IndexOutOfBoundsException"))
def xp_say (S : gs_T) (p1 : Int32) (p2 : Int32) : String ⊕ (Int32 × gs_T) := (if (xf_isIn p1 0 ((S 21 2) - 1)) = true then (if (xf_isWords p2) = true then (if (S 56 p1.toNatClampNeg) = 0 then (.inr ((jf_bits ((S 54 p1.toNatClampNeg) ||| p2)), (gs_up S 54 p1.toNatClampNeg ((S 54 p1.toNatClampNeg) ||| p2)))) else (.inl "java/lang/IllegalStateException")) else (.inl "java/lang/IllegalArgumentException")) else (.inl "java/lang/IndexOutOfBoundsException"))
def xp_tell (S : gs_T) (p1 : Int32) (p2 : Int32) : String ⊕ (Int32 × gs_T) := (if (xf_isIn p1 0 ((S 21 2) - 1)) = true then (if (xf_isWords p2) = true then (if (S 56 p1.toNatClampNeg) = 0 then (.inr ((jf_bits ((S 55 p1.toNatClampNeg) ||| p2)), (gs_up (gs_up S 55 p1.toNatClampNeg ((S 55 p1.toNatClampNeg) ||| p2)) 54 p1.toNatClampNeg ((S 54 p1.toNatClampNeg) ||| p2)))) else (.inl "java/lang/IllegalStateException")) else (.inl "java/lang/IllegalArgumentException")) else (.inl "java/lang/IndexOutOfBoundsException"))
def xp_withdraw (S : gs_T) (p1 : Int32) : String ⊕ (Int32 × gs_T) := (if (xf_isIn p1 0 ((S 21 2) - 1)) = true then (if (S 56 p1.toNatClampNeg) = 0 then (.inr ((S 0 0), (gs_up (gs_up S 56 p1.toNatClampNeg 2) 57 p1.toNatClampNeg (S 0 0)))) else (.inl "java/lang/IllegalStateException")) else (.inl "java/lang/IndexOutOfBoundsException"))
def xp_extend (S : gs_T) (p1 : Int32) (p2 : Int32) : String ⊕ (Int32 × gs_T) := (if (xf_isIn p1 0 ((S 21 1) - 1)) = true then (if (xf_isIn p2 1 365) = true then (if ((xf_isHere S p1.toNatClampNeg) = true) ∧ (¬ ((S 30 p1.toNatClampNeg) = 7)) then (.inr ((if (S 37 p1.toNatClampNeg) < ((S 0 0) + p2) then ((S 0 0) + p2) else (S 37 p1.toNatClampNeg)), (gs_up S 37 p1.toNatClampNeg (if (S 37 p1.toNatClampNeg) < ((S 0 0) + p2) then ((S 0 0) + p2) else (S 37 p1.toNatClampNeg))))) else (.inl "java/lang/IllegalStateException")) else (.inl "java/lang/IllegalArgumentException")) else (.inl "java/lang/IndexOutOfBoundsException"))
def xp_fit (S : gs_T) (p1 : Int32) (p2 : Int32) : String ⊕ (Int32 × gs_T) := (if (xf_isIn p1 0 ((S 21 1) - 1)) = true then (if (xf_isIn p2 0 ((S 21 2) - 1)) = true then (.inr ((xf_score S p1.toNatClampNeg p2.toNatClampNeg), S)) else (.inl "java/lang/IndexOutOfBoundsException")) else (.inl "java/lang/IndexOutOfBoundsException"))
def xp_isProven (S : gs_T) (p1 : Int32) (p2 : Int32) : String ⊕ (Bool × gs_T) := (if (xf_isIn p1 0 ((S 21 1) - 1)) = true then (if (xf_isIn p2 0 ((S 21 2) - 1)) = true then (.inr ((decide ((xf_proves S p2.toNatClampNeg p1.toNatClampNeg) = true)), S)) else (.inl "java/lang/IndexOutOfBoundsException")) else (.inl "java/lang/IndexOutOfBoundsException"))
def xp_ofClaim (S : gs_T) (p1 : Int32) (p2 : Int32) : String ⊕ (Int32 × gs_T) := (if (xf_isIn p1 0 ((S 21 2) - 1)) = true then (if (xf_isIn p2 0 3) = true then (.inr ((if p2 = 0 then (S 56 p1.toNatClampNeg) else (if p2 = 1 then (S 54 p1.toNatClampNeg) else (if p2 = 2 then (S 55 p1.toNatClampNeg) else (S 58 p1.toNatClampNeg)))), S)) else (.inl "java/lang/IllegalArgumentException")) else (.inl "java/lang/IndexOutOfBoundsException"))
def xp_money (S : gs_T) (p1 : Int32) : String ⊕ (Int32 × gs_T) := (if (xf_isIn p1 0 2) = true then (.inr ((if p1 = 0 then (S 9 0) else (if p1 = 1 then (S 10 0) else (S 11 0))), S)) else (.inl "java/lang/IllegalArgumentException"))
def xp_ofFind (S : gs_T) (p1 : Int32) (p2 : Int32) : String ⊕ (Int32 × gs_T) := (if (xf_isIn p1 0 ((S 21 1) - 1)) = true then (if (xf_isIn p2 0 4) = true then (if p2 = 0 then (.inr ((S 36 p1.toNatClampNeg), S)) else (if p2 = 1 then (.inr ((S 39 p1.toNatClampNeg), S)) else (if p2 = 2 then (.inr ((S 37 p1.toNatClampNeg), S)) else (if p2 = 3 then (.inr ((S 33 p1.toNatClampNeg), S)) else (.inr ((S 21 (7 + p1.toNatClampNeg)), S)))))) else (.inl "java/lang/IllegalArgumentException")) else (.inl "java/lang/IndexOutOfBoundsException"))
def xp_audit_L13 (S : gs_T) (p1 : Int32) (i_13 : Nat) (x2_13 : Int32) : Int32 := (x2_13 ||| (if (S 36 i_13) = 0 then (if (S 39 i_13) = p1 then (1 <<< ((nI i_13) &&& 31)) else 0) else 0))
def xp_audit_R13 (S : gs_T) (p1 : Int32) (n i : Nat) (a : Int32) : Int32 := lp_up (fun i a => xp_audit_L13 S p1 i a) n i a
def xp_audit (S : gs_T) (p1 : Int32) : String ⊕ (Int32 × gs_T) := (if (xf_isIn p1 0 5) = true then (.inr ((xp_audit_R13 S p1 (nz S 1) 0 0), S)) else (.inl "java/lang/IndexOutOfBoundsException"))
set_option maxHeartbeats 2000000 in
set_option maxRecDepth 100000 in
theorem xt_hand_day (l : Launch) (E : en_T) (C : ex_C) (A : Nat → Prop) (sz : Nat) (g : kw_A) (h : xh_T) (S : gs_T) (i : Nat) : Met l yX4_day (ws_ yX4_day cX4_day 1 (some .int)) { frames := 0, cells := 0, slots := 0, locals := 0 } (cpc E C A sz [.ref (g 5 i)] (xw E C g h S A) (xok S 5 i)) (cq_Q (some (.int (S 70 i))) (fun _ => True) (nw_A sz)) 0 0 (nw_A sz) := by
  refine cq_start (by decide) (Nat.le_of_ble_eq_true rfl) ?_
  intro p e s m below meth c ls hx hb hr hlocks hml hown hnm hts hsz hK hZ hA hR hP hl
  subst hsz
  have hAA : ∀ a, nw_A s.heap.size a → A a := hA
  have hl : lv_has ls 1 [(0, .ref (g 5 i))] := hl
  have hS : va_S (nw_A s.heap.size) s.heap s.heap [] := va_S.rf
  have hZr := hZ.fresh
  have h_i := hP
  refine lv_aload_n hx hb dX4_day_0 rfl (lv_at hl 0 rfl) ?_
  refine kw_get (C := RX4) (T := TX4) (N := 2) (v := .int (S 70 i)) hx hb hts in_X4 hown hK.1 hR 5 i h_i rfl rfl 0 (by decide) (hts _ q513) (fun _ h9 => h9) rfl dX4_day_1 ?_
  exact W.iret (v := (S 70 i)) hx hb hr (fun t ht hW => ⟨⟨rfl, trivial⟩, hS.F ht⟩) hS.2.2 dX4_day_4
set_option maxHeartbeats 2000000 in
set_option maxRecDepth 100000 in
theorem xt_hand_room (l : Launch) (E : en_T) (C : ex_C) (A : Nat → Prop) (sz : Nat) (g : kw_A) (h : xh_T) (S : gs_T) (i : Nat) : Met l yX4_room (ws_ yX4_room cX4_room 1 (some .int)) { frames := 0, cells := 0, slots := 0, locals := 0 } (cpc E C A sz [.ref (g 5 i)] (xw E C g h S A) (xok S 5 i)) (cq_Q (some (.int (S 71 i))) (fun _ => True) (nw_A sz)) 0 0 (nw_A sz) := by
  refine cq_start (by decide) (Nat.le_of_ble_eq_true rfl) ?_
  intro p e s m below meth c ls hx hb hr hlocks hml hown hnm hts hsz hK hZ hA hR hP hl
  subst hsz
  have hAA : ∀ a, nw_A s.heap.size a → A a := hA
  have hl : lv_has ls 1 [(0, .ref (g 5 i))] := hl
  have hS : va_S (nw_A s.heap.size) s.heap s.heap [] := va_S.rf
  have hZr := hZ.fresh
  have h_i := hP
  refine lv_aload_n hx hb dX4_room_0 rfl (lv_at hl 0 rfl) ?_
  refine kw_get (C := RX4) (T := TX4) (N := 2) (v := .int (S 71 i)) hx hb hts in_X4 hown hK.1 hR 5 i h_i rfl rfl 1 (by decide) (hts _ q514) (fun _ h9 => h9) rfl dX4_room_1 ?_
  exact W.iret (v := (S 71 i)) hx hb hr (fun t ht hW => ⟨⟨rfl, trivial⟩, hS.F ht⟩) hS.2.2 dX4_room_4
set_option maxHeartbeats 2000000 in
set_option maxRecDepth 100000 in
theorem xt_end (l : Launch) (E : en_T) (C : ex_C) (A : Nat → Prop) (sz : Nat) (g : kw_A) (h : xh_T) (S : gs_T) (j : Nat) (p1 : Int32) : Met l yX5_end (ws_ yX5_end cX5_end 2 none) { frames := 0, cells := 0, slots := 0, locals := 0 } (cpc E C A sz [.ref (g 4 j), .int p1] (xw E C g h S A) (j < nz S 2)) (cq_Q none (fun H => xw E C g h (gs_up (gs_up S 56 j p1) 57 j (S 0 0)) A H) A) 0 0 A := by
  refine cq_start (by decide) (Nat.le_of_ble_eq_true rfl) ?_
  intro p e s m below meth c ls hx hb hr hlocks hml hown hnm hts hsz hK hZ hA hR hP hl
  subst hsz
  have hAA : ∀ a, A a → A a := fun _ h => h
  have hl : lv_has ls 2 [(0, .ref (g 4 j)), (1, .int p1)] := hl
  have hS : va_S A s.heap s.heap [] := va_S.rf
  have hZr := hZ
  have h_j := hP
  refine lv_aload_n hx hb dX5_end_0 rfl (lv_at hl 0 rfl) ?_
  refine lv_iload_n hx hb dX5_end_1 rfl (lv_at hl 1 rfl) ?_
  refine kw_put (C := RX5) (T := TX5) (N := 10) hx hb hts in_X5 tyX5 tyX5_ok nmX5 hown hK.1 hR hS 4 j h_j rfl rfl 6 (by decide) (hts _ q724) (fun _ h9 => h9) (Or.inl rfl) rfl rfl rfl (Nat.le_of_ble_eq_true rfl) dX5_end_2 (xen E C g h (gs_up S 56 j p1)) (xe_c (k := 6) rfl) (xn_c (k := 6) rfl) (fun H locs hR hS => ?_)
  have hR := xw_up rfl hR
  refine lv_aload_n hx hb dX5_end_5 rfl (lv_at hl 0 rfl) ?_
  refine lv_aload_n hx hb dX5_end_6 rfl (lv_at hl 0 rfl) ?_
  refine kw_get (C := RX5) (T := TX5) (N := 10) (v := .ref (g 0 0)) hx hb hts in_X5 hown hK.1 hR 4 j h_j rfl rfl 9 (by decide) (hts _ q730) (fun _ h9 => h9) rfl dX5_end_7 ?_
  refine kw_getN (C := RX1) (T := TX1) (N := 12) (v := .int (S 0 0)) hx hb hts in_X1 hown hK.1 hR 0 0 rfl rfl rfl 0 (by decide) (va_Nw.use rfl (hK.2.1 _ q167 rfl)) (fun _ h9 => h9) (congrArg (fun z => some (Value.int z)) (congrFun (gs_sk rfl) 0)) dX5_end_10 ?_
  refine kw_put (C := RX5) (T := TX5) (N := 10) hx hb hts in_X5 tyX5 tyX5_ok nmX5 hown hK.1 hR hS 4 j h_j rfl rfl 7 (by decide) (hts _ q726) (fun _ h9 => h9) (Or.inl rfl) rfl rfl rfl (Nat.le_of_ble_eq_true rfl) dX5_end_13 (xen E C g h (gs_up (gs_up S 56 j p1) 57 j (S 0 0))) (xe_c (k := 7) rfl) (xn_c (k := 7) rfl) (fun H locs hR hS => ?_)
  have hR := xw_up rfl hR
  exact W.vret hx hb hr (fun t ht hW => ⟨⟨rfl, (by rw [ht]; exact hR)⟩, hS.F ht⟩) hS.2.2 dX5_end_16
set_option maxHeartbeats 2000000 in
set_option maxRecDepth 100000 in
theorem xt_candidates (l : Launch) (E : en_T) (C : ex_C) (A : Nat → Prop) (sz : Nat) (g : kw_A) (h : xh_T) (S : gs_T) (j : Nat) : Met l yX1_candidates (ws_ yX1_candidates cX1_candidates 4 (some .int)) { frames := 9, cells := 0, slots := 0, locals := 200 } (cpc E C A sz [.ref (g 0 0), .ref (g 4 j)] (xw E C g h S A) (xi_ok S ∧ xh C g h S ∧ j < nz S 2)) (cq_Q (some (.int (xf_candidates S j))) (fun _ => True) (nw_A sz)) 0 0 (nw_A sz) := by
  refine cq_start (by decide) (Nat.le_of_ble_eq_true rfl) ?_
  intro p e s m below meth c ls hx hb hr hlocks hml hown hnm hts hsz hK hZ hA hR hP hl
  subst hsz
  have hAA : ∀ a, nw_A s.heap.size a → A a := hA
  have hl : lv_has ls 4 [(0, .ref (g 0 0)), (1, .ref (g 4 j))] := hl
  have hS : va_S (nw_A s.heap.size) s.heap s.heap [] := va_S.rf
  have hZr := hZ.fresh
  obtain ⟨hI, hh, h_j⟩ := hP
  have hn1 := (xi_fn hI).2
  have hf : (xf_candidates S j) = (xf_candidates S j) := rfl
  refine lv_iconst (v := 0) hx hb dX1_candidates_0 (by decide) ?_
  refine lv_istore_n (lv' := [(2, .int 0), (0, .ref (g 0 0)), (1, .ref (g 4 j))]) hx hb dX1_candidates_1 rfl hl (by decide) rfl (fun ls hl => ?_)
  refine lv_iconst (v := 0) hx hb dX1_candidates_2 (by decide) ?_
  refine lv_istore_n (lv' := [(3, .int 0), (2, .int 0), (0, .ref (g 0 0)), (1, .ref (g 4 j))]) hx hb dX1_candidates_3 rfl hl (by decide) rfl (fun ls hl => ?_)
  have hL_4 : ∀ (n_4 i_4 : Nat) (x2_4 : Int32) (H : Heap) (locs : List Loc) (ls : Array Slot), i_4 + n_4 = (nz S 1) → xf_candidates_R4 S j n_4 i_4 x2_4 = (xf_candidates_R4 S j (nz S 1) 0 0) → (xw E C g h S A) H → va_S (nw_A s.heap.size) s.heap H locs → lv_has ls 4 [(0, .ref (g 0 0)), (1, .ref (g 4 j)), (2, .int x2_4), (3, .int (nI i_4))] → cq_G p l e { frames := 9, cells := 0, slots := 0, locals := 200 } s m [.ref (g 0 0), .ref (g 4 j)] below meth c (nw_A s.heap.size) (cq_Q (some (.int (xf_candidates S j))) (fun _ => True) (nw_A s.heap.size)) 0 0 H locs 0 0 (F0 m 4 ls []) := by
    intro n_4
    induction n_4 with
    | zero =>
      intro i_4 x2_4 H locs ls hi_4 hg_4 hR hS hl
      have hi_4 : i_4 = (nz S 1) := hi_4
      subst hi_4
      have e_x2_4 : x2_4 = (xf_candidates_R4 S j (nz S 1) 0 0) := congrArg (fun z => z) hg_4
      subst e_x2_4
      refine lv_iload_n hx hb dX1_candidates_4 rfl (lv_at hl 3 rfl) ?_
      refine lv_aload_n hx hb dX1_candidates_5 rfl (lv_at hl 0 rfl) ?_
      refine kw_get (C := RX1) (T := TX1) (N := 12) (v := .ref (g 1 1)) hx hb hts in_X1 hown hK.1 hR 0 0 rfl rfl rfl 7 (by decide) (hts _ q176) (fun _ h9 => h9) rfl dX1_candidates_6 ?_
      refine cq_F (v := (some (.int (S 21 1)))) (As := []) (rest := [.int (nI (nz S 1))]) hK hZ hA hAA hS hR ⟨(Nat.lt_of_lt_of_le (by decide) (Nat.le_add_right 7 _)), rfl⟩ (jt_size l E C A H.size (xok S) g (xen E C g h S) 1 (S 20 1) (S 21 1) (.ref (if cz S 1 = 0 then C.2.1 else g 2 1))) (fun _ h => Nat.le_trans hS.1 h) (hK.1.1 5 _ rfl).2 ⟨hx, hb, hml, hown, hts⟩ (va_cwF 0 hts (lw_F q389 q392 q394 q36 q396) rfl rfl rfl (fw_size hK) (by decide +kernel) ⟨Nat.le_of_ble_eq_true rfl, Nat.le_of_ble_eq_true rfl⟩) (kw_recv (t := 1) (i := 1) hK.1 hR (Nat.lt_of_lt_of_le (by decide) (Nat.le_add_right 7 _)) rfl rfl) rfl hl.1 rfl (Nat.le_of_ble_eq_true rfl) dX1_candidates_9 ⟨Nat.le_of_ble_eq_true rfl, Nat.le_of_ble_eq_true rfl⟩ (fun H locs hB hz hk hS => ?_)
      have hR := hR.kept (fun a _ h => hk a h (Nat.not_le.mpr h))
      refine W.eq (g2 := F0 m 14 ls [.int (S 21 1), .int (nI (nz S 1))]) rfl ?_
      refine lv_icmp_ge (tgt := 73) hx hb dX1_candidates_14 (by decide) (fun c_1 => ?_) (fun c_1 => absurd (lp_x0 ((xi_fn hI).1)) c_1)
      refine lv_iload_n hx hb dX1_candidates_73 rfl (lv_at hl 2 rfl) ?_
      exact W.iret (v := (xf_candidates_R4 S j (nz S 1) 0 0)) hx hb hr (fun t ht hW => ⟨⟨(congrArg (fun z => Outcome.returned (some (Value.int z))) hf), trivial⟩, hS.F ht⟩) hS.2.2 dX1_candidates_74
    | succ n_4 ih_4 =>
      intro i_4 x2_4 H locs ls hi_4 hg_4 hR hS hl
      have hlt_4 : i_4 < (nz S 1) := by omega
      have hf_4 : xf_candidates_L4 S j i_4 x2_4 = xf_candidates_L4 S j i_4 x2_4 := rfl
      refine lv_iload_n hx hb dX1_candidates_4 rfl (lv_at hl 3 rfl) ?_
      refine lv_aload_n hx hb dX1_candidates_5 rfl (lv_at hl 0 rfl) ?_
      refine kw_get (C := RX1) (T := TX1) (N := 12) (v := .ref (g 1 1)) hx hb hts in_X1 hown hK.1 hR 0 0 rfl rfl rfl 7 (by decide) (hts _ q176) (fun _ h9 => h9) rfl dX1_candidates_6 ?_
      refine cq_F (v := (some (.int (S 21 1)))) (As := []) (rest := [.int (nI i_4)]) hK hZ hA hAA hS hR ⟨(Nat.lt_of_lt_of_le (by decide) (Nat.le_add_right 7 _)), rfl⟩ (jt_size l E C A H.size (xok S) g (xen E C g h S) 1 (S 20 1) (S 21 1) (.ref (if cz S 1 = 0 then C.2.1 else g 2 1))) (fun _ h => Nat.le_trans hS.1 h) (hK.1.1 5 _ rfl).2 ⟨hx, hb, hml, hown, hts⟩ (va_cwF 0 hts (lw_F q389 q392 q394 q36 q396) rfl rfl rfl (fw_size hK) (by decide +kernel) ⟨Nat.le_of_ble_eq_true rfl, Nat.le_of_ble_eq_true rfl⟩) (kw_recv (t := 1) (i := 1) hK.1 hR (Nat.lt_of_lt_of_le (by decide) (Nat.le_add_right 7 _)) rfl rfl) rfl hl.1 rfl (Nat.le_of_ble_eq_true rfl) dX1_candidates_9 ⟨Nat.le_of_ble_eq_true rfl, Nat.le_of_ble_eq_true rfl⟩ (fun H locs hB hz hk hS => ?_)
      have hR := hR.kept (fun a _ h => hk a h (Nat.not_le.mpr h))
      refine W.eq (g2 := F0 m 14 ls [.int (S 21 1), .int (nI i_4)]) rfl ?_
      refine lv_icmp_ge (tgt := 73) hx hb dX1_candidates_14 (by decide) (fun c_2 => absurd c_2 (lp_x1 ((xi_fn hI).1) hlt_4 (by omega))) (fun c_2 => ?_)
      refine lv_iload_n hx hb dX1_candidates_17 rfl (lv_at hl 2 rfl) ?_
      refine lv_aload_n hx hb dX1_candidates_18 rfl (lv_at hl 0 rfl) ?_
      refine kw_get (C := RX1) (T := TX1) (N := 12) (v := .ref (g 1 1)) hx hb hts in_X1 hown hK.1 hR 0 0 rfl rfl rfl 7 (by decide) (hts _ q176) (fun _ h9 => h9) rfl dX1_candidates_19 ?_
      refine lv_iload_n hx hb dX1_candidates_22 rfl (lv_at hl 3 rfl) ?_
      refine cq_F (v := (some (.ref (g 3 i_4)))) (As := [.int (nI i_4)]) (rest := [.int x2_4]) hK hZ hA hAA hS hR (xg_get hI hh (Nat.lt_of_lt_of_le (by decide) (Nat.le_add_right 7 _)) (nI_nn (by omega)) (by rw [(xi_fn hI).1]; exact nI_lt hlt_4 (by omega)) (by rw [nI_clamp (by omega)]; rfl)) (jt_get l E C A H.size (xok S) g (xen E C g h S) 1 (S 20 1) (S 21 1) (cz S 1) (h 1) (nI i_4) (g 3 i_4)) (fun _ h => Nat.le_trans hS.1 h) (hK.1.1 5 _ rfl).2 ⟨hx, hb, hml, hown, hts⟩ (va_cwF 1 hts (lw_F q369 q372 q374 q36 q376) rfl rfl rfl (fw_get hK) (by decide +kernel) ⟨Nat.le_of_ble_eq_true rfl, Nat.le_of_ble_eq_true rfl⟩) (kw_recv (t := 1) (i := 1) hK.1 hR (Nat.lt_of_lt_of_le (by decide) (Nat.le_add_right 7 _)) rfl rfl) rfl hl.1 rfl (Nat.le_of_ble_eq_true rfl) dX1_candidates_23 ⟨Nat.le_of_ble_eq_true rfl, Nat.le_of_ble_eq_true rfl⟩ (fun H locs hB hz hk hS => ?_)
      have hR := hR.kept (fun a _ h => hk a h (Nat.not_le.mpr h))
      refine W.eq (g2 := F0 m 28 ls [.ref (g 3 i_4), .int x2_4]) rfl ?_
      refine va_castS hx hb hown (hts _ q496) (hK.1.1 2 _ rfl).2 (kw_recv (t := 3) (i := i_4) hK.1 hR hlt_4 rfl rfl) dX1_candidates_28 ?_
      refine cq_V (v := (some (.int (gs_bz (xf_isHere S i_4))))) (As := []) (rest := [.int x2_4]) hK hZ hA hAA hS hR ⟨hI, hh, (by first | assumption | omega)⟩ (xt_isHere l E C A H.size g h S i_4) (fun _ h => Nat.le_trans hS.1 h) ⟨hx, hb, hml, hown, hts⟩ (cwV 0 hts (lw_V q695 q696 q697 q55 q698) rfl rfl rfl (by decide +kernel) ⟨Nat.le_of_ble_eq_true rfl, Nat.le_of_ble_eq_true rfl⟩) (kw_recv (t := 3) (i := i_4) hK.1 hR hlt_4 rfl rfl) rfl hl.1 rfl (Nat.le_of_ble_eq_true rfl) dX1_candidates_31 ⟨Nat.le_of_ble_eq_true rfl, Nat.le_of_ble_eq_true rfl⟩ (fun H locs hB hz hk hS => ?_)
      have hR := hR.kept (fun a _ h => hk a h (Nat.not_le.mpr h))
      refine W.eq (g2 := F0 m 34 ls [.int (if (xf_isHere S i_4) = true then 1 else 0), .int x2_4]) rfl ?_
      have hJ_65 : ∀ (H : Heap) (locs : List Loc) (ls : Array Slot) (v_65 : Int32), v_65 = (if (xf_isHere S i_4) = true then (if (xf_isCandidate S i_4 j) = true then (1 <<< ((nI i_4) &&& 31)) else 0) else 0) → (xw E C g h S A) H → va_S (nw_A s.heap.size) s.heap H locs → lv_has ls 4 [(0, .ref (g 0 0)), (1, .ref (g 4 j)), (3, .int (nI i_4))] → cq_G p l e { frames := 9, cells := 0, slots := 0, locals := 200 } s m [.ref (g 0 0), .ref (g 4 j)] below meth c (nw_A s.heap.size) (cq_Q (some (.int (xf_candidates S j))) (fun _ => True) (nw_A s.heap.size)) 0 0 H locs 0 0 (F0 m 65 ls [.int v_65, .int x2_4]) := by
        intro H locs ls v_65 e_v_65 hR hS hl
        subst e_v_65
        refine lv_ior hx hb dX1_candidates_65 ?_
        refine lv_istore_n (lv' := [(2, .int (x2_4 ||| (if (xf_isHere S i_4) = true then (if (xf_isCandidate S i_4 j) = true then (1 <<< ((nI i_4) &&& 31)) else 0) else 0))), (0, .ref (g 0 0)), (1, .ref (g 4 j)), (3, .int (nI i_4))]) hx hb dX1_candidates_66 rfl hl (by decide) rfl (fun ls hl => ?_)
        refine lv_iinc (v := (nI (i_4 + 1))) (lv' := [(3, .int (nI (i_4 + 1))), (2, .int (x2_4 ||| (if (xf_isHere S i_4) = true then (if (xf_isCandidate S i_4 j) = true then (1 <<< ((nI i_4) &&& 31)) else 0) else 0))), (0, .ref (g 0 0)), (1, .ref (g 4 j))]) hx hb dX1_candidates_67 hl (k := 3) rfl (nI_1 i_4) (by decide) rfl (fun ls hl => ?_)
        refine lv_goto (tgt := 4) hx hb dX1_candidates_70 (by decide) ?_
        exact ih_4 (i_4 + 1) (x2_4 ||| (if (xf_isHere S i_4) = true then (if (xf_isCandidate S i_4 j) = true then (1 <<< ((nI i_4) &&& 31)) else 0) else 0)) _ _ _ (by omega) ((congrArg (fun z => xf_candidates_R4 S j n_4 (i_4 + 1) z) hf_4).trans hg_4) hR hS (lv_sub hl [2, 3, 1, 0] rfl)
      refine lv_if_eq (tgt := 64) hx hb dX1_candidates_34 (by decide) (fun c_3 => ?_) (fun c_3 => ?_)
      · skip
        have c_3 : ¬ ((xf_isHere S i_4) = true) := gs_zf (φ := (xf_isHere S i_4) = true) c_3
        refine lv_iconst (v := 0) hx hb dX1_candidates_64 (by decide) ?_
        exact hJ_65 _ _ _ 0 ((if_neg c_3).symm) hR hS (lv_sub hl [0, 1, 3] rfl)
      · skip
        have c_3 : (xf_isHere S i_4) = true := gs_zt (φ := (xf_isHere S i_4) = true) c_3
        refine lv_aload_n hx hb dX1_candidates_37 rfl (lv_at hl 0 rfl) ?_
        refine lv_aload_n hx hb dX1_candidates_38 rfl (lv_at hl 0 rfl) ?_
        refine kw_get (C := RX1) (T := TX1) (N := 12) (v := .ref (g 1 1)) hx hb hts in_X1 hown hK.1 hR 0 0 rfl rfl rfl 7 (by decide) (hts _ q176) (fun _ h9 => h9) rfl dX1_candidates_39 ?_
        refine lv_iload_n hx hb dX1_candidates_42 rfl (lv_at hl 3 rfl) ?_
        refine cq_F (v := (some (.ref (g 3 i_4)))) (As := [.int (nI i_4)]) (rest := [.ref (g 0 0), .int x2_4]) hK hZ hA hAA hS hR (xg_get hI hh (Nat.lt_of_lt_of_le (by decide) (Nat.le_add_right 7 _)) (nI_nn (by omega)) (by rw [(xi_fn hI).1]; exact nI_lt hlt_4 (by omega)) (by rw [nI_clamp (by omega)]; rfl)) (jt_get l E C A H.size (xok S) g (xen E C g h S) 1 (S 20 1) (S 21 1) (cz S 1) (h 1) (nI i_4) (g 3 i_4)) (fun _ h => Nat.le_trans hS.1 h) (hK.1.1 5 _ rfl).2 ⟨hx, hb, hml, hown, hts⟩ (va_cwF 1 hts (lw_F q369 q372 q374 q36 q376) rfl rfl rfl (fw_get hK) (by decide +kernel) ⟨Nat.le_of_ble_eq_true rfl, Nat.le_of_ble_eq_true rfl⟩) (kw_recv (t := 1) (i := 1) hK.1 hR (Nat.lt_of_lt_of_le (by decide) (Nat.le_add_right 7 _)) rfl rfl) rfl hl.1 rfl (Nat.le_of_ble_eq_true rfl) dX1_candidates_43 ⟨Nat.le_of_ble_eq_true rfl, Nat.le_of_ble_eq_true rfl⟩ (fun H locs hB hz hk hS => ?_)
        have hR := hR.kept (fun a _ h => hk a h (Nat.not_le.mpr h))
        refine W.eq (g2 := F0 m 48 ls [.ref (g 3 i_4), .ref (g 0 0), .int x2_4]) rfl ?_
        refine va_castS hx hb hown (hts _ q496) (hK.1.1 2 _ rfl).2 (kw_recv (t := 3) (i := i_4) hK.1 hR hlt_4 rfl rfl) dX1_candidates_48 ?_
        refine lv_aload_n hx hb dX1_candidates_51 rfl (lv_at hl 1 rfl) ?_
        refine cq_V (v := (some (.int (gs_bz (xf_isCandidate S i_4 j))))) (As := [.ref (g 3 i_4), .ref (g 4 j)]) (rest := [.int x2_4]) hK hZ hA hAA hS hR ⟨hI, hh, (by first | assumption | omega), (by first | assumption | omega)⟩ (xt_isCandidate l E C A H.size g h S i_4 j) (fun _ h => Nat.le_trans hS.1 h) ⟨hx, hb, hml, hown, hts⟩ (cwV 2 hts (lw_V q788 q790 qs7 q33 q791) rfl rfl rfl (by decide +kernel) ⟨Nat.le_of_ble_eq_true rfl, Nat.le_of_ble_eq_true rfl⟩) (kw_recv (t := 0) (i := 0) hK.1 hR rfl rfl rfl) rfl hl.1 rfl (Nat.le_of_ble_eq_true rfl) dX1_candidates_52 ⟨Nat.le_of_ble_eq_true rfl, Nat.le_of_ble_eq_true rfl⟩ (fun H locs hB hz hk hS => ?_)
        have hR := hR.kept (fun a _ h => hk a h (Nat.not_le.mpr h))
        refine W.eq (g2 := F0 m 55 ls [.int (if (xf_isCandidate S i_4 j) = true then 1 else 0), .int x2_4]) rfl ?_
        refine lv_if_eq (tgt := 64) hx hb dX1_candidates_55 (by decide) (fun c_4 => ?_) (fun c_4 => ?_)
        · skip
          have c_4 : ¬ ((xf_isCandidate S i_4 j) = true) := gs_zf (φ := (xf_isCandidate S i_4 j) = true) c_4
          refine lv_iconst (v := 0) hx hb dX1_candidates_64 (by decide) ?_
          exact hJ_65 _ _ _ 0 (((if_neg c_4).symm).trans (if_pos c_3).symm) hR hS (lv_sub hl [0, 1, 3] rfl)
        · skip
          have c_4 : (xf_isCandidate S i_4 j) = true := gs_zt (φ := (xf_isCandidate S i_4 j) = true) c_4
          refine lv_iconst (v := 1) hx hb dX1_candidates_58 (by decide) ?_
          refine lv_iload_n hx hb dX1_candidates_59 rfl (lv_at hl 3 rfl) ?_
          refine lv_ishl hx hb dX1_candidates_60 ?_
          refine lv_goto (tgt := 65) hx hb dX1_candidates_61 (by decide) ?_
          exact hJ_65 _ _ _ (1 <<< ((nI i_4) &&& 31)) (((if_pos c_4).symm).trans (if_pos c_3).symm) hR hS (lv_sub hl [0, 1, 3] rfl)
  exact hL_4 (nz S 1) 0 0 _ _ _ (by omega) rfl hR hS (lv_sub hl [2, 3, 1, 0] rfl)
set_option maxHeartbeats 2000000 in
set_option maxRecDepth 100000 in
theorem xs_near (l : Launch) (hfl : l.stackTraces = false) (E : en_T) (C : ex_C) (A : Nat → Prop) (sz : Nat) (g : kw_A) (h : xh_T) (S : gs_T) (p1 : Int32) (p2 : Int32) : vx_Met l yX1_near (ws_ yX1_near cX1_near 3 (some .boolean)) { frames := 7, cells := 1, slots := 6, locals := 120 } (cpc E C A sz [.ref (g 0 0), .int p1, .int p2] (xw E C g h S A) (xi_ok S ∧ xh C g h S)) (xq_Q gs_bz E C (g 0 0) A (xp_near S p1 p2)) (xq_X E C g h S A (xp_near S p1 p2)) 1 6 A := by
  refine cx_start (by decide) (Nat.le_of_ble_eq_true rfl) ?_
  intro p e s m below meth c ls hx hb hr hlocks hml hown hnm hnt hts hsz hK hZ hA hR hP hl
  subst hsz
  have hAA : ∀ a, A a → A a := fun _ h => h
  have hl : lv_has ls 3 [(0, .ref (g 0 0)), (1, .int p1), (2, .int p2)] := hl
  have hS : va_S A s.heap s.heap [] := va_S.rf
  have hZr := hZ
  obtain ⟨hI, hh⟩ := hP
  have hf : (xp_near S p1 p2) = (xp_near S p1 p2) := rfl
  refine lv_iload_n hx hb dX1_near_0 rfl (lv_at hl 1 rfl) ?_
  refine lv_iconst (v := 0) hx hb dX1_near_1 (by decide) ?_
  refine lv_bipush (v := 23) hx hb dX1_near_2 (by decide) ?_
  refine ps_calli (As := [.int p1, .int 0, .int 23]) (rest := []) ⟨hx, hb, hml, hown, hts⟩ (xt_isIn l p1 0 23) (va_cwS 3 hts (lw_S q295 q296 q33 q297) rfl rfl rfl (by decide +kernel) ⟨Nat.le_of_ble_eq_true rfl, Nat.le_of_ble_eq_true rfl⟩) trivial hS rfl hl.1 rfl (Nat.le_of_ble_eq_true rfl) dX1_near_4 ⟨Nat.zero_le _, Nat.zero_le _⟩ (fun H locs hz hk hS => ?_)
  have hR := hR.kept (fun a _ h => hk a h)
  have hJ_25 : ∀ (H : Heap) (locs : List Loc) (ls : Array Slot) (v_25 : Int32), v_25 = (if ((xf_isIn p1 0 23) = true) ∧ ((xf_isIn p2 0 23) = true) then 1 else 0) → (xw E C g h S A) H → va_S A s.heap H locs → lv_has ls 3 [(0, .ref (g 0 0)), (1, .int p1), (2, .int p2)] → cx_G p l e { frames := 7, cells := 1, slots := 6, locals := 120 } s m [.ref (g 0 0), .int p1, .int p2] below meth c A (xq_Q gs_bz E C (g 0 0) A (xp_near S p1 p2)) (xq_X E C g h S A (xp_near S p1 p2)) 1 6 H locs 0 0 (F0 m 25 ls [.int v_25]) := by
    intro H locs ls v_25 e_v_25 hR hS hl
    subst e_v_25
    by_cases c_1 : ((xf_isIn p1 0 23) = true) ∧ ((xf_isIn p2 0 23) = true)
    · skip
      have hf := (if_pos c_1).symm.trans hf
      have c_2 := c_1.1
      have c_3 := c_1.2
      have c_4 := xq_vp24 c_2
      have c_5 := xq_vp24 c_3
      refine ps_callv (As := [.int (if ((xf_isIn p1 0 23) = true) ∧ ((xf_isIn p2 0 23) = true) then 1 else 0)]) (rest := []) ⟨hx, hb, hml, hown, hts⟩ (xo_requireIndex l _) (va_cwS 1 hts (lw_S q298 q299 q33 q300) rfl rfl rfl (by decide +kernel) ⟨Nat.le_of_ble_eq_true rfl, Nat.le_of_ble_eq_true rfl⟩) (if_pos c_1) hS rfl hl.1 rfl (Nat.le_of_ble_eq_true rfl) dX1_near_25 ⟨Nat.le_of_ble_eq_true rfl, Nat.le_of_ble_eq_true rfl⟩ (fun H locs hz hk hS => ?_)
      have hR := hR.kept (fun a _ h => hk a h)
      refine lv_iload_n hx hb dX1_near_28 rfl (lv_at hl 1 rfl) ?_
      refine lv_iload_n hx hb dX1_near_29 rfl (lv_at hl 2 rfl) ?_
      have hJ_38 : ∀ (H : Heap) (locs : List Loc) (ls : Array Slot) (v_38 : Int32), v_38 = (if ¬ (p1 = p2) then 1 else 0) → (xw E C g h S A) H → va_S A s.heap H locs → lv_has ls 3 [(0, .ref (g 0 0)), (1, .int p1), (2, .int p2)] → cx_G p l e { frames := 7, cells := 1, slots := 6, locals := 120 } s m [.ref (g 0 0), .int p1, .int p2] below meth c A (xq_Q gs_bz E C (g 0 0) A (xp_near S p1 p2)) (xq_X E C g h S A (xp_near S p1 p2)) 1 6 H locs 0 0 (F0 m 38 ls [.int v_38]) := by
        intro H locs ls v_38 e_v_38 hR hS hl
        subst e_v_38
        by_cases c_6 : ¬ (p1 = p2)
        · skip
          have hf := (if_pos c_6).symm.trans hf
          refine ps_callv (As := [.int (if ¬ (p1 = p2) then 1 else 0)]) (rest := []) ⟨hx, hb, hml, hown, hts⟩ (xo_requireArgument l _) (va_cwS 1 hts (lw_S q322 q323 q33 q324) rfl rfl rfl (by decide +kernel) ⟨Nat.le_of_ble_eq_true rfl, Nat.le_of_ble_eq_true rfl⟩) (if_pos c_6) hS rfl hl.1 rfl (Nat.le_of_ble_eq_true rfl) dX1_near_38 ⟨Nat.le_of_ble_eq_true rfl, Nat.le_of_ble_eq_true rfl⟩ (fun H locs hz hk hS => ?_)
          have hR := hR.kept (fun a _ h => hk a h)
          refine lv_aload_n hx hb dX1_near_41 rfl (lv_at hl 0 rfl) ?_
          refine kw_get (C := RX1) (T := TX1) (N := 12) (v := .ref (g 6 1)) hx hb hts in_X1 hown hK.1 hR 0 0 rfl rfl rfl 1 (by decide) (hts _ q169) (fun _ h9 => h9) rfl dX1_near_42 ?_
          refine lv_iload_n hx hb dX1_near_45 rfl (lv_at hl 1 rfl) ?_
          refine lv_dup2_11 hx hb dX1_near_46 rfl rfl ?_
          refine kw_iald (n := 24) (v := (S 1 p1.toNatClampNeg)) hx hb hK.1 hR 6 1 ⟨by decide, by decide⟩ rfl (by first | assumption) rfl dX1_near_47 ?_
          refine lv_iconst (v := 1) hx hb dX1_near_48 (by decide) ?_
          refine lv_iload_n hx hb dX1_near_49 rfl (lv_at hl 2 rfl) ?_
          refine lv_ishl hx hb dX1_near_50 ?_
          refine lv_ixor hx hb dX1_near_51 ?_
          refine kw_iast (n := 24) hx hb hK.1 hR hS 6 1 ⟨by decide, by decide⟩ rfl (by first | assumption) dX1_near_52 (xen E C g h (gs_up S 1 p1.toNatClampNeg ((S 1 p1.toNatClampNeg) ^^^ (1 <<< (p2 &&& 31))))) (congrArg (fun z => (Sum.inl (E.2.1, 24, .inl z) : va_E)) gs_up_at) (xn_a (k := 1) rfl) (fun H locs hR hS => ?_)
          have hR := xw_up rfl hR
          have hh := xh_up (k := 1) (i := p1.toNatClampNeg) (v := ((S 1 p1.toNatClampNeg) ^^^ (1 <<< (p2 &&& 31)))) rfl hh
          refine lv_aload_n hx hb dX1_near_53 rfl (lv_at hl 0 rfl) ?_
          refine kw_get (C := RX1) (T := TX1) (N := 12) (v := .ref (g 6 1)) hx hb hts in_X1 hown hK.1 hR 0 0 rfl rfl rfl 1 (by decide) (hts _ q169) (fun _ h9 => h9) rfl dX1_near_54 ?_
          refine lv_iload_n hx hb dX1_near_57 rfl (lv_at hl 2 rfl) ?_
          refine lv_dup2_11 hx hb dX1_near_58 rfl rfl ?_
          refine kw_iald (n := 24) (v := ((upd (S 1) p1.toNatClampNeg ((S 1 p1.toNatClampNeg) ^^^ (1 <<< (p2 &&& 31)))) p2.toNatClampNeg)) hx hb hK.1 hR 6 1 ⟨by decide, by decide⟩ rfl (by first | assumption) (congrFun gs_up_at p2.toNatClampNeg) dX1_near_59 ?_
          refine lv_iconst (v := 1) hx hb dX1_near_60 (by decide) ?_
          refine lv_iload_n hx hb dX1_near_61 rfl (lv_at hl 1 rfl) ?_
          refine lv_ishl hx hb dX1_near_62 ?_
          refine lv_ixor hx hb dX1_near_63 ?_
          refine kw_iast (n := 24) hx hb hK.1 hR hS 6 1 ⟨by decide, by decide⟩ rfl (by first | assumption) dX1_near_64 (xen E C g h (gs_up (gs_up S 1 p1.toNatClampNeg ((S 1 p1.toNatClampNeg) ^^^ (1 <<< (p2 &&& 31)))) 1 p2.toNatClampNeg (((upd (S 1) p1.toNatClampNeg ((S 1 p1.toNatClampNeg) ^^^ (1 <<< (p2 &&& 31)))) p2.toNatClampNeg) ^^^ (1 <<< (p1 &&& 31))))) (congrArg (fun z => (Sum.inl (E.2.1, 24, .inl z) : va_E)) gs_up_at) (xn_a (k := 1) rfl) (fun H locs hR hS => ?_)
          have hR := xw_up rfl hR
          have hh := xh_up (k := 1) (i := p2.toNatClampNeg) (v := (((upd (S 1) p1.toNatClampNeg ((S 1 p1.toNatClampNeg) ^^^ (1 <<< (p2 &&& 31)))) p2.toNatClampNeg) ^^^ (1 <<< (p1 &&& 31)))) rfl hh
          refine lv_aload_n hx hb dX1_near_65 rfl (lv_at hl 0 rfl) ?_
          refine kw_get (C := RX1) (T := TX1) (N := 12) (v := .ref (g 6 1)) hx hb hts in_X1 hown hK.1 hR 0 0 rfl rfl rfl 1 (by decide) (hts _ q169) (fun _ h9 => h9) rfl dX1_near_66 ?_
          refine lv_iload_n hx hb dX1_near_69 rfl (lv_at hl 1 rfl) ?_
          refine kw_iald (n := 24) (v := ((upd (upd (S 1) p1.toNatClampNeg ((S 1 p1.toNatClampNeg) ^^^ (1 <<< (p2 &&& 31)))) p2.toNatClampNeg (((upd (S 1) p1.toNatClampNeg ((S 1 p1.toNatClampNeg) ^^^ (1 <<< (p2 &&& 31)))) p2.toNatClampNeg) ^^^ (1 <<< (p1 &&& 31)))) p1.toNatClampNeg)) hx hb hK.1 hR 6 1 ⟨by decide, by decide⟩ rfl (by first | assumption) (congrFun (gs_up_at.trans (congrArg (fun z => upd z p2.toNatClampNeg (((upd (S 1) p1.toNatClampNeg ((S 1 p1.toNatClampNeg) ^^^ (1 <<< (p2 &&& 31)))) p2.toNatClampNeg) ^^^ (1 <<< (p1 &&& 31)))) gs_up_at)) p1.toNatClampNeg) dX1_near_70 ?_
          refine lv_iload_n hx hb dX1_near_71 rfl (lv_at hl 2 rfl) ?_
          refine ps_calli (As := [.int ((upd (upd (S 1) p1.toNatClampNeg ((S 1 p1.toNatClampNeg) ^^^ (1 <<< (p2 &&& 31)))) p2.toNatClampNeg (((upd (S 1) p1.toNatClampNeg ((S 1 p1.toNatClampNeg) ^^^ (1 <<< (p2 &&& 31)))) p2.toNatClampNeg) ^^^ (1 <<< (p1 &&& 31)))) p1.toNatClampNeg), .int p2]) (rest := []) ⟨hx, hb, hml, hown, hts⟩ (xt_has l ((upd (upd (S 1) p1.toNatClampNeg ((S 1 p1.toNatClampNeg) ^^^ (1 <<< (p2 &&& 31)))) p2.toNatClampNeg (((upd (S 1) p1.toNatClampNeg ((S 1 p1.toNatClampNeg) ^^^ (1 <<< (p2 &&& 31)))) p2.toNatClampNeg) ^^^ (1 <<< (p1 &&& 31)))) p1.toNatClampNeg) p2) (va_cwS 2 hts (lw_S q340 q341 q33 q342) rfl rfl rfl (by decide +kernel) ⟨Nat.le_of_ble_eq_true rfl, Nat.le_of_ble_eq_true rfl⟩) trivial hS rfl hl.1 rfl (Nat.le_of_ble_eq_true rfl) dX1_near_72 ⟨Nat.zero_le _, Nat.zero_le _⟩ (fun H locs hz hk hS => ?_)
          have hR := hR.kept (fun a _ h => hk a h)
          refine W.widen (k := 1) (n := 6) (Nat.le_of_ble_eq_true rfl) (Nat.le_of_ble_eq_true rfl) ?_
          exact vx_ret (W.zret (v := (if (xf_has ((upd (upd (S 1) p1.toNatClampNeg ((S 1 p1.toNatClampNeg) ^^^ (1 <<< (p2 &&& 31)))) p2.toNatClampNeg (((upd (S 1) p1.toNatClampNeg ((S 1 p1.toNatClampNeg) ^^^ (1 <<< (p2 &&& 31)))) p2.toNatClampNeg) ^^^ (1 <<< (p1 &&& 31)))) p1.toNatClampNeg) p2) = true then 1 else 0)) hx hb hr gs_nar (fun t ht hW => ⟨⟨_, _, hf.symm, (congrArg (fun z => Outcome.returned (some (Value.int z))) gs_bz_dec), g, h, rfl, hh, by rw [ht]; exact hR⟩, hS.F ht⟩) hS.2.2 dX1_near_75)
        · skip
          have hf := (if_neg c_6).symm.trans hf
          refine W.eq (g2 := F0 m 38 ls [.int 0]) (congrArg (fun z => F0 m 38 ls (.int z :: [])) (if_neg c_6)) ?_
          refine cx_S (X := fun _ => True) (P := True) (As := [.int 0]) (rest := []) hK hZ hA hAA hS trivial trivial (xt_requireArgument l hfl E C A H.size) (fun _ h => hA _ (Nat.le_trans hS.1 h)) ⟨hx, hb, hml, hown, hts⟩ (va_cwS 1 hts (lw_S q322 q323 q33 q324) rfl rfl rfl (by decide +kernel) ⟨Nat.le_of_ble_eq_true rfl, Nat.le_of_ble_eq_true rfl⟩) rfl hl.1 rfl (Nat.le_of_ble_eq_true rfl) dX1_near_38 ⟨Nat.le_of_ble_eq_true rfl, Nat.le_of_ble_eq_true rfl⟩ (fun ce q9 H locs hB hz hk hS hc9 hv9 hcl => ?_)
          have hR := hR.kept (fun a _ h => hk a h (Nat.not_le.mpr h))
          exact vx_out (fun x h => (hnt x h).elim) hlocks hc9 hv9 hcl (fun t ht _ => ⟨⟨hf.symm, by rw [ht]; exact hR⟩, hS.F ht⟩) hS.2.2 (Nat.le_of_ble_eq_true rfl) (Nat.le_of_ble_eq_true rfl)
      refine lv_icmp_eq (tgt := 37) hx hb dX1_near_30 (by decide) (fun c_7 => ?_) (fun c_7 => ?_)
      · skip
        refine lv_iconst (v := 0) hx hb dX1_near_37 (by decide) ?_
        exact hJ_38 _ _ _ 0 (gi_0 (gi_nb_t c_7)) hR hS (lv_sub hl [0, 1, 2] rfl)
      · skip
        refine lv_iconst (v := 1) hx hb dX1_near_33 (by decide) ?_
        refine lv_goto (tgt := 38) hx hb dX1_near_34 (by decide) ?_
        exact hJ_38 _ _ _ 1 (gi_1 (gi_nb_f c_7)) hR hS (lv_sub hl [0, 1, 2] rfl)
    · skip
      have hf := (if_neg c_1).symm.trans hf
      refine W.eq (g2 := F0 m 25 ls [.int 0]) (congrArg (fun z => F0 m 25 ls (.int z :: [])) (if_neg c_1)) ?_
      refine cx_S (X := fun _ => True) (P := True) (As := [.int 0]) (rest := []) hK hZ hA hAA hS trivial trivial (xt_requireIndex l hfl E C A H.size) (fun _ h => hA _ (Nat.le_trans hS.1 h)) ⟨hx, hb, hml, hown, hts⟩ (va_cwS 1 hts (lw_S q298 q299 q33 q300) rfl rfl rfl (by decide +kernel) ⟨Nat.le_of_ble_eq_true rfl, Nat.le_of_ble_eq_true rfl⟩) rfl hl.1 rfl (Nat.le_of_ble_eq_true rfl) dX1_near_25 ⟨Nat.le_of_ble_eq_true rfl, Nat.le_of_ble_eq_true rfl⟩ (fun ce q9 H locs hB hz hk hS hc9 hv9 hcl => ?_)
      have hR := hR.kept (fun a _ h => hk a h (Nat.not_le.mpr h))
      exact vx_out (fun x h => (hnt x h).elim) hlocks hc9 hv9 hcl (fun t ht _ => ⟨⟨hf.symm, by rw [ht]; exact hR⟩, hS.F ht⟩) hS.2.2 (Nat.le_of_ble_eq_true rfl) (Nat.le_of_ble_eq_true rfl)
  refine lv_if_eq (tgt := 24) hx hb dX1_near_7 (by decide) (fun c_8 => ?_) (fun c_8 => ?_)
  · skip
    have c_8 : ¬ ((xf_isIn p1 0 23) = true) := gs_zf (φ := (xf_isIn p1 0 23) = true) c_8
    refine lv_iconst (v := 0) hx hb dX1_near_24 (by decide) ?_
    exact hJ_25 _ _ _ 0 (gi_0 (gi_ca_f c_8)) hR hS (lv_sub hl [0, 1, 2] rfl)
  · skip
    have c_8 : (xf_isIn p1 0 23) = true := gs_zt (φ := (xf_isIn p1 0 23) = true) c_8
    have c_9 := xq_vp24 c_8
    refine lv_iload_n hx hb dX1_near_10 rfl (lv_at hl 2 rfl) ?_
    refine lv_iconst (v := 0) hx hb dX1_near_11 (by decide) ?_
    refine lv_bipush (v := 23) hx hb dX1_near_12 (by decide) ?_
    refine ps_calli (As := [.int p2, .int 0, .int 23]) (rest := []) ⟨hx, hb, hml, hown, hts⟩ (xt_isIn l p2 0 23) (va_cwS 3 hts (lw_S q295 q296 q33 q297) rfl rfl rfl (by decide +kernel) ⟨Nat.le_of_ble_eq_true rfl, Nat.le_of_ble_eq_true rfl⟩) trivial hS rfl hl.1 rfl (Nat.le_of_ble_eq_true rfl) dX1_near_14 ⟨Nat.zero_le _, Nat.zero_le _⟩ (fun H locs hz hk hS => ?_)
    have hR := hR.kept (fun a _ h => hk a h)
    refine lv_if_eq (tgt := 24) hx hb dX1_near_17 (by decide) (fun c_10 => ?_) (fun c_10 => ?_)
    · skip
      have c_10 : ¬ ((xf_isIn p2 0 23) = true) := gs_zf (φ := (xf_isIn p2 0 23) = true) c_10
      refine lv_iconst (v := 0) hx hb dX1_near_24 (by decide) ?_
      exact hJ_25 _ _ _ 0 (gi_0 ((gi_cb_f c_10).trans (gi_ca_t c_8))) hR hS (lv_sub hl [0, 1, 2] rfl)
    · skip
      have c_10 : (xf_isIn p2 0 23) = true := gs_zt (φ := (xf_isIn p2 0 23) = true) c_10
      have c_11 := xq_vp24 c_10
      refine lv_iconst (v := 1) hx hb dX1_near_20 (by decide) ?_
      refine lv_goto (tgt := 25) hx hb dX1_near_21 (by decide) ?_
      exact hJ_25 _ _ _ 1 (gi_1 ((gi_cb_t c_10).trans (gi_ca_t c_8))) hR hS (lv_sub hl [0, 1, 2] rfl)
set_option maxHeartbeats 2000000 in
set_option maxRecDepth 100000 in
theorem xs_alike (l : Launch) (hfl : l.stackTraces = false) (E : en_T) (C : ex_C) (A : Nat → Prop) (sz : Nat) (g : kw_A) (h : xh_T) (S : gs_T) (p1 : Int32) (p2 : Int32) : vx_Met l yX1_alike (ws_ yX1_alike cX1_alike 3 (some .boolean)) { frames := 8, cells := 1, slots := 6, locals := 140 } (cpc E C A sz [.ref (g 0 0), .int p1, .int p2] (xw E C g h S A) (xi_ok S ∧ xh C g h S)) (xq_Q gs_bz E C (g 0 0) A (xp_alike S p1 p2)) (xq_X E C g h S A (xp_alike S p1 p2)) 1 6 A := by
  refine cx_start (by decide) (Nat.le_of_ble_eq_true rfl) ?_
  intro p e s m below meth c ls hx hb hr hlocks hml hown hnm hnt hts hsz hK hZ hA hR hP hl
  subst hsz
  have hAA : ∀ a, A a → A a := fun _ h => h
  have hl : lv_has ls 3 [(0, .ref (g 0 0)), (1, .int p1), (2, .int p2)] := hl
  have hS : va_S A s.heap s.heap [] := va_S.rf
  have hZr := hZ
  obtain ⟨hI, hh⟩ := hP
  have hf : (xp_alike S p1 p2) = (xp_alike S p1 p2) := rfl
  refine lv_iload_n hx hb dX1_alike_0 rfl (lv_at hl 1 rfl) ?_
  by_cases c_1 : (xf_isIn p1 0 7) = true
  · skip
    have hf := (if_pos c_1).symm.trans hf
    have c_2 := xq_vp8 c_1
    refine ps_callv (As := [.int p1]) (rest := []) ⟨hx, hb, hml, hown, hts⟩ (xo_requireKind l _) (va_cwS 1 hts (lw_S q350 q351 q33 q352) rfl rfl rfl (by decide +kernel) ⟨Nat.le_of_ble_eq_true rfl, Nat.le_of_ble_eq_true rfl⟩) c_1 hS rfl hl.1 rfl (Nat.le_of_ble_eq_true rfl) dX1_alike_1 ⟨Nat.le_of_ble_eq_true rfl, Nat.le_of_ble_eq_true rfl⟩ (fun H locs hz hk hS => ?_)
    have hR := hR.kept (fun a _ h => hk a h)
    refine lv_iload_n hx hb dX1_alike_4 rfl (lv_at hl 2 rfl) ?_
    by_cases c_3 : (xf_isIn p2 0 7) = true
    · skip
      have hf := (if_pos c_3).symm.trans hf
      have c_4 := xq_vp8 c_3
      refine ps_callv (As := [.int p2]) (rest := []) ⟨hx, hb, hml, hown, hts⟩ (xo_requireKind l _) (va_cwS 1 hts (lw_S q350 q351 q33 q352) rfl rfl rfl (by decide +kernel) ⟨Nat.le_of_ble_eq_true rfl, Nat.le_of_ble_eq_true rfl⟩) c_3 hS rfl hl.1 rfl (Nat.le_of_ble_eq_true rfl) dX1_alike_5 ⟨Nat.le_of_ble_eq_true rfl, Nat.le_of_ble_eq_true rfl⟩ (fun H locs hz hk hS => ?_)
      have hR := hR.kept (fun a _ h => hk a h)
      refine lv_iload_n hx hb dX1_alike_8 rfl (lv_at hl 1 rfl) ?_
      refine lv_iload_n hx hb dX1_alike_9 rfl (lv_at hl 2 rfl) ?_
      have hJ_18 : ∀ (H : Heap) (locs : List Loc) (ls : Array Slot) (v_18 : Int32), v_18 = (if ¬ (p1 = p2) then 1 else 0) → (xw E C g h S A) H → va_S A s.heap H locs → lv_has ls 3 [(0, .ref (g 0 0)), (1, .int p1), (2, .int p2)] → cx_G p l e { frames := 8, cells := 1, slots := 6, locals := 140 } s m [.ref (g 0 0), .int p1, .int p2] below meth c A (xq_Q gs_bz E C (g 0 0) A (xp_alike S p1 p2)) (xq_X E C g h S A (xp_alike S p1 p2)) 1 6 H locs 0 0 (F0 m 18 ls [.int v_18]) := by
        intro H locs ls v_18 e_v_18 hR hS hl
        subst e_v_18
        by_cases c_5 : ¬ (p1 = p2)
        · skip
          have hf := (if_pos c_5).symm.trans hf
          refine ps_callv (As := [.int (if ¬ (p1 = p2) then 1 else 0)]) (rest := []) ⟨hx, hb, hml, hown, hts⟩ (xo_requireArgument l _) (va_cwS 1 hts (lw_S q322 q323 q33 q324) rfl rfl rfl (by decide +kernel) ⟨Nat.le_of_ble_eq_true rfl, Nat.le_of_ble_eq_true rfl⟩) (if_pos c_5) hS rfl hl.1 rfl (Nat.le_of_ble_eq_true rfl) dX1_alike_18 ⟨Nat.le_of_ble_eq_true rfl, Nat.le_of_ble_eq_true rfl⟩ (fun H locs hz hk hS => ?_)
          have hR := hR.kept (fun a _ h => hk a h)
          refine lv_aload_n hx hb dX1_alike_21 rfl (lv_at hl 0 rfl) ?_
          refine kw_get (C := RX1) (T := TX1) (N := 12) (v := .ref (g 6 2)) hx hb hts in_X1 hown hK.1 hR 0 0 rfl rfl rfl 2 (by decide) (hts _ q170) (fun _ h9 => h9) rfl dX1_alike_22 ?_
          refine lv_iload_n hx hb dX1_alike_25 rfl (lv_at hl 1 rfl) ?_
          refine lv_dup2_11 hx hb dX1_alike_26 rfl rfl ?_
          refine kw_iald (n := 8) (v := (S 2 p1.toNatClampNeg)) hx hb hK.1 hR 6 2 ⟨by decide, by decide⟩ rfl (by first | assumption) rfl dX1_alike_27 ?_
          refine lv_iconst (v := 1) hx hb dX1_alike_28 (by decide) ?_
          refine lv_iload_n hx hb dX1_alike_29 rfl (lv_at hl 2 rfl) ?_
          refine lv_ishl hx hb dX1_alike_30 ?_
          refine lv_ixor hx hb dX1_alike_31 ?_
          refine kw_iast (n := 8) hx hb hK.1 hR hS 6 2 ⟨by decide, by decide⟩ rfl (by first | assumption) dX1_alike_32 (xen E C g h (gs_up S 2 p1.toNatClampNeg ((S 2 p1.toNatClampNeg) ^^^ (1 <<< (p2 &&& 31))))) (congrArg (fun z => (Sum.inl (E.2.1, 8, .inl z) : va_E)) gs_up_at) (xn_a (k := 2) rfl) (fun H locs hR hS => ?_)
          have hR := xw_up rfl hR
          have hh := xh_up (k := 2) (i := p1.toNatClampNeg) (v := ((S 2 p1.toNatClampNeg) ^^^ (1 <<< (p2 &&& 31)))) rfl hh
          refine lv_aload_n hx hb dX1_alike_33 rfl (lv_at hl 0 rfl) ?_
          refine kw_get (C := RX1) (T := TX1) (N := 12) (v := .ref (g 6 2)) hx hb hts in_X1 hown hK.1 hR 0 0 rfl rfl rfl 2 (by decide) (hts _ q170) (fun _ h9 => h9) rfl dX1_alike_34 ?_
          refine lv_iload_n hx hb dX1_alike_37 rfl (lv_at hl 2 rfl) ?_
          refine lv_dup2_11 hx hb dX1_alike_38 rfl rfl ?_
          refine kw_iald (n := 8) (v := ((upd (S 2) p1.toNatClampNeg ((S 2 p1.toNatClampNeg) ^^^ (1 <<< (p2 &&& 31)))) p2.toNatClampNeg)) hx hb hK.1 hR 6 2 ⟨by decide, by decide⟩ rfl (by first | assumption) (congrFun gs_up_at p2.toNatClampNeg) dX1_alike_39 ?_
          refine lv_iconst (v := 1) hx hb dX1_alike_40 (by decide) ?_
          refine lv_iload_n hx hb dX1_alike_41 rfl (lv_at hl 1 rfl) ?_
          refine lv_ishl hx hb dX1_alike_42 ?_
          refine lv_ixor hx hb dX1_alike_43 ?_
          refine kw_iast (n := 8) hx hb hK.1 hR hS 6 2 ⟨by decide, by decide⟩ rfl (by first | assumption) dX1_alike_44 (xen E C g h (gs_up (gs_up S 2 p1.toNatClampNeg ((S 2 p1.toNatClampNeg) ^^^ (1 <<< (p2 &&& 31)))) 2 p2.toNatClampNeg (((upd (S 2) p1.toNatClampNeg ((S 2 p1.toNatClampNeg) ^^^ (1 <<< (p2 &&& 31)))) p2.toNatClampNeg) ^^^ (1 <<< (p1 &&& 31))))) (congrArg (fun z => (Sum.inl (E.2.1, 8, .inl z) : va_E)) gs_up_at) (xn_a (k := 2) rfl) (fun H locs hR hS => ?_)
          have hR := xw_up rfl hR
          have hh := xh_up (k := 2) (i := p2.toNatClampNeg) (v := (((upd (S 2) p1.toNatClampNeg ((S 2 p1.toNatClampNeg) ^^^ (1 <<< (p2 &&& 31)))) p2.toNatClampNeg) ^^^ (1 <<< (p1 &&& 31)))) rfl hh
          refine lv_aload_n hx hb dX1_alike_45 rfl (lv_at hl 0 rfl) ?_
          refine kw_get (C := RX1) (T := TX1) (N := 12) (v := .ref (g 6 2)) hx hb hts in_X1 hown hK.1 hR 0 0 rfl rfl rfl 2 (by decide) (hts _ q170) (fun _ h9 => h9) rfl dX1_alike_46 ?_
          refine lv_iload_n hx hb dX1_alike_49 rfl (lv_at hl 1 rfl) ?_
          refine kw_iald (n := 8) (v := ((upd (upd (S 2) p1.toNatClampNeg ((S 2 p1.toNatClampNeg) ^^^ (1 <<< (p2 &&& 31)))) p2.toNatClampNeg (((upd (S 2) p1.toNatClampNeg ((S 2 p1.toNatClampNeg) ^^^ (1 <<< (p2 &&& 31)))) p2.toNatClampNeg) ^^^ (1 <<< (p1 &&& 31)))) p1.toNatClampNeg)) hx hb hK.1 hR 6 2 ⟨by decide, by decide⟩ rfl (by first | assumption) (congrFun (gs_up_at.trans (congrArg (fun z => upd z p2.toNatClampNeg (((upd (S 2) p1.toNatClampNeg ((S 2 p1.toNatClampNeg) ^^^ (1 <<< (p2 &&& 31)))) p2.toNatClampNeg) ^^^ (1 <<< (p1 &&& 31)))) gs_up_at)) p1.toNatClampNeg) dX1_alike_50 ?_
          refine lv_iload_n hx hb dX1_alike_51 rfl (lv_at hl 2 rfl) ?_
          refine ps_calli (As := [.int ((upd (upd (S 2) p1.toNatClampNeg ((S 2 p1.toNatClampNeg) ^^^ (1 <<< (p2 &&& 31)))) p2.toNatClampNeg (((upd (S 2) p1.toNatClampNeg ((S 2 p1.toNatClampNeg) ^^^ (1 <<< (p2 &&& 31)))) p2.toNatClampNeg) ^^^ (1 <<< (p1 &&& 31)))) p1.toNatClampNeg), .int p2]) (rest := []) ⟨hx, hb, hml, hown, hts⟩ (xt_has l ((upd (upd (S 2) p1.toNatClampNeg ((S 2 p1.toNatClampNeg) ^^^ (1 <<< (p2 &&& 31)))) p2.toNatClampNeg (((upd (S 2) p1.toNatClampNeg ((S 2 p1.toNatClampNeg) ^^^ (1 <<< (p2 &&& 31)))) p2.toNatClampNeg) ^^^ (1 <<< (p1 &&& 31)))) p1.toNatClampNeg) p2) (va_cwS 2 hts (lw_S q340 q341 q33 q342) rfl rfl rfl (by decide +kernel) ⟨Nat.le_of_ble_eq_true rfl, Nat.le_of_ble_eq_true rfl⟩) trivial hS rfl hl.1 rfl (Nat.le_of_ble_eq_true rfl) dX1_alike_52 ⟨Nat.zero_le _, Nat.zero_le _⟩ (fun H locs hz hk hS => ?_)
          have hR := hR.kept (fun a _ h => hk a h)
          refine W.widen (k := 1) (n := 6) (Nat.le_of_ble_eq_true rfl) (Nat.le_of_ble_eq_true rfl) ?_
          exact vx_ret (W.zret (v := (if (xf_has ((upd (upd (S 2) p1.toNatClampNeg ((S 2 p1.toNatClampNeg) ^^^ (1 <<< (p2 &&& 31)))) p2.toNatClampNeg (((upd (S 2) p1.toNatClampNeg ((S 2 p1.toNatClampNeg) ^^^ (1 <<< (p2 &&& 31)))) p2.toNatClampNeg) ^^^ (1 <<< (p1 &&& 31)))) p1.toNatClampNeg) p2) = true then 1 else 0)) hx hb hr gs_nar (fun t ht hW => ⟨⟨_, _, hf.symm, (congrArg (fun z => Outcome.returned (some (Value.int z))) gs_bz_dec), g, h, rfl, hh, by rw [ht]; exact hR⟩, hS.F ht⟩) hS.2.2 dX1_alike_55)
        · skip
          have hf := (if_neg c_5).symm.trans hf
          refine W.eq (g2 := F0 m 18 ls [.int 0]) (congrArg (fun z => F0 m 18 ls (.int z :: [])) (if_neg c_5)) ?_
          refine cx_S (X := fun _ => True) (P := True) (As := [.int 0]) (rest := []) hK hZ hA hAA hS trivial trivial (xt_requireArgument l hfl E C A H.size) (fun _ h => hA _ (Nat.le_trans hS.1 h)) ⟨hx, hb, hml, hown, hts⟩ (va_cwS 1 hts (lw_S q322 q323 q33 q324) rfl rfl rfl (by decide +kernel) ⟨Nat.le_of_ble_eq_true rfl, Nat.le_of_ble_eq_true rfl⟩) rfl hl.1 rfl (Nat.le_of_ble_eq_true rfl) dX1_alike_18 ⟨Nat.le_of_ble_eq_true rfl, Nat.le_of_ble_eq_true rfl⟩ (fun ce q9 H locs hB hz hk hS hc9 hv9 hcl => ?_)
          have hR := hR.kept (fun a _ h => hk a h (Nat.not_le.mpr h))
          exact vx_out (fun x h => (hnt x h).elim) hlocks hc9 hv9 hcl (fun t ht _ => ⟨⟨hf.symm, by rw [ht]; exact hR⟩, hS.F ht⟩) hS.2.2 (Nat.le_of_ble_eq_true rfl) (Nat.le_of_ble_eq_true rfl)
      refine lv_icmp_eq (tgt := 17) hx hb dX1_alike_10 (by decide) (fun c_6 => ?_) (fun c_6 => ?_)
      · skip
        refine lv_iconst (v := 0) hx hb dX1_alike_17 (by decide) ?_
        exact hJ_18 _ _ _ 0 (gi_0 (gi_nb_t c_6)) hR hS (lv_sub hl [0, 1, 2] rfl)
      · skip
        refine lv_iconst (v := 1) hx hb dX1_alike_13 (by decide) ?_
        refine lv_goto (tgt := 18) hx hb dX1_alike_14 (by decide) ?_
        exact hJ_18 _ _ _ 1 (gi_1 (gi_nb_f c_6)) hR hS (lv_sub hl [0, 1, 2] rfl)
    · skip
      have hf := (if_neg c_3).symm.trans hf
      refine cx_S (X := fun _ => True) (As := [.int p2]) (rest := []) hK hZ hA hAA hS trivial c_3 (xt_requireKind l hfl E C A H.size p2) (fun _ h => hA _ (Nat.le_trans hS.1 h)) ⟨hx, hb, hml, hown, hts⟩ (va_cwS 1 hts (lw_S q350 q351 q33 q352) rfl rfl rfl (by decide +kernel) ⟨Nat.le_of_ble_eq_true rfl, Nat.le_of_ble_eq_true rfl⟩) rfl hl.1 rfl (Nat.le_of_ble_eq_true rfl) dX1_alike_5 ⟨Nat.le_of_ble_eq_true rfl, Nat.le_of_ble_eq_true rfl⟩ (fun ce q9 H locs hB hz hk hS hc9 hv9 hcl => ?_)
      have hR := hR.kept (fun a _ h => hk a h (Nat.not_le.mpr h))
      exact vx_out (fun x h => (hnt x h).elim) hlocks hc9 hv9 hcl (fun t ht _ => ⟨⟨hf.symm, by rw [ht]; exact hR⟩, hS.F ht⟩) hS.2.2 (Nat.le_of_ble_eq_true rfl) (Nat.le_of_ble_eq_true rfl)
  · skip
    have hf := (if_neg c_1).symm.trans hf
    refine cx_S (X := fun _ => True) (As := [.int p1]) (rest := []) hK hZ hA hAA hS trivial c_1 (xt_requireKind l hfl E C A s.heap.size p1) (fun _ h => hA _ (Nat.le_trans hS.1 h)) ⟨hx, hb, hml, hown, hts⟩ (va_cwS 1 hts (lw_S q350 q351 q33 q352) rfl rfl rfl (by decide +kernel) ⟨Nat.le_of_ble_eq_true rfl, Nat.le_of_ble_eq_true rfl⟩) rfl hl.1 rfl (Nat.le_of_ble_eq_true rfl) dX1_alike_1 ⟨Nat.le_of_ble_eq_true rfl, Nat.le_of_ble_eq_true rfl⟩ (fun ce q9 H locs hB hz hk hS hc9 hv9 hcl => ?_)
    have hR := hR.kept (fun a _ h => hk a h (Nat.not_le.mpr h))
    exact vx_out (fun x h => (hnt x h).elim) hlocks hc9 hv9 hcl (fun t ht _ => ⟨⟨hf.symm, by rw [ht]; exact hR⟩, hS.F ht⟩) hS.2.2 (Nat.le_of_ble_eq_true rfl) (Nat.le_of_ble_eq_true rfl)
set_option maxHeartbeats 2000000 in
set_option maxRecDepth 100000 in
theorem xs_rule (l : Launch) (hfl : l.stackTraces = false) (E : en_T) (C : ex_C) (A : Nat → Prop) (sz : Nat) (g : kw_A) (h : xh_T) (S : gs_T) (p1 : Int32) (p2 : Int32) (p3 : Int32) : vx_Met l yX1_rule (ws_ yX1_rule cX1_rule 5 (some .int)) { frames := 8, cells := 1, slots := 6, locals := 140 } (cpc E C A sz [.ref (g 0 0), .int p1, .int p2, .int p3] (xw E C g h S A) (xi_ok S ∧ xh C g h S)) (xq_Q (fun z => z) E C (g 0 0) A (xp_rule S p1 p2 p3)) (xq_X E C g h S A (xp_rule S p1 p2 p3)) 1 6 A := by
  refine cx_start (by decide) (Nat.le_of_ble_eq_true rfl) ?_
  intro p e s m below meth c ls hx hb hr hlocks hml hown hnm hnt hts hsz hK hZ hA hR hP hl
  subst hsz
  have hAA : ∀ a, A a → A a := fun _ h => h
  have hl : lv_has ls 5 [(0, .ref (g 0 0)), (1, .int p1), (2, .int p2), (3, .int p3)] := hl
  have hS : va_S A s.heap s.heap [] := va_S.rf
  have hZr := hZ
  obtain ⟨hI, hh⟩ := hP
  have hf : (xp_rule S p1 p2 p3) = (xp_rule S p1 p2 p3) := rfl
  refine lv_iload_n hx hb dX1_rule_0 rfl (lv_at hl 1 rfl) ?_
  by_cases c_1 : (xf_isIn p1 0 7) = true
  · skip
    have hf := (if_pos c_1).symm.trans hf
    have c_2 := xq_vp8 c_1
    refine ps_callv (As := [.int p1]) (rest := []) ⟨hx, hb, hml, hown, hts⟩ (xo_requireKind l _) (va_cwS 1 hts (lw_S q350 q351 q33 q352) rfl rfl rfl (by decide +kernel) ⟨Nat.le_of_ble_eq_true rfl, Nat.le_of_ble_eq_true rfl⟩) c_1 hS rfl hl.1 rfl (Nat.le_of_ble_eq_true rfl) dX1_rule_1 ⟨Nat.le_of_ble_eq_true rfl, Nat.le_of_ble_eq_true rfl⟩ (fun H locs hz hk hS => ?_)
    have hR := hR.kept (fun a _ h => hk a h)
    refine lv_iload_n hx hb dX1_rule_4 rfl (lv_at hl 2 rfl) ?_
    refine lv_iconst (v := 1) hx hb dX1_rule_5 (by decide) ?_
    refine lv_sipush (v := 400) hx hb dX1_rule_6 (by decide) ?_
    refine ps_calli (As := [.int p2, .int 1, .int 400]) (rest := []) ⟨hx, hb, hml, hown, hts⟩ (xt_isIn l p2 1 400) (va_cwS 3 hts (lw_S q295 q296 q33 q297) rfl rfl rfl (by decide +kernel) ⟨Nat.le_of_ble_eq_true rfl, Nat.le_of_ble_eq_true rfl⟩) trivial hS rfl hl.1 rfl (Nat.le_of_ble_eq_true rfl) dX1_rule_9 ⟨Nat.zero_le _, Nat.zero_le _⟩ (fun H locs hz hk hS => ?_)
    have hR := hR.kept (fun a _ h => hk a h)
    have hJ_30 : ∀ (H : Heap) (locs : List Loc) (ls : Array Slot) (v_30 : Int32), v_30 = (if ((xf_isIn p2 1 400) = true) ∧ ((xf_isIn p3 0 50) = true) then 1 else 0) → (xw E C g h S A) H → va_S A s.heap H locs → lv_has ls 5 [(0, .ref (g 0 0)), (1, .int p1), (2, .int p2), (3, .int p3)] → cx_G p l e { frames := 8, cells := 1, slots := 6, locals := 140 } s m [.ref (g 0 0), .int p1, .int p2, .int p3] below meth c A (xq_Q (fun z => z) E C (g 0 0) A (xp_rule S p1 p2 p3)) (xq_X E C g h S A (xp_rule S p1 p2 p3)) 1 6 H locs 0 0 (F0 m 30 ls [.int v_30]) := by
      intro H locs ls v_30 e_v_30 hR hS hl
      subst e_v_30
      by_cases c_3 : ((xf_isIn p2 1 400) = true) ∧ ((xf_isIn p3 0 50) = true)
      · skip
        have hf := (if_pos c_3).symm.trans hf
        have c_4 := c_3.1
        have c_5 := c_3.2
        refine ps_callv (As := [.int (if ((xf_isIn p2 1 400) = true) ∧ ((xf_isIn p3 0 50) = true) then 1 else 0)]) (rest := []) ⟨hx, hb, hml, hown, hts⟩ (xo_requireArgument l _) (va_cwS 1 hts (lw_S q322 q323 q33 q324) rfl rfl rfl (by decide +kernel) ⟨Nat.le_of_ble_eq_true rfl, Nat.le_of_ble_eq_true rfl⟩) (if_pos c_3) hS rfl hl.1 rfl (Nat.le_of_ble_eq_true rfl) dX1_rule_30 ⟨Nat.le_of_ble_eq_true rfl, Nat.le_of_ble_eq_true rfl⟩ (fun H locs hz hk hS => ?_)
        have hR := hR.kept (fun a _ h => hk a h)
        refine lv_aload_n hx hb dX1_rule_33 rfl (lv_at hl 0 rfl) ?_
        refine kw_get (C := RX1) (T := TX1) (N := 12) (v := .ref (g 6 3)) hx hb hts in_X1 hown hK.1 hR 0 0 rfl rfl rfl 3 (by decide) (hts _ q172) (fun _ h9 => h9) rfl dX1_rule_34 ?_
        refine lv_iload_n hx hb dX1_rule_37 rfl (lv_at hl 1 rfl) ?_
        refine kw_iald (n := 8) (v := (S 3 p1.toNatClampNeg)) hx hb hK.1 hR 6 3 ⟨by decide, by decide⟩ rfl (by first | assumption) rfl dX1_rule_38 ?_
        refine lv_istore (lv' := [(4, .int (S 3 p1.toNatClampNeg)), (0, .ref (g 0 0)), (1, .int p1), (2, .int p2), (3, .int p3)]) hx hb dX1_rule_39 hl (by decide) rfl (fun ls hl => ?_)
        refine lv_aload_n hx hb dX1_rule_41 rfl (lv_at hl 1 rfl) ?_
        refine kw_get (C := RX1) (T := TX1) (N := 12) (v := .ref (g 6 3)) hx hb hts in_X1 hown hK.1 hR 0 0 rfl rfl rfl 3 (by decide) (hts _ q172) (fun _ h9 => h9) rfl dX1_rule_42 ?_
        refine lv_iload_n hx hb dX1_rule_45 rfl (lv_at hl 2 rfl) ?_
        refine lv_iload_n hx hb dX1_rule_46 rfl (lv_at hl 3 rfl) ?_
        refine kw_iast (n := 8) hx hb hK.1 hR hS 6 3 ⟨by decide, by decide⟩ rfl (by first | assumption) dX1_rule_47 (xen E C g h (gs_up S 3 p1.toNatClampNeg p2)) (congrArg (fun z => (Sum.inl (E.2.1, 8, .inl z) : va_E)) gs_up_at) (xn_a (k := 3) rfl) (fun H locs hR hS => ?_)
        have hR := xw_up rfl hR
        have hh := xh_up (k := 3) (i := p1.toNatClampNeg) (v := p2) rfl hh
        refine lv_aload_n hx hb dX1_rule_48 rfl (lv_at hl 1 rfl) ?_
        refine kw_get (C := RX1) (T := TX1) (N := 12) (v := .ref (g 6 4)) hx hb hts in_X1 hown hK.1 hR 0 0 rfl rfl rfl 4 (by decide) (hts _ q173) (fun _ h9 => h9) rfl dX1_rule_49 ?_
        refine lv_iload_n hx hb dX1_rule_52 rfl (lv_at hl 2 rfl) ?_
        refine lv_iload_n hx hb dX1_rule_53 rfl (lv_at hl 4 rfl) ?_
        refine kw_iast (n := 8) hx hb hK.1 hR hS 6 4 ⟨by decide, by decide⟩ rfl (by first | assumption) dX1_rule_54 (xen E C g h (gs_up (gs_up S 3 p1.toNatClampNeg p2) 4 p1.toNatClampNeg p3)) (congrArg (fun z => (Sum.inl (E.2.1, 8, .inl z) : va_E)) gs_up_at) (xn_a (k := 4) rfl) (fun H locs hR hS => ?_)
        have hR := xw_up rfl hR
        have hh := xh_up (k := 4) (i := p1.toNatClampNeg) (v := p3) rfl hh
        refine lv_iload hx hb dX1_rule_55 (lv_at hl 0 rfl) ?_
        refine W.widen (k := 1) (n := 6) (Nat.le_of_ble_eq_true rfl) (Nat.le_of_ble_eq_true rfl) ?_
        exact vx_ret (W.iret (v := (S 3 p1.toNatClampNeg)) hx hb hr (fun t ht hW => ⟨⟨_, _, hf.symm, rfl, g, h, rfl, hh, by rw [ht]; exact hR⟩, hS.F ht⟩) hS.2.2 dX1_rule_57)
      · skip
        have hf := (if_neg c_3).symm.trans hf
        refine W.eq (g2 := F0 m 30 ls [.int 0]) (congrArg (fun z => F0 m 30 ls (.int z :: [])) (if_neg c_3)) ?_
        refine cx_S (X := fun _ => True) (P := True) (As := [.int 0]) (rest := []) hK hZ hA hAA hS trivial trivial (xt_requireArgument l hfl E C A H.size) (fun _ h => hA _ (Nat.le_trans hS.1 h)) ⟨hx, hb, hml, hown, hts⟩ (va_cwS 1 hts (lw_S q322 q323 q33 q324) rfl rfl rfl (by decide +kernel) ⟨Nat.le_of_ble_eq_true rfl, Nat.le_of_ble_eq_true rfl⟩) rfl hl.1 rfl (Nat.le_of_ble_eq_true rfl) dX1_rule_30 ⟨Nat.le_of_ble_eq_true rfl, Nat.le_of_ble_eq_true rfl⟩ (fun ce q9 H locs hB hz hk hS hc9 hv9 hcl => ?_)
        have hR := hR.kept (fun a _ h => hk a h (Nat.not_le.mpr h))
        exact vx_out (fun x h => (hnt x h).elim) hlocks hc9 hv9 hcl (fun t ht _ => ⟨⟨hf.symm, by rw [ht]; exact hR⟩, hS.F ht⟩) hS.2.2 (Nat.le_of_ble_eq_true rfl) (Nat.le_of_ble_eq_true rfl)
    refine lv_if_eq (tgt := 29) hx hb dX1_rule_12 (by decide) (fun c_6 => ?_) (fun c_6 => ?_)
    · skip
      have c_6 : ¬ ((xf_isIn p2 1 400) = true) := gs_zf (φ := (xf_isIn p2 1 400) = true) c_6
      refine lv_iconst (v := 0) hx hb dX1_rule_29 (by decide) ?_
      exact hJ_30 _ _ _ 0 (gi_0 (gi_ca_f c_6)) hR hS (lv_sub hl [0, 1, 2, 3] rfl)
    · skip
      have c_6 : (xf_isIn p2 1 400) = true := gs_zt (φ := (xf_isIn p2 1 400) = true) c_6
      refine lv_iload_n hx hb dX1_rule_15 rfl (lv_at hl 3 rfl) ?_
      refine lv_iconst (v := 0) hx hb dX1_rule_16 (by decide) ?_
      refine lv_bipush (v := 50) hx hb dX1_rule_17 (by decide) ?_
      refine ps_calli (As := [.int p3, .int 0, .int 50]) (rest := []) ⟨hx, hb, hml, hown, hts⟩ (xt_isIn l p3 0 50) (va_cwS 3 hts (lw_S q295 q296 q33 q297) rfl rfl rfl (by decide +kernel) ⟨Nat.le_of_ble_eq_true rfl, Nat.le_of_ble_eq_true rfl⟩) trivial hS rfl hl.1 rfl (Nat.le_of_ble_eq_true rfl) dX1_rule_19 ⟨Nat.zero_le _, Nat.zero_le _⟩ (fun H locs hz hk hS => ?_)
      have hR := hR.kept (fun a _ h => hk a h)
      refine lv_if_eq (tgt := 29) hx hb dX1_rule_22 (by decide) (fun c_7 => ?_) (fun c_7 => ?_)
      · skip
        have c_7 : ¬ ((xf_isIn p3 0 50) = true) := gs_zf (φ := (xf_isIn p3 0 50) = true) c_7
        refine lv_iconst (v := 0) hx hb dX1_rule_29 (by decide) ?_
        exact hJ_30 _ _ _ 0 (gi_0 ((gi_cb_f c_7).trans (gi_ca_t c_6))) hR hS (lv_sub hl [0, 1, 2, 3] rfl)
      · skip
        have c_7 : (xf_isIn p3 0 50) = true := gs_zt (φ := (xf_isIn p3 0 50) = true) c_7
        refine lv_iconst (v := 1) hx hb dX1_rule_25 (by decide) ?_
        refine lv_goto (tgt := 30) hx hb dX1_rule_26 (by decide) ?_
        exact hJ_30 _ _ _ 1 (gi_1 ((gi_cb_t c_7).trans (gi_ca_t c_6))) hR hS (lv_sub hl [0, 1, 2, 3] rfl)
  · skip
    have hf := (if_neg c_1).symm.trans hf
    refine cx_S (X := fun _ => True) (As := [.int p1]) (rest := []) hK hZ hA hAA hS trivial c_1 (xt_requireKind l hfl E C A s.heap.size p1) (fun _ h => hA _ (Nat.le_trans hS.1 h)) ⟨hx, hb, hml, hown, hts⟩ (va_cwS 1 hts (lw_S q350 q351 q33 q352) rfl rfl rfl (by decide +kernel) ⟨Nat.le_of_ble_eq_true rfl, Nat.le_of_ble_eq_true rfl⟩) rfl hl.1 rfl (Nat.le_of_ble_eq_true rfl) dX1_rule_1 ⟨Nat.le_of_ble_eq_true rfl, Nat.le_of_ble_eq_true rfl⟩ (fun ce q9 H locs hB hz hk hS hc9 hv9 hcl => ?_)
    have hR := hR.kept (fun a _ h => hk a h (Nat.not_le.mpr h))
    exact vx_out (fun x h => (hnt x h).elim) hlocks hc9 hv9 hcl (fun t ht _ => ⟨⟨hf.symm, by rw [ht]; exact hR⟩, hS.F ht⟩) hS.2.2 (Nat.le_of_ble_eq_true rfl) (Nat.le_of_ble_eq_true rfl)
set_option maxHeartbeats 2000000 in
set_option maxRecDepth 100000 in
theorem xs_threshold (l : Launch) (hfl : l.stackTraces = false) (E : en_T) (C : ex_C) (A : Nat → Prop) (sz : Nat) (g : kw_A) (h : xh_T) (S : gs_T) (p1 : Int32) : vx_Met l yX1_threshold (ws_ yX1_threshold cX1_threshold 3 (some .int)) { frames := 7, cells := 1, slots := 6, locals := 120 } (cpc E C A sz [.ref (g 0 0), .int p1] (xw E C g h S A) (xi_ok S ∧ xh C g h S)) (xq_Q (fun z => z) E C (g 0 0) A (xp_threshold S p1)) (xq_X E C g h S A (xp_threshold S p1)) 1 6 A := by
  refine cx_start (by decide) (Nat.le_of_ble_eq_true rfl) ?_
  intro p e s m below meth c ls hx hb hr hlocks hml hown hnm hnt hts hsz hK hZ hA hR hP hl
  subst hsz
  have hAA : ∀ a, A a → A a := fun _ h => h
  have hl : lv_has ls 3 [(0, .ref (g 0 0)), (1, .int p1)] := hl
  have hS : va_S A s.heap s.heap [] := va_S.rf
  have hZr := hZ
  obtain ⟨hI, hh⟩ := hP
  have hf : (xp_threshold S p1) = (xp_threshold S p1) := rfl
  refine lv_iload_n hx hb dX1_threshold_0 rfl (lv_at hl 1 rfl) ?_
  refine lv_iconst (v := 1) hx hb dX1_threshold_1 (by decide) ?_
  refine lv_sipush (v := 200) hx hb dX1_threshold_2 (by decide) ?_
  refine ps_calli (As := [.int p1, .int 1, .int 200]) (rest := []) ⟨hx, hb, hml, hown, hts⟩ (xt_isIn l p1 1 200) (va_cwS 3 hts (lw_S q295 q296 q33 q297) rfl rfl rfl (by decide +kernel) ⟨Nat.le_of_ble_eq_true rfl, Nat.le_of_ble_eq_true rfl⟩) trivial hS rfl hl.1 rfl (Nat.le_of_ble_eq_true rfl) dX1_threshold_5 ⟨Nat.zero_le _, Nat.zero_le _⟩ (fun H locs hz hk hS => ?_)
  have hR := hR.kept (fun a _ h => hk a h)
  by_cases c_1 : (xf_isIn p1 1 200) = true
  · skip
    have hf := (if_pos c_1).symm.trans hf
    refine ps_callv (As := [.int (if (xf_isIn p1 1 200) = true then 1 else 0)]) (rest := []) ⟨hx, hb, hml, hown, hts⟩ (xo_requireArgument l _) (va_cwS 1 hts (lw_S q322 q323 q33 q324) rfl rfl rfl (by decide +kernel) ⟨Nat.le_of_ble_eq_true rfl, Nat.le_of_ble_eq_true rfl⟩) (if_pos c_1) hS rfl hl.1 rfl (Nat.le_of_ble_eq_true rfl) dX1_threshold_8 ⟨Nat.le_of_ble_eq_true rfl, Nat.le_of_ble_eq_true rfl⟩ (fun H locs hz hk hS => ?_)
    have hR := hR.kept (fun a _ h => hk a h)
    refine lv_aload_n hx hb dX1_threshold_11 rfl (lv_at hl 0 rfl) ?_
    refine kw_get (C := RX1) (T := TX1) (N := 12) (v := .int (S 6 0)) hx hb hts in_X1 hown hK.1 hR 0 0 rfl rfl rfl 6 (by decide) (hts _ q175) (fun _ h9 => h9) rfl dX1_threshold_12 ?_
    refine lv_istore_n (lv' := [(2, .int (S 6 0)), (0, .ref (g 0 0)), (1, .int p1)]) hx hb dX1_threshold_15 rfl hl (by decide) rfl (fun ls hl => ?_)
    refine lv_aload_n hx hb dX1_threshold_16 rfl (lv_at hl 1 rfl) ?_
    refine lv_iload_n hx hb dX1_threshold_17 rfl (lv_at hl 2 rfl) ?_
    refine kw_put (C := RX1) (T := TX1) (N := 12) hx hb hts in_X1 tyX1 tyX1_ok nmX1 hown hK.1 hR hS 0 0 rfl rfl rfl 6 (by decide) (hts _ q175) (fun _ h9 => h9) (Or.inl rfl) rfl rfl rfl (Nat.le_of_ble_eq_true rfl) dX1_threshold_18 (xen E C g h (gs_up S 6 0 p1)) rfl (xn_x (k := 6) rfl) (fun H locs hR hS => ?_)
    have hR := xw_up rfl hR
    have hh := xh_up (k := 6) (i := 0) (v := p1) rfl hh
    refine lv_iload_n hx hb dX1_threshold_21 rfl (lv_at hl 0 rfl) ?_
    refine W.widen (k := 1) (n := 6) (Nat.le_of_ble_eq_true rfl) (Nat.le_of_ble_eq_true rfl) ?_
    exact vx_ret (W.iret (v := (S 6 0)) hx hb hr (fun t ht hW => ⟨⟨_, _, hf.symm, rfl, g, h, rfl, hh, by rw [ht]; exact hR⟩, hS.F ht⟩) hS.2.2 dX1_threshold_22)
  · skip
    have hf := (if_neg c_1).symm.trans hf
    refine W.eq (g2 := F0 m 8 ls [.int 0]) (congrArg (fun z => F0 m 8 ls (.int z :: [])) (if_neg c_1)) ?_
    refine cx_S (X := fun _ => True) (P := True) (As := [.int 0]) (rest := []) hK hZ hA hAA hS trivial trivial (xt_requireArgument l hfl E C A H.size) (fun _ h => hA _ (Nat.le_trans hS.1 h)) ⟨hx, hb, hml, hown, hts⟩ (va_cwS 1 hts (lw_S q322 q323 q33 q324) rfl rfl rfl (by decide +kernel) ⟨Nat.le_of_ble_eq_true rfl, Nat.le_of_ble_eq_true rfl⟩) rfl hl.1 rfl (Nat.le_of_ble_eq_true rfl) dX1_threshold_8 ⟨Nat.le_of_ble_eq_true rfl, Nat.le_of_ble_eq_true rfl⟩ (fun ce q9 H locs hB hz hk hS hc9 hv9 hcl => ?_)
    have hR := hR.kept (fun a _ h => hk a h (Nat.not_le.mpr h))
    exact vx_out (fun x h => (hnt x h).elim) hlocks hc9 hv9 hcl (fun t ht _ => ⟨⟨hf.symm, by rw [ht]; exact hR⟩, hS.F ht⟩) hS.2.2 (Nat.le_of_ble_eq_true rfl) (Nat.le_of_ble_eq_true rfl)
set_option maxHeartbeats 2000000 in
set_option maxRecDepth 100000 in
theorem xs_see (l : Launch) (hfl : l.stackTraces = false) (E : en_T) (C : ex_C) (A : Nat → Prop) (sz : Nat) (g : kw_A) (h : xh_T) (S : gs_T) (p1 : Int32) (p2 : Int32) : vx_Met l yX1_see (ws_ yX1_see cX1_see 4 (some .int)) { frames := 8, cells := 1, slots := 6, locals := 141 } (cpc E C A sz [.ref (g 0 0), .int p1, .int p2] (xw E C g h S A) (xi_ok S ∧ xh C g h S)) (xq_Q (fun z => z) E C (g 0 0) A (xp_see S p1 p2)) (xq_X E C g h S A (xp_see S p1 p2)) 1 6 A := by
  refine cx_start (by decide) (Nat.le_of_ble_eq_true rfl) ?_
  intro p e s m below meth c ls hx hb hr hlocks hml hown hnm hnt hts hsz hK hZ hA hR hP hl
  subst hsz
  have hAA : ∀ a, A a → A a := fun _ h => h
  have hl : lv_has ls 4 [(0, .ref (g 0 0)), (1, .int p1), (2, .int p2)] := hl
  have hS : va_S A s.heap s.heap [] := va_S.rf
  have hZr := hZ
  obtain ⟨hI, hh⟩ := hP
  have hf : (xp_see S p1 p2) = (xp_see S p1 p2) := rfl
  refine lv_aload_n hx hb dX1_see_0 rfl (lv_at hl 0 rfl) ?_
  refine lv_iload_n hx hb dX1_see_1 rfl (lv_at hl 1 rfl) ?_
  by_cases c_1 : (xf_isIn p1 0 ((S 21 1) - 1)) = true
  · skip
    have hf := (if_pos c_1).symm.trans hf
    have of_2 := (xq_f hI c_1).1
    refine cq_V (v := (some (.ref (g 3 p1.toNatClampNeg)))) (As := [.int p1]) (rest := []) hK hZ hA hAA hS hR ⟨hI, hh, c_1⟩ (xt_findAt l E C A s.heap.size g h S p1) (fun _ h => hA _ (Nat.le_trans hS.1 h)) ⟨hx, hb, hml, hown, hts⟩ (cwV 1 hts (lw_V q586 q588 qs4 q33 q589) rfl rfl rfl (by decide +kernel) ⟨Nat.le_of_ble_eq_true rfl, Nat.le_of_ble_eq_true rfl⟩) (kw_recv (t := 0) (i := 0) hK.1 hR rfl rfl rfl) rfl hl.1 rfl (Nat.le_of_ble_eq_true rfl) dX1_see_2 ⟨Nat.le_of_ble_eq_true rfl, Nat.le_of_ble_eq_true rfl⟩ (fun H locs hB hz hk hS => ?_)
    have hR := hR.kept (fun a _ h => hk a h (Nat.not_le.mpr h))
    refine W.eq (g2 := F0 m 5 ls [.ref (g 3 p1.toNatClampNeg)]) rfl ?_
    refine lv_astore_n (lv' := [(3, .ref (g 3 p1.toNatClampNeg)), (0, .ref (g 0 0)), (1, .int p1), (2, .int p2)]) hx hb dX1_see_5 rfl hl (by decide) rfl (fun ls hl => ?_)
    refine lv_iload_n hx hb dX1_see_6 rfl (lv_at hl 3 rfl) ?_
    refine ps_calli (As := [.int p2]) (rest := []) ⟨hx, hb, hml, hown, hts⟩ (xt_isWords l p2) (va_cwS 1 hts (lw_S q492 q493 q33 q494) rfl rfl rfl (by decide +kernel) ⟨Nat.le_of_ble_eq_true rfl, Nat.le_of_ble_eq_true rfl⟩) trivial hS rfl hl.1 rfl (Nat.le_of_ble_eq_true rfl) dX1_see_7 ⟨Nat.zero_le _, Nat.zero_le _⟩ (fun H locs hz hk hS => ?_)
    have hR := hR.kept (fun a _ h => hk a h)
    have hJ_27 : ∀ (H : Heap) (locs : List Loc) (ls : Array Slot) (v_27 : Int32), v_27 = (if ((xf_isWords p2) = true) ∧ ((p2 &&& (S 34 p1.toNatClampNeg)) = 0) then 1 else 0) → (xw E C g h S A) H → va_S A s.heap H locs → lv_has ls 4 [(2, .int p2), (3, .ref (g 3 p1.toNatClampNeg))] → cx_G p l e { frames := 8, cells := 1, slots := 6, locals := 141 } s m [.ref (g 0 0), .int p1, .int p2] below meth c A (xq_Q (fun z => z) E C (g 0 0) A (xp_see S p1 p2)) (xq_X E C g h S A (xp_see S p1 p2)) 1 6 H locs 0 0 (F0 m 27 ls [.int v_27]) := by
      intro H locs ls v_27 e_v_27 hR hS hl
      subst e_v_27
      by_cases c_2 : ((xf_isWords p2) = true) ∧ ((p2 &&& (S 34 p1.toNatClampNeg)) = 0)
      · skip
        have hf := (if_pos c_2).symm.trans hf
        have c_3 := c_2.1
        have c_4 := c_2.2
        refine ps_callv (As := [.int (if ((xf_isWords p2) = true) ∧ ((p2 &&& (S 34 p1.toNatClampNeg)) = 0) then 1 else 0)]) (rest := []) ⟨hx, hb, hml, hown, hts⟩ (xo_requireArgument l _) (va_cwS 1 hts (lw_S q322 q323 q33 q324) rfl rfl rfl (by decide +kernel) ⟨Nat.le_of_ble_eq_true rfl, Nat.le_of_ble_eq_true rfl⟩) (if_pos c_2) hS rfl hl.1 rfl (Nat.le_of_ble_eq_true rfl) dX1_see_27 ⟨Nat.le_of_ble_eq_true rfl, Nat.le_of_ble_eq_true rfl⟩ (fun H locs hz hk hS => ?_)
        have hR := hR.kept (fun a _ h => hk a h)
        refine lv_aload_n hx hb dX1_see_30 rfl (lv_at hl 1 rfl) ?_
        refine kw_getN (C := RX3) (T := TX3) (N := 15) (v := .int (S 36 p1.toNatClampNeg)) hx hb hts in_X3 hown hK.1 hR 3 p1.toNatClampNeg of_2 rfl rfl 6 (by decide) (va_Nw.use rfl (hK.2.1 _ q536 rfl)) (fun _ h9 => h9) rfl dX1_see_31 ?_
        have hJ_42 : ∀ (H : Heap) (locs : List Loc) (ls : Array Slot) (v_42 : Int32), v_42 = (if (S 36 p1.toNatClampNeg) = 0 then 1 else 0) → (xw E C g h S A) H → va_S A s.heap H locs → lv_has ls 4 [(2, .int p2), (3, .ref (g 3 p1.toNatClampNeg))] → cx_G p l e { frames := 8, cells := 1, slots := 6, locals := 141 } s m [.ref (g 0 0), .int p1, .int p2] below meth c A (xq_Q (fun z => z) E C (g 0 0) A (xp_see S p1 p2)) (xq_X E C g h S A (xp_see S p1 p2)) 1 6 H locs 0 0 (F0 m 42 ls [.int v_42]) := by
          intro H locs ls v_42 e_v_42 hR hS hl
          subst e_v_42
          by_cases c_5 : (S 36 p1.toNatClampNeg) = 0
          · skip
            have hf := (if_pos c_5).symm.trans hf
            refine ps_callv (As := [.int (if (S 36 p1.toNatClampNeg) = 0 then 1 else 0)]) (rest := []) ⟨hx, hb, hml, hown, hts⟩ (xo_requireState l _) (va_cwS 1 hts (lw_S q457 q458 q33 q459) rfl rfl rfl (by decide +kernel) ⟨Nat.le_of_ble_eq_true rfl, Nat.le_of_ble_eq_true rfl⟩) (if_pos c_5) hS rfl hl.1 rfl (Nat.le_of_ble_eq_true rfl) dX1_see_42 ⟨Nat.le_of_ble_eq_true rfl, Nat.le_of_ble_eq_true rfl⟩ (fun H locs hz hk hS => ?_)
            have hR := hR.kept (fun a _ h => hk a h)
            refine lv_aload_n hx hb dX1_see_45 rfl (lv_at hl 1 rfl) ?_
            refine lv_dup hx hb dX1_see_46 rfl ?_
            refine kw_getN (C := RX3) (T := TX3) (N := 15) (v := .int (S 33 p1.toNatClampNeg)) hx hb hts in_X3 hown hK.1 hR 3 p1.toNatClampNeg of_2 rfl rfl 3 (by decide) (va_Nw.use rfl (hK.2.1 _ q529 rfl)) (fun _ h9 => h9) rfl dX1_see_47 ?_
            refine lv_iload_n hx hb dX1_see_50 rfl (lv_at hl 0 rfl) ?_
            refine lv_ior hx hb dX1_see_51 ?_
            refine kw_putN (C := RX3) (T := TX3) (N := 15) hx hb hts in_X3 tyX3 tyX3_ok nmX3 hown hK.1 hR hS 3 p1.toNatClampNeg of_2 rfl rfl 3 (by decide) (va_Nw.use rfl (hK.2.1 _ q529 rfl)) (fun _ h9 => h9) rfl rfl rfl rfl (Nat.le_of_ble_eq_true rfl) dX1_see_52 (xen E C g h (gs_up S 33 p1.toNatClampNeg ((S 33 p1.toNatClampNeg) ||| p2))) (xe_f (k := 3) rfl) (xn_f (k := 3) rfl) (fun H locs hR hS => ?_)
            have hR := xw_up rfl hR
            have hh := xh_up (k := 33) (i := p1.toNatClampNeg) (v := ((S 33 p1.toNatClampNeg) ||| p2)) rfl hh
            refine lv_aload_n hx hb dX1_see_55 rfl (lv_at hl 1 rfl) ?_
            refine kw_getN (C := RX3) (T := TX3) (N := 15) (v := .int ((S 33 p1.toNatClampNeg) ||| p2)) hx hb hts in_X3 hown hK.1 hR 3 p1.toNatClampNeg of_2 rfl rfl 3 (by decide) (va_Nw.use rfl (hK.2.1 _ q529 rfl)) (fun _ h9 => h9) (congrArg (fun z => some (Value.int z)) ((congrFun gs_up_at p1.toNatClampNeg).trans pk_us)) dX1_see_56 ?_
            refine ps_calli (As := [.int ((S 33 p1.toNatClampNeg) ||| p2)]) (rest := []) ⟨hx, hb, hml, hown, hts⟩ (jt_bits l ((S 33 p1.toNatClampNeg) ||| p2)) (va_cwS 1 hts (lw_S q590 q591 q52 q592) rfl rfl rfl (by decide +kernel) ⟨Nat.le_of_ble_eq_true rfl, Nat.le_of_ble_eq_true rfl⟩) trivial hS rfl hl.1 rfl (Nat.le_of_ble_eq_true rfl) dX1_see_59 ⟨Nat.zero_le _, Nat.zero_le _⟩ (fun H locs hz hk hS => ?_)
            have hR := hR.kept (fun a _ h => hk a h)
            refine W.widen (k := 1) (n := 6) (Nat.le_of_ble_eq_true rfl) (Nat.le_of_ble_eq_true rfl) ?_
            exact vx_ret (W.iret (v := (jf_bits ((S 33 p1.toNatClampNeg) ||| p2))) hx hb hr (fun t ht hW => ⟨⟨_, _, hf.symm, rfl, g, h, rfl, hh, by rw [ht]; exact hR⟩, hS.F ht⟩) hS.2.2 dX1_see_62)
          · skip
            have hf := (if_neg c_5).symm.trans hf
            refine W.eq (g2 := F0 m 42 ls [.int 0]) (congrArg (fun z => F0 m 42 ls (.int z :: [])) (if_neg c_5)) ?_
            refine cx_S (X := fun _ => True) (P := True) (As := [.int 0]) (rest := []) hK hZ hA hAA hS trivial trivial (xt_requireState l hfl E C A H.size) (fun _ h => hA _ (Nat.le_trans hS.1 h)) ⟨hx, hb, hml, hown, hts⟩ (va_cwS 1 hts (lw_S q457 q458 q33 q459) rfl rfl rfl (by decide +kernel) ⟨Nat.le_of_ble_eq_true rfl, Nat.le_of_ble_eq_true rfl⟩) rfl hl.1 rfl (Nat.le_of_ble_eq_true rfl) dX1_see_42 ⟨Nat.le_of_ble_eq_true rfl, Nat.le_of_ble_eq_true rfl⟩ (fun ce q9 H locs hB hz hk hS hc9 hv9 hcl => ?_)
            have hR := hR.kept (fun a _ h => hk a h (Nat.not_le.mpr h))
            exact vx_out (fun x h => (hnt x h).elim) hlocks hc9 hv9 hcl (fun t ht _ => ⟨⟨hf.symm, by rw [ht]; exact hR⟩, hS.F ht⟩) hS.2.2 (Nat.le_of_ble_eq_true rfl) (Nat.le_of_ble_eq_true rfl)
        refine lv_if_ne (tgt := 41) hx hb dX1_see_34 (by decide) (fun c_6 => ?_) (fun c_6 => ?_)
        · skip
          refine lv_iconst (v := 0) hx hb dX1_see_41 (by decide) ?_
          exact hJ_42 _ _ _ 0 (gi_0 (gi_cb_f c_6)) hR hS (lv_sub hl [0, 1] rfl)
        · skip
          refine lv_iconst (v := 1) hx hb dX1_see_37 (by decide) ?_
          refine lv_goto (tgt := 42) hx hb dX1_see_38 (by decide) ?_
          exact hJ_42 _ _ _ 1 (gi_1 (gi_cb_t c_6)) hR hS (lv_sub hl [0, 1] rfl)
      · skip
        have hf := (if_neg c_2).symm.trans hf
        refine W.eq (g2 := F0 m 27 ls [.int 0]) (congrArg (fun z => F0 m 27 ls (.int z :: [])) (if_neg c_2)) ?_
        refine cx_S (X := fun _ => True) (P := True) (As := [.int 0]) (rest := []) hK hZ hA hAA hS trivial trivial (xt_requireArgument l hfl E C A H.size) (fun _ h => hA _ (Nat.le_trans hS.1 h)) ⟨hx, hb, hml, hown, hts⟩ (va_cwS 1 hts (lw_S q322 q323 q33 q324) rfl rfl rfl (by decide +kernel) ⟨Nat.le_of_ble_eq_true rfl, Nat.le_of_ble_eq_true rfl⟩) rfl hl.1 rfl (Nat.le_of_ble_eq_true rfl) dX1_see_27 ⟨Nat.le_of_ble_eq_true rfl, Nat.le_of_ble_eq_true rfl⟩ (fun ce q9 H locs hB hz hk hS hc9 hv9 hcl => ?_)
        have hR := hR.kept (fun a _ h => hk a h (Nat.not_le.mpr h))
        exact vx_out (fun x h => (hnt x h).elim) hlocks hc9 hv9 hcl (fun t ht _ => ⟨⟨hf.symm, by rw [ht]; exact hR⟩, hS.F ht⟩) hS.2.2 (Nat.le_of_ble_eq_true rfl) (Nat.le_of_ble_eq_true rfl)
    refine lv_if_eq (tgt := 26) hx hb dX1_see_10 (by decide) (fun c_7 => ?_) (fun c_7 => ?_)
    · skip
      have c_7 : ¬ ((xf_isWords p2) = true) := gs_zf (φ := (xf_isWords p2) = true) c_7
      refine lv_iconst (v := 0) hx hb dX1_see_26 (by decide) ?_
      exact hJ_27 _ _ _ 0 (gi_0 (gi_ca_f c_7)) hR hS (lv_sub hl [3, 0] rfl)
    · skip
      have c_7 : (xf_isWords p2) = true := gs_zt (φ := (xf_isWords p2) = true) c_7
      refine lv_iload_n hx hb dX1_see_13 rfl (lv_at hl 3 rfl) ?_
      refine lv_aload_n hx hb dX1_see_14 rfl (lv_at hl 0 rfl) ?_
      refine kw_getN (C := RX3) (T := TX3) (N := 15) (v := .int (S 34 p1.toNatClampNeg)) hx hb hts in_X3 hown hK.1 hR 3 p1.toNatClampNeg of_2 rfl rfl 4 (by decide) (va_Nw.use rfl (hK.2.1 _ q532 rfl)) (fun _ h9 => h9) rfl dX1_see_15 ?_
      refine lv_iand hx hb dX1_see_18 ?_
      refine lv_if_ne (tgt := 26) hx hb dX1_see_19 (by decide) (fun c_8 => ?_) (fun c_8 => ?_)
      · skip
        refine lv_iconst (v := 0) hx hb dX1_see_26 (by decide) ?_
        exact hJ_27 _ _ _ 0 (gi_0 ((gi_cb_f c_8).trans (gi_ca_t c_7))) hR hS (lv_sub hl [3, 0] rfl)
      · skip
        refine lv_iconst (v := 1) hx hb dX1_see_22 (by decide) ?_
        refine lv_goto (tgt := 27) hx hb dX1_see_23 (by decide) ?_
        exact hJ_27 _ _ _ 1 (gi_1 ((gi_cb_t c_8).trans (gi_ca_t c_7))) hR hS (lv_sub hl [3, 0] rfl)
  · skip
    have hf := (if_neg c_1).symm.trans hf
    refine cx_V (As := [.int p1]) (rest := []) hK hZ hA hAA hS hR ⟨hI, hh, c_1⟩ (xx_findAt l hfl E C A s.heap.size g h S p1) (fun _ h => hA _ (Nat.le_trans hS.1 h)) ⟨hx, hb, hml, hown, hts⟩ (cwV 1 hts (lw_V q586 q588 qs4 q33 q589) rfl rfl rfl (by decide +kernel) ⟨Nat.le_of_ble_eq_true rfl, Nat.le_of_ble_eq_true rfl⟩) (kw_recv (t := 0) (i := 0) hK.1 hR rfl rfl rfl) rfl hl.1 rfl (Nat.le_of_ble_eq_true rfl) dX1_see_2 ⟨Nat.le_of_ble_eq_true rfl, Nat.le_of_ble_eq_true rfl⟩ (fun ce q9 H locs hB hz hk hS hc9 hv9 hcl => ?_)
    have hR := hR.kept (fun a _ h => hk a h (Nat.not_le.mpr h))
    exact vx_out (fun x h => (hnt x h).elim) hlocks hc9 hv9 hcl (fun t ht _ => ⟨⟨hf.symm, by rw [ht]; exact hR⟩, hS.F ht⟩) hS.2.2 (Nat.le_of_ble_eq_true rfl) (Nat.le_of_ble_eq_true rfl)
set_option maxHeartbeats 2000000 in
set_option maxRecDepth 100000 in
theorem xs_send (l : Launch) (hfl : l.stackTraces = false) (E : en_T) (C : ex_C) (A : Nat → Prop) (sz : Nat) (g : kw_A) (h : xh_T) (S : gs_T) (p1 : Int32) (p2 : Int32) : vx_Met l yX1_send (ws_ yX1_send cX1_send 5 (some .int)) { frames := 8, cells := 1, slots := 6, locals := 141 } (cpc E C A sz [.ref (g 0 0), .int p1, .int p2] (xw E C g h S A) (xi_ok S ∧ xh C g h S)) (xq_Q (fun z => z) E C (g 0 0) A (xp_send S p1 p2)) (xq_X E C g h S A (xp_send S p1 p2)) 1 6 A := by
  refine cx_start (by decide) (Nat.le_of_ble_eq_true rfl) ?_
  intro p e s m below meth c ls hx hb hr hlocks hml hown hnm hnt hts hsz hK hZ hA hR hP hl
  subst hsz
  have hAA : ∀ a, A a → A a := fun _ h => h
  have hl : lv_has ls 5 [(0, .ref (g 0 0)), (1, .int p1), (2, .int p2)] := hl
  have hS : va_S A s.heap s.heap [] := va_S.rf
  have hZr := hZ
  obtain ⟨hI, hh⟩ := hP
  have hf : (xp_send S p1 p2) = (xp_send S p1 p2) := rfl
  refine lv_aload_n hx hb dX1_send_0 rfl (lv_at hl 0 rfl) ?_
  refine lv_iload_n hx hb dX1_send_1 rfl (lv_at hl 1 rfl) ?_
  by_cases c_1 : (xf_isIn p1 0 ((S 21 1) - 1)) = true
  · skip
    have hf := (if_pos c_1).symm.trans hf
    have of_2 := (xq_f hI c_1).1
    refine cq_V (v := (some (.ref (g 3 p1.toNatClampNeg)))) (As := [.int p1]) (rest := []) hK hZ hA hAA hS hR ⟨hI, hh, c_1⟩ (xt_findAt l E C A s.heap.size g h S p1) (fun _ h => hA _ (Nat.le_trans hS.1 h)) ⟨hx, hb, hml, hown, hts⟩ (cwV 1 hts (lw_V q586 q588 qs4 q33 q589) rfl rfl rfl (by decide +kernel) ⟨Nat.le_of_ble_eq_true rfl, Nat.le_of_ble_eq_true rfl⟩) (kw_recv (t := 0) (i := 0) hK.1 hR rfl rfl rfl) rfl hl.1 rfl (Nat.le_of_ble_eq_true rfl) dX1_send_2 ⟨Nat.le_of_ble_eq_true rfl, Nat.le_of_ble_eq_true rfl⟩ (fun H locs hB hz hk hS => ?_)
    have hR := hR.kept (fun a _ h => hk a h (Nat.not_le.mpr h))
    refine W.eq (g2 := F0 m 5 ls [.ref (g 3 p1.toNatClampNeg)]) rfl ?_
    refine lv_astore_n (lv' := [(3, .ref (g 3 p1.toNatClampNeg)), (0, .ref (g 0 0)), (1, .int p1), (2, .int p2)]) hx hb dX1_send_5 rfl hl (by decide) rfl (fun ls hl => ?_)
    refine lv_iload_n hx hb dX1_send_6 rfl (lv_at hl 3 rfl) ?_
    refine lv_iconst (v := 0) hx hb dX1_send_7 (by decide) ?_
    refine lv_iconst (v := 5) hx hb dX1_send_8 (by decide) ?_
    refine ps_calli (As := [.int p2, .int 0, .int 5]) (rest := []) ⟨hx, hb, hml, hown, hts⟩ (xt_isIn l p2 0 5) (va_cwS 3 hts (lw_S q295 q296 q33 q297) rfl rfl rfl (by decide +kernel) ⟨Nat.le_of_ble_eq_true rfl, Nat.le_of_ble_eq_true rfl⟩) trivial hS rfl hl.1 rfl (Nat.le_of_ble_eq_true rfl) dX1_send_9 ⟨Nat.zero_le _, Nat.zero_le _⟩ (fun H locs hz hk hS => ?_)
    have hR := hR.kept (fun a _ h => hk a h)
    by_cases c_2 : (xf_isIn p2 0 5) = true
    · skip
      have hf := (if_pos c_2).symm.trans hf
      have c_3 := xq_vp6 c_2
      refine ps_callv (As := [.int (if (xf_isIn p2 0 5) = true then 1 else 0)]) (rest := []) ⟨hx, hb, hml, hown, hts⟩ (xo_requireIndex l _) (va_cwS 1 hts (lw_S q298 q299 q33 q300) rfl rfl rfl (by decide +kernel) ⟨Nat.le_of_ble_eq_true rfl, Nat.le_of_ble_eq_true rfl⟩) (if_pos c_2) hS rfl hl.1 rfl (Nat.le_of_ble_eq_true rfl) dX1_send_12 ⟨Nat.le_of_ble_eq_true rfl, Nat.le_of_ble_eq_true rfl⟩ (fun H locs hz hk hS => ?_)
      have hR := hR.kept (fun a _ h => hk a h)
      refine lv_aload_n hx hb dX1_send_15 rfl (lv_at hl 0 rfl) ?_
      refine kw_getN (C := RX3) (T := TX3) (N := 15) (v := .int (S 36 p1.toNatClampNeg)) hx hb hts in_X3 hown hK.1 hR 3 p1.toNatClampNeg of_2 rfl rfl 6 (by decide) (va_Nw.use rfl (hK.2.1 _ q536 rfl)) (fun _ h9 => h9) rfl dX1_send_16 ?_
      have hJ_35 : ∀ (H : Heap) (locs : List Loc) (ls : Array Slot) (v_35 : Int32), v_35 = (if ((S 36 p1.toNatClampNeg) = 0) ∧ (¬ ((S 39 p1.toNatClampNeg) = p2)) then 1 else 0) → (xw E C g h S A) H → va_S A s.heap H locs → lv_has ls 5 [(0, .ref (g 0 0)), (2, .int p2), (3, .ref (g 3 p1.toNatClampNeg))] → cx_G p l e { frames := 8, cells := 1, slots := 6, locals := 141 } s m [.ref (g 0 0), .int p1, .int p2] below meth c A (xq_Q (fun z => z) E C (g 0 0) A (xp_send S p1 p2)) (xq_X E C g h S A (xp_send S p1 p2)) 1 6 H locs 0 0 (F0 m 35 ls [.int v_35]) := by
        intro H locs ls v_35 e_v_35 hR hS hl
        subst e_v_35
        by_cases c_4 : ((S 36 p1.toNatClampNeg) = 0) ∧ (¬ ((S 39 p1.toNatClampNeg) = p2))
        · skip
          have hf := (if_pos c_4).symm.trans hf
          have c_5 := c_4.1
          have c_6 := c_4.2
          refine ps_callv (As := [.int (if ((S 36 p1.toNatClampNeg) = 0) ∧ (¬ ((S 39 p1.toNatClampNeg) = p2)) then 1 else 0)]) (rest := []) ⟨hx, hb, hml, hown, hts⟩ (xo_requireState l _) (va_cwS 1 hts (lw_S q457 q458 q33 q459) rfl rfl rfl (by decide +kernel) ⟨Nat.le_of_ble_eq_true rfl, Nat.le_of_ble_eq_true rfl⟩) (if_pos c_4) hS rfl hl.1 rfl (Nat.le_of_ble_eq_true rfl) dX1_send_35 ⟨Nat.le_of_ble_eq_true rfl, Nat.le_of_ble_eq_true rfl⟩ (fun H locs hz hk hS => ?_)
          have hR := hR.kept (fun a _ h => hk a h)
          refine lv_aload_n hx hb dX1_send_38 rfl (lv_at hl 2 rfl) ?_
          refine lv_iconst (v := 1) hx hb dX1_send_39 (by decide) ?_
          refine kw_putN (C := RX3) (T := TX3) (N := 15) hx hb hts in_X3 tyX3 tyX3_ok nmX3 hown hK.1 hR hS 3 p1.toNatClampNeg of_2 rfl rfl 6 (by decide) (va_Nw.use rfl (hK.2.1 _ q536 rfl)) (fun _ h9 => h9) rfl rfl rfl rfl (Nat.le_of_ble_eq_true rfl) dX1_send_40 (xen E C g h (gs_up S 36 p1.toNatClampNeg 1)) (xe_f (k := 6) rfl) (xn_f (k := 6) rfl) (fun H locs hR hS => ?_)
          have hR := xw_up rfl hR
          have hh := xh_up (k := 36) (i := p1.toNatClampNeg) (v := 1) rfl hh
          refine lv_aload_n hx hb dX1_send_43 rfl (lv_at hl 2 rfl) ?_
          refine lv_aload_n hx hb dX1_send_44 rfl (lv_at hl 0 rfl) ?_
          refine kw_get (C := RX1) (T := TX1) (N := 12) (v := .int (S 0 0)) hx hb hts in_X1 hown hK.1 hR 0 0 rfl rfl rfl 0 (by decide) (hts _ q168) (fun _ h9 => h9) (congrArg (fun z => some (Value.int z)) (congrFun (gs_sk rfl) 0)) dX1_send_45 ?_
          refine lv_iconst (v := 1) hx hb dX1_send_48 (by decide) ?_
          refine lv_iadd hx hb dX1_send_49 ?_
          refine kw_putN (C := RX3) (T := TX3) (N := 15) hx hb hts in_X3 tyX3 tyX3_ok nmX3 hown hK.1 hR hS 3 p1.toNatClampNeg of_2 rfl rfl 10 (by decide) (va_Nw.use rfl (hK.2.1 _ q542 rfl)) (fun _ h9 => h9) rfl rfl rfl rfl (Nat.le_of_ble_eq_true rfl) dX1_send_50 (xen E C g h (gs_up (gs_up S 36 p1.toNatClampNeg 1) 40 p1.toNatClampNeg ((S 0 0) + 1))) (xe_f (k := 10) rfl) (xn_f (k := 10) rfl) (fun H locs hR hS => ?_)
          have hR := xw_up rfl hR
          have hh := xh_up (k := 40) (i := p1.toNatClampNeg) (v := ((S 0 0) + 1)) rfl hh
          refine lv_aload_n hx hb dX1_send_53 rfl (lv_at hl 2 rfl) ?_
          refine kw_getN (C := RX3) (T := TX3) (N := 15) (v := .int (S 39 p1.toNatClampNeg)) hx hb hts in_X3 hown hK.1 hR 3 p1.toNatClampNeg of_2 rfl rfl 9 (by decide) (va_Nw.use rfl (hK.2.1 _ q541 rfl)) (fun _ h9 => h9) (congrArg (fun z => some (Value.int z)) (congrFun ((gs_sk rfl).trans (gs_sk rfl)) p1.toNatClampNeg)) dX1_send_54 ?_
          refine lv_istore (lv' := [(4, .int (S 39 p1.toNatClampNeg)), (0, .ref (g 0 0)), (2, .int p2), (3, .ref (g 3 p1.toNatClampNeg))]) hx hb dX1_send_57 hl (by decide) rfl (fun ls hl => ?_)
          refine lv_aload_n hx hb dX1_send_59 rfl (lv_at hl 3 rfl) ?_
          refine lv_iload_n hx hb dX1_send_60 rfl (lv_at hl 2 rfl) ?_
          refine kw_putN (C := RX3) (T := TX3) (N := 15) hx hb hts in_X3 tyX3 tyX3_ok nmX3 hown hK.1 hR hS 3 p1.toNatClampNeg of_2 rfl rfl 9 (by decide) (va_Nw.use rfl (hK.2.1 _ q541 rfl)) (fun _ h9 => h9) rfl rfl rfl rfl (Nat.le_of_ble_eq_true rfl) dX1_send_61 (xen E C g h (gs_up (gs_up (gs_up S 36 p1.toNatClampNeg 1) 40 p1.toNatClampNeg ((S 0 0) + 1)) 39 p1.toNatClampNeg p2)) (xe_f (k := 9) rfl) (xn_f (k := 9) rfl) (fun H locs hR hS => ?_)
          have hR := xw_up rfl hR
          have hh := xh_up (k := 39) (i := p1.toNatClampNeg) (v := p2) rfl hh
          refine lv_iload hx hb dX1_send_64 (lv_at hl 0 rfl) ?_
          refine W.widen (k := 1) (n := 6) (Nat.le_of_ble_eq_true rfl) (Nat.le_of_ble_eq_true rfl) ?_
          exact vx_ret (W.iret (v := (S 39 p1.toNatClampNeg)) hx hb hr (fun t ht hW => ⟨⟨_, _, hf.symm, rfl, g, h, rfl, hh, by rw [ht]; exact hR⟩, hS.F ht⟩) hS.2.2 dX1_send_66)
        · skip
          have hf := (if_neg c_4).symm.trans hf
          refine W.eq (g2 := F0 m 35 ls [.int 0]) (congrArg (fun z => F0 m 35 ls (.int z :: [])) (if_neg c_4)) ?_
          refine cx_S (X := fun _ => True) (P := True) (As := [.int 0]) (rest := []) hK hZ hA hAA hS trivial trivial (xt_requireState l hfl E C A H.size) (fun _ h => hA _ (Nat.le_trans hS.1 h)) ⟨hx, hb, hml, hown, hts⟩ (va_cwS 1 hts (lw_S q457 q458 q33 q459) rfl rfl rfl (by decide +kernel) ⟨Nat.le_of_ble_eq_true rfl, Nat.le_of_ble_eq_true rfl⟩) rfl hl.1 rfl (Nat.le_of_ble_eq_true rfl) dX1_send_35 ⟨Nat.le_of_ble_eq_true rfl, Nat.le_of_ble_eq_true rfl⟩ (fun ce q9 H locs hB hz hk hS hc9 hv9 hcl => ?_)
          have hR := hR.kept (fun a _ h => hk a h (Nat.not_le.mpr h))
          exact vx_out (fun x h => (hnt x h).elim) hlocks hc9 hv9 hcl (fun t ht _ => ⟨⟨hf.symm, by rw [ht]; exact hR⟩, hS.F ht⟩) hS.2.2 (Nat.le_of_ble_eq_true rfl) (Nat.le_of_ble_eq_true rfl)
      refine lv_if_ne (tgt := 34) hx hb dX1_send_19 (by decide) (fun c_7 => ?_) (fun c_7 => ?_)
      · skip
        refine lv_iconst (v := 0) hx hb dX1_send_34 (by decide) ?_
        exact hJ_35 _ _ _ 0 (gi_0 (gi_ca_f c_7)) hR hS (lv_sub hl [1, 3, 0] rfl)
      · skip
        refine lv_aload_n hx hb dX1_send_22 rfl (lv_at hl 0 rfl) ?_
        refine kw_getN (C := RX3) (T := TX3) (N := 15) (v := .int (S 39 p1.toNatClampNeg)) hx hb hts in_X3 hown hK.1 hR 3 p1.toNatClampNeg of_2 rfl rfl 9 (by decide) (va_Nw.use rfl (hK.2.1 _ q541 rfl)) (fun _ h9 => h9) rfl dX1_send_23 ?_
        refine lv_iload_n hx hb dX1_send_26 rfl (lv_at hl 3 rfl) ?_
        refine lv_icmp_eq (tgt := 34) hx hb dX1_send_27 (by decide) (fun c_8 => ?_) (fun c_8 => ?_)
        · skip
          refine lv_iconst (v := 0) hx hb dX1_send_34 (by decide) ?_
          exact hJ_35 _ _ _ 0 (gi_0 ((gi_nb_t c_8).trans (gi_ca_t c_7))) hR hS (lv_sub hl [1, 3, 0] rfl)
        · skip
          refine lv_iconst (v := 1) hx hb dX1_send_30 (by decide) ?_
          refine lv_goto (tgt := 35) hx hb dX1_send_31 (by decide) ?_
          exact hJ_35 _ _ _ 1 (gi_1 ((gi_nb_f c_8).trans (gi_ca_t c_7))) hR hS (lv_sub hl [1, 3, 0] rfl)
    · skip
      have hf := (if_neg c_2).symm.trans hf
      refine W.eq (g2 := F0 m 12 ls [.int 0]) (congrArg (fun z => F0 m 12 ls (.int z :: [])) (if_neg c_2)) ?_
      refine cx_S (X := fun _ => True) (P := True) (As := [.int 0]) (rest := []) hK hZ hA hAA hS trivial trivial (xt_requireIndex l hfl E C A H.size) (fun _ h => hA _ (Nat.le_trans hS.1 h)) ⟨hx, hb, hml, hown, hts⟩ (va_cwS 1 hts (lw_S q298 q299 q33 q300) rfl rfl rfl (by decide +kernel) ⟨Nat.le_of_ble_eq_true rfl, Nat.le_of_ble_eq_true rfl⟩) rfl hl.1 rfl (Nat.le_of_ble_eq_true rfl) dX1_send_12 ⟨Nat.le_of_ble_eq_true rfl, Nat.le_of_ble_eq_true rfl⟩ (fun ce q9 H locs hB hz hk hS hc9 hv9 hcl => ?_)
      have hR := hR.kept (fun a _ h => hk a h (Nat.not_le.mpr h))
      exact vx_out (fun x h => (hnt x h).elim) hlocks hc9 hv9 hcl (fun t ht _ => ⟨⟨hf.symm, by rw [ht]; exact hR⟩, hS.F ht⟩) hS.2.2 (Nat.le_of_ble_eq_true rfl) (Nat.le_of_ble_eq_true rfl)
  · skip
    have hf := (if_neg c_1).symm.trans hf
    refine cx_V (As := [.int p1]) (rest := []) hK hZ hA hAA hS hR ⟨hI, hh, c_1⟩ (xx_findAt l hfl E C A s.heap.size g h S p1) (fun _ h => hA _ (Nat.le_trans hS.1 h)) ⟨hx, hb, hml, hown, hts⟩ (cwV 1 hts (lw_V q586 q588 qs4 q33 q589) rfl rfl rfl (by decide +kernel) ⟨Nat.le_of_ble_eq_true rfl, Nat.le_of_ble_eq_true rfl⟩) (kw_recv (t := 0) (i := 0) hK.1 hR rfl rfl rfl) rfl hl.1 rfl (Nat.le_of_ble_eq_true rfl) dX1_send_2 ⟨Nat.le_of_ble_eq_true rfl, Nat.le_of_ble_eq_true rfl⟩ (fun ce q9 H locs hB hz hk hS hc9 hv9 hcl => ?_)
    have hR := hR.kept (fun a _ h => hk a h (Nat.not_le.mpr h))
    exact vx_out (fun x h => (hnt x h).elim) hlocks hc9 hv9 hcl (fun t ht _ => ⟨⟨hf.symm, by rw [ht]; exact hR⟩, hS.F ht⟩) hS.2.2 (Nat.le_of_ble_eq_true rfl) (Nat.le_of_ble_eq_true rfl)
set_option maxHeartbeats 2000000 in
set_option maxRecDepth 100000 in
theorem xs_hold (l : Launch) (hfl : l.stackTraces = false) (E : en_T) (C : ex_C) (A : Nat → Prop) (sz : Nat) (g : kw_A) (h : xh_T) (S : gs_T) (p1 : Int32) (p2 : Int32) : vx_Met l yX1_hold (ws_ yX1_hold cX1_hold 5 (some .boolean)) { frames := 8, cells := 1, slots := 6, locals := 141 } (cpc E C A sz [.ref (g 0 0), .int p1, .int p2] (xw E C g h S A) (xi_ok S ∧ xh C g h S ∧ (p2 = 0 ∨ p2 = 1))) (xq_Q gs_bz E C (g 0 0) A (xp_hold S p1 p2)) (xq_X E C g h S A (xp_hold S p1 p2)) 1 6 A := by
  refine cx_start (by decide) (Nat.le_of_ble_eq_true rfl) ?_
  intro p e s m below meth c ls hx hb hr hlocks hml hown hnm hnt hts hsz hK hZ hA hR hP hl
  subst hsz
  have hAA : ∀ a, A a → A a := fun _ h => h
  have hl : lv_has ls 5 [(0, .ref (g 0 0)), (1, .int p1), (2, .int p2)] := hl
  have hS : va_S A s.heap s.heap [] := va_S.rf
  have hZr := hZ
  obtain ⟨hI, hh, h_p2⟩ := hP
  have hf : (xp_hold S p1 p2) = (xp_hold S p1 p2) := rfl
  refine lv_aload_n hx hb dX1_hold_0 rfl (lv_at hl 0 rfl) ?_
  refine lv_iload_n hx hb dX1_hold_1 rfl (lv_at hl 1 rfl) ?_
  by_cases c_1 : (xf_isIn p1 0 ((S 21 1) - 1)) = true
  · skip
    have hf := (if_pos c_1).symm.trans hf
    have of_2 := (xq_f hI c_1).1
    refine cq_V (v := (some (.ref (g 3 p1.toNatClampNeg)))) (As := [.int p1]) (rest := []) hK hZ hA hAA hS hR ⟨hI, hh, c_1⟩ (xt_findAt l E C A s.heap.size g h S p1) (fun _ h => hA _ (Nat.le_trans hS.1 h)) ⟨hx, hb, hml, hown, hts⟩ (cwV 1 hts (lw_V q586 q588 qs4 q33 q589) rfl rfl rfl (by decide +kernel) ⟨Nat.le_of_ble_eq_true rfl, Nat.le_of_ble_eq_true rfl⟩) (kw_recv (t := 0) (i := 0) hK.1 hR rfl rfl rfl) rfl hl.1 rfl (Nat.le_of_ble_eq_true rfl) dX1_hold_2 ⟨Nat.le_of_ble_eq_true rfl, Nat.le_of_ble_eq_true rfl⟩ (fun H locs hB hz hk hS => ?_)
    have hR := hR.kept (fun a _ h => hk a h (Nat.not_le.mpr h))
    refine W.eq (g2 := F0 m 5 ls [.ref (g 3 p1.toNatClampNeg)]) rfl ?_
    refine lv_astore_n (lv' := [(3, .ref (g 3 p1.toNatClampNeg)), (0, .ref (g 0 0)), (1, .int p1), (2, .int p2)]) hx hb dX1_hold_5 rfl hl (by decide) rfl (fun ls hl => ?_)
    refine lv_aload_n hx hb dX1_hold_6 rfl (lv_at hl 0 rfl) ?_
    refine cq_V (v := (some (.int (gs_bz (xf_isHere S p1.toNatClampNeg))))) (As := []) (rest := []) hK hZ hA hAA hS hR ⟨hI, hh, (by first | assumption | omega)⟩ (xt_isHere l E C A H.size g h S p1.toNatClampNeg) (fun _ h => hA _ (Nat.le_trans hS.1 h)) ⟨hx, hb, hml, hown, hts⟩ (cwV 0 hts (lw_V q695 q696 q697 q55 q698) rfl rfl rfl (by decide +kernel) ⟨Nat.le_of_ble_eq_true rfl, Nat.le_of_ble_eq_true rfl⟩) (kw_recv (t := 3) (i := p1.toNatClampNeg) hK.1 hR of_2 rfl rfl) rfl hl.1 rfl (Nat.le_of_ble_eq_true rfl) dX1_hold_7 ⟨Nat.le_of_ble_eq_true rfl, Nat.le_of_ble_eq_true rfl⟩ (fun H locs hB hz hk hS => ?_)
    have hR := hR.kept (fun a _ h => hk a h (Nat.not_le.mpr h))
    refine W.eq (g2 := F0 m 10 ls [.int (if (xf_isHere S p1.toNatClampNeg) = true then 1 else 0)]) rfl ?_
    by_cases c_2 : (xf_isHere S p1.toNatClampNeg) = true
    · skip
      have hf := (if_pos c_2).symm.trans hf
      refine ps_callv (As := [.int (if (xf_isHere S p1.toNatClampNeg) = true then 1 else 0)]) (rest := []) ⟨hx, hb, hml, hown, hts⟩ (xo_requireState l _) (va_cwS 1 hts (lw_S q457 q458 q33 q459) rfl rfl rfl (by decide +kernel) ⟨Nat.le_of_ble_eq_true rfl, Nat.le_of_ble_eq_true rfl⟩) (if_pos c_2) hS rfl hl.1 rfl (Nat.le_of_ble_eq_true rfl) dX1_hold_10 ⟨Nat.le_of_ble_eq_true rfl, Nat.le_of_ble_eq_true rfl⟩ (fun H locs hz hk hS => ?_)
      have hR := hR.kept (fun a _ h => hk a h)
      refine lv_aload_n hx hb dX1_hold_13 rfl (lv_at hl 0 rfl) ?_
      refine kw_getN (C := RX3) (T := TX3) (N := 15) (v := .int (S 38 p1.toNatClampNeg)) hx hb hts in_X3 hown hK.1 hR 3 p1.toNatClampNeg of_2 rfl rfl 8 (by decide) (va_Nw.use rfl (hK.2.1 _ q539 rfl)) (fun _ h9 => h9) rfl dX1_hold_14 ?_
      refine lv_istore (lv' := [(4, .int (S 38 p1.toNatClampNeg)), (3, .ref (g 3 p1.toNatClampNeg)), (0, .ref (g 0 0)), (1, .int p1), (2, .int p2)]) hx hb dX1_hold_17 hl (by decide) rfl (fun ls hl => ?_)
      refine lv_aload_n hx hb dX1_hold_19 rfl (lv_at hl 1 rfl) ?_
      refine lv_iload_n hx hb dX1_hold_20 rfl (lv_at hl 4 rfl) ?_
      refine kw_putN (C := RX3) (T := TX3) (N := 15) hx hb hts in_X3 tyX3 tyX3_ok nmX3 hown hK.1 hR hS 3 p1.toNatClampNeg of_2 rfl rfl 8 (by decide) (va_Nw.use rfl (hK.2.1 _ q539 rfl)) (fun _ h9 => h9) rfl rfl (gs_znar h_p2) (by rcases h_p2 with h9 | h9 <;> rw [h9] <;> rfl) (Nat.le_of_ble_eq_true rfl) dX1_hold_21 (xen E C g h (gs_up S 38 p1.toNatClampNeg p2)) (xe_f (k := 8) rfl) (xn_f (k := 8) rfl) (fun H locs hR hS => ?_)
      have hR := xw_up rfl hR
      have hh := xh_up (k := 38) (i := p1.toNatClampNeg) (v := p2) rfl hh
      refine lv_iload hx hb dX1_hold_24 (lv_at hl 0 rfl) ?_
      refine W.widen (k := 1) (n := 6) (Nat.le_of_ble_eq_true rfl) (Nat.le_of_ble_eq_true rfl) ?_
      exact vx_ret (W.zret (v := (S 38 p1.toNatClampNeg)) hx hb hr (gs_znar (hI.2.2.2.2.2.1 p1.toNatClampNeg of_2 |>.2.2)) (fun t ht hW => ⟨⟨_, _, hf.symm, (congrArg (fun z => Outcome.returned (some (Value.int z))) (gs_bz01 (hI.2.2.2.2.2.1 p1.toNatClampNeg of_2 |>.2.2))), g, h, rfl, hh, by rw [ht]; exact hR⟩, hS.F ht⟩) hS.2.2 dX1_hold_26)
    · skip
      have hf := (if_neg c_2).symm.trans hf
      refine W.eq (g2 := F0 m 10 ls [.int 0]) (congrArg (fun z => F0 m 10 ls (.int z :: [])) (if_neg c_2)) ?_
      refine cx_S (X := fun _ => True) (P := True) (As := [.int 0]) (rest := []) hK hZ hA hAA hS trivial trivial (xt_requireState l hfl E C A H.size) (fun _ h => hA _ (Nat.le_trans hS.1 h)) ⟨hx, hb, hml, hown, hts⟩ (va_cwS 1 hts (lw_S q457 q458 q33 q459) rfl rfl rfl (by decide +kernel) ⟨Nat.le_of_ble_eq_true rfl, Nat.le_of_ble_eq_true rfl⟩) rfl hl.1 rfl (Nat.le_of_ble_eq_true rfl) dX1_hold_10 ⟨Nat.le_of_ble_eq_true rfl, Nat.le_of_ble_eq_true rfl⟩ (fun ce q9 H locs hB hz hk hS hc9 hv9 hcl => ?_)
      have hR := hR.kept (fun a _ h => hk a h (Nat.not_le.mpr h))
      exact vx_out (fun x h => (hnt x h).elim) hlocks hc9 hv9 hcl (fun t ht _ => ⟨⟨hf.symm, by rw [ht]; exact hR⟩, hS.F ht⟩) hS.2.2 (Nat.le_of_ble_eq_true rfl) (Nat.le_of_ble_eq_true rfl)
  · skip
    have hf := (if_neg c_1).symm.trans hf
    refine cx_V (As := [.int p1]) (rest := []) hK hZ hA hAA hS hR ⟨hI, hh, c_1⟩ (xx_findAt l hfl E C A s.heap.size g h S p1) (fun _ h => hA _ (Nat.le_trans hS.1 h)) ⟨hx, hb, hml, hown, hts⟩ (cwV 1 hts (lw_V q586 q588 qs4 q33 q589) rfl rfl rfl (by decide +kernel) ⟨Nat.le_of_ble_eq_true rfl, Nat.le_of_ble_eq_true rfl⟩) (kw_recv (t := 0) (i := 0) hK.1 hR rfl rfl rfl) rfl hl.1 rfl (Nat.le_of_ble_eq_true rfl) dX1_hold_2 ⟨Nat.le_of_ble_eq_true rfl, Nat.le_of_ble_eq_true rfl⟩ (fun ce q9 H locs hB hz hk hS hc9 hv9 hcl => ?_)
    have hR := hR.kept (fun a _ h => hk a h (Nat.not_le.mpr h))
    exact vx_out (fun x h => (hnt x h).elim) hlocks hc9 hv9 hcl (fun t ht _ => ⟨⟨hf.symm, by rw [ht]; exact hR⟩, hS.F ht⟩) hS.2.2 (Nat.le_of_ble_eq_true rfl) (Nat.le_of_ble_eq_true rfl)
set_option maxHeartbeats 2000000 in
set_option maxRecDepth 100000 in
theorem xs_say (l : Launch) (hfl : l.stackTraces = false) (E : en_T) (C : ex_C) (A : Nat → Prop) (sz : Nat) (g : kw_A) (h : xh_T) (S : gs_T) (p1 : Int32) (p2 : Int32) : vx_Met l yX1_say (ws_ yX1_say cX1_say 4 (some .int)) { frames := 8, cells := 1, slots := 6, locals := 141 } (cpc E C A sz [.ref (g 0 0), .int p1, .int p2] (xw E C g h S A) (xi_ok S ∧ xh C g h S)) (xq_Q (fun z => z) E C (g 0 0) A (xp_say S p1 p2)) (xq_X E C g h S A (xp_say S p1 p2)) 1 6 A := by
  refine cx_start (by decide) (Nat.le_of_ble_eq_true rfl) ?_
  intro p e s m below meth c ls hx hb hr hlocks hml hown hnm hnt hts hsz hK hZ hA hR hP hl
  subst hsz
  have hAA : ∀ a, A a → A a := fun _ h => h
  have hl : lv_has ls 4 [(0, .ref (g 0 0)), (1, .int p1), (2, .int p2)] := hl
  have hS : va_S A s.heap s.heap [] := va_S.rf
  have hZr := hZ
  obtain ⟨hI, hh⟩ := hP
  have hf : (xp_say S p1 p2) = (xp_say S p1 p2) := rfl
  refine lv_aload_n hx hb dX1_say_0 rfl (lv_at hl 0 rfl) ?_
  refine lv_iload_n hx hb dX1_say_1 rfl (lv_at hl 1 rfl) ?_
  by_cases c_1 : (xf_isIn p1 0 ((S 21 2) - 1)) = true
  · skip
    have hf := (if_pos c_1).symm.trans hf
    have oc_2 := (xq_c hI c_1).1
    refine cq_V (v := (some (.ref (g 4 p1.toNatClampNeg)))) (As := [.int p1]) (rest := []) hK hZ hA hAA hS hR ⟨hI, hh, c_1⟩ (xt_claimAt l E C A s.heap.size g h S p1) (fun _ h => hA _ (Nat.le_trans hS.1 h)) ⟨hx, hb, hml, hown, hts⟩ (cwV 1 hts (lw_V q759 q761 qs6 q33 q762) rfl rfl rfl (by decide +kernel) ⟨Nat.le_of_ble_eq_true rfl, Nat.le_of_ble_eq_true rfl⟩) (kw_recv (t := 0) (i := 0) hK.1 hR rfl rfl rfl) rfl hl.1 rfl (Nat.le_of_ble_eq_true rfl) dX1_say_2 ⟨Nat.le_of_ble_eq_true rfl, Nat.le_of_ble_eq_true rfl⟩ (fun H locs hB hz hk hS => ?_)
    have hR := hR.kept (fun a _ h => hk a h (Nat.not_le.mpr h))
    refine W.eq (g2 := F0 m 5 ls [.ref (g 4 p1.toNatClampNeg)]) rfl ?_
    refine lv_astore_n (lv' := [(3, .ref (g 4 p1.toNatClampNeg)), (0, .ref (g 0 0)), (1, .int p1), (2, .int p2)]) hx hb dX1_say_5 rfl hl (by decide) rfl (fun ls hl => ?_)
    refine lv_iload_n hx hb dX1_say_6 rfl (lv_at hl 3 rfl) ?_
    refine ps_calli (As := [.int p2]) (rest := []) ⟨hx, hb, hml, hown, hts⟩ (xt_isWords l p2) (va_cwS 1 hts (lw_S q492 q493 q33 q494) rfl rfl rfl (by decide +kernel) ⟨Nat.le_of_ble_eq_true rfl, Nat.le_of_ble_eq_true rfl⟩) trivial hS rfl hl.1 rfl (Nat.le_of_ble_eq_true rfl) dX1_say_7 ⟨Nat.zero_le _, Nat.zero_le _⟩ (fun H locs hz hk hS => ?_)
    have hR := hR.kept (fun a _ h => hk a h)
    by_cases c_2 : (xf_isWords p2) = true
    · skip
      have hf := (if_pos c_2).symm.trans hf
      refine ps_callv (As := [.int (if (xf_isWords p2) = true then 1 else 0)]) (rest := []) ⟨hx, hb, hml, hown, hts⟩ (xo_requireArgument l _) (va_cwS 1 hts (lw_S q322 q323 q33 q324) rfl rfl rfl (by decide +kernel) ⟨Nat.le_of_ble_eq_true rfl, Nat.le_of_ble_eq_true rfl⟩) (if_pos c_2) hS rfl hl.1 rfl (Nat.le_of_ble_eq_true rfl) dX1_say_10 ⟨Nat.le_of_ble_eq_true rfl, Nat.le_of_ble_eq_true rfl⟩ (fun H locs hz hk hS => ?_)
      have hR := hR.kept (fun a _ h => hk a h)
      refine lv_aload_n hx hb dX1_say_13 rfl (lv_at hl 0 rfl) ?_
      refine kw_getN (C := RX5) (T := TX5) (N := 10) (v := .int (S 56 p1.toNatClampNeg)) hx hb hts in_X5 hown hK.1 hR 4 p1.toNatClampNeg oc_2 rfl rfl 6 (by decide) (va_Nw.use rfl (hK.2.1 _ q725 rfl)) (fun _ h9 => h9) rfl dX1_say_14 ?_
      have hJ_25 : ∀ (H : Heap) (locs : List Loc) (ls : Array Slot) (v_25 : Int32), v_25 = (if (S 56 p1.toNatClampNeg) = 0 then 1 else 0) → (xw E C g h S A) H → va_S A s.heap H locs → lv_has ls 4 [(2, .int p2), (3, .ref (g 4 p1.toNatClampNeg))] → cx_G p l e { frames := 8, cells := 1, slots := 6, locals := 141 } s m [.ref (g 0 0), .int p1, .int p2] below meth c A (xq_Q (fun z => z) E C (g 0 0) A (xp_say S p1 p2)) (xq_X E C g h S A (xp_say S p1 p2)) 1 6 H locs 0 0 (F0 m 25 ls [.int v_25]) := by
        intro H locs ls v_25 e_v_25 hR hS hl
        subst e_v_25
        by_cases c_3 : (S 56 p1.toNatClampNeg) = 0
        · skip
          have hf := (if_pos c_3).symm.trans hf
          refine ps_callv (As := [.int (if (S 56 p1.toNatClampNeg) = 0 then 1 else 0)]) (rest := []) ⟨hx, hb, hml, hown, hts⟩ (xo_requireState l _) (va_cwS 1 hts (lw_S q457 q458 q33 q459) rfl rfl rfl (by decide +kernel) ⟨Nat.le_of_ble_eq_true rfl, Nat.le_of_ble_eq_true rfl⟩) (if_pos c_3) hS rfl hl.1 rfl (Nat.le_of_ble_eq_true rfl) dX1_say_25 ⟨Nat.le_of_ble_eq_true rfl, Nat.le_of_ble_eq_true rfl⟩ (fun H locs hz hk hS => ?_)
          have hR := hR.kept (fun a _ h => hk a h)
          refine lv_aload_n hx hb dX1_say_28 rfl (lv_at hl 1 rfl) ?_
          refine lv_dup hx hb dX1_say_29 rfl ?_
          refine kw_getN (C := RX5) (T := TX5) (N := 10) (v := .int (S 54 p1.toNatClampNeg)) hx hb hts in_X5 hown hK.1 hR 4 p1.toNatClampNeg oc_2 rfl rfl 4 (by decide) (va_Nw.use rfl (hK.2.1 _ q721 rfl)) (fun _ h9 => h9) rfl dX1_say_30 ?_
          refine lv_iload_n hx hb dX1_say_33 rfl (lv_at hl 0 rfl) ?_
          refine lv_ior hx hb dX1_say_34 ?_
          refine kw_putN (C := RX5) (T := TX5) (N := 10) hx hb hts in_X5 tyX5 tyX5_ok nmX5 hown hK.1 hR hS 4 p1.toNatClampNeg oc_2 rfl rfl 4 (by decide) (va_Nw.use rfl (hK.2.1 _ q721 rfl)) (fun _ h9 => h9) rfl rfl rfl rfl (Nat.le_of_ble_eq_true rfl) dX1_say_35 (xen E C g h (gs_up S 54 p1.toNatClampNeg ((S 54 p1.toNatClampNeg) ||| p2))) (xe_c (k := 4) rfl) (xn_c (k := 4) rfl) (fun H locs hR hS => ?_)
          have hR := xw_up rfl hR
          have hh := xh_up (k := 54) (i := p1.toNatClampNeg) (v := ((S 54 p1.toNatClampNeg) ||| p2)) rfl hh
          refine lv_aload_n hx hb dX1_say_38 rfl (lv_at hl 1 rfl) ?_
          refine kw_getN (C := RX5) (T := TX5) (N := 10) (v := .int ((S 54 p1.toNatClampNeg) ||| p2)) hx hb hts in_X5 hown hK.1 hR 4 p1.toNatClampNeg oc_2 rfl rfl 4 (by decide) (va_Nw.use rfl (hK.2.1 _ q721 rfl)) (fun _ h9 => h9) (congrArg (fun z => some (Value.int z)) ((congrFun gs_up_at p1.toNatClampNeg).trans pk_us)) dX1_say_39 ?_
          refine ps_calli (As := [.int ((S 54 p1.toNatClampNeg) ||| p2)]) (rest := []) ⟨hx, hb, hml, hown, hts⟩ (jt_bits l ((S 54 p1.toNatClampNeg) ||| p2)) (va_cwS 1 hts (lw_S q590 q591 q52 q592) rfl rfl rfl (by decide +kernel) ⟨Nat.le_of_ble_eq_true rfl, Nat.le_of_ble_eq_true rfl⟩) trivial hS rfl hl.1 rfl (Nat.le_of_ble_eq_true rfl) dX1_say_42 ⟨Nat.zero_le _, Nat.zero_le _⟩ (fun H locs hz hk hS => ?_)
          have hR := hR.kept (fun a _ h => hk a h)
          refine W.widen (k := 1) (n := 6) (Nat.le_of_ble_eq_true rfl) (Nat.le_of_ble_eq_true rfl) ?_
          exact vx_ret (W.iret (v := (jf_bits ((S 54 p1.toNatClampNeg) ||| p2))) hx hb hr (fun t ht hW => ⟨⟨_, _, hf.symm, rfl, g, h, rfl, hh, by rw [ht]; exact hR⟩, hS.F ht⟩) hS.2.2 dX1_say_45)
        · skip
          have hf := (if_neg c_3).symm.trans hf
          refine W.eq (g2 := F0 m 25 ls [.int 0]) (congrArg (fun z => F0 m 25 ls (.int z :: [])) (if_neg c_3)) ?_
          refine cx_S (X := fun _ => True) (P := True) (As := [.int 0]) (rest := []) hK hZ hA hAA hS trivial trivial (xt_requireState l hfl E C A H.size) (fun _ h => hA _ (Nat.le_trans hS.1 h)) ⟨hx, hb, hml, hown, hts⟩ (va_cwS 1 hts (lw_S q457 q458 q33 q459) rfl rfl rfl (by decide +kernel) ⟨Nat.le_of_ble_eq_true rfl, Nat.le_of_ble_eq_true rfl⟩) rfl hl.1 rfl (Nat.le_of_ble_eq_true rfl) dX1_say_25 ⟨Nat.le_of_ble_eq_true rfl, Nat.le_of_ble_eq_true rfl⟩ (fun ce q9 H locs hB hz hk hS hc9 hv9 hcl => ?_)
          have hR := hR.kept (fun a _ h => hk a h (Nat.not_le.mpr h))
          exact vx_out (fun x h => (hnt x h).elim) hlocks hc9 hv9 hcl (fun t ht _ => ⟨⟨hf.symm, by rw [ht]; exact hR⟩, hS.F ht⟩) hS.2.2 (Nat.le_of_ble_eq_true rfl) (Nat.le_of_ble_eq_true rfl)
      refine lv_if_ne (tgt := 24) hx hb dX1_say_17 (by decide) (fun c_4 => ?_) (fun c_4 => ?_)
      · skip
        refine lv_iconst (v := 0) hx hb dX1_say_24 (by decide) ?_
        exact hJ_25 _ _ _ 0 (gi_0 (gi_cb_f c_4)) hR hS (lv_sub hl [3, 0] rfl)
      · skip
        refine lv_iconst (v := 1) hx hb dX1_say_20 (by decide) ?_
        refine lv_goto (tgt := 25) hx hb dX1_say_21 (by decide) ?_
        exact hJ_25 _ _ _ 1 (gi_1 (gi_cb_t c_4)) hR hS (lv_sub hl [3, 0] rfl)
    · skip
      have hf := (if_neg c_2).symm.trans hf
      refine W.eq (g2 := F0 m 10 ls [.int 0]) (congrArg (fun z => F0 m 10 ls (.int z :: [])) (if_neg c_2)) ?_
      refine cx_S (X := fun _ => True) (P := True) (As := [.int 0]) (rest := []) hK hZ hA hAA hS trivial trivial (xt_requireArgument l hfl E C A H.size) (fun _ h => hA _ (Nat.le_trans hS.1 h)) ⟨hx, hb, hml, hown, hts⟩ (va_cwS 1 hts (lw_S q322 q323 q33 q324) rfl rfl rfl (by decide +kernel) ⟨Nat.le_of_ble_eq_true rfl, Nat.le_of_ble_eq_true rfl⟩) rfl hl.1 rfl (Nat.le_of_ble_eq_true rfl) dX1_say_10 ⟨Nat.le_of_ble_eq_true rfl, Nat.le_of_ble_eq_true rfl⟩ (fun ce q9 H locs hB hz hk hS hc9 hv9 hcl => ?_)
      have hR := hR.kept (fun a _ h => hk a h (Nat.not_le.mpr h))
      exact vx_out (fun x h => (hnt x h).elim) hlocks hc9 hv9 hcl (fun t ht _ => ⟨⟨hf.symm, by rw [ht]; exact hR⟩, hS.F ht⟩) hS.2.2 (Nat.le_of_ble_eq_true rfl) (Nat.le_of_ble_eq_true rfl)
  · skip
    have hf := (if_neg c_1).symm.trans hf
    refine cx_V (As := [.int p1]) (rest := []) hK hZ hA hAA hS hR ⟨hI, hh, c_1⟩ (xx_claimAt l hfl E C A s.heap.size g h S p1) (fun _ h => hA _ (Nat.le_trans hS.1 h)) ⟨hx, hb, hml, hown, hts⟩ (cwV 1 hts (lw_V q759 q761 qs6 q33 q762) rfl rfl rfl (by decide +kernel) ⟨Nat.le_of_ble_eq_true rfl, Nat.le_of_ble_eq_true rfl⟩) (kw_recv (t := 0) (i := 0) hK.1 hR rfl rfl rfl) rfl hl.1 rfl (Nat.le_of_ble_eq_true rfl) dX1_say_2 ⟨Nat.le_of_ble_eq_true rfl, Nat.le_of_ble_eq_true rfl⟩ (fun ce q9 H locs hB hz hk hS hc9 hv9 hcl => ?_)
    have hR := hR.kept (fun a _ h => hk a h (Nat.not_le.mpr h))
    exact vx_out (fun x h => (hnt x h).elim) hlocks hc9 hv9 hcl (fun t ht _ => ⟨⟨hf.symm, by rw [ht]; exact hR⟩, hS.F ht⟩) hS.2.2 (Nat.le_of_ble_eq_true rfl) (Nat.le_of_ble_eq_true rfl)
set_option maxHeartbeats 2000000 in
set_option maxRecDepth 100000 in
theorem xs_tell (l : Launch) (hfl : l.stackTraces = false) (E : en_T) (C : ex_C) (A : Nat → Prop) (sz : Nat) (g : kw_A) (h : xh_T) (S : gs_T) (p1 : Int32) (p2 : Int32) : vx_Met l yX1_tell (ws_ yX1_tell cX1_tell 4 (some .int)) { frames := 8, cells := 1, slots := 6, locals := 141 } (cpc E C A sz [.ref (g 0 0), .int p1, .int p2] (xw E C g h S A) (xi_ok S ∧ xh C g h S)) (xq_Q (fun z => z) E C (g 0 0) A (xp_tell S p1 p2)) (xq_X E C g h S A (xp_tell S p1 p2)) 1 6 A := by
  refine cx_start (by decide) (Nat.le_of_ble_eq_true rfl) ?_
  intro p e s m below meth c ls hx hb hr hlocks hml hown hnm hnt hts hsz hK hZ hA hR hP hl
  subst hsz
  have hAA : ∀ a, A a → A a := fun _ h => h
  have hl : lv_has ls 4 [(0, .ref (g 0 0)), (1, .int p1), (2, .int p2)] := hl
  have hS : va_S A s.heap s.heap [] := va_S.rf
  have hZr := hZ
  obtain ⟨hI, hh⟩ := hP
  have hf : (xp_tell S p1 p2) = (xp_tell S p1 p2) := rfl
  refine lv_aload_n hx hb dX1_tell_0 rfl (lv_at hl 0 rfl) ?_
  refine lv_iload_n hx hb dX1_tell_1 rfl (lv_at hl 1 rfl) ?_
  by_cases c_1 : (xf_isIn p1 0 ((S 21 2) - 1)) = true
  · skip
    have hf := (if_pos c_1).symm.trans hf
    have oc_2 := (xq_c hI c_1).1
    refine cq_V (v := (some (.ref (g 4 p1.toNatClampNeg)))) (As := [.int p1]) (rest := []) hK hZ hA hAA hS hR ⟨hI, hh, c_1⟩ (xt_claimAt l E C A s.heap.size g h S p1) (fun _ h => hA _ (Nat.le_trans hS.1 h)) ⟨hx, hb, hml, hown, hts⟩ (cwV 1 hts (lw_V q759 q761 qs6 q33 q762) rfl rfl rfl (by decide +kernel) ⟨Nat.le_of_ble_eq_true rfl, Nat.le_of_ble_eq_true rfl⟩) (kw_recv (t := 0) (i := 0) hK.1 hR rfl rfl rfl) rfl hl.1 rfl (Nat.le_of_ble_eq_true rfl) dX1_tell_2 ⟨Nat.le_of_ble_eq_true rfl, Nat.le_of_ble_eq_true rfl⟩ (fun H locs hB hz hk hS => ?_)
    have hR := hR.kept (fun a _ h => hk a h (Nat.not_le.mpr h))
    refine W.eq (g2 := F0 m 5 ls [.ref (g 4 p1.toNatClampNeg)]) rfl ?_
    refine lv_astore_n (lv' := [(3, .ref (g 4 p1.toNatClampNeg)), (0, .ref (g 0 0)), (1, .int p1), (2, .int p2)]) hx hb dX1_tell_5 rfl hl (by decide) rfl (fun ls hl => ?_)
    refine lv_iload_n hx hb dX1_tell_6 rfl (lv_at hl 3 rfl) ?_
    refine ps_calli (As := [.int p2]) (rest := []) ⟨hx, hb, hml, hown, hts⟩ (xt_isWords l p2) (va_cwS 1 hts (lw_S q492 q493 q33 q494) rfl rfl rfl (by decide +kernel) ⟨Nat.le_of_ble_eq_true rfl, Nat.le_of_ble_eq_true rfl⟩) trivial hS rfl hl.1 rfl (Nat.le_of_ble_eq_true rfl) dX1_tell_7 ⟨Nat.zero_le _, Nat.zero_le _⟩ (fun H locs hz hk hS => ?_)
    have hR := hR.kept (fun a _ h => hk a h)
    by_cases c_2 : (xf_isWords p2) = true
    · skip
      have hf := (if_pos c_2).symm.trans hf
      refine ps_callv (As := [.int (if (xf_isWords p2) = true then 1 else 0)]) (rest := []) ⟨hx, hb, hml, hown, hts⟩ (xo_requireArgument l _) (va_cwS 1 hts (lw_S q322 q323 q33 q324) rfl rfl rfl (by decide +kernel) ⟨Nat.le_of_ble_eq_true rfl, Nat.le_of_ble_eq_true rfl⟩) (if_pos c_2) hS rfl hl.1 rfl (Nat.le_of_ble_eq_true rfl) dX1_tell_10 ⟨Nat.le_of_ble_eq_true rfl, Nat.le_of_ble_eq_true rfl⟩ (fun H locs hz hk hS => ?_)
      have hR := hR.kept (fun a _ h => hk a h)
      refine lv_aload_n hx hb dX1_tell_13 rfl (lv_at hl 0 rfl) ?_
      refine kw_getN (C := RX5) (T := TX5) (N := 10) (v := .int (S 56 p1.toNatClampNeg)) hx hb hts in_X5 hown hK.1 hR 4 p1.toNatClampNeg oc_2 rfl rfl 6 (by decide) (va_Nw.use rfl (hK.2.1 _ q725 rfl)) (fun _ h9 => h9) rfl dX1_tell_14 ?_
      have hJ_25 : ∀ (H : Heap) (locs : List Loc) (ls : Array Slot) (v_25 : Int32), v_25 = (if (S 56 p1.toNatClampNeg) = 0 then 1 else 0) → (xw E C g h S A) H → va_S A s.heap H locs → lv_has ls 4 [(2, .int p2), (3, .ref (g 4 p1.toNatClampNeg))] → cx_G p l e { frames := 8, cells := 1, slots := 6, locals := 141 } s m [.ref (g 0 0), .int p1, .int p2] below meth c A (xq_Q (fun z => z) E C (g 0 0) A (xp_tell S p1 p2)) (xq_X E C g h S A (xp_tell S p1 p2)) 1 6 H locs 0 0 (F0 m 25 ls [.int v_25]) := by
        intro H locs ls v_25 e_v_25 hR hS hl
        subst e_v_25
        by_cases c_3 : (S 56 p1.toNatClampNeg) = 0
        · skip
          have hf := (if_pos c_3).symm.trans hf
          refine ps_callv (As := [.int (if (S 56 p1.toNatClampNeg) = 0 then 1 else 0)]) (rest := []) ⟨hx, hb, hml, hown, hts⟩ (xo_requireState l _) (va_cwS 1 hts (lw_S q457 q458 q33 q459) rfl rfl rfl (by decide +kernel) ⟨Nat.le_of_ble_eq_true rfl, Nat.le_of_ble_eq_true rfl⟩) (if_pos c_3) hS rfl hl.1 rfl (Nat.le_of_ble_eq_true rfl) dX1_tell_25 ⟨Nat.le_of_ble_eq_true rfl, Nat.le_of_ble_eq_true rfl⟩ (fun H locs hz hk hS => ?_)
          have hR := hR.kept (fun a _ h => hk a h)
          refine lv_aload_n hx hb dX1_tell_28 rfl (lv_at hl 1 rfl) ?_
          refine lv_dup hx hb dX1_tell_29 rfl ?_
          refine kw_getN (C := RX5) (T := TX5) (N := 10) (v := .int (S 55 p1.toNatClampNeg)) hx hb hts in_X5 hown hK.1 hR 4 p1.toNatClampNeg oc_2 rfl rfl 5 (by decide) (va_Nw.use rfl (hK.2.1 _ q723 rfl)) (fun _ h9 => h9) rfl dX1_tell_30 ?_
          refine lv_iload_n hx hb dX1_tell_33 rfl (lv_at hl 0 rfl) ?_
          refine lv_ior hx hb dX1_tell_34 ?_
          refine kw_putN (C := RX5) (T := TX5) (N := 10) hx hb hts in_X5 tyX5 tyX5_ok nmX5 hown hK.1 hR hS 4 p1.toNatClampNeg oc_2 rfl rfl 5 (by decide) (va_Nw.use rfl (hK.2.1 _ q723 rfl)) (fun _ h9 => h9) rfl rfl rfl rfl (Nat.le_of_ble_eq_true rfl) dX1_tell_35 (xen E C g h (gs_up S 55 p1.toNatClampNeg ((S 55 p1.toNatClampNeg) ||| p2))) (xe_c (k := 5) rfl) (xn_c (k := 5) rfl) (fun H locs hR hS => ?_)
          have hR := xw_up rfl hR
          have hh := xh_up (k := 55) (i := p1.toNatClampNeg) (v := ((S 55 p1.toNatClampNeg) ||| p2)) rfl hh
          refine lv_aload_n hx hb dX1_tell_38 rfl (lv_at hl 1 rfl) ?_
          refine lv_dup hx hb dX1_tell_39 rfl ?_
          refine kw_getN (C := RX5) (T := TX5) (N := 10) (v := .int (S 54 p1.toNatClampNeg)) hx hb hts in_X5 hown hK.1 hR 4 p1.toNatClampNeg oc_2 rfl rfl 4 (by decide) (va_Nw.use rfl (hK.2.1 _ q721 rfl)) (fun _ h9 => h9) (congrArg (fun z => some (Value.int z)) (congrFun (gs_sk rfl) p1.toNatClampNeg)) dX1_tell_40 ?_
          refine lv_iload_n hx hb dX1_tell_43 rfl (lv_at hl 0 rfl) ?_
          refine lv_ior hx hb dX1_tell_44 ?_
          refine kw_putN (C := RX5) (T := TX5) (N := 10) hx hb hts in_X5 tyX5 tyX5_ok nmX5 hown hK.1 hR hS 4 p1.toNatClampNeg oc_2 rfl rfl 4 (by decide) (va_Nw.use rfl (hK.2.1 _ q721 rfl)) (fun _ h9 => h9) rfl rfl rfl rfl (Nat.le_of_ble_eq_true rfl) dX1_tell_45 (xen E C g h (gs_up (gs_up S 55 p1.toNatClampNeg ((S 55 p1.toNatClampNeg) ||| p2)) 54 p1.toNatClampNeg ((S 54 p1.toNatClampNeg) ||| p2))) (xe_c (k := 4) rfl) (xn_c (k := 4) rfl) (fun H locs hR hS => ?_)
          have hR := xw_up rfl hR
          have hh := xh_up (k := 54) (i := p1.toNatClampNeg) (v := ((S 54 p1.toNatClampNeg) ||| p2)) rfl hh
          refine lv_aload_n hx hb dX1_tell_48 rfl (lv_at hl 1 rfl) ?_
          refine kw_getN (C := RX5) (T := TX5) (N := 10) (v := .int ((S 55 p1.toNatClampNeg) ||| p2)) hx hb hts in_X5 hown hK.1 hR 4 p1.toNatClampNeg oc_2 rfl rfl 5 (by decide) (va_Nw.use rfl (hK.2.1 _ q723 rfl)) (fun _ h9 => h9) (congrArg (fun z => some (Value.int z)) ((congrFun ((gs_sk rfl).trans gs_up_at) p1.toNatClampNeg).trans pk_us)) dX1_tell_49 ?_
          refine ps_calli (As := [.int ((S 55 p1.toNatClampNeg) ||| p2)]) (rest := []) ⟨hx, hb, hml, hown, hts⟩ (jt_bits l ((S 55 p1.toNatClampNeg) ||| p2)) (va_cwS 1 hts (lw_S q590 q591 q52 q592) rfl rfl rfl (by decide +kernel) ⟨Nat.le_of_ble_eq_true rfl, Nat.le_of_ble_eq_true rfl⟩) trivial hS rfl hl.1 rfl (Nat.le_of_ble_eq_true rfl) dX1_tell_52 ⟨Nat.zero_le _, Nat.zero_le _⟩ (fun H locs hz hk hS => ?_)
          have hR := hR.kept (fun a _ h => hk a h)
          refine W.widen (k := 1) (n := 6) (Nat.le_of_ble_eq_true rfl) (Nat.le_of_ble_eq_true rfl) ?_
          exact vx_ret (W.iret (v := (jf_bits ((S 55 p1.toNatClampNeg) ||| p2))) hx hb hr (fun t ht hW => ⟨⟨_, _, hf.symm, rfl, g, h, rfl, hh, by rw [ht]; exact hR⟩, hS.F ht⟩) hS.2.2 dX1_tell_55)
        · skip
          have hf := (if_neg c_3).symm.trans hf
          refine W.eq (g2 := F0 m 25 ls [.int 0]) (congrArg (fun z => F0 m 25 ls (.int z :: [])) (if_neg c_3)) ?_
          refine cx_S (X := fun _ => True) (P := True) (As := [.int 0]) (rest := []) hK hZ hA hAA hS trivial trivial (xt_requireState l hfl E C A H.size) (fun _ h => hA _ (Nat.le_trans hS.1 h)) ⟨hx, hb, hml, hown, hts⟩ (va_cwS 1 hts (lw_S q457 q458 q33 q459) rfl rfl rfl (by decide +kernel) ⟨Nat.le_of_ble_eq_true rfl, Nat.le_of_ble_eq_true rfl⟩) rfl hl.1 rfl (Nat.le_of_ble_eq_true rfl) dX1_tell_25 ⟨Nat.le_of_ble_eq_true rfl, Nat.le_of_ble_eq_true rfl⟩ (fun ce q9 H locs hB hz hk hS hc9 hv9 hcl => ?_)
          have hR := hR.kept (fun a _ h => hk a h (Nat.not_le.mpr h))
          exact vx_out (fun x h => (hnt x h).elim) hlocks hc9 hv9 hcl (fun t ht _ => ⟨⟨hf.symm, by rw [ht]; exact hR⟩, hS.F ht⟩) hS.2.2 (Nat.le_of_ble_eq_true rfl) (Nat.le_of_ble_eq_true rfl)
      refine lv_if_ne (tgt := 24) hx hb dX1_tell_17 (by decide) (fun c_4 => ?_) (fun c_4 => ?_)
      · skip
        refine lv_iconst (v := 0) hx hb dX1_tell_24 (by decide) ?_
        exact hJ_25 _ _ _ 0 (gi_0 (gi_cb_f c_4)) hR hS (lv_sub hl [3, 0] rfl)
      · skip
        refine lv_iconst (v := 1) hx hb dX1_tell_20 (by decide) ?_
        refine lv_goto (tgt := 25) hx hb dX1_tell_21 (by decide) ?_
        exact hJ_25 _ _ _ 1 (gi_1 (gi_cb_t c_4)) hR hS (lv_sub hl [3, 0] rfl)
    · skip
      have hf := (if_neg c_2).symm.trans hf
      refine W.eq (g2 := F0 m 10 ls [.int 0]) (congrArg (fun z => F0 m 10 ls (.int z :: [])) (if_neg c_2)) ?_
      refine cx_S (X := fun _ => True) (P := True) (As := [.int 0]) (rest := []) hK hZ hA hAA hS trivial trivial (xt_requireArgument l hfl E C A H.size) (fun _ h => hA _ (Nat.le_trans hS.1 h)) ⟨hx, hb, hml, hown, hts⟩ (va_cwS 1 hts (lw_S q322 q323 q33 q324) rfl rfl rfl (by decide +kernel) ⟨Nat.le_of_ble_eq_true rfl, Nat.le_of_ble_eq_true rfl⟩) rfl hl.1 rfl (Nat.le_of_ble_eq_true rfl) dX1_tell_10 ⟨Nat.le_of_ble_eq_true rfl, Nat.le_of_ble_eq_true rfl⟩ (fun ce q9 H locs hB hz hk hS hc9 hv9 hcl => ?_)
      have hR := hR.kept (fun a _ h => hk a h (Nat.not_le.mpr h))
      exact vx_out (fun x h => (hnt x h).elim) hlocks hc9 hv9 hcl (fun t ht _ => ⟨⟨hf.symm, by rw [ht]; exact hR⟩, hS.F ht⟩) hS.2.2 (Nat.le_of_ble_eq_true rfl) (Nat.le_of_ble_eq_true rfl)
  · skip
    have hf := (if_neg c_1).symm.trans hf
    refine cx_V (As := [.int p1]) (rest := []) hK hZ hA hAA hS hR ⟨hI, hh, c_1⟩ (xx_claimAt l hfl E C A s.heap.size g h S p1) (fun _ h => hA _ (Nat.le_trans hS.1 h)) ⟨hx, hb, hml, hown, hts⟩ (cwV 1 hts (lw_V q759 q761 qs6 q33 q762) rfl rfl rfl (by decide +kernel) ⟨Nat.le_of_ble_eq_true rfl, Nat.le_of_ble_eq_true rfl⟩) (kw_recv (t := 0) (i := 0) hK.1 hR rfl rfl rfl) rfl hl.1 rfl (Nat.le_of_ble_eq_true rfl) dX1_tell_2 ⟨Nat.le_of_ble_eq_true rfl, Nat.le_of_ble_eq_true rfl⟩ (fun ce q9 H locs hB hz hk hS hc9 hv9 hcl => ?_)
    have hR := hR.kept (fun a _ h => hk a h (Nat.not_le.mpr h))
    exact vx_out (fun x h => (hnt x h).elim) hlocks hc9 hv9 hcl (fun t ht _ => ⟨⟨hf.symm, by rw [ht]; exact hR⟩, hS.F ht⟩) hS.2.2 (Nat.le_of_ble_eq_true rfl) (Nat.le_of_ble_eq_true rfl)
set_option maxHeartbeats 2000000 in
set_option maxRecDepth 100000 in
theorem xs_withdraw (l : Launch) (hfl : l.stackTraces = false) (E : en_T) (C : ex_C) (A : Nat → Prop) (sz : Nat) (g : kw_A) (h : xh_T) (S : gs_T) (p1 : Int32) : vx_Met l yX1_withdraw (ws_ yX1_withdraw cX1_withdraw 3 (some .int)) { frames := 8, cells := 1, slots := 6, locals := 141 } (cpc E C A sz [.ref (g 0 0), .int p1] (xw E C g h S A) (xi_ok S ∧ xh C g h S)) (xq_Q (fun z => z) E C (g 0 0) A (xp_withdraw S p1)) (xq_X E C g h S A (xp_withdraw S p1)) 1 6 A := by
  refine cx_start (by decide) (Nat.le_of_ble_eq_true rfl) ?_
  intro p e s m below meth c ls hx hb hr hlocks hml hown hnm hnt hts hsz hK hZ hA hR hP hl
  subst hsz
  have hAA : ∀ a, A a → A a := fun _ h => h
  have hl : lv_has ls 3 [(0, .ref (g 0 0)), (1, .int p1)] := hl
  have hS : va_S A s.heap s.heap [] := va_S.rf
  have hZr := hZ
  obtain ⟨hI, hh⟩ := hP
  have hf : (xp_withdraw S p1) = (xp_withdraw S p1) := rfl
  refine lv_aload_n hx hb dX1_withdraw_0 rfl (lv_at hl 0 rfl) ?_
  refine lv_iload_n hx hb dX1_withdraw_1 rfl (lv_at hl 1 rfl) ?_
  by_cases c_1 : (xf_isIn p1 0 ((S 21 2) - 1)) = true
  · skip
    have hf := (if_pos c_1).symm.trans hf
    have oc_2 := (xq_c hI c_1).1
    refine cq_V (v := (some (.ref (g 4 p1.toNatClampNeg)))) (As := [.int p1]) (rest := []) hK hZ hA hAA hS hR ⟨hI, hh, c_1⟩ (xt_claimAt l E C A s.heap.size g h S p1) (fun _ h => hA _ (Nat.le_trans hS.1 h)) ⟨hx, hb, hml, hown, hts⟩ (cwV 1 hts (lw_V q759 q761 qs6 q33 q762) rfl rfl rfl (by decide +kernel) ⟨Nat.le_of_ble_eq_true rfl, Nat.le_of_ble_eq_true rfl⟩) (kw_recv (t := 0) (i := 0) hK.1 hR rfl rfl rfl) rfl hl.1 rfl (Nat.le_of_ble_eq_true rfl) dX1_withdraw_2 ⟨Nat.le_of_ble_eq_true rfl, Nat.le_of_ble_eq_true rfl⟩ (fun H locs hB hz hk hS => ?_)
    have hR := hR.kept (fun a _ h => hk a h (Nat.not_le.mpr h))
    refine W.eq (g2 := F0 m 5 ls [.ref (g 4 p1.toNatClampNeg)]) rfl ?_
    refine lv_astore_n (lv' := [(2, .ref (g 4 p1.toNatClampNeg)), (0, .ref (g 0 0)), (1, .int p1)]) hx hb dX1_withdraw_5 rfl hl (by decide) rfl (fun ls hl => ?_)
    refine lv_aload_n hx hb dX1_withdraw_6 rfl (lv_at hl 0 rfl) ?_
    refine kw_getN (C := RX5) (T := TX5) (N := 10) (v := .int (S 56 p1.toNatClampNeg)) hx hb hts in_X5 hown hK.1 hR 4 p1.toNatClampNeg oc_2 rfl rfl 6 (by decide) (va_Nw.use rfl (hK.2.1 _ q725 rfl)) (fun _ h9 => h9) rfl dX1_withdraw_7 ?_
    have hJ_18 : ∀ (H : Heap) (locs : List Loc) (ls : Array Slot) (v_18 : Int32), v_18 = (if (S 56 p1.toNatClampNeg) = 0 then 1 else 0) → (xw E C g h S A) H → va_S A s.heap H locs → lv_has ls 3 [(0, .ref (g 0 0)), (2, .ref (g 4 p1.toNatClampNeg))] → cx_G p l e { frames := 8, cells := 1, slots := 6, locals := 141 } s m [.ref (g 0 0), .int p1] below meth c A (xq_Q (fun z => z) E C (g 0 0) A (xp_withdraw S p1)) (xq_X E C g h S A (xp_withdraw S p1)) 1 6 H locs 0 0 (F0 m 18 ls [.int v_18]) := by
      intro H locs ls v_18 e_v_18 hR hS hl
      subst e_v_18
      by_cases c_2 : (S 56 p1.toNatClampNeg) = 0
      · skip
        have hf := (if_pos c_2).symm.trans hf
        refine ps_callv (As := [.int (if (S 56 p1.toNatClampNeg) = 0 then 1 else 0)]) (rest := []) ⟨hx, hb, hml, hown, hts⟩ (xo_requireState l _) (va_cwS 1 hts (lw_S q457 q458 q33 q459) rfl rfl rfl (by decide +kernel) ⟨Nat.le_of_ble_eq_true rfl, Nat.le_of_ble_eq_true rfl⟩) (if_pos c_2) hS rfl hl.1 rfl (Nat.le_of_ble_eq_true rfl) dX1_withdraw_18 ⟨Nat.le_of_ble_eq_true rfl, Nat.le_of_ble_eq_true rfl⟩ (fun H locs hz hk hS => ?_)
        have hR := hR.kept (fun a _ h => hk a h)
        refine lv_aload_n hx hb dX1_withdraw_21 rfl (lv_at hl 1 rfl) ?_
        refine lv_iconst (v := 2) hx hb dX1_withdraw_22 (by decide) ?_
        refine cq_V (v := none) (As := [.int 2]) (rest := []) hK hZ hA hAA hS hR oc_2 (xt_end l E C A H.size g h S p1.toNatClampNeg 2) (fun _ h => h) ⟨hx, hb, hml, hown, hts⟩ (cwV 1 hts (lw_V q777 q778 q779 q59 q780) rfl rfl rfl (by decide +kernel) ⟨Nat.le_of_ble_eq_true rfl, Nat.le_of_ble_eq_true rfl⟩) (kw_recv (t := 4) (i := p1.toNatClampNeg) hK.1 hR oc_2 rfl rfl) rfl hl.1 rfl (Nat.le_of_ble_eq_true rfl) dX1_withdraw_23 ⟨Nat.le_of_ble_eq_true rfl, Nat.le_of_ble_eq_true rfl⟩ (fun H locs hB hz hk hS => ?_)
        have hR : xw E C g h (gs_up (gs_up S 56 p1.toNatClampNeg 2) 57 p1.toNatClampNeg (S 0 0)) A H := hB
        have hh := xh_up (k := 56) (i := p1.toNatClampNeg) (v := 2) rfl hh
        have hh := xh_up (k := 57) (i := p1.toNatClampNeg) (v := (S 0 0)) rfl hh
        refine W.eq (g2 := F0 m 26 ls []) rfl ?_
        refine lv_aload_n hx hb dX1_withdraw_26 rfl (lv_at hl 0 rfl) ?_
        refine kw_get (C := RX1) (T := TX1) (N := 12) (v := .int (S 0 0)) hx hb hts in_X1 hown hK.1 hR 0 0 rfl rfl rfl 0 (by decide) (hts _ q168) (fun _ h9 => h9) (congrArg (fun z => some (Value.int z)) (congrFun ((gs_sk rfl).trans (gs_sk rfl)) 0)) dX1_withdraw_27 ?_
        refine W.widen (k := 1) (n := 6) (Nat.le_of_ble_eq_true rfl) (Nat.le_of_ble_eq_true rfl) ?_
        exact vx_ret (W.iret (v := (S 0 0)) hx hb hr (fun t ht hW => ⟨⟨_, _, hf.symm, rfl, g, h, rfl, hh, by rw [ht]; exact hR⟩, hS.F ht⟩) hS.2.2 dX1_withdraw_30)
      · skip
        have hf := (if_neg c_2).symm.trans hf
        refine W.eq (g2 := F0 m 18 ls [.int 0]) (congrArg (fun z => F0 m 18 ls (.int z :: [])) (if_neg c_2)) ?_
        refine cx_S (X := fun _ => True) (P := True) (As := [.int 0]) (rest := []) hK hZ hA hAA hS trivial trivial (xt_requireState l hfl E C A H.size) (fun _ h => hA _ (Nat.le_trans hS.1 h)) ⟨hx, hb, hml, hown, hts⟩ (va_cwS 1 hts (lw_S q457 q458 q33 q459) rfl rfl rfl (by decide +kernel) ⟨Nat.le_of_ble_eq_true rfl, Nat.le_of_ble_eq_true rfl⟩) rfl hl.1 rfl (Nat.le_of_ble_eq_true rfl) dX1_withdraw_18 ⟨Nat.le_of_ble_eq_true rfl, Nat.le_of_ble_eq_true rfl⟩ (fun ce q9 H locs hB hz hk hS hc9 hv9 hcl => ?_)
        have hR := hR.kept (fun a _ h => hk a h (Nat.not_le.mpr h))
        exact vx_out (fun x h => (hnt x h).elim) hlocks hc9 hv9 hcl (fun t ht _ => ⟨⟨hf.symm, by rw [ht]; exact hR⟩, hS.F ht⟩) hS.2.2 (Nat.le_of_ble_eq_true rfl) (Nat.le_of_ble_eq_true rfl)
    refine lv_if_ne (tgt := 17) hx hb dX1_withdraw_10 (by decide) (fun c_3 => ?_) (fun c_3 => ?_)
    · skip
      refine lv_iconst (v := 0) hx hb dX1_withdraw_17 (by decide) ?_
      exact hJ_18 _ _ _ 0 (gi_0 (gi_cb_f c_3)) hR hS (lv_sub hl [1, 0] rfl)
    · skip
      refine lv_iconst (v := 1) hx hb dX1_withdraw_13 (by decide) ?_
      refine lv_goto (tgt := 18) hx hb dX1_withdraw_14 (by decide) ?_
      exact hJ_18 _ _ _ 1 (gi_1 (gi_cb_t c_3)) hR hS (lv_sub hl [1, 0] rfl)
  · skip
    have hf := (if_neg c_1).symm.trans hf
    refine cx_V (As := [.int p1]) (rest := []) hK hZ hA hAA hS hR ⟨hI, hh, c_1⟩ (xx_claimAt l hfl E C A s.heap.size g h S p1) (fun _ h => hA _ (Nat.le_trans hS.1 h)) ⟨hx, hb, hml, hown, hts⟩ (cwV 1 hts (lw_V q759 q761 qs6 q33 q762) rfl rfl rfl (by decide +kernel) ⟨Nat.le_of_ble_eq_true rfl, Nat.le_of_ble_eq_true rfl⟩) (kw_recv (t := 0) (i := 0) hK.1 hR rfl rfl rfl) rfl hl.1 rfl (Nat.le_of_ble_eq_true rfl) dX1_withdraw_2 ⟨Nat.le_of_ble_eq_true rfl, Nat.le_of_ble_eq_true rfl⟩ (fun ce q9 H locs hB hz hk hS hc9 hv9 hcl => ?_)
    have hR := hR.kept (fun a _ h => hk a h (Nat.not_le.mpr h))
    exact vx_out (fun x h => (hnt x h).elim) hlocks hc9 hv9 hcl (fun t ht _ => ⟨⟨hf.symm, by rw [ht]; exact hR⟩, hS.F ht⟩) hS.2.2 (Nat.le_of_ble_eq_true rfl) (Nat.le_of_ble_eq_true rfl)
set_option maxHeartbeats 2000000 in
set_option maxRecDepth 100000 in
theorem xs_extend (l : Launch) (hfl : l.stackTraces = false) (E : en_T) (C : ex_C) (A : Nat → Prop) (sz : Nat) (g : kw_A) (h : xh_T) (S : gs_T) (p1 : Int32) (p2 : Int32) : vx_Met l yX1_extend (ws_ yX1_extend cX1_extend 4 (some .int)) { frames := 8, cells := 1, slots := 6, locals := 141 } (cpc E C A sz [.ref (g 0 0), .int p1, .int p2] (xw E C g h S A) (xi_ok S ∧ xh C g h S)) (xq_Q (fun z => z) E C (g 0 0) A (xp_extend S p1 p2)) (xq_X E C g h S A (xp_extend S p1 p2)) 1 6 A := by
  refine cx_start (by decide) (Nat.le_of_ble_eq_true rfl) ?_
  intro p e s m below meth c ls hx hb hr hlocks hml hown hnm hnt hts hsz hK hZ hA hR hP hl
  subst hsz
  have hAA : ∀ a, A a → A a := fun _ h => h
  have hl : lv_has ls 4 [(0, .ref (g 0 0)), (1, .int p1), (2, .int p2)] := hl
  have hS : va_S A s.heap s.heap [] := va_S.rf
  have hZr := hZ
  obtain ⟨hI, hh⟩ := hP
  have hf : (xp_extend S p1 p2) = (xp_extend S p1 p2) := rfl
  refine lv_aload_n hx hb dX1_extend_0 rfl (lv_at hl 0 rfl) ?_
  refine lv_iload_n hx hb dX1_extend_1 rfl (lv_at hl 1 rfl) ?_
  by_cases c_1 : (xf_isIn p1 0 ((S 21 1) - 1)) = true
  · skip
    have hf := (if_pos c_1).symm.trans hf
    have of_2 := (xq_f hI c_1).1
    refine cq_V (v := (some (.ref (g 3 p1.toNatClampNeg)))) (As := [.int p1]) (rest := []) hK hZ hA hAA hS hR ⟨hI, hh, c_1⟩ (xt_findAt l E C A s.heap.size g h S p1) (fun _ h => hA _ (Nat.le_trans hS.1 h)) ⟨hx, hb, hml, hown, hts⟩ (cwV 1 hts (lw_V q586 q588 qs4 q33 q589) rfl rfl rfl (by decide +kernel) ⟨Nat.le_of_ble_eq_true rfl, Nat.le_of_ble_eq_true rfl⟩) (kw_recv (t := 0) (i := 0) hK.1 hR rfl rfl rfl) rfl hl.1 rfl (Nat.le_of_ble_eq_true rfl) dX1_extend_2 ⟨Nat.le_of_ble_eq_true rfl, Nat.le_of_ble_eq_true rfl⟩ (fun H locs hB hz hk hS => ?_)
    have hR := hR.kept (fun a _ h => hk a h (Nat.not_le.mpr h))
    refine W.eq (g2 := F0 m 5 ls [.ref (g 3 p1.toNatClampNeg)]) rfl ?_
    refine lv_astore_n (lv' := [(3, .ref (g 3 p1.toNatClampNeg)), (0, .ref (g 0 0)), (1, .int p1), (2, .int p2)]) hx hb dX1_extend_5 rfl hl (by decide) rfl (fun ls hl => ?_)
    refine lv_iload_n hx hb dX1_extend_6 rfl (lv_at hl 3 rfl) ?_
    refine lv_iconst (v := 1) hx hb dX1_extend_7 (by decide) ?_
    refine lv_sipush (v := 365) hx hb dX1_extend_8 (by decide) ?_
    refine ps_calli (As := [.int p2, .int 1, .int 365]) (rest := []) ⟨hx, hb, hml, hown, hts⟩ (xt_isIn l p2 1 365) (va_cwS 3 hts (lw_S q295 q296 q33 q297) rfl rfl rfl (by decide +kernel) ⟨Nat.le_of_ble_eq_true rfl, Nat.le_of_ble_eq_true rfl⟩) trivial hS rfl hl.1 rfl (Nat.le_of_ble_eq_true rfl) dX1_extend_11 ⟨Nat.zero_le _, Nat.zero_le _⟩ (fun H locs hz hk hS => ?_)
    have hR := hR.kept (fun a _ h => hk a h)
    by_cases c_2 : (xf_isIn p2 1 365) = true
    · skip
      have hf := (if_pos c_2).symm.trans hf
      refine ps_callv (As := [.int (if (xf_isIn p2 1 365) = true then 1 else 0)]) (rest := []) ⟨hx, hb, hml, hown, hts⟩ (xo_requireArgument l _) (va_cwS 1 hts (lw_S q322 q323 q33 q324) rfl rfl rfl (by decide +kernel) ⟨Nat.le_of_ble_eq_true rfl, Nat.le_of_ble_eq_true rfl⟩) (if_pos c_2) hS rfl hl.1 rfl (Nat.le_of_ble_eq_true rfl) dX1_extend_14 ⟨Nat.le_of_ble_eq_true rfl, Nat.le_of_ble_eq_true rfl⟩ (fun H locs hz hk hS => ?_)
      have hR := hR.kept (fun a _ h => hk a h)
      refine lv_aload_n hx hb dX1_extend_17 rfl (lv_at hl 0 rfl) ?_
      refine cq_V (v := (some (.int (gs_bz (xf_isHere S p1.toNatClampNeg))))) (As := []) (rest := []) hK hZ hA hAA hS hR ⟨hI, hh, (by first | assumption | omega)⟩ (xt_isHere l E C A H.size g h S p1.toNatClampNeg) (fun _ h => hA _ (Nat.le_trans hS.1 h)) ⟨hx, hb, hml, hown, hts⟩ (cwV 0 hts (lw_V q695 q696 q697 q55 q698) rfl rfl rfl (by decide +kernel) ⟨Nat.le_of_ble_eq_true rfl, Nat.le_of_ble_eq_true rfl⟩) (kw_recv (t := 3) (i := p1.toNatClampNeg) hK.1 hR of_2 rfl rfl) rfl hl.1 rfl (Nat.le_of_ble_eq_true rfl) dX1_extend_18 ⟨Nat.le_of_ble_eq_true rfl, Nat.le_of_ble_eq_true rfl⟩ (fun H locs hB hz hk hS => ?_)
      have hR := hR.kept (fun a _ h => hk a h (Nat.not_le.mpr h))
      refine W.eq (g2 := F0 m 21 ls [.int (if (xf_isHere S p1.toNatClampNeg) = true then 1 else 0)]) rfl ?_
      have hJ_38 : ∀ (H : Heap) (locs : List Loc) (ls : Array Slot) (v_38 : Int32), v_38 = (if ((xf_isHere S p1.toNatClampNeg) = true) ∧ (¬ ((S 30 p1.toNatClampNeg) = 7)) then 1 else 0) → (xw E C g h S A) H → va_S A s.heap H locs → lv_has ls 4 [(0, .ref (g 0 0)), (2, .int p2), (3, .ref (g 3 p1.toNatClampNeg))] → cx_G p l e { frames := 8, cells := 1, slots := 6, locals := 141 } s m [.ref (g 0 0), .int p1, .int p2] below meth c A (xq_Q (fun z => z) E C (g 0 0) A (xp_extend S p1 p2)) (xq_X E C g h S A (xp_extend S p1 p2)) 1 6 H locs 0 0 (F0 m 38 ls [.int v_38]) := by
        intro H locs ls v_38 e_v_38 hR hS hl
        subst e_v_38
        by_cases c_3 : ((xf_isHere S p1.toNatClampNeg) = true) ∧ (¬ ((S 30 p1.toNatClampNeg) = 7))
        · skip
          have hf := (if_pos c_3).symm.trans hf
          have c_4 := c_3.1
          have c_5 := c_3.2
          refine ps_callv (As := [.int (if ((xf_isHere S p1.toNatClampNeg) = true) ∧ (¬ ((S 30 p1.toNatClampNeg) = 7)) then 1 else 0)]) (rest := []) ⟨hx, hb, hml, hown, hts⟩ (xo_requireState l _) (va_cwS 1 hts (lw_S q457 q458 q33 q459) rfl rfl rfl (by decide +kernel) ⟨Nat.le_of_ble_eq_true rfl, Nat.le_of_ble_eq_true rfl⟩) (if_pos c_3) hS rfl hl.1 rfl (Nat.le_of_ble_eq_true rfl) dX1_extend_38 ⟨Nat.le_of_ble_eq_true rfl, Nat.le_of_ble_eq_true rfl⟩ (fun H locs hz hk hS => ?_)
          have hR := hR.kept (fun a _ h => hk a h)
          refine lv_aload_n hx hb dX1_extend_41 rfl (lv_at hl 2 rfl) ?_
          refine lv_aload_n hx hb dX1_extend_42 rfl (lv_at hl 2 rfl) ?_
          refine kw_getN (C := RX3) (T := TX3) (N := 15) (v := .int (S 37 p1.toNatClampNeg)) hx hb hts in_X3 hown hK.1 hR 3 p1.toNatClampNeg of_2 rfl rfl 7 (by decide) (va_Nw.use rfl (hK.2.1 _ q538 rfl)) (fun _ h9 => h9) rfl dX1_extend_43 ?_
          refine lv_aload_n hx hb dX1_extend_46 rfl (lv_at hl 0 rfl) ?_
          refine kw_get (C := RX1) (T := TX1) (N := 12) (v := .int (S 0 0)) hx hb hts in_X1 hown hK.1 hR 0 0 rfl rfl rfl 0 (by decide) (hts _ q168) (fun _ h9 => h9) rfl dX1_extend_47 ?_
          refine lv_iload_n hx hb dX1_extend_50 rfl (lv_at hl 1 rfl) ?_
          refine lv_iadd hx hb dX1_extend_51 ?_
          refine va_mmax hx hb (hml.trans hl.1.symm) hown (hts _ q796) (hts _ q127) (hts _ q39) (hts _ q128) (Nat.le_of_ble_eq_true rfl) (Nat.le_of_ble_eq_true rfl) (Nat.le_of_ble_eq_true rfl) (Nat.le_of_ble_eq_true rfl) dX1_extend_52 ?_
          refine kw_putN (C := RX3) (T := TX3) (N := 15) hx hb hts in_X3 tyX3 tyX3_ok nmX3 hown hK.1 hR hS 3 p1.toNatClampNeg of_2 rfl rfl 7 (by decide) (va_Nw.use rfl (hK.2.1 _ q538 rfl)) (fun _ h9 => h9) rfl rfl rfl rfl (Nat.le_of_ble_eq_true rfl) dX1_extend_55 (xen E C g h (gs_up S 37 p1.toNatClampNeg (if (S 37 p1.toNatClampNeg) < ((S 0 0) + p2) then ((S 0 0) + p2) else (S 37 p1.toNatClampNeg)))) (xe_f (k := 7) rfl) (xn_f (k := 7) rfl) (fun H locs hR hS => ?_)
          have hR := xw_up rfl hR
          have hh := xh_up (k := 37) (i := p1.toNatClampNeg) (v := (if (S 37 p1.toNatClampNeg) < ((S 0 0) + p2) then ((S 0 0) + p2) else (S 37 p1.toNatClampNeg))) rfl hh
          refine lv_aload_n hx hb dX1_extend_58 rfl (lv_at hl 2 rfl) ?_
          refine kw_getN (C := RX3) (T := TX3) (N := 15) (v := .int (if (S 37 p1.toNatClampNeg) < ((S 0 0) + p2) then ((S 0 0) + p2) else (S 37 p1.toNatClampNeg))) hx hb hts in_X3 hown hK.1 hR 3 p1.toNatClampNeg of_2 rfl rfl 7 (by decide) (va_Nw.use rfl (hK.2.1 _ q538 rfl)) (fun _ h9 => h9) (congrArg (fun z => some (Value.int z)) ((congrFun gs_up_at p1.toNatClampNeg).trans pk_us)) dX1_extend_59 ?_
          refine W.widen (k := 1) (n := 6) (Nat.le_of_ble_eq_true rfl) (Nat.le_of_ble_eq_true rfl) ?_
          exact vx_ret (W.iret (v := (if (S 37 p1.toNatClampNeg) < ((S 0 0) + p2) then ((S 0 0) + p2) else (S 37 p1.toNatClampNeg))) hx hb hr (fun t ht hW => ⟨⟨_, _, hf.symm, rfl, g, h, rfl, hh, by rw [ht]; exact hR⟩, hS.F ht⟩) hS.2.2 dX1_extend_62)
        · skip
          have hf := (if_neg c_3).symm.trans hf
          refine W.eq (g2 := F0 m 38 ls [.int 0]) (congrArg (fun z => F0 m 38 ls (.int z :: [])) (if_neg c_3)) ?_
          refine cx_S (X := fun _ => True) (P := True) (As := [.int 0]) (rest := []) hK hZ hA hAA hS trivial trivial (xt_requireState l hfl E C A H.size) (fun _ h => hA _ (Nat.le_trans hS.1 h)) ⟨hx, hb, hml, hown, hts⟩ (va_cwS 1 hts (lw_S q457 q458 q33 q459) rfl rfl rfl (by decide +kernel) ⟨Nat.le_of_ble_eq_true rfl, Nat.le_of_ble_eq_true rfl⟩) rfl hl.1 rfl (Nat.le_of_ble_eq_true rfl) dX1_extend_38 ⟨Nat.le_of_ble_eq_true rfl, Nat.le_of_ble_eq_true rfl⟩ (fun ce q9 H locs hB hz hk hS hc9 hv9 hcl => ?_)
          have hR := hR.kept (fun a _ h => hk a h (Nat.not_le.mpr h))
          exact vx_out (fun x h => (hnt x h).elim) hlocks hc9 hv9 hcl (fun t ht _ => ⟨⟨hf.symm, by rw [ht]; exact hR⟩, hS.F ht⟩) hS.2.2 (Nat.le_of_ble_eq_true rfl) (Nat.le_of_ble_eq_true rfl)
      refine lv_if_eq (tgt := 37) hx hb dX1_extend_21 (by decide) (fun c_6 => ?_) (fun c_6 => ?_)
      · skip
        have c_6 : ¬ ((xf_isHere S p1.toNatClampNeg) = true) := gs_zf (φ := (xf_isHere S p1.toNatClampNeg) = true) c_6
        refine lv_iconst (v := 0) hx hb dX1_extend_37 (by decide) ?_
        exact hJ_38 _ _ _ 0 (gi_0 (gi_ca_f c_6)) hR hS (lv_sub hl [1, 3, 0] rfl)
      · skip
        have c_6 : (xf_isHere S p1.toNatClampNeg) = true := gs_zt (φ := (xf_isHere S p1.toNatClampNeg) = true) c_6
        refine lv_aload_n hx hb dX1_extend_24 rfl (lv_at hl 0 rfl) ?_
        refine kw_getN (C := RX3) (T := TX3) (N := 15) (v := .int (S 30 p1.toNatClampNeg)) hx hb hts in_X3 hown hK.1 hR 3 p1.toNatClampNeg of_2 rfl rfl 0 (by decide) (va_Nw.use rfl (hK.2.1 _ q523 rfl)) (fun _ h9 => h9) rfl dX1_extend_25 ?_
        refine lv_bipush (v := 7) hx hb dX1_extend_28 (by decide) ?_
        refine lv_icmp_eq (tgt := 37) hx hb dX1_extend_30 (by decide) (fun c_7 => ?_) (fun c_7 => ?_)
        · skip
          refine lv_iconst (v := 0) hx hb dX1_extend_37 (by decide) ?_
          exact hJ_38 _ _ _ 0 (gi_0 ((gi_nb_t c_7).trans (gi_ca_t c_6))) hR hS (lv_sub hl [1, 3, 0] rfl)
        · skip
          refine lv_iconst (v := 1) hx hb dX1_extend_33 (by decide) ?_
          refine lv_goto (tgt := 38) hx hb dX1_extend_34 (by decide) ?_
          exact hJ_38 _ _ _ 1 (gi_1 ((gi_nb_f c_7).trans (gi_ca_t c_6))) hR hS (lv_sub hl [1, 3, 0] rfl)
    · skip
      have hf := (if_neg c_2).symm.trans hf
      refine W.eq (g2 := F0 m 14 ls [.int 0]) (congrArg (fun z => F0 m 14 ls (.int z :: [])) (if_neg c_2)) ?_
      refine cx_S (X := fun _ => True) (P := True) (As := [.int 0]) (rest := []) hK hZ hA hAA hS trivial trivial (xt_requireArgument l hfl E C A H.size) (fun _ h => hA _ (Nat.le_trans hS.1 h)) ⟨hx, hb, hml, hown, hts⟩ (va_cwS 1 hts (lw_S q322 q323 q33 q324) rfl rfl rfl (by decide +kernel) ⟨Nat.le_of_ble_eq_true rfl, Nat.le_of_ble_eq_true rfl⟩) rfl hl.1 rfl (Nat.le_of_ble_eq_true rfl) dX1_extend_14 ⟨Nat.le_of_ble_eq_true rfl, Nat.le_of_ble_eq_true rfl⟩ (fun ce q9 H locs hB hz hk hS hc9 hv9 hcl => ?_)
      have hR := hR.kept (fun a _ h => hk a h (Nat.not_le.mpr h))
      exact vx_out (fun x h => (hnt x h).elim) hlocks hc9 hv9 hcl (fun t ht _ => ⟨⟨hf.symm, by rw [ht]; exact hR⟩, hS.F ht⟩) hS.2.2 (Nat.le_of_ble_eq_true rfl) (Nat.le_of_ble_eq_true rfl)
  · skip
    have hf := (if_neg c_1).symm.trans hf
    refine cx_V (As := [.int p1]) (rest := []) hK hZ hA hAA hS hR ⟨hI, hh, c_1⟩ (xx_findAt l hfl E C A s.heap.size g h S p1) (fun _ h => hA _ (Nat.le_trans hS.1 h)) ⟨hx, hb, hml, hown, hts⟩ (cwV 1 hts (lw_V q586 q588 qs4 q33 q589) rfl rfl rfl (by decide +kernel) ⟨Nat.le_of_ble_eq_true rfl, Nat.le_of_ble_eq_true rfl⟩) (kw_recv (t := 0) (i := 0) hK.1 hR rfl rfl rfl) rfl hl.1 rfl (Nat.le_of_ble_eq_true rfl) dX1_extend_2 ⟨Nat.le_of_ble_eq_true rfl, Nat.le_of_ble_eq_true rfl⟩ (fun ce q9 H locs hB hz hk hS hc9 hv9 hcl => ?_)
    have hR := hR.kept (fun a _ h => hk a h (Nat.not_le.mpr h))
    exact vx_out (fun x h => (hnt x h).elim) hlocks hc9 hv9 hcl (fun t ht _ => ⟨⟨hf.symm, by rw [ht]; exact hR⟩, hS.F ht⟩) hS.2.2 (Nat.le_of_ble_eq_true rfl) (Nat.le_of_ble_eq_true rfl)
set_option maxHeartbeats 2000000 in
set_option maxRecDepth 100000 in
theorem xs_fit (l : Launch) (hfl : l.stackTraces = false) (E : en_T) (C : ex_C) (A : Nat → Prop) (sz : Nat) (g : kw_A) (h : xh_T) (S : gs_T) (p1 : Int32) (p2 : Int32) : vx_Met l yX1_fit (ws_ yX1_fit cX1_fit 4 (some .int)) { frames := 8, cells := 1, slots := 6, locals := 178 } (cpc E C A sz [.ref (g 0 0), .int p1, .int p2] (xw E C g h S A) (xi_ok S ∧ xh C g h S)) (xq_Q (fun z => z) E C (g 0 0) A (xp_fit S p1 p2)) (xq_X E C g h S A (xp_fit S p1 p2)) 1 6 A := by
  refine cx_start (by decide) (Nat.le_of_ble_eq_true rfl) ?_
  intro p e s m below meth c ls hx hb hr hlocks hml hown hnm hnt hts hsz hK hZ hA hR hP hl
  subst hsz
  have hAA : ∀ a, A a → A a := fun _ h => h
  have hl : lv_has ls 4 [(0, .ref (g 0 0)), (1, .int p1), (2, .int p2)] := hl
  have hS : va_S A s.heap s.heap [] := va_S.rf
  have hZr := hZ
  obtain ⟨hI, hh⟩ := hP
  have hf : (xp_fit S p1 p2) = (xp_fit S p1 p2) := rfl
  refine lv_aload_n hx hb dX1_fit_0 rfl (lv_at hl 0 rfl) ?_
  refine lv_iload_n hx hb dX1_fit_1 rfl (lv_at hl 1 rfl) ?_
  by_cases c_1 : (xf_isIn p1 0 ((S 21 1) - 1)) = true
  · skip
    have hf := (if_pos c_1).symm.trans hf
    have of_2 := (xq_f hI c_1).1
    refine cq_V (v := (some (.ref (g 3 p1.toNatClampNeg)))) (As := [.int p1]) (rest := []) hK hZ hA hAA hS hR ⟨hI, hh, c_1⟩ (xt_findAt l E C A s.heap.size g h S p1) (fun _ h => hA _ (Nat.le_trans hS.1 h)) ⟨hx, hb, hml, hown, hts⟩ (cwV 1 hts (lw_V q586 q588 qs4 q33 q589) rfl rfl rfl (by decide +kernel) ⟨Nat.le_of_ble_eq_true rfl, Nat.le_of_ble_eq_true rfl⟩) (kw_recv (t := 0) (i := 0) hK.1 hR rfl rfl rfl) rfl hl.1 rfl (Nat.le_of_ble_eq_true rfl) dX1_fit_2 ⟨Nat.le_of_ble_eq_true rfl, Nat.le_of_ble_eq_true rfl⟩ (fun H locs hB hz hk hS => ?_)
    have hR := hR.kept (fun a _ h => hk a h (Nat.not_le.mpr h))
    refine W.eq (g2 := F0 m 5 ls [.ref (g 3 p1.toNatClampNeg)]) rfl ?_
    refine lv_astore_n (lv' := [(3, .ref (g 3 p1.toNatClampNeg)), (0, .ref (g 0 0)), (1, .int p1), (2, .int p2)]) hx hb dX1_fit_5 rfl hl (by decide) rfl (fun ls hl => ?_)
    refine lv_aload_n hx hb dX1_fit_6 rfl (lv_at hl 1 rfl) ?_
    refine lv_aload_n hx hb dX1_fit_7 rfl (lv_at hl 0 rfl) ?_
    refine lv_aload_n hx hb dX1_fit_8 rfl (lv_at hl 1 rfl) ?_
    refine lv_iload_n hx hb dX1_fit_9 rfl (lv_at hl 3 rfl) ?_
    by_cases c_2 : (xf_isIn p2 0 ((S 21 2) - 1)) = true
    · skip
      have hf := (if_pos c_2).symm.trans hf
      have oc_10 := (xq_c hI c_2).1
      refine cq_V (v := (some (.ref (g 4 p2.toNatClampNeg)))) (As := [.int p2]) (rest := [.ref (g 3 p1.toNatClampNeg), .ref (g 0 0)]) hK hZ hA hAA hS hR ⟨hI, hh, c_2⟩ (xt_claimAt l E C A H.size g h S p2) (fun _ h => hA _ (Nat.le_trans hS.1 h)) ⟨hx, hb, hml, hown, hts⟩ (cwV 1 hts (lw_V q759 q761 qs6 q33 q762) rfl rfl rfl (by decide +kernel) ⟨Nat.le_of_ble_eq_true rfl, Nat.le_of_ble_eq_true rfl⟩) (kw_recv (t := 0) (i := 0) hK.1 hR rfl rfl rfl) rfl hl.1 rfl (Nat.le_of_ble_eq_true rfl) dX1_fit_10 ⟨Nat.le_of_ble_eq_true rfl, Nat.le_of_ble_eq_true rfl⟩ (fun H locs hB hz hk hS => ?_)
      have hR := hR.kept (fun a _ h => hk a h (Nat.not_le.mpr h))
      refine W.eq (g2 := F0 m 13 ls [.ref (g 4 p2.toNatClampNeg), .ref (g 3 p1.toNatClampNeg), .ref (g 0 0)]) rfl ?_
      refine cq_V (v := (some (.int (xf_score S p1.toNatClampNeg p2.toNatClampNeg)))) (As := [.ref (g 3 p1.toNatClampNeg), .ref (g 4 p2.toNatClampNeg)]) (rest := []) hK hZ hA hAA hS hR ⟨hI, hh, (by first | assumption | omega), (by first | assumption | omega)⟩ (xt_score l E C A H.size g h S p1.toNatClampNeg p2.toNatClampNeg) (fun _ h => hA _ (Nat.le_trans hS.1 h)) ⟨hx, hb, hml, hown, hts⟩ (cwV 2 hts (lw_V q792 q794 qs8 q33 q795) rfl rfl rfl (by decide +kernel) ⟨Nat.le_of_ble_eq_true rfl, Nat.le_of_ble_eq_true rfl⟩) (kw_recv (t := 0) (i := 0) hK.1 hR rfl rfl rfl) rfl hl.1 rfl (Nat.le_of_ble_eq_true rfl) dX1_fit_13 ⟨Nat.le_of_ble_eq_true rfl, Nat.le_of_ble_eq_true rfl⟩ (fun H locs hB hz hk hS => ?_)
      have hR := hR.kept (fun a _ h => hk a h (Nat.not_le.mpr h))
      refine W.eq (g2 := F0 m 16 ls [.int (xf_score S p1.toNatClampNeg p2.toNatClampNeg)]) rfl ?_
      refine W.widen (k := 1) (n := 6) (Nat.le_of_ble_eq_true rfl) (Nat.le_of_ble_eq_true rfl) ?_
      exact vx_ret (W.iret (v := (xf_score S p1.toNatClampNeg p2.toNatClampNeg)) hx hb hr (fun t ht hW => ⟨⟨_, _, hf.symm, rfl, g, h, rfl, hh, by rw [ht]; exact hR⟩, hS.F ht⟩) hS.2.2 dX1_fit_16)
    · skip
      have hf := (if_neg c_2).symm.trans hf
      refine cx_V (As := [.int p2]) (rest := [.ref (g 3 p1.toNatClampNeg), .ref (g 0 0)]) hK hZ hA hAA hS hR ⟨hI, hh, c_2⟩ (xx_claimAt l hfl E C A H.size g h S p2) (fun _ h => hA _ (Nat.le_trans hS.1 h)) ⟨hx, hb, hml, hown, hts⟩ (cwV 1 hts (lw_V q759 q761 qs6 q33 q762) rfl rfl rfl (by decide +kernel) ⟨Nat.le_of_ble_eq_true rfl, Nat.le_of_ble_eq_true rfl⟩) (kw_recv (t := 0) (i := 0) hK.1 hR rfl rfl rfl) rfl hl.1 rfl (Nat.le_of_ble_eq_true rfl) dX1_fit_10 ⟨Nat.le_of_ble_eq_true rfl, Nat.le_of_ble_eq_true rfl⟩ (fun ce q9 H locs hB hz hk hS hc9 hv9 hcl => ?_)
      have hR := hR.kept (fun a _ h => hk a h (Nat.not_le.mpr h))
      exact vx_out (fun x h => (hnt x h).elim) hlocks hc9 hv9 hcl (fun t ht _ => ⟨⟨hf.symm, by rw [ht]; exact hR⟩, hS.F ht⟩) hS.2.2 (Nat.le_of_ble_eq_true rfl) (Nat.le_of_ble_eq_true rfl)
  · skip
    have hf := (if_neg c_1).symm.trans hf
    refine cx_V (As := [.int p1]) (rest := []) hK hZ hA hAA hS hR ⟨hI, hh, c_1⟩ (xx_findAt l hfl E C A s.heap.size g h S p1) (fun _ h => hA _ (Nat.le_trans hS.1 h)) ⟨hx, hb, hml, hown, hts⟩ (cwV 1 hts (lw_V q586 q588 qs4 q33 q589) rfl rfl rfl (by decide +kernel) ⟨Nat.le_of_ble_eq_true rfl, Nat.le_of_ble_eq_true rfl⟩) (kw_recv (t := 0) (i := 0) hK.1 hR rfl rfl rfl) rfl hl.1 rfl (Nat.le_of_ble_eq_true rfl) dX1_fit_2 ⟨Nat.le_of_ble_eq_true rfl, Nat.le_of_ble_eq_true rfl⟩ (fun ce q9 H locs hB hz hk hS hc9 hv9 hcl => ?_)
    have hR := hR.kept (fun a _ h => hk a h (Nat.not_le.mpr h))
    exact vx_out (fun x h => (hnt x h).elim) hlocks hc9 hv9 hcl (fun t ht _ => ⟨⟨hf.symm, by rw [ht]; exact hR⟩, hS.F ht⟩) hS.2.2 (Nat.le_of_ble_eq_true rfl) (Nat.le_of_ble_eq_true rfl)
set_option maxHeartbeats 2000000 in
set_option maxRecDepth 100000 in
theorem xs_isProven (l : Launch) (hfl : l.stackTraces = false) (E : en_T) (C : ex_C) (A : Nat → Prop) (sz : Nat) (g : kw_A) (h : xh_T) (S : gs_T) (p1 : Int32) (p2 : Int32) : vx_Met l yX1_isProven (ws_ yX1_isProven cX1_isProven 4 (some .boolean)) { frames := 8, cells := 1, slots := 6, locals := 141 } (cpc E C A sz [.ref (g 0 0), .int p1, .int p2] (xw E C g h S A) (xi_ok S ∧ xh C g h S)) (xq_Q gs_bz E C (g 0 0) A (xp_isProven S p1 p2)) (xq_X E C g h S A (xp_isProven S p1 p2)) 1 6 A := by
  refine cx_start (by decide) (Nat.le_of_ble_eq_true rfl) ?_
  intro p e s m below meth c ls hx hb hr hlocks hml hown hnm hnt hts hsz hK hZ hA hR hP hl
  subst hsz
  have hAA : ∀ a, A a → A a := fun _ h => h
  have hl : lv_has ls 4 [(0, .ref (g 0 0)), (1, .int p1), (2, .int p2)] := hl
  have hS : va_S A s.heap s.heap [] := va_S.rf
  have hZr := hZ
  obtain ⟨hI, hh⟩ := hP
  have hf : (xp_isProven S p1 p2) = (xp_isProven S p1 p2) := rfl
  refine lv_aload_n hx hb dX1_isProven_0 rfl (lv_at hl 0 rfl) ?_
  refine lv_iload_n hx hb dX1_isProven_1 rfl (lv_at hl 1 rfl) ?_
  by_cases c_1 : (xf_isIn p1 0 ((S 21 1) - 1)) = true
  · skip
    have hf := (if_pos c_1).symm.trans hf
    have of_2 := (xq_f hI c_1).1
    refine cq_V (v := (some (.ref (g 3 p1.toNatClampNeg)))) (As := [.int p1]) (rest := []) hK hZ hA hAA hS hR ⟨hI, hh, c_1⟩ (xt_findAt l E C A s.heap.size g h S p1) (fun _ h => hA _ (Nat.le_trans hS.1 h)) ⟨hx, hb, hml, hown, hts⟩ (cwV 1 hts (lw_V q586 q588 qs4 q33 q589) rfl rfl rfl (by decide +kernel) ⟨Nat.le_of_ble_eq_true rfl, Nat.le_of_ble_eq_true rfl⟩) (kw_recv (t := 0) (i := 0) hK.1 hR rfl rfl rfl) rfl hl.1 rfl (Nat.le_of_ble_eq_true rfl) dX1_isProven_2 ⟨Nat.le_of_ble_eq_true rfl, Nat.le_of_ble_eq_true rfl⟩ (fun H locs hB hz hk hS => ?_)
    have hR := hR.kept (fun a _ h => hk a h (Nat.not_le.mpr h))
    refine W.eq (g2 := F0 m 5 ls [.ref (g 3 p1.toNatClampNeg)]) rfl ?_
    refine lv_astore_n (lv' := [(3, .ref (g 3 p1.toNatClampNeg)), (0, .ref (g 0 0)), (1, .int p1), (2, .int p2)]) hx hb dX1_isProven_5 rfl hl (by decide) rfl (fun ls hl => ?_)
    refine lv_aload_n hx hb dX1_isProven_6 rfl (lv_at hl 1 rfl) ?_
    refine lv_iload_n hx hb dX1_isProven_7 rfl (lv_at hl 3 rfl) ?_
    by_cases c_2 : (xf_isIn p2 0 ((S 21 2) - 1)) = true
    · skip
      have hf := (if_pos c_2).symm.trans hf
      have oc_8 := (xq_c hI c_2).1
      refine cq_V (v := (some (.ref (g 4 p2.toNatClampNeg)))) (As := [.int p2]) (rest := []) hK hZ hA hAA hS hR ⟨hI, hh, c_2⟩ (xt_claimAt l E C A H.size g h S p2) (fun _ h => hA _ (Nat.le_trans hS.1 h)) ⟨hx, hb, hml, hown, hts⟩ (cwV 1 hts (lw_V q759 q761 qs6 q33 q762) rfl rfl rfl (by decide +kernel) ⟨Nat.le_of_ble_eq_true rfl, Nat.le_of_ble_eq_true rfl⟩) (kw_recv (t := 0) (i := 0) hK.1 hR rfl rfl rfl) rfl hl.1 rfl (Nat.le_of_ble_eq_true rfl) dX1_isProven_8 ⟨Nat.le_of_ble_eq_true rfl, Nat.le_of_ble_eq_true rfl⟩ (fun H locs hB hz hk hS => ?_)
      have hR := hR.kept (fun a _ h => hk a h (Nat.not_le.mpr h))
      refine W.eq (g2 := F0 m 11 ls [.ref (g 4 p2.toNatClampNeg)]) rfl ?_
      refine lv_aload_n hx hb dX1_isProven_11 rfl (lv_at hl 0 rfl) ?_
      refine cq_V (v := (some (.int (gs_bz (xf_proves S p2.toNatClampNeg p1.toNatClampNeg))))) (As := [.ref (g 3 p1.toNatClampNeg)]) (rest := []) hK hZ hA hAA hS hR ⟨hI, hh, (by first | assumption | omega), (by first | assumption | omega)⟩ (xt_proves l E C A H.size g h S p2.toNatClampNeg p1.toNatClampNeg) (fun _ h => hA _ (Nat.le_trans hS.1 h)) ⟨hx, hb, hml, hown, hts⟩ (cwV 1 hts (lw_V q809 q810 q811 q59 q812) rfl rfl rfl (by decide +kernel) ⟨Nat.le_of_ble_eq_true rfl, Nat.le_of_ble_eq_true rfl⟩) (kw_recv (t := 4) (i := p2.toNatClampNeg) hK.1 hR oc_8 rfl rfl) rfl hl.1 rfl (Nat.le_of_ble_eq_true rfl) dX1_isProven_12 ⟨Nat.le_of_ble_eq_true rfl, Nat.le_of_ble_eq_true rfl⟩ (fun H locs hB hz hk hS => ?_)
      have hR := hR.kept (fun a _ h => hk a h (Nat.not_le.mpr h))
      refine W.eq (g2 := F0 m 15 ls [.int (if (xf_proves S p2.toNatClampNeg p1.toNatClampNeg) = true then 1 else 0)]) rfl ?_
      refine W.widen (k := 1) (n := 6) (Nat.le_of_ble_eq_true rfl) (Nat.le_of_ble_eq_true rfl) ?_
      exact vx_ret (W.zret (v := (if (xf_proves S p2.toNatClampNeg p1.toNatClampNeg) = true then 1 else 0)) hx hb hr gs_nar (fun t ht hW => ⟨⟨_, _, hf.symm, (congrArg (fun z => Outcome.returned (some (Value.int z))) gs_bz_dec), g, h, rfl, hh, by rw [ht]; exact hR⟩, hS.F ht⟩) hS.2.2 dX1_isProven_15)
    · skip
      have hf := (if_neg c_2).symm.trans hf
      refine cx_V (As := [.int p2]) (rest := []) hK hZ hA hAA hS hR ⟨hI, hh, c_2⟩ (xx_claimAt l hfl E C A H.size g h S p2) (fun _ h => hA _ (Nat.le_trans hS.1 h)) ⟨hx, hb, hml, hown, hts⟩ (cwV 1 hts (lw_V q759 q761 qs6 q33 q762) rfl rfl rfl (by decide +kernel) ⟨Nat.le_of_ble_eq_true rfl, Nat.le_of_ble_eq_true rfl⟩) (kw_recv (t := 0) (i := 0) hK.1 hR rfl rfl rfl) rfl hl.1 rfl (Nat.le_of_ble_eq_true rfl) dX1_isProven_8 ⟨Nat.le_of_ble_eq_true rfl, Nat.le_of_ble_eq_true rfl⟩ (fun ce q9 H locs hB hz hk hS hc9 hv9 hcl => ?_)
      have hR := hR.kept (fun a _ h => hk a h (Nat.not_le.mpr h))
      exact vx_out (fun x h => (hnt x h).elim) hlocks hc9 hv9 hcl (fun t ht _ => ⟨⟨hf.symm, by rw [ht]; exact hR⟩, hS.F ht⟩) hS.2.2 (Nat.le_of_ble_eq_true rfl) (Nat.le_of_ble_eq_true rfl)
  · skip
    have hf := (if_neg c_1).symm.trans hf
    refine cx_V (As := [.int p1]) (rest := []) hK hZ hA hAA hS hR ⟨hI, hh, c_1⟩ (xx_findAt l hfl E C A s.heap.size g h S p1) (fun _ h => hA _ (Nat.le_trans hS.1 h)) ⟨hx, hb, hml, hown, hts⟩ (cwV 1 hts (lw_V q586 q588 qs4 q33 q589) rfl rfl rfl (by decide +kernel) ⟨Nat.le_of_ble_eq_true rfl, Nat.le_of_ble_eq_true rfl⟩) (kw_recv (t := 0) (i := 0) hK.1 hR rfl rfl rfl) rfl hl.1 rfl (Nat.le_of_ble_eq_true rfl) dX1_isProven_2 ⟨Nat.le_of_ble_eq_true rfl, Nat.le_of_ble_eq_true rfl⟩ (fun ce q9 H locs hB hz hk hS hc9 hv9 hcl => ?_)
    have hR := hR.kept (fun a _ h => hk a h (Nat.not_le.mpr h))
    exact vx_out (fun x h => (hnt x h).elim) hlocks hc9 hv9 hcl (fun t ht _ => ⟨⟨hf.symm, by rw [ht]; exact hR⟩, hS.F ht⟩) hS.2.2 (Nat.le_of_ble_eq_true rfl) (Nat.le_of_ble_eq_true rfl)
set_option maxHeartbeats 2000000 in
set_option maxRecDepth 100000 in
theorem xs_ofClaim (l : Launch) (hfl : l.stackTraces = false) (E : en_T) (C : ex_C) (A : Nat → Prop) (sz : Nat) (g : kw_A) (h : xh_T) (S : gs_T) (p1 : Int32) (p2 : Int32) : vx_Met l yX1_ofClaim (ws_ yX1_ofClaim cX1_ofClaim 4 (some .int)) { frames := 8, cells := 1, slots := 6, locals := 141 } (cpc E C A sz [.ref (g 0 0), .int p1, .int p2] (xw E C g h S A) (xi_ok S ∧ xh C g h S)) (xq_Q (fun z => z) E C (g 0 0) A (xp_ofClaim S p1 p2)) (xq_X E C g h S A (xp_ofClaim S p1 p2)) 1 6 A := by
  refine cx_start (by decide) (Nat.le_of_ble_eq_true rfl) ?_
  intro p e s m below meth c ls hx hb hr hlocks hml hown hnm hnt hts hsz hK hZ hA hR hP hl
  subst hsz
  have hAA : ∀ a, A a → A a := fun _ h => h
  have hl : lv_has ls 4 [(0, .ref (g 0 0)), (1, .int p1), (2, .int p2)] := hl
  have hS : va_S A s.heap s.heap [] := va_S.rf
  have hZr := hZ
  obtain ⟨hI, hh⟩ := hP
  have hf : (xp_ofClaim S p1 p2) = (xp_ofClaim S p1 p2) := rfl
  refine lv_aload_n hx hb dX1_ofClaim_0 rfl (lv_at hl 0 rfl) ?_
  refine lv_iload_n hx hb dX1_ofClaim_1 rfl (lv_at hl 1 rfl) ?_
  by_cases c_1 : (xf_isIn p1 0 ((S 21 2) - 1)) = true
  · skip
    have hf := (if_pos c_1).symm.trans hf
    have oc_2 := (xq_c hI c_1).1
    refine cq_V (v := (some (.ref (g 4 p1.toNatClampNeg)))) (As := [.int p1]) (rest := []) hK hZ hA hAA hS hR ⟨hI, hh, c_1⟩ (xt_claimAt l E C A s.heap.size g h S p1) (fun _ h => hA _ (Nat.le_trans hS.1 h)) ⟨hx, hb, hml, hown, hts⟩ (cwV 1 hts (lw_V q759 q761 qs6 q33 q762) rfl rfl rfl (by decide +kernel) ⟨Nat.le_of_ble_eq_true rfl, Nat.le_of_ble_eq_true rfl⟩) (kw_recv (t := 0) (i := 0) hK.1 hR rfl rfl rfl) rfl hl.1 rfl (Nat.le_of_ble_eq_true rfl) dX1_ofClaim_2 ⟨Nat.le_of_ble_eq_true rfl, Nat.le_of_ble_eq_true rfl⟩ (fun H locs hB hz hk hS => ?_)
    have hR := hR.kept (fun a _ h => hk a h (Nat.not_le.mpr h))
    refine W.eq (g2 := F0 m 5 ls [.ref (g 4 p1.toNatClampNeg)]) rfl ?_
    refine lv_astore_n (lv' := [(3, .ref (g 4 p1.toNatClampNeg)), (0, .ref (g 0 0)), (1, .int p1), (2, .int p2)]) hx hb dX1_ofClaim_5 rfl hl (by decide) rfl (fun ls hl => ?_)
    refine lv_iload_n hx hb dX1_ofClaim_6 rfl (lv_at hl 3 rfl) ?_
    refine lv_iconst (v := 0) hx hb dX1_ofClaim_7 (by decide) ?_
    refine lv_iconst (v := 3) hx hb dX1_ofClaim_8 (by decide) ?_
    refine ps_calli (As := [.int p2, .int 0, .int 3]) (rest := []) ⟨hx, hb, hml, hown, hts⟩ (xt_isIn l p2 0 3) (va_cwS 3 hts (lw_S q295 q296 q33 q297) rfl rfl rfl (by decide +kernel) ⟨Nat.le_of_ble_eq_true rfl, Nat.le_of_ble_eq_true rfl⟩) trivial hS rfl hl.1 rfl (Nat.le_of_ble_eq_true rfl) dX1_ofClaim_9 ⟨Nat.zero_le _, Nat.zero_le _⟩ (fun H locs hz hk hS => ?_)
    have hR := hR.kept (fun a _ h => hk a h)
    by_cases c_2 : (xf_isIn p2 0 3) = true
    · skip
      have hf := (if_pos c_2).symm.trans hf
      have c_3 := xq_vp4 c_2
      refine ps_callv (As := [.int (if (xf_isIn p2 0 3) = true then 1 else 0)]) (rest := []) ⟨hx, hb, hml, hown, hts⟩ (xo_requireArgument l _) (va_cwS 1 hts (lw_S q322 q323 q33 q324) rfl rfl rfl (by decide +kernel) ⟨Nat.le_of_ble_eq_true rfl, Nat.le_of_ble_eq_true rfl⟩) (if_pos c_2) hS rfl hl.1 rfl (Nat.le_of_ble_eq_true rfl) dX1_ofClaim_12 ⟨Nat.le_of_ble_eq_true rfl, Nat.le_of_ble_eq_true rfl⟩ (fun H locs hz hk hS => ?_)
      have hR := hR.kept (fun a _ h => hk a h)
      refine lv_iload_n hx hb dX1_ofClaim_15 rfl (lv_at hl 3 rfl) ?_
      have hJ_54 : ∀ (H : Heap) (locs : List Loc) (ls : Array Slot) (v_54 : Int32), v_54 = (if p2 = 0 then (S 56 p1.toNatClampNeg) else (if p2 = 1 then (S 54 p1.toNatClampNeg) else (if p2 = 2 then (S 55 p1.toNatClampNeg) else (S 58 p1.toNatClampNeg)))) → (xw E C g h S A) H → va_S A s.heap H locs → lv_has ls 4 [] → cx_G p l e { frames := 8, cells := 1, slots := 6, locals := 141 } s m [.ref (g 0 0), .int p1, .int p2] below meth c A (xq_Q (fun z => z) E C (g 0 0) A (xp_ofClaim S p1 p2)) (xq_X E C g h S A (xp_ofClaim S p1 p2)) 1 6 H locs 0 0 (F0 m 54 ls [.int v_54]) := by
        intro H locs ls v_54 e_v_54 hR hS hl
        subst e_v_54
        refine W.widen (k := 1) (n := 6) (Nat.le_of_ble_eq_true rfl) (Nat.le_of_ble_eq_true rfl) ?_
        exact vx_ret (W.iret (v := (if p2 = 0 then (S 56 p1.toNatClampNeg) else (if p2 = 1 then (S 54 p1.toNatClampNeg) else (if p2 = 2 then (S 55 p1.toNatClampNeg) else (S 58 p1.toNatClampNeg))))) hx hb hr (fun t ht hW => ⟨⟨_, _, hf.symm, rfl, g, h, rfl, hh, by rw [ht]; exact hR⟩, hS.F ht⟩) hS.2.2 dX1_ofClaim_54)
      refine lv_if_ne (tgt := 26) hx hb dX1_ofClaim_16 (by decide) (fun c_4 => ?_) (fun c_4 => ?_)
      · skip
        refine lv_iload_n hx hb dX1_ofClaim_26 rfl (lv_at hl 3 rfl) ?_
        refine lv_iconst (v := 1) hx hb dX1_ofClaim_27 (by decide) ?_
        refine lv_icmp_ne (tgt := 38) hx hb dX1_ofClaim_28 (by decide) (fun c_5 => ?_) (fun c_5 => ?_)
        · skip
          refine lv_iload_n hx hb dX1_ofClaim_38 rfl (lv_at hl 3 rfl) ?_
          refine lv_iconst (v := 2) hx hb dX1_ofClaim_39 (by decide) ?_
          refine lv_icmp_ne (tgt := 50) hx hb dX1_ofClaim_40 (by decide) (fun c_6 => ?_) (fun c_6 => ?_)
          · skip
            refine lv_aload_n hx hb dX1_ofClaim_50 rfl (lv_at hl 0 rfl) ?_
            refine kw_getN (C := RX5) (T := TX5) (N := 10) (v := .int (S 58 p1.toNatClampNeg)) hx hb hts in_X5 hown hK.1 hR 4 p1.toNatClampNeg oc_2 rfl rfl 8 (by decide) (va_Nw.use rfl (hK.2.1 _ q729 rfl)) (fun _ h9 => h9) rfl dX1_ofClaim_51 ?_
            exact hJ_54 _ _ _ (S 58 p1.toNatClampNeg) ((((if_neg c_6).symm).trans (if_neg c_5).symm).trans (if_neg c_4).symm) hR hS (lv_sub hl [] rfl)
          · skip
            refine lv_aload_n hx hb dX1_ofClaim_43 rfl (lv_at hl 0 rfl) ?_
            refine kw_getN (C := RX5) (T := TX5) (N := 10) (v := .int (S 55 p1.toNatClampNeg)) hx hb hts in_X5 hown hK.1 hR 4 p1.toNatClampNeg oc_2 rfl rfl 5 (by decide) (va_Nw.use rfl (hK.2.1 _ q723 rfl)) (fun _ h9 => h9) rfl dX1_ofClaim_44 ?_
            refine lv_goto (tgt := 54) hx hb dX1_ofClaim_47 (by decide) ?_
            exact hJ_54 _ _ _ (S 55 p1.toNatClampNeg) ((((if_pos c_6).symm).trans (if_neg c_5).symm).trans (if_neg c_4).symm) hR hS (lv_sub hl [] rfl)
        · skip
          refine lv_aload_n hx hb dX1_ofClaim_31 rfl (lv_at hl 0 rfl) ?_
          refine kw_getN (C := RX5) (T := TX5) (N := 10) (v := .int (S 54 p1.toNatClampNeg)) hx hb hts in_X5 hown hK.1 hR 4 p1.toNatClampNeg oc_2 rfl rfl 4 (by decide) (va_Nw.use rfl (hK.2.1 _ q721 rfl)) (fun _ h9 => h9) rfl dX1_ofClaim_32 ?_
          refine lv_goto (tgt := 54) hx hb dX1_ofClaim_35 (by decide) ?_
          exact hJ_54 _ _ _ (S 54 p1.toNatClampNeg) (((if_pos c_5).symm).trans (if_neg c_4).symm) hR hS (lv_sub hl [] rfl)
      · skip
        refine lv_aload_n hx hb dX1_ofClaim_19 rfl (lv_at hl 0 rfl) ?_
        refine kw_getN (C := RX5) (T := TX5) (N := 10) (v := .int (S 56 p1.toNatClampNeg)) hx hb hts in_X5 hown hK.1 hR 4 p1.toNatClampNeg oc_2 rfl rfl 6 (by decide) (va_Nw.use rfl (hK.2.1 _ q725 rfl)) (fun _ h9 => h9) rfl dX1_ofClaim_20 ?_
        refine lv_goto (tgt := 54) hx hb dX1_ofClaim_23 (by decide) ?_
        exact hJ_54 _ _ _ (S 56 p1.toNatClampNeg) ((if_pos c_4).symm) hR hS (lv_sub hl [] rfl)
    · skip
      have hf := (if_neg c_2).symm.trans hf
      refine W.eq (g2 := F0 m 12 ls [.int 0]) (congrArg (fun z => F0 m 12 ls (.int z :: [])) (if_neg c_2)) ?_
      refine cx_S (X := fun _ => True) (P := True) (As := [.int 0]) (rest := []) hK hZ hA hAA hS trivial trivial (xt_requireArgument l hfl E C A H.size) (fun _ h => hA _ (Nat.le_trans hS.1 h)) ⟨hx, hb, hml, hown, hts⟩ (va_cwS 1 hts (lw_S q322 q323 q33 q324) rfl rfl rfl (by decide +kernel) ⟨Nat.le_of_ble_eq_true rfl, Nat.le_of_ble_eq_true rfl⟩) rfl hl.1 rfl (Nat.le_of_ble_eq_true rfl) dX1_ofClaim_12 ⟨Nat.le_of_ble_eq_true rfl, Nat.le_of_ble_eq_true rfl⟩ (fun ce q9 H locs hB hz hk hS hc9 hv9 hcl => ?_)
      have hR := hR.kept (fun a _ h => hk a h (Nat.not_le.mpr h))
      exact vx_out (fun x h => (hnt x h).elim) hlocks hc9 hv9 hcl (fun t ht _ => ⟨⟨hf.symm, by rw [ht]; exact hR⟩, hS.F ht⟩) hS.2.2 (Nat.le_of_ble_eq_true rfl) (Nat.le_of_ble_eq_true rfl)
  · skip
    have hf := (if_neg c_1).symm.trans hf
    refine cx_V (As := [.int p1]) (rest := []) hK hZ hA hAA hS hR ⟨hI, hh, c_1⟩ (xx_claimAt l hfl E C A s.heap.size g h S p1) (fun _ h => hA _ (Nat.le_trans hS.1 h)) ⟨hx, hb, hml, hown, hts⟩ (cwV 1 hts (lw_V q759 q761 qs6 q33 q762) rfl rfl rfl (by decide +kernel) ⟨Nat.le_of_ble_eq_true rfl, Nat.le_of_ble_eq_true rfl⟩) (kw_recv (t := 0) (i := 0) hK.1 hR rfl rfl rfl) rfl hl.1 rfl (Nat.le_of_ble_eq_true rfl) dX1_ofClaim_2 ⟨Nat.le_of_ble_eq_true rfl, Nat.le_of_ble_eq_true rfl⟩ (fun ce q9 H locs hB hz hk hS hc9 hv9 hcl => ?_)
    have hR := hR.kept (fun a _ h => hk a h (Nat.not_le.mpr h))
    exact vx_out (fun x h => (hnt x h).elim) hlocks hc9 hv9 hcl (fun t ht _ => ⟨⟨hf.symm, by rw [ht]; exact hR⟩, hS.F ht⟩) hS.2.2 (Nat.le_of_ble_eq_true rfl) (Nat.le_of_ble_eq_true rfl)
set_option maxHeartbeats 2000000 in
set_option maxRecDepth 100000 in
theorem xs_money (l : Launch) (hfl : l.stackTraces = false) (E : en_T) (C : ex_C) (A : Nat → Prop) (sz : Nat) (g : kw_A) (h : xh_T) (S : gs_T) (p1 : Int32) : vx_Met l yX1_money (ws_ yX1_money cX1_money 2 (some .int)) { frames := 7, cells := 1, slots := 6, locals := 120 } (cpc E C A sz [.ref (g 0 0), .int p1] (xw E C g h S A) (xi_ok S ∧ xh C g h S)) (xq_Q (fun z => z) E C (g 0 0) A (xp_money S p1)) (xq_X E C g h S A (xp_money S p1)) 1 6 A := by
  refine cx_start (by decide) (Nat.le_of_ble_eq_true rfl) ?_
  intro p e s m below meth c ls hx hb hr hlocks hml hown hnm hnt hts hsz hK hZ hA hR hP hl
  subst hsz
  have hAA : ∀ a, A a → A a := fun _ h => h
  have hl : lv_has ls 2 [(0, .ref (g 0 0)), (1, .int p1)] := hl
  have hS : va_S A s.heap s.heap [] := va_S.rf
  have hZr := hZ
  obtain ⟨hI, hh⟩ := hP
  have hf : (xp_money S p1) = (xp_money S p1) := rfl
  refine lv_iload_n hx hb dX1_money_0 rfl (lv_at hl 1 rfl) ?_
  refine lv_iconst (v := 0) hx hb dX1_money_1 (by decide) ?_
  refine lv_iconst (v := 2) hx hb dX1_money_2 (by decide) ?_
  refine ps_calli (As := [.int p1, .int 0, .int 2]) (rest := []) ⟨hx, hb, hml, hown, hts⟩ (xt_isIn l p1 0 2) (va_cwS 3 hts (lw_S q295 q296 q33 q297) rfl rfl rfl (by decide +kernel) ⟨Nat.le_of_ble_eq_true rfl, Nat.le_of_ble_eq_true rfl⟩) trivial hS rfl hl.1 rfl (Nat.le_of_ble_eq_true rfl) dX1_money_3 ⟨Nat.zero_le _, Nat.zero_le _⟩ (fun H locs hz hk hS => ?_)
  have hR := hR.kept (fun a _ h => hk a h)
  by_cases c_1 : (xf_isIn p1 0 2) = true
  · skip
    have hf := (if_pos c_1).symm.trans hf
    refine ps_callv (As := [.int (if (xf_isIn p1 0 2) = true then 1 else 0)]) (rest := []) ⟨hx, hb, hml, hown, hts⟩ (xo_requireArgument l _) (va_cwS 1 hts (lw_S q322 q323 q33 q324) rfl rfl rfl (by decide +kernel) ⟨Nat.le_of_ble_eq_true rfl, Nat.le_of_ble_eq_true rfl⟩) (if_pos c_1) hS rfl hl.1 rfl (Nat.le_of_ble_eq_true rfl) dX1_money_6 ⟨Nat.le_of_ble_eq_true rfl, Nat.le_of_ble_eq_true rfl⟩ (fun H locs hz hk hS => ?_)
    have hR := hR.kept (fun a _ h => hk a h)
    refine lv_iload_n hx hb dX1_money_9 rfl (lv_at hl 1 rfl) ?_
    have hJ_36 : ∀ (H : Heap) (locs : List Loc) (ls : Array Slot) (v_36 : Int32), v_36 = (if p1 = 0 then (S 9 0) else (if p1 = 1 then (S 10 0) else (S 11 0))) → (xw E C g h S A) H → va_S A s.heap H locs → lv_has ls 2 [] → cx_G p l e { frames := 7, cells := 1, slots := 6, locals := 120 } s m [.ref (g 0 0), .int p1] below meth c A (xq_Q (fun z => z) E C (g 0 0) A (xp_money S p1)) (xq_X E C g h S A (xp_money S p1)) 1 6 H locs 0 0 (F0 m 36 ls [.int v_36]) := by
      intro H locs ls v_36 e_v_36 hR hS hl
      subst e_v_36
      refine W.widen (k := 1) (n := 6) (Nat.le_of_ble_eq_true rfl) (Nat.le_of_ble_eq_true rfl) ?_
      exact vx_ret (W.iret (v := (if p1 = 0 then (S 9 0) else (if p1 = 1 then (S 10 0) else (S 11 0)))) hx hb hr (fun t ht hW => ⟨⟨_, _, hf.symm, rfl, g, h, rfl, hh, by rw [ht]; exact hR⟩, hS.F ht⟩) hS.2.2 dX1_money_36)
    refine lv_if_ne (tgt := 20) hx hb dX1_money_10 (by decide) (fun c_2 => ?_) (fun c_2 => ?_)
    · skip
      refine lv_iload_n hx hb dX1_money_20 rfl (lv_at hl 1 rfl) ?_
      refine lv_iconst (v := 1) hx hb dX1_money_21 (by decide) ?_
      refine lv_icmp_ne (tgt := 32) hx hb dX1_money_22 (by decide) (fun c_3 => ?_) (fun c_3 => ?_)
      · skip
        refine lv_aload_n hx hb dX1_money_32 rfl (lv_at hl 0 rfl) ?_
        refine kw_get (C := RX1) (T := TX1) (N := 12) (v := .int (S 11 0)) hx hb hts in_X1 hown hK.1 hR 0 0 rfl rfl rfl 11 (by decide) (hts _ q180) (fun _ h9 => h9) rfl dX1_money_33 ?_
        exact hJ_36 _ _ _ (S 11 0) (((if_neg c_3).symm).trans (if_neg c_2).symm) hR hS (lv_sub hl [] rfl)
      · skip
        refine lv_aload_n hx hb dX1_money_25 rfl (lv_at hl 0 rfl) ?_
        refine kw_get (C := RX1) (T := TX1) (N := 12) (v := .int (S 10 0)) hx hb hts in_X1 hown hK.1 hR 0 0 rfl rfl rfl 10 (by decide) (hts _ q179) (fun _ h9 => h9) rfl dX1_money_26 ?_
        refine lv_goto (tgt := 36) hx hb dX1_money_29 (by decide) ?_
        exact hJ_36 _ _ _ (S 10 0) (((if_pos c_3).symm).trans (if_neg c_2).symm) hR hS (lv_sub hl [] rfl)
    · skip
      refine lv_aload_n hx hb dX1_money_13 rfl (lv_at hl 0 rfl) ?_
      refine kw_get (C := RX1) (T := TX1) (N := 12) (v := .int (S 9 0)) hx hb hts in_X1 hown hK.1 hR 0 0 rfl rfl rfl 9 (by decide) (hts _ q178) (fun _ h9 => h9) rfl dX1_money_14 ?_
      refine lv_goto (tgt := 36) hx hb dX1_money_17 (by decide) ?_
      exact hJ_36 _ _ _ (S 9 0) ((if_pos c_2).symm) hR hS (lv_sub hl [] rfl)
  · skip
    have hf := (if_neg c_1).symm.trans hf
    refine W.eq (g2 := F0 m 6 ls [.int 0]) (congrArg (fun z => F0 m 6 ls (.int z :: [])) (if_neg c_1)) ?_
    refine cx_S (X := fun _ => True) (P := True) (As := [.int 0]) (rest := []) hK hZ hA hAA hS trivial trivial (xt_requireArgument l hfl E C A H.size) (fun _ h => hA _ (Nat.le_trans hS.1 h)) ⟨hx, hb, hml, hown, hts⟩ (va_cwS 1 hts (lw_S q322 q323 q33 q324) rfl rfl rfl (by decide +kernel) ⟨Nat.le_of_ble_eq_true rfl, Nat.le_of_ble_eq_true rfl⟩) rfl hl.1 rfl (Nat.le_of_ble_eq_true rfl) dX1_money_6 ⟨Nat.le_of_ble_eq_true rfl, Nat.le_of_ble_eq_true rfl⟩ (fun ce q9 H locs hB hz hk hS hc9 hv9 hcl => ?_)
    have hR := hR.kept (fun a _ h => hk a h (Nat.not_le.mpr h))
    exact vx_out (fun x h => (hnt x h).elim) hlocks hc9 hv9 hcl (fun t ht _ => ⟨⟨hf.symm, by rw [ht]; exact hR⟩, hS.F ht⟩) hS.2.2 (Nat.le_of_ble_eq_true rfl) (Nat.le_of_ble_eq_true rfl)
set_option maxHeartbeats 2000000 in
set_option maxRecDepth 100000 in
theorem xs_ofFind (l : Launch) (hfl : l.stackTraces = false) (E : en_T) (C : ex_C) (A : Nat → Prop) (sz : Nat) (g : kw_A) (h : xh_T) (S : gs_T) (p1 : Int32) (p2 : Int32) : vx_Met l yX1_ofFind (ws_ yX1_ofFind cX1_ofFind 4 (some .int)) { frames := 8, cells := 1, slots := 6, locals := 141 } (cpc E C A sz [.ref (g 0 0), .int p1, .int p2] (xw E C g h S A) (xi_ok S ∧ xh C g h S)) (xq_Q (fun z => z) E C (g 0 0) A (xp_ofFind S p1 p2)) (xq_X E C g h S A (xp_ofFind S p1 p2)) 1 6 A := by
  refine cx_start (by decide) (Nat.le_of_ble_eq_true rfl) ?_
  intro p e s m below meth c ls hx hb hr hlocks hml hown hnm hnt hts hsz hK hZ hA hR hP hl
  subst hsz
  have hAA : ∀ a, A a → A a := fun _ h => h
  have hl : lv_has ls 4 [(0, .ref (g 0 0)), (1, .int p1), (2, .int p2)] := hl
  have hS : va_S A s.heap s.heap [] := va_S.rf
  have hZr := hZ
  obtain ⟨hI, hh⟩ := hP
  have hf : (xp_ofFind S p1 p2) = (xp_ofFind S p1 p2) := rfl
  refine lv_aload_n hx hb dX1_ofFind_0 rfl (lv_at hl 0 rfl) ?_
  refine lv_iload_n hx hb dX1_ofFind_1 rfl (lv_at hl 1 rfl) ?_
  by_cases c_1 : (xf_isIn p1 0 ((S 21 1) - 1)) = true
  · skip
    have hf := (if_pos c_1).symm.trans hf
    have of_2 := (xq_f hI c_1).1
    refine cq_V (v := (some (.ref (g 3 p1.toNatClampNeg)))) (As := [.int p1]) (rest := []) hK hZ hA hAA hS hR ⟨hI, hh, c_1⟩ (xt_findAt l E C A s.heap.size g h S p1) (fun _ h => hA _ (Nat.le_trans hS.1 h)) ⟨hx, hb, hml, hown, hts⟩ (cwV 1 hts (lw_V q586 q588 qs4 q33 q589) rfl rfl rfl (by decide +kernel) ⟨Nat.le_of_ble_eq_true rfl, Nat.le_of_ble_eq_true rfl⟩) (kw_recv (t := 0) (i := 0) hK.1 hR rfl rfl rfl) rfl hl.1 rfl (Nat.le_of_ble_eq_true rfl) dX1_ofFind_2 ⟨Nat.le_of_ble_eq_true rfl, Nat.le_of_ble_eq_true rfl⟩ (fun H locs hB hz hk hS => ?_)
    have hR := hR.kept (fun a _ h => hk a h (Nat.not_le.mpr h))
    refine W.eq (g2 := F0 m 5 ls [.ref (g 3 p1.toNatClampNeg)]) rfl ?_
    refine lv_astore_n (lv' := [(3, .ref (g 3 p1.toNatClampNeg)), (0, .ref (g 0 0)), (1, .int p1), (2, .int p2)]) hx hb dX1_ofFind_5 rfl hl (by decide) rfl (fun ls hl => ?_)
    refine lv_iload_n hx hb dX1_ofFind_6 rfl (lv_at hl 3 rfl) ?_
    refine lv_iconst (v := 0) hx hb dX1_ofFind_7 (by decide) ?_
    refine lv_iconst (v := 4) hx hb dX1_ofFind_8 (by decide) ?_
    refine ps_calli (As := [.int p2, .int 0, .int 4]) (rest := []) ⟨hx, hb, hml, hown, hts⟩ (xt_isIn l p2 0 4) (va_cwS 3 hts (lw_S q295 q296 q33 q297) rfl rfl rfl (by decide +kernel) ⟨Nat.le_of_ble_eq_true rfl, Nat.le_of_ble_eq_true rfl⟩) trivial hS rfl hl.1 rfl (Nat.le_of_ble_eq_true rfl) dX1_ofFind_9 ⟨Nat.zero_le _, Nat.zero_le _⟩ (fun H locs hz hk hS => ?_)
    have hR := hR.kept (fun a _ h => hk a h)
    by_cases c_2 : (xf_isIn p2 0 4) = true
    · skip
      have hf := (if_pos c_2).symm.trans hf
      refine ps_callv (As := [.int (if (xf_isIn p2 0 4) = true then 1 else 0)]) (rest := []) ⟨hx, hb, hml, hown, hts⟩ (xo_requireArgument l _) (va_cwS 1 hts (lw_S q322 q323 q33 q324) rfl rfl rfl (by decide +kernel) ⟨Nat.le_of_ble_eq_true rfl, Nat.le_of_ble_eq_true rfl⟩) (if_pos c_2) hS rfl hl.1 rfl (Nat.le_of_ble_eq_true rfl) dX1_ofFind_12 ⟨Nat.le_of_ble_eq_true rfl, Nat.le_of_ble_eq_true rfl⟩ (fun H locs hz hk hS => ?_)
      have hR := hR.kept (fun a _ h => hk a h)
      refine lv_iload_n hx hb dX1_ofFind_15 rfl (lv_at hl 3 rfl) ?_
      by_cases c_3 : p2 = 0
      · skip
        have hf := (if_pos c_3).symm.trans hf
        refine lv_tableIn (off := 32) (tgt := 48) hx hb dX1_ofFind_16 (by rw [c_3]; decide) (by rw [c_3]; decide) (by rw [c_3]; rfl) (by decide) ?_
        refine lv_aload_n hx hb dX1_ofFind_48 rfl (lv_at hl 0 rfl) ?_
        refine kw_getN (C := RX3) (T := TX3) (N := 15) (v := .int (S 36 p1.toNatClampNeg)) hx hb hts in_X3 hown hK.1 hR 3 p1.toNatClampNeg of_2 rfl rfl 6 (by decide) (va_Nw.use rfl (hK.2.1 _ q536 rfl)) (fun _ h9 => h9) rfl dX1_ofFind_49 ?_
        refine W.widen (k := 1) (n := 6) (Nat.le_of_ble_eq_true rfl) (Nat.le_of_ble_eq_true rfl) ?_
        exact vx_ret (W.iret (v := (S 36 p1.toNatClampNeg)) hx hb hr (fun t ht hW => ⟨⟨_, _, hf.symm, rfl, g, h, rfl, hh, by rw [ht]; exact hR⟩, hS.F ht⟩) hS.2.2 dX1_ofFind_52)
      · skip
        have hf := (if_neg c_3).symm.trans hf
        by_cases c_4 : p2 = 1
        · skip
          have hf := (if_pos c_4).symm.trans hf
          refine lv_tableIn (off := 37) (tgt := 53) hx hb dX1_ofFind_16 (by rw [c_4]; decide) (by rw [c_4]; decide) (by rw [c_4]; rfl) (by decide) ?_
          refine lv_aload_n hx hb dX1_ofFind_53 rfl (lv_at hl 0 rfl) ?_
          refine kw_getN (C := RX3) (T := TX3) (N := 15) (v := .int (S 39 p1.toNatClampNeg)) hx hb hts in_X3 hown hK.1 hR 3 p1.toNatClampNeg of_2 rfl rfl 9 (by decide) (va_Nw.use rfl (hK.2.1 _ q541 rfl)) (fun _ h9 => h9) rfl dX1_ofFind_54 ?_
          refine W.widen (k := 1) (n := 6) (Nat.le_of_ble_eq_true rfl) (Nat.le_of_ble_eq_true rfl) ?_
          exact vx_ret (W.iret (v := (S 39 p1.toNatClampNeg)) hx hb hr (fun t ht hW => ⟨⟨_, _, hf.symm, rfl, g, h, rfl, hh, by rw [ht]; exact hR⟩, hS.F ht⟩) hS.2.2 dX1_ofFind_57)
        · skip
          have hf := (if_neg c_4).symm.trans hf
          by_cases c_5 : p2 = 2
          · skip
            have hf := (if_pos c_5).symm.trans hf
            refine lv_tableIn (off := 42) (tgt := 58) hx hb dX1_ofFind_16 (by rw [c_5]; decide) (by rw [c_5]; decide) (by rw [c_5]; rfl) (by decide) ?_
            refine lv_aload_n hx hb dX1_ofFind_58 rfl (lv_at hl 0 rfl) ?_
            refine kw_getN (C := RX3) (T := TX3) (N := 15) (v := .int (S 37 p1.toNatClampNeg)) hx hb hts in_X3 hown hK.1 hR 3 p1.toNatClampNeg of_2 rfl rfl 7 (by decide) (va_Nw.use rfl (hK.2.1 _ q538 rfl)) (fun _ h9 => h9) rfl dX1_ofFind_59 ?_
            refine W.widen (k := 1) (n := 6) (Nat.le_of_ble_eq_true rfl) (Nat.le_of_ble_eq_true rfl) ?_
            exact vx_ret (W.iret (v := (S 37 p1.toNatClampNeg)) hx hb hr (fun t ht hW => ⟨⟨_, _, hf.symm, rfl, g, h, rfl, hh, by rw [ht]; exact hR⟩, hS.F ht⟩) hS.2.2 dX1_ofFind_62)
          · skip
            have hf := (if_neg c_5).symm.trans hf
            by_cases c_6 : p2 = 3
            · skip
              have hf := (if_pos c_6).symm.trans hf
              refine lv_tableIn (off := 47) (tgt := 63) hx hb dX1_ofFind_16 (by rw [c_6]; decide) (by rw [c_6]; decide) (by rw [c_6]; rfl) (by decide) ?_
              refine lv_aload_n hx hb dX1_ofFind_63 rfl (lv_at hl 0 rfl) ?_
              refine kw_getN (C := RX3) (T := TX3) (N := 15) (v := .int (S 33 p1.toNatClampNeg)) hx hb hts in_X3 hown hK.1 hR 3 p1.toNatClampNeg of_2 rfl rfl 3 (by decide) (va_Nw.use rfl (hK.2.1 _ q529 rfl)) (fun _ h9 => h9) rfl dX1_ofFind_64 ?_
              refine W.widen (k := 1) (n := 6) (Nat.le_of_ble_eq_true rfl) (Nat.le_of_ble_eq_true rfl) ?_
              exact vx_ret (W.iret (v := (S 33 p1.toNatClampNeg)) hx hb hr (fun t ht hW => ⟨⟨_, _, hf.symm, rfl, g, h, rfl, hh, by rw [ht]; exact hR⟩, hS.F ht⟩) hS.2.2 dX1_ofFind_67)
            · skip
              have hf := (if_neg c_6).symm.trans hf
              refine lv_tableOut (tgt := 68) hx hb dX1_ofFind_16 (by have h0 := lv_neT (a := 0) c_3 rfl; have h1 := lv_neT (a := 1) c_4 rfl; have h2 := lv_neT (a := 2) c_5 rfl; have h3 := lv_neT (a := 3) c_6 rfl; omega) (by decide) ?_
              refine lv_aload_n hx hb dX1_ofFind_68 rfl (lv_at hl 0 rfl) ?_
              refine kw_getN (C := RX3) (T := TX3) (N := 15) (v := .ref (g 1 (7 + p1.toNatClampNeg))) hx hb hts in_X3 hown hK.1 hR 3 p1.toNatClampNeg of_2 rfl rfl 13 (by decide) (va_Nw.use rfl (hK.2.1 _ q546 rfl)) (fun _ h9 => h9) rfl dX1_ofFind_69 ?_
              refine cq_F (v := (some (.int (S 21 (7 + p1.toNatClampNeg))))) (As := []) (rest := []) hK hZ hA hAA hS hR ⟨(Nat.add_lt_add_left of_2 7), rfl⟩ (jt_size l E C A H.size (xok S) g (xen E C g h S) (7 + p1.toNatClampNeg) (S 20 (7 + p1.toNatClampNeg)) (S 21 (7 + p1.toNatClampNeg)) (.ref (if cz S (7 + p1.toNatClampNeg) = 0 then C.2.1 else g 2 (7 + p1.toNatClampNeg)))) (fun _ h => hA _ (Nat.le_trans hS.1 h)) (hK.1.1 5 _ rfl).2 ⟨hx, hb, hml, hown, hts⟩ (va_cwF 0 hts (lw_F q389 q392 q394 q36 q396) rfl rfl rfl (fw_size hK) (by decide +kernel) ⟨Nat.le_of_ble_eq_true rfl, Nat.le_of_ble_eq_true rfl⟩) (kw_recv (t := 1) (i := (7 + p1.toNatClampNeg)) hK.1 hR (Nat.add_lt_add_left of_2 7) rfl rfl) rfl hl.1 rfl (Nat.le_of_ble_eq_true rfl) dX1_ofFind_72 ⟨Nat.le_of_ble_eq_true rfl, Nat.le_of_ble_eq_true rfl⟩ (fun H locs hB hz hk hS => ?_)
              have hR := hR.kept (fun a _ h => hk a h (Nat.not_le.mpr h))
              refine W.eq (g2 := F0 m 77 ls [.int (S 21 (7 + p1.toNatClampNeg))]) rfl ?_
              refine W.widen (k := 1) (n := 6) (Nat.le_of_ble_eq_true rfl) (Nat.le_of_ble_eq_true rfl) ?_
              exact vx_ret (W.iret (v := (S 21 (7 + p1.toNatClampNeg))) hx hb hr (fun t ht hW => ⟨⟨_, _, hf.symm, rfl, g, h, rfl, hh, by rw [ht]; exact hR⟩, hS.F ht⟩) hS.2.2 dX1_ofFind_77)
    · skip
      have hf := (if_neg c_2).symm.trans hf
      refine W.eq (g2 := F0 m 12 ls [.int 0]) (congrArg (fun z => F0 m 12 ls (.int z :: [])) (if_neg c_2)) ?_
      refine cx_S (X := fun _ => True) (P := True) (As := [.int 0]) (rest := []) hK hZ hA hAA hS trivial trivial (xt_requireArgument l hfl E C A H.size) (fun _ h => hA _ (Nat.le_trans hS.1 h)) ⟨hx, hb, hml, hown, hts⟩ (va_cwS 1 hts (lw_S q322 q323 q33 q324) rfl rfl rfl (by decide +kernel) ⟨Nat.le_of_ble_eq_true rfl, Nat.le_of_ble_eq_true rfl⟩) rfl hl.1 rfl (Nat.le_of_ble_eq_true rfl) dX1_ofFind_12 ⟨Nat.le_of_ble_eq_true rfl, Nat.le_of_ble_eq_true rfl⟩ (fun ce q9 H locs hB hz hk hS hc9 hv9 hcl => ?_)
      have hR := hR.kept (fun a _ h => hk a h (Nat.not_le.mpr h))
      exact vx_out (fun x h => (hnt x h).elim) hlocks hc9 hv9 hcl (fun t ht _ => ⟨⟨hf.symm, by rw [ht]; exact hR⟩, hS.F ht⟩) hS.2.2 (Nat.le_of_ble_eq_true rfl) (Nat.le_of_ble_eq_true rfl)
  · skip
    have hf := (if_neg c_1).symm.trans hf
    refine cx_V (As := [.int p1]) (rest := []) hK hZ hA hAA hS hR ⟨hI, hh, c_1⟩ (xx_findAt l hfl E C A s.heap.size g h S p1) (fun _ h => hA _ (Nat.le_trans hS.1 h)) ⟨hx, hb, hml, hown, hts⟩ (cwV 1 hts (lw_V q586 q588 qs4 q33 q589) rfl rfl rfl (by decide +kernel) ⟨Nat.le_of_ble_eq_true rfl, Nat.le_of_ble_eq_true rfl⟩) (kw_recv (t := 0) (i := 0) hK.1 hR rfl rfl rfl) rfl hl.1 rfl (Nat.le_of_ble_eq_true rfl) dX1_ofFind_2 ⟨Nat.le_of_ble_eq_true rfl, Nat.le_of_ble_eq_true rfl⟩ (fun ce q9 H locs hB hz hk hS hc9 hv9 hcl => ?_)
    have hR := hR.kept (fun a _ h => hk a h (Nat.not_le.mpr h))
    exact vx_out (fun x h => (hnt x h).elim) hlocks hc9 hv9 hcl (fun t ht _ => ⟨⟨hf.symm, by rw [ht]; exact hR⟩, hS.F ht⟩) hS.2.2 (Nat.le_of_ble_eq_true rfl) (Nat.le_of_ble_eq_true rfl)
set_option maxHeartbeats 2000000 in
set_option maxRecDepth 100000 in
theorem xs_audit (l : Launch) (hfl : l.stackTraces = false) (E : en_T) (C : ex_C) (A : Nat → Prop) (sz : Nat) (g : kw_A) (h : xh_T) (S : gs_T) (p1 : Int32) : vx_Met l yX1_audit (ws_ yX1_audit cX1_audit 4 (some .int)) { frames := 7, cells := 1, slots := 6, locals := 120 } (cpc E C A sz [.ref (g 0 0), .int p1] (xw E C g h S A) (xi_ok S ∧ xh C g h S)) (xq_Q (fun z => z) E C (g 0 0) A (xp_audit S p1)) (xq_X E C g h S A (xp_audit S p1)) 1 6 A := by
  refine cx_start (by decide) (Nat.le_of_ble_eq_true rfl) ?_
  intro p e s m below meth c ls hx hb hr hlocks hml hown hnm hnt hts hsz hK hZ hA hR hP hl
  subst hsz
  have hAA : ∀ a, A a → A a := fun _ h => h
  have hl : lv_has ls 4 [(0, .ref (g 0 0)), (1, .int p1)] := hl
  have hS : va_S A s.heap s.heap [] := va_S.rf
  have hZr := hZ
  obtain ⟨hI, hh⟩ := hP
  have hn1 := (xi_fn hI).2
  have hf : (xp_audit S p1) = (xp_audit S p1) := rfl
  refine lv_iload_n hx hb dX1_audit_0 rfl (lv_at hl 1 rfl) ?_
  refine lv_iconst (v := 0) hx hb dX1_audit_1 (by decide) ?_
  refine lv_iconst (v := 5) hx hb dX1_audit_2 (by decide) ?_
  refine ps_calli (As := [.int p1, .int 0, .int 5]) (rest := []) ⟨hx, hb, hml, hown, hts⟩ (xt_isIn l p1 0 5) (va_cwS 3 hts (lw_S q295 q296 q33 q297) rfl rfl rfl (by decide +kernel) ⟨Nat.le_of_ble_eq_true rfl, Nat.le_of_ble_eq_true rfl⟩) trivial hS rfl hl.1 rfl (Nat.le_of_ble_eq_true rfl) dX1_audit_3 ⟨Nat.zero_le _, Nat.zero_le _⟩ (fun H locs hz hk hS => ?_)
  have hR := hR.kept (fun a _ h => hk a h)
  by_cases c_1 : (xf_isIn p1 0 5) = true
  · skip
    have hf := (if_pos c_1).symm.trans hf
    have c_2 := xq_vp6 c_1
    refine ps_callv (As := [.int (if (xf_isIn p1 0 5) = true then 1 else 0)]) (rest := []) ⟨hx, hb, hml, hown, hts⟩ (xo_requireIndex l _) (va_cwS 1 hts (lw_S q298 q299 q33 q300) rfl rfl rfl (by decide +kernel) ⟨Nat.le_of_ble_eq_true rfl, Nat.le_of_ble_eq_true rfl⟩) (if_pos c_1) hS rfl hl.1 rfl (Nat.le_of_ble_eq_true rfl) dX1_audit_6 ⟨Nat.le_of_ble_eq_true rfl, Nat.le_of_ble_eq_true rfl⟩ (fun H locs hz hk hS => ?_)
    have hR := hR.kept (fun a _ h => hk a h)
    refine lv_iconst (v := 0) hx hb dX1_audit_9 (by decide) ?_
    refine lv_istore_n (lv' := [(2, .int 0), (0, .ref (g 0 0)), (1, .int p1)]) hx hb dX1_audit_10 rfl hl (by decide) rfl (fun ls hl => ?_)
    refine lv_iconst (v := 0) hx hb dX1_audit_11 (by decide) ?_
    refine lv_istore_n (lv' := [(3, .int 0), (2, .int 0), (0, .ref (g 0 0)), (1, .int p1)]) hx hb dX1_audit_12 rfl hl (by decide) rfl (fun ls hl => ?_)
    have hL_13 : ∀ (n_13 i_13 : Nat) (x2_13 : Int32) (H : Heap) (locs : List Loc) (ls : Array Slot), i_13 + n_13 = (nz S 1) → xp_audit_R13 S p1 n_13 i_13 x2_13 = (xp_audit_R13 S p1 (nz S 1) 0 0) → (xw E C g h S A) H → va_S A s.heap H locs → lv_has ls 4 [(0, .ref (g 0 0)), (1, .int p1), (2, .int x2_13), (3, .int (nI i_13))] → cx_G p l e { frames := 7, cells := 1, slots := 6, locals := 120 } s m [.ref (g 0 0), .int p1] below meth c A (xq_Q (fun z => z) E C (g 0 0) A (xp_audit S p1)) (xq_X E C g h S A (xp_audit S p1)) 1 6 H locs 0 0 (F0 m 13 ls []) := by
      intro n_13
      induction n_13 with
      | zero =>
        intro i_13 x2_13 H locs ls hi_13 hg_13 hR hS hl
        have hi_13 : i_13 = (nz S 1) := hi_13
        subst hi_13
        have e_x2_13 : x2_13 = (xp_audit_R13 S p1 (nz S 1) 0 0) := congrArg (fun z => z) hg_13
        subst e_x2_13
        refine lv_iload_n hx hb dX1_audit_13 rfl (lv_at hl 3 rfl) ?_
        refine lv_aload_n hx hb dX1_audit_14 rfl (lv_at hl 0 rfl) ?_
        refine kw_get (C := RX1) (T := TX1) (N := 12) (v := .ref (g 1 1)) hx hb hts in_X1 hown hK.1 hR 0 0 rfl rfl rfl 7 (by decide) (hts _ q176) (fun _ h9 => h9) rfl dX1_audit_15 ?_
        refine cq_F (v := (some (.int (S 21 1)))) (As := []) (rest := [.int (nI (nz S 1))]) hK hZ hA hAA hS hR ⟨(Nat.lt_of_lt_of_le (by decide) (Nat.le_add_right 7 _)), rfl⟩ (jt_size l E C A H.size (xok S) g (xen E C g h S) 1 (S 20 1) (S 21 1) (.ref (if cz S 1 = 0 then C.2.1 else g 2 1))) (fun _ h => hA _ (Nat.le_trans hS.1 h)) (hK.1.1 5 _ rfl).2 ⟨hx, hb, hml, hown, hts⟩ (va_cwF 0 hts (lw_F q389 q392 q394 q36 q396) rfl rfl rfl (fw_size hK) (by decide +kernel) ⟨Nat.le_of_ble_eq_true rfl, Nat.le_of_ble_eq_true rfl⟩) (kw_recv (t := 1) (i := 1) hK.1 hR (Nat.lt_of_lt_of_le (by decide) (Nat.le_add_right 7 _)) rfl rfl) rfl hl.1 rfl (Nat.le_of_ble_eq_true rfl) dX1_audit_18 ⟨Nat.le_of_ble_eq_true rfl, Nat.le_of_ble_eq_true rfl⟩ (fun H locs hB hz hk hS => ?_)
        have hR := hR.kept (fun a _ h => hk a h (Nat.not_le.mpr h))
        refine W.eq (g2 := F0 m 23 ls [.int (S 21 1), .int (nI (nz S 1))]) rfl ?_
        refine lv_icmp_ge (tgt := 81) hx hb dX1_audit_23 (by decide) (fun c_3 => ?_) (fun c_3 => absurd (lp_x0 ((xi_fn hI).1)) c_3)
        refine lv_iload_n hx hb dX1_audit_81 rfl (lv_at hl 2 rfl) ?_
        refine W.widen (k := 1) (n := 6) (Nat.le_of_ble_eq_true rfl) (Nat.le_of_ble_eq_true rfl) ?_
        exact vx_ret (W.iret (v := (xp_audit_R13 S p1 (nz S 1) 0 0)) hx hb hr (fun t ht hW => ⟨⟨_, _, hf.symm, rfl, g, h, rfl, hh, by rw [ht]; exact hR⟩, hS.F ht⟩) hS.2.2 dX1_audit_82)
      | succ n_13 ih_13 =>
        intro i_13 x2_13 H locs ls hi_13 hg_13 hR hS hl
        have hlt_13 : i_13 < (nz S 1) := by omega
        have hf_13 : xp_audit_L13 S p1 i_13 x2_13 = xp_audit_L13 S p1 i_13 x2_13 := rfl
        refine lv_iload_n hx hb dX1_audit_13 rfl (lv_at hl 3 rfl) ?_
        refine lv_aload_n hx hb dX1_audit_14 rfl (lv_at hl 0 rfl) ?_
        refine kw_get (C := RX1) (T := TX1) (N := 12) (v := .ref (g 1 1)) hx hb hts in_X1 hown hK.1 hR 0 0 rfl rfl rfl 7 (by decide) (hts _ q176) (fun _ h9 => h9) rfl dX1_audit_15 ?_
        refine cq_F (v := (some (.int (S 21 1)))) (As := []) (rest := [.int (nI i_13)]) hK hZ hA hAA hS hR ⟨(Nat.lt_of_lt_of_le (by decide) (Nat.le_add_right 7 _)), rfl⟩ (jt_size l E C A H.size (xok S) g (xen E C g h S) 1 (S 20 1) (S 21 1) (.ref (if cz S 1 = 0 then C.2.1 else g 2 1))) (fun _ h => hA _ (Nat.le_trans hS.1 h)) (hK.1.1 5 _ rfl).2 ⟨hx, hb, hml, hown, hts⟩ (va_cwF 0 hts (lw_F q389 q392 q394 q36 q396) rfl rfl rfl (fw_size hK) (by decide +kernel) ⟨Nat.le_of_ble_eq_true rfl, Nat.le_of_ble_eq_true rfl⟩) (kw_recv (t := 1) (i := 1) hK.1 hR (Nat.lt_of_lt_of_le (by decide) (Nat.le_add_right 7 _)) rfl rfl) rfl hl.1 rfl (Nat.le_of_ble_eq_true rfl) dX1_audit_18 ⟨Nat.le_of_ble_eq_true rfl, Nat.le_of_ble_eq_true rfl⟩ (fun H locs hB hz hk hS => ?_)
        have hR := hR.kept (fun a _ h => hk a h (Nat.not_le.mpr h))
        refine W.eq (g2 := F0 m 23 ls [.int (S 21 1), .int (nI i_13)]) rfl ?_
        refine lv_icmp_ge (tgt := 81) hx hb dX1_audit_23 (by decide) (fun c_4 => absurd c_4 (lp_x1 ((xi_fn hI).1) hlt_13 (by omega))) (fun c_4 => ?_)
        refine lv_iload_n hx hb dX1_audit_26 rfl (lv_at hl 2 rfl) ?_
        refine lv_aload_n hx hb dX1_audit_27 rfl (lv_at hl 0 rfl) ?_
        refine kw_get (C := RX1) (T := TX1) (N := 12) (v := .ref (g 1 1)) hx hb hts in_X1 hown hK.1 hR 0 0 rfl rfl rfl 7 (by decide) (hts _ q176) (fun _ h9 => h9) rfl dX1_audit_28 ?_
        refine lv_iload_n hx hb dX1_audit_31 rfl (lv_at hl 3 rfl) ?_
        refine cq_F (v := (some (.ref (g 3 i_13)))) (As := [.int (nI i_13)]) (rest := [.int x2_13]) hK hZ hA hAA hS hR (xg_get hI hh (Nat.lt_of_lt_of_le (by decide) (Nat.le_add_right 7 _)) (nI_nn (by omega)) (by rw [(xi_fn hI).1]; exact nI_lt hlt_13 (by omega)) (by rw [nI_clamp (by omega)]; rfl)) (jt_get l E C A H.size (xok S) g (xen E C g h S) 1 (S 20 1) (S 21 1) (cz S 1) (h 1) (nI i_13) (g 3 i_13)) (fun _ h => hA _ (Nat.le_trans hS.1 h)) (hK.1.1 5 _ rfl).2 ⟨hx, hb, hml, hown, hts⟩ (va_cwF 1 hts (lw_F q369 q372 q374 q36 q376) rfl rfl rfl (fw_get hK) (by decide +kernel) ⟨Nat.le_of_ble_eq_true rfl, Nat.le_of_ble_eq_true rfl⟩) (kw_recv (t := 1) (i := 1) hK.1 hR (Nat.lt_of_lt_of_le (by decide) (Nat.le_add_right 7 _)) rfl rfl) rfl hl.1 rfl (Nat.le_of_ble_eq_true rfl) dX1_audit_32 ⟨Nat.le_of_ble_eq_true rfl, Nat.le_of_ble_eq_true rfl⟩ (fun H locs hB hz hk hS => ?_)
        have hR := hR.kept (fun a _ h => hk a h (Nat.not_le.mpr h))
        refine W.eq (g2 := F0 m 37 ls [.ref (g 3 i_13), .int x2_13]) rfl ?_
        refine va_castS hx hb hown (hts _ q496) (hK.1.1 2 _ rfl).2 (kw_recv (t := 3) (i := i_13) hK.1 hR hlt_13 rfl rfl) dX1_audit_37 ?_
        refine kw_getN (C := RX3) (T := TX3) (N := 15) (v := .int (S 36 i_13)) hx hb hts in_X3 hown hK.1 hR 3 i_13 hlt_13 rfl rfl 6 (by decide) (va_Nw.use rfl (hK.2.1 _ q536 rfl)) (fun _ h9 => h9) rfl dX1_audit_40 ?_
        have hJ_73 : ∀ (H : Heap) (locs : List Loc) (ls : Array Slot) (v_73 : Int32), v_73 = (if (S 36 i_13) = 0 then (if (S 39 i_13) = p1 then (1 <<< ((nI i_13) &&& 31)) else 0) else 0) → (xw E C g h S A) H → va_S A s.heap H locs → lv_has ls 4 [(0, .ref (g 0 0)), (1, .int p1), (3, .int (nI i_13))] → cx_G p l e { frames := 7, cells := 1, slots := 6, locals := 120 } s m [.ref (g 0 0), .int p1] below meth c A (xq_Q (fun z => z) E C (g 0 0) A (xp_audit S p1)) (xq_X E C g h S A (xp_audit S p1)) 1 6 H locs 0 0 (F0 m 73 ls [.int v_73, .int x2_13]) := by
          intro H locs ls v_73 e_v_73 hR hS hl
          subst e_v_73
          refine lv_ior hx hb dX1_audit_73 ?_
          refine lv_istore_n (lv' := [(2, .int (x2_13 ||| (if (S 36 i_13) = 0 then (if (S 39 i_13) = p1 then (1 <<< ((nI i_13) &&& 31)) else 0) else 0))), (0, .ref (g 0 0)), (1, .int p1), (3, .int (nI i_13))]) hx hb dX1_audit_74 rfl hl (by decide) rfl (fun ls hl => ?_)
          refine lv_iinc (v := (nI (i_13 + 1))) (lv' := [(3, .int (nI (i_13 + 1))), (2, .int (x2_13 ||| (if (S 36 i_13) = 0 then (if (S 39 i_13) = p1 then (1 <<< ((nI i_13) &&& 31)) else 0) else 0))), (0, .ref (g 0 0)), (1, .int p1)]) hx hb dX1_audit_75 hl (k := 3) rfl (nI_1 i_13) (by decide) rfl (fun ls hl => ?_)
          refine lv_goto (tgt := 13) hx hb dX1_audit_78 (by decide) ?_
          exact ih_13 (i_13 + 1) (x2_13 ||| (if (S 36 i_13) = 0 then (if (S 39 i_13) = p1 then (1 <<< ((nI i_13) &&& 31)) else 0) else 0)) _ _ _ (by omega) ((congrArg (fun z => xp_audit_R13 S p1 n_13 (i_13 + 1) z) hf_13).trans hg_13) hR hS (lv_sub hl [2, 3, 1, 0] rfl)
        refine lv_if_ne (tgt := 72) hx hb dX1_audit_43 (by decide) (fun c_5 => ?_) (fun c_5 => ?_)
        · skip
          refine lv_iconst (v := 0) hx hb dX1_audit_72 (by decide) ?_
          exact hJ_73 _ _ _ 0 ((if_neg c_5).symm) hR hS (lv_sub hl [0, 1, 3] rfl)
        · skip
          refine lv_aload_n hx hb dX1_audit_46 rfl (lv_at hl 0 rfl) ?_
          refine kw_get (C := RX1) (T := TX1) (N := 12) (v := .ref (g 1 1)) hx hb hts in_X1 hown hK.1 hR 0 0 rfl rfl rfl 7 (by decide) (hts _ q176) (fun _ h9 => h9) rfl dX1_audit_47 ?_
          refine lv_iload_n hx hb dX1_audit_50 rfl (lv_at hl 3 rfl) ?_
          refine cq_F (v := (some (.ref (g 3 i_13)))) (As := [.int (nI i_13)]) (rest := [.int x2_13]) hK hZ hA hAA hS hR (xg_get hI hh (Nat.lt_of_lt_of_le (by decide) (Nat.le_add_right 7 _)) (nI_nn (by omega)) (by rw [(xi_fn hI).1]; exact nI_lt hlt_13 (by omega)) (by rw [nI_clamp (by omega)]; rfl)) (jt_get l E C A H.size (xok S) g (xen E C g h S) 1 (S 20 1) (S 21 1) (cz S 1) (h 1) (nI i_13) (g 3 i_13)) (fun _ h => hA _ (Nat.le_trans hS.1 h)) (hK.1.1 5 _ rfl).2 ⟨hx, hb, hml, hown, hts⟩ (va_cwF 1 hts (lw_F q369 q372 q374 q36 q376) rfl rfl rfl (fw_get hK) (by decide +kernel) ⟨Nat.le_of_ble_eq_true rfl, Nat.le_of_ble_eq_true rfl⟩) (kw_recv (t := 1) (i := 1) hK.1 hR (Nat.lt_of_lt_of_le (by decide) (Nat.le_add_right 7 _)) rfl rfl) rfl hl.1 rfl (Nat.le_of_ble_eq_true rfl) dX1_audit_51 ⟨Nat.le_of_ble_eq_true rfl, Nat.le_of_ble_eq_true rfl⟩ (fun H locs hB hz hk hS => ?_)
          have hR := hR.kept (fun a _ h => hk a h (Nat.not_le.mpr h))
          refine W.eq (g2 := F0 m 56 ls [.ref (g 3 i_13), .int x2_13]) rfl ?_
          refine va_castS hx hb hown (hts _ q496) (hK.1.1 2 _ rfl).2 (kw_recv (t := 3) (i := i_13) hK.1 hR hlt_13 rfl rfl) dX1_audit_56 ?_
          refine kw_getN (C := RX3) (T := TX3) (N := 15) (v := .int (S 39 i_13)) hx hb hts in_X3 hown hK.1 hR 3 i_13 hlt_13 rfl rfl 9 (by decide) (va_Nw.use rfl (hK.2.1 _ q541 rfl)) (fun _ h9 => h9) rfl dX1_audit_59 ?_
          refine lv_iload_n hx hb dX1_audit_62 rfl (lv_at hl 1 rfl) ?_
          refine lv_icmp_ne (tgt := 72) hx hb dX1_audit_63 (by decide) (fun c_6 => ?_) (fun c_6 => ?_)
          · skip
            refine lv_iconst (v := 0) hx hb dX1_audit_72 (by decide) ?_
            exact hJ_73 _ _ _ 0 (((if_neg c_6).symm).trans (if_pos c_5).symm) hR hS (lv_sub hl [0, 1, 3] rfl)
          · skip
            refine lv_iconst (v := 1) hx hb dX1_audit_66 (by decide) ?_
            refine lv_iload_n hx hb dX1_audit_67 rfl (lv_at hl 3 rfl) ?_
            refine lv_ishl hx hb dX1_audit_68 ?_
            refine lv_goto (tgt := 73) hx hb dX1_audit_69 (by decide) ?_
            exact hJ_73 _ _ _ (1 <<< ((nI i_13) &&& 31)) (((if_pos c_6).symm).trans (if_pos c_5).symm) hR hS (lv_sub hl [0, 1, 3] rfl)
    exact hL_13 (nz S 1) 0 0 _ _ _ (by omega) rfl hR hS (lv_sub hl [2, 3, 1, 0] rfl)
  · skip
    have hf := (if_neg c_1).symm.trans hf
    refine W.eq (g2 := F0 m 6 ls [.int 0]) (congrArg (fun z => F0 m 6 ls (.int z :: [])) (if_neg c_1)) ?_
    refine cx_S (X := fun _ => True) (P := True) (As := [.int 0]) (rest := []) hK hZ hA hAA hS trivial trivial (xt_requireIndex l hfl E C A H.size) (fun _ h => hA _ (Nat.le_trans hS.1 h)) ⟨hx, hb, hml, hown, hts⟩ (va_cwS 1 hts (lw_S q298 q299 q33 q300) rfl rfl rfl (by decide +kernel) ⟨Nat.le_of_ble_eq_true rfl, Nat.le_of_ble_eq_true rfl⟩) rfl hl.1 rfl (Nat.le_of_ble_eq_true rfl) dX1_audit_6 ⟨Nat.le_of_ble_eq_true rfl, Nat.le_of_ble_eq_true rfl⟩ (fun ce q9 H locs hB hz hk hS hc9 hv9 hcl => ?_)
    have hR := hR.kept (fun a _ h => hk a h (Nat.not_le.mpr h))
    exact vx_out (fun x h => (hnt x h).elim) hlocks hc9 hv9 hcl (fun t ht _ => ⟨⟨hf.symm, by rw [ht]; exact hR⟩, hS.F ht⟩) hS.2.2 (Nat.le_of_ble_eq_true rfl) (Nat.le_of_ble_eq_true rfl)
