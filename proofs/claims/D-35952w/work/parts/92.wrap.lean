/-- what a wrapper answers: the place of the exception among its handlers, or 0 and the value in out[0] -/
def cw_Q {α : Type} (vl : α → Int32) (L : List String) (E : en_T) (C : ex_C) (g : kw_A) (h : xh_T) (S : gs_T) (o x0 : Nat) (A : Nat → Prop) (f : String ⊕ (α × gs_T)) : Array Value → State → Outcome → State → Prop := fun _ st oc t => ((∃ (Xn : String) (i : Nat) (v' : Nat → Int64), f = .inl Xn ∧ L[i]? = some Xn ∧ oc = .returned (some (.int (nI (i + 1)))) ∧ xo E C g h S o v' A t.heap) ∨ ∃ (r : α) (S' : gs_T) (g' : kw_A) (h' : xh_T) (v' : Nat → Int64), f = .inr (r, S') ∧ oc = .returned (some (.int 0)) ∧ g' 0 0 = x0 ∧ xh C g' h' S' ∧ v' 0 = (vl r).toInt64 ∧ xo E C g' h' S' o v' A t.heap) ∧ va_F A st t
set_option maxHeartbeats 2000000 in
set_option maxRecDepth 100000 in
theorem wt_near (l : Launch) (hfl : l.stackTraces = false) (E : en_T) (C : ex_C) (A : Nat → Prop) (sz : Nat) (g : kw_A) (h : xh_T) (S : gs_T) (o : Nat) (v : Nat → Int64) (p1 : Int32) (p2 : Int32) : vx_Met l yX0_near (wsW_ yX0_near cX0_near 5 (some .int) [(0, 17, 20, 13), (0, 17, 24, 15)]) { frames := 8, cells := 1, slots := 6, locals := 142 } (cpw E C A sz [.ref (g 0 0), .int p1, .int p2, .ref o] (xo E C g h S o v A) (xi_ok S ∧ xh C g h S)) (cw_Q gs_bz ["java/lang/IndexOutOfBoundsException", "java/lang/IllegalArgumentException"] E C g h S o (g 0 0) A (xp_near S p1 p2)) (fun _ _ _ => False) 1 6 A := by
  refine cw_start (by decide) (Nat.le_of_ble_eq_true rfl) ?_
  intro p e s m below meth c ls hx hb hr hlocks hml hown htb hts hsz hK hN hZ hA hR hP hl
  subst hsz
  have hAA : ∀ a, A a → A a := fun _ h => h
  have hl : lv_has ls 5 [(0, .ref (g 0 0)), (1, .int p1), (2, .int p2), (3, .ref o)] := hl
  have hS : va_S A s.heap s.heap [] := va_S.rf
  obtain ⟨hI, hh⟩ := hP
  refine lv_aload_n hx hb dX0_near_0 rfl (lv_at hl 3 rfl) ?_
  refine lv_iconst (v := 0) hx hb dX0_near_1 (by decide) ?_
  refine lv_aload_n hx hb dX0_near_2 rfl (lv_at hl 0 rfl) ?_
  refine lv_iload_n hx hb dX0_near_3 rfl (lv_at hl 1 rfl) ?_
  refine lv_iload_n hx hb dX0_near_4 rfl (lv_at hl 2 rfl) ?_
  refine wq_V (As := [.int p1, .int p2]) (rest := [.int 0, .ref o]) (x0 := g 0 0) hK hZ hAA hS (fun _ h => h.1) (fun _ h => h.1) (nk_new hA hS.1 hR) (nk_x xok_9 hR) ⟨hI, hh⟩ (xs_near l hfl E C (fun a => A a ∧ a ≠ o) s.heap.size g h S p1 p2) ⟨hx, hb, hml, hown, hts⟩ (cwV 2 hts (lw_V q291 q292 q293 q33 q294) rfl rfl rfl (by decide +kernel) ⟨Nat.le_of_ble_eq_true rfl, Nat.le_of_ble_eq_true rfl⟩) (kw_recv (t := 0) (i := 0) hK.1 (nk_x xok_9 hR) rfl rfl rfl) rfl hl.1 rfl (Nat.le_of_ble_eq_true rfl) dX0_near_5 ⟨Nat.le_of_ble_eq_true rfl, Nat.le_of_ble_eq_true rfl⟩ (fun Xn ce q9 H locs hf hB hz hk hS hc9 hv9 hcl => ?_) (fun r S' g' h' H locs hf hg0 hh' hB hz hk hS => ?_)
  · have hR := nk_join hR hB hk
    rcases xn_near hf with rfl | rfl
    · refine vx_catch (own := "LostroomLaw") (name := "java/lang/IndexOutOfBoundsException") hown [] ⟨0, 17, 20, 13⟩ [⟨0, 17, 24, 15⟩] htb (fun z hz => nomatch hz) rfl (by decide) (hts _ q213) (va_Nw.use rfl (hK.2.1 _ q303 rfl)) hc9 hv9 hcl ?_
      refine lv_astore (lv' := [(4, .ref q9), (0, .ref (g 0 0)), (1, .int p1), (2, .int p2), (3, .ref o)]) hx hb dX0_near_20 hl (by decide) rfl (fun ls hl => ?_)
      refine lv_iconst (v := 1) hx hb dX0_near_22 (by decide) ?_
      exact vx_ret (W.iret (v := 1) hx hb hr (fun t ht hW => ⟨Or.inl ⟨_, 0, _, hf, rfl, rfl, by rw [ht]; exact hR⟩, hS.F ht⟩) hS.2.2 dX0_near_23)
    · refine vx_catch (own := "LostroomLaw") (name := "java/lang/IllegalArgumentException") hown [⟨0, 17, 20, 13⟩] ⟨0, 17, 24, 15⟩ [] htb (fun z hz => by rw [List.mem_singleton] at hz; subst hz; exact Or.inr ⟨by decide, _, hts _ q213, hN.1⟩) rfl (by decide) (hts _ q290) (va_Nw.use rfl (hK.2.1 _ q327 rfl)) hc9 hv9 hcl ?_
      refine lv_astore (lv' := [(4, .ref q9), (0, .ref (g 0 0)), (1, .int p1), (2, .int p2), (3, .ref o)]) hx hb dX0_near_24 hl (by decide) rfl (fun ls hl => ?_)
      refine lv_iconst (v := 2) hx hb dX0_near_26 (by decide) ?_
      exact vx_ret (W.iret (v := 2) hx hb hr (fun t ht hW => ⟨Or.inl ⟨_, 1, _, hf, rfl, rfl, by rw [ht]; exact hR⟩, hS.F ht⟩) hS.2.2 dX0_near_27)
  · have hR := nk_join hR hB hk
    cases r with
    | true =>
      refine W.eq (g2 := F0 m 8 ls [.int 1, .int 0, .ref o]) rfl ?_
      refine lv_if_eq (tgt := 15) hx hb dX0_near_8 (by decide) (fun h => absurd h (by decide)) (fun _ => ?_)
      refine lv_lconst (v := 1) hx hb dX0_near_11 (by decide) ?_
      refine lv_goto (tgt := 16) hx hb dX0_near_12 (by decide) ?_
      refine xo_last hx hb hK.1 hR hS dX0_near_16 (fun H locs v' hv hR hS => ?_)
      refine lv_goto (tgt := 28) hx hb dX0_near_17 (by decide) ?_
      refine lv_iconst (v := 0) hx hb dX0_near_28 (by decide) ?_
      exact vx_ret (W.iret (v := 0) hx hb hr (fun t ht hW => ⟨Or.inr ⟨_, _, g', h', _, hf, rfl, hg0, hh', hv.trans (by decide), by rw [ht]; exact hR⟩, hS.F ht⟩) hS.2.2 dX0_near_29)
    | false =>
      refine W.eq (g2 := F0 m 8 ls [.int 0, .int 0, .ref o]) rfl ?_
      refine lv_if_eq (tgt := 15) hx hb dX0_near_8 (by decide) (fun _ => ?_) (fun h => absurd rfl h)
      refine lv_lconst (v := 0) hx hb dX0_near_15 (by decide) ?_
      refine xo_last hx hb hK.1 hR hS dX0_near_16 (fun H locs v' hv hR hS => ?_)
      refine lv_goto (tgt := 28) hx hb dX0_near_17 (by decide) ?_
      refine lv_iconst (v := 0) hx hb dX0_near_28 (by decide) ?_
      exact vx_ret (W.iret (v := 0) hx hb hr (fun t ht hW => ⟨Or.inr ⟨_, _, g', h', _, hf, rfl, hg0, hh', hv.trans (by decide), by rw [ht]; exact hR⟩, hS.F ht⟩) hS.2.2 dX0_near_29)
set_option maxHeartbeats 2000000 in
set_option maxRecDepth 100000 in
theorem wt_alike (l : Launch) (hfl : l.stackTraces = false) (E : en_T) (C : ex_C) (A : Nat → Prop) (sz : Nat) (g : kw_A) (h : xh_T) (S : gs_T) (o : Nat) (v : Nat → Int64) (p1 : Int32) (p2 : Int32) : vx_Met l yX0_alike (wsW_ yX0_alike cX0_alike 5 (some .int) [(0, 17, 20, 13), (0, 17, 24, 15)]) { frames := 9, cells := 1, slots := 6, locals := 162 } (cpw E C A sz [.ref (g 0 0), .int p1, .int p2, .ref o] (xo E C g h S o v A) (xi_ok S ∧ xh C g h S)) (cw_Q gs_bz ["java/lang/IndexOutOfBoundsException", "java/lang/IllegalArgumentException"] E C g h S o (g 0 0) A (xp_alike S p1 p2)) (fun _ _ _ => False) 1 6 A := by
  refine cw_start (by decide) (Nat.le_of_ble_eq_true rfl) ?_
  intro p e s m below meth c ls hx hb hr hlocks hml hown htb hts hsz hK hN hZ hA hR hP hl
  subst hsz
  have hAA : ∀ a, A a → A a := fun _ h => h
  have hl : lv_has ls 5 [(0, .ref (g 0 0)), (1, .int p1), (2, .int p2), (3, .ref o)] := hl
  have hS : va_S A s.heap s.heap [] := va_S.rf
  obtain ⟨hI, hh⟩ := hP
  refine lv_aload_n hx hb dX0_alike_0 rfl (lv_at hl 3 rfl) ?_
  refine lv_iconst (v := 0) hx hb dX0_alike_1 (by decide) ?_
  refine lv_aload_n hx hb dX0_alike_2 rfl (lv_at hl 0 rfl) ?_
  refine lv_iload_n hx hb dX0_alike_3 rfl (lv_at hl 1 rfl) ?_
  refine lv_iload_n hx hb dX0_alike_4 rfl (lv_at hl 2 rfl) ?_
  refine wq_V (As := [.int p1, .int p2]) (rest := [.int 0, .ref o]) (x0 := g 0 0) hK hZ hAA hS (fun _ h => h.1) (fun _ h => h.1) (nk_new hA hS.1 hR) (nk_x xok_9 hR) ⟨hI, hh⟩ (xs_alike l hfl E C (fun a => A a ∧ a ≠ o) s.heap.size g h S p1 p2) ⟨hx, hb, hml, hown, hts⟩ (cwV 2 hts (lw_V q346 q347 q348 q33 q349) rfl rfl rfl (by decide +kernel) ⟨Nat.le_of_ble_eq_true rfl, Nat.le_of_ble_eq_true rfl⟩) (kw_recv (t := 0) (i := 0) hK.1 (nk_x xok_9 hR) rfl rfl rfl) rfl hl.1 rfl (Nat.le_of_ble_eq_true rfl) dX0_alike_5 ⟨Nat.le_of_ble_eq_true rfl, Nat.le_of_ble_eq_true rfl⟩ (fun Xn ce q9 H locs hf hB hz hk hS hc9 hv9 hcl => ?_) (fun r S' g' h' H locs hf hg0 hh' hB hz hk hS => ?_)
  · have hR := nk_join hR hB hk
    rcases xn_alike hf with rfl | rfl
    · refine vx_catch (own := "LostroomLaw") (name := "java/lang/IndexOutOfBoundsException") hown [] ⟨0, 17, 20, 13⟩ [⟨0, 17, 24, 15⟩] htb (fun z hz => nomatch hz) rfl (by decide) (hts _ q213) (va_Nw.use rfl (hK.2.1 _ q303 rfl)) hc9 hv9 hcl ?_
      refine lv_astore (lv' := [(4, .ref q9), (0, .ref (g 0 0)), (1, .int p1), (2, .int p2), (3, .ref o)]) hx hb dX0_alike_20 hl (by decide) rfl (fun ls hl => ?_)
      refine lv_iconst (v := 1) hx hb dX0_alike_22 (by decide) ?_
      exact vx_ret (W.iret (v := 1) hx hb hr (fun t ht hW => ⟨Or.inl ⟨_, 0, _, hf, rfl, rfl, by rw [ht]; exact hR⟩, hS.F ht⟩) hS.2.2 dX0_alike_23)
    · refine vx_catch (own := "LostroomLaw") (name := "java/lang/IllegalArgumentException") hown [⟨0, 17, 20, 13⟩] ⟨0, 17, 24, 15⟩ [] htb (fun z hz => by rw [List.mem_singleton] at hz; subst hz; exact Or.inr ⟨by decide, _, hts _ q213, hN.1⟩) rfl (by decide) (hts _ q290) (va_Nw.use rfl (hK.2.1 _ q327 rfl)) hc9 hv9 hcl ?_
      refine lv_astore (lv' := [(4, .ref q9), (0, .ref (g 0 0)), (1, .int p1), (2, .int p2), (3, .ref o)]) hx hb dX0_alike_24 hl (by decide) rfl (fun ls hl => ?_)
      refine lv_iconst (v := 2) hx hb dX0_alike_26 (by decide) ?_
      exact vx_ret (W.iret (v := 2) hx hb hr (fun t ht hW => ⟨Or.inl ⟨_, 1, _, hf, rfl, rfl, by rw [ht]; exact hR⟩, hS.F ht⟩) hS.2.2 dX0_alike_27)
  · have hR := nk_join hR hB hk
    cases r with
    | true =>
      refine W.eq (g2 := F0 m 8 ls [.int 1, .int 0, .ref o]) rfl ?_
      refine lv_if_eq (tgt := 15) hx hb dX0_alike_8 (by decide) (fun h => absurd h (by decide)) (fun _ => ?_)
      refine lv_lconst (v := 1) hx hb dX0_alike_11 (by decide) ?_
      refine lv_goto (tgt := 16) hx hb dX0_alike_12 (by decide) ?_
      refine xo_last hx hb hK.1 hR hS dX0_alike_16 (fun H locs v' hv hR hS => ?_)
      refine lv_goto (tgt := 28) hx hb dX0_alike_17 (by decide) ?_
      refine lv_iconst (v := 0) hx hb dX0_alike_28 (by decide) ?_
      exact vx_ret (W.iret (v := 0) hx hb hr (fun t ht hW => ⟨Or.inr ⟨_, _, g', h', _, hf, rfl, hg0, hh', hv.trans (by decide), by rw [ht]; exact hR⟩, hS.F ht⟩) hS.2.2 dX0_alike_29)
    | false =>
      refine W.eq (g2 := F0 m 8 ls [.int 0, .int 0, .ref o]) rfl ?_
      refine lv_if_eq (tgt := 15) hx hb dX0_alike_8 (by decide) (fun _ => ?_) (fun h => absurd rfl h)
      refine lv_lconst (v := 0) hx hb dX0_alike_15 (by decide) ?_
      refine xo_last hx hb hK.1 hR hS dX0_alike_16 (fun H locs v' hv hR hS => ?_)
      refine lv_goto (tgt := 28) hx hb dX0_alike_17 (by decide) ?_
      refine lv_iconst (v := 0) hx hb dX0_alike_28 (by decide) ?_
      exact vx_ret (W.iret (v := 0) hx hb hr (fun t ht hW => ⟨Or.inr ⟨_, _, g', h', _, hf, rfl, hg0, hh', hv.trans (by decide), by rw [ht]; exact hR⟩, hS.F ht⟩) hS.2.2 dX0_alike_29)
set_option maxHeartbeats 2000000 in
set_option maxRecDepth 100000 in
theorem wt_rule (l : Launch) (hfl : l.stackTraces = false) (E : en_T) (C : ex_C) (A : Nat → Prop) (sz : Nat) (g : kw_A) (h : xh_T) (S : gs_T) (o : Nat) (v : Nat → Int64) (p1 : Int32) (p2 : Int32) (p3 : Int32) : vx_Met l yX0_rule (wsW_ yX0_rule cX0_rule 6 (some .int) [(0, 12, 15, 13), (0, 12, 19, 15)]) { frames := 9, cells := 1, slots := 6, locals := 164 } (cpw E C A sz [.ref (g 0 0), .int p1, .int p2, .int p3, .ref o] (xo E C g h S o v A) (xi_ok S ∧ xh C g h S)) (cw_Q (fun z => z) ["java/lang/IndexOutOfBoundsException", "java/lang/IllegalArgumentException"] E C g h S o (g 0 0) A (xp_rule S p1 p2 p3)) (fun _ _ _ => False) 1 6 A := by
  refine cw_start (by decide) (Nat.le_of_ble_eq_true rfl) ?_
  intro p e s m below meth c ls hx hb hr hlocks hml hown htb hts hsz hK hN hZ hA hR hP hl
  subst hsz
  have hAA : ∀ a, A a → A a := fun _ h => h
  have hl : lv_has ls 6 [(0, .ref (g 0 0)), (1, .int p1), (2, .int p2), (3, .int p3), (4, .ref o)] := hl
  have hS : va_S A s.heap s.heap [] := va_S.rf
  obtain ⟨hI, hh⟩ := hP
  refine lv_aload hx hb dX0_rule_0 (lv_at hl 4 rfl) ?_
  refine lv_iconst (v := 0) hx hb dX0_rule_2 (by decide) ?_
  refine lv_aload_n hx hb dX0_rule_3 rfl (lv_at hl 0 rfl) ?_
  refine lv_iload_n hx hb dX0_rule_4 rfl (lv_at hl 1 rfl) ?_
  refine lv_iload_n hx hb dX0_rule_5 rfl (lv_at hl 2 rfl) ?_
  refine lv_iload_n hx hb dX0_rule_6 rfl (lv_at hl 3 rfl) ?_
  refine wq_V (As := [.int p1, .int p2, .int p3]) (rest := [.int 0, .ref o]) (x0 := g 0 0) hK hZ hAA hS (fun _ h => h.1) (fun _ h => h.1) (nk_new hA hS.1 hR) (nk_x xok_9 hR) ⟨hI, hh⟩ (xs_rule l hfl E C (fun a => A a ∧ a ≠ o) s.heap.size g h S p1 p2 p3) ⟨hx, hb, hml, hown, hts⟩ (cwV 3 hts (lw_V q356 q357 q358 q33 q359) rfl rfl rfl (by decide +kernel) ⟨Nat.le_of_ble_eq_true rfl, Nat.le_of_ble_eq_true rfl⟩) (kw_recv (t := 0) (i := 0) hK.1 (nk_x xok_9 hR) rfl rfl rfl) rfl hl.1 rfl (Nat.le_of_ble_eq_true rfl) dX0_rule_7 ⟨Nat.le_of_ble_eq_true rfl, Nat.le_of_ble_eq_true rfl⟩ (fun Xn ce q9 H locs hf hB hz hk hS hc9 hv9 hcl => ?_) (fun r S' g' h' H locs hf hg0 hh' hB hz hk hS => ?_)
  · have hR := nk_join hR hB hk
    rcases xn_rule hf with rfl | rfl
    · refine vx_catch (own := "LostroomLaw") (name := "java/lang/IndexOutOfBoundsException") hown [] ⟨0, 12, 15, 13⟩ [⟨0, 12, 19, 15⟩] htb (fun z hz => nomatch hz) rfl (by decide) (hts _ q213) (va_Nw.use rfl (hK.2.1 _ q303 rfl)) hc9 hv9 hcl ?_
      refine lv_astore (lv' := [(5, .ref q9), (0, .ref (g 0 0)), (1, .int p1), (2, .int p2), (3, .int p3), (4, .ref o)]) hx hb dX0_rule_15 hl (by decide) rfl (fun ls hl => ?_)
      refine lv_iconst (v := 1) hx hb dX0_rule_17 (by decide) ?_
      exact vx_ret (W.iret (v := 1) hx hb hr (fun t ht hW => ⟨Or.inl ⟨_, 0, _, hf, rfl, rfl, by rw [ht]; exact hR⟩, hS.F ht⟩) hS.2.2 dX0_rule_18)
    · refine vx_catch (own := "LostroomLaw") (name := "java/lang/IllegalArgumentException") hown [⟨0, 12, 15, 13⟩] ⟨0, 12, 19, 15⟩ [] htb (fun z hz => by rw [List.mem_singleton] at hz; subst hz; exact Or.inr ⟨by decide, _, hts _ q213, hN.1⟩) rfl (by decide) (hts _ q290) (va_Nw.use rfl (hK.2.1 _ q327 rfl)) hc9 hv9 hcl ?_
      refine lv_astore (lv' := [(5, .ref q9), (0, .ref (g 0 0)), (1, .int p1), (2, .int p2), (3, .int p3), (4, .ref o)]) hx hb dX0_rule_19 hl (by decide) rfl (fun ls hl => ?_)
      refine lv_iconst (v := 2) hx hb dX0_rule_21 (by decide) ?_
      exact vx_ret (W.iret (v := 2) hx hb hr (fun t ht hW => ⟨Or.inl ⟨_, 1, _, hf, rfl, rfl, by rw [ht]; exact hR⟩, hS.F ht⟩) hS.2.2 dX0_rule_22)
  · have hR := nk_join hR hB hk
    refine lv_i2l (v := r.toInt64) hx hb dX0_rule_10 rfl ?_
    refine xo_last hx hb hK.1 hR hS dX0_rule_11 (fun H locs v' hv hR hS => ?_)
    refine lv_goto (tgt := 23) hx hb dX0_rule_12 (by decide) ?_
    refine lv_iconst (v := 0) hx hb dX0_rule_23 (by decide) ?_
    exact vx_ret (W.iret (v := 0) hx hb hr (fun t ht hW => ⟨Or.inr ⟨_, _, g', h', _, hf, rfl, hg0, hh', hv, by rw [ht]; exact hR⟩, hS.F ht⟩) hS.2.2 dX0_rule_24)
set_option maxHeartbeats 2000000 in
set_option maxRecDepth 100000 in
theorem wt_threshold (l : Launch) (hfl : l.stackTraces = false) (E : en_T) (C : ex_C) (A : Nat → Prop) (sz : Nat) (g : kw_A) (h : xh_T) (S : gs_T) (o : Nat) (v : Nat → Int64) (p1 : Int32) : vx_Met l yX0_threshold (wsW_ yX0_threshold cX0_threshold 4 (some .int) [(0, 9, 12, 15)]) { frames := 8, cells := 1, slots := 6, locals := 142 } (cpw E C A sz [.ref (g 0 0), .int p1, .ref o] (xo E C g h S o v A) (xi_ok S ∧ xh C g h S)) (cw_Q (fun z => z) ["java/lang/IllegalArgumentException"] E C g h S o (g 0 0) A (xp_threshold S p1)) (fun _ _ _ => False) 1 6 A := by
  refine cw_start (by decide) (Nat.le_of_ble_eq_true rfl) ?_
  intro p e s m below meth c ls hx hb hr hlocks hml hown htb hts hsz hK hN hZ hA hR hP hl
  subst hsz
  have hAA : ∀ a, A a → A a := fun _ h => h
  have hl : lv_has ls 4 [(0, .ref (g 0 0)), (1, .int p1), (2, .ref o)] := hl
  have hS : va_S A s.heap s.heap [] := va_S.rf
  obtain ⟨hI, hh⟩ := hP
  refine lv_aload_n hx hb dX0_threshold_0 rfl (lv_at hl 2 rfl) ?_
  refine lv_iconst (v := 0) hx hb dX0_threshold_1 (by decide) ?_
  refine lv_aload_n hx hb dX0_threshold_2 rfl (lv_at hl 0 rfl) ?_
  refine lv_iload_n hx hb dX0_threshold_3 rfl (lv_at hl 1 rfl) ?_
  refine wq_V (As := [.int p1]) (rest := [.int 0, .ref o]) (x0 := g 0 0) hK hZ hAA hS (fun _ h => h.1) (fun _ h => h.1) (nk_new hA hS.1 hR) (nk_x xok_9 hR) ⟨hI, hh⟩ (xs_threshold l hfl E C (fun a => A a ∧ a ≠ o) s.heap.size g h S p1) ⟨hx, hb, hml, hown, hts⟩ (cwV 1 hts (lw_V q478 q479 q480 q33 q481) rfl rfl rfl (by decide +kernel) ⟨Nat.le_of_ble_eq_true rfl, Nat.le_of_ble_eq_true rfl⟩) (kw_recv (t := 0) (i := 0) hK.1 (nk_x xok_9 hR) rfl rfl rfl) rfl hl.1 rfl (Nat.le_of_ble_eq_true rfl) dX0_threshold_4 ⟨Nat.le_of_ble_eq_true rfl, Nat.le_of_ble_eq_true rfl⟩ (fun Xn ce q9 H locs hf hB hz hk hS hc9 hv9 hcl => ?_) (fun r S' g' h' H locs hf hg0 hh' hB hz hk hS => ?_)
  · have hR := nk_join hR hB hk
    rcases xn_threshold hf with rfl
    · refine vx_catch (own := "LostroomLaw") (name := "java/lang/IllegalArgumentException") hown [] ⟨0, 9, 12, 15⟩ [] htb (fun z hz => nomatch hz) rfl (by decide) (hts _ q290) (va_Nw.use rfl (hK.2.1 _ q327 rfl)) hc9 hv9 hcl ?_
      refine lv_astore_n (lv' := [(3, .ref q9), (0, .ref (g 0 0)), (1, .int p1), (2, .ref o)]) hx hb dX0_threshold_12 rfl hl (by decide) rfl (fun ls hl => ?_)
      refine lv_iconst (v := 1) hx hb dX0_threshold_13 (by decide) ?_
      exact vx_ret (W.iret (v := 1) hx hb hr (fun t ht hW => ⟨Or.inl ⟨_, 0, _, hf, rfl, rfl, by rw [ht]; exact hR⟩, hS.F ht⟩) hS.2.2 dX0_threshold_14)
  · have hR := nk_join hR hB hk
    refine lv_i2l (v := r.toInt64) hx hb dX0_threshold_7 rfl ?_
    refine xo_last hx hb hK.1 hR hS dX0_threshold_8 (fun H locs v' hv hR hS => ?_)
    refine lv_goto (tgt := 15) hx hb dX0_threshold_9 (by decide) ?_
    refine lv_iconst (v := 0) hx hb dX0_threshold_15 (by decide) ?_
    exact vx_ret (W.iret (v := 0) hx hb hr (fun t ht hW => ⟨Or.inr ⟨_, _, g', h', _, hf, rfl, hg0, hh', hv, by rw [ht]; exact hR⟩, hS.F ht⟩) hS.2.2 dX0_threshold_16)
set_option maxHeartbeats 2000000 in
set_option maxRecDepth 100000 in
theorem wt_see (l : Launch) (hfl : l.stackTraces = false) (E : en_T) (C : ex_C) (A : Nat → Prop) (sz : Nat) (g : kw_A) (h : xh_T) (S : gs_T) (o : Nat) (v : Nat → Int64) (p1 : Int32) (p2 : Int32) : vx_Met l yX0_see (wsW_ yX0_see cX0_see 5 (some .int) [(0, 10, 13, 13), (0, 10, 17, 15), (0, 10, 21, 28)]) { frames := 9, cells := 1, slots := 6, locals := 164 } (cpw E C A sz [.ref (g 0 0), .int p1, .int p2, .ref o] (xo E C g h S o v A) (xi_ok S ∧ xh C g h S)) (cw_Q (fun z => z) ["java/lang/IndexOutOfBoundsException", "java/lang/IllegalArgumentException", "java/lang/IllegalStateException"] E C g h S o (g 0 0) A (xp_see S p1 p2)) (fun _ _ _ => False) 1 6 A := by
  refine cw_start (by decide) (Nat.le_of_ble_eq_true rfl) ?_
  intro p e s m below meth c ls hx hb hr hlocks hml hown htb hts hsz hK hN hZ hA hR hP hl
  subst hsz
  have hAA : ∀ a, A a → A a := fun _ h => h
  have hl : lv_has ls 5 [(0, .ref (g 0 0)), (1, .int p1), (2, .int p2), (3, .ref o)] := hl
  have hS : va_S A s.heap s.heap [] := va_S.rf
  obtain ⟨hI, hh⟩ := hP
  refine lv_aload_n hx hb dX0_see_0 rfl (lv_at hl 3 rfl) ?_
  refine lv_iconst (v := 0) hx hb dX0_see_1 (by decide) ?_
  refine lv_aload_n hx hb dX0_see_2 rfl (lv_at hl 0 rfl) ?_
  refine lv_iload_n hx hb dX0_see_3 rfl (lv_at hl 1 rfl) ?_
  refine lv_iload_n hx hb dX0_see_4 rfl (lv_at hl 2 rfl) ?_
  refine wq_V (As := [.int p1, .int p2]) (rest := [.int 0, .ref o]) (x0 := g 0 0) hK hZ hAA hS (fun _ h => h.1) (fun _ h => h.1) (nk_new hA hS.1 hR) (nk_x xok_9 hR) ⟨hI, hh⟩ (xs_see l hfl E C (fun a => A a ∧ a ≠ o) s.heap.size g h S p1 p2) ⟨hx, hb, hml, hown, hts⟩ (cwV 2 hts (lw_V q582 q583 q584 q33 q585) rfl rfl rfl (by decide +kernel) ⟨Nat.le_of_ble_eq_true rfl, Nat.le_of_ble_eq_true rfl⟩) (kw_recv (t := 0) (i := 0) hK.1 (nk_x xok_9 hR) rfl rfl rfl) rfl hl.1 rfl (Nat.le_of_ble_eq_true rfl) dX0_see_5 ⟨Nat.le_of_ble_eq_true rfl, Nat.le_of_ble_eq_true rfl⟩ (fun Xn ce q9 H locs hf hB hz hk hS hc9 hv9 hcl => ?_) (fun r S' g' h' H locs hf hg0 hh' hB hz hk hS => ?_)
  · have hR := nk_join hR hB hk
    rcases xn_see hf with rfl | rfl | rfl
    · refine vx_catch (own := "LostroomLaw") (name := "java/lang/IndexOutOfBoundsException") hown [] ⟨0, 10, 13, 13⟩ [⟨0, 10, 17, 15⟩, ⟨0, 10, 21, 28⟩] htb (fun z hz => nomatch hz) rfl (by decide) (hts _ q213) (va_Nw.use rfl (hK.2.1 _ q303 rfl)) hc9 hv9 hcl ?_
      refine lv_astore (lv' := [(4, .ref q9), (0, .ref (g 0 0)), (1, .int p1), (2, .int p2), (3, .ref o)]) hx hb dX0_see_13 hl (by decide) rfl (fun ls hl => ?_)
      refine lv_iconst (v := 1) hx hb dX0_see_15 (by decide) ?_
      exact vx_ret (W.iret (v := 1) hx hb hr (fun t ht hW => ⟨Or.inl ⟨_, 0, _, hf, rfl, rfl, by rw [ht]; exact hR⟩, hS.F ht⟩) hS.2.2 dX0_see_16)
    · refine vx_catch (own := "LostroomLaw") (name := "java/lang/IllegalArgumentException") hown [⟨0, 10, 13, 13⟩] ⟨0, 10, 17, 15⟩ [⟨0, 10, 21, 28⟩] htb (fun z hz => by rw [List.mem_singleton] at hz; subst hz; exact Or.inr ⟨by decide, _, hts _ q213, hN.1⟩) rfl (by decide) (hts _ q290) (va_Nw.use rfl (hK.2.1 _ q327 rfl)) hc9 hv9 hcl ?_
      refine lv_astore (lv' := [(4, .ref q9), (0, .ref (g 0 0)), (1, .int p1), (2, .int p2), (3, .ref o)]) hx hb dX0_see_17 hl (by decide) rfl (fun ls hl => ?_)
      refine lv_iconst (v := 2) hx hb dX0_see_19 (by decide) ?_
      exact vx_ret (W.iret (v := 2) hx hb hr (fun t ht hW => ⟨Or.inl ⟨_, 1, _, hf, rfl, rfl, by rw [ht]; exact hR⟩, hS.F ht⟩) hS.2.2 dX0_see_20)
    · refine vx_catch (own := "LostroomLaw") (name := "java/lang/IllegalStateException") hown [⟨0, 10, 13, 13⟩, ⟨0, 10, 17, 15⟩] ⟨0, 10, 21, 28⟩ [] htb (fun z hz => (List.mem_cons.mp hz).elim (fun hz => hz ▸ Or.inr ⟨by decide, _, hts _ q213, hN.2.1⟩) (fun hz => (List.mem_singleton.mp hz) ▸ Or.inr ⟨by decide, _, hts _ q290, hN.2.2⟩)) rfl (by decide) (hts _ q363) (va_Nw.use rfl (hK.2.1 _ q462 rfl)) hc9 hv9 hcl ?_
      refine lv_astore (lv' := [(4, .ref q9), (0, .ref (g 0 0)), (1, .int p1), (2, .int p2), (3, .ref o)]) hx hb dX0_see_21 hl (by decide) rfl (fun ls hl => ?_)
      refine lv_iconst (v := 3) hx hb dX0_see_23 (by decide) ?_
      exact vx_ret (W.iret (v := 3) hx hb hr (fun t ht hW => ⟨Or.inl ⟨_, 2, _, hf, rfl, rfl, by rw [ht]; exact hR⟩, hS.F ht⟩) hS.2.2 dX0_see_24)
  · have hR := nk_join hR hB hk
    refine lv_i2l (v := r.toInt64) hx hb dX0_see_8 rfl ?_
    refine xo_last hx hb hK.1 hR hS dX0_see_9 (fun H locs v' hv hR hS => ?_)
    refine lv_goto (tgt := 25) hx hb dX0_see_10 (by decide) ?_
    refine lv_iconst (v := 0) hx hb dX0_see_25 (by decide) ?_
    exact vx_ret (W.iret (v := 0) hx hb hr (fun t ht hW => ⟨Or.inr ⟨_, _, g', h', _, hf, rfl, hg0, hh', hv, by rw [ht]; exact hR⟩, hS.F ht⟩) hS.2.2 dX0_see_26)
set_option maxHeartbeats 2000000 in
set_option maxRecDepth 100000 in
theorem wt_send (l : Launch) (hfl : l.stackTraces = false) (E : en_T) (C : ex_C) (A : Nat → Prop) (sz : Nat) (g : kw_A) (h : xh_T) (S : gs_T) (o : Nat) (v : Nat → Int64) (p1 : Int32) (p2 : Int32) : vx_Met l yX0_send (wsW_ yX0_send cX0_send 5 (some .int) [(0, 10, 13, 13), (0, 10, 17, 28)]) { frames := 9, cells := 1, slots := 6, locals := 165 } (cpw E C A sz [.ref (g 0 0), .int p1, .int p2, .ref o] (xo E C g h S o v A) (xi_ok S ∧ xh C g h S)) (cw_Q (fun z => z) ["java/lang/IndexOutOfBoundsException", "java/lang/IllegalStateException"] E C g h S o (g 0 0) A (xp_send S p1 p2)) (fun _ _ _ => False) 1 6 A := by
  refine cw_start (by decide) (Nat.le_of_ble_eq_true rfl) ?_
  intro p e s m below meth c ls hx hb hr hlocks hml hown htb hts hsz hK hN hZ hA hR hP hl
  subst hsz
  have hAA : ∀ a, A a → A a := fun _ h => h
  have hl : lv_has ls 5 [(0, .ref (g 0 0)), (1, .int p1), (2, .int p2), (3, .ref o)] := hl
  have hS : va_S A s.heap s.heap [] := va_S.rf
  obtain ⟨hI, hh⟩ := hP
  refine lv_aload_n hx hb dX0_send_0 rfl (lv_at hl 3 rfl) ?_
  refine lv_iconst (v := 0) hx hb dX0_send_1 (by decide) ?_
  refine lv_aload_n hx hb dX0_send_2 rfl (lv_at hl 0 rfl) ?_
  refine lv_iload_n hx hb dX0_send_3 rfl (lv_at hl 1 rfl) ?_
  refine lv_iload_n hx hb dX0_send_4 rfl (lv_at hl 2 rfl) ?_
  refine wq_V (As := [.int p1, .int p2]) (rest := [.int 0, .ref o]) (x0 := g 0 0) hK hZ hAA hS (fun _ h => h.1) (fun _ h => h.1) (nk_new hA hS.1 hR) (nk_x xok_9 hR) ⟨hI, hh⟩ (xs_send l hfl E C (fun a => A a ∧ a ≠ o) s.heap.size g h S p1 p2) ⟨hx, hb, hml, hown, hts⟩ (cwV 2 hts (lw_V q599 q600 q601 q33 q602) rfl rfl rfl (by decide +kernel) ⟨Nat.le_of_ble_eq_true rfl, Nat.le_of_ble_eq_true rfl⟩) (kw_recv (t := 0) (i := 0) hK.1 (nk_x xok_9 hR) rfl rfl rfl) rfl hl.1 rfl (Nat.le_of_ble_eq_true rfl) dX0_send_5 ⟨Nat.le_of_ble_eq_true rfl, Nat.le_of_ble_eq_true rfl⟩ (fun Xn ce q9 H locs hf hB hz hk hS hc9 hv9 hcl => ?_) (fun r S' g' h' H locs hf hg0 hh' hB hz hk hS => ?_)
  · have hR := nk_join hR hB hk
    rcases xn_send hf with rfl | rfl
    · refine vx_catch (own := "LostroomLaw") (name := "java/lang/IndexOutOfBoundsException") hown [] ⟨0, 10, 13, 13⟩ [⟨0, 10, 17, 28⟩] htb (fun z hz => nomatch hz) rfl (by decide) (hts _ q213) (va_Nw.use rfl (hK.2.1 _ q303 rfl)) hc9 hv9 hcl ?_
      refine lv_astore (lv' := [(4, .ref q9), (0, .ref (g 0 0)), (1, .int p1), (2, .int p2), (3, .ref o)]) hx hb dX0_send_13 hl (by decide) rfl (fun ls hl => ?_)
      refine lv_iconst (v := 1) hx hb dX0_send_15 (by decide) ?_
      exact vx_ret (W.iret (v := 1) hx hb hr (fun t ht hW => ⟨Or.inl ⟨_, 0, _, hf, rfl, rfl, by rw [ht]; exact hR⟩, hS.F ht⟩) hS.2.2 dX0_send_16)
    · refine vx_catch (own := "LostroomLaw") (name := "java/lang/IllegalStateException") hown [⟨0, 10, 13, 13⟩] ⟨0, 10, 17, 28⟩ [] htb (fun z hz => by rw [List.mem_singleton] at hz; subst hz; exact Or.inr ⟨by decide, _, hts _ q213, hN.2.1⟩) rfl (by decide) (hts _ q363) (va_Nw.use rfl (hK.2.1 _ q462 rfl)) hc9 hv9 hcl ?_
      refine lv_astore (lv' := [(4, .ref q9), (0, .ref (g 0 0)), (1, .int p1), (2, .int p2), (3, .ref o)]) hx hb dX0_send_17 hl (by decide) rfl (fun ls hl => ?_)
      refine lv_iconst (v := 2) hx hb dX0_send_19 (by decide) ?_
      exact vx_ret (W.iret (v := 2) hx hb hr (fun t ht hW => ⟨Or.inl ⟨_, 1, _, hf, rfl, rfl, by rw [ht]; exact hR⟩, hS.F ht⟩) hS.2.2 dX0_send_20)
  · have hR := nk_join hR hB hk
    refine lv_i2l (v := r.toInt64) hx hb dX0_send_8 rfl ?_
    refine xo_last hx hb hK.1 hR hS dX0_send_9 (fun H locs v' hv hR hS => ?_)
    refine lv_goto (tgt := 21) hx hb dX0_send_10 (by decide) ?_
    refine lv_iconst (v := 0) hx hb dX0_send_21 (by decide) ?_
    exact vx_ret (W.iret (v := 0) hx hb hr (fun t ht hW => ⟨Or.inr ⟨_, _, g', h', _, hf, rfl, hg0, hh', hv, by rw [ht]; exact hR⟩, hS.F ht⟩) hS.2.2 dX0_send_22)
set_option maxHeartbeats 2000000 in
set_option maxRecDepth 100000 in
theorem wt_hold (l : Launch) (hfl : l.stackTraces = false) (E : en_T) (C : ex_C) (A : Nat → Prop) (sz : Nat) (g : kw_A) (h : xh_T) (S : gs_T) (o : Nat) (v : Nat → Int64) (p1 : Int32) (p2 : Int32) : vx_Met l yX0_hold (wsW_ yX0_hold cX0_hold 5 (some .int) [(0, 17, 20, 13), (0, 17, 24, 28)]) { frames := 9, cells := 1, slots := 6, locals := 165 } (cpw E C A sz [.ref (g 0 0), .int p1, .int p2, .ref o] (xo E C g h S o v A) (xi_ok S ∧ xh C g h S ∧ (p2 = 0 ∨ p2 = 1))) (cw_Q gs_bz ["java/lang/IndexOutOfBoundsException", "java/lang/IllegalStateException"] E C g h S o (g 0 0) A (xp_hold S p1 p2)) (fun _ _ _ => False) 1 6 A := by
  refine cw_start (by decide) (Nat.le_of_ble_eq_true rfl) ?_
  intro p e s m below meth c ls hx hb hr hlocks hml hown htb hts hsz hK hN hZ hA hR hP hl
  subst hsz
  have hAA : ∀ a, A a → A a := fun _ h => h
  have hl : lv_has ls 5 [(0, .ref (g 0 0)), (1, .int p1), (2, .int p2), (3, .ref o)] := hl
  have hS : va_S A s.heap s.heap [] := va_S.rf
  obtain ⟨hI, hh, h_z0⟩ := hP
  refine lv_aload_n hx hb dX0_hold_0 rfl (lv_at hl 3 rfl) ?_
  refine lv_iconst (v := 0) hx hb dX0_hold_1 (by decide) ?_
  refine lv_aload_n hx hb dX0_hold_2 rfl (lv_at hl 0 rfl) ?_
  refine lv_iload_n hx hb dX0_hold_3 rfl (lv_at hl 1 rfl) ?_
  refine lv_iload_n hx hb dX0_hold_4 rfl (lv_at hl 2 rfl) ?_
  refine wq_V (As := [.int p1, .int p2]) (rest := [.int 0, .ref o]) (x0 := g 0 0) hK hZ hAA hS (fun _ h => h.1) (fun _ h => h.1) (nk_new hA hS.1 hR) (nk_x xok_9 hR) ⟨hI, hh, h_z0⟩ (xs_hold l hfl E C (fun a => A a ∧ a ≠ o) s.heap.size g h S p1 p2) ⟨hx, hb, hml, hown, hts⟩ (cwV 2 hts (lw_V q691 q692 q693 q33 q694) rfl rfl rfl (by decide +kernel) ⟨Nat.le_of_ble_eq_true rfl, Nat.le_of_ble_eq_true rfl⟩) (kw_recv (t := 0) (i := 0) hK.1 (nk_x xok_9 hR) rfl rfl rfl) rfl hl.1 rfl (Nat.le_of_ble_eq_true rfl) dX0_hold_5 ⟨Nat.le_of_ble_eq_true rfl, Nat.le_of_ble_eq_true rfl⟩ (fun Xn ce q9 H locs hf hB hz hk hS hc9 hv9 hcl => ?_) (fun r S' g' h' H locs hf hg0 hh' hB hz hk hS => ?_)
  · have hR := nk_join hR hB hk
    rcases xn_hold hf with rfl | rfl
    · refine vx_catch (own := "LostroomLaw") (name := "java/lang/IndexOutOfBoundsException") hown [] ⟨0, 17, 20, 13⟩ [⟨0, 17, 24, 28⟩] htb (fun z hz => nomatch hz) rfl (by decide) (hts _ q213) (va_Nw.use rfl (hK.2.1 _ q303 rfl)) hc9 hv9 hcl ?_
      refine lv_astore (lv' := [(4, .ref q9), (0, .ref (g 0 0)), (1, .int p1), (2, .int p2), (3, .ref o)]) hx hb dX0_hold_20 hl (by decide) rfl (fun ls hl => ?_)
      refine lv_iconst (v := 1) hx hb dX0_hold_22 (by decide) ?_
      exact vx_ret (W.iret (v := 1) hx hb hr (fun t ht hW => ⟨Or.inl ⟨_, 0, _, hf, rfl, rfl, by rw [ht]; exact hR⟩, hS.F ht⟩) hS.2.2 dX0_hold_23)
    · refine vx_catch (own := "LostroomLaw") (name := "java/lang/IllegalStateException") hown [⟨0, 17, 20, 13⟩] ⟨0, 17, 24, 28⟩ [] htb (fun z hz => by rw [List.mem_singleton] at hz; subst hz; exact Or.inr ⟨by decide, _, hts _ q213, hN.2.1⟩) rfl (by decide) (hts _ q363) (va_Nw.use rfl (hK.2.1 _ q462 rfl)) hc9 hv9 hcl ?_
      refine lv_astore (lv' := [(4, .ref q9), (0, .ref (g 0 0)), (1, .int p1), (2, .int p2), (3, .ref o)]) hx hb dX0_hold_24 hl (by decide) rfl (fun ls hl => ?_)
      refine lv_iconst (v := 2) hx hb dX0_hold_26 (by decide) ?_
      exact vx_ret (W.iret (v := 2) hx hb hr (fun t ht hW => ⟨Or.inl ⟨_, 1, _, hf, rfl, rfl, by rw [ht]; exact hR⟩, hS.F ht⟩) hS.2.2 dX0_hold_27)
  · have hR := nk_join hR hB hk
    cases r with
    | true =>
      refine W.eq (g2 := F0 m 8 ls [.int 1, .int 0, .ref o]) rfl ?_
      refine lv_if_eq (tgt := 15) hx hb dX0_hold_8 (by decide) (fun h => absurd h (by decide)) (fun _ => ?_)
      refine lv_lconst (v := 1) hx hb dX0_hold_11 (by decide) ?_
      refine lv_goto (tgt := 16) hx hb dX0_hold_12 (by decide) ?_
      refine xo_last hx hb hK.1 hR hS dX0_hold_16 (fun H locs v' hv hR hS => ?_)
      refine lv_goto (tgt := 28) hx hb dX0_hold_17 (by decide) ?_
      refine lv_iconst (v := 0) hx hb dX0_hold_28 (by decide) ?_
      exact vx_ret (W.iret (v := 0) hx hb hr (fun t ht hW => ⟨Or.inr ⟨_, _, g', h', _, hf, rfl, hg0, hh', hv.trans (by decide), by rw [ht]; exact hR⟩, hS.F ht⟩) hS.2.2 dX0_hold_29)
    | false =>
      refine W.eq (g2 := F0 m 8 ls [.int 0, .int 0, .ref o]) rfl ?_
      refine lv_if_eq (tgt := 15) hx hb dX0_hold_8 (by decide) (fun _ => ?_) (fun h => absurd rfl h)
      refine lv_lconst (v := 0) hx hb dX0_hold_15 (by decide) ?_
      refine xo_last hx hb hK.1 hR hS dX0_hold_16 (fun H locs v' hv hR hS => ?_)
      refine lv_goto (tgt := 28) hx hb dX0_hold_17 (by decide) ?_
      refine lv_iconst (v := 0) hx hb dX0_hold_28 (by decide) ?_
      exact vx_ret (W.iret (v := 0) hx hb hr (fun t ht hW => ⟨Or.inr ⟨_, _, g', h', _, hf, rfl, hg0, hh', hv.trans (by decide), by rw [ht]; exact hR⟩, hS.F ht⟩) hS.2.2 dX0_hold_29)
set_option maxHeartbeats 2000000 in
set_option maxRecDepth 100000 in
theorem wt_say (l : Launch) (hfl : l.stackTraces = false) (E : en_T) (C : ex_C) (A : Nat → Prop) (sz : Nat) (g : kw_A) (h : xh_T) (S : gs_T) (o : Nat) (v : Nat → Int64) (p1 : Int32) (p2 : Int32) : vx_Met l yX0_say (wsW_ yX0_say cX0_say 5 (some .int) [(0, 10, 13, 13), (0, 10, 17, 15), (0, 10, 21, 28)]) { frames := 9, cells := 1, slots := 6, locals := 164 } (cpw E C A sz [.ref (g 0 0), .int p1, .int p2, .ref o] (xo E C g h S o v A) (xi_ok S ∧ xh C g h S)) (cw_Q (fun z => z) ["java/lang/IndexOutOfBoundsException", "java/lang/IllegalArgumentException", "java/lang/IllegalStateException"] E C g h S o (g 0 0) A (xp_say S p1 p2)) (fun _ _ _ => False) 1 6 A := by
  refine cw_start (by decide) (Nat.le_of_ble_eq_true rfl) ?_
  intro p e s m below meth c ls hx hb hr hlocks hml hown htb hts hsz hK hN hZ hA hR hP hl
  subst hsz
  have hAA : ∀ a, A a → A a := fun _ h => h
  have hl : lv_has ls 5 [(0, .ref (g 0 0)), (1, .int p1), (2, .int p2), (3, .ref o)] := hl
  have hS : va_S A s.heap s.heap [] := va_S.rf
  obtain ⟨hI, hh⟩ := hP
  refine lv_aload_n hx hb dX0_say_0 rfl (lv_at hl 3 rfl) ?_
  refine lv_iconst (v := 0) hx hb dX0_say_1 (by decide) ?_
  refine lv_aload_n hx hb dX0_say_2 rfl (lv_at hl 0 rfl) ?_
  refine lv_iload_n hx hb dX0_say_3 rfl (lv_at hl 1 rfl) ?_
  refine lv_iload_n hx hb dX0_say_4 rfl (lv_at hl 2 rfl) ?_
  refine wq_V (As := [.int p1, .int p2]) (rest := [.int 0, .ref o]) (x0 := g 0 0) hK hZ hAA hS (fun _ h => h.1) (fun _ h => h.1) (nk_new hA hS.1 hR) (nk_x xok_9 hR) ⟨hI, hh⟩ (xs_say l hfl E C (fun a => A a ∧ a ≠ o) s.heap.size g h S p1 p2) ⟨hx, hb, hml, hown, hts⟩ (cwV 2 hts (lw_V q755 q756 q757 q33 q758) rfl rfl rfl (by decide +kernel) ⟨Nat.le_of_ble_eq_true rfl, Nat.le_of_ble_eq_true rfl⟩) (kw_recv (t := 0) (i := 0) hK.1 (nk_x xok_9 hR) rfl rfl rfl) rfl hl.1 rfl (Nat.le_of_ble_eq_true rfl) dX0_say_5 ⟨Nat.le_of_ble_eq_true rfl, Nat.le_of_ble_eq_true rfl⟩ (fun Xn ce q9 H locs hf hB hz hk hS hc9 hv9 hcl => ?_) (fun r S' g' h' H locs hf hg0 hh' hB hz hk hS => ?_)
  · have hR := nk_join hR hB hk
    rcases xn_say hf with rfl | rfl | rfl
    · refine vx_catch (own := "LostroomLaw") (name := "java/lang/IndexOutOfBoundsException") hown [] ⟨0, 10, 13, 13⟩ [⟨0, 10, 17, 15⟩, ⟨0, 10, 21, 28⟩] htb (fun z hz => nomatch hz) rfl (by decide) (hts _ q213) (va_Nw.use rfl (hK.2.1 _ q303 rfl)) hc9 hv9 hcl ?_
      refine lv_astore (lv' := [(4, .ref q9), (0, .ref (g 0 0)), (1, .int p1), (2, .int p2), (3, .ref o)]) hx hb dX0_say_13 hl (by decide) rfl (fun ls hl => ?_)
      refine lv_iconst (v := 1) hx hb dX0_say_15 (by decide) ?_
      exact vx_ret (W.iret (v := 1) hx hb hr (fun t ht hW => ⟨Or.inl ⟨_, 0, _, hf, rfl, rfl, by rw [ht]; exact hR⟩, hS.F ht⟩) hS.2.2 dX0_say_16)
    · refine vx_catch (own := "LostroomLaw") (name := "java/lang/IllegalArgumentException") hown [⟨0, 10, 13, 13⟩] ⟨0, 10, 17, 15⟩ [⟨0, 10, 21, 28⟩] htb (fun z hz => by rw [List.mem_singleton] at hz; subst hz; exact Or.inr ⟨by decide, _, hts _ q213, hN.1⟩) rfl (by decide) (hts _ q290) (va_Nw.use rfl (hK.2.1 _ q327 rfl)) hc9 hv9 hcl ?_
      refine lv_astore (lv' := [(4, .ref q9), (0, .ref (g 0 0)), (1, .int p1), (2, .int p2), (3, .ref o)]) hx hb dX0_say_17 hl (by decide) rfl (fun ls hl => ?_)
      refine lv_iconst (v := 2) hx hb dX0_say_19 (by decide) ?_
      exact vx_ret (W.iret (v := 2) hx hb hr (fun t ht hW => ⟨Or.inl ⟨_, 1, _, hf, rfl, rfl, by rw [ht]; exact hR⟩, hS.F ht⟩) hS.2.2 dX0_say_20)
    · refine vx_catch (own := "LostroomLaw") (name := "java/lang/IllegalStateException") hown [⟨0, 10, 13, 13⟩, ⟨0, 10, 17, 15⟩] ⟨0, 10, 21, 28⟩ [] htb (fun z hz => (List.mem_cons.mp hz).elim (fun hz => hz ▸ Or.inr ⟨by decide, _, hts _ q213, hN.2.1⟩) (fun hz => (List.mem_singleton.mp hz) ▸ Or.inr ⟨by decide, _, hts _ q290, hN.2.2⟩)) rfl (by decide) (hts _ q363) (va_Nw.use rfl (hK.2.1 _ q462 rfl)) hc9 hv9 hcl ?_
      refine lv_astore (lv' := [(4, .ref q9), (0, .ref (g 0 0)), (1, .int p1), (2, .int p2), (3, .ref o)]) hx hb dX0_say_21 hl (by decide) rfl (fun ls hl => ?_)
      refine lv_iconst (v := 3) hx hb dX0_say_23 (by decide) ?_
      exact vx_ret (W.iret (v := 3) hx hb hr (fun t ht hW => ⟨Or.inl ⟨_, 2, _, hf, rfl, rfl, by rw [ht]; exact hR⟩, hS.F ht⟩) hS.2.2 dX0_say_24)
  · have hR := nk_join hR hB hk
    refine lv_i2l (v := r.toInt64) hx hb dX0_say_8 rfl ?_
    refine xo_last hx hb hK.1 hR hS dX0_say_9 (fun H locs v' hv hR hS => ?_)
    refine lv_goto (tgt := 25) hx hb dX0_say_10 (by decide) ?_
    refine lv_iconst (v := 0) hx hb dX0_say_25 (by decide) ?_
    exact vx_ret (W.iret (v := 0) hx hb hr (fun t ht hW => ⟨Or.inr ⟨_, _, g', h', _, hf, rfl, hg0, hh', hv, by rw [ht]; exact hR⟩, hS.F ht⟩) hS.2.2 dX0_say_26)
set_option maxHeartbeats 2000000 in
set_option maxRecDepth 100000 in
theorem wt_tell (l : Launch) (hfl : l.stackTraces = false) (E : en_T) (C : ex_C) (A : Nat → Prop) (sz : Nat) (g : kw_A) (h : xh_T) (S : gs_T) (o : Nat) (v : Nat → Int64) (p1 : Int32) (p2 : Int32) : vx_Met l yX0_tell (wsW_ yX0_tell cX0_tell 5 (some .int) [(0, 10, 13, 13), (0, 10, 17, 15), (0, 10, 21, 28)]) { frames := 9, cells := 1, slots := 6, locals := 164 } (cpw E C A sz [.ref (g 0 0), .int p1, .int p2, .ref o] (xo E C g h S o v A) (xi_ok S ∧ xh C g h S)) (cw_Q (fun z => z) ["java/lang/IndexOutOfBoundsException", "java/lang/IllegalArgumentException", "java/lang/IllegalStateException"] E C g h S o (g 0 0) A (xp_tell S p1 p2)) (fun _ _ _ => False) 1 6 A := by
  refine cw_start (by decide) (Nat.le_of_ble_eq_true rfl) ?_
  intro p e s m below meth c ls hx hb hr hlocks hml hown htb hts hsz hK hN hZ hA hR hP hl
  subst hsz
  have hAA : ∀ a, A a → A a := fun _ h => h
  have hl : lv_has ls 5 [(0, .ref (g 0 0)), (1, .int p1), (2, .int p2), (3, .ref o)] := hl
  have hS : va_S A s.heap s.heap [] := va_S.rf
  obtain ⟨hI, hh⟩ := hP
  refine lv_aload_n hx hb dX0_tell_0 rfl (lv_at hl 3 rfl) ?_
  refine lv_iconst (v := 0) hx hb dX0_tell_1 (by decide) ?_
  refine lv_aload_n hx hb dX0_tell_2 rfl (lv_at hl 0 rfl) ?_
  refine lv_iload_n hx hb dX0_tell_3 rfl (lv_at hl 1 rfl) ?_
  refine lv_iload_n hx hb dX0_tell_4 rfl (lv_at hl 2 rfl) ?_
  refine wq_V (As := [.int p1, .int p2]) (rest := [.int 0, .ref o]) (x0 := g 0 0) hK hZ hAA hS (fun _ h => h.1) (fun _ h => h.1) (nk_new hA hS.1 hR) (nk_x xok_9 hR) ⟨hI, hh⟩ (xs_tell l hfl E C (fun a => A a ∧ a ≠ o) s.heap.size g h S p1 p2) ⟨hx, hb, hml, hown, hts⟩ (cwV 2 hts (lw_V q766 q767 q768 q33 q769) rfl rfl rfl (by decide +kernel) ⟨Nat.le_of_ble_eq_true rfl, Nat.le_of_ble_eq_true rfl⟩) (kw_recv (t := 0) (i := 0) hK.1 (nk_x xok_9 hR) rfl rfl rfl) rfl hl.1 rfl (Nat.le_of_ble_eq_true rfl) dX0_tell_5 ⟨Nat.le_of_ble_eq_true rfl, Nat.le_of_ble_eq_true rfl⟩ (fun Xn ce q9 H locs hf hB hz hk hS hc9 hv9 hcl => ?_) (fun r S' g' h' H locs hf hg0 hh' hB hz hk hS => ?_)
  · have hR := nk_join hR hB hk
    rcases xn_tell hf with rfl | rfl | rfl
    · refine vx_catch (own := "LostroomLaw") (name := "java/lang/IndexOutOfBoundsException") hown [] ⟨0, 10, 13, 13⟩ [⟨0, 10, 17, 15⟩, ⟨0, 10, 21, 28⟩] htb (fun z hz => nomatch hz) rfl (by decide) (hts _ q213) (va_Nw.use rfl (hK.2.1 _ q303 rfl)) hc9 hv9 hcl ?_
      refine lv_astore (lv' := [(4, .ref q9), (0, .ref (g 0 0)), (1, .int p1), (2, .int p2), (3, .ref o)]) hx hb dX0_tell_13 hl (by decide) rfl (fun ls hl => ?_)
      refine lv_iconst (v := 1) hx hb dX0_tell_15 (by decide) ?_
      exact vx_ret (W.iret (v := 1) hx hb hr (fun t ht hW => ⟨Or.inl ⟨_, 0, _, hf, rfl, rfl, by rw [ht]; exact hR⟩, hS.F ht⟩) hS.2.2 dX0_tell_16)
    · refine vx_catch (own := "LostroomLaw") (name := "java/lang/IllegalArgumentException") hown [⟨0, 10, 13, 13⟩] ⟨0, 10, 17, 15⟩ [⟨0, 10, 21, 28⟩] htb (fun z hz => by rw [List.mem_singleton] at hz; subst hz; exact Or.inr ⟨by decide, _, hts _ q213, hN.1⟩) rfl (by decide) (hts _ q290) (va_Nw.use rfl (hK.2.1 _ q327 rfl)) hc9 hv9 hcl ?_
      refine lv_astore (lv' := [(4, .ref q9), (0, .ref (g 0 0)), (1, .int p1), (2, .int p2), (3, .ref o)]) hx hb dX0_tell_17 hl (by decide) rfl (fun ls hl => ?_)
      refine lv_iconst (v := 2) hx hb dX0_tell_19 (by decide) ?_
      exact vx_ret (W.iret (v := 2) hx hb hr (fun t ht hW => ⟨Or.inl ⟨_, 1, _, hf, rfl, rfl, by rw [ht]; exact hR⟩, hS.F ht⟩) hS.2.2 dX0_tell_20)
    · refine vx_catch (own := "LostroomLaw") (name := "java/lang/IllegalStateException") hown [⟨0, 10, 13, 13⟩, ⟨0, 10, 17, 15⟩] ⟨0, 10, 21, 28⟩ [] htb (fun z hz => (List.mem_cons.mp hz).elim (fun hz => hz ▸ Or.inr ⟨by decide, _, hts _ q213, hN.2.1⟩) (fun hz => (List.mem_singleton.mp hz) ▸ Or.inr ⟨by decide, _, hts _ q290, hN.2.2⟩)) rfl (by decide) (hts _ q363) (va_Nw.use rfl (hK.2.1 _ q462 rfl)) hc9 hv9 hcl ?_
      refine lv_astore (lv' := [(4, .ref q9), (0, .ref (g 0 0)), (1, .int p1), (2, .int p2), (3, .ref o)]) hx hb dX0_tell_21 hl (by decide) rfl (fun ls hl => ?_)
      refine lv_iconst (v := 3) hx hb dX0_tell_23 (by decide) ?_
      exact vx_ret (W.iret (v := 3) hx hb hr (fun t ht hW => ⟨Or.inl ⟨_, 2, _, hf, rfl, rfl, by rw [ht]; exact hR⟩, hS.F ht⟩) hS.2.2 dX0_tell_24)
  · have hR := nk_join hR hB hk
    refine lv_i2l (v := r.toInt64) hx hb dX0_tell_8 rfl ?_
    refine xo_last hx hb hK.1 hR hS dX0_tell_9 (fun H locs v' hv hR hS => ?_)
    refine lv_goto (tgt := 25) hx hb dX0_tell_10 (by decide) ?_
    refine lv_iconst (v := 0) hx hb dX0_tell_25 (by decide) ?_
    exact vx_ret (W.iret (v := 0) hx hb hr (fun t ht hW => ⟨Or.inr ⟨_, _, g', h', _, hf, rfl, hg0, hh', hv, by rw [ht]; exact hR⟩, hS.F ht⟩) hS.2.2 dX0_tell_26)
set_option maxHeartbeats 2000000 in
set_option maxRecDepth 100000 in
theorem wt_withdraw (l : Launch) (hfl : l.stackTraces = false) (E : en_T) (C : ex_C) (A : Nat → Prop) (sz : Nat) (g : kw_A) (h : xh_T) (S : gs_T) (o : Nat) (v : Nat → Int64) (p1 : Int32) : vx_Met l yX0_withdraw (wsW_ yX0_withdraw cX0_withdraw 4 (some .int) [(0, 9, 12, 13), (0, 9, 15, 28)]) { frames := 9, cells := 1, slots := 6, locals := 163 } (cpw E C A sz [.ref (g 0 0), .int p1, .ref o] (xo E C g h S o v A) (xi_ok S ∧ xh C g h S)) (cw_Q (fun z => z) ["java/lang/IndexOutOfBoundsException", "java/lang/IllegalStateException"] E C g h S o (g 0 0) A (xp_withdraw S p1)) (fun _ _ _ => False) 1 6 A := by
  refine cw_start (by decide) (Nat.le_of_ble_eq_true rfl) ?_
  intro p e s m below meth c ls hx hb hr hlocks hml hown htb hts hsz hK hN hZ hA hR hP hl
  subst hsz
  have hAA : ∀ a, A a → A a := fun _ h => h
  have hl : lv_has ls 4 [(0, .ref (g 0 0)), (1, .int p1), (2, .ref o)] := hl
  have hS : va_S A s.heap s.heap [] := va_S.rf
  obtain ⟨hI, hh⟩ := hP
  refine lv_aload_n hx hb dX0_withdraw_0 rfl (lv_at hl 2 rfl) ?_
  refine lv_iconst (v := 0) hx hb dX0_withdraw_1 (by decide) ?_
  refine lv_aload_n hx hb dX0_withdraw_2 rfl (lv_at hl 0 rfl) ?_
  refine lv_iload_n hx hb dX0_withdraw_3 rfl (lv_at hl 1 rfl) ?_
  refine wq_V (As := [.int p1]) (rest := [.int 0, .ref o]) (x0 := g 0 0) hK hZ hAA hS (fun _ h => h.1) (fun _ h => h.1) (nk_new hA hS.1 hR) (nk_x xok_9 hR) ⟨hI, hh⟩ (xs_withdraw l hfl E C (fun a => A a ∧ a ≠ o) s.heap.size g h S p1) ⟨hx, hb, hml, hown, hts⟩ (cwV 1 hts (lw_V q773 q774 q775 q33 q776) rfl rfl rfl (by decide +kernel) ⟨Nat.le_of_ble_eq_true rfl, Nat.le_of_ble_eq_true rfl⟩) (kw_recv (t := 0) (i := 0) hK.1 (nk_x xok_9 hR) rfl rfl rfl) rfl hl.1 rfl (Nat.le_of_ble_eq_true rfl) dX0_withdraw_4 ⟨Nat.le_of_ble_eq_true rfl, Nat.le_of_ble_eq_true rfl⟩ (fun Xn ce q9 H locs hf hB hz hk hS hc9 hv9 hcl => ?_) (fun r S' g' h' H locs hf hg0 hh' hB hz hk hS => ?_)
  · have hR := nk_join hR hB hk
    rcases xn_withdraw hf with rfl | rfl
    · refine vx_catch (own := "LostroomLaw") (name := "java/lang/IndexOutOfBoundsException") hown [] ⟨0, 9, 12, 13⟩ [⟨0, 9, 15, 28⟩] htb (fun z hz => nomatch hz) rfl (by decide) (hts _ q213) (va_Nw.use rfl (hK.2.1 _ q303 rfl)) hc9 hv9 hcl ?_
      refine lv_astore_n (lv' := [(3, .ref q9), (0, .ref (g 0 0)), (1, .int p1), (2, .ref o)]) hx hb dX0_withdraw_12 rfl hl (by decide) rfl (fun ls hl => ?_)
      refine lv_iconst (v := 1) hx hb dX0_withdraw_13 (by decide) ?_
      exact vx_ret (W.iret (v := 1) hx hb hr (fun t ht hW => ⟨Or.inl ⟨_, 0, _, hf, rfl, rfl, by rw [ht]; exact hR⟩, hS.F ht⟩) hS.2.2 dX0_withdraw_14)
    · refine vx_catch (own := "LostroomLaw") (name := "java/lang/IllegalStateException") hown [⟨0, 9, 12, 13⟩] ⟨0, 9, 15, 28⟩ [] htb (fun z hz => by rw [List.mem_singleton] at hz; subst hz; exact Or.inr ⟨by decide, _, hts _ q213, hN.2.1⟩) rfl (by decide) (hts _ q363) (va_Nw.use rfl (hK.2.1 _ q462 rfl)) hc9 hv9 hcl ?_
      refine lv_astore_n (lv' := [(3, .ref q9), (0, .ref (g 0 0)), (1, .int p1), (2, .ref o)]) hx hb dX0_withdraw_15 rfl hl (by decide) rfl (fun ls hl => ?_)
      refine lv_iconst (v := 2) hx hb dX0_withdraw_16 (by decide) ?_
      exact vx_ret (W.iret (v := 2) hx hb hr (fun t ht hW => ⟨Or.inl ⟨_, 1, _, hf, rfl, rfl, by rw [ht]; exact hR⟩, hS.F ht⟩) hS.2.2 dX0_withdraw_17)
  · have hR := nk_join hR hB hk
    refine lv_i2l (v := r.toInt64) hx hb dX0_withdraw_7 rfl ?_
    refine xo_last hx hb hK.1 hR hS dX0_withdraw_8 (fun H locs v' hv hR hS => ?_)
    refine lv_goto (tgt := 18) hx hb dX0_withdraw_9 (by decide) ?_
    refine lv_iconst (v := 0) hx hb dX0_withdraw_18 (by decide) ?_
    exact vx_ret (W.iret (v := 0) hx hb hr (fun t ht hW => ⟨Or.inr ⟨_, _, g', h', _, hf, rfl, hg0, hh', hv, by rw [ht]; exact hR⟩, hS.F ht⟩) hS.2.2 dX0_withdraw_19)
set_option maxHeartbeats 2000000 in
set_option maxRecDepth 100000 in
theorem wt_extend (l : Launch) (hfl : l.stackTraces = false) (E : en_T) (C : ex_C) (A : Nat → Prop) (sz : Nat) (g : kw_A) (h : xh_T) (S : gs_T) (o : Nat) (v : Nat → Int64) (p1 : Int32) (p2 : Int32) : vx_Met l yX0_extend (wsW_ yX0_extend cX0_extend 5 (some .int) [(0, 10, 13, 13), (0, 10, 17, 15), (0, 10, 21, 28)]) { frames := 9, cells := 1, slots := 6, locals := 164 } (cpw E C A sz [.ref (g 0 0), .int p1, .int p2, .ref o] (xo E C g h S o v A) (xi_ok S ∧ xh C g h S)) (cw_Q (fun z => z) ["java/lang/IndexOutOfBoundsException", "java/lang/IllegalArgumentException", "java/lang/IllegalStateException"] E C g h S o (g 0 0) A (xp_extend S p1 p2)) (fun _ _ _ => False) 1 6 A := by
  refine cw_start (by decide) (Nat.le_of_ble_eq_true rfl) ?_
  intro p e s m below meth c ls hx hb hr hlocks hml hown htb hts hsz hK hN hZ hA hR hP hl
  subst hsz
  have hAA : ∀ a, A a → A a := fun _ h => h
  have hl : lv_has ls 5 [(0, .ref (g 0 0)), (1, .int p1), (2, .int p2), (3, .ref o)] := hl
  have hS : va_S A s.heap s.heap [] := va_S.rf
  obtain ⟨hI, hh⟩ := hP
  refine lv_aload_n hx hb dX0_extend_0 rfl (lv_at hl 3 rfl) ?_
  refine lv_iconst (v := 0) hx hb dX0_extend_1 (by decide) ?_
  refine lv_aload_n hx hb dX0_extend_2 rfl (lv_at hl 0 rfl) ?_
  refine lv_iload_n hx hb dX0_extend_3 rfl (lv_at hl 1 rfl) ?_
  refine lv_iload_n hx hb dX0_extend_4 rfl (lv_at hl 2 rfl) ?_
  refine wq_V (As := [.int p1, .int p2]) (rest := [.int 0, .ref o]) (x0 := g 0 0) hK hZ hAA hS (fun _ h => h.1) (fun _ h => h.1) (nk_new hA hS.1 hR) (nk_x xok_9 hR) ⟨hI, hh⟩ (xs_extend l hfl E C (fun a => A a ∧ a ≠ o) s.heap.size g h S p1 p2) ⟨hx, hb, hml, hown, hts⟩ (cwV 2 hts (lw_V q822 q823 q824 q33 q825) rfl rfl rfl (by decide +kernel) ⟨Nat.le_of_ble_eq_true rfl, Nat.le_of_ble_eq_true rfl⟩) (kw_recv (t := 0) (i := 0) hK.1 (nk_x xok_9 hR) rfl rfl rfl) rfl hl.1 rfl (Nat.le_of_ble_eq_true rfl) dX0_extend_5 ⟨Nat.le_of_ble_eq_true rfl, Nat.le_of_ble_eq_true rfl⟩ (fun Xn ce q9 H locs hf hB hz hk hS hc9 hv9 hcl => ?_) (fun r S' g' h' H locs hf hg0 hh' hB hz hk hS => ?_)
  · have hR := nk_join hR hB hk
    rcases xn_extend hf with rfl | rfl | rfl
    · refine vx_catch (own := "LostroomLaw") (name := "java/lang/IndexOutOfBoundsException") hown [] ⟨0, 10, 13, 13⟩ [⟨0, 10, 17, 15⟩, ⟨0, 10, 21, 28⟩] htb (fun z hz => nomatch hz) rfl (by decide) (hts _ q213) (va_Nw.use rfl (hK.2.1 _ q303 rfl)) hc9 hv9 hcl ?_
      refine lv_astore (lv' := [(4, .ref q9), (0, .ref (g 0 0)), (1, .int p1), (2, .int p2), (3, .ref o)]) hx hb dX0_extend_13 hl (by decide) rfl (fun ls hl => ?_)
      refine lv_iconst (v := 1) hx hb dX0_extend_15 (by decide) ?_
      exact vx_ret (W.iret (v := 1) hx hb hr (fun t ht hW => ⟨Or.inl ⟨_, 0, _, hf, rfl, rfl, by rw [ht]; exact hR⟩, hS.F ht⟩) hS.2.2 dX0_extend_16)
    · refine vx_catch (own := "LostroomLaw") (name := "java/lang/IllegalArgumentException") hown [⟨0, 10, 13, 13⟩] ⟨0, 10, 17, 15⟩ [⟨0, 10, 21, 28⟩] htb (fun z hz => by rw [List.mem_singleton] at hz; subst hz; exact Or.inr ⟨by decide, _, hts _ q213, hN.1⟩) rfl (by decide) (hts _ q290) (va_Nw.use rfl (hK.2.1 _ q327 rfl)) hc9 hv9 hcl ?_
      refine lv_astore (lv' := [(4, .ref q9), (0, .ref (g 0 0)), (1, .int p1), (2, .int p2), (3, .ref o)]) hx hb dX0_extend_17 hl (by decide) rfl (fun ls hl => ?_)
      refine lv_iconst (v := 2) hx hb dX0_extend_19 (by decide) ?_
      exact vx_ret (W.iret (v := 2) hx hb hr (fun t ht hW => ⟨Or.inl ⟨_, 1, _, hf, rfl, rfl, by rw [ht]; exact hR⟩, hS.F ht⟩) hS.2.2 dX0_extend_20)
    · refine vx_catch (own := "LostroomLaw") (name := "java/lang/IllegalStateException") hown [⟨0, 10, 13, 13⟩, ⟨0, 10, 17, 15⟩] ⟨0, 10, 21, 28⟩ [] htb (fun z hz => (List.mem_cons.mp hz).elim (fun hz => hz ▸ Or.inr ⟨by decide, _, hts _ q213, hN.2.1⟩) (fun hz => (List.mem_singleton.mp hz) ▸ Or.inr ⟨by decide, _, hts _ q290, hN.2.2⟩)) rfl (by decide) (hts _ q363) (va_Nw.use rfl (hK.2.1 _ q462 rfl)) hc9 hv9 hcl ?_
      refine lv_astore (lv' := [(4, .ref q9), (0, .ref (g 0 0)), (1, .int p1), (2, .int p2), (3, .ref o)]) hx hb dX0_extend_21 hl (by decide) rfl (fun ls hl => ?_)
      refine lv_iconst (v := 3) hx hb dX0_extend_23 (by decide) ?_
      exact vx_ret (W.iret (v := 3) hx hb hr (fun t ht hW => ⟨Or.inl ⟨_, 2, _, hf, rfl, rfl, by rw [ht]; exact hR⟩, hS.F ht⟩) hS.2.2 dX0_extend_24)
  · have hR := nk_join hR hB hk
    refine lv_i2l (v := r.toInt64) hx hb dX0_extend_8 rfl ?_
    refine xo_last hx hb hK.1 hR hS dX0_extend_9 (fun H locs v' hv hR hS => ?_)
    refine lv_goto (tgt := 25) hx hb dX0_extend_10 (by decide) ?_
    refine lv_iconst (v := 0) hx hb dX0_extend_25 (by decide) ?_
    exact vx_ret (W.iret (v := 0) hx hb hr (fun t ht hW => ⟨Or.inr ⟨_, _, g', h', _, hf, rfl, hg0, hh', hv, by rw [ht]; exact hR⟩, hS.F ht⟩) hS.2.2 dX0_extend_26)
set_option maxHeartbeats 2000000 in
set_option maxRecDepth 100000 in
theorem wt_fit (l : Launch) (hfl : l.stackTraces = false) (E : en_T) (C : ex_C) (A : Nat → Prop) (sz : Nat) (g : kw_A) (h : xh_T) (S : gs_T) (o : Nat) (v : Nat → Int64) (p1 : Int32) (p2 : Int32) : vx_Met l yX0_fit (wsW_ yX0_fit cX0_fit 5 (some .int) [(0, 10, 13, 13)]) { frames := 9, cells := 1, slots := 6, locals := 201 } (cpw E C A sz [.ref (g 0 0), .int p1, .int p2, .ref o] (xo E C g h S o v A) (xi_ok S ∧ xh C g h S)) (cw_Q (fun z => z) ["java/lang/IndexOutOfBoundsException"] E C g h S o (g 0 0) A (xp_fit S p1 p2)) (fun _ _ _ => False) 1 6 A := by
  refine cw_start (by decide) (Nat.le_of_ble_eq_true rfl) ?_
  intro p e s m below meth c ls hx hb hr hlocks hml hown htb hts hsz hK hN hZ hA hR hP hl
  subst hsz
  have hAA : ∀ a, A a → A a := fun _ h => h
  have hl : lv_has ls 5 [(0, .ref (g 0 0)), (1, .int p1), (2, .int p2), (3, .ref o)] := hl
  have hS : va_S A s.heap s.heap [] := va_S.rf
  obtain ⟨hI, hh⟩ := hP
  refine lv_aload_n hx hb dX0_fit_0 rfl (lv_at hl 3 rfl) ?_
  refine lv_iconst (v := 0) hx hb dX0_fit_1 (by decide) ?_
  refine lv_aload_n hx hb dX0_fit_2 rfl (lv_at hl 0 rfl) ?_
  refine lv_iload_n hx hb dX0_fit_3 rfl (lv_at hl 1 rfl) ?_
  refine lv_iload_n hx hb dX0_fit_4 rfl (lv_at hl 2 rfl) ?_
  refine wq_V (As := [.int p1, .int p2]) (rest := [.int 0, .ref o]) (x0 := g 0 0) hK hZ hAA hS (fun _ h => h.1) (fun _ h => h.1) (nk_new hA hS.1 hR) (nk_x xok_9 hR) ⟨hI, hh⟩ (xs_fit l hfl E C (fun a => A a ∧ a ≠ o) s.heap.size g h S p1 p2) ⟨hx, hb, hml, hown, hts⟩ (cwV 2 hts (lw_V q862 q863 q864 q33 q865) rfl rfl rfl (by decide +kernel) ⟨Nat.le_of_ble_eq_true rfl, Nat.le_of_ble_eq_true rfl⟩) (kw_recv (t := 0) (i := 0) hK.1 (nk_x xok_9 hR) rfl rfl rfl) rfl hl.1 rfl (Nat.le_of_ble_eq_true rfl) dX0_fit_5 ⟨Nat.le_of_ble_eq_true rfl, Nat.le_of_ble_eq_true rfl⟩ (fun Xn ce q9 H locs hf hB hz hk hS hc9 hv9 hcl => ?_) (fun r S' g' h' H locs hf hg0 hh' hB hz hk hS => ?_)
  · have hR := nk_join hR hB hk
    rcases xn_fit hf with rfl
    · refine vx_catch (own := "LostroomLaw") (name := "java/lang/IndexOutOfBoundsException") hown [] ⟨0, 10, 13, 13⟩ [] htb (fun z hz => nomatch hz) rfl (by decide) (hts _ q213) (va_Nw.use rfl (hK.2.1 _ q303 rfl)) hc9 hv9 hcl ?_
      refine lv_astore (lv' := [(4, .ref q9), (0, .ref (g 0 0)), (1, .int p1), (2, .int p2), (3, .ref o)]) hx hb dX0_fit_13 hl (by decide) rfl (fun ls hl => ?_)
      refine lv_iconst (v := 1) hx hb dX0_fit_15 (by decide) ?_
      exact vx_ret (W.iret (v := 1) hx hb hr (fun t ht hW => ⟨Or.inl ⟨_, 0, _, hf, rfl, rfl, by rw [ht]; exact hR⟩, hS.F ht⟩) hS.2.2 dX0_fit_16)
  · have hR := nk_join hR hB hk
    refine lv_i2l (v := r.toInt64) hx hb dX0_fit_8 rfl ?_
    refine xo_last hx hb hK.1 hR hS dX0_fit_9 (fun H locs v' hv hR hS => ?_)
    refine lv_goto (tgt := 17) hx hb dX0_fit_10 (by decide) ?_
    refine lv_iconst (v := 0) hx hb dX0_fit_17 (by decide) ?_
    exact vx_ret (W.iret (v := 0) hx hb hr (fun t ht hW => ⟨Or.inr ⟨_, _, g', h', _, hf, rfl, hg0, hh', hv, by rw [ht]; exact hR⟩, hS.F ht⟩) hS.2.2 dX0_fit_18)
set_option maxHeartbeats 2000000 in
set_option maxRecDepth 100000 in
theorem wt_isProven (l : Launch) (hfl : l.stackTraces = false) (E : en_T) (C : ex_C) (A : Nat → Prop) (sz : Nat) (g : kw_A) (h : xh_T) (S : gs_T) (o : Nat) (v : Nat → Int64) (p1 : Int32) (p2 : Int32) : vx_Met l yX0_isProven (wsW_ yX0_isProven cX0_isProven 5 (some .int) [(0, 17, 20, 13)]) { frames := 9, cells := 1, slots := 6, locals := 164 } (cpw E C A sz [.ref (g 0 0), .int p1, .int p2, .ref o] (xo E C g h S o v A) (xi_ok S ∧ xh C g h S)) (cw_Q gs_bz ["java/lang/IndexOutOfBoundsException"] E C g h S o (g 0 0) A (xp_isProven S p1 p2)) (fun _ _ _ => False) 1 6 A := by
  refine cw_start (by decide) (Nat.le_of_ble_eq_true rfl) ?_
  intro p e s m below meth c ls hx hb hr hlocks hml hown htb hts hsz hK hN hZ hA hR hP hl
  subst hsz
  have hAA : ∀ a, A a → A a := fun _ h => h
  have hl : lv_has ls 5 [(0, .ref (g 0 0)), (1, .int p1), (2, .int p2), (3, .ref o)] := hl
  have hS : va_S A s.heap s.heap [] := va_S.rf
  obtain ⟨hI, hh⟩ := hP
  refine lv_aload_n hx hb dX0_isProven_0 rfl (lv_at hl 3 rfl) ?_
  refine lv_iconst (v := 0) hx hb dX0_isProven_1 (by decide) ?_
  refine lv_aload_n hx hb dX0_isProven_2 rfl (lv_at hl 0 rfl) ?_
  refine lv_iload_n hx hb dX0_isProven_3 rfl (lv_at hl 1 rfl) ?_
  refine lv_iload_n hx hb dX0_isProven_4 rfl (lv_at hl 2 rfl) ?_
  refine wq_V (As := [.int p1, .int p2]) (rest := [.int 0, .ref o]) (x0 := g 0 0) hK hZ hAA hS (fun _ h => h.1) (fun _ h => h.1) (nk_new hA hS.1 hR) (nk_x xok_9 hR) ⟨hI, hh⟩ (xs_isProven l hfl E C (fun a => A a ∧ a ≠ o) s.heap.size g h S p1 p2) ⟨hx, hb, hml, hown, hts⟩ (cwV 2 hts (lw_V q890 q891 q892 q33 q893) rfl rfl rfl (by decide +kernel) ⟨Nat.le_of_ble_eq_true rfl, Nat.le_of_ble_eq_true rfl⟩) (kw_recv (t := 0) (i := 0) hK.1 (nk_x xok_9 hR) rfl rfl rfl) rfl hl.1 rfl (Nat.le_of_ble_eq_true rfl) dX0_isProven_5 ⟨Nat.le_of_ble_eq_true rfl, Nat.le_of_ble_eq_true rfl⟩ (fun Xn ce q9 H locs hf hB hz hk hS hc9 hv9 hcl => ?_) (fun r S' g' h' H locs hf hg0 hh' hB hz hk hS => ?_)
  · have hR := nk_join hR hB hk
    rcases xn_isProven hf with rfl
    · refine vx_catch (own := "LostroomLaw") (name := "java/lang/IndexOutOfBoundsException") hown [] ⟨0, 17, 20, 13⟩ [] htb (fun z hz => nomatch hz) rfl (by decide) (hts _ q213) (va_Nw.use rfl (hK.2.1 _ q303 rfl)) hc9 hv9 hcl ?_
      refine lv_astore (lv' := [(4, .ref q9), (0, .ref (g 0 0)), (1, .int p1), (2, .int p2), (3, .ref o)]) hx hb dX0_isProven_20 hl (by decide) rfl (fun ls hl => ?_)
      refine lv_iconst (v := 1) hx hb dX0_isProven_22 (by decide) ?_
      exact vx_ret (W.iret (v := 1) hx hb hr (fun t ht hW => ⟨Or.inl ⟨_, 0, _, hf, rfl, rfl, by rw [ht]; exact hR⟩, hS.F ht⟩) hS.2.2 dX0_isProven_23)
  · have hR := nk_join hR hB hk
    cases r with
    | true =>
      refine W.eq (g2 := F0 m 8 ls [.int 1, .int 0, .ref o]) rfl ?_
      refine lv_if_eq (tgt := 15) hx hb dX0_isProven_8 (by decide) (fun h => absurd h (by decide)) (fun _ => ?_)
      refine lv_lconst (v := 1) hx hb dX0_isProven_11 (by decide) ?_
      refine lv_goto (tgt := 16) hx hb dX0_isProven_12 (by decide) ?_
      refine xo_last hx hb hK.1 hR hS dX0_isProven_16 (fun H locs v' hv hR hS => ?_)
      refine lv_goto (tgt := 24) hx hb dX0_isProven_17 (by decide) ?_
      refine lv_iconst (v := 0) hx hb dX0_isProven_24 (by decide) ?_
      exact vx_ret (W.iret (v := 0) hx hb hr (fun t ht hW => ⟨Or.inr ⟨_, _, g', h', _, hf, rfl, hg0, hh', hv.trans (by decide), by rw [ht]; exact hR⟩, hS.F ht⟩) hS.2.2 dX0_isProven_25)
    | false =>
      refine W.eq (g2 := F0 m 8 ls [.int 0, .int 0, .ref o]) rfl ?_
      refine lv_if_eq (tgt := 15) hx hb dX0_isProven_8 (by decide) (fun _ => ?_) (fun h => absurd rfl h)
      refine lv_lconst (v := 0) hx hb dX0_isProven_15 (by decide) ?_
      refine xo_last hx hb hK.1 hR hS dX0_isProven_16 (fun H locs v' hv hR hS => ?_)
      refine lv_goto (tgt := 24) hx hb dX0_isProven_17 (by decide) ?_
      refine lv_iconst (v := 0) hx hb dX0_isProven_24 (by decide) ?_
      exact vx_ret (W.iret (v := 0) hx hb hr (fun t ht hW => ⟨Or.inr ⟨_, _, g', h', _, hf, rfl, hg0, hh', hv.trans (by decide), by rw [ht]; exact hR⟩, hS.F ht⟩) hS.2.2 dX0_isProven_25)
set_option maxHeartbeats 2000000 in
set_option maxRecDepth 100000 in
theorem wt_ofClaim (l : Launch) (hfl : l.stackTraces = false) (E : en_T) (C : ex_C) (A : Nat → Prop) (sz : Nat) (g : kw_A) (h : xh_T) (S : gs_T) (o : Nat) (v : Nat → Int64) (p1 : Int32) (p2 : Int32) : vx_Met l yX0_ofClaim (wsW_ yX0_ofClaim cX0_ofClaim 5 (some .int) [(0, 10, 13, 13), (0, 10, 17, 15)]) { frames := 9, cells := 1, slots := 6, locals := 164 } (cpw E C A sz [.ref (g 0 0), .int p1, .int p2, .ref o] (xo E C g h S o v A) (xi_ok S ∧ xh C g h S)) (cw_Q (fun z => z) ["java/lang/IndexOutOfBoundsException", "java/lang/IllegalArgumentException"] E C g h S o (g 0 0) A (xp_ofClaim S p1 p2)) (fun _ _ _ => False) 1 6 A := by
  refine cw_start (by decide) (Nat.le_of_ble_eq_true rfl) ?_
  intro p e s m below meth c ls hx hb hr hlocks hml hown htb hts hsz hK hN hZ hA hR hP hl
  subst hsz
  have hAA : ∀ a, A a → A a := fun _ h => h
  have hl : lv_has ls 5 [(0, .ref (g 0 0)), (1, .int p1), (2, .int p2), (3, .ref o)] := hl
  have hS : va_S A s.heap s.heap [] := va_S.rf
  obtain ⟨hI, hh⟩ := hP
  refine lv_aload_n hx hb dX0_ofClaim_0 rfl (lv_at hl 3 rfl) ?_
  refine lv_iconst (v := 0) hx hb dX0_ofClaim_1 (by decide) ?_
  refine lv_aload_n hx hb dX0_ofClaim_2 rfl (lv_at hl 0 rfl) ?_
  refine lv_iload_n hx hb dX0_ofClaim_3 rfl (lv_at hl 1 rfl) ?_
  refine lv_iload_n hx hb dX0_ofClaim_4 rfl (lv_at hl 2 rfl) ?_
  refine wq_V (As := [.int p1, .int p2]) (rest := [.int 0, .ref o]) (x0 := g 0 0) hK hZ hAA hS (fun _ h => h.1) (fun _ h => h.1) (nk_new hA hS.1 hR) (nk_x xok_9 hR) ⟨hI, hh⟩ (xs_ofClaim l hfl E C (fun a => A a ∧ a ≠ o) s.heap.size g h S p1 p2) ⟨hx, hb, hml, hown, hts⟩ (cwV 2 hts (lw_V q927 q928 q929 q33 q930) rfl rfl rfl (by decide +kernel) ⟨Nat.le_of_ble_eq_true rfl, Nat.le_of_ble_eq_true rfl⟩) (kw_recv (t := 0) (i := 0) hK.1 (nk_x xok_9 hR) rfl rfl rfl) rfl hl.1 rfl (Nat.le_of_ble_eq_true rfl) dX0_ofClaim_5 ⟨Nat.le_of_ble_eq_true rfl, Nat.le_of_ble_eq_true rfl⟩ (fun Xn ce q9 H locs hf hB hz hk hS hc9 hv9 hcl => ?_) (fun r S' g' h' H locs hf hg0 hh' hB hz hk hS => ?_)
  · have hR := nk_join hR hB hk
    rcases xn_ofClaim hf with rfl | rfl
    · refine vx_catch (own := "LostroomLaw") (name := "java/lang/IndexOutOfBoundsException") hown [] ⟨0, 10, 13, 13⟩ [⟨0, 10, 17, 15⟩] htb (fun z hz => nomatch hz) rfl (by decide) (hts _ q213) (va_Nw.use rfl (hK.2.1 _ q303 rfl)) hc9 hv9 hcl ?_
      refine lv_astore (lv' := [(4, .ref q9), (0, .ref (g 0 0)), (1, .int p1), (2, .int p2), (3, .ref o)]) hx hb dX0_ofClaim_13 hl (by decide) rfl (fun ls hl => ?_)
      refine lv_iconst (v := 1) hx hb dX0_ofClaim_15 (by decide) ?_
      exact vx_ret (W.iret (v := 1) hx hb hr (fun t ht hW => ⟨Or.inl ⟨_, 0, _, hf, rfl, rfl, by rw [ht]; exact hR⟩, hS.F ht⟩) hS.2.2 dX0_ofClaim_16)
    · refine vx_catch (own := "LostroomLaw") (name := "java/lang/IllegalArgumentException") hown [⟨0, 10, 13, 13⟩] ⟨0, 10, 17, 15⟩ [] htb (fun z hz => by rw [List.mem_singleton] at hz; subst hz; exact Or.inr ⟨by decide, _, hts _ q213, hN.1⟩) rfl (by decide) (hts _ q290) (va_Nw.use rfl (hK.2.1 _ q327 rfl)) hc9 hv9 hcl ?_
      refine lv_astore (lv' := [(4, .ref q9), (0, .ref (g 0 0)), (1, .int p1), (2, .int p2), (3, .ref o)]) hx hb dX0_ofClaim_17 hl (by decide) rfl (fun ls hl => ?_)
      refine lv_iconst (v := 2) hx hb dX0_ofClaim_19 (by decide) ?_
      exact vx_ret (W.iret (v := 2) hx hb hr (fun t ht hW => ⟨Or.inl ⟨_, 1, _, hf, rfl, rfl, by rw [ht]; exact hR⟩, hS.F ht⟩) hS.2.2 dX0_ofClaim_20)
  · have hR := nk_join hR hB hk
    refine lv_i2l (v := r.toInt64) hx hb dX0_ofClaim_8 rfl ?_
    refine xo_last hx hb hK.1 hR hS dX0_ofClaim_9 (fun H locs v' hv hR hS => ?_)
    refine lv_goto (tgt := 21) hx hb dX0_ofClaim_10 (by decide) ?_
    refine lv_iconst (v := 0) hx hb dX0_ofClaim_21 (by decide) ?_
    exact vx_ret (W.iret (v := 0) hx hb hr (fun t ht hW => ⟨Or.inr ⟨_, _, g', h', _, hf, rfl, hg0, hh', hv, by rw [ht]; exact hR⟩, hS.F ht⟩) hS.2.2 dX0_ofClaim_22)
set_option maxHeartbeats 2000000 in
set_option maxRecDepth 100000 in
theorem wt_money (l : Launch) (hfl : l.stackTraces = false) (E : en_T) (C : ex_C) (A : Nat → Prop) (sz : Nat) (g : kw_A) (h : xh_T) (S : gs_T) (o : Nat) (v : Nat → Int64) (p1 : Int32) : vx_Met l yX0_money (wsW_ yX0_money cX0_money 4 (some .int) [(0, 9, 12, 15)]) { frames := 8, cells := 1, slots := 6, locals := 141 } (cpw E C A sz [.ref (g 0 0), .int p1, .ref o] (xo E C g h S o v A) (xi_ok S ∧ xh C g h S)) (cw_Q (fun z => z) ["java/lang/IllegalArgumentException"] E C g h S o (g 0 0) A (xp_money S p1)) (fun _ _ _ => False) 1 6 A := by
  refine cw_start (by decide) (Nat.le_of_ble_eq_true rfl) ?_
  intro p e s m below meth c ls hx hb hr hlocks hml hown htb hts hsz hK hN hZ hA hR hP hl
  subst hsz
  have hAA : ∀ a, A a → A a := fun _ h => h
  have hl : lv_has ls 4 [(0, .ref (g 0 0)), (1, .int p1), (2, .ref o)] := hl
  have hS : va_S A s.heap s.heap [] := va_S.rf
  obtain ⟨hI, hh⟩ := hP
  refine lv_aload_n hx hb dX0_money_0 rfl (lv_at hl 2 rfl) ?_
  refine lv_iconst (v := 0) hx hb dX0_money_1 (by decide) ?_
  refine lv_aload_n hx hb dX0_money_2 rfl (lv_at hl 0 rfl) ?_
  refine lv_iload_n hx hb dX0_money_3 rfl (lv_at hl 1 rfl) ?_
  refine wq_V (As := [.int p1]) (rest := [.int 0, .ref o]) (x0 := g 0 0) hK hZ hAA hS (fun _ h => h.1) (fun _ h => h.1) (nk_new hA hS.1 hR) (nk_x xok_9 hR) ⟨hI, hh⟩ (xs_money l hfl E C (fun a => A a ∧ a ≠ o) s.heap.size g h S p1) ⟨hx, hb, hml, hown, hts⟩ (cwV 1 hts (lw_V q934 q935 q936 q33 q937) rfl rfl rfl (by decide +kernel) ⟨Nat.le_of_ble_eq_true rfl, Nat.le_of_ble_eq_true rfl⟩) (kw_recv (t := 0) (i := 0) hK.1 (nk_x xok_9 hR) rfl rfl rfl) rfl hl.1 rfl (Nat.le_of_ble_eq_true rfl) dX0_money_4 ⟨Nat.le_of_ble_eq_true rfl, Nat.le_of_ble_eq_true rfl⟩ (fun Xn ce q9 H locs hf hB hz hk hS hc9 hv9 hcl => ?_) (fun r S' g' h' H locs hf hg0 hh' hB hz hk hS => ?_)
  · have hR := nk_join hR hB hk
    rcases xn_money hf with rfl
    · refine vx_catch (own := "LostroomLaw") (name := "java/lang/IllegalArgumentException") hown [] ⟨0, 9, 12, 15⟩ [] htb (fun z hz => nomatch hz) rfl (by decide) (hts _ q290) (va_Nw.use rfl (hK.2.1 _ q327 rfl)) hc9 hv9 hcl ?_
      refine lv_astore_n (lv' := [(3, .ref q9), (0, .ref (g 0 0)), (1, .int p1), (2, .ref o)]) hx hb dX0_money_12 rfl hl (by decide) rfl (fun ls hl => ?_)
      refine lv_iconst (v := 1) hx hb dX0_money_13 (by decide) ?_
      exact vx_ret (W.iret (v := 1) hx hb hr (fun t ht hW => ⟨Or.inl ⟨_, 0, _, hf, rfl, rfl, by rw [ht]; exact hR⟩, hS.F ht⟩) hS.2.2 dX0_money_14)
  · have hR := nk_join hR hB hk
    refine lv_i2l (v := r.toInt64) hx hb dX0_money_7 rfl ?_
    refine xo_last hx hb hK.1 hR hS dX0_money_8 (fun H locs v' hv hR hS => ?_)
    refine lv_goto (tgt := 15) hx hb dX0_money_9 (by decide) ?_
    refine lv_iconst (v := 0) hx hb dX0_money_15 (by decide) ?_
    exact vx_ret (W.iret (v := 0) hx hb hr (fun t ht hW => ⟨Or.inr ⟨_, _, g', h', _, hf, rfl, hg0, hh', hv, by rw [ht]; exact hR⟩, hS.F ht⟩) hS.2.2 dX0_money_16)
set_option maxHeartbeats 2000000 in
set_option maxRecDepth 100000 in
theorem wt_ofFind (l : Launch) (hfl : l.stackTraces = false) (E : en_T) (C : ex_C) (A : Nat → Prop) (sz : Nat) (g : kw_A) (h : xh_T) (S : gs_T) (o : Nat) (v : Nat → Int64) (p1 : Int32) (p2 : Int32) : vx_Met l yX0_ofFind (wsW_ yX0_ofFind cX0_ofFind 5 (some .int) [(0, 10, 13, 13), (0, 10, 17, 15)]) { frames := 9, cells := 1, slots := 6, locals := 164 } (cpw E C A sz [.ref (g 0 0), .int p1, .int p2, .ref o] (xo E C g h S o v A) (xi_ok S ∧ xh C g h S)) (cw_Q (fun z => z) ["java/lang/IndexOutOfBoundsException", "java/lang/IllegalArgumentException"] E C g h S o (g 0 0) A (xp_ofFind S p1 p2)) (fun _ _ _ => False) 1 6 A := by
  refine cw_start (by decide) (Nat.le_of_ble_eq_true rfl) ?_
  intro p e s m below meth c ls hx hb hr hlocks hml hown htb hts hsz hK hN hZ hA hR hP hl
  subst hsz
  have hAA : ∀ a, A a → A a := fun _ h => h
  have hl : lv_has ls 5 [(0, .ref (g 0 0)), (1, .int p1), (2, .int p2), (3, .ref o)] := hl
  have hS : va_S A s.heap s.heap [] := va_S.rf
  obtain ⟨hI, hh⟩ := hP
  refine lv_aload_n hx hb dX0_ofFind_0 rfl (lv_at hl 3 rfl) ?_
  refine lv_iconst (v := 0) hx hb dX0_ofFind_1 (by decide) ?_
  refine lv_aload_n hx hb dX0_ofFind_2 rfl (lv_at hl 0 rfl) ?_
  refine lv_iload_n hx hb dX0_ofFind_3 rfl (lv_at hl 1 rfl) ?_
  refine lv_iload_n hx hb dX0_ofFind_4 rfl (lv_at hl 2 rfl) ?_
  refine wq_V (As := [.int p1, .int p2]) (rest := [.int 0, .ref o]) (x0 := g 0 0) hK hZ hAA hS (fun _ h => h.1) (fun _ h => h.1) (nk_new hA hS.1 hR) (nk_x xok_9 hR) ⟨hI, hh⟩ (xs_ofFind l hfl E C (fun a => A a ∧ a ≠ o) s.heap.size g h S p1 p2) ⟨hx, hb, hml, hown, hts⟩ (cwV 2 hts (lw_V q904 q905 q906 q33 q907) rfl rfl rfl (by decide +kernel) ⟨Nat.le_of_ble_eq_true rfl, Nat.le_of_ble_eq_true rfl⟩) (kw_recv (t := 0) (i := 0) hK.1 (nk_x xok_9 hR) rfl rfl rfl) rfl hl.1 rfl (Nat.le_of_ble_eq_true rfl) dX0_ofFind_5 ⟨Nat.le_of_ble_eq_true rfl, Nat.le_of_ble_eq_true rfl⟩ (fun Xn ce q9 H locs hf hB hz hk hS hc9 hv9 hcl => ?_) (fun r S' g' h' H locs hf hg0 hh' hB hz hk hS => ?_)
  · have hR := nk_join hR hB hk
    rcases xn_ofFind hf with rfl | rfl
    · refine vx_catch (own := "LostroomLaw") (name := "java/lang/IndexOutOfBoundsException") hown [] ⟨0, 10, 13, 13⟩ [⟨0, 10, 17, 15⟩] htb (fun z hz => nomatch hz) rfl (by decide) (hts _ q213) (va_Nw.use rfl (hK.2.1 _ q303 rfl)) hc9 hv9 hcl ?_
      refine lv_astore (lv' := [(4, .ref q9), (0, .ref (g 0 0)), (1, .int p1), (2, .int p2), (3, .ref o)]) hx hb dX0_ofFind_13 hl (by decide) rfl (fun ls hl => ?_)
      refine lv_iconst (v := 1) hx hb dX0_ofFind_15 (by decide) ?_
      exact vx_ret (W.iret (v := 1) hx hb hr (fun t ht hW => ⟨Or.inl ⟨_, 0, _, hf, rfl, rfl, by rw [ht]; exact hR⟩, hS.F ht⟩) hS.2.2 dX0_ofFind_16)
    · refine vx_catch (own := "LostroomLaw") (name := "java/lang/IllegalArgumentException") hown [⟨0, 10, 13, 13⟩] ⟨0, 10, 17, 15⟩ [] htb (fun z hz => by rw [List.mem_singleton] at hz; subst hz; exact Or.inr ⟨by decide, _, hts _ q213, hN.1⟩) rfl (by decide) (hts _ q290) (va_Nw.use rfl (hK.2.1 _ q327 rfl)) hc9 hv9 hcl ?_
      refine lv_astore (lv' := [(4, .ref q9), (0, .ref (g 0 0)), (1, .int p1), (2, .int p2), (3, .ref o)]) hx hb dX0_ofFind_17 hl (by decide) rfl (fun ls hl => ?_)
      refine lv_iconst (v := 2) hx hb dX0_ofFind_19 (by decide) ?_
      exact vx_ret (W.iret (v := 2) hx hb hr (fun t ht hW => ⟨Or.inl ⟨_, 1, _, hf, rfl, rfl, by rw [ht]; exact hR⟩, hS.F ht⟩) hS.2.2 dX0_ofFind_20)
  · have hR := nk_join hR hB hk
    refine lv_i2l (v := r.toInt64) hx hb dX0_ofFind_8 rfl ?_
    refine xo_last hx hb hK.1 hR hS dX0_ofFind_9 (fun H locs v' hv hR hS => ?_)
    refine lv_goto (tgt := 21) hx hb dX0_ofFind_10 (by decide) ?_
    refine lv_iconst (v := 0) hx hb dX0_ofFind_21 (by decide) ?_
    exact vx_ret (W.iret (v := 0) hx hb hr (fun t ht hW => ⟨Or.inr ⟨_, _, g', h', _, hf, rfl, hg0, hh', hv, by rw [ht]; exact hR⟩, hS.F ht⟩) hS.2.2 dX0_ofFind_22)
set_option maxHeartbeats 2000000 in
set_option maxRecDepth 100000 in
theorem wt_audit (l : Launch) (hfl : l.stackTraces = false) (E : en_T) (C : ex_C) (A : Nat → Prop) (sz : Nat) (g : kw_A) (h : xh_T) (S : gs_T) (o : Nat) (v : Nat → Int64) (p1 : Int32) : vx_Met l yX0_audit (wsW_ yX0_audit cX0_audit 4 (some .int) [(0, 9, 12, 13)]) { frames := 8, cells := 1, slots := 6, locals := 143 } (cpw E C A sz [.ref (g 0 0), .int p1, .ref o] (xo E C g h S o v A) (xi_ok S ∧ xh C g h S)) (cw_Q (fun z => z) ["java/lang/IndexOutOfBoundsException"] E C g h S o (g 0 0) A (xp_audit S p1)) (fun _ _ _ => False) 1 6 A := by
  refine cw_start (by decide) (Nat.le_of_ble_eq_true rfl) ?_
  intro p e s m below meth c ls hx hb hr hlocks hml hown htb hts hsz hK hN hZ hA hR hP hl
  subst hsz
  have hAA : ∀ a, A a → A a := fun _ h => h
  have hl : lv_has ls 4 [(0, .ref (g 0 0)), (1, .int p1), (2, .ref o)] := hl
  have hS : va_S A s.heap s.heap [] := va_S.rf
  obtain ⟨hI, hh⟩ := hP
  refine lv_aload_n hx hb dX0_audit_0 rfl (lv_at hl 2 rfl) ?_
  refine lv_iconst (v := 0) hx hb dX0_audit_1 (by decide) ?_
  refine lv_aload_n hx hb dX0_audit_2 rfl (lv_at hl 0 rfl) ?_
  refine lv_iload_n hx hb dX0_audit_3 rfl (lv_at hl 1 rfl) ?_
  refine wq_V (As := [.int p1]) (rest := [.int 0, .ref o]) (x0 := g 0 0) hK hZ hAA hS (fun _ h => h.1) (fun _ h => h.1) (nk_new hA hS.1 hR) (nk_x xok_9 hR) ⟨hI, hh⟩ (xs_audit l hfl E C (fun a => A a ∧ a ≠ o) s.heap.size g h S p1) ⟨hx, hb, hml, hown, hts⟩ (cwV 1 hts (lw_V q941 q942 q943 q33 q944) rfl rfl rfl (by decide +kernel) ⟨Nat.le_of_ble_eq_true rfl, Nat.le_of_ble_eq_true rfl⟩) (kw_recv (t := 0) (i := 0) hK.1 (nk_x xok_9 hR) rfl rfl rfl) rfl hl.1 rfl (Nat.le_of_ble_eq_true rfl) dX0_audit_4 ⟨Nat.le_of_ble_eq_true rfl, Nat.le_of_ble_eq_true rfl⟩ (fun Xn ce q9 H locs hf hB hz hk hS hc9 hv9 hcl => ?_) (fun r S' g' h' H locs hf hg0 hh' hB hz hk hS => ?_)
  · have hR := nk_join hR hB hk
    rcases xn_audit hf with rfl
    · refine vx_catch (own := "LostroomLaw") (name := "java/lang/IndexOutOfBoundsException") hown [] ⟨0, 9, 12, 13⟩ [] htb (fun z hz => nomatch hz) rfl (by decide) (hts _ q213) (va_Nw.use rfl (hK.2.1 _ q303 rfl)) hc9 hv9 hcl ?_
      refine lv_astore_n (lv' := [(3, .ref q9), (0, .ref (g 0 0)), (1, .int p1), (2, .ref o)]) hx hb dX0_audit_12 rfl hl (by decide) rfl (fun ls hl => ?_)
      refine lv_iconst (v := 1) hx hb dX0_audit_13 (by decide) ?_
      exact vx_ret (W.iret (v := 1) hx hb hr (fun t ht hW => ⟨Or.inl ⟨_, 0, _, hf, rfl, rfl, by rw [ht]; exact hR⟩, hS.F ht⟩) hS.2.2 dX0_audit_14)
  · have hR := nk_join hR hB hk
    refine lv_i2l (v := r.toInt64) hx hb dX0_audit_7 rfl ?_
    refine xo_last hx hb hK.1 hR hS dX0_audit_8 (fun H locs v' hv hR hS => ?_)
    refine lv_goto (tgt := 15) hx hb dX0_audit_9 (by decide) ?_
    refine lv_iconst (v := 0) hx hb dX0_audit_15 (by decide) ?_
    exact vx_ret (W.iret (v := 0) hx hb hr (fun t ht hW => ⟨Or.inr ⟨_, _, g', h', _, hf, rfl, hg0, hh', hv, by rw [ht]; exact hR⟩, hS.F ht⟩) hS.2.2 dX0_audit_16)
set_option maxHeartbeats 2000000 in
set_option maxRecDepth 100000 in
theorem wt_hand (l : Launch) (hfl : l.stackTraces = false) (E : en_T) (C : ex_C) (A : Nat → Prop) (sz : Nat) (g : kw_A) (h : xh_T) (S : gs_T) (o : Nat) (v : Nat → Int64) (p1 : Int32) (p2 : Int32) (p3 : Int32) : vx_Met l yX0_hand (wsW_ yX0_hand cX0_hand 6 (some .int) [(0, 12, 15, 13)]) { frames := 9, cells := 1, slots := 6, locals := 166 } (cpw E C A sz [.ref (g 0 0), .int p1, .int p2, .int p3, .ref o] (xo E C g h S o v A) (xi_ok S ∧ xh C g h S)) (cw_Q (fun z => z) ["java/lang/IndexOutOfBoundsException"] E C g h S o (g 0 0) A (xp_hand S p1 p2 p3)) (fun _ _ _ => False) 1 6 A := by
  refine cw_start (by decide) (Nat.le_of_ble_eq_true rfl) ?_
  intro p e s m below meth c ls hx hb hr hlocks hml hown htb hts hsz hK hN hZ hA hR hP hl
  subst hsz
  have hAA : ∀ a, A a → A a := fun _ h => h
  have hl : lv_has ls 6 [(0, .ref (g 0 0)), (1, .int p1), (2, .int p2), (3, .int p3), (4, .ref o)] := hl
  have hS : va_S A s.heap s.heap [] := va_S.rf
  obtain ⟨hI, hh⟩ := hP
  refine lv_aload hx hb dX0_hand_0 (lv_at hl 4 rfl) ?_
  refine lv_iconst (v := 0) hx hb dX0_hand_2 (by decide) ?_
  refine lv_aload_n hx hb dX0_hand_3 rfl (lv_at hl 0 rfl) ?_
  refine lv_iload_n hx hb dX0_hand_4 rfl (lv_at hl 1 rfl) ?_
  refine lv_iload_n hx hb dX0_hand_5 rfl (lv_at hl 2 rfl) ?_
  refine lv_iload_n hx hb dX0_hand_6 rfl (lv_at hl 3 rfl) ?_
  refine wq_V (As := [.int p1, .int p2, .int p3]) (rest := [.int 0, .ref o]) (x0 := g 0 0) hK hZ hAA hS (fun _ h => h.1) (fun _ h => h.1) (nk_new hA hS.1 hR) (nk_x xok_9 hR) ⟨hI, hh⟩ (xs_hand l hfl E C (fun a => A a ∧ a ≠ o) s.heap.size g h S p1 p2 p3) ⟨hx, hb, hml, hown, hts⟩ (cwV 3 hts (lw_V q911 q912 q913 q33 q914) rfl rfl rfl (by decide +kernel) ⟨Nat.le_of_ble_eq_true rfl, Nat.le_of_ble_eq_true rfl⟩) (kw_recv (t := 0) (i := 0) hK.1 (nk_x xok_9 hR) rfl rfl rfl) rfl hl.1 rfl (Nat.le_of_ble_eq_true rfl) dX0_hand_7 ⟨Nat.le_of_ble_eq_true rfl, Nat.le_of_ble_eq_true rfl⟩ (fun Xn ce q9 H locs hf hB hz hk hS hc9 hv9 hcl => ?_) (fun r S' g' h' H locs hf hg0 hh' hB hz hk hS => ?_)
  · have hR := nk_join hR hB hk
    rcases xn_hand hf with rfl
    · refine vx_catch (own := "LostroomLaw") (name := "java/lang/IndexOutOfBoundsException") hown [] ⟨0, 12, 15, 13⟩ [] htb (fun z hz => nomatch hz) rfl (by decide) (hts _ q213) (va_Nw.use rfl (hK.2.1 _ q303 rfl)) hc9 hv9 hcl ?_
      refine lv_astore (lv' := [(5, .ref q9), (0, .ref (g 0 0)), (1, .int p1), (2, .int p2), (3, .int p3), (4, .ref o)]) hx hb dX0_hand_15 hl (by decide) rfl (fun ls hl => ?_)
      refine lv_iconst (v := 1) hx hb dX0_hand_17 (by decide) ?_
      exact vx_ret (W.iret (v := 1) hx hb hr (fun t ht hW => ⟨Or.inl ⟨_, 0, _, hf, rfl, rfl, by rw [ht]; exact hR⟩, hS.F ht⟩) hS.2.2 dX0_hand_18)
  · have hR := nk_join hR hB hk
    refine lv_i2l (v := r.toInt64) hx hb dX0_hand_10 rfl ?_
    refine xo_last hx hb hK.1 hR hS dX0_hand_11 (fun H locs v' hv hR hS => ?_)
    refine lv_goto (tgt := 19) hx hb dX0_hand_12 (by decide) ?_
    refine lv_iconst (v := 0) hx hb dX0_hand_19 (by decide) ?_
    exact vx_ret (W.iret (v := 0) hx hb hr (fun t ht hW => ⟨Or.inr ⟨_, _, g', h', _, hf, rfl, hg0, hh', hv, by rw [ht]; exact hR⟩, hS.F ht⟩) hS.2.2 dX0_hand_20)
set_option maxHeartbeats 2000000 in
set_option maxRecDepth 100000 in
theorem wt_question (l : Launch) (hfl : l.stackTraces = false) (E : en_T) (C : ex_C) (A : Nat → Prop) (sz : Nat) (g : kw_A) (h : xh_T) (S : gs_T) (o : Nat) (v : Nat → Int64) (p1 : Int32) : vx_Met l yX0_question (wsW_ yX0_question cX0_question 4 (some .int) [(0, 9, 12, 13)]) { frames := 11, cells := 1, slots := 6, locals := 252 } (cpw E C A sz [.ref (g 0 0), .int p1, .ref o] (xo E C g h S o v A) (xi_ok S ∧ xh C g h S)) (cw_Q (fun z => z) ["java/lang/IndexOutOfBoundsException"] E C g h S o (g 0 0) A (xp_question S p1)) (fun _ _ _ => False) 1 6 A := by
  refine cw_start (by decide) (Nat.le_of_ble_eq_true rfl) ?_
  intro p e s m below meth c ls hx hb hr hlocks hml hown htb hts hsz hK hN hZ hA hR hP hl
  subst hsz
  have hAA : ∀ a, A a → A a := fun _ h => h
  have hl : lv_has ls 4 [(0, .ref (g 0 0)), (1, .int p1), (2, .ref o)] := hl
  have hS : va_S A s.heap s.heap [] := va_S.rf
  obtain ⟨hI, hh⟩ := hP
  refine lv_aload_n hx hb dX0_question_0 rfl (lv_at hl 2 rfl) ?_
  refine lv_iconst (v := 0) hx hb dX0_question_1 (by decide) ?_
  refine lv_aload_n hx hb dX0_question_2 rfl (lv_at hl 0 rfl) ?_
  refine lv_iload_n hx hb dX0_question_3 rfl (lv_at hl 1 rfl) ?_
  refine wq_V (As := [.int p1]) (rest := [.int 0, .ref o]) (x0 := g 0 0) hK hZ hAA hS (fun _ h => h.1) (fun _ h => h.1) (nk_new hA hS.1 hR) (nk_x xok_9 hR) ⟨hI, hh⟩ (xs_question l hfl E C (fun a => A a ∧ a ≠ o) s.heap.size g h S p1) ⟨hx, hb, hml, hown, hts⟩ (cwV 1 hts (lw_V q880 q881 q882 q33 q883) rfl rfl rfl (by decide +kernel) ⟨Nat.le_of_ble_eq_true rfl, Nat.le_of_ble_eq_true rfl⟩) (kw_recv (t := 0) (i := 0) hK.1 (nk_x xok_9 hR) rfl rfl rfl) rfl hl.1 rfl (Nat.le_of_ble_eq_true rfl) dX0_question_4 ⟨Nat.le_of_ble_eq_true rfl, Nat.le_of_ble_eq_true rfl⟩ (fun Xn ce q9 H locs hf hB hz hk hS hc9 hv9 hcl => ?_) (fun r S' g' h' H locs hf hg0 hh' hB hz hk hS => ?_)
  · have hR := nk_join hR hB hk
    rcases xn_question hf with rfl
    · refine vx_catch (own := "LostroomLaw") (name := "java/lang/IndexOutOfBoundsException") hown [] ⟨0, 9, 12, 13⟩ [] htb (fun z hz => nomatch hz) rfl (by decide) (hts _ q213) (va_Nw.use rfl (hK.2.1 _ q303 rfl)) hc9 hv9 hcl ?_
      refine lv_astore_n (lv' := [(3, .ref q9), (0, .ref (g 0 0)), (1, .int p1), (2, .ref o)]) hx hb dX0_question_12 rfl hl (by decide) rfl (fun ls hl => ?_)
      refine lv_iconst (v := 1) hx hb dX0_question_13 (by decide) ?_
      exact vx_ret (W.iret (v := 1) hx hb hr (fun t ht hW => ⟨Or.inl ⟨_, 0, _, hf, rfl, rfl, by rw [ht]; exact hR⟩, hS.F ht⟩) hS.2.2 dX0_question_14)
  · have hR := nk_join hR hB hk
    refine lv_i2l (v := r.toInt64) hx hb dX0_question_7 rfl ?_
    refine xo_last hx hb hK.1 hR hS dX0_question_8 (fun H locs v' hv hR hS => ?_)
    refine lv_goto (tgt := 15) hx hb dX0_question_9 (by decide) ?_
    refine lv_iconst (v := 0) hx hb dX0_question_15 (by decide) ?_
    exact vx_ret (W.iret (v := 0) hx hb hr (fun t ht hW => ⟨Or.inr ⟨_, _, g', h', _, hf, rfl, hg0, hh', hv, by rw [ht]; exact hR⟩, hS.F ht⟩) hS.2.2 dX0_question_16)
set_option maxHeartbeats 2000000 in
set_option maxRecDepth 100000 in
theorem wt_candidate (l : Launch) (hfl : l.stackTraces = false) (E : en_T) (C : ex_C) (A : Nat → Prop) (sz : Nat) (g : kw_A) (h : xh_T) (S : gs_T) (o : Nat) (v : Nat → Int64) (p1 : Int32) (p2 : Int32) : vx_Met l yX0_candidate (wsW_ yX0_candidate cX0_candidate 5 (some .int) [(0, 10, 13, 13)]) { frames := 11, cells := 1, slots := 6, locals := 250 } (cpw E C A sz [.ref (g 0 0), .int p1, .int p2, .ref o] (xo E C g h S o v A) (xi_ok S ∧ xh C g h S)) (cw_Q (fun z => z) ["java/lang/IndexOutOfBoundsException"] E C g h S o (g 0 0) A (xp_candidate S p1 p2)) (fun _ _ _ => False) 1 6 A := by
  refine cw_start (by decide) (Nat.le_of_ble_eq_true rfl) ?_
  intro p e s m below meth c ls hx hb hr hlocks hml hown htb hts hsz hK hN hZ hA hR hP hl
  subst hsz
  have hAA : ∀ a, A a → A a := fun _ h => h
  have hl : lv_has ls 5 [(0, .ref (g 0 0)), (1, .int p1), (2, .int p2), (3, .ref o)] := hl
  have hS : va_S A s.heap s.heap [] := va_S.rf
  obtain ⟨hI, hh⟩ := hP
  refine lv_aload_n hx hb dX0_candidate_0 rfl (lv_at hl 3 rfl) ?_
  refine lv_iconst (v := 0) hx hb dX0_candidate_1 (by decide) ?_
  refine lv_aload_n hx hb dX0_candidate_2 rfl (lv_at hl 0 rfl) ?_
  refine lv_iload_n hx hb dX0_candidate_3 rfl (lv_at hl 1 rfl) ?_
  refine lv_iload_n hx hb dX0_candidate_4 rfl (lv_at hl 2 rfl) ?_
  refine wq_V (As := [.int p1, .int p2]) (rest := [.int 0, .ref o]) (x0 := g 0 0) hK hZ hAA hS (fun _ h => h.1) (fun _ h => h.1) (nk_new hA hS.1 hR) (nk_x xok_9 hR) ⟨hI, hh⟩ (xs_candidate l hfl E C (fun a => A a ∧ a ≠ o) s.heap.size g h S p1 p2) ⟨hx, hb, hml, hown, hts⟩ (cwV 2 hts (lw_V q869 q870 q871 q33 q872) rfl rfl rfl (by decide +kernel) ⟨Nat.le_of_ble_eq_true rfl, Nat.le_of_ble_eq_true rfl⟩) (kw_recv (t := 0) (i := 0) hK.1 (nk_x xok_9 hR) rfl rfl rfl) rfl hl.1 rfl (Nat.le_of_ble_eq_true rfl) dX0_candidate_5 ⟨Nat.le_of_ble_eq_true rfl, Nat.le_of_ble_eq_true rfl⟩ (fun Xn ce q9 H locs hf hB hz hk hS hc9 hv9 hcl => ?_) (fun r S' g' h' H locs hf hg0 hh' hB hz hk hS => ?_)
  · have hR := nk_join hR hB hk
    rcases xn_candidate hf with rfl
    · refine vx_catch (own := "LostroomLaw") (name := "java/lang/IndexOutOfBoundsException") hown [] ⟨0, 10, 13, 13⟩ [] htb (fun z hz => nomatch hz) rfl (by decide) (hts _ q213) (va_Nw.use rfl (hK.2.1 _ q303 rfl)) hc9 hv9 hcl ?_
      refine lv_astore (lv' := [(4, .ref q9), (0, .ref (g 0 0)), (1, .int p1), (2, .int p2), (3, .ref o)]) hx hb dX0_candidate_13 hl (by decide) rfl (fun ls hl => ?_)
      refine lv_iconst (v := 1) hx hb dX0_candidate_15 (by decide) ?_
      exact vx_ret (W.iret (v := 1) hx hb hr (fun t ht hW => ⟨Or.inl ⟨_, 0, _, hf, rfl, rfl, by rw [ht]; exact hR⟩, hS.F ht⟩) hS.2.2 dX0_candidate_16)
  · have hR := nk_join hR hB hk
    refine lv_i2l (v := r.toInt64) hx hb dX0_candidate_8 rfl ?_
    refine xo_last hx hb hK.1 hR hS dX0_candidate_9 (fun H locs v' hv hR hS => ?_)
    refine lv_goto (tgt := 17) hx hb dX0_candidate_10 (by decide) ?_
    refine lv_iconst (v := 0) hx hb dX0_candidate_17 (by decide) ?_
    exact vx_ret (W.iret (v := 0) hx hb hr (fun t ht hW => ⟨Or.inr ⟨_, _, g', h', _, hf, rfl, hg0, hh', hv, by rw [ht]; exact hR⟩, hS.F ht⟩) hS.2.2 dX0_candidate_18)
set_option maxHeartbeats 2000000 in
set_option maxRecDepth 100000 in
theorem wt_release (l : Launch) (hfl : l.stackTraces = false) (E : en_T) (C : ex_C) (A : Nat → Prop) (sz : Nat) (g : kw_A) (h : xh_T) (S : gs_T) (o : Nat) (v : Nat → Int64) (p1 : Int32) (p2 : Int32) : vx_Met l yX0_release (wsW_ yX0_release cX0_release 5 (some .int) [(0, 10, 13, 13), (0, 10, 17, 28)]) { frames := 10, cells := 2, slots := 10, locals := 231 } (cpw E C A sz [.ref (g 0 0), .int p1, .int p2, .ref o] (xo E C g h S o v A) (xi_ok S ∧ xh C g h S)) (cw_Q (fun z => z) ["java/lang/IndexOutOfBoundsException", "java/lang/IllegalStateException"] E C g h S o (g 0 0) A (xp_release S p1 p2)) (fun _ _ _ => False) 2 10 A := by
  refine cw_start (by decide) (Nat.le_of_ble_eq_true rfl) ?_
  intro p e s m below meth c ls hx hb hr hlocks hml hown htb hts hsz hK hN hZ hA hR hP hl
  subst hsz
  have hAA : ∀ a, A a → A a := fun _ h => h
  have hl : lv_has ls 5 [(0, .ref (g 0 0)), (1, .int p1), (2, .int p2), (3, .ref o)] := hl
  have hS : va_S A s.heap s.heap [] := va_S.rf
  obtain ⟨hI, hh⟩ := hP
  refine lv_aload_n hx hb dX0_release_0 rfl (lv_at hl 3 rfl) ?_
  refine lv_iconst (v := 0) hx hb dX0_release_1 (by decide) ?_
  refine lv_aload_n hx hb dX0_release_2 rfl (lv_at hl 0 rfl) ?_
  refine lv_iload_n hx hb dX0_release_3 rfl (lv_at hl 1 rfl) ?_
  refine lv_iload_n hx hb dX0_release_4 rfl (lv_at hl 2 rfl) ?_
  refine wq_V (As := [.int p1, .int p2]) (rest := [.int 0, .ref o]) (x0 := g 0 0) hK hZ hAA hS (fun _ h => h.1) (fun _ h => h.1) (nk_new hA hS.1 hR) (nk_x xok_9 hR) ⟨hI, hh⟩ (xs_release l hfl E C (fun a => A a ∧ a ≠ o) s.heap.size g h S p1 p2) ⟨hx, hb, hml, hown, hts⟩ (cwV 2 hts (lw_V q784 q785 q786 q33 q787) rfl rfl rfl (by decide +kernel) ⟨Nat.le_of_ble_eq_true rfl, Nat.le_of_ble_eq_true rfl⟩) (kw_recv (t := 0) (i := 0) hK.1 (nk_x xok_9 hR) rfl rfl rfl) rfl hl.1 rfl (Nat.le_of_ble_eq_true rfl) dX0_release_5 ⟨Nat.le_of_ble_eq_true rfl, Nat.le_of_ble_eq_true rfl⟩ (fun Xn ce q9 H locs hf hB hz hk hS hc9 hv9 hcl => ?_) (fun r S' g' h' H locs hf hg0 hh' hB hz hk hS => ?_)
  · have hR := nk_join hR hB hk
    rcases xn_release hf with rfl | rfl
    · refine vx_catch (own := "LostroomLaw") (name := "java/lang/IndexOutOfBoundsException") hown [] ⟨0, 10, 13, 13⟩ [⟨0, 10, 17, 28⟩] htb (fun z hz => nomatch hz) rfl (by decide) (hts _ q213) (va_Nw.use rfl (hK.2.1 _ q303 rfl)) hc9 hv9 hcl ?_
      refine lv_astore (lv' := [(4, .ref q9), (0, .ref (g 0 0)), (1, .int p1), (2, .int p2), (3, .ref o)]) hx hb dX0_release_13 hl (by decide) rfl (fun ls hl => ?_)
      refine lv_iconst (v := 1) hx hb dX0_release_15 (by decide) ?_
      exact vx_ret (W.iret (v := 1) hx hb hr (fun t ht hW => ⟨Or.inl ⟨_, 0, _, hf, rfl, rfl, by rw [ht]; exact hR⟩, hS.F ht⟩) hS.2.2 dX0_release_16)
    · refine vx_catch (own := "LostroomLaw") (name := "java/lang/IllegalStateException") hown [⟨0, 10, 13, 13⟩] ⟨0, 10, 17, 28⟩ [] htb (fun z hz => by rw [List.mem_singleton] at hz; subst hz; exact Or.inr ⟨by decide, _, hts _ q213, hN.2.1⟩) rfl (by decide) (hts _ q363) (va_Nw.use rfl (hK.2.1 _ q462 rfl)) hc9 hv9 hcl ?_
      refine lv_astore (lv' := [(4, .ref q9), (0, .ref (g 0 0)), (1, .int p1), (2, .int p2), (3, .ref o)]) hx hb dX0_release_17 hl (by decide) rfl (fun ls hl => ?_)
      refine lv_iconst (v := 2) hx hb dX0_release_19 (by decide) ?_
      exact vx_ret (W.iret (v := 2) hx hb hr (fun t ht hW => ⟨Or.inl ⟨_, 1, _, hf, rfl, rfl, by rw [ht]; exact hR⟩, hS.F ht⟩) hS.2.2 dX0_release_20)
  · have hR := nk_join hR hB hk
    refine lv_i2l (v := r.toInt64) hx hb dX0_release_8 rfl ?_
    refine xo_last hx hb hK.1 hR hS dX0_release_9 (fun H locs v' hv hR hS => ?_)
    refine lv_goto (tgt := 21) hx hb dX0_release_10 (by decide) ?_
    refine lv_iconst (v := 0) hx hb dX0_release_21 (by decide) ?_
    exact vx_ret (W.iret (v := 0) hx hb hr (fun t ht hW => ⟨Or.inr ⟨_, _, g', h', _, hf, rfl, hg0, hh', hv, by rw [ht]; exact hR⟩, hS.F ht⟩) hS.2.2 dX0_release_22)
set_option maxHeartbeats 2000000 in
set_option maxRecDepth 100000 in
theorem wt_sell (l : Launch) (hfl : l.stackTraces = false) (E : en_T) (C : ex_C) (A : Nat → Prop) (sz : Nat) (g : kw_A) (h : xh_T) (S : gs_T) (o : Nat) (v : Nat → Int64) (p1 : Int32) (p2 : Int32) : vx_Met l yX0_sell (wsW_ yX0_sell cX0_sell 5 (some .int) [(0, 10, 13, 13), (0, 10, 17, 15), (0, 10, 21, 28)]) { frames := 11, cells := 2, slots := 10, locals := 247 } (cpw E C A sz [.ref (g 0 0), .int p1, .int p2, .ref o] (xo E C g h S o v A) (xi_ok S ∧ xh C g h S)) (cw_Q (fun z => z) ["java/lang/IndexOutOfBoundsException", "java/lang/IllegalArgumentException", "java/lang/IllegalStateException"] E C g h S o (g 0 0) A (xp_sell S p1 p2)) (fun _ _ _ => False) 2 10 A := by
  refine cw_start (by decide) (Nat.le_of_ble_eq_true rfl) ?_
  intro p e s m below meth c ls hx hb hr hlocks hml hown htb hts hsz hK hN hZ hA hR hP hl
  subst hsz
  have hAA : ∀ a, A a → A a := fun _ h => h
  have hl : lv_has ls 5 [(0, .ref (g 0 0)), (1, .int p1), (2, .int p2), (3, .ref o)] := hl
  have hS : va_S A s.heap s.heap [] := va_S.rf
  obtain ⟨hI, hh⟩ := hP
  refine lv_aload_n hx hb dX0_sell_0 rfl (lv_at hl 3 rfl) ?_
  refine lv_iconst (v := 0) hx hb dX0_sell_1 (by decide) ?_
  refine lv_aload_n hx hb dX0_sell_2 rfl (lv_at hl 0 rfl) ?_
  refine lv_iload_n hx hb dX0_sell_3 rfl (lv_at hl 1 rfl) ?_
  refine lv_iload_n hx hb dX0_sell_4 rfl (lv_at hl 2 rfl) ?_
  refine wq_V (As := [.int p1, .int p2]) (rest := [.int 0, .ref o]) (x0 := g 0 0) hK hZ hAA hS (fun _ h => h.1) (fun _ h => h.1) (nk_new hA hS.1 hR) (nk_x xok_9 hR) ⟨hI, hh⟩ (xs_sell l hfl E C (fun a => A a ∧ a ≠ o) s.heap.size g h S p1 p2) ⟨hx, hb, hml, hown, hts⟩ (cwV 2 hts (lw_V q829 q830 q831 q33 q832) rfl rfl rfl (by decide +kernel) ⟨Nat.le_of_ble_eq_true rfl, Nat.le_of_ble_eq_true rfl⟩) (kw_recv (t := 0) (i := 0) hK.1 (nk_x xok_9 hR) rfl rfl rfl) rfl hl.1 rfl (Nat.le_of_ble_eq_true rfl) dX0_sell_5 ⟨Nat.le_of_ble_eq_true rfl, Nat.le_of_ble_eq_true rfl⟩ (fun Xn ce q9 H locs hf hB hz hk hS hc9 hv9 hcl => ?_) (fun r S' g' h' H locs hf hg0 hh' hB hz hk hS => ?_)
  · have hR := nk_join hR hB hk
    rcases xn_sell hf with rfl | rfl | rfl
    · refine vx_catch (own := "LostroomLaw") (name := "java/lang/IndexOutOfBoundsException") hown [] ⟨0, 10, 13, 13⟩ [⟨0, 10, 17, 15⟩, ⟨0, 10, 21, 28⟩] htb (fun z hz => nomatch hz) rfl (by decide) (hts _ q213) (va_Nw.use rfl (hK.2.1 _ q303 rfl)) hc9 hv9 hcl ?_
      refine lv_astore (lv' := [(4, .ref q9), (0, .ref (g 0 0)), (1, .int p1), (2, .int p2), (3, .ref o)]) hx hb dX0_sell_13 hl (by decide) rfl (fun ls hl => ?_)
      refine lv_iconst (v := 1) hx hb dX0_sell_15 (by decide) ?_
      exact vx_ret (W.iret (v := 1) hx hb hr (fun t ht hW => ⟨Or.inl ⟨_, 0, _, hf, rfl, rfl, by rw [ht]; exact hR⟩, hS.F ht⟩) hS.2.2 dX0_sell_16)
    · refine vx_catch (own := "LostroomLaw") (name := "java/lang/IllegalArgumentException") hown [⟨0, 10, 13, 13⟩] ⟨0, 10, 17, 15⟩ [⟨0, 10, 21, 28⟩] htb (fun z hz => by rw [List.mem_singleton] at hz; subst hz; exact Or.inr ⟨by decide, _, hts _ q213, hN.1⟩) rfl (by decide) (hts _ q290) (va_Nw.use rfl (hK.2.1 _ q327 rfl)) hc9 hv9 hcl ?_
      refine lv_astore (lv' := [(4, .ref q9), (0, .ref (g 0 0)), (1, .int p1), (2, .int p2), (3, .ref o)]) hx hb dX0_sell_17 hl (by decide) rfl (fun ls hl => ?_)
      refine lv_iconst (v := 2) hx hb dX0_sell_19 (by decide) ?_
      exact vx_ret (W.iret (v := 2) hx hb hr (fun t ht hW => ⟨Or.inl ⟨_, 1, _, hf, rfl, rfl, by rw [ht]; exact hR⟩, hS.F ht⟩) hS.2.2 dX0_sell_20)
    · refine vx_catch (own := "LostroomLaw") (name := "java/lang/IllegalStateException") hown [⟨0, 10, 13, 13⟩, ⟨0, 10, 17, 15⟩] ⟨0, 10, 21, 28⟩ [] htb (fun z hz => (List.mem_cons.mp hz).elim (fun hz => hz ▸ Or.inr ⟨by decide, _, hts _ q213, hN.2.1⟩) (fun hz => (List.mem_singleton.mp hz) ▸ Or.inr ⟨by decide, _, hts _ q290, hN.2.2⟩)) rfl (by decide) (hts _ q363) (va_Nw.use rfl (hK.2.1 _ q462 rfl)) hc9 hv9 hcl ?_
      refine lv_astore (lv' := [(4, .ref q9), (0, .ref (g 0 0)), (1, .int p1), (2, .int p2), (3, .ref o)]) hx hb dX0_sell_21 hl (by decide) rfl (fun ls hl => ?_)
      refine lv_iconst (v := 3) hx hb dX0_sell_23 (by decide) ?_
      exact vx_ret (W.iret (v := 3) hx hb hr (fun t ht hW => ⟨Or.inl ⟨_, 2, _, hf, rfl, rfl, by rw [ht]; exact hR⟩, hS.F ht⟩) hS.2.2 dX0_sell_24)
  · have hR := nk_join hR hB hk
    refine lv_i2l (v := r.toInt64) hx hb dX0_sell_8 rfl ?_
    refine xo_last hx hb hK.1 hR hS dX0_sell_9 (fun H locs v' hv hR hS => ?_)
    refine lv_goto (tgt := 25) hx hb dX0_sell_10 (by decide) ?_
    refine lv_iconst (v := 0) hx hb dX0_sell_25 (by decide) ?_
    exact vx_ret (W.iret (v := 0) hx hb hr (fun t ht hW => ⟨Or.inr ⟨_, _, g', h', _, hf, rfl, hg0, hh', hv, by rw [ht]; exact hR⟩, hS.F ht⟩) hS.2.2 dX0_sell_26)
set_option maxHeartbeats 2000000 in
set_option maxRecDepth 100000 in
theorem wt_destroy (l : Launch) (hfl : l.stackTraces = false) (E : en_T) (C : ex_C) (A : Nat → Prop) (sz : Nat) (g : kw_A) (h : xh_T) (S : gs_T) (o : Nat) (v : Nat → Int64) (p1 : Int32) : vx_Met l yX0_destroy (wsW_ yX0_destroy cX0_destroy 4 (some .int) [(0, 9, 12, 13), (0, 9, 15, 28)]) { frames := 11, cells := 2, slots := 10, locals := 246 } (cpw E C A sz [.ref (g 0 0), .int p1, .ref o] (xo E C g h S o v A) (xi_ok S ∧ xh C g h S)) (cw_Q (fun z => z) ["java/lang/IndexOutOfBoundsException", "java/lang/IllegalStateException"] E C g h S o (g 0 0) A (xp_destroy S p1)) (fun _ _ _ => False) 2 10 A := by
  refine cw_start (by decide) (Nat.le_of_ble_eq_true rfl) ?_
  intro p e s m below meth c ls hx hb hr hlocks hml hown htb hts hsz hK hN hZ hA hR hP hl
  subst hsz
  have hAA : ∀ a, A a → A a := fun _ h => h
  have hl : lv_has ls 4 [(0, .ref (g 0 0)), (1, .int p1), (2, .ref o)] := hl
  have hS : va_S A s.heap s.heap [] := va_S.rf
  obtain ⟨hI, hh⟩ := hP
  refine lv_aload_n hx hb dX0_destroy_0 rfl (lv_at hl 2 rfl) ?_
  refine lv_iconst (v := 0) hx hb dX0_destroy_1 (by decide) ?_
  refine lv_aload_n hx hb dX0_destroy_2 rfl (lv_at hl 0 rfl) ?_
  refine lv_iload_n hx hb dX0_destroy_3 rfl (lv_at hl 1 rfl) ?_
  refine wq_V (As := [.int p1]) (rest := [.int 0, .ref o]) (x0 := g 0 0) hK hZ hAA hS (fun _ h => h.1) (fun _ h => h.1) (nk_new hA hS.1 hR) (nk_x xok_9 hR) ⟨hI, hh⟩ (xs_destroy l hfl E C (fun a => A a ∧ a ≠ o) s.heap.size g h S p1) ⟨hx, hb, hml, hown, hts⟩ (cwV 1 hts (lw_V q840 q841 q842 q33 q843) rfl rfl rfl (by decide +kernel) ⟨Nat.le_of_ble_eq_true rfl, Nat.le_of_ble_eq_true rfl⟩) (kw_recv (t := 0) (i := 0) hK.1 (nk_x xok_9 hR) rfl rfl rfl) rfl hl.1 rfl (Nat.le_of_ble_eq_true rfl) dX0_destroy_4 ⟨Nat.le_of_ble_eq_true rfl, Nat.le_of_ble_eq_true rfl⟩ (fun Xn ce q9 H locs hf hB hz hk hS hc9 hv9 hcl => ?_) (fun r S' g' h' H locs hf hg0 hh' hB hz hk hS => ?_)
  · have hR := nk_join hR hB hk
    rcases xn_destroy hf with rfl | rfl
    · refine vx_catch (own := "LostroomLaw") (name := "java/lang/IndexOutOfBoundsException") hown [] ⟨0, 9, 12, 13⟩ [⟨0, 9, 15, 28⟩] htb (fun z hz => nomatch hz) rfl (by decide) (hts _ q213) (va_Nw.use rfl (hK.2.1 _ q303 rfl)) hc9 hv9 hcl ?_
      refine lv_astore_n (lv' := [(3, .ref q9), (0, .ref (g 0 0)), (1, .int p1), (2, .ref o)]) hx hb dX0_destroy_12 rfl hl (by decide) rfl (fun ls hl => ?_)
      refine lv_iconst (v := 1) hx hb dX0_destroy_13 (by decide) ?_
      exact vx_ret (W.iret (v := 1) hx hb hr (fun t ht hW => ⟨Or.inl ⟨_, 0, _, hf, rfl, rfl, by rw [ht]; exact hR⟩, hS.F ht⟩) hS.2.2 dX0_destroy_14)
    · refine vx_catch (own := "LostroomLaw") (name := "java/lang/IllegalStateException") hown [⟨0, 9, 12, 13⟩] ⟨0, 9, 15, 28⟩ [] htb (fun z hz => by rw [List.mem_singleton] at hz; subst hz; exact Or.inr ⟨by decide, _, hts _ q213, hN.2.1⟩) rfl (by decide) (hts _ q363) (va_Nw.use rfl (hK.2.1 _ q462 rfl)) hc9 hv9 hcl ?_
      refine lv_astore_n (lv' := [(3, .ref q9), (0, .ref (g 0 0)), (1, .int p1), (2, .ref o)]) hx hb dX0_destroy_15 rfl hl (by decide) rfl (fun ls hl => ?_)
      refine lv_iconst (v := 2) hx hb dX0_destroy_16 (by decide) ?_
      exact vx_ret (W.iret (v := 2) hx hb hr (fun t ht hW => ⟨Or.inl ⟨_, 1, _, hf, rfl, rfl, by rw [ht]; exact hR⟩, hS.F ht⟩) hS.2.2 dX0_destroy_17)
  · have hR := nk_join hR hB hk
    refine lv_i2l (v := r.toInt64) hx hb dX0_destroy_7 rfl ?_
    refine xo_last hx hb hK.1 hR hS dX0_destroy_8 (fun H locs v' hv hR hS => ?_)
    refine lv_goto (tgt := 18) hx hb dX0_destroy_9 (by decide) ?_
    refine lv_iconst (v := 0) hx hb dX0_destroy_18 (by decide) ?_
    exact vx_ret (W.iret (v := 0) hx hb hr (fun t ht hW => ⟨Or.inr ⟨_, _, g', h', _, hf, rfl, hg0, hh', hv, by rw [ht]; exact hR⟩, hS.F ht⟩) hS.2.2 dX0_destroy_19)
set_option maxHeartbeats 2000000 in
set_option maxRecDepth 100000 in
theorem wt_payOut (l : Launch) (hfl : l.stackTraces = false) (E : en_T) (C : ex_C) (A : Nat → Prop) (sz : Nat) (g : kw_A) (h : xh_T) (S : gs_T) (o : Nat) (v : Nat → Int64) (p1 : Int32) (p2 : Int32) : vx_Met l yX0_payOut (wsW_ yX0_payOut cX0_payOut 5 (some .int) [(0, 10, 13, 13), (0, 10, 17, 28)]) { frames := 10, cells := 2, slots := 10, locals := 231 } (cpw E C A sz [.ref (g 0 0), .int p1, .int p2, .ref o] (xo E C g h S o v A) (xi_ok S ∧ xh C g h S)) (cw_Q (fun z => z) ["java/lang/IndexOutOfBoundsException", "java/lang/IllegalStateException"] E C g h S o (g 0 0) A (xp_payOut S p1 p2)) (fun _ _ _ => False) 2 10 A := by
  refine cw_start (by decide) (Nat.le_of_ble_eq_true rfl) ?_
  intro p e s m below meth c ls hx hb hr hlocks hml hown htb hts hsz hK hN hZ hA hR hP hl
  subst hsz
  have hAA : ∀ a, A a → A a := fun _ h => h
  have hl : lv_has ls 5 [(0, .ref (g 0 0)), (1, .int p1), (2, .int p2), (3, .ref o)] := hl
  have hS : va_S A s.heap s.heap [] := va_S.rf
  obtain ⟨hI, hh⟩ := hP
  refine lv_aload_n hx hb dX0_payOut_0 rfl (lv_at hl 3 rfl) ?_
  refine lv_iconst (v := 0) hx hb dX0_payOut_1 (by decide) ?_
  refine lv_aload_n hx hb dX0_payOut_2 rfl (lv_at hl 0 rfl) ?_
  refine lv_iload_n hx hb dX0_payOut_3 rfl (lv_at hl 1 rfl) ?_
  refine lv_iload_n hx hb dX0_payOut_4 rfl (lv_at hl 2 rfl) ?_
  refine wq_V (As := [.int p1, .int p2]) (rest := [.int 0, .ref o]) (x0 := g 0 0) hK hZ hAA hS (fun _ h => h.1) (fun _ h => h.1) (nk_new hA hS.1 hR) (nk_x xok_9 hR) ⟨hI, hh⟩ (xs_payOut l hfl E C (fun a => A a ∧ a ≠ o) s.heap.size g h S p1 p2) ⟨hx, hb, hml, hown, hts⟩ (cwV 2 hts (lw_V q847 q848 q849 q33 q850) rfl rfl rfl (by decide +kernel) ⟨Nat.le_of_ble_eq_true rfl, Nat.le_of_ble_eq_true rfl⟩) (kw_recv (t := 0) (i := 0) hK.1 (nk_x xok_9 hR) rfl rfl rfl) rfl hl.1 rfl (Nat.le_of_ble_eq_true rfl) dX0_payOut_5 ⟨Nat.le_of_ble_eq_true rfl, Nat.le_of_ble_eq_true rfl⟩ (fun Xn ce q9 H locs hf hB hz hk hS hc9 hv9 hcl => ?_) (fun r S' g' h' H locs hf hg0 hh' hB hz hk hS => ?_)
  · have hR := nk_join hR hB hk
    rcases xn_payOut hf with rfl | rfl
    · refine vx_catch (own := "LostroomLaw") (name := "java/lang/IndexOutOfBoundsException") hown [] ⟨0, 10, 13, 13⟩ [⟨0, 10, 17, 28⟩] htb (fun z hz => nomatch hz) rfl (by decide) (hts _ q213) (va_Nw.use rfl (hK.2.1 _ q303 rfl)) hc9 hv9 hcl ?_
      refine lv_astore (lv' := [(4, .ref q9), (0, .ref (g 0 0)), (1, .int p1), (2, .int p2), (3, .ref o)]) hx hb dX0_payOut_13 hl (by decide) rfl (fun ls hl => ?_)
      refine lv_iconst (v := 1) hx hb dX0_payOut_15 (by decide) ?_
      exact vx_ret (W.iret (v := 1) hx hb hr (fun t ht hW => ⟨Or.inl ⟨_, 0, _, hf, rfl, rfl, by rw [ht]; exact hR⟩, hS.F ht⟩) hS.2.2 dX0_payOut_16)
    · refine vx_catch (own := "LostroomLaw") (name := "java/lang/IllegalStateException") hown [⟨0, 10, 13, 13⟩] ⟨0, 10, 17, 28⟩ [] htb (fun z hz => by rw [List.mem_singleton] at hz; subst hz; exact Or.inr ⟨by decide, _, hts _ q213, hN.2.1⟩) rfl (by decide) (hts _ q363) (va_Nw.use rfl (hK.2.1 _ q462 rfl)) hc9 hv9 hcl ?_
      refine lv_astore (lv' := [(4, .ref q9), (0, .ref (g 0 0)), (1, .int p1), (2, .int p2), (3, .ref o)]) hx hb dX0_payOut_17 hl (by decide) rfl (fun ls hl => ?_)
      refine lv_iconst (v := 2) hx hb dX0_payOut_19 (by decide) ?_
      exact vx_ret (W.iret (v := 2) hx hb hr (fun t ht hW => ⟨Or.inl ⟨_, 1, _, hf, rfl, rfl, by rw [ht]; exact hR⟩, hS.F ht⟩) hS.2.2 dX0_payOut_20)
  · have hR := nk_join hR hB hk
    refine lv_i2l (v := r.toInt64) hx hb dX0_payOut_8 rfl ?_
    refine xo_last hx hb hK.1 hR hS dX0_payOut_9 (fun H locs v' hv hR hS => ?_)
    refine lv_goto (tgt := 21) hx hb dX0_payOut_10 (by decide) ?_
    refine lv_iconst (v := 0) hx hb dX0_payOut_21 (by decide) ?_
    exact vx_ret (W.iret (v := 0) hx hb hr (fun t ht hW => ⟨Or.inr ⟨_, _, g', h', _, hf, rfl, hg0, hh', hv, by rw [ht]; exact hR⟩, hS.F ht⟩) hS.2.2 dX0_payOut_22)
set_option maxHeartbeats 2000000 in
set_option maxRecDepth 100000 in
theorem wt_isDue (l : Launch) (hfl : l.stackTraces = false) (E : en_T) (C : ex_C) (A : Nat → Prop) (sz : Nat) (g : kw_A) (h : xh_T) (S : gs_T) (o : Nat) (v : Nat → Int64) (p1 : Int32) : vx_Met l yX0_isDue (wsW_ yX0_isDue cX0_isDue 4 (some .int) [(0, 16, 19, 13)]) { frames := 11, cells := 2, slots := 10, locals := 245 } (cpw E C A sz [.ref (g 0 0), .int p1, .ref o] (xo E C g h S o v A) (xi_ok S ∧ xh C g h S)) (cw_Q gs_bz ["java/lang/IndexOutOfBoundsException"] E C g h S o (g 0 0) A (xp_isDue S p1)) (fun _ _ _ => False) 2 10 A := by
  refine cw_start (by decide) (Nat.le_of_ble_eq_true rfl) ?_
  intro p e s m below meth c ls hx hb hr hlocks hml hown htb hts hsz hK hN hZ hA hR hP hl
  subst hsz
  have hAA : ∀ a, A a → A a := fun _ h => h
  have hl : lv_has ls 4 [(0, .ref (g 0 0)), (1, .int p1), (2, .ref o)] := hl
  have hS : va_S A s.heap s.heap [] := va_S.rf
  obtain ⟨hI, hh⟩ := hP
  refine lv_aload_n hx hb dX0_isDue_0 rfl (lv_at hl 2 rfl) ?_
  refine lv_iconst (v := 0) hx hb dX0_isDue_1 (by decide) ?_
  refine lv_aload_n hx hb dX0_isDue_2 rfl (lv_at hl 0 rfl) ?_
  refine lv_iload_n hx hb dX0_isDue_3 rfl (lv_at hl 1 rfl) ?_
  refine wq_V (As := [.int p1]) (rest := [.int 0, .ref o]) (x0 := g 0 0) hK hZ hAA hS (fun _ h => h.1) (fun _ h => h.1) (nk_new hA hS.1 hR) (nk_x xok_9 hR) ⟨hI, hh⟩ (xs_isDue l hfl E C (fun a => A a ∧ a ≠ o) s.heap.size g h S p1) ⟨hx, hb, hml, hown, hts⟩ (cwV 1 hts (lw_V q897 q898 q899 q33 q900) rfl rfl rfl (by decide +kernel) ⟨Nat.le_of_ble_eq_true rfl, Nat.le_of_ble_eq_true rfl⟩) (kw_recv (t := 0) (i := 0) hK.1 (nk_x xok_9 hR) rfl rfl rfl) rfl hl.1 rfl (Nat.le_of_ble_eq_true rfl) dX0_isDue_4 ⟨Nat.le_of_ble_eq_true rfl, Nat.le_of_ble_eq_true rfl⟩ (fun Xn ce q9 H locs hf hB hz hk hS hc9 hv9 hcl => ?_) (fun r S' g' h' H locs hf hg0 hh' hB hz hk hS => ?_)
  · have hR := nk_join hR hB hk
    rcases xn_isDue hf with rfl
    · refine vx_catch (own := "LostroomLaw") (name := "java/lang/IndexOutOfBoundsException") hown [] ⟨0, 16, 19, 13⟩ [] htb (fun z hz => nomatch hz) rfl (by decide) (hts _ q213) (va_Nw.use rfl (hK.2.1 _ q303 rfl)) hc9 hv9 hcl ?_
      refine lv_astore_n (lv' := [(3, .ref q9), (0, .ref (g 0 0)), (1, .int p1), (2, .ref o)]) hx hb dX0_isDue_19 rfl hl (by decide) rfl (fun ls hl => ?_)
      refine lv_iconst (v := 1) hx hb dX0_isDue_20 (by decide) ?_
      exact vx_ret (W.iret (v := 1) hx hb hr (fun t ht hW => ⟨Or.inl ⟨_, 0, _, hf, rfl, rfl, by rw [ht]; exact hR⟩, hS.F ht⟩) hS.2.2 dX0_isDue_21)
  · have hR := nk_join hR hB hk
    cases r with
    | true =>
      refine W.eq (g2 := F0 m 7 ls [.int 1, .int 0, .ref o]) rfl ?_
      refine lv_if_eq (tgt := 14) hx hb dX0_isDue_7 (by decide) (fun h => absurd h (by decide)) (fun _ => ?_)
      refine lv_lconst (v := 1) hx hb dX0_isDue_10 (by decide) ?_
      refine lv_goto (tgt := 15) hx hb dX0_isDue_11 (by decide) ?_
      refine xo_last hx hb hK.1 hR hS dX0_isDue_15 (fun H locs v' hv hR hS => ?_)
      refine lv_goto (tgt := 22) hx hb dX0_isDue_16 (by decide) ?_
      refine lv_iconst (v := 0) hx hb dX0_isDue_22 (by decide) ?_
      exact vx_ret (W.iret (v := 0) hx hb hr (fun t ht hW => ⟨Or.inr ⟨_, _, g', h', _, hf, rfl, hg0, hh', hv.trans (by decide), by rw [ht]; exact hR⟩, hS.F ht⟩) hS.2.2 dX0_isDue_23)
    | false =>
      refine W.eq (g2 := F0 m 7 ls [.int 0, .int 0, .ref o]) rfl ?_
      refine lv_if_eq (tgt := 14) hx hb dX0_isDue_7 (by decide) (fun _ => ?_) (fun h => absurd rfl h)
      refine lv_lconst (v := 0) hx hb dX0_isDue_14 (by decide) ?_
      refine xo_last hx hb hK.1 hR hS dX0_isDue_15 (fun H locs v' hv hR hS => ?_)
      refine lv_goto (tgt := 22) hx hb dX0_isDue_16 (by decide) ?_
      refine lv_iconst (v := 0) hx hb dX0_isDue_22 (by decide) ?_
      exact vx_ret (W.iret (v := 0) hx hb hr (fun t ht hW => ⟨Or.inr ⟨_, _, g', h', _, hf, rfl, hg0, hh', hv.trans (by decide), by rw [ht]; exact hR⟩, hS.F ht⟩) hS.2.2 dX0_isDue_23)
set_option maxHeartbeats 2000000 in
set_option maxRecDepth 100000 in
theorem wt_lose (l : Launch) (hfl : l.stackTraces = false) (E : en_T) (C : ex_C) (A : Nat → Prop) (sz : Nat) (g : kw_A) (h : xh_T) (S : gs_T) (o : Nat) (v : Nat → Int64) (p1 : Int32) : vx_Met l yX0_lose (wsW_ yX0_lose cX0_lose 4 (some .int) [(0, 9, 12, 13)]) { frames := 8, cells := 2, slots := 10, locals := 144 } (cpw E C A sz [.ref (g 0 0), .int p1, .ref o] (xo E C g h S o v A) (xi_ok S ∧ xh C g h S)) (cw_Q (fun z => z) ["java/lang/IndexOutOfBoundsException"] E C g h S o (g 0 0) A (xp_lose S p1)) (fun _ _ _ => False) 2 10 A := by
  refine cw_start (by decide) (Nat.le_of_ble_eq_true rfl) ?_
  intro p e s m below meth c ls hx hb hr hlocks hml hown htb hts hsz hK hN hZ hA hR hP hl
  subst hsz
  have hAA : ∀ a, A a → A a := fun _ h => h
  have hl : lv_has ls 4 [(0, .ref (g 0 0)), (1, .int p1), (2, .ref o)] := hl
  have hS : va_S A s.heap s.heap [] := va_S.rf
  obtain ⟨hI, hh⟩ := hP
  refine lv_aload_n hx hb dX0_lose_0 rfl (lv_at hl 2 rfl) ?_
  refine lv_iconst (v := 0) hx hb dX0_lose_1 (by decide) ?_
  refine lv_aload_n hx hb dX0_lose_2 rfl (lv_at hl 0 rfl) ?_
  refine lv_iload_n hx hb dX0_lose_3 rfl (lv_at hl 1 rfl) ?_
  refine wq_V (As := [.int p1]) (rest := [.int 0, .ref o]) (x0 := g 0 0) hK hZ hAA hS (fun _ h => h.1) (fun _ h => h.1) (nk_new hA hS.1 hR) (nk_x xok_9 hR) ⟨hI, hh⟩ (xs_lose l hfl E C (fun a => A a ∧ a ≠ o) s.heap.size g h S p1) ⟨hx, hb, hml, hown, hts⟩ (cwV 1 hts (lw_V q606 q607 q608 q33 q609) rfl rfl rfl (by decide +kernel) ⟨Nat.le_of_ble_eq_true rfl, Nat.le_of_ble_eq_true rfl⟩) (kw_recv (t := 0) (i := 0) hK.1 (nk_x xok_9 hR) rfl rfl rfl) rfl hl.1 rfl (Nat.le_of_ble_eq_true rfl) dX0_lose_4 ⟨Nat.le_of_ble_eq_true rfl, Nat.le_of_ble_eq_true rfl⟩ (fun Xn ce q9 H locs hf hB hz hk hS hc9 hv9 hcl => ?_) (fun r S' g' h' H locs hf hg0 hh' hB hz hk hS => ?_)
  · have hR := nk_join hR hB hk
    rcases xn_lose hf with rfl
    · refine vx_catch (own := "LostroomLaw") (name := "java/lang/IndexOutOfBoundsException") hown [] ⟨0, 9, 12, 13⟩ [] htb (fun z hz => nomatch hz) rfl (by decide) (hts _ q213) (va_Nw.use rfl (hK.2.1 _ q303 rfl)) hc9 hv9 hcl ?_
      refine lv_astore_n (lv' := [(3, .ref q9), (0, .ref (g 0 0)), (1, .int p1), (2, .ref o)]) hx hb dX0_lose_12 rfl hl (by decide) rfl (fun ls hl => ?_)
      refine lv_iconst (v := 1) hx hb dX0_lose_13 (by decide) ?_
      exact vx_ret (W.iret (v := 1) hx hb hr (fun t ht hW => ⟨Or.inl ⟨_, 0, _, hf, rfl, rfl, by rw [ht]; exact hR⟩, hS.F ht⟩) hS.2.2 dX0_lose_14)
  · have hR := nk_join hR hB hk
    refine lv_i2l (v := r.toInt64) hx hb dX0_lose_7 rfl ?_
    refine xo_last hx hb hK.1 hR hS dX0_lose_8 (fun H locs v' hv hR hS => ?_)
    refine lv_goto (tgt := 15) hx hb dX0_lose_9 (by decide) ?_
    refine lv_iconst (v := 0) hx hb dX0_lose_15 (by decide) ?_
    exact vx_ret (W.iret (v := 0) hx hb hr (fun t ht hW => ⟨Or.inr ⟨_, _, g', h', _, hf, rfl, hg0, hh', hv, by rw [ht]; exact hR⟩, hS.F ht⟩) hS.2.2 dX0_lose_16)
set_option maxHeartbeats 2000000 in
set_option maxRecDepth 100000 in
theorem wt_stop (l : Launch) (hfl : l.stackTraces = false) (E : en_T) (C : ex_C) (A : Nat → Prop) (sz : Nat) (g : kw_A) (h : xh_T) (S : gs_T) (o : Nat) (v : Nat → Int64) (p1 : Int32) (p2 : Int32) : vx_Met l yX0_stop (wsW_ yX0_stop cX0_stop 5 (some .int) [(0, 10, 13, 13), (0, 10, 17, 28)]) { frames := 8, cells := 1, slots := 10, locals := 263 } (cpw E C A sz [.ref (g 0 0), .int p1, .int p2, .ref o] (xo E C g h S o v A) (xi_ok S ∧ xh C g h S)) (cw_Q (fun z => z) ["java/lang/IndexOutOfBoundsException", "java/lang/IllegalStateException"] E C g h S o (g 0 0) A (xp_stop S p1 p2)) (fun _ _ _ => False) 1 10 A := by
  refine cw_start (by decide) (Nat.le_of_ble_eq_true rfl) ?_
  intro p e s m below meth c ls hx hb hr hlocks hml hown htb hts hsz hK hN hZ hA hR hP hl
  subst hsz
  have hAA : ∀ a, A a → A a := fun _ h => h
  have hl : lv_has ls 5 [(0, .ref (g 0 0)), (1, .int p1), (2, .int p2), (3, .ref o)] := hl
  have hS : va_S A s.heap s.heap [] := va_S.rf
  obtain ⟨hI, hh⟩ := hP
  refine lv_aload_n hx hb dX0_stop_0 rfl (lv_at hl 3 rfl) ?_
  refine lv_iconst (v := 0) hx hb dX0_stop_1 (by decide) ?_
  refine lv_aload_n hx hb dX0_stop_2 rfl (lv_at hl 0 rfl) ?_
  refine lv_iload_n hx hb dX0_stop_3 rfl (lv_at hl 1 rfl) ?_
  refine lv_iload_n hx hb dX0_stop_4 rfl (lv_at hl 2 rfl) ?_
  refine wq_V (As := [.int p1, .int p2]) (rest := [.int 0, .ref o]) (x0 := g 0 0) hK hZ hAA hS (fun _ h => h.1) (fun _ h => h.1) (nk_new hA hS.1 hR) (nk_x xok_9 hR) ⟨hI, hh⟩ (xs_stop l hfl E C (fun a => A a ∧ a ≠ o) s.heap.size g h S p1 p2) ⟨hx, hb, hml, hown, hts⟩ (cwV 2 hts (lw_V q364 q365 q366 q33 q367) rfl rfl rfl (by decide +kernel) ⟨Nat.le_of_ble_eq_true rfl, Nat.le_of_ble_eq_true rfl⟩) (kw_recv (t := 0) (i := 0) hK.1 (nk_x xok_9 hR) rfl rfl rfl) rfl hl.1 rfl (Nat.le_of_ble_eq_true rfl) dX0_stop_5 ⟨Nat.le_of_ble_eq_true rfl, Nat.le_of_ble_eq_true rfl⟩ (fun Xn ce q9 H locs hf hB hz hk hS hc9 hv9 hcl => ?_) (fun r S' g' h' H locs hf hg0 hh' hB hz hk hS => ?_)
  · have hR := nk_join hR hB hk
    rcases xn_stop hf with rfl | rfl
    · refine vx_catch (own := "LostroomLaw") (name := "java/lang/IndexOutOfBoundsException") hown [] ⟨0, 10, 13, 13⟩ [⟨0, 10, 17, 28⟩] htb (fun z hz => nomatch hz) rfl (by decide) (hts _ q213) (va_Nw.use rfl (hK.2.1 _ q303 rfl)) hc9 hv9 hcl ?_
      refine lv_astore (lv' := [(4, .ref q9), (0, .ref (g 0 0)), (1, .int p1), (2, .int p2), (3, .ref o)]) hx hb dX0_stop_13 hl (by decide) rfl (fun ls hl => ?_)
      refine lv_iconst (v := 1) hx hb dX0_stop_15 (by decide) ?_
      exact vx_ret (W.iret (v := 1) hx hb hr (fun t ht hW => ⟨Or.inl ⟨_, 0, _, hf, rfl, rfl, by rw [ht]; exact hR⟩, hS.F ht⟩) hS.2.2 dX0_stop_16)
    · refine vx_catch (own := "LostroomLaw") (name := "java/lang/IllegalStateException") hown [⟨0, 10, 13, 13⟩] ⟨0, 10, 17, 28⟩ [] htb (fun z hz => by rw [List.mem_singleton] at hz; subst hz; exact Or.inr ⟨by decide, _, hts _ q213, hN.2.1⟩) rfl (by decide) (hts _ q363) (va_Nw.use rfl (hK.2.1 _ q462 rfl)) hc9 hv9 hcl ?_
      refine lv_astore (lv' := [(4, .ref q9), (0, .ref (g 0 0)), (1, .int p1), (2, .int p2), (3, .ref o)]) hx hb dX0_stop_17 hl (by decide) rfl (fun ls hl => ?_)
      refine lv_iconst (v := 2) hx hb dX0_stop_19 (by decide) ?_
      exact vx_ret (W.iret (v := 2) hx hb hr (fun t ht hW => ⟨Or.inl ⟨_, 1, _, hf, rfl, rfl, by rw [ht]; exact hR⟩, hS.F ht⟩) hS.2.2 dX0_stop_20)
  · have hR := nk_join hR hB hk
    refine lv_i2l (v := r.toInt64) hx hb dX0_stop_8 rfl ?_
    refine xo_last hx hb hK.1 hR hS dX0_stop_9 (fun H locs v' hv hR hS => ?_)
    refine lv_goto (tgt := 21) hx hb dX0_stop_10 (by decide) ?_
    refine lv_iconst (v := 0) hx hb dX0_stop_21 (by decide) ?_
    exact vx_ret (W.iret (v := 0) hx hb hr (fun t ht hW => ⟨Or.inr ⟨_, _, g', h', _, hf, rfl, hg0, hh', hv, by rw [ht]; exact hR⟩, hS.F ht⟩) hS.2.2 dX0_stop_22)
set_option maxHeartbeats 2000000 in
set_option maxRecDepth 100000 in
theorem wt_turnUp (l : Launch) (hfl : l.stackTraces = false) (E : en_T) (C : ex_C) (A : Nat → Prop) (sz : Nat) (g : kw_A) (h : xh_T) (S : gs_T) (o : Nat) (v : Nat → Int64) (p1 : Int32) (p2 : Int32) : vx_Met l yX0_turnUp (wsW_ yX0_turnUp cX0_turnUp 5 (some .int) [(0, 10, 13, 13), (0, 10, 17, 28)]) { frames := 9, cells := 2, slots := 20, locals := 285 } (cpw E C A sz [.ref (g 0 0), .int p1, .int p2, .ref o] (xo E C g h S o v A) (xi_ok S ∧ xh C g h S)) (cw_Q (fun z => z) ["java/lang/IndexOutOfBoundsException", "java/lang/IllegalStateException"] E C g h S o (g 0 0) A (xp_turnUp S p1 p2)) (fun _ _ _ => False) 2 20 A := by
  refine cw_start (by decide) (Nat.le_of_ble_eq_true rfl) ?_
  intro p e s m below meth c ls hx hb hr hlocks hml hown htb hts hsz hK hN hZ hA hR hP hl
  subst hsz
  have hAA : ∀ a, A a → A a := fun _ h => h
  have hl : lv_has ls 5 [(0, .ref (g 0 0)), (1, .int p1), (2, .int p2), (3, .ref o)] := hl
  have hS : va_S A s.heap s.heap [] := va_S.rf
  obtain ⟨hI, hh⟩ := hP
  refine lv_aload_n hx hb dX0_turnUp_0 rfl (lv_at hl 3 rfl) ?_
  refine lv_iconst (v := 0) hx hb dX0_turnUp_1 (by decide) ?_
  refine lv_aload_n hx hb dX0_turnUp_2 rfl (lv_at hl 0 rfl) ?_
  refine lv_iload_n hx hb dX0_turnUp_3 rfl (lv_at hl 1 rfl) ?_
  refine lv_iload_n hx hb dX0_turnUp_4 rfl (lv_at hl 2 rfl) ?_
  refine wq_V (As := [.int p1, .int p2]) (rest := [.int 0, .ref o]) (x0 := g 0 0) hK hZ hAA hS (fun _ h => h.1) (fun _ h => h.1) (nk_new hA hS.1 hR) (nk_x xok_9 hR) ⟨hI, hh⟩ (xs_turnUp l hfl E C (fun a => A a ∧ a ≠ o) s.heap.size g h S p1 p2) ⟨hx, hb, hml, hown, hts⟩ (cwV 2 hts (lw_V q664 q665 q666 q33 q667) rfl rfl rfl (by decide +kernel) ⟨Nat.le_of_ble_eq_true rfl, Nat.le_of_ble_eq_true rfl⟩) (kw_recv (t := 0) (i := 0) hK.1 (nk_x xok_9 hR) rfl rfl rfl) rfl hl.1 rfl (Nat.le_of_ble_eq_true rfl) dX0_turnUp_5 ⟨Nat.le_of_ble_eq_true rfl, Nat.le_of_ble_eq_true rfl⟩ (fun Xn ce q9 H locs hf hB hz hk hS hc9 hv9 hcl => ?_) (fun r S' g' h' H locs hf hg0 hh' hB hz hk hS => ?_)
  · have hR := nk_join hR hB hk
    rcases xn_turnUp hf with rfl | rfl
    · refine vx_catch (own := "LostroomLaw") (name := "java/lang/IndexOutOfBoundsException") hown [] ⟨0, 10, 13, 13⟩ [⟨0, 10, 17, 28⟩] htb (fun z hz => nomatch hz) rfl (by decide) (hts _ q213) (va_Nw.use rfl (hK.2.1 _ q303 rfl)) hc9 hv9 hcl ?_
      refine lv_astore (lv' := [(4, .ref q9), (0, .ref (g 0 0)), (1, .int p1), (2, .int p2), (3, .ref o)]) hx hb dX0_turnUp_13 hl (by decide) rfl (fun ls hl => ?_)
      refine lv_iconst (v := 1) hx hb dX0_turnUp_15 (by decide) ?_
      exact vx_ret (W.iret (v := 1) hx hb hr (fun t ht hW => ⟨Or.inl ⟨_, 0, _, hf, rfl, rfl, by rw [ht]; exact hR⟩, hS.F ht⟩) hS.2.2 dX0_turnUp_16)
    · refine vx_catch (own := "LostroomLaw") (name := "java/lang/IllegalStateException") hown [⟨0, 10, 13, 13⟩] ⟨0, 10, 17, 28⟩ [] htb (fun z hz => by rw [List.mem_singleton] at hz; subst hz; exact Or.inr ⟨by decide, _, hts _ q213, hN.2.1⟩) rfl (by decide) (hts _ q363) (va_Nw.use rfl (hK.2.1 _ q462 rfl)) hc9 hv9 hcl ?_
      refine lv_astore (lv' := [(4, .ref q9), (0, .ref (g 0 0)), (1, .int p1), (2, .int p2), (3, .ref o)]) hx hb dX0_turnUp_17 hl (by decide) rfl (fun ls hl => ?_)
      refine lv_iconst (v := 2) hx hb dX0_turnUp_19 (by decide) ?_
      exact vx_ret (W.iret (v := 2) hx hb hr (fun t ht hW => ⟨Or.inl ⟨_, 1, _, hf, rfl, rfl, by rw [ht]; exact hR⟩, hS.F ht⟩) hS.2.2 dX0_turnUp_20)
  · have hR := nk_join hR hB hk
    refine lv_i2l (v := r.toInt64) hx hb dX0_turnUp_8 rfl ?_
    refine xo_last hx hb hK.1 hR hS dX0_turnUp_9 (fun H locs v' hv hR hS => ?_)
    refine lv_goto (tgt := 21) hx hb dX0_turnUp_10 (by decide) ?_
    refine lv_iconst (v := 0) hx hb dX0_turnUp_21 (by decide) ?_
    exact vx_ret (W.iret (v := 0) hx hb hr (fun t ht hW => ⟨Or.inr ⟨_, _, g', h', _, hf, rfl, hg0, hh', hv, by rw [ht]; exact hR⟩, hS.F ht⟩) hS.2.2 dX0_turnUp_22)
set_option maxHeartbeats 2000000 in
set_option maxRecDepth 100000 in
theorem wt_pass (l : Launch) (hfl : l.stackTraces = false) (E : en_T) (C : ex_C) (A : Nat → Prop) (sz : Nat) (g : kw_A) (h : xh_T) (S : gs_T) (o : Nat) (v : Nat → Int64) (p1 : Int32) : vx_Met l yX0_pass (wsW_ yX0_pass cX0_pass 4 (some .int) [(0, 9, 12, 15), (0, 9, 15, 28)]) { frames := 9, cells := 870, slots := 3850, locals := 286 } (cpw E C A sz [.ref (g 0 0), .int p1, .ref o] (xo E C g h S o v A) (xi_ok S ∧ xh C g h S)) (cw_Q (fun z => z) ["java/lang/IllegalArgumentException", "java/lang/IllegalStateException"] E C g h S o (g 0 0) A (xp_pass S p1)) (fun _ _ _ => False) 870 3850 A := by
  refine cw_start (by decide) (Nat.le_of_ble_eq_true rfl) ?_
  intro p e s m below meth c ls hx hb hr hlocks hml hown htb hts hsz hK hN hZ hA hR hP hl
  subst hsz
  have hAA : ∀ a, A a → A a := fun _ h => h
  have hl : lv_has ls 4 [(0, .ref (g 0 0)), (1, .int p1), (2, .ref o)] := hl
  have hS : va_S A s.heap s.heap [] := va_S.rf
  obtain ⟨hI, hh⟩ := hP
  refine lv_aload_n hx hb dX0_pass_0 rfl (lv_at hl 2 rfl) ?_
  refine lv_iconst (v := 0) hx hb dX0_pass_1 (by decide) ?_
  refine lv_aload_n hx hb dX0_pass_2 rfl (lv_at hl 0 rfl) ?_
  refine lv_iload_n hx hb dX0_pass_3 rfl (lv_at hl 1 rfl) ?_
  refine wq_V (As := [.int p1]) (rest := [.int 0, .ref o]) (x0 := g 0 0) hK hZ hAA hS (fun _ h => h.1) (fun _ h => h.1) (nk_new hA hS.1 hR) (nk_x xok_9 hR) ⟨hI, hh, rfl⟩ (xs_pass l hfl E C (fun a => A a ∧ a ≠ o) s.heap.size g h S p1 (g 0 0)) ⟨hx, hb, hml, hown, hts⟩ (cwV 1 hts (lw_V q855 q856 q857 q33 q858) rfl rfl rfl (by decide +kernel) ⟨Nat.le_of_ble_eq_true rfl, Nat.le_of_ble_eq_true rfl⟩) (kw_recv (t := 0) (i := 0) hK.1 (nk_x xok_9 hR) rfl rfl rfl) rfl hl.1 rfl (Nat.le_of_ble_eq_true rfl) dX0_pass_4 ⟨Nat.le_of_ble_eq_true rfl, Nat.le_of_ble_eq_true rfl⟩ (fun Xn ce q9 H locs hf hB hz hk hS hc9 hv9 hcl => ?_) (fun r S' g' h' H locs hf hg0 hh' hB hz hk hS => ?_)
  · have hR := nk_join hR hB hk
    rcases xn_pass hf with rfl | rfl
    · refine vx_catch (own := "LostroomLaw") (name := "java/lang/IllegalArgumentException") hown [] ⟨0, 9, 12, 15⟩ [⟨0, 9, 15, 28⟩] htb (fun z hz => nomatch hz) rfl (by decide) (hts _ q290) (va_Nw.use rfl (hK.2.1 _ q327 rfl)) hc9 hv9 hcl ?_
      refine lv_astore_n (lv' := [(3, .ref q9), (0, .ref (g 0 0)), (1, .int p1), (2, .ref o)]) hx hb dX0_pass_12 rfl hl (by decide) rfl (fun ls hl => ?_)
      refine lv_iconst (v := 1) hx hb dX0_pass_13 (by decide) ?_
      exact vx_ret (W.iret (v := 1) hx hb hr (fun t ht hW => ⟨Or.inl ⟨_, 0, _, hf, rfl, rfl, by rw [ht]; exact hR⟩, hS.F ht⟩) hS.2.2 dX0_pass_14)
    · refine vx_catch (own := "LostroomLaw") (name := "java/lang/IllegalStateException") hown [⟨0, 9, 12, 15⟩] ⟨0, 9, 15, 28⟩ [] htb (fun z hz => by rw [List.mem_singleton] at hz; subst hz; exact Or.inr ⟨by decide, _, hts _ q290, hN.2.2⟩) rfl (by decide) (hts _ q363) (va_Nw.use rfl (hK.2.1 _ q462 rfl)) hc9 hv9 hcl ?_
      refine lv_astore_n (lv' := [(3, .ref q9), (0, .ref (g 0 0)), (1, .int p1), (2, .ref o)]) hx hb dX0_pass_15 rfl hl (by decide) rfl (fun ls hl => ?_)
      refine lv_iconst (v := 2) hx hb dX0_pass_16 (by decide) ?_
      exact vx_ret (W.iret (v := 2) hx hb hr (fun t ht hW => ⟨Or.inl ⟨_, 1, _, hf, rfl, rfl, by rw [ht]; exact hR⟩, hS.F ht⟩) hS.2.2 dX0_pass_17)
  · have hR := nk_join hR hB hk
    refine lv_i2l (v := r.toInt64) hx hb dX0_pass_7 rfl ?_
    refine xo_last hx hb hK.1 hR hS dX0_pass_8 (fun H locs v' hv hR hS => ?_)
    refine lv_goto (tgt := 18) hx hb dX0_pass_9 (by decide) ?_
    refine lv_iconst (v := 0) hx hb dX0_pass_18 (by decide) ?_
    exact vx_ret (W.iret (v := 0) hx hb hr (fun t ht hW => ⟨Or.inr ⟨_, _, g', h', _, hf, rfl, hg0, hh', hv, by rw [ht]; exact hR⟩, hS.F ht⟩) hS.2.2 dX0_pass_19)
set_option maxHeartbeats 2000000 in
set_option maxRecDepth 100000 in
theorem wt_claim (l : Launch) (hfl : l.stackTraces = false) (E : en_T) (C : ex_C) (A : Nat → Prop) (sz : Nat) (g : kw_A) (h : xh_T) (S : gs_T) (o : Nat) (v : Nat → Int64) (p1 : Int32) (p2 : Int32) (p3 : Int32) (p4 : Int32) (p5 : Int32) : vx_Met l yX0_claim (wsW_ yX0_claim cX0_claim 8 (some .int) [(0, 16, 19, 13), (0, 16, 23, 15), (0, 16, 27, 28)]) { frames := 9, cells := 2, slots := 60, locals := 266 } (cpw E C A sz [.ref (g 0 0), .int p1, .int p2, .int p3, .int p4, .int p5, .ref o] (xo E C g h S o v A) (xi_ok S ∧ xh C g h S)) (cw_Q (fun z => z) ["java/lang/IndexOutOfBoundsException", "java/lang/IllegalArgumentException", "java/lang/IllegalStateException"] E C g h S o (g 0 0) A (xp_claim S p1 p2 p3 p4 p5)) (fun _ _ _ => False) 2 60 A := by
  refine cw_start (by decide) (Nat.le_of_ble_eq_true rfl) ?_
  intro p e s m below meth c ls hx hb hr hlocks hml hown htb hts hsz hK hN hZ hA hR hP hl
  subst hsz
  have hAA : ∀ a, A a → A a := fun _ h => h
  have hl : lv_has ls 8 [(0, .ref (g 0 0)), (1, .int p1), (2, .int p2), (3, .int p3), (4, .int p4), (5, .int p5), (6, .ref o)] := hl
  have hS : va_S A s.heap s.heap [] := va_S.rf
  obtain ⟨hI, hh⟩ := hP
  refine lv_aload hx hb dX0_claim_0 (lv_at hl 6 rfl) ?_
  refine lv_iconst (v := 0) hx hb dX0_claim_2 (by decide) ?_
  refine lv_aload_n hx hb dX0_claim_3 rfl (lv_at hl 0 rfl) ?_
  refine lv_iload_n hx hb dX0_claim_4 rfl (lv_at hl 1 rfl) ?_
  refine lv_iload_n hx hb dX0_claim_5 rfl (lv_at hl 2 rfl) ?_
  refine lv_iload_n hx hb dX0_claim_6 rfl (lv_at hl 3 rfl) ?_
  refine lv_iload hx hb dX0_claim_7 (lv_at hl 4 rfl) ?_
  refine lv_iload hx hb dX0_claim_9 (lv_at hl 5 rfl) ?_
  refine wq_V (As := [.int p1, .int p2, .int p3, .int p4, .int p5]) (rest := [.int 0, .ref o]) (x0 := g 0 0) hK hZ hAA hS (fun _ h => h.1) (fun _ h => h.1) (nk_new hA hS.1 hR) (nk_x xok_9 hR) ⟨hI, hh⟩ (xs_claim l hfl E C (fun a => A a ∧ a ≠ o) s.heap.size g h S p1 p2 p3 p4 p5) ⟨hx, hb, hml, hown, hts⟩ (cwV 5 hts (lw_V q702 q703 q704 q33 q705) rfl rfl rfl (by decide +kernel) ⟨Nat.le_of_ble_eq_true rfl, Nat.le_of_ble_eq_true rfl⟩) (kw_recv (t := 0) (i := 0) hK.1 (nk_x xok_9 hR) rfl rfl rfl) rfl hl.1 rfl (Nat.le_of_ble_eq_true rfl) dX0_claim_11 ⟨Nat.le_of_ble_eq_true rfl, Nat.le_of_ble_eq_true rfl⟩ (fun Xn ce q9 H locs hf hB hz hk hS hc9 hv9 hcl => ?_) (fun r S' g' h' H locs hf hg0 hh' hB hz hk hS => ?_)
  · have hR := nk_join hR hB hk
    rcases xn_claim hf with rfl | rfl | rfl
    · refine vx_catch (own := "LostroomLaw") (name := "java/lang/IndexOutOfBoundsException") hown [] ⟨0, 16, 19, 13⟩ [⟨0, 16, 23, 15⟩, ⟨0, 16, 27, 28⟩] htb (fun z hz => nomatch hz) rfl (by decide) (hts _ q213) (va_Nw.use rfl (hK.2.1 _ q303 rfl)) hc9 hv9 hcl ?_
      refine lv_astore (lv' := [(7, .ref q9), (0, .ref (g 0 0)), (1, .int p1), (2, .int p2), (3, .int p3), (4, .int p4), (5, .int p5), (6, .ref o)]) hx hb dX0_claim_19 hl (by decide) rfl (fun ls hl => ?_)
      refine lv_iconst (v := 1) hx hb dX0_claim_21 (by decide) ?_
      exact vx_ret (W.iret (v := 1) hx hb hr (fun t ht hW => ⟨Or.inl ⟨_, 0, _, hf, rfl, rfl, by rw [ht]; exact hR⟩, hS.F ht⟩) hS.2.2 dX0_claim_22)
    · refine vx_catch (own := "LostroomLaw") (name := "java/lang/IllegalArgumentException") hown [⟨0, 16, 19, 13⟩] ⟨0, 16, 23, 15⟩ [⟨0, 16, 27, 28⟩] htb (fun z hz => by rw [List.mem_singleton] at hz; subst hz; exact Or.inr ⟨by decide, _, hts _ q213, hN.1⟩) rfl (by decide) (hts _ q290) (va_Nw.use rfl (hK.2.1 _ q327 rfl)) hc9 hv9 hcl ?_
      refine lv_astore (lv' := [(7, .ref q9), (0, .ref (g 0 0)), (1, .int p1), (2, .int p2), (3, .int p3), (4, .int p4), (5, .int p5), (6, .ref o)]) hx hb dX0_claim_23 hl (by decide) rfl (fun ls hl => ?_)
      refine lv_iconst (v := 2) hx hb dX0_claim_25 (by decide) ?_
      exact vx_ret (W.iret (v := 2) hx hb hr (fun t ht hW => ⟨Or.inl ⟨_, 1, _, hf, rfl, rfl, by rw [ht]; exact hR⟩, hS.F ht⟩) hS.2.2 dX0_claim_26)
    · refine vx_catch (own := "LostroomLaw") (name := "java/lang/IllegalStateException") hown [⟨0, 16, 19, 13⟩, ⟨0, 16, 23, 15⟩] ⟨0, 16, 27, 28⟩ [] htb (fun z hz => (List.mem_cons.mp hz).elim (fun hz => hz ▸ Or.inr ⟨by decide, _, hts _ q213, hN.2.1⟩) (fun hz => (List.mem_singleton.mp hz) ▸ Or.inr ⟨by decide, _, hts _ q290, hN.2.2⟩)) rfl (by decide) (hts _ q363) (va_Nw.use rfl (hK.2.1 _ q462 rfl)) hc9 hv9 hcl ?_
      refine lv_astore (lv' := [(7, .ref q9), (0, .ref (g 0 0)), (1, .int p1), (2, .int p2), (3, .int p3), (4, .int p4), (5, .int p5), (6, .ref o)]) hx hb dX0_claim_27 hl (by decide) rfl (fun ls hl => ?_)
      refine lv_iconst (v := 3) hx hb dX0_claim_29 (by decide) ?_
      exact vx_ret (W.iret (v := 3) hx hb hr (fun t ht hW => ⟨Or.inl ⟨_, 2, _, hf, rfl, rfl, by rw [ht]; exact hR⟩, hS.F ht⟩) hS.2.2 dX0_claim_30)
  · have hR := nk_join hR hB hk
    refine lv_i2l (v := r.toInt64) hx hb dX0_claim_14 rfl ?_
    refine xo_last hx hb hK.1 hR hS dX0_claim_15 (fun H locs v' hv hR hS => ?_)
    refine lv_goto (tgt := 31) hx hb dX0_claim_16 (by decide) ?_
    refine lv_iconst (v := 0) hx hb dX0_claim_31 (by decide) ?_
    exact vx_ret (W.iret (v := 0) hx hb hr (fun t ht hW => ⟨Or.inr ⟨_, _, g', h', _, hf, rfl, hg0, hh', hv, by rw [ht]; exact hR⟩, hS.F ht⟩) hS.2.2 dX0_claim_32)
set_option maxHeartbeats 2000000 in
set_option maxRecDepth 100000 in
theorem wt_find (l : Launch) (hfl : l.stackTraces = false) (E : en_T) (C : ex_C) (A : Nat → Prop) (sz : Nat) (g : kw_A) (h : xh_T) (S : gs_T) (o : Nat) (v : Nat → Int64) (p1 : Int32) (p2 : Int32) (p3 : Int32) (p4 : Int32) (p5 : Int32) (p6 : Int32) (p7 : Int32) : vx_Met l yX0_find (wsW_ yX0_find cX0_find 10 (some .int) [(0, 20, 23, 13), (0, 20, 27, 15), (0, 20, 31, 28)]) { frames := 9, cells := 5, slots := 80, locals := 296 } (cpw E C A sz [.ref (g 0 0), .int p1, .int p2, .int p3, .int p4, .int p5, .int p6, .int p7, .ref o] (xo E C g h S o v A) (xi_ok S ∧ xh C g h S)) (cw_Q (fun z => z) ["java/lang/IndexOutOfBoundsException", "java/lang/IllegalArgumentException", "java/lang/IllegalStateException"] E C g h S o (g 0 0) A (xp_find S p1 p2 p3 p4 p5 p6 p7)) (fun _ _ _ => False) 5 80 A := by
  refine cw_start (by decide) (Nat.le_of_ble_eq_true rfl) ?_
  intro p e s m below meth c ls hx hb hr hlocks hml hown htb hts hsz hK hN hZ hA hR hP hl
  subst hsz
  have hAA : ∀ a, A a → A a := fun _ h => h
  have hl : lv_has ls 10 [(0, .ref (g 0 0)), (1, .int p1), (2, .int p2), (3, .int p3), (4, .int p4), (5, .int p5), (6, .int p6), (7, .int p7), (8, .ref o)] := hl
  have hS : va_S A s.heap s.heap [] := va_S.rf
  obtain ⟨hI, hh⟩ := hP
  refine lv_aload hx hb dX0_find_0 (lv_at hl 8 rfl) ?_
  refine lv_iconst (v := 0) hx hb dX0_find_2 (by decide) ?_
  refine lv_aload_n hx hb dX0_find_3 rfl (lv_at hl 0 rfl) ?_
  refine lv_iload_n hx hb dX0_find_4 rfl (lv_at hl 1 rfl) ?_
  refine lv_iload_n hx hb dX0_find_5 rfl (lv_at hl 2 rfl) ?_
  refine lv_iload_n hx hb dX0_find_6 rfl (lv_at hl 3 rfl) ?_
  refine lv_iload hx hb dX0_find_7 (lv_at hl 4 rfl) ?_
  refine lv_iload hx hb dX0_find_9 (lv_at hl 5 rfl) ?_
  refine lv_iload hx hb dX0_find_11 (lv_at hl 6 rfl) ?_
  refine lv_iload hx hb dX0_find_13 (lv_at hl 7 rfl) ?_
  refine wq_V (As := [.int p1, .int p2, .int p3, .int p4, .int p5, .int p6, .int p7]) (rest := [.int 0, .ref o]) (x0 := g 0 0) hK hZ hAA hS (fun _ h => h.1) (fun _ h => h.1) (nk_new hA hS.1 hR) (nk_x xok_9 hR) ⟨hI, hh⟩ (xs_find l hfl E C (fun a => A a ∧ a ≠ o) s.heap.size g h S p1 p2 p3 p4 p5 p6 p7) ⟨hx, hb, hml, hown, hts⟩ (cwV 7 hts (lw_V q485 q486 q487 q33 q488) rfl rfl rfl (by decide +kernel) ⟨Nat.le_of_ble_eq_true rfl, Nat.le_of_ble_eq_true rfl⟩) (kw_recv (t := 0) (i := 0) hK.1 (nk_x xok_9 hR) rfl rfl rfl) rfl hl.1 rfl (Nat.le_of_ble_eq_true rfl) dX0_find_15 ⟨Nat.le_of_ble_eq_true rfl, Nat.le_of_ble_eq_true rfl⟩ (fun Xn ce q9 H locs hf hB hz hk hS hc9 hv9 hcl => ?_) (fun r S' g' h' H locs hf hg0 hh' hB hz hk hS => ?_)
  · have hR := nk_join hR hB hk
    rcases xn_find hf with rfl | rfl | rfl
    · refine vx_catch (own := "LostroomLaw") (name := "java/lang/IndexOutOfBoundsException") hown [] ⟨0, 20, 23, 13⟩ [⟨0, 20, 27, 15⟩, ⟨0, 20, 31, 28⟩] htb (fun z hz => nomatch hz) rfl (by decide) (hts _ q213) (va_Nw.use rfl (hK.2.1 _ q303 rfl)) hc9 hv9 hcl ?_
      refine lv_astore (lv' := [(9, .ref q9), (0, .ref (g 0 0)), (1, .int p1), (2, .int p2), (3, .int p3), (4, .int p4), (5, .int p5), (6, .int p6), (7, .int p7), (8, .ref o)]) hx hb dX0_find_23 hl (by decide) rfl (fun ls hl => ?_)
      refine lv_iconst (v := 1) hx hb dX0_find_25 (by decide) ?_
      exact vx_ret (W.iret (v := 1) hx hb hr (fun t ht hW => ⟨Or.inl ⟨_, 0, _, hf, rfl, rfl, by rw [ht]; exact hR⟩, hS.F ht⟩) hS.2.2 dX0_find_26)
    · refine vx_catch (own := "LostroomLaw") (name := "java/lang/IllegalArgumentException") hown [⟨0, 20, 23, 13⟩] ⟨0, 20, 27, 15⟩ [⟨0, 20, 31, 28⟩] htb (fun z hz => by rw [List.mem_singleton] at hz; subst hz; exact Or.inr ⟨by decide, _, hts _ q213, hN.1⟩) rfl (by decide) (hts _ q290) (va_Nw.use rfl (hK.2.1 _ q327 rfl)) hc9 hv9 hcl ?_
      refine lv_astore (lv' := [(9, .ref q9), (0, .ref (g 0 0)), (1, .int p1), (2, .int p2), (3, .int p3), (4, .int p4), (5, .int p5), (6, .int p6), (7, .int p7), (8, .ref o)]) hx hb dX0_find_27 hl (by decide) rfl (fun ls hl => ?_)
      refine lv_iconst (v := 2) hx hb dX0_find_29 (by decide) ?_
      exact vx_ret (W.iret (v := 2) hx hb hr (fun t ht hW => ⟨Or.inl ⟨_, 1, _, hf, rfl, rfl, by rw [ht]; exact hR⟩, hS.F ht⟩) hS.2.2 dX0_find_30)
    · refine vx_catch (own := "LostroomLaw") (name := "java/lang/IllegalStateException") hown [⟨0, 20, 23, 13⟩, ⟨0, 20, 27, 15⟩] ⟨0, 20, 31, 28⟩ [] htb (fun z hz => (List.mem_cons.mp hz).elim (fun hz => hz ▸ Or.inr ⟨by decide, _, hts _ q213, hN.2.1⟩) (fun hz => (List.mem_singleton.mp hz) ▸ Or.inr ⟨by decide, _, hts _ q290, hN.2.2⟩)) rfl (by decide) (hts _ q363) (va_Nw.use rfl (hK.2.1 _ q462 rfl)) hc9 hv9 hcl ?_
      refine lv_astore (lv' := [(9, .ref q9), (0, .ref (g 0 0)), (1, .int p1), (2, .int p2), (3, .int p3), (4, .int p4), (5, .int p5), (6, .int p6), (7, .int p7), (8, .ref o)]) hx hb dX0_find_31 hl (by decide) rfl (fun ls hl => ?_)
      refine lv_iconst (v := 3) hx hb dX0_find_33 (by decide) ?_
      exact vx_ret (W.iret (v := 3) hx hb hr (fun t ht hW => ⟨Or.inl ⟨_, 2, _, hf, rfl, rfl, by rw [ht]; exact hR⟩, hS.F ht⟩) hS.2.2 dX0_find_34)
  · have hR := nk_join hR hB hk
    refine lv_i2l (v := r.toInt64) hx hb dX0_find_18 rfl ?_
    refine xo_last hx hb hK.1 hR hS dX0_find_19 (fun H locs v' hv hR hS => ?_)
    refine lv_goto (tgt := 35) hx hb dX0_find_20 (by decide) ?_
    refine lv_iconst (v := 0) hx hb dX0_find_35 (by decide) ?_
    exact vx_ret (W.iret (v := 0) hx hb hr (fun t ht hW => ⟨Or.inr ⟨_, _, g', h', _, hf, rfl, hg0, hh', hv, by rw [ht]; exact hR⟩, hS.F ht⟩) hS.2.2 dX0_find_36)
